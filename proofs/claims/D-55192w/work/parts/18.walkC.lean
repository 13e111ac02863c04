/-! walks over the ghost heap: walkC -/
set_option maxRecDepth 100000
def gw_X5_init (E : gE) (post : Gh → Prop) (p0 : Nat) (p1 : Int32) (p2 : Int32) (G : Gh) : Prop := gK G p0 = 4 ∧ (∀ G1, G1 = gsI G p0 0 p1 → (∀ G2, G2 = gsI G1 p0 1 p2 → (post G2)))
theorem hd_X5_init : yX5_init.cls ≠ "java/lang/invoke/MethodHandle" ∧ yX5_init.cls ≠ "java/lang/invoke/VarHandle" ∧ (parseMethodDescriptor yX5_init.desc).map (fun d => d.parameters.length) = some 2 := by decide +kernel
set_option maxHeartbeats 1000000 in
set_option maxRecDepth 100000 in
theorem gm_X5_init (l : Launch) (E : gE) (p0 : Nat) (p1 : Int32) (p2 : Int32) (post : Gh → Prop) (G : Gh) (hw : gw_X5_init E post p0 p1 p2 G) : gM l E yX5_init (ws_ yX5_init cX5_init 3 none) ({ frames := 1, cells := 0, slots := 0, locals := 30 } : Room) 0 0 [.ref p0, .int p1, .int p2] G (gpv post) := by
  refine gof (by decide) (Nat.le_of_ble_eq_true rfl) ?_
  intro p e s m below meth c A ls hx hb hr hlk hml hown hin hts hPF hA hG hl
  have hl : lv_has ls 3 [(0, .ref p0), (1, .int p1), (2, .int p2)] := hl
  unfold gw_X5_init at hw
  obtain ⟨G0, hG0⟩ : ∃ G0, G0 = G := ⟨_, rfl⟩
  have hG : gS E A G0 s.heap G s.heap [] := by rw [hG0]; exact hG
  rw [show gQ E A G (gpv post) = gQ E A G0 (gpv post) by rw [hG0]]
  have h0p0 := hw.1; rw [← hG0] at h0p0
  replace hw := hw.2
  refine lv_aload_n hx hb dX5_init_0 rfl (lv_at hl 0 rfl) ?_
  refine W.objInit hx hb hown (hts _ q770) (hts _ q105) (hts _ q106) (g := F0 m 1 ls (.ref p0 :: [])) rfl (hl.1.trans hml.symm) rfl dX5_init_1 (Nat.le_of_ble_eq_true rfl) (by (try simp only [List.map, va_rf_cat, gcat_i, gcat_r, gcat_l, gcat_d, gcat_f, gcat_n]); exact Nat.le_of_ble_eq_true rfl) ?_
  refine W.eq (g2 := F0 m 4 ls []) rfl ?_
  refine lv_aload_n hx hb dX5_init_4 rfl (lv_at hl 0 rfl) ?_
  refine lv_iload_n hx hb dX5_init_5 rfl (lv_at hl 1 rfl) ?_
  refine gpF hx hb hts hown hPF hG 4 0 rfl in_X5 tyX5 tyX5_ok nmX5 (by decide) (by decide) (by decide) q771 (fun _ h9 => h9) rfl hin.2 rfl (gK_mon hG.1.2 h0p0 (by decide)) (v := .int p1) rfl rfl (G' := gsI G p0 0 p1) rfl rfl grI_off (Nat.le_of_ble_eq_true rfl) (gFs_I 4 0 (fun _ _ _ => rfl)) dX5_init_6 (fun H locs hG => ?_)
  obtain ⟨G1, eG1⟩ : ∃ z, z = gsI G p0 0 p1 := ⟨_, rfl⟩
  rw [← eG1] at hG
  replace hw := hw G1 eG1
  refine lv_aload_n hx hb dX5_init_9 rfl (lv_at hl 0 rfl) ?_
  refine lv_iload_n hx hb dX5_init_10 rfl (lv_at hl 2 rfl) ?_
  refine gpF hx hb hts hown hPF hG 4 1 rfl in_X5 tyX5 tyX5_ok nmX5 (by decide) (by decide) (by decide) q773 (fun _ h9 => h9) rfl hin.2 rfl (gK_mon hG.1.2 h0p0 (by decide)) (v := .int p2) rfl rfl (G' := gsI G1 p0 1 p2) rfl rfl grI_off (Nat.le_of_ble_eq_true rfl) (gFs_I 4 1 (fun _ _ _ => rfl)) dX5_init_11 (fun H locs hG => ?_)
  obtain ⟨G2, eG2⟩ : ∃ z, z = gsI G1 p0 1 p2 := ⟨_, rfl⟩
  rw [← eG2] at hG
  replace hw := hw G2 eG2
  exact gretv hx hb hr hlk hG hw (Nat.le_of_ble_eq_true rfl) (Nat.le_of_ble_eq_true rfl) dX5_init_14
def gw_X5_copy (E : gE) (post : Option Nat → Gh → Prop) (p0 : Nat) (G : Gh) : Prop := gK G p0 = 4 ∧ (∀ q1, gK G q1 = 0 → ∀ G2, G2 = gN G q1 4 0 → (gw_X5_init E (fun G3 => gMon G2 G3 → (∀ G4, G4 = gsI G3 q1 2 (gI G3 p0 2) → (∀ G5, G5 = gsI G4 q1 3 (gI G4 p0 3) → (post (some q1) G5)))) q1 (gI G2 p0 0) (gI G2 p0 1) G2))
theorem hd_X5_copy : yX5_copy.cls = RX5 ∧ yX5_copy.cls ≠ "java/lang/invoke/MethodHandle" ∧ yX5_copy.cls ≠ "java/lang/invoke/VarHandle" ∧ (parseMethodDescriptor yX5_copy.desc).map (fun d => d.parameters.length) = some 0 := by decide +kernel
theorem hdn_X5_copy : yX5_copy.cls ≠ "java/lang/invoke/MethodHandle" ∧ yX5_copy.cls ≠ "java/lang/invoke/VarHandle" ∧ (parseMethodDescriptor yX5_copy.desc).map (fun d => d.parameters.length) = some 0 := hd_X5_copy.2
theorem hdu_X5_copy : RX5 ≠ "java/lang/invoke/MethodHandle" ∧ RX5 ≠ "java/lang/invoke/VarHandle" ∧ (parseMethodDescriptor yX5_copy.desc).map (fun d => d.parameters.length) = some 0 := by decide +kernel
theorem hds_X5_copy : yX5_copy.name ≠ "<init>" ∧ (parseMethodDescriptor yX5_copy.desc).map (fun d => d.parameters.length) = some 0 := by decide +kernel
set_option maxHeartbeats 1000000 in
set_option maxRecDepth 100000 in
theorem gm_X5_copy (l : Launch) (E : gE) (p0 : Nat) (post : Option Nat → Gh → Prop) (G : Gh) (hw : gw_X5_copy E post p0 G) : gM l E yX5_copy (ws_ yX5_copy cX5_copy 2 (some (.object "WillowPrinters$Copper"))) ({ frames := 2, cells := 1, slots := 4, locals := 52 } : Room) 1 4 [.ref p0] G (gpr post) := by
  refine gof (by decide) (Nat.le_of_ble_eq_true rfl) ?_
  intro p e s m below meth c A ls hx hb hr hlk hml hown hin hts hPF hA hG hl
  have hl : lv_has ls 2 [(0, .ref p0)] := hl
  unfold gw_X5_copy at hw
  obtain ⟨G0, hG0⟩ : ∃ G0, G0 = G := ⟨_, rfl⟩
  have hG : gS E A G0 s.heap G s.heap [] := by rw [hG0]; exact hG
  rw [show gQ E A G (gpr post) = gQ E A G0 (gpr post) by rw [hG0]]
  have h0p0 := hw.1; rw [← hG0] at h0p0
  replace hw := hw.2
  refine gnew (ci := 4) hx hb hts in_X5 tyX5 tyX5_ok hown q765 q766 q81 hPF hG hA rfl (by decide) (by decide) gborn_X5 (Nat.le_of_ble_eq_true rfl) (Nat.le_of_ble_eq_true rfl) dX5_copy_0 (fun q1 H h0q1 hG => ?_)
  replace hw := hw q1 h0q1
  obtain ⟨G2, eG2⟩ : ∃ z, z = gN G q1 4 0 := ⟨_, rfl⟩
  rw [← eG2] at hG
  replace hw := hw G2 eG2
  have hkq1 : gK G2 q1 = 4 := by rw [eG2]; exact gK_Nq
  refine lv_dup hx hb dX5_copy_3 rfl ?_
  refine lv_aload_n hx hb dX5_copy_4 rfl (lv_at hl 0 rfl) ?_
  refine gg hx hb hts hown hPF hG 4 0 rfl in_X5 (by decide) (by decide) (by decide) q771 (fun _ h9 => h9) (gC_of (gK_mon hG.1.2 h0p0 (by decide)) (by decide)) (v := .int (gI G2 p0 0)) rfl dX5_copy_5 ?_
  refine lv_aload_n hx hb dX5_copy_8 rfl (lv_at hl 0 rfl) ?_
  refine gg hx hb hts hown hPF hG 4 1 rfl in_X5 (by decide) (by decide) (by decide) q773 (fun _ h9 => h9) (gC_of (gK_mon hG.1.2 h0p0 (by decide)) (by decide)) (v := .int (gI G2 p0 1)) rfl dX5_copy_9 ?_
  refine gc3v hA hG (va_runI (As := [.int (gI G2 p0 0), .int (gI G2 p0 1)]) (rest := [.ref q1]) ⟨hx, hb, hml, hown, hts⟩ (gm_X5_init l E q1 (gI G2 p0 0) (gI G2 p0 1) _ G2 hw _) (cwI 2 hts (lw_meth q769) rfl rfl rfl (hts _ q81) (hts _ q767) (hts _ q768) rfl hd_X5_init ⟨Nat.le_of_ble_eq_true rfl, Nat.le_of_ble_eq_true rfl⟩) ⟨gblind, fun U hU hW => gpre hPF hA hG _ U hU hW⟩ rfl rfl hl.1 rfl (lv_room (Nat.le_of_ble_eq_true rfl)) dX5_copy_12 ⟨(Nat.le_of_ble_eq_true rfl), (Nat.le_of_ble_eq_true rfl)⟩) (fun G3 H locs hw hmon hG => ?_)
  replace hw := hw hmon
  have hkq1 : gK G3 q1 = 4 := gK_mon hmon hkq1 (by decide)
  refine lv_astore_n (i := 1) (lv' := [(1, .ref q1), (0, .ref p0)]) hx hb dX5_copy_15 rfl hl (by decide) rfl (fun ls hl => ?_)
  refine lv_aload_n hx hb dX5_copy_16 rfl (lv_at hl 0 rfl) ?_
  refine lv_aload_n hx hb dX5_copy_17 rfl (lv_at hl 1 rfl) ?_
  refine gg hx hb hts hown hPF hG 4 2 rfl in_X5 (by decide) (by decide) (by decide) q775 (fun _ h9 => h9) (gC_of (gK_mon hG.1.2 h0p0 (by decide)) (by decide)) (v := .int (gI G3 p0 2)) rfl dX5_copy_18 ?_
  refine gp hx hb hts hown hPF hG 4 2 rfl in_X5 tyX5 tyX5_ok nmX5 (by decide) (by decide) (by decide) q775 (fun _ h9 => h9) rfl hkq1 (v := .int (gI G3 p0 2)) rfl rfl (G' := gsI G3 q1 2 (gI G3 p0 2)) rfl rfl grI_off (Nat.le_of_ble_eq_true rfl) (gFs_I 4 2 (fun _ _ _ => rfl)) dX5_copy_21 (fun H locs hG => ?_)
  obtain ⟨G4, eG4⟩ : ∃ z, z = gsI G3 q1 2 (gI G3 p0 2) := ⟨_, rfl⟩
  rw [← eG4] at hG
  replace hw := hw G4 eG4
  have hkq1 : gK G4 q1 = 4 := by rw [eG4]; exact hkq1
  refine lv_aload_n hx hb dX5_copy_24 rfl (lv_at hl 0 rfl) ?_
  refine lv_aload_n hx hb dX5_copy_25 rfl (lv_at hl 1 rfl) ?_
  refine gg hx hb hts hown hPF hG 4 3 rfl in_X5 (by decide) (by decide) (by decide) q778 (fun _ h9 => h9) (gC_of (gK_mon hG.1.2 h0p0 (by decide)) (by decide)) (v := .int (gI G4 p0 3)) rfl dX5_copy_26 ?_
  refine gp hx hb hts hown hPF hG 4 3 rfl in_X5 tyX5 tyX5_ok nmX5 (by decide) (by decide) (by decide) q778 (fun _ h9 => h9) rfl hkq1 (v := .int (gI G4 p0 3)) rfl rfl (G' := gsI G4 q1 3 (gI G4 p0 3)) rfl rfl grI_off (Nat.le_of_ble_eq_true rfl) (gFs_I 4 3 (fun _ _ _ => rfl)) dX5_copy_29 (fun H locs hG => ?_)
  obtain ⟨G5, eG5⟩ : ∃ z, z = gsI G4 q1 3 (gI G4 p0 3) := ⟨_, rfl⟩
  rw [← eG5] at hG
  replace hw := hw G5 eG5
  have hkq1 : gK G5 q1 = 4 := by rw [eG5]; exact hkq1
  refine lv_aload_n hx hb dX5_copy_32 rfl (lv_at hl 0 rfl) ?_
  exact gretr (v := (some q1)) hx hb hr hlk hG (Or.inl ⟨_, rfl⟩) hw (Nat.le_of_ble_eq_true rfl) (Nat.le_of_ble_eq_true rfl) dX5_copy_33
def gw_X5_well (E : gE) (post : Int32 → Gh → Prop) (p0 : Nat) (p1 : Int32) (G : Gh) : Prop := gK G p0 = 4 ∧ (post (if (0 : Int32) < (((gI G p0 1) - ((gI G p0 2) / 10)) - (if 0 ≤ (p1 - 5) then (p1 - 5) else 0 - (p1 - 5))) then (((gI G p0 1) - ((gI G p0 2) / 10)) - (if 0 ≤ (p1 - 5) then (p1 - 5) else 0 - (p1 - 5))) else (0 : Int32)) G)
theorem hd_X5_well : yX5_well.cls = RX5 ∧ yX5_well.cls ≠ "java/lang/invoke/MethodHandle" ∧ yX5_well.cls ≠ "java/lang/invoke/VarHandle" ∧ (parseMethodDescriptor yX5_well.desc).map (fun d => d.parameters.length) = some 1 := by decide +kernel
theorem hdn_X5_well : yX5_well.cls ≠ "java/lang/invoke/MethodHandle" ∧ yX5_well.cls ≠ "java/lang/invoke/VarHandle" ∧ (parseMethodDescriptor yX5_well.desc).map (fun d => d.parameters.length) = some 1 := hd_X5_well.2
theorem hdu_X5_well : RX5 ≠ "java/lang/invoke/MethodHandle" ∧ RX5 ≠ "java/lang/invoke/VarHandle" ∧ (parseMethodDescriptor yX5_well.desc).map (fun d => d.parameters.length) = some 1 := by decide +kernel
theorem hds_X5_well : yX5_well.name ≠ "<init>" ∧ (parseMethodDescriptor yX5_well.desc).map (fun d => d.parameters.length) = some 1 := by decide +kernel
set_option maxHeartbeats 1000000 in
set_option maxRecDepth 100000 in
theorem gm_X5_well (l : Launch) (E : gE) (p0 : Nat) (p1 : Int32) (post : Int32 → Gh → Prop) (G : Gh) (hw : gw_X5_well E post p0 p1 G) : gM l E yX5_well (ws_ yX5_well cX5_well 2 (some .int)) ({ frames := 1, cells := 0, slots := 0, locals := 40 } : Room) 0 0 [.ref p0, .int p1] G (gpi post) := by
  refine gof (by decide) (Nat.le_of_ble_eq_true rfl) ?_
  intro p e s m below meth c A ls hx hb hr hlk hml hown hin hts hPF hA hG hl
  have hl : lv_has ls 2 [(0, .ref p0), (1, .int p1)] := hl
  unfold gw_X5_well at hw
  obtain ⟨G0, hG0⟩ : ∃ G0, G0 = G := ⟨_, rfl⟩
  have hG : gS E A G0 s.heap G s.heap [] := by rw [hG0]; exact hG
  rw [show gQ E A G (gpi post) = gQ E A G0 (gpi post) by rw [hG0]]
  have h0p0 := hw.1; rw [← hG0] at h0p0
  replace hw := hw.2
  refine lv_iconst (v := 0) hx hb dX5_well_0 (by decide) ?_
  refine lv_aload_n hx hb dX5_well_1 rfl (lv_at hl 0 rfl) ?_
  refine gg hx hb hts hown hPF hG 4 1 rfl in_X5 (by decide) (by decide) (by decide) q773 (fun _ h9 => h9) (gC_of (gK_mon hG.1.2 h0p0 (by decide)) (by decide)) (v := .int (gI G p0 1)) rfl dX5_well_2 ?_
  refine lv_aload_n hx hb dX5_well_5 rfl (lv_at hl 0 rfl) ?_
  refine gg hx hb hts hown hPF hG 4 2 rfl in_X5 (by decide) (by decide) (by decide) q775 (fun _ h9 => h9) (gC_of (gK_mon hG.1.2 h0p0 (by decide)) (by decide)) (v := .int (gI G p0 2)) rfl dX5_well_6 ?_
  refine lv_bipush (v := 10) hx hb dX5_well_9 (by decide) ?_
  refine lv_idiv hx hb dX5_well_11 (by decide) ?_
  refine lv_isub hx hb dX5_well_12 ?_
  refine lv_iload_n hx hb dX5_well_13 rfl (lv_at hl 1 rfl) ?_
  refine lv_iconst (v := 5) hx hb dX5_well_14 (by decide) ?_
  refine lv_isub hx hb dX5_well_15 ?_
  refine va_mabs (rest := [.int ((gI G p0 1) - ((gI G p0 2) / 10)), .int 0]) hx hb (hml.trans hl.1.symm) hown (hts _ q1117) (hts _ q1118) (hts _ q69) (hts _ q1119) (Nat.le_of_ble_eq_true rfl) (by (try simp only [List.map, va_rf_cat, gcat_i, gcat_r, gcat_l, gcat_d, gcat_f, gcat_n]); exact Nat.le_of_ble_eq_true rfl) (Nat.le_of_ble_eq_true rfl) (Nat.le_of_ble_eq_true rfl) dX5_well_16 ?_
  refine lv_isub hx hb dX5_well_19 ?_
  refine va_mmax (rest := []) hx hb (hml.trans hl.1.symm) hown (hts _ q1120) (hts _ q232) (hts _ q69) (hts _ q233) (Nat.le_of_ble_eq_true rfl) (by (try simp only [List.map, va_rf_cat, gcat_i, gcat_r, gcat_l, gcat_d, gcat_f, gcat_n]); exact Nat.le_of_ble_eq_true rfl) (Nat.le_of_ble_eq_true rfl) (Nat.le_of_ble_eq_true rfl) dX5_well_20 ?_
  exact greti hx hb hr hlk hG rfl hw (Nat.le_of_ble_eq_true rfl) (Nat.le_of_ble_eq_true rfl) dX5_well_23
def gw_X5_wellAgain_L31 (E : gE) (p0 : Nat) (post : Int32 → Gh → Prop) : Nat → Int32 → Int32 → Int32 → Gh → Prop
  | 0, _, _, _, _ => False
  | n + 1, x1, x2, x3, G => ((if x1 < (5 : Int32) then (5 : Int32) else x1) ≤ x3 → ((0 ≤ x2 → (post x2 G)) ∧ (¬ 0 ≤ x2 → (post 0 G)))) ∧ (¬ (if x1 < (5 : Int32) then (5 : Int32) else x1) ≤ x3 → (gw_X5_wellAgain_L31 E p0 post  n x1 (x2 + (-1)) (x3 + 1) G))
def gw_X5_wellAgain_L8 (E : gE) (p0 : Nat) (post : Int32 → Gh → Prop) : Nat → Int32 → Int32 → Int32 → Gh → Prop
  | 0, _, _, _, _ => False
  | n + 1, x1, x2, x3, G => ((gI G p0 2) < x3 → ((∃ n, gw_X5_wellAgain_L31 E p0 post  n x1 x2 (if (5 : Int32) < x1 then (5 : Int32) else x1) G))) ∧ (¬ (gI G p0 2) < x3 → (gw_X5_wellAgain_L8 E p0 post  n x1 (x2 + (-1)) (x3 + 10) G))
def gw_X5_wellAgain (E : gE) (post : Int32 → Gh → Prop) (p0 : Nat) (p1 : Int32) (G : Gh) : Prop := gK G p0 = 4 ∧ ((∃ n, gw_X5_wellAgain_L8 E p0 post  n p1 (gI G p0 1) 10 G))
theorem hd_X5_wellAgain : yX5_wellAgain.cls = RX5 ∧ yX5_wellAgain.cls ≠ "java/lang/invoke/MethodHandle" ∧ yX5_wellAgain.cls ≠ "java/lang/invoke/VarHandle" ∧ (parseMethodDescriptor yX5_wellAgain.desc).map (fun d => d.parameters.length) = some 1 := by decide +kernel
theorem hdn_X5_wellAgain : yX5_wellAgain.cls ≠ "java/lang/invoke/MethodHandle" ∧ yX5_wellAgain.cls ≠ "java/lang/invoke/VarHandle" ∧ (parseMethodDescriptor yX5_wellAgain.desc).map (fun d => d.parameters.length) = some 1 := hd_X5_wellAgain.2
theorem hdu_X5_wellAgain : RX5 ≠ "java/lang/invoke/MethodHandle" ∧ RX5 ≠ "java/lang/invoke/VarHandle" ∧ (parseMethodDescriptor yX5_wellAgain.desc).map (fun d => d.parameters.length) = some 1 := by decide +kernel
theorem hds_X5_wellAgain : yX5_wellAgain.name ≠ "<init>" ∧ (parseMethodDescriptor yX5_wellAgain.desc).map (fun d => d.parameters.length) = some 1 := by decide +kernel
set_option maxHeartbeats 1000000 in
set_option maxRecDepth 100000 in
theorem gm_X5_wellAgain (l : Launch) (E : gE) (p0 : Nat) (p1 : Int32) (post : Int32 → Gh → Prop) (G : Gh) (hw : gw_X5_wellAgain E post p0 p1 G) : gM l E yX5_wellAgain (ws_ yX5_wellAgain cX5_wellAgain 4 (some .int)) ({ frames := 1, cells := 0, slots := 0, locals := 40 } : Room) 0 0 [.ref p0, .int p1] G (gpi post) := by
  refine gof (by decide) (Nat.le_of_ble_eq_true rfl) ?_
  intro p e s m below meth c A ls hx hb hr hlk hml hown hin hts hPF hA hG hl
  have hl : lv_has ls 4 [(0, .ref p0), (1, .int p1)] := hl
  unfold gw_X5_wellAgain at hw
  obtain ⟨G0, hG0⟩ : ∃ G0, G0 = G := ⟨_, rfl⟩
  have hG : gS E A G0 s.heap G s.heap [] := by rw [hG0]; exact hG
  rw [show gQ E A G (gpi post) = gQ E A G0 (gpi post) by rw [hG0]]
  have h0p0 := hw.1; rw [← hG0] at h0p0
  replace hw := hw.2
  have hL31 : ∀ (n : Nat) (x1 : Int32) (x2 : Int32) (x3 : Int32) (G : Gh) (H : Heap) (locs : List Loc) (ls : Array Slot), gS E A G0 s.heap G H locs → lv_has ls 4 [(1, .int x1), (2, .int x2), (3, .int x3)] → gw_X5_wellAgain_L31 E p0 post n x1 x2 x3 G → W p l e (headSpec (ws_ yX5_wellAgain cX5_wellAgain 4 (some .int)) ({ frames := 1, cells := 0, slots := 0, locals := 40 } : Room)).room s m ([.ref p0, .int p1] : List Value).toArray below meth c H locs 0 0 (MQ below (gQ E A G0 (gpi post)) ([.ref p0, .int p1] : List Value).toArray s 0 0 A) (F0 m 31 ls []) := by
    intro n
    induction n with
    | zero => exact fun _ _ _ _ _ _ _ _ _ hw => hw.elim
    | succ n ih =>
      intro x1 x2 x3 G H locs ls hG hl hw
      unfold gw_X5_wellAgain_L31 at hw
      refine lv_iload_n hx hb dX5_wellAgain_31 rfl (lv_at hl 2 rfl) ?_
      refine lv_iload_n hx hb dX5_wellAgain_32 rfl (lv_at hl 0 rfl) ?_
      refine lv_iconst (v := 5) hx hb dX5_wellAgain_33 (by decide) ?_
      refine va_mmax (rest := [.int x3]) hx hb (hml.trans hl.1.symm) hown (hts _ q1120) (hts _ q232) (hts _ q69) (hts _ q233) (Nat.le_of_ble_eq_true rfl) (by (try simp only [List.map, va_rf_cat, gcat_i, gcat_r, gcat_l, gcat_d, gcat_f, gcat_n]); exact Nat.le_of_ble_eq_true rfl) (Nat.le_of_ble_eq_true rfl) (Nat.le_of_ble_eq_true rfl) dX5_wellAgain_34 ?_
      refine lv_icmp_ge (tgt := 49) hx hb dX5_wellAgain_37 (by decide) (fun c_ => ?_) (fun c_ => ?_)
      · replace hw := hw.1 c_
        refine lv_iload_n hx hb dX5_wellAgain_49 rfl (lv_at hl 1 rfl) ?_
        refine lv_if_ge (tgt := 57) hx hb dX5_wellAgain_50 (by decide) (fun c_ => ?_) (fun c_ => ?_)
        · replace hw := hw.1 c_
          refine lv_iload_n hx hb dX5_wellAgain_57 rfl (lv_at hl 1 rfl) ?_
          exact greti hx hb hr hlk hG rfl hw (Nat.le_of_ble_eq_true rfl) (Nat.le_of_ble_eq_true rfl) dX5_wellAgain_58
        · replace hw := hw.2 c_
          refine lv_iconst (v := 0) hx hb dX5_wellAgain_53 (by decide) ?_
          refine lv_goto (tgt := 58) hx hb dX5_wellAgain_54 (by decide) ?_
          exact greti hx hb hr hlk hG rfl hw (Nat.le_of_ble_eq_true rfl) (Nat.le_of_ble_eq_true rfl) dX5_wellAgain_58
      · replace hw := hw.2 c_
        refine lv_iinc (v := x2 + (-1)) (lv' := [(2, .int (x2 + (-1))), (1, .int x1), (3, .int x3)]) hx hb dX5_wellAgain_40 hl (k := 1) rfl rfl (by decide) rfl (fun ls hl => ?_)
        refine lv_iinc (v := x3 + 1) (lv' := [(3, .int (x3 + 1)), (2, .int (x2 + (-1))), (1, .int x1)]) hx hb dX5_wellAgain_43 hl (k := 2) rfl rfl (by decide) rfl (fun ls hl => ?_)
        refine lv_goto (tgt := 31) hx hb dX5_wellAgain_46 (by decide) ?_
        refine W.widen (k := 0) (n := 0) (Nat.le_of_ble_eq_true rfl) (Nat.le_of_ble_eq_true rfl) ?_
        exact ih x1 (x2 + (-1)) (x3 + 1) G _ _ ls hG (lv_sub hl [2, 1, 0] rfl) hw
  have hL8 : ∀ (n : Nat) (x1 : Int32) (x2 : Int32) (x3 : Int32) (G : Gh) (H : Heap) (locs : List Loc) (ls : Array Slot), gS E A G0 s.heap G H locs → lv_has ls 4 [(0, .ref p0), (1, .int x1), (2, .int x2), (3, .int x3)] → gw_X5_wellAgain_L8 E p0 post n x1 x2 x3 G → W p l e (headSpec (ws_ yX5_wellAgain cX5_wellAgain 4 (some .int)) ({ frames := 1, cells := 0, slots := 0, locals := 40 } : Room)).room s m ([.ref p0, .int p1] : List Value).toArray below meth c H locs 0 0 (MQ below (gQ E A G0 (gpi post)) ([.ref p0, .int p1] : List Value).toArray s 0 0 A) (F0 m 8 ls []) := by
    intro n
    induction n with
    | zero => exact fun _ _ _ _ _ _ _ _ _ hw => hw.elim
    | succ n ih =>
      intro x1 x2 x3 G H locs ls hG hl hw
      unfold gw_X5_wellAgain_L8 at hw
      refine lv_iload_n hx hb dX5_wellAgain_8 rfl (lv_at hl 3 rfl) ?_
      refine lv_aload_n hx hb dX5_wellAgain_9 rfl (lv_at hl 0 rfl) ?_
      refine gg hx hb hts hown hPF hG 4 2 rfl in_X5 (by decide) (by decide) (by decide) q775 (fun _ h9 => h9) (gC_of (gK_mon hG.1.2 h0p0 (by decide)) (by decide)) (v := .int (gI G p0 2)) rfl dX5_wellAgain_10 ?_
      refine lv_icmp_gt (tgt := 25) hx hb dX5_wellAgain_13 (by decide) (fun c_ => ?_) (fun c_ => ?_)
      · replace hw := hw.1 c_
        refine lv_iload_n hx hb dX5_wellAgain_25 rfl (lv_at hl 1 rfl) ?_
        refine lv_iconst (v := 5) hx hb dX5_wellAgain_26 (by decide) ?_
        refine va_mmin (rest := []) hx hb (hml.trans hl.1.symm) hown (hts _ q1132) (hts _ q250) (hts _ q69) (hts _ q251) (Nat.le_of_ble_eq_true rfl) (by (try simp only [List.map, va_rf_cat, gcat_i, gcat_r, gcat_l, gcat_d, gcat_f, gcat_n]); exact Nat.le_of_ble_eq_true rfl) (Nat.le_of_ble_eq_true rfl) (Nat.le_of_ble_eq_true rfl) dX5_wellAgain_27 ?_
        refine lv_istore_n (i := 3) (lv' := [(3, .int (if (5 : Int32) < x1 then (5 : Int32) else x1)), (0, .ref p0), (1, .int x1), (2, .int x2)]) hx hb dX5_wellAgain_30 rfl hl (by decide) rfl (fun ls hl => ?_)
        refine W.widen (k := 0) (n := 0) (Nat.le_of_ble_eq_true rfl) (Nat.le_of_ble_eq_true rfl) ?_
        obtain ⟨n0, hw⟩ := hw
        exact hL31  n0 x1 x2 (if (5 : Int32) < x1 then (5 : Int32) else x1) G _ _ ls hG (lv_sub hl [2, 3, 0] rfl) hw
      · replace hw := hw.2 c_
        refine lv_iinc (v := x2 + (-1)) (lv' := [(2, .int (x2 + (-1))), (0, .ref p0), (1, .int x1), (3, .int x3)]) hx hb dX5_wellAgain_16 hl (k := 2) rfl rfl (by decide) rfl (fun ls hl => ?_)
        refine lv_iinc (v := x3 + 10) (lv' := [(3, .int (x3 + 10)), (2, .int (x2 + (-1))), (0, .ref p0), (1, .int x1)]) hx hb dX5_wellAgain_19 hl (k := 3) rfl rfl (by decide) rfl (fun ls hl => ?_)
        refine lv_goto (tgt := 8) hx hb dX5_wellAgain_22 (by decide) ?_
        refine W.widen (k := 0) (n := 0) (Nat.le_of_ble_eq_true rfl) (Nat.le_of_ble_eq_true rfl) ?_
        exact ih x1 (x2 + (-1)) (x3 + 10) G _ _ ls hG (lv_sub hl [2, 3, 1, 0] rfl) hw
  refine lv_aload_n hx hb dX5_wellAgain_0 rfl (lv_at hl 0 rfl) ?_
  refine gg hx hb hts hown hPF hG 4 1 rfl in_X5 (by decide) (by decide) (by decide) q773 (fun _ h9 => h9) (gC_of (gK_mon hG.1.2 h0p0 (by decide)) (by decide)) (v := .int (gI G p0 1)) rfl dX5_wellAgain_1 ?_
  refine lv_istore_n (i := 2) (lv' := [(2, .int (gI G p0 1)), (0, .ref p0), (1, .int p1)]) hx hb dX5_wellAgain_4 rfl hl (by decide) rfl (fun ls hl => ?_)
  refine lv_bipush (v := 10) hx hb dX5_wellAgain_5 (by decide) ?_
  refine lv_istore_n (i := 3) (lv' := [(3, .int 10), (2, .int (gI G p0 1)), (0, .ref p0), (1, .int p1)]) hx hb dX5_wellAgain_7 rfl hl (by decide) rfl (fun ls hl => ?_)
  refine W.widen (k := 0) (n := 0) (Nat.le_of_ble_eq_true rfl) (Nat.le_of_ble_eq_true rfl) ?_
  obtain ⟨n0, hw⟩ := hw
  exact hL8  n0 p1 (gI G p0 1) 10 G _ _ ls hG (lv_sub hl [2, 3, 1, 0] rfl) hw
def gw_X7_init (E : gE) (post : Gh → Prop) (p0 : Nat) (G : Gh) : Prop := gK G p0 = 6 ∧ (post G)
theorem hd_X7_init : yX7_init.cls ≠ "java/lang/invoke/MethodHandle" ∧ yX7_init.cls ≠ "java/lang/invoke/VarHandle" ∧ (parseMethodDescriptor yX7_init.desc).map (fun d => d.parameters.length) = some 0 := by decide +kernel
set_option maxHeartbeats 1000000 in
set_option maxRecDepth 100000 in
theorem gm_X7_init (l : Launch) (E : gE) (p0 : Nat) (post : Gh → Prop) (G : Gh) (hw : gw_X7_init E post p0 G) : gM l E yX7_init (ws_ yX7_init cX7_init 1 none) ({ frames := 1, cells := 0, slots := 0, locals := 30 } : Room) 0 0 [.ref p0] G (gpv post) := by
  refine gof (by decide) (Nat.le_of_ble_eq_true rfl) ?_
  intro p e s m below meth c A ls hx hb hr hlk hml hown hin hts hPF hA hG hl
  have hl : lv_has ls 1 [(0, .ref p0)] := hl
  unfold gw_X7_init at hw
  obtain ⟨G0, hG0⟩ : ∃ G0, G0 = G := ⟨_, rfl⟩
  have hG : gS E A G0 s.heap G s.heap [] := by rw [hG0]; exact hG
  rw [show gQ E A G (gpv post) = gQ E A G0 (gpv post) by rw [hG0]]
  have h0p0 := hw.1; rw [← hG0] at h0p0
  replace hw := hw.2
  refine lv_aload_n hx hb dX7_init_0 rfl (lv_at hl 0 rfl) ?_
  refine W.objInit hx hb hown (hts _ q868) (hts _ q105) (hts _ q106) (g := F0 m 1 ls (.ref p0 :: [])) rfl (hl.1.trans hml.symm) rfl dX7_init_1 (Nat.le_of_ble_eq_true rfl) (by (try simp only [List.map, va_rf_cat, gcat_i, gcat_r, gcat_l, gcat_d, gcat_f, gcat_n]); exact Nat.le_of_ble_eq_true rfl) ?_
  refine W.eq (g2 := F0 m 4 ls []) rfl ?_
  exact gretv hx hb hr hlk hG hw (Nat.le_of_ble_eq_true rfl) (Nat.le_of_ble_eq_true rfl) dX7_init_4
def gw_X8_init (E : gE) (post : Gh → Prop) (p0 : Nat) (p1 : Int32) (G : Gh) : Prop := gK G p0 = 7 ∧ (∀ G1, G1 = gsI G p0 0 p1 → (post G1))
theorem hd_X8_init : yX8_init.cls ≠ "java/lang/invoke/MethodHandle" ∧ yX8_init.cls ≠ "java/lang/invoke/VarHandle" ∧ (parseMethodDescriptor yX8_init.desc).map (fun d => d.parameters.length) = some 1 := by decide +kernel
set_option maxHeartbeats 1000000 in
set_option maxRecDepth 100000 in
theorem gm_X8_init (l : Launch) (E : gE) (p0 : Nat) (p1 : Int32) (post : Gh → Prop) (G : Gh) (hw : gw_X8_init E post p0 p1 G) : gM l E yX8_init (ws_ yX8_init cX8_init 2 none) ({ frames := 1, cells := 0, slots := 0, locals := 30 } : Room) 0 0 [.ref p0, .int p1] G (gpv post) := by
  refine gof (by decide) (Nat.le_of_ble_eq_true rfl) ?_
  intro p e s m below meth c A ls hx hb hr hlk hml hown hin hts hPF hA hG hl
  have hl : lv_has ls 2 [(0, .ref p0), (1, .int p1)] := hl
  unfold gw_X8_init at hw
  obtain ⟨G0, hG0⟩ : ∃ G0, G0 = G := ⟨_, rfl⟩
  have hG : gS E A G0 s.heap G s.heap [] := by rw [hG0]; exact hG
  rw [show gQ E A G (gpv post) = gQ E A G0 (gpv post) by rw [hG0]]
  have h0p0 := hw.1; rw [← hG0] at h0p0
  replace hw := hw.2
  refine lv_aload_n hx hb dX8_init_0 rfl (lv_at hl 0 rfl) ?_
  refine W.objInit hx hb hown (hts _ q898) (hts _ q105) (hts _ q106) (g := F0 m 1 ls (.ref p0 :: [])) rfl (hl.1.trans hml.symm) rfl dX8_init_1 (Nat.le_of_ble_eq_true rfl) (by (try simp only [List.map, va_rf_cat, gcat_i, gcat_r, gcat_l, gcat_d, gcat_f, gcat_n]); exact Nat.le_of_ble_eq_true rfl) ?_
  refine W.eq (g2 := F0 m 4 ls []) rfl ?_
  refine lv_aload_n hx hb dX8_init_4 rfl (lv_at hl 0 rfl) ?_
  refine lv_iload_n hx hb dX8_init_5 rfl (lv_at hl 1 rfl) ?_
  refine gpF hx hb hts hown hPF hG 7 0 rfl in_X8 tyX8 tyX8_ok nmX8 (by decide) (by decide) (by decide) q899 (fun _ h9 => h9) rfl hin.2 rfl (gK_mon hG.1.2 h0p0 (by decide)) (v := .int p1) rfl rfl (G' := gsI G p0 0 p1) rfl rfl grI_off (Nat.le_of_ble_eq_true rfl) (gFs_I 7 0 (fun _ _ _ => rfl)) dX8_init_6 (fun H locs hG => ?_)
  obtain ⟨G1, eG1⟩ : ∃ z, z = gsI G p0 0 p1 := ⟨_, rfl⟩
  rw [← eG1] at hG
  replace hw := hw G1 eG1
  exact gretv hx hb hr hlk hG hw (Nat.le_of_ble_eq_true rfl) (Nat.le_of_ble_eq_true rfl) dX8_init_9
def gw_X8_copy (E : gE) (post : Option Nat → Gh → Prop) (p0 : Nat) (G : Gh) : Prop := gK G p0 = 7 ∧ (∀ q1, gK G q1 = 0 → ∀ G2, G2 = gN G q1 7 0 → (gw_X8_init E (fun G3 => gMon G2 G3 → (∀ G4, G4 = gsI G3 q1 1 (gI G3 p0 1) → (post (some q1) G4))) q1 (gI G2 p0 0) G2))
theorem hd_X8_copy : yX8_copy.cls = RX8 ∧ yX8_copy.cls ≠ "java/lang/invoke/MethodHandle" ∧ yX8_copy.cls ≠ "java/lang/invoke/VarHandle" ∧ (parseMethodDescriptor yX8_copy.desc).map (fun d => d.parameters.length) = some 0 := by decide +kernel
theorem hdn_X8_copy : yX8_copy.cls ≠ "java/lang/invoke/MethodHandle" ∧ yX8_copy.cls ≠ "java/lang/invoke/VarHandle" ∧ (parseMethodDescriptor yX8_copy.desc).map (fun d => d.parameters.length) = some 0 := hd_X8_copy.2
theorem hdu_X8_copy : RX8 ≠ "java/lang/invoke/MethodHandle" ∧ RX8 ≠ "java/lang/invoke/VarHandle" ∧ (parseMethodDescriptor yX8_copy.desc).map (fun d => d.parameters.length) = some 0 := by decide +kernel
theorem hds_X8_copy : yX8_copy.name ≠ "<init>" ∧ (parseMethodDescriptor yX8_copy.desc).map (fun d => d.parameters.length) = some 0 := by decide +kernel
set_option maxHeartbeats 1000000 in
set_option maxRecDepth 100000 in
theorem gm_X8_copy (l : Launch) (E : gE) (p0 : Nat) (post : Option Nat → Gh → Prop) (G : Gh) (hw : gw_X8_copy E post p0 G) : gM l E yX8_copy (ws_ yX8_copy cX8_copy 2 (some (.object "WillowPrinters$Kiln"))) ({ frames := 2, cells := 1, slots := 2, locals := 51 } : Room) 1 2 [.ref p0] G (gpr post) := by
  refine gof (by decide) (Nat.le_of_ble_eq_true rfl) ?_
  intro p e s m below meth c A ls hx hb hr hlk hml hown hin hts hPF hA hG hl
  have hl : lv_has ls 2 [(0, .ref p0)] := hl
  unfold gw_X8_copy at hw
  obtain ⟨G0, hG0⟩ : ∃ G0, G0 = G := ⟨_, rfl⟩
  have hG : gS E A G0 s.heap G s.heap [] := by rw [hG0]; exact hG
  rw [show gQ E A G (gpr post) = gQ E A G0 (gpr post) by rw [hG0]]
  have h0p0 := hw.1; rw [← hG0] at h0p0
  replace hw := hw.2
  refine gnew (ci := 7) hx hb hts in_X8 tyX8 tyX8_ok hown q893 q894 q84 hPF hG hA rfl (by decide) (by decide) gborn_X8 (Nat.le_of_ble_eq_true rfl) (Nat.le_of_ble_eq_true rfl) dX8_copy_0 (fun q1 H h0q1 hG => ?_)
  replace hw := hw q1 h0q1
  obtain ⟨G2, eG2⟩ : ∃ z, z = gN G q1 7 0 := ⟨_, rfl⟩
  rw [← eG2] at hG
  replace hw := hw G2 eG2
  have hkq1 : gK G2 q1 = 7 := by rw [eG2]; exact gK_Nq
  refine lv_dup hx hb dX8_copy_3 rfl ?_
  refine lv_aload_n hx hb dX8_copy_4 rfl (lv_at hl 0 rfl) ?_
  refine gg hx hb hts hown hPF hG 7 0 rfl in_X8 (by decide) (by decide) (by decide) q899 (fun _ h9 => h9) (gC_of (gK_mon hG.1.2 h0p0 (by decide)) (by decide)) (v := .int (gI G2 p0 0)) rfl dX8_copy_5 ?_
  refine gc3v hA hG (va_runI (As := [.int (gI G2 p0 0)]) (rest := [.ref q1]) ⟨hx, hb, hml, hown, hts⟩ (gm_X8_init l E q1 (gI G2 p0 0) _ G2 hw _) (cwI 1 hts (lw_meth q897) rfl rfl rfl (hts _ q84) (hts _ q895) (hts _ q896) rfl hd_X8_init ⟨Nat.le_of_ble_eq_true rfl, Nat.le_of_ble_eq_true rfl⟩) ⟨gblind, fun U hU hW => gpre hPF hA hG _ U hU hW⟩ rfl rfl hl.1 rfl (lv_room (Nat.le_of_ble_eq_true rfl)) dX8_copy_8 ⟨(Nat.le_of_ble_eq_true rfl), (Nat.le_of_ble_eq_true rfl)⟩) (fun G3 H locs hw hmon hG => ?_)
  replace hw := hw hmon
  have hkq1 : gK G3 q1 = 7 := gK_mon hmon hkq1 (by decide)
  refine lv_astore_n (i := 1) (lv' := [(1, .ref q1), (0, .ref p0)]) hx hb dX8_copy_11 rfl hl (by decide) rfl (fun ls hl => ?_)
  refine lv_aload_n hx hb dX8_copy_12 rfl (lv_at hl 0 rfl) ?_
  refine lv_aload_n hx hb dX8_copy_13 rfl (lv_at hl 1 rfl) ?_
  refine gg hx hb hts hown hPF hG 7 1 rfl in_X8 (by decide) (by decide) (by decide) q902 (fun _ h9 => h9) (gC_of (gK_mon hG.1.2 h0p0 (by decide)) (by decide)) (v := .int (gI G3 p0 1)) rfl dX8_copy_14 ?_
  refine gp hx hb hts hown hPF hG 7 1 rfl in_X8 tyX8 tyX8_ok nmX8 (by decide) (by decide) (by decide) q902 (fun _ h9 => h9) rfl hkq1 (v := .int (gI G3 p0 1)) rfl rfl (G' := gsI G3 q1 1 (gI G3 p0 1)) rfl rfl grI_off (Nat.le_of_ble_eq_true rfl) (gFs_I 7 1 (fun _ _ _ => rfl)) dX8_copy_17 (fun H locs hG => ?_)
  obtain ⟨G4, eG4⟩ : ∃ z, z = gsI G3 q1 1 (gI G3 p0 1) := ⟨_, rfl⟩
  rw [← eG4] at hG
  replace hw := hw G4 eG4
  have hkq1 : gK G4 q1 = 7 := by rw [eG4]; exact hkq1
  refine lv_aload_n hx hb dX8_copy_20 rfl (lv_at hl 0 rfl) ?_
  exact gretr (v := (some q1)) hx hb hr hlk hG (Or.inl ⟨_, rfl⟩) hw (Nat.le_of_ble_eq_true rfl) (Nat.le_of_ble_eq_true rfl) dX8_copy_21
def gw_X9_init (E : gE) (post : Gh → Prop) (p0 : Nat) (p1 : Int32) (G : Gh) : Prop := gK G p0 = 8 ∧ (∀ G1, G1 = gsI G p0 0 p1 → (post G1))
theorem hd_X9_init : yX9_init.cls ≠ "java/lang/invoke/MethodHandle" ∧ yX9_init.cls ≠ "java/lang/invoke/VarHandle" ∧ (parseMethodDescriptor yX9_init.desc).map (fun d => d.parameters.length) = some 1 := by decide +kernel
set_option maxHeartbeats 1000000 in
set_option maxRecDepth 100000 in
theorem gm_X9_init (l : Launch) (E : gE) (p0 : Nat) (p1 : Int32) (post : Gh → Prop) (G : Gh) (hw : gw_X9_init E post p0 p1 G) : gM l E yX9_init (ws_ yX9_init cX9_init 2 none) ({ frames := 1, cells := 0, slots := 0, locals := 30 } : Room) 0 0 [.ref p0, .int p1] G (gpv post) := by
  refine gof (by decide) (Nat.le_of_ble_eq_true rfl) ?_
  intro p e s m below meth c A ls hx hb hr hlk hml hown hin hts hPF hA hG hl
  have hl : lv_has ls 2 [(0, .ref p0), (1, .int p1)] := hl
  unfold gw_X9_init at hw
  obtain ⟨G0, hG0⟩ : ∃ G0, G0 = G := ⟨_, rfl⟩
  have hG : gS E A G0 s.heap G s.heap [] := by rw [hG0]; exact hG
  rw [show gQ E A G (gpv post) = gQ E A G0 (gpv post) by rw [hG0]]
  have h0p0 := hw.1; rw [← hG0] at h0p0
  replace hw := hw.2
  refine lv_aload_n hx hb dX9_init_0 rfl (lv_at hl 0 rfl) ?_
  refine W.objInit hx hb hown (hts _ q920) (hts _ q105) (hts _ q106) (g := F0 m 1 ls (.ref p0 :: [])) rfl (hl.1.trans hml.symm) rfl dX9_init_1 (Nat.le_of_ble_eq_true rfl) (by (try simp only [List.map, va_rf_cat, gcat_i, gcat_r, gcat_l, gcat_d, gcat_f, gcat_n]); exact Nat.le_of_ble_eq_true rfl) ?_
  refine W.eq (g2 := F0 m 4 ls []) rfl ?_
  refine lv_aload_n hx hb dX9_init_4 rfl (lv_at hl 0 rfl) ?_
  refine lv_iload_n hx hb dX9_init_5 rfl (lv_at hl 1 rfl) ?_
  refine gpF hx hb hts hown hPF hG 8 0 rfl in_X9 tyX9 tyX9_ok nmX9 (by decide) (by decide) (by decide) q921 (fun _ h9 => h9) rfl hin.2 rfl (gK_mon hG.1.2 h0p0 (by decide)) (v := .int p1) rfl rfl (G' := gsI G p0 0 p1) rfl rfl grI_off (Nat.le_of_ble_eq_true rfl) (gFs_I 8 0 (fun _ _ _ => rfl)) dX9_init_6 (fun H locs hG => ?_)
  obtain ⟨G1, eG1⟩ : ∃ z, z = gsI G p0 0 p1 := ⟨_, rfl⟩
  rw [← eG1] at hG
  replace hw := hw G1 eG1
  exact gretv hx hb hr hlk hG hw (Nat.le_of_ble_eq_true rfl) (Nat.le_of_ble_eq_true rfl) dX9_init_9
def gw_X9_copy (E : gE) (post : Option Nat → Gh → Prop) (p0 : Nat) (G : Gh) : Prop := gK G p0 = 8 ∧ (∀ q1, gK G q1 = 0 → ∀ G2, G2 = gN G q1 8 0 → (gw_X9_init E (fun G3 => gMon G2 G3 → (∀ G4, G4 = gsI G3 q1 1 (gI G3 p0 1) → (∀ G5, G5 = gsI G4 q1 2 (gI G4 p0 2) → (∀ G6, G6 = gsI G5 q1 3 (gI G5 p0 3) → (post (some q1) G6))))) q1 (gI G2 p0 0) G2))
theorem hd_X9_copy : yX9_copy.cls = RX9 ∧ yX9_copy.cls ≠ "java/lang/invoke/MethodHandle" ∧ yX9_copy.cls ≠ "java/lang/invoke/VarHandle" ∧ (parseMethodDescriptor yX9_copy.desc).map (fun d => d.parameters.length) = some 0 := by decide +kernel
theorem hdn_X9_copy : yX9_copy.cls ≠ "java/lang/invoke/MethodHandle" ∧ yX9_copy.cls ≠ "java/lang/invoke/VarHandle" ∧ (parseMethodDescriptor yX9_copy.desc).map (fun d => d.parameters.length) = some 0 := hd_X9_copy.2
theorem hdu_X9_copy : RX9 ≠ "java/lang/invoke/MethodHandle" ∧ RX9 ≠ "java/lang/invoke/VarHandle" ∧ (parseMethodDescriptor yX9_copy.desc).map (fun d => d.parameters.length) = some 0 := by decide +kernel
theorem hds_X9_copy : yX9_copy.name ≠ "<init>" ∧ (parseMethodDescriptor yX9_copy.desc).map (fun d => d.parameters.length) = some 0 := by decide +kernel
set_option maxHeartbeats 1000000 in
set_option maxRecDepth 100000 in
theorem gm_X9_copy (l : Launch) (E : gE) (p0 : Nat) (post : Option Nat → Gh → Prop) (G : Gh) (hw : gw_X9_copy E post p0 G) : gM l E yX9_copy (ws_ yX9_copy cX9_copy 2 (some (.object "WillowPrinters$Crate"))) ({ frames := 2, cells := 1, slots := 4, locals := 51 } : Room) 1 4 [.ref p0] G (gpr post) := by
  refine gof (by decide) (Nat.le_of_ble_eq_true rfl) ?_
  intro p e s m below meth c A ls hx hb hr hlk hml hown hin hts hPF hA hG hl
  have hl : lv_has ls 2 [(0, .ref p0)] := hl
  unfold gw_X9_copy at hw
  obtain ⟨G0, hG0⟩ : ∃ G0, G0 = G := ⟨_, rfl⟩
  have hG : gS E A G0 s.heap G s.heap [] := by rw [hG0]; exact hG
  rw [show gQ E A G (gpr post) = gQ E A G0 (gpr post) by rw [hG0]]
  have h0p0 := hw.1; rw [← hG0] at h0p0
  replace hw := hw.2
  refine gnew (ci := 8) hx hb hts in_X9 tyX9 tyX9_ok hown q915 q916 q85 hPF hG hA rfl (by decide) (by decide) gborn_X9 (Nat.le_of_ble_eq_true rfl) (Nat.le_of_ble_eq_true rfl) dX9_copy_0 (fun q1 H h0q1 hG => ?_)
  replace hw := hw q1 h0q1
  obtain ⟨G2, eG2⟩ : ∃ z, z = gN G q1 8 0 := ⟨_, rfl⟩
  rw [← eG2] at hG
  replace hw := hw G2 eG2
  have hkq1 : gK G2 q1 = 8 := by rw [eG2]; exact gK_Nq
  refine lv_dup hx hb dX9_copy_3 rfl ?_
  refine lv_aload_n hx hb dX9_copy_4 rfl (lv_at hl 0 rfl) ?_
  refine gg hx hb hts hown hPF hG 8 0 rfl in_X9 (by decide) (by decide) (by decide) q921 (fun _ h9 => h9) (gC_of (gK_mon hG.1.2 h0p0 (by decide)) (by decide)) (v := .int (gI G2 p0 0)) rfl dX9_copy_5 ?_
  refine gc3v hA hG (va_runI (As := [.int (gI G2 p0 0)]) (rest := [.ref q1]) ⟨hx, hb, hml, hown, hts⟩ (gm_X9_init l E q1 (gI G2 p0 0) _ G2 hw _) (cwI 1 hts (lw_meth q919) rfl rfl rfl (hts _ q85) (hts _ q917) (hts _ q918) rfl hd_X9_init ⟨Nat.le_of_ble_eq_true rfl, Nat.le_of_ble_eq_true rfl⟩) ⟨gblind, fun U hU hW => gpre hPF hA hG _ U hU hW⟩ rfl rfl hl.1 rfl (lv_room (Nat.le_of_ble_eq_true rfl)) dX9_copy_8 ⟨(Nat.le_of_ble_eq_true rfl), (Nat.le_of_ble_eq_true rfl)⟩) (fun G3 H locs hw hmon hG => ?_)
  replace hw := hw hmon
  have hkq1 : gK G3 q1 = 8 := gK_mon hmon hkq1 (by decide)
  refine lv_astore_n (i := 1) (lv' := [(1, .ref q1), (0, .ref p0)]) hx hb dX9_copy_11 rfl hl (by decide) rfl (fun ls hl => ?_)
  refine lv_aload_n hx hb dX9_copy_12 rfl (lv_at hl 0 rfl) ?_
  refine lv_aload_n hx hb dX9_copy_13 rfl (lv_at hl 1 rfl) ?_
  refine gg hx hb hts hown hPF hG 8 1 rfl in_X9 (by decide) (by decide) (by decide) q924 (fun _ h9 => h9) (gC_of (gK_mon hG.1.2 h0p0 (by decide)) (by decide)) (v := .int (gI G3 p0 1)) rfl dX9_copy_14 ?_
  refine gp hx hb hts hown hPF hG 8 1 rfl in_X9 tyX9 tyX9_ok nmX9 (by decide) (by decide) (by decide) q924 (fun _ h9 => h9) rfl hkq1 (v := .int (gI G3 p0 1)) rfl rfl (G' := gsI G3 q1 1 (gI G3 p0 1)) rfl rfl grI_off (Nat.le_of_ble_eq_true rfl) (gFs_I 8 1 (fun _ _ _ => rfl)) dX9_copy_17 (fun H locs hG => ?_)
  obtain ⟨G4, eG4⟩ : ∃ z, z = gsI G3 q1 1 (gI G3 p0 1) := ⟨_, rfl⟩
  rw [← eG4] at hG
  replace hw := hw G4 eG4
  have hkq1 : gK G4 q1 = 8 := by rw [eG4]; exact hkq1
  refine lv_aload_n hx hb dX9_copy_20 rfl (lv_at hl 0 rfl) ?_
  refine lv_aload_n hx hb dX9_copy_21 rfl (lv_at hl 1 rfl) ?_
  refine gg hx hb hts hown hPF hG 8 2 rfl in_X9 (by decide) (by decide) (by decide) q927 (fun _ h9 => h9) (gC_of (gK_mon hG.1.2 h0p0 (by decide)) (by decide)) (v := .int (gI G4 p0 2)) rfl dX9_copy_22 ?_
  refine gp hx hb hts hown hPF hG 8 2 rfl in_X9 tyX9 tyX9_ok nmX9 (by decide) (by decide) (by decide) q927 (fun _ h9 => h9) rfl hkq1 (v := .int (gI G4 p0 2)) rfl rfl (G' := gsI G4 q1 2 (gI G4 p0 2)) rfl rfl grI_off (Nat.le_of_ble_eq_true rfl) (gFs_I 8 2 (fun _ _ _ => rfl)) dX9_copy_25 (fun H locs hG => ?_)
  obtain ⟨G5, eG5⟩ : ∃ z, z = gsI G4 q1 2 (gI G4 p0 2) := ⟨_, rfl⟩
  rw [← eG5] at hG
  replace hw := hw G5 eG5
  have hkq1 : gK G5 q1 = 8 := by rw [eG5]; exact hkq1
  refine lv_aload_n hx hb dX9_copy_28 rfl (lv_at hl 0 rfl) ?_
  refine lv_aload_n hx hb dX9_copy_29 rfl (lv_at hl 1 rfl) ?_
  refine gg hx hb hts hown hPF hG 8 3 rfl in_X9 (by decide) (by decide) (by decide) q930 (fun _ h9 => h9) (gC_of (gK_mon hG.1.2 h0p0 (by decide)) (by decide)) (v := .int (gI G5 p0 3)) rfl dX9_copy_30 ?_
  refine gp hx hb hts hown hPF hG 8 3 rfl in_X9 tyX9 tyX9_ok nmX9 (by decide) (by decide) (by decide) q930 (fun _ h9 => h9) rfl hkq1 (v := .int (gI G5 p0 3)) rfl rfl (G' := gsI G5 q1 3 (gI G5 p0 3)) rfl rfl grI_off (Nat.le_of_ble_eq_true rfl) (gFs_I 8 3 (fun _ _ _ => rfl)) dX9_copy_33 (fun H locs hG => ?_)
  obtain ⟨G6, eG6⟩ : ∃ z, z = gsI G5 q1 3 (gI G5 p0 3) := ⟨_, rfl⟩
  rw [← eG6] at hG
  replace hw := hw G6 eG6
  have hkq1 : gK G6 q1 = 8 := by rw [eG6]; exact hkq1
  refine lv_aload_n hx hb dX9_copy_36 rfl (lv_at hl 0 rfl) ?_
  exact gretr (v := (some q1)) hx hb hr hlk hG (Or.inl ⟨_, rfl⟩) hw (Nat.le_of_ble_eq_true rfl) (Nat.le_of_ble_eq_true rfl) dX9_copy_37
def gw_X9_chips (E : gE) (post : Int32 → Gh → Prop) (p0 : Nat) (G : Gh) : Prop := gK G p0 = 8 ∧ (post (if (0 : Int32) < (((gI G p0 1) / 4) - (gI G p0 3)) then (((gI G p0 1) / 4) - (gI G p0 3)) else (0 : Int32)) G)
theorem hd_X9_chips : yX9_chips.cls = RX9 ∧ yX9_chips.cls ≠ "java/lang/invoke/MethodHandle" ∧ yX9_chips.cls ≠ "java/lang/invoke/VarHandle" ∧ (parseMethodDescriptor yX9_chips.desc).map (fun d => d.parameters.length) = some 0 := by decide +kernel
theorem hdn_X9_chips : yX9_chips.cls ≠ "java/lang/invoke/MethodHandle" ∧ yX9_chips.cls ≠ "java/lang/invoke/VarHandle" ∧ (parseMethodDescriptor yX9_chips.desc).map (fun d => d.parameters.length) = some 0 := hd_X9_chips.2
theorem hdu_X9_chips : RX9 ≠ "java/lang/invoke/MethodHandle" ∧ RX9 ≠ "java/lang/invoke/VarHandle" ∧ (parseMethodDescriptor yX9_chips.desc).map (fun d => d.parameters.length) = some 0 := by decide +kernel
theorem hds_X9_chips : yX9_chips.name ≠ "<init>" ∧ (parseMethodDescriptor yX9_chips.desc).map (fun d => d.parameters.length) = some 0 := by decide +kernel
set_option maxHeartbeats 1000000 in
set_option maxRecDepth 100000 in
theorem gm_X9_chips (l : Launch) (E : gE) (p0 : Nat) (post : Int32 → Gh → Prop) (G : Gh) (hw : gw_X9_chips E post p0 G) : gM l E yX9_chips (ws_ yX9_chips cX9_chips 1 (some .int)) ({ frames := 1, cells := 0, slots := 0, locals := 40 } : Room) 0 0 [.ref p0] G (gpi post) := by
  refine gof (by decide) (Nat.le_of_ble_eq_true rfl) ?_
  intro p e s m below meth c A ls hx hb hr hlk hml hown hin hts hPF hA hG hl
  have hl : lv_has ls 1 [(0, .ref p0)] := hl
  unfold gw_X9_chips at hw
  obtain ⟨G0, hG0⟩ : ∃ G0, G0 = G := ⟨_, rfl⟩
  have hG : gS E A G0 s.heap G s.heap [] := by rw [hG0]; exact hG
  rw [show gQ E A G (gpi post) = gQ E A G0 (gpi post) by rw [hG0]]
  have h0p0 := hw.1; rw [← hG0] at h0p0
  replace hw := hw.2
  refine lv_iconst (v := 0) hx hb dX9_chips_0 (by decide) ?_
  refine lv_aload_n hx hb dX9_chips_1 rfl (lv_at hl 0 rfl) ?_
  refine gg hx hb hts hown hPF hG 8 1 rfl in_X9 (by decide) (by decide) (by decide) q924 (fun _ h9 => h9) (gC_of (gK_mon hG.1.2 h0p0 (by decide)) (by decide)) (v := .int (gI G p0 1)) rfl dX9_chips_2 ?_
  refine lv_iconst (v := 4) hx hb dX9_chips_5 (by decide) ?_
  refine lv_idiv hx hb dX9_chips_6 (by decide) ?_
  refine lv_aload_n hx hb dX9_chips_7 rfl (lv_at hl 0 rfl) ?_
  refine gg hx hb hts hown hPF hG 8 3 rfl in_X9 (by decide) (by decide) (by decide) q930 (fun _ h9 => h9) (gC_of (gK_mon hG.1.2 h0p0 (by decide)) (by decide)) (v := .int (gI G p0 3)) rfl dX9_chips_8 ?_
  refine lv_isub hx hb dX9_chips_11 ?_
  refine va_mmax (rest := []) hx hb (hml.trans hl.1.symm) hown (hts _ q1445) (hts _ q232) (hts _ q69) (hts _ q233) (Nat.le_of_ble_eq_true rfl) (by (try simp only [List.map, va_rf_cat, gcat_i, gcat_r, gcat_l, gcat_d, gcat_f, gcat_n]); exact Nat.le_of_ble_eq_true rfl) (Nat.le_of_ble_eq_true rfl) (Nat.le_of_ble_eq_true rfl) dX9_chips_12 ?_
  exact greti hx hb hr hlk hG rfl hw (Nat.le_of_ble_eq_true rfl) (Nat.le_of_ble_eq_true rfl) dX9_chips_15
def gw_X9_coins (E : gE) (post : Int32 → Gh → Prop) (p0 : Nat) (G : Gh) : Prop := gK G p0 = 8 ∧ ((¬ (gI G p0 1) = 0 → (gw_X9_chips E (fun r2 G1 => gMon G G1 → ((¬ (gI G1 p0 1) = 0) ∧ (post (((gI G p0 2) * ((gI G p0 1) - r2)) / (gI G1 p0 1)) G1))) p0 G)) ∧ ((gI G p0 1) = 0 → (post 0 G)))
theorem hd_X9_coins : yX9_coins.cls = RX9 ∧ yX9_coins.cls ≠ "java/lang/invoke/MethodHandle" ∧ yX9_coins.cls ≠ "java/lang/invoke/VarHandle" ∧ (parseMethodDescriptor yX9_coins.desc).map (fun d => d.parameters.length) = some 0 := by decide +kernel
theorem hdn_X9_coins : yX9_coins.cls ≠ "java/lang/invoke/MethodHandle" ∧ yX9_coins.cls ≠ "java/lang/invoke/VarHandle" ∧ (parseMethodDescriptor yX9_coins.desc).map (fun d => d.parameters.length) = some 0 := hd_X9_coins.2
theorem hdu_X9_coins : RX9 ≠ "java/lang/invoke/MethodHandle" ∧ RX9 ≠ "java/lang/invoke/VarHandle" ∧ (parseMethodDescriptor yX9_coins.desc).map (fun d => d.parameters.length) = some 0 := by decide +kernel
theorem hds_X9_coins : yX9_coins.name ≠ "<init>" ∧ (parseMethodDescriptor yX9_coins.desc).map (fun d => d.parameters.length) = some 0 := by decide +kernel
set_option maxHeartbeats 1000000 in
set_option maxRecDepth 100000 in
theorem gm_X9_coins (l : Launch) (E : gE) (p0 : Nat) (post : Int32 → Gh → Prop) (G : Gh) (hw : gw_X9_coins E post p0 G) : gM l E yX9_coins (ws_ yX9_coins cX9_coins 1 (some .int)) ({ frames := 2, cells := 0, slots := 0, locals := 60 } : Room) 0 0 [.ref p0] G (gpi post) := by
  refine gof (by decide) (Nat.le_of_ble_eq_true rfl) ?_
  intro p e s m below meth c A ls hx hb hr hlk hml hown hin hts hPF hA hG hl
  have hl : lv_has ls 1 [(0, .ref p0)] := hl
  unfold gw_X9_coins at hw
  obtain ⟨G0, hG0⟩ : ∃ G0, G0 = G := ⟨_, rfl⟩
  have hG : gS E A G0 s.heap G s.heap [] := by rw [hG0]; exact hG
  rw [show gQ E A G (gpi post) = gQ E A G0 (gpi post) by rw [hG0]]
  have h0p0 := hw.1; rw [← hG0] at h0p0
  replace hw := hw.2
  refine lv_aload_n hx hb dX9_coins_0 rfl (lv_at hl 0 rfl) ?_
  refine gg hx hb hts hown hPF hG 8 1 rfl in_X9 (by decide) (by decide) (by decide) q924 (fun _ h9 => h9) (gC_of (gK_mon hG.1.2 h0p0 (by decide)) (by decide)) (v := .int (gI G p0 1)) rfl dX9_coins_1 ?_
  refine lv_if_ne (tgt := 11) hx hb dX9_coins_4 (by decide) (fun c_ => ?_) (fun c_ => ?_)
  · replace hw := hw.1 c_
    refine lv_aload_n hx hb dX9_coins_11 rfl (lv_at hl 0 rfl) ?_
    refine gg hx hb hts hown hPF hG 8 2 rfl in_X9 (by decide) (by decide) (by decide) q927 (fun _ h9 => h9) (gC_of (gK_mon hG.1.2 h0p0 (by decide)) (by decide)) (v := .int (gI G p0 2)) rfl dX9_coins_12 ?_
    refine lv_aload_n hx hb dX9_coins_15 rfl (lv_at hl 0 rfl) ?_
    refine gg hx hb hts hown hPF hG 8 1 rfl in_X9 (by decide) (by decide) (by decide) q924 (fun _ h9 => h9) (gC_of (gK_mon hG.1.2 h0p0 (by decide)) (by decide)) (v := .int (gI G p0 1)) rfl dX9_coins_16 ?_
    refine lv_aload_n hx hb dX9_coins_19 rfl (lv_at hl 0 rfl) ?_
    refine gc3i hA hG (va_runV (As := []) (rest := [.int (gI G p0 1), .int (gI G p0 2)]) ⟨hx, hb, hml, hown, hts⟩ (gm_X9_chips l E p0 _ G hw _) (cwV 0 hts (lw_V q1441 q1442 q1443 q85 q1444) rfl rfl rfl hd_X9_chips ⟨Nat.le_of_ble_eq_true rfl, Nat.le_of_ble_eq_true rfl⟩) ⟨gblind, grecv hPF hG (gC_of (gK_mon hG.1.2 h0p0 (by decide)) (by decide)) (by decide) (by decide) rfl, fun U hU hW => gpre hPF hA hG _ U hU hW⟩ rfl rfl hl.1 rfl (lv_room (Nat.le_of_ble_eq_true rfl)) dX9_coins_20 ⟨(Nat.le_of_ble_eq_true rfl), (Nat.le_of_ble_eq_true rfl)⟩) (fun r2 G1 H locs hw hmon hG => ?_)
    replace hw := hw hmon
    refine lv_isub hx hb dX9_coins_23 ?_
    refine lv_imul hx hb dX9_coins_24 ?_
    refine lv_aload_n hx hb dX9_coins_25 rfl (lv_at hl 0 rfl) ?_
    refine gg hx hb hts hown hPF hG 8 1 rfl in_X9 (by decide) (by decide) (by decide) q924 (fun _ h9 => h9) (gC_of (gK_mon hG.1.2 h0p0 (by decide)) (by decide)) (v := .int (gI G1 p0 1)) rfl dX9_coins_26 ?_
    refine lv_idiv hx hb dX9_coins_29 hw.1 ?_
    replace hw := hw.2
    exact greti hx hb hr hlk hG rfl hw (Nat.le_of_ble_eq_true rfl) (Nat.le_of_ble_eq_true rfl) dX9_coins_30
  · replace hw := hw.2 c_
    refine lv_iconst (v := 0) hx hb dX9_coins_7 (by decide) ?_
    refine lv_goto (tgt := 30) hx hb dX9_coins_8 (by decide) ?_
    exact greti hx hb hr hlk hG rfl hw (Nat.le_of_ble_eq_true rfl) (Nat.le_of_ble_eq_true rfl) dX9_coins_30
def gw_X11_init (E : gE) (post : Gh → Prop) (p0 : Nat) (p1 : Int32) (G : Gh) : Prop := gK G p0 = 9 ∧ (∀ G1, G1 = gsI G p0 0 p1 → (post G1))
theorem hd_X11_init : yX11_init.cls ≠ "java/lang/invoke/MethodHandle" ∧ yX11_init.cls ≠ "java/lang/invoke/VarHandle" ∧ (parseMethodDescriptor yX11_init.desc).map (fun d => d.parameters.length) = some 1 := by decide +kernel
set_option maxHeartbeats 1000000 in
set_option maxRecDepth 100000 in
theorem gm_X11_init (l : Launch) (E : gE) (p0 : Nat) (p1 : Int32) (post : Gh → Prop) (G : Gh) (hw : gw_X11_init E post p0 p1 G) : gM l E yX11_init (ws_ yX11_init cX11_init 2 none) ({ frames := 1, cells := 0, slots := 0, locals := 30 } : Room) 0 0 [.ref p0, .int p1] G (gpv post) := by
  refine gof (by decide) (Nat.le_of_ble_eq_true rfl) ?_
  intro p e s m below meth c A ls hx hb hr hlk hml hown hin hts hPF hA hG hl
  have hl : lv_has ls 2 [(0, .ref p0), (1, .int p1)] := hl
  unfold gw_X11_init at hw
  obtain ⟨G0, hG0⟩ : ∃ G0, G0 = G := ⟨_, rfl⟩
  have hG : gS E A G0 s.heap G s.heap [] := by rw [hG0]; exact hG
  rw [show gQ E A G (gpv post) = gQ E A G0 (gpv post) by rw [hG0]]
  have h0p0 := hw.1; rw [← hG0] at h0p0
  replace hw := hw.2
  refine lv_aload_n hx hb dX11_init_0 rfl (lv_at hl 0 rfl) ?_
  refine W.objInit hx hb hown (hts _ q1301) (hts _ q105) (hts _ q106) (g := F0 m 1 ls (.ref p0 :: [])) rfl (hl.1.trans hml.symm) rfl dX11_init_1 (Nat.le_of_ble_eq_true rfl) (by (try simp only [List.map, va_rf_cat, gcat_i, gcat_r, gcat_l, gcat_d, gcat_f, gcat_n]); exact Nat.le_of_ble_eq_true rfl) ?_
  refine W.eq (g2 := F0 m 4 ls []) rfl ?_
  refine lv_aload_n hx hb dX11_init_4 rfl (lv_at hl 0 rfl) ?_
  refine lv_iload_n hx hb dX11_init_5 rfl (lv_at hl 1 rfl) ?_
  refine gpF hx hb hts hown hPF hG 9 0 rfl in_X11 tyX11 tyX11_ok nmX11 (by decide) (by decide) (by decide) q1302 (fun _ h9 => h9) rfl hin.2 rfl (gK_mon hG.1.2 h0p0 (by decide)) (v := .int p1) rfl rfl (G' := gsI G p0 0 p1) rfl rfl grI_off (Nat.le_of_ble_eq_true rfl) (gFs_I 9 0 (fun _ _ _ => rfl)) dX11_init_6 (fun H locs hG => ?_)
  obtain ⟨G1, eG1⟩ : ∃ z, z = gsI G p0 0 p1 := ⟨_, rfl⟩
  rw [← eG1] at hG
  replace hw := hw G1 eG1
  exact gretv hx hb hr hlk hG hw (Nat.le_of_ble_eq_true rfl) (Nat.le_of_ble_eq_true rfl) dX11_init_9
def gw_X11_stage (E : gE) (post : Option Nat → Gh → Prop) (p0 : Nat) (G : Gh) : Prop := gK G p0 = 9 ∧ (post (some (eZ E 1)) G)
theorem hd_X11_stage : yX11_stage.cls = RX11 ∧ yX11_stage.cls ≠ "java/lang/invoke/MethodHandle" ∧ yX11_stage.cls ≠ "java/lang/invoke/VarHandle" ∧ (parseMethodDescriptor yX11_stage.desc).map (fun d => d.parameters.length) = some 0 := by decide +kernel
theorem hdn_X11_stage : yX11_stage.cls ≠ "java/lang/invoke/MethodHandle" ∧ yX11_stage.cls ≠ "java/lang/invoke/VarHandle" ∧ (parseMethodDescriptor yX11_stage.desc).map (fun d => d.parameters.length) = some 0 := hd_X11_stage.2
theorem hdu_X11_stage : RX11 ≠ "java/lang/invoke/MethodHandle" ∧ RX11 ≠ "java/lang/invoke/VarHandle" ∧ (parseMethodDescriptor yX11_stage.desc).map (fun d => d.parameters.length) = some 0 := by decide +kernel
theorem hds_X11_stage : yX11_stage.name ≠ "<init>" ∧ (parseMethodDescriptor yX11_stage.desc).map (fun d => d.parameters.length) = some 0 := by decide +kernel
set_option maxHeartbeats 1000000 in
set_option maxRecDepth 100000 in
theorem gm_X11_stage (l : Launch) (E : gE) (p0 : Nat) (post : Option Nat → Gh → Prop) (G : Gh) (hw : gw_X11_stage E post p0 G) : gM l E yX11_stage (ws_ yX11_stage cX11_stage 1 (some (.object "WillowPrinters$Stage"))) ({ frames := 0, cells := 0, slots := 0, locals := 0 } : Room) 0 0 [.ref p0] G (gpr post) := by
  refine gof (by decide) (Nat.le_of_ble_eq_true rfl) ?_
  intro p e s m below meth c A ls hx hb hr hlk hml hown hin hts hPF hA hG hl
  have hl : lv_has ls 1 [(0, .ref p0)] := hl
  unfold gw_X11_stage at hw
  obtain ⟨G0, hG0⟩ : ∃ G0, G0 = G := ⟨_, rfl⟩
  have hG : gS E A G0 s.heap G s.heap [] := by rw [hG0]; exact hG
  rw [show gQ E A G (gpr post) = gQ E A G0 (gpr post) by rw [hG0]]
  have h0p0 := hw.1; rw [← hG0] at h0p0
  replace hw := hw.2
  refine va_gets (v := .ref (eZ E 1)) hx hb (hPF.z 2 rfl) hG.2 hown (hts _ q1219) (fun _ h9 => h9) dX11_stage_0 ?_
  exact gretr (v := (some (eZ E 1))) hx hb hr hlk hG (Or.inl ⟨_, rfl⟩) hw (Nat.le_of_ble_eq_true rfl) (Nat.le_of_ble_eq_true rfl) dX11_stage_3
def gw_X11_well (E : gE) (post : Int32 → Gh → Prop) (p0 : Nat) (G : Gh) : Prop := gK G p0 = 9 ∧ (post (gI G p0 0) G)
theorem hd_X11_well : yX11_well.cls = RX11 ∧ yX11_well.cls ≠ "java/lang/invoke/MethodHandle" ∧ yX11_well.cls ≠ "java/lang/invoke/VarHandle" ∧ (parseMethodDescriptor yX11_well.desc).map (fun d => d.parameters.length) = some 0 := by decide +kernel
theorem hdn_X11_well : yX11_well.cls ≠ "java/lang/invoke/MethodHandle" ∧ yX11_well.cls ≠ "java/lang/invoke/VarHandle" ∧ (parseMethodDescriptor yX11_well.desc).map (fun d => d.parameters.length) = some 0 := hd_X11_well.2
theorem hdu_X11_well : RX11 ≠ "java/lang/invoke/MethodHandle" ∧ RX11 ≠ "java/lang/invoke/VarHandle" ∧ (parseMethodDescriptor yX11_well.desc).map (fun d => d.parameters.length) = some 0 := by decide +kernel
theorem hds_X11_well : yX11_well.name ≠ "<init>" ∧ (parseMethodDescriptor yX11_well.desc).map (fun d => d.parameters.length) = some 0 := by decide +kernel
set_option maxHeartbeats 1000000 in
set_option maxRecDepth 100000 in
theorem gm_X11_well (l : Launch) (E : gE) (p0 : Nat) (post : Int32 → Gh → Prop) (G : Gh) (hw : gw_X11_well E post p0 G) : gM l E yX11_well (ws_ yX11_well cX11_well 1 (some .int)) ({ frames := 0, cells := 0, slots := 0, locals := 0 } : Room) 0 0 [.ref p0] G (gpi post) := by
  refine gof (by decide) (Nat.le_of_ble_eq_true rfl) ?_
  intro p e s m below meth c A ls hx hb hr hlk hml hown hin hts hPF hA hG hl
  have hl : lv_has ls 1 [(0, .ref p0)] := hl
  unfold gw_X11_well at hw
  obtain ⟨G0, hG0⟩ : ∃ G0, G0 = G := ⟨_, rfl⟩
  have hG : gS E A G0 s.heap G s.heap [] := by rw [hG0]; exact hG
  rw [show gQ E A G (gpi post) = gQ E A G0 (gpi post) by rw [hG0]]
  have h0p0 := hw.1; rw [← hG0] at h0p0
  replace hw := hw.2
  refine lv_aload_n hx hb dX11_well_0 rfl (lv_at hl 0 rfl) ?_
  refine gg hx hb hts hown hPF hG 9 0 rfl in_X11 (by decide) (by decide) (by decide) q1302 (fun _ h9 => h9) (gC_of (gK_mon hG.1.2 h0p0 (by decide)) (by decide)) (v := .int (gI G p0 0)) rfl dX11_well_1 ?_
  exact greti hx hb hr hlk hG rfl hw (Nat.le_of_ble_eq_true rfl) (Nat.le_of_ble_eq_true rfl) dX11_well_4
def gw_X12_init (E : gE) (post : Gh → Prop) (p0 : Nat) (p1 : Int32) (p2 : Int32) (p3 : Int32) (p4 : Int32) (G : Gh) : Prop := gK G p0 = 10 ∧ (∀ G1, G1 = gsI G p0 0 p1 → (∀ G2, G2 = gsI G1 p0 1 p2 → (∀ G3, G3 = gsI G2 p0 2 p3 → (∀ G4, G4 = gsI G3 p0 3 p4 → (post G4)))))
theorem hd_X12_init : yX12_init.cls ≠ "java/lang/invoke/MethodHandle" ∧ yX12_init.cls ≠ "java/lang/invoke/VarHandle" ∧ (parseMethodDescriptor yX12_init.desc).map (fun d => d.parameters.length) = some 4 := by decide +kernel
set_option maxHeartbeats 1000000 in
set_option maxRecDepth 100000 in
theorem gm_X12_init (l : Launch) (E : gE) (p0 : Nat) (p1 : Int32) (p2 : Int32) (p3 : Int32) (p4 : Int32) (post : Gh → Prop) (G : Gh) (hw : gw_X12_init E post p0 p1 p2 p3 p4 G) : gM l E yX12_init (ws_ yX12_init cX12_init 5 none) ({ frames := 1, cells := 0, slots := 0, locals := 30 } : Room) 0 0 [.ref p0, .int p1, .int p2, .int p3, .int p4] G (gpv post) := by
  refine gof (by decide) (Nat.le_of_ble_eq_true rfl) ?_
  intro p e s m below meth c A ls hx hb hr hlk hml hown hin hts hPF hA hG hl
  have hl : lv_has ls 5 [(0, .ref p0), (1, .int p1), (2, .int p2), (3, .int p3), (4, .int p4)] := hl
  unfold gw_X12_init at hw
  obtain ⟨G0, hG0⟩ : ∃ G0, G0 = G := ⟨_, rfl⟩
  have hG : gS E A G0 s.heap G s.heap [] := by rw [hG0]; exact hG
  rw [show gQ E A G (gpv post) = gQ E A G0 (gpv post) by rw [hG0]]
  have h0p0 := hw.1; rw [← hG0] at h0p0
  replace hw := hw.2
  refine lv_aload_n hx hb dX12_init_0 rfl (lv_at hl 0 rfl) ?_
  refine W.objInit hx hb hown (hts _ q1367) (hts _ q105) (hts _ q106) (g := F0 m 1 ls (.ref p0 :: [])) rfl (hl.1.trans hml.symm) rfl dX12_init_1 (Nat.le_of_ble_eq_true rfl) (by (try simp only [List.map, va_rf_cat, gcat_i, gcat_r, gcat_l, gcat_d, gcat_f, gcat_n]); exact Nat.le_of_ble_eq_true rfl) ?_
  refine W.eq (g2 := F0 m 4 ls []) rfl ?_
  refine lv_aload_n hx hb dX12_init_4 rfl (lv_at hl 0 rfl) ?_
  refine lv_iload_n hx hb dX12_init_5 rfl (lv_at hl 1 rfl) ?_
  refine gpF hx hb hts hown hPF hG 10 0 rfl in_X12 tyX12 tyX12_ok nmX12 (by decide) (by decide) (by decide) q1368 (fun _ h9 => h9) rfl hin.2 rfl (gK_mon hG.1.2 h0p0 (by decide)) (v := .int p1) rfl rfl (G' := gsI G p0 0 p1) rfl rfl grI_off (Nat.le_of_ble_eq_true rfl) (gFs_I 10 0 (fun _ _ _ => rfl)) dX12_init_6 (fun H locs hG => ?_)
  obtain ⟨G1, eG1⟩ : ∃ z, z = gsI G p0 0 p1 := ⟨_, rfl⟩
  rw [← eG1] at hG
  replace hw := hw G1 eG1
  refine lv_aload_n hx hb dX12_init_9 rfl (lv_at hl 0 rfl) ?_
  refine lv_iload_n hx hb dX12_init_10 rfl (lv_at hl 2 rfl) ?_
  refine gpF hx hb hts hown hPF hG 10 1 rfl in_X12 tyX12 tyX12_ok nmX12 (by decide) (by decide) (by decide) q1369 (fun _ h9 => h9) rfl hin.2 rfl (gK_mon hG.1.2 h0p0 (by decide)) (v := .int p2) rfl rfl (G' := gsI G1 p0 1 p2) rfl rfl grI_off (Nat.le_of_ble_eq_true rfl) (gFs_I 10 1 (fun _ _ _ => rfl)) dX12_init_11 (fun H locs hG => ?_)
  obtain ⟨G2, eG2⟩ : ∃ z, z = gsI G1 p0 1 p2 := ⟨_, rfl⟩
  rw [← eG2] at hG
  replace hw := hw G2 eG2
  refine lv_aload_n hx hb dX12_init_14 rfl (lv_at hl 0 rfl) ?_
  refine lv_iload_n hx hb dX12_init_15 rfl (lv_at hl 3 rfl) ?_
  refine gpF hx hb hts hown hPF hG 10 2 rfl in_X12 tyX12 tyX12_ok nmX12 (by decide) (by decide) (by decide) q1371 (fun _ h9 => h9) rfl hin.2 rfl (gK_mon hG.1.2 h0p0 (by decide)) (v := .int p3) rfl rfl (G' := gsI G2 p0 2 p3) rfl rfl grI_off (Nat.le_of_ble_eq_true rfl) (gFs_I 10 2 (fun _ _ _ => rfl)) dX12_init_16 (fun H locs hG => ?_)
  obtain ⟨G3, eG3⟩ : ∃ z, z = gsI G2 p0 2 p3 := ⟨_, rfl⟩
  rw [← eG3] at hG
  replace hw := hw G3 eG3
  refine lv_aload_n hx hb dX12_init_19 rfl (lv_at hl 0 rfl) ?_
  refine lv_iload hx hb dX12_init_20 (lv_at hl 4 rfl) ?_
  refine gpF hx hb hts hown hPF hG 10 3 rfl in_X12 tyX12 tyX12_ok nmX12 (by decide) (by decide) (by decide) q1373 (fun _ h9 => h9) rfl hin.2 rfl (gK_mon hG.1.2 h0p0 (by decide)) (v := .int p4) rfl rfl (G' := gsI G3 p0 3 p4) rfl rfl grI_off (Nat.le_of_ble_eq_true rfl) (gFs_I 10 3 (fun _ _ _ => rfl)) dX12_init_22 (fun H locs hG => ?_)
  obtain ⟨G4, eG4⟩ : ∃ z, z = gsI G3 p0 3 p4 := ⟨_, rfl⟩
  rw [← eG4] at hG
  replace hw := hw G4 eG4
  exact gretv hx hb hr hlk hG hw (Nat.le_of_ble_eq_true rfl) (Nat.le_of_ble_eq_true rfl) dX12_init_25
def gw_X12_stage (E : gE) (post : Option Nat → Gh → Prop) (p0 : Nat) (G : Gh) : Prop := gK G p0 = 10 ∧ (post (some (eZ E 2)) G)
theorem hd_X12_stage : yX12_stage.cls = RX12 ∧ yX12_stage.cls ≠ "java/lang/invoke/MethodHandle" ∧ yX12_stage.cls ≠ "java/lang/invoke/VarHandle" ∧ (parseMethodDescriptor yX12_stage.desc).map (fun d => d.parameters.length) = some 0 := by decide +kernel
theorem hdn_X12_stage : yX12_stage.cls ≠ "java/lang/invoke/MethodHandle" ∧ yX12_stage.cls ≠ "java/lang/invoke/VarHandle" ∧ (parseMethodDescriptor yX12_stage.desc).map (fun d => d.parameters.length) = some 0 := hd_X12_stage.2
theorem hdu_X12_stage : RX12 ≠ "java/lang/invoke/MethodHandle" ∧ RX12 ≠ "java/lang/invoke/VarHandle" ∧ (parseMethodDescriptor yX12_stage.desc).map (fun d => d.parameters.length) = some 0 := by decide +kernel
theorem hds_X12_stage : yX12_stage.name ≠ "<init>" ∧ (parseMethodDescriptor yX12_stage.desc).map (fun d => d.parameters.length) = some 0 := by decide +kernel
set_option maxHeartbeats 1000000 in
set_option maxRecDepth 100000 in
theorem gm_X12_stage (l : Launch) (E : gE) (p0 : Nat) (post : Option Nat → Gh → Prop) (G : Gh) (hw : gw_X12_stage E post p0 G) : gM l E yX12_stage (ws_ yX12_stage cX12_stage 1 (some (.object "WillowPrinters$Stage"))) ({ frames := 0, cells := 0, slots := 0, locals := 0 } : Room) 0 0 [.ref p0] G (gpr post) := by
  refine gof (by decide) (Nat.le_of_ble_eq_true rfl) ?_
  intro p e s m below meth c A ls hx hb hr hlk hml hown hin hts hPF hA hG hl
  have hl : lv_has ls 1 [(0, .ref p0)] := hl
  unfold gw_X12_stage at hw
  obtain ⟨G0, hG0⟩ : ∃ G0, G0 = G := ⟨_, rfl⟩
  have hG : gS E A G0 s.heap G s.heap [] := by rw [hG0]; exact hG
  rw [show gQ E A G (gpr post) = gQ E A G0 (gpr post) by rw [hG0]]
  have h0p0 := hw.1; rw [← hG0] at h0p0
  replace hw := hw.2
  refine va_gets (v := .ref (eZ E 2)) hx hb (hPF.z 3 rfl) hG.2 hown (hts _ q1195) (fun _ h9 => h9) dX12_stage_0 ?_
  exact gretr (v := (some (eZ E 2))) hx hb hr hlk hG (Or.inl ⟨_, rfl⟩) hw (Nat.le_of_ble_eq_true rfl) (Nat.le_of_ble_eq_true rfl) dX12_stage_3
def gw_X12_well (E : gE) (post : Int32 → Gh → Prop) (p0 : Nat) (G : Gh) : Prop := gK G p0 = 10 ∧ (post (gI G p0 0) G)
theorem hd_X12_well : yX12_well.cls = RX12 ∧ yX12_well.cls ≠ "java/lang/invoke/MethodHandle" ∧ yX12_well.cls ≠ "java/lang/invoke/VarHandle" ∧ (parseMethodDescriptor yX12_well.desc).map (fun d => d.parameters.length) = some 0 := by decide +kernel
theorem hdn_X12_well : yX12_well.cls ≠ "java/lang/invoke/MethodHandle" ∧ yX12_well.cls ≠ "java/lang/invoke/VarHandle" ∧ (parseMethodDescriptor yX12_well.desc).map (fun d => d.parameters.length) = some 0 := hd_X12_well.2
theorem hdu_X12_well : RX12 ≠ "java/lang/invoke/MethodHandle" ∧ RX12 ≠ "java/lang/invoke/VarHandle" ∧ (parseMethodDescriptor yX12_well.desc).map (fun d => d.parameters.length) = some 0 := by decide +kernel
theorem hds_X12_well : yX12_well.name ≠ "<init>" ∧ (parseMethodDescriptor yX12_well.desc).map (fun d => d.parameters.length) = some 0 := by decide +kernel
set_option maxHeartbeats 1000000 in
set_option maxRecDepth 100000 in
theorem gm_X12_well (l : Launch) (E : gE) (p0 : Nat) (post : Int32 → Gh → Prop) (G : Gh) (hw : gw_X12_well E post p0 G) : gM l E yX12_well (ws_ yX12_well cX12_well 1 (some .int)) ({ frames := 0, cells := 0, slots := 0, locals := 0 } : Room) 0 0 [.ref p0] G (gpi post) := by
  refine gof (by decide) (Nat.le_of_ble_eq_true rfl) ?_
  intro p e s m below meth c A ls hx hb hr hlk hml hown hin hts hPF hA hG hl
  have hl : lv_has ls 1 [(0, .ref p0)] := hl
  unfold gw_X12_well at hw
  obtain ⟨G0, hG0⟩ : ∃ G0, G0 = G := ⟨_, rfl⟩
  have hG : gS E A G0 s.heap G s.heap [] := by rw [hG0]; exact hG
  rw [show gQ E A G (gpi post) = gQ E A G0 (gpi post) by rw [hG0]]
  have h0p0 := hw.1; rw [← hG0] at h0p0
  replace hw := hw.2
  refine lv_aload_n hx hb dX12_well_0 rfl (lv_at hl 0 rfl) ?_
  refine gg hx hb hts hown hPF hG 10 0 rfl in_X12 (by decide) (by decide) (by decide) q1368 (fun _ h9 => h9) (gC_of (gK_mon hG.1.2 h0p0 (by decide)) (by decide)) (v := .int (gI G p0 0)) rfl dX12_well_1 ?_
  exact greti hx hb hr hlk hG rfl hw (Nat.le_of_ble_eq_true rfl) (Nat.le_of_ble_eq_true rfl) dX12_well_4
def gw_X13_init (E : gE) (post : Gh → Prop) (p0 : Nat) (p1 : Int32) (p2 : Int32) (G : Gh) : Prop := gK G p0 = 11 ∧ (∀ G1, G1 = gsI G p0 0 p1 → (∀ G2, G2 = gsI G1 p0 1 p2 → (post G2)))
theorem hd_X13_init : yX13_init.cls ≠ "java/lang/invoke/MethodHandle" ∧ yX13_init.cls ≠ "java/lang/invoke/VarHandle" ∧ (parseMethodDescriptor yX13_init.desc).map (fun d => d.parameters.length) = some 2 := by decide +kernel
set_option maxHeartbeats 1000000 in
set_option maxRecDepth 100000 in
theorem gm_X13_init (l : Launch) (E : gE) (p0 : Nat) (p1 : Int32) (p2 : Int32) (post : Gh → Prop) (G : Gh) (hw : gw_X13_init E post p0 p1 p2 G) : gM l E yX13_init (ws_ yX13_init cX13_init 3 none) ({ frames := 1, cells := 0, slots := 0, locals := 30 } : Room) 0 0 [.ref p0, .int p1, .int p2] G (gpv post) := by
  refine gof (by decide) (Nat.le_of_ble_eq_true rfl) ?_
  intro p e s m below meth c A ls hx hb hr hlk hml hown hin hts hPF hA hG hl
  have hl : lv_has ls 3 [(0, .ref p0), (1, .int p1), (2, .int p2)] := hl
  unfold gw_X13_init at hw
  obtain ⟨G0, hG0⟩ : ∃ G0, G0 = G := ⟨_, rfl⟩
  have hG : gS E A G0 s.heap G s.heap [] := by rw [hG0]; exact hG
  rw [show gQ E A G (gpv post) = gQ E A G0 (gpv post) by rw [hG0]]
  have h0p0 := hw.1; rw [← hG0] at h0p0
  replace hw := hw.2
  refine lv_aload_n hx hb dX13_init_0 rfl (lv_at hl 0 rfl) ?_
  refine W.objInit hx hb hown (hts _ q1539) (hts _ q105) (hts _ q106) (g := F0 m 1 ls (.ref p0 :: [])) rfl (hl.1.trans hml.symm) rfl dX13_init_1 (Nat.le_of_ble_eq_true rfl) (by (try simp only [List.map, va_rf_cat, gcat_i, gcat_r, gcat_l, gcat_d, gcat_f, gcat_n]); exact Nat.le_of_ble_eq_true rfl) ?_
  refine W.eq (g2 := F0 m 4 ls []) rfl ?_
  refine lv_aload_n hx hb dX13_init_4 rfl (lv_at hl 0 rfl) ?_
  refine lv_iload_n hx hb dX13_init_5 rfl (lv_at hl 1 rfl) ?_
  refine gpF hx hb hts hown hPF hG 11 0 rfl in_X13 tyX13 tyX13_ok nmX13 (by decide) (by decide) (by decide) q1540 (fun _ h9 => h9) rfl hin.2 rfl (gK_mon hG.1.2 h0p0 (by decide)) (v := .int p1) rfl rfl (G' := gsI G p0 0 p1) rfl rfl grI_off (Nat.le_of_ble_eq_true rfl) (gFs_I 11 0 (fun _ _ _ => rfl)) dX13_init_6 (fun H locs hG => ?_)
  obtain ⟨G1, eG1⟩ : ∃ z, z = gsI G p0 0 p1 := ⟨_, rfl⟩
  rw [← eG1] at hG
  replace hw := hw G1 eG1
  refine lv_aload_n hx hb dX13_init_9 rfl (lv_at hl 0 rfl) ?_
  refine lv_iload_n hx hb dX13_init_10 rfl (lv_at hl 2 rfl) ?_
  refine gpF hx hb hts hown hPF hG 11 1 rfl in_X13 tyX13 tyX13_ok nmX13 (by decide) (by decide) (by decide) q1541 (fun _ h9 => h9) rfl hin.2 rfl (gK_mon hG.1.2 h0p0 (by decide)) (v := .int p2) rfl rfl (G' := gsI G1 p0 1 p2) rfl rfl grI_off (Nat.le_of_ble_eq_true rfl) (gFs_I 11 1 (fun _ _ _ => rfl)) dX13_init_11 (fun H locs hG => ?_)
  obtain ⟨G2, eG2⟩ : ∃ z, z = gsI G1 p0 1 p2 := ⟨_, rfl⟩
  rw [← eG2] at hG
  replace hw := hw G2 eG2
  exact gretv hx hb hr hlk hG hw (Nat.le_of_ble_eq_true rfl) (Nat.le_of_ble_eq_true rfl) dX13_init_14
def gw_X12_later (E : gE) (post : Option Nat → Gh → Prop) (p0 : Nat) (G : Gh) : Prop := gK G p0 = 10 ∧ ((¬ (gI G p0 3) = 1 → (∀ q1, gK G q1 = 0 → ∀ G2, G2 = gN G q1 10 0 → (gw_X12_init E (fun G3 => gMon G2 G3 → (post (some q1) G3)) q1 (gI G2 p0 0) (gI G2 p0 1) (gI G2 p0 2) ((gI G2 p0 3) - 1) G2))) ∧ ((gI G p0 3) = 1 → (∀ q4, gK G q4 = 0 → ∀ G5, G5 = gN G q4 11 0 → (gw_X13_init E (fun G6 => gMon G5 G6 → (post (some q4) G6)) q4 (gI G5 p0 0) (gI G5 p0 2) G5))))
theorem hd_X12_later : yX12_later.cls = RX12 ∧ yX12_later.cls ≠ "java/lang/invoke/MethodHandle" ∧ yX12_later.cls ≠ "java/lang/invoke/VarHandle" ∧ (parseMethodDescriptor yX12_later.desc).map (fun d => d.parameters.length) = some 0 := by decide +kernel
theorem hdn_X12_later : yX12_later.cls ≠ "java/lang/invoke/MethodHandle" ∧ yX12_later.cls ≠ "java/lang/invoke/VarHandle" ∧ (parseMethodDescriptor yX12_later.desc).map (fun d => d.parameters.length) = some 0 := hd_X12_later.2
theorem hdu_X12_later : RX12 ≠ "java/lang/invoke/MethodHandle" ∧ RX12 ≠ "java/lang/invoke/VarHandle" ∧ (parseMethodDescriptor yX12_later.desc).map (fun d => d.parameters.length) = some 0 := by decide +kernel
theorem hds_X12_later : yX12_later.name ≠ "<init>" ∧ (parseMethodDescriptor yX12_later.desc).map (fun d => d.parameters.length) = some 0 := by decide +kernel
set_option maxHeartbeats 1000000 in
set_option maxRecDepth 100000 in
theorem gm_X12_later (l : Launch) (E : gE) (p0 : Nat) (post : Option Nat → Gh → Prop) (G : Gh) (hw : gw_X12_later E post p0 G) : gM l E yX12_later (ws_ yX12_later cX12_later 1 (some (.object "WillowPrinters$State"))) ({ frames := 2, cells := 1, slots := 4, locals := 54 } : Room) 1 4 [.ref p0] G (gpr post) := by
  refine gof (by decide) (Nat.le_of_ble_eq_true rfl) ?_
  intro p e s m below meth c A ls hx hb hr hlk hml hown hin hts hPF hA hG hl
  have hl : lv_has ls 1 [(0, .ref p0)] := hl
  unfold gw_X12_later at hw
  obtain ⟨G0, hG0⟩ : ∃ G0, G0 = G := ⟨_, rfl⟩
  have hG : gS E A G0 s.heap G s.heap [] := by rw [hG0]; exact hG
  rw [show gQ E A G (gpr post) = gQ E A G0 (gpr post) by rw [hG0]]
  have h0p0 := hw.1; rw [← hG0] at h0p0
  replace hw := hw.2
  refine lv_aload_n hx hb dX12_later_0 rfl (lv_at hl 0 rfl) ?_
  refine gg hx hb hts hown hPF hG 10 3 rfl in_X12 (by decide) (by decide) (by decide) q1373 (fun _ h9 => h9) (gC_of (gK_mon hG.1.2 h0p0 (by decide)) (by decide)) (v := .int (gI G p0 3)) rfl dX12_later_1 ?_
  refine lv_iconst (v := 1) hx hb dX12_later_4 (by decide) ?_
  refine lv_icmp_ne (tgt := 26) hx hb dX12_later_5 (by decide) (fun c_ => ?_) (fun c_ => ?_)
  · replace hw := hw.1 c_
    refine gnew (ci := 10) hx hb hts in_X12 tyX12 tyX12_ok hown q1548 q1361 q94 hPF hG hA rfl (by decide) (by decide) gborn_X12 (Nat.le_of_ble_eq_true rfl) (Nat.le_of_ble_eq_true rfl) dX12_later_26 (fun q1 H h0q1 hG => ?_)
    replace hw := hw q1 h0q1
    obtain ⟨G2, eG2⟩ : ∃ z, z = gN G q1 10 0 := ⟨_, rfl⟩
    rw [← eG2] at hG
    replace hw := hw G2 eG2
    have hkq1 : gK G2 q1 = 10 := by rw [eG2]; exact gK_Nq
    refine lv_dup hx hb dX12_later_29 rfl ?_
    refine lv_aload_n hx hb dX12_later_30 rfl (lv_at hl 0 rfl) ?_
    refine gg hx hb hts hown hPF hG 10 0 rfl in_X12 (by decide) (by decide) (by decide) q1368 (fun _ h9 => h9) (gC_of (gK_mon hG.1.2 h0p0 (by decide)) (by decide)) (v := .int (gI G2 p0 0)) rfl dX12_later_31 ?_
    refine lv_aload_n hx hb dX12_later_34 rfl (lv_at hl 0 rfl) ?_
    refine gg hx hb hts hown hPF hG 10 1 rfl in_X12 (by decide) (by decide) (by decide) q1369 (fun _ h9 => h9) (gC_of (gK_mon hG.1.2 h0p0 (by decide)) (by decide)) (v := .int (gI G2 p0 1)) rfl dX12_later_35 ?_
    refine lv_aload_n hx hb dX12_later_38 rfl (lv_at hl 0 rfl) ?_
    refine gg hx hb hts hown hPF hG 10 2 rfl in_X12 (by decide) (by decide) (by decide) q1371 (fun _ h9 => h9) (gC_of (gK_mon hG.1.2 h0p0 (by decide)) (by decide)) (v := .int (gI G2 p0 2)) rfl dX12_later_39 ?_
    refine lv_aload_n hx hb dX12_later_42 rfl (lv_at hl 0 rfl) ?_
    refine gg hx hb hts hown hPF hG 10 3 rfl in_X12 (by decide) (by decide) (by decide) q1373 (fun _ h9 => h9) (gC_of (gK_mon hG.1.2 h0p0 (by decide)) (by decide)) (v := .int (gI G2 p0 3)) rfl dX12_later_43 ?_
    refine lv_iconst (v := 1) hx hb dX12_later_46 (by decide) ?_
    refine lv_isub hx hb dX12_later_47 ?_
    refine gc3v hA hG (va_runI (As := [.int (gI G2 p0 0), .int (gI G2 p0 1), .int (gI G2 p0 2), .int ((gI G2 p0 3) - 1)]) (rest := [.ref q1]) ⟨hx, hb, hml, hown, hts⟩ (gm_X12_init l E q1 (gI G2 p0 0) (gI G2 p0 1) (gI G2 p0 2) ((gI G2 p0 3) - 1) _ G2 hw _) (cwI 4 hts (lw_meth q1366) rfl rfl rfl (hts _ q94) (hts _ q1549) (hts _ q1365) rfl hd_X12_init ⟨Nat.le_of_ble_eq_true rfl, Nat.le_of_ble_eq_true rfl⟩) ⟨gblind, fun U hU hW => gpre hPF hA hG _ U hU hW⟩ rfl rfl hl.1 rfl (lv_room (Nat.le_of_ble_eq_true rfl)) dX12_later_48 ⟨(Nat.le_of_ble_eq_true rfl), (Nat.le_of_ble_eq_true rfl)⟩) (fun G3 H locs hw hmon hG => ?_)
    replace hw := hw hmon
    have hkq1 : gK G3 q1 = 10 := gK_mon hmon hkq1 (by decide)
    exact gretr (v := (some q1)) hx hb hr hlk hG (Or.inl ⟨_, rfl⟩) hw (Nat.le_of_ble_eq_true rfl) (Nat.le_of_ble_eq_true rfl) dX12_later_51
  · replace hw := hw.2 c_
    refine gnew (ci := 11) hx hb hts in_X13 tyX13 tyX13_ok hown q1534 q1535 q95 hPF hG hA rfl (by decide) (by decide) gborn_X13 (Nat.le_of_ble_eq_true rfl) (Nat.le_of_ble_eq_true rfl) dX12_later_8 (fun q4 H h0q4 hG => ?_)
    replace hw := hw q4 h0q4
    obtain ⟨G5, eG5⟩ : ∃ z, z = gN G q4 11 0 := ⟨_, rfl⟩
    rw [← eG5] at hG
    replace hw := hw G5 eG5
    have hkq4 : gK G5 q4 = 11 := by rw [eG5]; exact gK_Nq
    refine lv_dup hx hb dX12_later_11 rfl ?_
    refine lv_aload_n hx hb dX12_later_12 rfl (lv_at hl 0 rfl) ?_
    refine gg hx hb hts hown hPF hG 10 0 rfl in_X12 (by decide) (by decide) (by decide) q1368 (fun _ h9 => h9) (gC_of (gK_mon hG.1.2 h0p0 (by decide)) (by decide)) (v := .int (gI G5 p0 0)) rfl dX12_later_13 ?_
    refine lv_aload_n hx hb dX12_later_16 rfl (lv_at hl 0 rfl) ?_
    refine gg hx hb hts hown hPF hG 10 2 rfl in_X12 (by decide) (by decide) (by decide) q1371 (fun _ h9 => h9) (gC_of (gK_mon hG.1.2 h0p0 (by decide)) (by decide)) (v := .int (gI G5 p0 2)) rfl dX12_later_17 ?_
    refine gc3v hA hG (va_runI (As := [.int (gI G5 p0 0), .int (gI G5 p0 2)]) (rest := [.ref q4]) ⟨hx, hb, hml, hown, hts⟩ (gm_X13_init l E q4 (gI G5 p0 0) (gI G5 p0 2) _ G5 hw _) (cwI 2 hts (lw_meth q1538) rfl rfl rfl (hts _ q95) (hts _ q1536) (hts _ q1537) rfl hd_X13_init ⟨Nat.le_of_ble_eq_true rfl, Nat.le_of_ble_eq_true rfl⟩) ⟨gblind, fun U hU hW => gpre hPF hA hG _ U hU hW⟩ rfl rfl hl.1 rfl (lv_room (Nat.le_of_ble_eq_true rfl)) dX12_later_20 ⟨(Nat.le_of_ble_eq_true rfl), (Nat.le_of_ble_eq_true rfl)⟩) (fun G6 H locs hw hmon hG => ?_)
    replace hw := hw hmon
    have hkq4 : gK G6 q4 = 11 := gK_mon hmon hkq4 (by decide)
    refine lv_goto (tgt := 51) hx hb dX12_later_23 (by decide) ?_
    exact gretr (v := (some q4)) hx hb hr hlk hG (Or.inl ⟨_, rfl⟩) hw (Nat.le_of_ble_eq_true rfl) (Nat.le_of_ble_eq_true rfl) dX12_later_51
def gw_X13_stage (E : gE) (post : Option Nat → Gh → Prop) (p0 : Nat) (G : Gh) : Prop := gK G p0 = 11 ∧ (post (some (eZ E 3)) G)
theorem hd_X13_stage : yX13_stage.cls = RX13 ∧ yX13_stage.cls ≠ "java/lang/invoke/MethodHandle" ∧ yX13_stage.cls ≠ "java/lang/invoke/VarHandle" ∧ (parseMethodDescriptor yX13_stage.desc).map (fun d => d.parameters.length) = some 0 := by decide +kernel
theorem hdn_X13_stage : yX13_stage.cls ≠ "java/lang/invoke/MethodHandle" ∧ yX13_stage.cls ≠ "java/lang/invoke/VarHandle" ∧ (parseMethodDescriptor yX13_stage.desc).map (fun d => d.parameters.length) = some 0 := hd_X13_stage.2
theorem hdu_X13_stage : RX13 ≠ "java/lang/invoke/MethodHandle" ∧ RX13 ≠ "java/lang/invoke/VarHandle" ∧ (parseMethodDescriptor yX13_stage.desc).map (fun d => d.parameters.length) = some 0 := by decide +kernel
theorem hds_X13_stage : yX13_stage.name ≠ "<init>" ∧ (parseMethodDescriptor yX13_stage.desc).map (fun d => d.parameters.length) = some 0 := by decide +kernel
set_option maxHeartbeats 1000000 in
set_option maxRecDepth 100000 in
theorem gm_X13_stage (l : Launch) (E : gE) (p0 : Nat) (post : Option Nat → Gh → Prop) (G : Gh) (hw : gw_X13_stage E post p0 G) : gM l E yX13_stage (ws_ yX13_stage cX13_stage 1 (some (.object "WillowPrinters$Stage"))) ({ frames := 0, cells := 0, slots := 0, locals := 0 } : Room) 0 0 [.ref p0] G (gpr post) := by
  refine gof (by decide) (Nat.le_of_ble_eq_true rfl) ?_
  intro p e s m below meth c A ls hx hb hr hlk hml hown hin hts hPF hA hG hl
  have hl : lv_has ls 1 [(0, .ref p0)] := hl
  unfold gw_X13_stage at hw
  obtain ⟨G0, hG0⟩ : ∃ G0, G0 = G := ⟨_, rfl⟩
  have hG : gS E A G0 s.heap G s.heap [] := by rw [hG0]; exact hG
  rw [show gQ E A G (gpr post) = gQ E A G0 (gpr post) by rw [hG0]]
  have h0p0 := hw.1; rw [← hG0] at h0p0
  replace hw := hw.2
  refine va_gets (v := .ref (eZ E 3)) hx hb (hPF.z 4 rfl) hG.2 hown (hts _ q1203) (fun _ h9 => h9) dX13_stage_0 ?_
  exact gretr (v := (some (eZ E 3))) hx hb hr hlk hG (Or.inl ⟨_, rfl⟩) hw (Nat.le_of_ble_eq_true rfl) (Nat.le_of_ble_eq_true rfl) dX13_stage_3
def gw_X13_well (E : gE) (post : Int32 → Gh → Prop) (p0 : Nat) (G : Gh) : Prop := gK G p0 = 11 ∧ (post (gI G p0 0) G)
theorem hd_X13_well : yX13_well.cls = RX13 ∧ yX13_well.cls ≠ "java/lang/invoke/MethodHandle" ∧ yX13_well.cls ≠ "java/lang/invoke/VarHandle" ∧ (parseMethodDescriptor yX13_well.desc).map (fun d => d.parameters.length) = some 0 := by decide +kernel
theorem hdn_X13_well : yX13_well.cls ≠ "java/lang/invoke/MethodHandle" ∧ yX13_well.cls ≠ "java/lang/invoke/VarHandle" ∧ (parseMethodDescriptor yX13_well.desc).map (fun d => d.parameters.length) = some 0 := hd_X13_well.2
theorem hdu_X13_well : RX13 ≠ "java/lang/invoke/MethodHandle" ∧ RX13 ≠ "java/lang/invoke/VarHandle" ∧ (parseMethodDescriptor yX13_well.desc).map (fun d => d.parameters.length) = some 0 := by decide +kernel
theorem hds_X13_well : yX13_well.name ≠ "<init>" ∧ (parseMethodDescriptor yX13_well.desc).map (fun d => d.parameters.length) = some 0 := by decide +kernel
set_option maxHeartbeats 1000000 in
set_option maxRecDepth 100000 in
theorem gm_X13_well (l : Launch) (E : gE) (p0 : Nat) (post : Int32 → Gh → Prop) (G : Gh) (hw : gw_X13_well E post p0 G) : gM l E yX13_well (ws_ yX13_well cX13_well 1 (some .int)) ({ frames := 0, cells := 0, slots := 0, locals := 0 } : Room) 0 0 [.ref p0] G (gpi post) := by
  refine gof (by decide) (Nat.le_of_ble_eq_true rfl) ?_
  intro p e s m below meth c A ls hx hb hr hlk hml hown hin hts hPF hA hG hl
  have hl : lv_has ls 1 [(0, .ref p0)] := hl
  unfold gw_X13_well at hw
  obtain ⟨G0, hG0⟩ : ∃ G0, G0 = G := ⟨_, rfl⟩
  have hG : gS E A G0 s.heap G s.heap [] := by rw [hG0]; exact hG
  rw [show gQ E A G (gpi post) = gQ E A G0 (gpi post) by rw [hG0]]
  have h0p0 := hw.1; rw [← hG0] at h0p0
  replace hw := hw.2
  refine lv_aload_n hx hb dX13_well_0 rfl (lv_at hl 0 rfl) ?_
  refine gg hx hb hts hown hPF hG 11 0 rfl in_X13 (by decide) (by decide) (by decide) q1540 (fun _ h9 => h9) (gC_of (gK_mon hG.1.2 h0p0 (by decide)) (by decide)) (v := .int (gI G p0 0)) rfl dX13_well_1 ?_
  exact greti hx hb hr hlk hG rfl hw (Nat.le_of_ble_eq_true rfl) (Nat.le_of_ble_eq_true rfl) dX13_well_4
def gw_X7_stage (E : gE) (post : Option Nat → Gh → Prop) (p0 : Nat) (G : Gh) : Prop := gK G p0 = 6 ∧ (post (some (eZ E 0)) G)
theorem hd_X7_stage : yX7_stage.cls = RX7 ∧ yX7_stage.cls ≠ "java/lang/invoke/MethodHandle" ∧ yX7_stage.cls ≠ "java/lang/invoke/VarHandle" ∧ (parseMethodDescriptor yX7_stage.desc).map (fun d => d.parameters.length) = some 0 := by decide +kernel
theorem hdn_X7_stage : yX7_stage.cls ≠ "java/lang/invoke/MethodHandle" ∧ yX7_stage.cls ≠ "java/lang/invoke/VarHandle" ∧ (parseMethodDescriptor yX7_stage.desc).map (fun d => d.parameters.length) = some 0 := hd_X7_stage.2
theorem hdu_X7_stage : RX7 ≠ "java/lang/invoke/MethodHandle" ∧ RX7 ≠ "java/lang/invoke/VarHandle" ∧ (parseMethodDescriptor yX7_stage.desc).map (fun d => d.parameters.length) = some 0 := by decide +kernel
theorem hds_X7_stage : yX7_stage.name ≠ "<init>" ∧ (parseMethodDescriptor yX7_stage.desc).map (fun d => d.parameters.length) = some 0 := by decide +kernel
set_option maxHeartbeats 1000000 in
set_option maxRecDepth 100000 in
theorem gm_X7_stage (l : Launch) (E : gE) (p0 : Nat) (post : Option Nat → Gh → Prop) (G : Gh) (hw : gw_X7_stage E post p0 G) : gM l E yX7_stage (ws_ yX7_stage cX7_stage 1 (some (.object "WillowPrinters$Stage"))) ({ frames := 0, cells := 0, slots := 0, locals := 0 } : Room) 0 0 [.ref p0] G (gpr post) := by
  refine gof (by decide) (Nat.le_of_ble_eq_true rfl) ?_
  intro p e s m below meth c A ls hx hb hr hlk hml hown hin hts hPF hA hG hl
  have hl : lv_has ls 1 [(0, .ref p0)] := hl
  unfold gw_X7_stage at hw
  obtain ⟨G0, hG0⟩ : ∃ G0, G0 = G := ⟨_, rfl⟩
  have hG : gS E A G0 s.heap G s.heap [] := by rw [hG0]; exact hG
  rw [show gQ E A G (gpr post) = gQ E A G0 (gpr post) by rw [hG0]]
  have h0p0 := hw.1; rw [← hG0] at h0p0
  replace hw := hw.2
  refine va_gets (v := .ref (eZ E 0)) hx hb (hPF.z 1 rfl) hG.2 hown (hts _ q1211) (fun _ h9 => h9) dX7_stage_0 ?_
  exact gretr (v := (some (eZ E 0))) hx hb hr hlk hG (Or.inl ⟨_, rfl⟩) hw (Nat.le_of_ble_eq_true rfl) (Nat.le_of_ble_eq_true rfl) dX7_stage_3
def gw_X20_well (E : gE) (post : Int32 → Gh → Prop) (p0 : Nat) (G : Gh) : Prop := post (-1) G
theorem hd_X20_well : yX20_well.cls = RX20 ∧ yX20_well.cls ≠ "java/lang/invoke/MethodHandle" ∧ yX20_well.cls ≠ "java/lang/invoke/VarHandle" ∧ (parseMethodDescriptor yX20_well.desc).map (fun d => d.parameters.length) = some 0 := by decide +kernel
theorem hdn_X20_well : yX20_well.cls ≠ "java/lang/invoke/MethodHandle" ∧ yX20_well.cls ≠ "java/lang/invoke/VarHandle" ∧ (parseMethodDescriptor yX20_well.desc).map (fun d => d.parameters.length) = some 0 := hd_X20_well.2
theorem hdu_X20_well : RX20 ≠ "java/lang/invoke/MethodHandle" ∧ RX20 ≠ "java/lang/invoke/VarHandle" ∧ (parseMethodDescriptor yX20_well.desc).map (fun d => d.parameters.length) = some 0 := by decide +kernel
theorem hds_X20_well : yX20_well.name ≠ "<init>" ∧ (parseMethodDescriptor yX20_well.desc).map (fun d => d.parameters.length) = some 0 := by decide +kernel
set_option maxHeartbeats 1000000 in
set_option maxRecDepth 100000 in
theorem gm_X20_well (l : Launch) (E : gE) (p0 : Nat) (post : Int32 → Gh → Prop) (G : Gh) (hw : gw_X20_well E post p0 G) : gM l E yX20_well (ws_ yX20_well cX20_well 1 (some .int)) ({ frames := 0, cells := 0, slots := 0, locals := 0 } : Room) 0 0 [.ref p0] G (gpi post) := by
  refine gof (by decide) (Nat.le_of_ble_eq_true rfl) ?_
  intro p e s m below meth c A ls hx hb hr hlk hml hown hin hts hPF hA hG hl
  have hl : lv_has ls 1 [(0, .ref p0)] := hl
  unfold gw_X20_well at hw
  obtain ⟨G0, hG0⟩ : ∃ G0, G0 = G := ⟨_, rfl⟩
  have hG : gS E A G0 s.heap G s.heap [] := by rw [hG0]; exact hG
  rw [show gQ E A G (gpi post) = gQ E A G0 (gpi post) by rw [hG0]]
  refine lv_iconst (v := (-1)) hx hb dX20_well_0 (by decide) ?_
  exact greti hx hb hr hlk hG rfl hw (Nat.le_of_ble_eq_true rfl) (Nat.le_of_ble_eq_true rfl) dX20_well_1
