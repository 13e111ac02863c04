/-! walks over the ghost heap: walkX -/
set_option maxRecDepth 100000
def gw_X1_init (E : gE) (post : Gh → Prop) (p0 : Nat) (G : Gh) : Prop := gK G p0 = 1 ∧ (∀ q1, gK G q1 = 0 → ∀ G2, G2 = gN G q1 2 0 → (gw_X2_init E (fun G3 => gMon G2 G3 → (∀ G4, G4 = gsR G3 p0 0 (some q1) → (∀ q5, gK G4 q5 = 0 → ∀ G6, G6 = gN G4 q5 18 0 → (gw_J17_init E (fun G7 => gMon G6 G7 → (∀ G8, G8 = gsR G7 p0 1 (some q5) → (∀ q9, gK G8 q9 = 0 → ∀ G10, G10 = gN G8 q9 16 0 → (gw_J8_init E (fun G11 => gMon G10 G11 → (∀ G12, G12 = gsR G11 p0 3 (some q9) → (∀ G13, G13 = gsR G12 p0 4 (some (eZ E 10)) → (∀ G14, G14 = gsI G13 p0 6 (-1) → (post G14))))) q9 G10)))) q5 G6)))) q1 G2))
theorem hd_X1_init : yX1_init.cls ≠ "java/lang/invoke/MethodHandle" ∧ yX1_init.cls ≠ "java/lang/invoke/VarHandle" ∧ (parseMethodDescriptor yX1_init.desc).map (fun d => d.parameters.length) = some 0 := by decide +kernel
set_option maxHeartbeats 1000000 in
set_option maxRecDepth 100000 in
theorem gm_X1_init (l : Launch) (E : gE) (p0 : Nat) (post : Gh → Prop) (G : Gh) (hw : gw_X1_init E post p0 G) : gM l E yX1_init (ws_ yX1_init cX1_init 1 none) ({ frames := 5, cells := 13, slots := 506, locals := 111 } : Room) 13 506 [.ref p0] G (gpv post) := by
  refine gof (by decide) (Nat.le_of_ble_eq_true rfl) ?_
  intro p e s m below meth c A ls hx hb hr hlk hml hown hin hts hPF hA hG hl
  have hl : lv_has ls 1 [(0, .ref p0)] := hl
  unfold gw_X1_init at hw
  obtain ⟨G0, hG0⟩ : ∃ G0, G0 = G := ⟨_, rfl⟩
  have hG : gS E A G0 s.heap G s.heap [] := by rw [hG0]; exact hG
  rw [show gQ E A G (gpv post) = gQ E A G0 (gpv post) by rw [hG0]]
  have h0p0 := hw.1; rw [← hG0] at h0p0
  replace hw := hw.2
  refine lv_aload_n hx hb dX1_init_0 rfl (lv_at hl 0 rfl) ?_
  refine W.objInit hx hb hown (hts _ q104) (hts _ q105) (hts _ q106) (g := F0 m 1 ls (.ref p0 :: [])) rfl (hl.1.trans hml.symm) rfl dX1_init_1 (Nat.le_of_ble_eq_true rfl) (by (try simp only [List.map, va_rf_cat, gcat_i, gcat_r, gcat_l, gcat_d, gcat_f, gcat_n]); exact Nat.le_of_ble_eq_true rfl) ?_
  refine W.eq (g2 := F0 m 4 ls []) rfl ?_
  refine lv_aload_n hx hb dX1_init_4 rfl (lv_at hl 0 rfl) ?_
  refine gnew (ci := 2) hx hb hts in_X2 tyX2 tyX2_ok hown q107 q108 q56 hPF hG hA rfl (by decide) (by decide) gborn_X2 (Nat.le_of_ble_eq_true rfl) (Nat.le_of_ble_eq_true rfl) dX1_init_5 (fun q1 H h0q1 hG => ?_)
  replace hw := hw q1 h0q1
  obtain ⟨G2, eG2⟩ : ∃ z, z = gN G q1 2 0 := ⟨_, rfl⟩
  rw [← eG2] at hG
  replace hw := hw G2 eG2
  have hkq1 : gK G2 q1 = 2 := by rw [eG2]; exact gK_Nq
  refine lv_dup hx hb dX1_init_8 rfl ?_
  refine gc3v hA hG (va_runIN (As := []) (rest := [.ref q1, .ref p0]) ⟨hx, hb, hml, hown, hts⟩ (gm_X2_init l E q1 _ G2 hw _) ⟨va_cnB 0 hts (lw_meth q111) rfl rfl rfl (hPF.w q109 rfl) (hts _ q56) hd_X2_init ⟨Nat.le_of_ble_eq_true rfl, Nat.le_of_ble_eq_true rfl⟩, rfl, hts _ q110⟩ ⟨gblind, fun U hU hW => gpre hPF hA hG _ U hU hW⟩ rfl rfl hl.1 rfl (lv_room (Nat.le_of_ble_eq_true rfl)) dX1_init_9 ⟨(Nat.le_of_ble_eq_true rfl), (Nat.le_of_ble_eq_true rfl)⟩) (fun G3 H locs hw hmon hG => ?_)
  replace hw := hw hmon
  have hkq1 : gK G3 q1 = 2 := gK_mon hmon hkq1 (by decide)
  refine gp hx hb hts hown hPF hG 1 0 rfl in_X1 tyX1 tyX1_ok nmX1 (by decide) (by decide) (by decide) q539 (fun _ h9 => h9) rfl (gK_mon hG.1.2 h0p0 (by decide)) (v := va_rf (some q1)) (narrow_rf _) (fits_rf _ (by decide)) (G' := gsR G3 p0 0 (some q1)) rfl rfl grR_off (Nat.le_of_ble_eq_true rfl) (gFs_R 1 0 (fun _ _ _ => rfl)) dX1_init_12 (fun H locs hG => ?_)
  obtain ⟨G4, eG4⟩ : ∃ z, z = gsR G3 p0 0 (some q1) := ⟨_, rfl⟩
  rw [← eG4] at hG
  replace hw := hw G4 eG4
  have hkq1 : gK G4 q1 = 2 := by rw [eG4]; exact hkq1
  refine lv_aload_n hx hb dX1_init_15 rfl (lv_at hl 0 rfl) ?_
  refine gnew (ci := 18) hx hb hts in_J17 tyJ17 tyJ17_ok hown q519 q520 q76 hPF hG hA rfl (by decide) (by decide) gborn_J17 (Nat.le_of_ble_eq_true rfl) (Nat.le_of_ble_eq_true rfl) dX1_init_16 (fun q5 H h0q5 hG => ?_)
  replace hw := hw q5 h0q5
  obtain ⟨G6, eG6⟩ : ∃ z, z = gN G4 q5 18 0 := ⟨_, rfl⟩
  rw [← eG6] at hG
  replace hw := hw G6 eG6
  have hkq1 : gK G6 q1 = 2 := by rw [eG6]; exact gK_N hkq1 (by decide) h0q5
  have hkq5 : gK G6 q5 = 18 := by rw [eG6]; exact gK_Nq
  refine lv_dup hx hb dX1_init_19 rfl ?_
  refine gc3v hA hG (va_runI (As := []) (rest := [.ref q5, .ref p0]) ⟨hx, hb, hml, hown, hts⟩ (gm_J17_init l E q5 _ G6 hw _) (cwI 0 hts (lw_meth q523) rfl rfl rfl (hts _ q76) (hts _ q521) (hts _ q522) rfl hd_J17_init ⟨Nat.le_of_ble_eq_true rfl, Nat.le_of_ble_eq_true rfl⟩) ⟨gblind, fun U hU hW => gpre hPF hA hG _ U hU hW⟩ rfl rfl hl.1 rfl (lv_room (Nat.le_of_ble_eq_true rfl)) dX1_init_20 ⟨(Nat.le_of_ble_eq_true rfl), (Nat.le_of_ble_eq_true rfl)⟩) (fun G7 H locs hw hmon hG => ?_)
  replace hw := hw hmon
  have hkq1 : gK G7 q1 = 2 := gK_mon hmon hkq1 (by decide)
  have hkq5 : gK G7 q5 = 18 := gK_mon hmon hkq5 (by decide)
  refine gpF hx hb hts hown hPF hG 1 1 rfl in_X1 tyX1 tyX1_ok nmX1 (by decide) (by decide) (by decide) q540 (fun _ h9 => h9) rfl hin.2 rfl (gK_mon hG.1.2 h0p0 (by decide)) (v := va_rf (some q5)) (narrow_rf _) (fits_rf _ (by decide)) (G' := gsR G7 p0 1 (some q5)) rfl rfl grR_off (Nat.le_of_ble_eq_true rfl) (gFs_R 1 1 (fun _ _ _ => rfl)) dX1_init_23 (fun H locs hG => ?_)
  obtain ⟨G8, eG8⟩ : ∃ z, z = gsR G7 p0 1 (some q5) := ⟨_, rfl⟩
  rw [← eG8] at hG
  replace hw := hw G8 eG8
  have hkq1 : gK G8 q1 = 2 := by rw [eG8]; exact hkq1
  have hkq5 : gK G8 q5 = 18 := by rw [eG8]; exact hkq5
  refine lv_aload_n hx hb dX1_init_26 rfl (lv_at hl 0 rfl) ?_
  refine gnew (ci := 16) hx hb hts in_J8 tyJ8 tyJ8_ok hown q536 q177 q65 hPF hG hA rfl (by decide) (by decide) gborn_J8 (Nat.le_of_ble_eq_true rfl) (Nat.le_of_ble_eq_true rfl) dX1_init_27 (fun q9 H h0q9 hG => ?_)
  replace hw := hw q9 h0q9
  obtain ⟨G10, eG10⟩ : ∃ z, z = gN G8 q9 16 0 := ⟨_, rfl⟩
  rw [← eG10] at hG
  replace hw := hw G10 eG10
  have hkq1 : gK G10 q1 = 2 := by rw [eG10]; exact gK_N hkq1 (by decide) h0q9
  have hkq5 : gK G10 q5 = 18 := by rw [eG10]; exact gK_N hkq5 (by decide) h0q9
  have hkq9 : gK G10 q9 = 16 := by rw [eG10]; exact gK_Nq
  refine lv_dup hx hb dX1_init_30 rfl ?_
  refine gc3v hA hG (va_runI (As := []) (rest := [.ref q9, .ref p0]) ⟨hx, hb, hml, hown, hts⟩ (gm_J8_init l E q9 _ G10 hw _) (cwI 0 hts (lw_meth q180) rfl rfl rfl (hts _ q65) (hts _ q537) (hts _ q179) rfl hd_J8_init ⟨Nat.le_of_ble_eq_true rfl, Nat.le_of_ble_eq_true rfl⟩) ⟨gblind, fun U hU hW => gpre hPF hA hG _ U hU hW⟩ rfl rfl hl.1 rfl (lv_room (Nat.le_of_ble_eq_true rfl)) dX1_init_31 ⟨(Nat.le_of_ble_eq_true rfl), (Nat.le_of_ble_eq_true rfl)⟩) (fun G11 H locs hw hmon hG => ?_)
  replace hw := hw hmon
  have hkq1 : gK G11 q1 = 2 := gK_mon hmon hkq1 (by decide)
  have hkq5 : gK G11 q5 = 18 := gK_mon hmon hkq5 (by decide)
  have hkq9 : gK G11 q9 = 16 := gK_mon hmon hkq9 (by decide)
  refine gp hx hb hts hown hPF hG 1 3 rfl in_X1 tyX1 tyX1_ok nmX1 (by decide) (by decide) (by decide) q542 (fun _ h9 => h9) rfl (gK_mon hG.1.2 h0p0 (by decide)) (v := va_rf (some q9)) (narrow_rf _) (fits_rf _ (by decide)) (G' := gsR G11 p0 3 (some q9)) rfl rfl grR_off (Nat.le_of_ble_eq_true rfl) (gFs_R 1 3 (fun _ _ _ => rfl)) dX1_init_34 (fun H locs hG => ?_)
  obtain ⟨G12, eG12⟩ : ∃ z, z = gsR G11 p0 3 (some q9) := ⟨_, rfl⟩
  rw [← eG12] at hG
  replace hw := hw G12 eG12
  have hkq1 : gK G12 q1 = 2 := by rw [eG12]; exact hkq1
  have hkq5 : gK G12 q5 = 18 := by rw [eG12]; exact hkq5
  have hkq9 : gK G12 q9 = 16 := by rw [eG12]; exact hkq9
  refine lv_aload_n hx hb dX1_init_37 rfl (lv_at hl 0 rfl) ?_
  refine va_ldcS hx hb hown (hPF.t 0 rfl) dX1_init_38 ?_
  refine gp hx hb hts hown hPF hG 1 4 rfl in_X1 tyX1 tyX1_ok nmX1 (by decide) (by decide) (by decide) q543 (fun _ h9 => h9) rfl (gK_mon hG.1.2 h0p0 (by decide)) (v := va_rf (some (eZ E 10))) (narrow_rf _) (fits_rf _ (by decide)) (G' := gsR G12 p0 4 (some (eZ E 10))) rfl rfl grR_off (Nat.le_of_ble_eq_true rfl) (gFs_R 1 4 (fun _ _ _ => rfl)) dX1_init_40 (fun H locs hG => ?_)
  obtain ⟨G13, eG13⟩ : ∃ z, z = gsR G12 p0 4 (some (eZ E 10)) := ⟨_, rfl⟩
  rw [← eG13] at hG
  replace hw := hw G13 eG13
  have hkq1 : gK G13 q1 = 2 := by rw [eG13]; exact hkq1
  have hkq5 : gK G13 q5 = 18 := by rw [eG13]; exact hkq5
  have hkq9 : gK G13 q9 = 16 := by rw [eG13]; exact hkq9
  refine lv_aload_n hx hb dX1_init_43 rfl (lv_at hl 0 rfl) ?_
  refine lv_iconst (v := (-1)) hx hb dX1_init_44 (by decide) ?_
  refine gp hx hb hts hown hPF hG 1 6 rfl in_X1 tyX1 tyX1_ok nmX1 (by decide) (by decide) (by decide) q545 (fun _ h9 => h9) rfl (gK_mon hG.1.2 h0p0 (by decide)) (v := .int (-1)) rfl rfl (G' := gsI G13 p0 6 (-1)) rfl rfl grI_off (Nat.le_of_ble_eq_true rfl) (gFs_I 1 6 (fun _ _ _ => rfl)) dX1_init_45 (fun H locs hG => ?_)
  obtain ⟨G14, eG14⟩ : ∃ z, z = gsI G13 p0 6 (-1) := ⟨_, rfl⟩
  rw [← eG14] at hG
  replace hw := hw G14 eG14
  have hkq1 : gK G14 q1 = 2 := by rw [eG14]; exact hkq1
  have hkq5 : gK G14 q5 = 18 := by rw [eG14]; exact hkq5
  have hkq9 : gK G14 q9 = 16 := by rw [eG14]; exact hkq9
  exact gretv hx hb hr hlk hG hw (Nat.le_of_ble_eq_true rfl) (Nat.le_of_ble_eq_true rfl) dX1_init_48
def gw_X1_clear (E : gE) (post : Int32 → Gh → Prop) (p0 : Nat) (G : Gh) : Prop := gK G p0 = 1 ∧ (∃ q1, (gR G p0 0) = some q1 ∧ (gC G q1 = 2 ∧ (∀ q3, gK G q3 = 0 → ∀ G4, G4 = gN G q3 2 0 → (gw_X2_init E (fun G5 => gMon G4 G5 → (∀ G6, G6 = gsR G5 p0 0 (some q3) → (∃ q7, (gR G6 p0 1) = some q7 ∧ (gC G6 q7 = 18 ∧ (gw_J17_clear E (fun G9 => gMon G6 G9 → (post (gI G q1 4) G9)) q7 G6))))) q3 G4))))
theorem hd_X1_clear : yX1_clear.cls = RX1 ∧ yX1_clear.cls ≠ "java/lang/invoke/MethodHandle" ∧ yX1_clear.cls ≠ "java/lang/invoke/VarHandle" ∧ (parseMethodDescriptor yX1_clear.desc).map (fun d => d.parameters.length) = some 0 := by decide +kernel
theorem hdn_X1_clear : yX1_clear.cls ≠ "java/lang/invoke/MethodHandle" ∧ yX1_clear.cls ≠ "java/lang/invoke/VarHandle" ∧ (parseMethodDescriptor yX1_clear.desc).map (fun d => d.parameters.length) = some 0 := hd_X1_clear.2
theorem hdu_X1_clear : RX1 ≠ "java/lang/invoke/MethodHandle" ∧ RX1 ≠ "java/lang/invoke/VarHandle" ∧ (parseMethodDescriptor yX1_clear.desc).map (fun d => d.parameters.length) = some 0 := by decide +kernel
theorem hds_X1_clear : yX1_clear.name ≠ "<init>" ∧ (parseMethodDescriptor yX1_clear.desc).map (fun d => d.parameters.length) = some 0 := by decide +kernel
set_option maxHeartbeats 1000000 in
set_option maxRecDepth 100000 in
theorem gm_X1_clear (l : Launch) (E : gE) (p0 : Nat) (post : Int32 → Gh → Prop) (G : Gh) (hw : gw_X1_clear E post p0 G) : gM l E yX1_clear (ws_ yX1_clear cX1_clear 2 (some .int)) ({ frames := 5, cells := 9, slots := 282, locals := 111 } : Room) 9 282 [.ref p0] G (gpi post) := by
  refine gof (by decide) (Nat.le_of_ble_eq_true rfl) ?_
  intro p e s m below meth c A ls hx hb hr hlk hml hown hin hts hPF hA hG hl
  have hl : lv_has ls 2 [(0, .ref p0)] := hl
  unfold gw_X1_clear at hw
  obtain ⟨G0, hG0⟩ : ∃ G0, G0 = G := ⟨_, rfl⟩
  have hG : gS E A G0 s.heap G s.heap [] := by rw [hG0]; exact hG
  rw [show gQ E A G (gpi post) = gQ E A G0 (gpi post) by rw [hG0]]
  have h0p0 := hw.1; rw [← hG0] at h0p0
  replace hw := hw.2
  refine lv_aload_n hx hb dX1_clear_0 rfl (lv_at hl 0 rfl) ?_
  refine gg hx hb hts hown hPF hG 1 0 rfl in_X1 (by decide) (by decide) (by decide) q539 (fun _ h9 => h9) (gC_of (gK_mon hG.1.2 h0p0 (by decide)) (by decide)) (v := va_rf (gR G p0 0)) rfl dX1_clear_1 ?_
  obtain ⟨q1, hq1, hw⟩ := hw
  refine W.eq (g2 := F0 m 4 ls [.ref q1]) (by rw [hq1]; rfl) ?_
  have hk2 := hw.1
  replace hw := hw.2
  refine ggN hx hb hts hown hPF hG 2 4 rfl in_X2 (by decide) (by decide) (by decide) q471 (fun _ h9 => h9) hk2 (v := .int (gI G q1 4)) rfl dX1_clear_4 ?_
  refine lv_istore_n (i := 1) (lv' := [(1, .int (gI G q1 4)), (0, .ref p0)]) hx hb dX1_clear_7 rfl hl (by decide) rfl (fun ls hl => ?_)
  refine lv_aload_n hx hb dX1_clear_8 rfl (lv_at hl 1 rfl) ?_
  refine gnew (ci := 2) hx hb hts in_X2 tyX2 tyX2_ok hown q107 q108 q56 hPF hG hA rfl (by decide) (by decide) gborn_X2 (Nat.le_of_ble_eq_true rfl) (Nat.le_of_ble_eq_true rfl) dX1_clear_9 (fun q3 H h0q3 hG => ?_)
  replace hw := hw q3 h0q3
  obtain ⟨G4, eG4⟩ : ∃ z, z = gN G q3 2 0 := ⟨_, rfl⟩
  rw [← eG4] at hG
  replace hw := hw G4 eG4
  have hk2 : gC G4 q1 = 2 := by rw [eG4]; exact gC_N hk2 (by decide) h0q3
  have hkq3 : gK G4 q3 = 2 := by rw [eG4]; exact gK_Nq
  refine lv_dup hx hb dX1_clear_12 rfl ?_
  refine gc3v hA hG (va_runIN (As := []) (rest := [.ref q3, .ref p0]) ⟨hx, hb, hml, hown, hts⟩ (gm_X2_init l E q3 _ G4 hw _) ⟨va_cnB 0 hts (lw_meth q111) rfl rfl rfl (hPF.w q109 rfl) (hts _ q56) hd_X2_init ⟨Nat.le_of_ble_eq_true rfl, Nat.le_of_ble_eq_true rfl⟩, rfl, hts _ q110⟩ ⟨gblind, fun U hU hW => gpre hPF hA hG _ U hU hW⟩ rfl rfl hl.1 rfl (lv_room (Nat.le_of_ble_eq_true rfl)) dX1_clear_13 ⟨(Nat.le_of_ble_eq_true rfl), (Nat.le_of_ble_eq_true rfl)⟩) (fun G5 H locs hw hmon hG => ?_)
  replace hw := hw hmon
  have hk2 : gC G5 q1 = 2 := gC_mon hmon hk2 (by decide)
  have hkq3 : gK G5 q3 = 2 := gK_mon hmon hkq3 (by decide)
  refine gp hx hb hts hown hPF hG 1 0 rfl in_X1 tyX1 tyX1_ok nmX1 (by decide) (by decide) (by decide) q539 (fun _ h9 => h9) rfl (gK_mon hG.1.2 h0p0 (by decide)) (v := va_rf (some q3)) (narrow_rf _) (fits_rf _ (by decide)) (G' := gsR G5 p0 0 (some q3)) rfl rfl grR_off (Nat.le_of_ble_eq_true rfl) (gFs_R 1 0 (fun _ _ _ => rfl)) dX1_clear_16 (fun H locs hG => ?_)
  obtain ⟨G6, eG6⟩ : ∃ z, z = gsR G5 p0 0 (some q3) := ⟨_, rfl⟩
  rw [← eG6] at hG
  replace hw := hw G6 eG6
  have hk2 : gC G6 q1 = 2 := by rw [eG6]; exact hk2
  have hkq3 : gK G6 q3 = 2 := by rw [eG6]; exact hkq3
  refine lv_aload_n hx hb dX1_clear_19 rfl (lv_at hl 1 rfl) ?_
  refine gg hx hb hts hown hPF hG 1 1 rfl in_X1 (by decide) (by decide) (by decide) q540 (fun _ h9 => h9) (gC_of (gK_mon hG.1.2 h0p0 (by decide)) (by decide)) (v := va_rf (gR G6 p0 1)) rfl dX1_clear_20 ?_
  obtain ⟨q7, hq7, hw⟩ := hw
  refine W.eq (g2 := F0 m 23 ls [.ref q7]) (by rw [hq7]; rfl) ?_
  have hk8 := hw.1
  replace hw := hw.2
  refine gc3v hA hG (va_runV (As := []) (rest := []) ⟨hx, hb, hml, hown, hts⟩ (gm_J17_clear l E q7 _ G6 hw _) (cwV 0 hts (lw_V q568 q569 q570 q76 q571) rfl rfl rfl hd_J17_clear ⟨Nat.le_of_ble_eq_true rfl, Nat.le_of_ble_eq_true rfl⟩) ⟨gblind, grecv hPF hG hk8 (by decide) (by decide) rfl, fun U hU hW => gpre hPF hA hG _ U hU hW⟩ rfl rfl hl.1 rfl (lv_room (Nat.le_of_ble_eq_true rfl)) dX1_clear_23 ⟨(Nat.le_of_ble_eq_true rfl), (Nat.le_of_ble_eq_true rfl)⟩) (fun G9 H locs hw hmon hG => ?_)
  replace hw := hw hmon
  have hk2 : gC G9 q1 = 2 := gC_mon hmon hk2 (by decide)
  have hkq3 : gK G9 q3 = 2 := gK_mon hmon hkq3 (by decide)
  have hk8 : gC G9 q7 = 18 := gC_mon hmon hk8 (by decide)
  refine lv_iload_n hx hb dX1_clear_26 rfl (lv_at hl 0 rfl) ?_
  exact greti hx hb hr hlk hG rfl hw (Nat.le_of_ble_eq_true rfl) (Nat.le_of_ble_eq_true rfl) dX1_clear_27
def gw_X1_sum_L46 (E : gE) (p0 : Nat) (p1 : Nat) (p2 : Nat) (post : Int32 → Gh → Prop) (k5 : Int32 → Int32 → Gh → Prop) (x4 : Int32) (t0 : Int32) (t1 : Int32) (G : Gh) : Prop := k5 (t1 + t0) (x4 + 1) G
def gw_X1_sum_L5 (E : gE) (p0 : Nat) (p1 : Nat) (p2 : Nat) (post : Int32 → Gh → Prop) : Nat → Int32 → Int32 → Gh → Prop
  | 0, _, _, _ => False
  | n + 1, x3, x4, G => gw_J2_size E (fun r2 G1 => gMon G G1 → ((r2 ≤ x4 → (post x3 G1)) ∧ (¬ r2 ≤ x4 → (gw_J2_get E (fun r4 G3 => gMon G1 G3 → (∃ q5, r4 = some q5 ∧ (gw_is E (fun r7 G6 => gMon G3 G6 → ((r7 = 0 → (gw_X1_sum_L46 E p0 p1 p2 post (fun x3' x4' G' => gw_X1_sum_L5 E p0 p1 p2 post  n x3' x4' G') x4 0 x3 G6)) ∧ (¬ r7 = 0 → (gw_J2_get E (fun r9 G8 => gMon G6 G8 → (∃ q10, r9 = some q10 ∧ (gw_of E (fun r12 G11 => gMon G8 G11 → (gw_X1_sum_L46 E p0 p1 p2 post (fun x3' x4' G' => gw_X1_sum_L5 E p0 p1 p2 post  n x3' x4' G') x4 r12 x3 G11)) p2 q10 G8))) p0 x4 G6)))) p1 q5 G3))) p0 x4 G1)))) p0 G
def gw_X1_sum (E : gE) (post : Int32 → Gh → Prop) (p0 : Nat) (p1 : Nat) (p2 : Nat) (G : Gh) : Prop := gK G p0 = 14 ∧ ((∃ n, gw_X1_sum_L5 E p0 p1 p2 post  n 0 0 G))
theorem hd_X1_sum : yX1_sum.cls ≠ "java/lang/invoke/MethodHandle" ∧ yX1_sum.cls ≠ "java/lang/invoke/VarHandle" ∧ (parseMethodDescriptor yX1_sum.desc).map (fun d => d.parameters.length) = some 3 := by decide +kernel
set_option maxHeartbeats 1000000 in
set_option maxRecDepth 100000 in
theorem gm_X1_sum (l : Launch) (E : gE) (p0 : Nat) (p1 : Nat) (p2 : Nat) (post : Int32 → Gh → Prop) (G : Gh) (hw : gw_X1_sum E post p0 p1 p2 G) : gM l E yX1_sum (ws_ yX1_sum cX1_sum 5 (some .int)) ({ frames := 3, cells := 0, slots := 0, locals := 161 } : Room) 0 0 [.ref p0, .ref p1, .ref p2] G (gpi post) := by
  refine gof (by decide) (Nat.le_of_ble_eq_true rfl) ?_
  intro p e s m below meth c A ls hx hb hr hlk hml hown hin hts hPF hA hG hl
  have hl : lv_has ls 5 [(0, .ref p0), (1, .ref p1), (2, .ref p2)] := hl
  unfold gw_X1_sum at hw
  obtain ⟨G0, hG0⟩ : ∃ G0, G0 = G := ⟨_, rfl⟩
  have hG : gS E A G0 s.heap G s.heap [] := by rw [hG0]; exact hG
  rw [show gQ E A G (gpi post) = gQ E A G0 (gpi post) by rw [hG0]]
  have h0p0 := hw.1; rw [← hG0] at h0p0
  replace hw := hw.2
  have hL46 : ∀ (k5 : Int32 → Int32 → Gh → Prop) (hk5 : ∀ (x3 : Int32) (x4 : Int32) (G : Gh) (H : Heap) (locs : List Loc) (ls : Array Slot), gS E A G0 s.heap G H locs → lv_has ls 5 [(0, .ref p0), (1, .ref p1), (2, .ref p2), (3, .int x3), (4, .int x4)] → k5 x3 x4 G → W p l e (headSpec (ws_ yX1_sum cX1_sum 5 (some .int)) ({ frames := 3, cells := 0, slots := 0, locals := 161 } : Room)).room s m ([.ref p0, .ref p1, .ref p2] : List Value).toArray below meth c H locs 0 0 (MQ below (gQ E A G0 (gpi post)) ([.ref p0, .ref p1, .ref p2] : List Value).toArray s 0 0 A) (F0 m 5 ls [])) (x4 : Int32) (t0 : Int32) (t1 : Int32) (G : Gh) (H : Heap) (locs : List Loc) (ls : Array Slot), gS E A G0 s.heap G H locs → lv_has ls 5 [(0, .ref p0), (1, .ref p1), (2, .ref p2), (4, .int x4)] → gw_X1_sum_L46 E p0 p1 p2 post k5 x4 t0 t1 G → W p l e (headSpec (ws_ yX1_sum cX1_sum 5 (some .int)) ({ frames := 3, cells := 0, slots := 0, locals := 161 } : Room)).room s m ([.ref p0, .ref p1, .ref p2] : List Value).toArray below meth c H locs 0 0 (MQ below (gQ E A G0 (gpi post)) ([.ref p0, .ref p1, .ref p2] : List Value).toArray s 0 0 A) (F0 m 46 ls [.int t0, .int t1]) := by
    intro k5 hk5 x4 t0 t1 G H locs ls hG hl hw
    unfold gw_X1_sum_L46 at hw
    refine lv_iadd hx hb dX1_sum_46 ?_
    refine lv_istore_n (i := 3) (lv' := [(3, .int (t1 + t0)), (0, .ref p0), (1, .ref p1), (2, .ref p2), (4, .int x4)]) hx hb dX1_sum_47 rfl hl (by decide) rfl (fun ls hl => ?_)
    refine lv_iinc (v := x4 + 1) (lv' := [(4, .int (x4 + 1)), (3, .int (t1 + t0)), (0, .ref p0), (1, .ref p1), (2, .ref p2)]) hx hb dX1_sum_48 hl (k := 4) rfl rfl (by decide) rfl (fun ls hl => ?_)
    refine lv_goto (tgt := 5) hx hb dX1_sum_51 (by decide) ?_
    refine W.widen (k := 0) (n := 0) (Nat.le_of_ble_eq_true rfl) (Nat.le_of_ble_eq_true rfl) ?_
    exact hk5 (t1 + t0) (x4 + 1) G _ _ ls hG (lv_sub hl [2, 3, 4, 1, 0] rfl) hw
  have hL5 : ∀ (n : Nat) (x3 : Int32) (x4 : Int32) (G : Gh) (H : Heap) (locs : List Loc) (ls : Array Slot), gS E A G0 s.heap G H locs → lv_has ls 5 [(0, .ref p0), (1, .ref p1), (2, .ref p2), (3, .int x3), (4, .int x4)] → gw_X1_sum_L5 E p0 p1 p2 post n x3 x4 G → W p l e (headSpec (ws_ yX1_sum cX1_sum 5 (some .int)) ({ frames := 3, cells := 0, slots := 0, locals := 161 } : Room)).room s m ([.ref p0, .ref p1, .ref p2] : List Value).toArray below meth c H locs 0 0 (MQ below (gQ E A G0 (gpi post)) ([.ref p0, .ref p1, .ref p2] : List Value).toArray s 0 0 A) (F0 m 5 ls []) := by
    intro n
    induction n with
    | zero => exact fun _ _ _ _ _ _ _ _ hw => hw.elim
    | succ n ih =>
      intro x3 x4 G H locs ls hG hl hw
      unfold gw_X1_sum_L5 at hw
      refine lv_iload hx hb dX1_sum_5 (lv_at hl 4 rfl) ?_
      refine lv_aload_n hx hb dX1_sum_7 rfl (lv_at hl 0 rfl) ?_
      refine gc3i hA hG (va_runV (As := []) (rest := [.int x4]) ⟨hx, hb, hml, hown, hts⟩ (gm_J2_size l E p0 _ G hw _) (cwV 0 hts (lw_V q590 q591 q592 q59 q593) rfl rfl rfl hd_J2_size ⟨Nat.le_of_ble_eq_true rfl, Nat.le_of_ble_eq_true rfl⟩) ⟨gblind, grecv hPF hG (gC_of (gK_mon hG.1.2 h0p0 (by decide)) (by decide)) (by decide) (by decide) rfl, fun U hU hW => gpre hPF hA hG _ U hU hW⟩ rfl rfl hl.1 rfl (lv_room (Nat.le_of_ble_eq_true rfl)) dX1_sum_8 ⟨(Nat.le_of_ble_eq_true rfl), (Nat.le_of_ble_eq_true rfl)⟩) (fun r2 G1 H locs hw hmon hG => ?_)
      replace hw := hw hmon
      refine lv_icmp_ge (tgt := 54) hx hb dX1_sum_11 (by decide) (fun c_ => ?_) (fun c_ => ?_)
      · replace hw := hw.1 c_
        refine lv_iload_n hx hb dX1_sum_54 rfl (lv_at hl 3 rfl) ?_
        exact greti hx hb hr hlk hG rfl hw (Nat.le_of_ble_eq_true rfl) (Nat.le_of_ble_eq_true rfl) dX1_sum_55
      · replace hw := hw.2 c_
        refine lv_iload_n hx hb dX1_sum_14 rfl (lv_at hl 3 rfl) ?_
        refine lv_aload_n hx hb dX1_sum_15 rfl (lv_at hl 1 rfl) ?_
        refine lv_aload_n hx hb dX1_sum_16 rfl (lv_at hl 0 rfl) ?_
        refine lv_iload hx hb dX1_sum_17 (lv_at hl 4 rfl) ?_
        refine gc3r hA hG (va_runV (As := [.int x4]) (rest := [.ref p1, .int x3]) ⟨hx, hb, hml, hown, hts⟩ (gm_J2_get l E p0 x4 _ G1 hw _) (cwV 1 hts (lw_V q594 q595 q596 q59 q597) rfl rfl rfl hd_J2_get ⟨Nat.le_of_ble_eq_true rfl, Nat.le_of_ble_eq_true rfl⟩) ⟨gblind, grecv hPF hG (gC_of (gK_mon hG.1.2 h0p0 (by decide)) (by decide)) (by decide) (by decide) rfl, fun U hU hW => gpre hPF hA hG _ U hU hW⟩ rfl rfl hl.1 rfl (lv_room (Nat.le_of_ble_eq_true rfl)) dX1_sum_19 ⟨(Nat.le_of_ble_eq_true rfl), (Nat.le_of_ble_eq_true rfl)⟩) (fun r4 G3 H locs hw hmon hG => ?_)
        replace hw := hw hmon
        obtain ⟨q5, hq5, hw⟩ := hw
        refine W.eq (g2 := F0 m 22 ls [.ref q5, .ref p1, .int x3]) (by rw [hq5]; rfl) ?_
        refine gc5i hA hG (gl_is (rest := [.int x3]) hx hb hml hts hown q609 hPF hA hG hw hl.1 (lv_room (by (try simp only [List.map, va_rf_cat, gcat_i, gcat_r, gcat_l, gcat_d, gcat_f, gcat_n]); exact Nat.le_of_ble_eq_true rfl)) (Nat.le_of_ble_eq_true rfl) (Nat.le_of_ble_eq_true rfl) (Nat.le_of_ble_eq_true rfl) (Nat.le_of_ble_eq_true rfl) dX1_sum_22) (fun r7 G6 H locs hw hmon hG => ?_)
        replace hw := hw hmon
        refine lv_if_eq (tgt := 45) hx hb dX1_sum_27 (by decide) (fun c_ => ?_) (fun c_ => ?_)
        · replace hw := hw.1 c_
          refine lv_iconst (v := 0) hx hb dX1_sum_45 (by decide) ?_
          refine W.widen (k := 0) (n := 0) (Nat.le_of_ble_eq_true rfl) (Nat.le_of_ble_eq_true rfl) ?_
          exact hL46 (fun x3' x4' G' => gw_X1_sum_L5 E p0 p1 p2 post  n x3' x4' G') (fun x3' x4' G' H locs ls hG hl hw => ih x3' x4' G' H locs ls hG hl hw) x4 0 x3 G6 _ _ ls hG (lv_sub hl [0, 1, 2, 4] rfl) hw
        · replace hw := hw.2 c_
          refine lv_aload_n hx hb dX1_sum_30 rfl (lv_at hl 2 rfl) ?_
          refine lv_aload_n hx hb dX1_sum_31 rfl (lv_at hl 0 rfl) ?_
          refine lv_iload hx hb dX1_sum_32 (lv_at hl 4 rfl) ?_
          refine gc3r hA hG (va_runV (As := [.int x4]) (rest := [.ref p2, .int x3]) ⟨hx, hb, hml, hown, hts⟩ (gm_J2_get l E p0 x4 _ G6 hw _) (cwV 1 hts (lw_V q594 q595 q596 q59 q597) rfl rfl rfl hd_J2_get ⟨Nat.le_of_ble_eq_true rfl, Nat.le_of_ble_eq_true rfl⟩) ⟨gblind, grecv hPF hG (gC_of (gK_mon hG.1.2 h0p0 (by decide)) (by decide)) (by decide) (by decide) rfl, fun U hU hW => gpre hPF hA hG _ U hU hW⟩ rfl rfl hl.1 rfl (lv_room (Nat.le_of_ble_eq_true rfl)) dX1_sum_34 ⟨(Nat.le_of_ble_eq_true rfl), (Nat.le_of_ble_eq_true rfl)⟩) (fun r9 G8 H locs hw hmon hG => ?_)
          replace hw := hw hmon
          obtain ⟨q10, hq10, hw⟩ := hw
          refine W.eq (g2 := F0 m 37 ls [.ref q10, .ref p2, .int x3]) (by rw [hq10]; rfl) ?_
          refine gc5i hA hG (gl_of (rest := [.int x3]) hx hb hml hts hown q613 hPF hA hG hw hl.1 (lv_room (by (try simp only [List.map, va_rf_cat, gcat_i, gcat_r, gcat_l, gcat_d, gcat_f, gcat_n]); exact Nat.le_of_ble_eq_true rfl)) (Nat.le_of_ble_eq_true rfl) (Nat.le_of_ble_eq_true rfl) (Nat.le_of_ble_eq_true rfl) (Nat.le_of_ble_eq_true rfl) dX1_sum_37) (fun r12 G11 H locs hw hmon hG => ?_)
          replace hw := hw hmon
          refine lv_goto (tgt := 46) hx hb dX1_sum_42 (by decide) ?_
          refine W.widen (k := 0) (n := 0) (Nat.le_of_ble_eq_true rfl) (Nat.le_of_ble_eq_true rfl) ?_
          exact hL46 (fun x3' x4' G' => gw_X1_sum_L5 E p0 p1 p2 post  n x3' x4' G') (fun x3' x4' G' H locs ls hG hl hw => ih x3' x4' G' H locs ls hG hl hw) x4 r12 x3 G11 _ _ ls hG (lv_sub hl [0, 1, 2, 4] rfl) hw
  refine lv_iconst (v := 0) hx hb dX1_sum_0 (by decide) ?_
  refine lv_istore_n (i := 3) (lv' := [(3, .int 0), (0, .ref p0), (1, .ref p1), (2, .ref p2)]) hx hb dX1_sum_1 rfl hl (by decide) rfl (fun ls hl => ?_)
  refine lv_iconst (v := 0) hx hb dX1_sum_2 (by decide) ?_
  refine lv_istore (lv' := [(4, .int 0), (3, .int 0), (0, .ref p0), (1, .ref p1), (2, .ref p2)]) hx hb dX1_sum_3 hl (by decide) rfl (fun ls hl => ?_)
  refine W.widen (k := 0) (n := 0) (Nat.le_of_ble_eq_true rfl) (Nat.le_of_ble_eq_true rfl) ?_
  obtain ⟨n0, hw⟩ := hw
  exact hL5  n0 0 0 G _ _ ls hG (lv_sub hl [2, 3, 4, 1, 0] rfl) hw
def gw_X2_inCrates (E : gE) (post : Int32 → Gh → Prop) (p0 : Nat) (G : Gh) : Prop := gK G p0 = 2 ∧ (∃ q1, (gR G p0 3) = some q1 ∧ (gw_X1_sum E (fun r3 G2 => gMon G G2 → (post r3 G2)) q1 (eZ E 30) (eZ E 31) G))
theorem hd_X2_inCrates : yX2_inCrates.cls = RX2 ∧ yX2_inCrates.cls ≠ "java/lang/invoke/MethodHandle" ∧ yX2_inCrates.cls ≠ "java/lang/invoke/VarHandle" ∧ (parseMethodDescriptor yX2_inCrates.desc).map (fun d => d.parameters.length) = some 0 := by decide +kernel
theorem hdn_X2_inCrates : yX2_inCrates.cls ≠ "java/lang/invoke/MethodHandle" ∧ yX2_inCrates.cls ≠ "java/lang/invoke/VarHandle" ∧ (parseMethodDescriptor yX2_inCrates.desc).map (fun d => d.parameters.length) = some 0 := hd_X2_inCrates.2
theorem hdu_X2_inCrates : RX2 ≠ "java/lang/invoke/MethodHandle" ∧ RX2 ≠ "java/lang/invoke/VarHandle" ∧ (parseMethodDescriptor yX2_inCrates.desc).map (fun d => d.parameters.length) = some 0 := by decide +kernel
theorem hds_X2_inCrates : yX2_inCrates.name ≠ "<init>" ∧ (parseMethodDescriptor yX2_inCrates.desc).map (fun d => d.parameters.length) = some 0 := by decide +kernel
set_option maxHeartbeats 1000000 in
set_option maxRecDepth 100000 in
theorem gm_X2_inCrates (l : Launch) (E : gE) (p0 : Nat) (post : Int32 → Gh → Prop) (G : Gh) (hw : gw_X2_inCrates E post p0 G) : gM l E yX2_inCrates (ws_ yX2_inCrates cX2_inCrates 1 (some .int)) ({ frames := 4, cells := 0, slots := 0, locals := 3200 } : Room) 0 0 [.ref p0] G (gpi post) := by
  refine gof (by decide) (Nat.le_of_ble_eq_true rfl) ?_
  intro p e s m below meth c A ls hx hb hr hlk hml hown hin hts hPF hA hG hl
  have hl : lv_has ls 1 [(0, .ref p0)] := hl
  unfold gw_X2_inCrates at hw
  obtain ⟨G0, hG0⟩ : ∃ G0, G0 = G := ⟨_, rfl⟩
  have hG : gS E A G0 s.heap G s.heap [] := by rw [hG0]; exact hG
  rw [show gQ E A G (gpi post) = gQ E A G0 (gpi post) by rw [hG0]]
  have h0p0 := hw.1; rw [← hG0] at h0p0
  replace hw := hw.2
  refine lv_aload_n hx hb dX2_inCrates_0 rfl (lv_at hl 0 rfl) ?_
  refine gg hx hb hts hown hPF hG 2 3 rfl in_X2 (by decide) (by decide) (by decide) q468 (fun _ h9 => h9) (gC_of (gK_mon hG.1.2 h0p0 (by decide)) (by decide)) (v := va_rf (gR G p0 3)) rfl dX2_inCrates_1 ?_
  refine glct (rest := [va_rf (gR G p0 3)]) hx hb hml hl.1 0 rfl rfl hin.1 hPF (by (try simp only [List.map, va_rf_cat, gcat_i, gcat_r, gcat_l, gcat_d, gcat_f, gcat_n]); exact Nat.le_of_ble_eq_true rfl) dX2_inCrates_4 ?_
  refine glct (rest := [.ref (eZ E 30), va_rf (gR G p0 3)]) hx hb hml hl.1 1 rfl rfl hin.1 hPF (by (try simp only [List.map, va_rf_cat, gcat_i, gcat_r, gcat_l, gcat_d, gcat_f, gcat_n]); exact Nat.le_of_ble_eq_true rfl) dX2_inCrates_9 ?_
  obtain ⟨q1, hq1, hw⟩ := hw
  refine W.eq (g2 := F0 m 14 ls [.ref (eZ E 31), .ref (eZ E 30), .ref q1]) (by rw [hq1]; rfl) ?_
  refine gc3i hA hG (va_runSN (As := [.ref q1, .ref (eZ E 30), .ref (eZ E 31)]) (rest := []) ⟨hx, hb, hml, hown, hts⟩ (gm_X1_sum l E q1 (eZ E 30) (eZ E 31) _ G hw _) ⟨va_cnB 3 hts (lw_meth q589) rfl rfl rfl (hPF.w q587 rfl) (hts _ q55) hd_X1_sum ⟨Nat.le_of_ble_eq_true rfl, Nat.le_of_ble_eq_true rfl⟩, hts _ q588, trivial⟩ ⟨gblind, fun U hU hW => gpre hPF hA hG _ U hU hW⟩ rfl rfl hl.1 rfl (lv_room (Nat.le_of_ble_eq_true rfl)) dX2_inCrates_14 ⟨(Nat.le_of_ble_eq_true rfl), (Nat.le_of_ble_eq_true rfl)⟩) (fun r3 G2 H locs hw hmon hG => ?_)
  replace hw := hw hmon
  exact greti hx hb hr hlk hG rfl hw (Nat.le_of_ble_eq_true rfl) (Nat.le_of_ble_eq_true rfl) dX2_inCrates_17
def gw_X1_platesAgain (E : gE) (post : Int32 → Gh → Prop) (p0 : Nat) (G : Gh) : Prop := gK G p0 = 1 ∧ (∃ q1, (gR G p0 0) = some q1 ∧ (gC G q1 = 2 ∧ (gw_X2_inCrates E (fun r4 G3 => gMon G G3 → (∃ q5, (gR G3 p0 0) = some q5 ∧ (gC G3 q5 = 2 ∧ (post (((((gI G q1 10) - r4) - (gI G3 q5 11)) - (gI G3 q5 12)) - (gI G3 q5 13)) G3)))) q1 G)))
theorem hd_X1_platesAgain : yX1_platesAgain.cls = RX1 ∧ yX1_platesAgain.cls ≠ "java/lang/invoke/MethodHandle" ∧ yX1_platesAgain.cls ≠ "java/lang/invoke/VarHandle" ∧ (parseMethodDescriptor yX1_platesAgain.desc).map (fun d => d.parameters.length) = some 0 := by decide +kernel
theorem hdn_X1_platesAgain : yX1_platesAgain.cls ≠ "java/lang/invoke/MethodHandle" ∧ yX1_platesAgain.cls ≠ "java/lang/invoke/VarHandle" ∧ (parseMethodDescriptor yX1_platesAgain.desc).map (fun d => d.parameters.length) = some 0 := hd_X1_platesAgain.2
theorem hdu_X1_platesAgain : RX1 ≠ "java/lang/invoke/MethodHandle" ∧ RX1 ≠ "java/lang/invoke/VarHandle" ∧ (parseMethodDescriptor yX1_platesAgain.desc).map (fun d => d.parameters.length) = some 0 := by decide +kernel
theorem hds_X1_platesAgain : yX1_platesAgain.name ≠ "<init>" ∧ (parseMethodDescriptor yX1_platesAgain.desc).map (fun d => d.parameters.length) = some 0 := by decide +kernel
set_option maxHeartbeats 1000000 in
set_option maxRecDepth 100000 in
theorem gm_X1_platesAgain (l : Launch) (E : gE) (p0 : Nat) (post : Int32 → Gh → Prop) (G : Gh) (hw : gw_X1_platesAgain E post p0 G) : gM l E yX1_platesAgain (ws_ yX1_platesAgain cX1_platesAgain 1 (some .int)) ({ frames := 5, cells := 0, slots := 0, locals := 3220 } : Room) 0 0 [.ref p0] G (gpi post) := by
  refine gof (by decide) (Nat.le_of_ble_eq_true rfl) ?_
  intro p e s m below meth c A ls hx hb hr hlk hml hown hin hts hPF hA hG hl
  have hl : lv_has ls 1 [(0, .ref p0)] := hl
  unfold gw_X1_platesAgain at hw
  obtain ⟨G0, hG0⟩ : ∃ G0, G0 = G := ⟨_, rfl⟩
  have hG : gS E A G0 s.heap G s.heap [] := by rw [hG0]; exact hG
  rw [show gQ E A G (gpi post) = gQ E A G0 (gpi post) by rw [hG0]]
  have h0p0 := hw.1; rw [← hG0] at h0p0
  replace hw := hw.2
  refine lv_aload_n hx hb dX1_platesAgain_0 rfl (lv_at hl 0 rfl) ?_
  refine gg hx hb hts hown hPF hG 1 0 rfl in_X1 (by decide) (by decide) (by decide) q539 (fun _ h9 => h9) (gC_of (gK_mon hG.1.2 h0p0 (by decide)) (by decide)) (v := va_rf (gR G p0 0)) rfl dX1_platesAgain_1 ?_
  obtain ⟨q1, hq1, hw⟩ := hw
  refine W.eq (g2 := F0 m 4 ls [.ref q1]) (by rw [hq1]; rfl) ?_
  have hk2 := hw.1
  replace hw := hw.2
  refine ggN hx hb hts hown hPF hG 2 10 rfl in_X2 (by decide) (by decide) (by decide) q483 (fun _ h9 => h9) hk2 (v := .int (gI G q1 10)) rfl dX1_platesAgain_4 ?_
  refine lv_aload_n hx hb dX1_platesAgain_7 rfl (lv_at hl 0 rfl) ?_
  refine gg hx hb hts hown hPF hG 1 0 rfl in_X1 (by decide) (by decide) (by decide) q539 (fun _ h9 => h9) (gC_of (gK_mon hG.1.2 h0p0 (by decide)) (by decide)) (v := va_rf (gR G p0 0)) rfl dX1_platesAgain_8 ?_
  refine W.eq (g2 := F0 m 11 ls [.ref q1, .int (gI G q1 10)]) (by rw [hq1]; rfl) ?_
  refine gc3i hA hG (va_runV (As := []) (rest := [.int (gI G q1 10)]) ⟨hx, hb, hml, hown, hts⟩ (gm_X2_inCrates l E q1 _ G hw _) (cwV 0 hts (lw_V q579 q580 q581 q56 q582) rfl rfl rfl hd_X2_inCrates ⟨Nat.le_of_ble_eq_true rfl, Nat.le_of_ble_eq_true rfl⟩) ⟨gblind, grecv hPF hG hk2 (by decide) (by decide) rfl, fun U hU hW => gpre hPF hA hG _ U hU hW⟩ rfl rfl hl.1 rfl (lv_room (Nat.le_of_ble_eq_true rfl)) dX1_platesAgain_11 ⟨(Nat.le_of_ble_eq_true rfl), (Nat.le_of_ble_eq_true rfl)⟩) (fun r4 G3 H locs hw hmon hG => ?_)
  replace hw := hw hmon
  have hk2 : gC G3 q1 = 2 := gC_mon hmon hk2 (by decide)
  refine lv_isub hx hb dX1_platesAgain_14 ?_
  refine lv_aload_n hx hb dX1_platesAgain_15 rfl (lv_at hl 0 rfl) ?_
  refine gg hx hb hts hown hPF hG 1 0 rfl in_X1 (by decide) (by decide) (by decide) q539 (fun _ h9 => h9) (gC_of (gK_mon hG.1.2 h0p0 (by decide)) (by decide)) (v := va_rf (gR G3 p0 0)) rfl dX1_platesAgain_16 ?_
  obtain ⟨q5, hq5, hw⟩ := hw
  refine W.eq (g2 := F0 m 19 ls [.ref q5, .int ((gI G q1 10) - r4)]) (by rw [hq5]; rfl) ?_
  have hk6 := hw.1
  replace hw := hw.2
  refine ggN hx hb hts hown hPF hG 2 11 rfl in_X2 (by decide) (by decide) (by decide) q485 (fun _ h9 => h9) hk6 (v := .int (gI G3 q5 11)) rfl dX1_platesAgain_19 ?_
  refine lv_isub hx hb dX1_platesAgain_22 ?_
  refine lv_aload_n hx hb dX1_platesAgain_23 rfl (lv_at hl 0 rfl) ?_
  refine gg hx hb hts hown hPF hG 1 0 rfl in_X1 (by decide) (by decide) (by decide) q539 (fun _ h9 => h9) (gC_of (gK_mon hG.1.2 h0p0 (by decide)) (by decide)) (v := va_rf (gR G3 p0 0)) rfl dX1_platesAgain_24 ?_
  refine W.eq (g2 := F0 m 27 ls [.ref q5, .int (((gI G q1 10) - r4) - (gI G3 q5 11))]) (by rw [hq5]; rfl) ?_
  refine ggN hx hb hts hown hPF hG 2 12 rfl in_X2 (by decide) (by decide) (by decide) q487 (fun _ h9 => h9) hk6 (v := .int (gI G3 q5 12)) rfl dX1_platesAgain_27 ?_
  refine lv_isub hx hb dX1_platesAgain_30 ?_
  refine lv_aload_n hx hb dX1_platesAgain_31 rfl (lv_at hl 0 rfl) ?_
  refine gg hx hb hts hown hPF hG 1 0 rfl in_X1 (by decide) (by decide) (by decide) q539 (fun _ h9 => h9) (gC_of (gK_mon hG.1.2 h0p0 (by decide)) (by decide)) (v := va_rf (gR G3 p0 0)) rfl dX1_platesAgain_32 ?_
  refine W.eq (g2 := F0 m 35 ls [.ref q5, .int ((((gI G q1 10) - r4) - (gI G3 q5 11)) - (gI G3 q5 12))]) (by rw [hq5]; rfl) ?_
  refine ggN hx hb hts hown hPF hG 2 13 rfl in_X2 (by decide) (by decide) (by decide) q489 (fun _ h9 => h9) hk6 (v := .int (gI G3 q5 13)) rfl dX1_platesAgain_35 ?_
  refine lv_isub hx hb dX1_platesAgain_38 ?_
  exact greti hx hb hr hlk hG rfl hw (Nat.le_of_ble_eq_true rfl) (Nat.le_of_ble_eq_true rfl) dX1_platesAgain_39
def gw_X1_snapshot (E : gE) (post : Int32 → Gh → Prop) (p0 : Nat) (G : Gh) : Prop := gK G p0 = 1 ∧ (∀ G1, G1 = gsR G p0 2 (gR G p0 0) → (∃ q2, (gR G1 p0 0) = some q2 ∧ (gC G1 q2 = 2 ∧ (post (gI G1 q2 4) G1))))
theorem hd_X1_snapshot : yX1_snapshot.cls = RX1 ∧ yX1_snapshot.cls ≠ "java/lang/invoke/MethodHandle" ∧ yX1_snapshot.cls ≠ "java/lang/invoke/VarHandle" ∧ (parseMethodDescriptor yX1_snapshot.desc).map (fun d => d.parameters.length) = some 0 := by decide +kernel
theorem hdn_X1_snapshot : yX1_snapshot.cls ≠ "java/lang/invoke/MethodHandle" ∧ yX1_snapshot.cls ≠ "java/lang/invoke/VarHandle" ∧ (parseMethodDescriptor yX1_snapshot.desc).map (fun d => d.parameters.length) = some 0 := hd_X1_snapshot.2
theorem hdu_X1_snapshot : RX1 ≠ "java/lang/invoke/MethodHandle" ∧ RX1 ≠ "java/lang/invoke/VarHandle" ∧ (parseMethodDescriptor yX1_snapshot.desc).map (fun d => d.parameters.length) = some 0 := by decide +kernel
theorem hds_X1_snapshot : yX1_snapshot.name ≠ "<init>" ∧ (parseMethodDescriptor yX1_snapshot.desc).map (fun d => d.parameters.length) = some 0 := by decide +kernel
set_option maxHeartbeats 1000000 in
set_option maxRecDepth 100000 in
theorem gm_X1_snapshot (l : Launch) (E : gE) (p0 : Nat) (post : Int32 → Gh → Prop) (G : Gh) (hw : gw_X1_snapshot E post p0 G) : gM l E yX1_snapshot (ws_ yX1_snapshot cX1_snapshot 1 (some .int)) ({ frames := 0, cells := 0, slots := 0, locals := 0 } : Room) 0 0 [.ref p0] G (gpi post) := by
  refine gof (by decide) (Nat.le_of_ble_eq_true rfl) ?_
  intro p e s m below meth c A ls hx hb hr hlk hml hown hin hts hPF hA hG hl
  have hl : lv_has ls 1 [(0, .ref p0)] := hl
  unfold gw_X1_snapshot at hw
  obtain ⟨G0, hG0⟩ : ∃ G0, G0 = G := ⟨_, rfl⟩
  have hG : gS E A G0 s.heap G s.heap [] := by rw [hG0]; exact hG
  rw [show gQ E A G (gpi post) = gQ E A G0 (gpi post) by rw [hG0]]
  have h0p0 := hw.1; rw [← hG0] at h0p0
  replace hw := hw.2
  refine lv_aload_n hx hb dX1_snapshot_0 rfl (lv_at hl 0 rfl) ?_
  refine lv_aload_n hx hb dX1_snapshot_1 rfl (lv_at hl 0 rfl) ?_
  refine gg hx hb hts hown hPF hG 1 0 rfl in_X1 (by decide) (by decide) (by decide) q539 (fun _ h9 => h9) (gC_of (gK_mon hG.1.2 h0p0 (by decide)) (by decide)) (v := va_rf (gR G p0 0)) rfl dX1_snapshot_2 ?_
  refine gp hx hb hts hown hPF hG 1 2 rfl in_X1 tyX1 tyX1_ok nmX1 (by decide) (by decide) (by decide) q541 (fun _ h9 => h9) rfl (gK_mon hG.1.2 h0p0 (by decide)) (v := va_rf (gR G p0 0)) (narrow_rf _) (fits_rf _ (by decide)) (G' := gsR G p0 2 (gR G p0 0)) rfl rfl grR_off (Nat.le_of_ble_eq_true rfl) (gFs_R 1 2 (fun _ _ _ => rfl)) dX1_snapshot_5 (fun H locs hG => ?_)
  obtain ⟨G1, eG1⟩ : ∃ z, z = gsR G p0 2 (gR G p0 0) := ⟨_, rfl⟩
  rw [← eG1] at hG
  replace hw := hw G1 eG1
  refine lv_aload_n hx hb dX1_snapshot_8 rfl (lv_at hl 0 rfl) ?_
  refine gg hx hb hts hown hPF hG 1 0 rfl in_X1 (by decide) (by decide) (by decide) q539 (fun _ h9 => h9) (gC_of (gK_mon hG.1.2 h0p0 (by decide)) (by decide)) (v := va_rf (gR G1 p0 0)) rfl dX1_snapshot_9 ?_
  obtain ⟨q2, hq2, hw⟩ := hw
  refine W.eq (g2 := F0 m 12 ls [.ref q2]) (by rw [hq2]; rfl) ?_
  have hk3 := hw.1
  replace hw := hw.2
  refine ggN hx hb hts hown hPF hG 2 4 rfl in_X2 (by decide) (by decide) (by decide) q471 (fun _ h9 => h9) hk3 (v := .int (gI G1 q2 4)) rfl dX1_snapshot_12 ?_
  exact greti hx hb hr hlk hG rfl hw (Nat.le_of_ble_eq_true rfl) (Nat.le_of_ble_eq_true rfl) dX1_snapshot_15
def gw_X1_become_L23 (E : gE) (p0 : Nat) (p1 : Nat) (post : Gh → Prop)  (G : Gh) : Prop := ∃ q11, (gR G p0 0) = some q11 ∧ (∃ q12, (gR G p0 1) = some q12 ∧ (gC G q12 = 18 ∧ (gw_J17_addLast E (fun G14 => gMon G G14 → (∀ G15, G15 = gsR G14 p0 0 (some p1) → (post G15))) q12 q11 G)))
def gw_X1_become (E : gE) (post : Gh → Prop) (p0 : Nat) (p1 : Nat) (G : Gh) : Prop := gK G p0 = 1 ∧ (gK G p1 = 2 ∧ (∃ q1, (gR G p0 1) = some q1 ∧ (gC G q1 = 18 ∧ (gw_J17_size E (fun r4 G3 => gMon G G3 → ((¬ r4 = 8 → (gw_X1_become_L23 E p0 p1 post  G3)) ∧ (r4 = 8 → (∃ q5, (gR G3 p0 1) = some q5 ∧ (gC G3 q5 = 18 ∧ (gw_J17_removeFirst E (fun r8 G7 => gMon G3 G7 → (∃ q9, r8 = some q9 ∧ (gC G7 q9 = 2 ∧ (gw_X1_become_L23 E p0 p1 post  G7)))) q5 G3)))))) q1 G))))
theorem hd_X1_become : yX1_become.cls = RX1 ∧ yX1_become.cls ≠ "java/lang/invoke/MethodHandle" ∧ yX1_become.cls ≠ "java/lang/invoke/VarHandle" ∧ (parseMethodDescriptor yX1_become.desc).map (fun d => d.parameters.length) = some 1 := by decide +kernel
theorem hdn_X1_become : yX1_become.cls ≠ "java/lang/invoke/MethodHandle" ∧ yX1_become.cls ≠ "java/lang/invoke/VarHandle" ∧ (parseMethodDescriptor yX1_become.desc).map (fun d => d.parameters.length) = some 1 := hd_X1_become.2
theorem hdu_X1_become : RX1 ≠ "java/lang/invoke/MethodHandle" ∧ RX1 ≠ "java/lang/invoke/VarHandle" ∧ (parseMethodDescriptor yX1_become.desc).map (fun d => d.parameters.length) = some 1 := by decide +kernel
theorem hds_X1_become : yX1_become.name ≠ "<init>" ∧ (parseMethodDescriptor yX1_become.desc).map (fun d => d.parameters.length) = some 1 := by decide +kernel
set_option maxHeartbeats 1000000 in
set_option maxRecDepth 100000 in
theorem gm_X1_become (l : Launch) (E : gE) (p0 : Nat) (p1 : Nat) (post : Gh → Prop) (G : Gh) (hw : gw_X1_become E post p0 p1 G) : gM l E yX1_become (ws_ yX1_become cX1_become 3 none) ({ frames := 5, cells := 1, slots := 64, locals := 154 } : Room) 1 64 [.ref p0, .ref p1] G (gpv post) := by
  refine gof (by decide) (Nat.le_of_ble_eq_true rfl) ?_
  intro p e s m below meth c A ls hx hb hr hlk hml hown hin hts hPF hA hG hl
  have hl : lv_has ls 3 [(0, .ref p0), (1, .ref p1)] := hl
  unfold gw_X1_become at hw
  obtain ⟨G0, hG0⟩ : ∃ G0, G0 = G := ⟨_, rfl⟩
  have hG : gS E A G0 s.heap G s.heap [] := by rw [hG0]; exact hG
  rw [show gQ E A G (gpv post) = gQ E A G0 (gpv post) by rw [hG0]]
  have h0p0 := hw.1; rw [← hG0] at h0p0
  replace hw := hw.2
  have h0p1 := hw.1; rw [← hG0] at h0p1
  replace hw := hw.2
  have hL23 : ∀ (G : Gh) (H : Heap) (locs : List Loc) (ls : Array Slot), gS E A G0 s.heap G H locs → lv_has ls 3 [(0, .ref p0), (1, .ref p1)] → gw_X1_become_L23 E p0 p1 post G → W p l e (headSpec (ws_ yX1_become cX1_become 3 none) ({ frames := 5, cells := 1, slots := 64, locals := 154 } : Room)).room s m ([.ref p0, .ref p1] : List Value).toArray below meth c H locs 0 0 (MQ below (gQ E A G0 (gpv post)) ([.ref p0, .ref p1] : List Value).toArray s 1 64 A) (F0 m 23 ls []) := by
    intro G H locs ls hG hl hw
    unfold gw_X1_become_L23 at hw
    refine lv_aload_n hx hb dX1_become_23 rfl (lv_at hl 0 rfl) ?_
    refine gg hx hb hts hown hPF hG 1 1 rfl in_X1 (by decide) (by decide) (by decide) q540 (fun _ h9 => h9) (gC_of (gK_mon hG.1.2 h0p0 (by decide)) (by decide)) (v := va_rf (gR G p0 1)) rfl dX1_become_24 ?_
    refine lv_aload_n hx hb dX1_become_27 rfl (lv_at hl 0 rfl) ?_
    refine gg hx hb hts hown hPF hG 1 0 rfl in_X1 (by decide) (by decide) (by decide) q539 (fun _ h9 => h9) (gC_of (gK_mon hG.1.2 h0p0 (by decide)) (by decide)) (v := va_rf (gR G p0 0)) rfl dX1_become_28 ?_
    obtain ⟨q11, hq11, hw⟩ := hw
    refine W.eq (g2 := F0 m 31 ls [.ref q11, va_rf (gR G p0 1)]) (by rw [hq11]; rfl) ?_
    obtain ⟨q12, hq12, hw⟩ := hw
    refine W.eq (g2 := F0 m 31 ls [.ref q11, .ref q12]) (by rw [hq12]; rfl) ?_
    have hk13 := hw.1
    replace hw := hw.2
    refine gc3v hA hG (va_runV (As := [.ref q11]) (rest := []) ⟨hx, hb, hml, hown, hts⟩ (gm_J17_addLast l E q12 q11 _ G hw _) (cwV 1 hts (lw_V q988 q989 q990 q76 q991) rfl rfl rfl hd_J17_addLast ⟨Nat.le_of_ble_eq_true rfl, Nat.le_of_ble_eq_true rfl⟩) ⟨gblind, grecv hPF hG hk13 (by decide) (by decide) rfl, fun U hU hW => gpre hPF hA hG _ U hU hW⟩ rfl rfl hl.1 rfl (lv_room (Nat.le_of_ble_eq_true rfl)) dX1_become_31 ⟨(Nat.le_of_ble_eq_true rfl), (Nat.le_of_ble_eq_true rfl)⟩) (fun G14 H locs hw hmon hG => ?_)
    replace hw := hw hmon
    have hk13 : gC G14 q12 = 18 := gC_mon hmon hk13 (by decide)
    refine lv_aload_n hx hb dX1_become_34 rfl (lv_at hl 0 rfl) ?_
    refine lv_aload_n hx hb dX1_become_35 rfl (lv_at hl 1 rfl) ?_
    refine gp hx hb hts hown hPF hG 1 0 rfl in_X1 tyX1 tyX1_ok nmX1 (by decide) (by decide) (by decide) q539 (fun _ h9 => h9) rfl (gK_mon hG.1.2 h0p0 (by decide)) (v := va_rf (some p1)) (narrow_rf _) (fits_rf _ (by decide)) (G' := gsR G14 p0 0 (some p1)) rfl rfl grR_off (Nat.le_of_ble_eq_true rfl) (gFs_R 1 0 (fun _ _ _ => rfl)) dX1_become_36 (fun H locs hG => ?_)
    obtain ⟨G15, eG15⟩ : ∃ z, z = gsR G14 p0 0 (some p1) := ⟨_, rfl⟩
    rw [← eG15] at hG
    replace hw := hw G15 eG15
    have hk13 : gC G15 q12 = 18 := by rw [eG15]; exact hk13
    exact gretv hx hb hr hlk hG hw (Nat.le_of_ble_eq_true rfl) (Nat.le_of_ble_eq_true rfl) dX1_become_39
  refine lv_aload_n hx hb dX1_become_0 rfl (lv_at hl 0 rfl) ?_
  refine gg hx hb hts hown hPF hG 1 1 rfl in_X1 (by decide) (by decide) (by decide) q540 (fun _ h9 => h9) (gC_of (gK_mon hG.1.2 h0p0 (by decide)) (by decide)) (v := va_rf (gR G p0 1)) rfl dX1_become_1 ?_
  obtain ⟨q1, hq1, hw⟩ := hw
  refine W.eq (g2 := F0 m 4 ls [.ref q1]) (by rw [hq1]; rfl) ?_
  have hk2 := hw.1
  replace hw := hw.2
  refine gc3i hA hG (va_runV (As := []) (rest := []) ⟨hx, hb, hml, hown, hts⟩ (gm_J17_size l E q1 _ G hw _) (cwV 0 hts (lw_V q965 q966 q967 q76 q968) rfl rfl rfl hd_J17_size ⟨Nat.le_of_ble_eq_true rfl, Nat.le_of_ble_eq_true rfl⟩) ⟨gblind, grecv hPF hG hk2 (by decide) (by decide) rfl, fun U hU hW => gpre hPF hA hG _ U hU hW⟩ rfl rfl hl.1 rfl (lv_room (Nat.le_of_ble_eq_true rfl)) dX1_become_4 ⟨(Nat.le_of_ble_eq_true rfl), (Nat.le_of_ble_eq_true rfl)⟩) (fun r4 G3 H locs hw hmon hG => ?_)
  replace hw := hw hmon
  have hk2 : gC G3 q1 = 18 := gC_mon hmon hk2 (by decide)
  refine lv_bipush (v := 8) hx hb dX1_become_7 (by decide) ?_
  refine lv_icmp_ne (tgt := 23) hx hb dX1_become_9 (by decide) (fun c_ => ?_) (fun c_ => ?_)
  · replace hw := hw.1 c_
    refine W.widen (k := 0) (n := 0) (Nat.le_of_ble_eq_true rfl) (Nat.le_of_ble_eq_true rfl) ?_
    exact hL23  G3 _ _ ls hG (lv_sub hl [0, 1] rfl) hw
  · replace hw := hw.2 c_
    refine lv_aload_n hx hb dX1_become_12 rfl (lv_at hl 0 rfl) ?_
    refine gg hx hb hts hown hPF hG 1 1 rfl in_X1 (by decide) (by decide) (by decide) q540 (fun _ h9 => h9) (gC_of (gK_mon hG.1.2 h0p0 (by decide)) (by decide)) (v := va_rf (gR G3 p0 1)) rfl dX1_become_13 ?_
    obtain ⟨q5, hq5, hw⟩ := hw
    refine W.eq (g2 := F0 m 16 ls [.ref q5]) (by rw [hq5]; rfl) ?_
    have hk6 := hw.1
    replace hw := hw.2
    refine gc3r hA hG (va_runV (As := []) (rest := []) ⟨hx, hb, hml, hown, hts⟩ (gm_J17_removeFirst l E q5 _ G3 hw _) (cwV 0 hts (lw_V q972 q973 q974 q76 q975) rfl rfl rfl hd_J17_removeFirst ⟨Nat.le_of_ble_eq_true rfl, Nat.le_of_ble_eq_true rfl⟩) ⟨gblind, grecv hPF hG hk6 (by decide) (by decide) rfl, fun U hU hW => gpre hPF hA hG _ U hU hW⟩ rfl rfl hl.1 rfl (lv_room (Nat.le_of_ble_eq_true rfl)) dX1_become_16 ⟨(Nat.le_of_ble_eq_true rfl), (Nat.le_of_ble_eq_true rfl)⟩) (fun r8 G7 H locs hw hmon hG => ?_)
    replace hw := hw hmon
    have hk2 : gC G7 q1 = 18 := gC_mon hmon hk2 (by decide)
    have hk6 : gC G7 q5 = 18 := gC_mon hmon hk6 (by decide)
    obtain ⟨q9, hq9, hw⟩ := hw
    refine W.eq (g2 := F0 m 19 ls [.ref q9]) (by rw [hq9]; rfl) ?_
    have hk10 := hw.1
    replace hw := hw.2
    refine va_castS hx hb hown (hts _ q107) (hPF.K.1 2 _ rfl).2 (grecv hPF hG hk10 (by decide) (by decide) rfl) dX1_become_19 ?_
    refine lv_astore_n (i := 2) (lv' := [(2, .ref q9), (0, .ref p0), (1, .ref p1)]) hx hb dX1_become_22 rfl hl (by decide) rfl (fun ls hl => ?_)
    refine W.widen (k := 0) (n := 0) (Nat.le_of_ble_eq_true rfl) (Nat.le_of_ble_eq_true rfl) ?_
    exact hL23  G7 _ _ ls hG (lv_sub hl [1, 2] rfl) hw
def gw_X1_change (E : gE) (post : Int32 → Gh → Prop) (px : String → Nat → Gh → Prop) (p0 : Nat) (p1 : Nat) (G : Gh) : Prop := gK G p0 = 1 ∧ (∃ q1, (gR G p0 0) = some q1 ∧ (gC G q1 = 2 ∧ (gw_X2_copy E (fun r4 G3 => gMon G G3 → (∃ q5, r4 = some q5 ∧ (gw_make E (fun r8 G7 => gMon G3 G7 → (gw_X1_become E (fun G9 => gMon G7 G9 → (post r8 G9)) p0 q5 G7)) (fun X q Gx => gMon G3 Gx → (X = "WillowPrinters$Refused" → (∀ G6, G6 = gsR Gx p0 7 (some q) → (∀ q, gK G6 q = 0 → px "java/lang/UnsupportedOperationException" q G6))) ∧ (X = "java/lang/IllegalArgumentException" → px X q Gx) ∧ (X = "java/lang/IllegalStateException" → px X q Gx) ∧ (X = "java/lang/IndexOutOfBoundsException" → px X q Gx) ∧ (X = "WillowPrinters$Refused" ∨ X = "java/lang/IllegalArgumentException" ∨ X = "java/lang/IllegalStateException" ∨ X = "java/lang/IndexOutOfBoundsException")) p1 q5 G3))) q1 G)))
theorem hd_X1_change : yX1_change.cls = RX1 ∧ yX1_change.cls ≠ "java/lang/invoke/MethodHandle" ∧ yX1_change.cls ≠ "java/lang/invoke/VarHandle" ∧ (parseMethodDescriptor yX1_change.desc).map (fun d => d.parameters.length) = some 1 := by decide +kernel
theorem hdn_X1_change : yX1_change.cls ≠ "java/lang/invoke/MethodHandle" ∧ yX1_change.cls ≠ "java/lang/invoke/VarHandle" ∧ (parseMethodDescriptor yX1_change.desc).map (fun d => d.parameters.length) = some 1 := hd_X1_change.2
theorem hdu_X1_change : RX1 ≠ "java/lang/invoke/MethodHandle" ∧ RX1 ≠ "java/lang/invoke/VarHandle" ∧ (parseMethodDescriptor yX1_change.desc).map (fun d => d.parameters.length) = some 1 := by decide +kernel
theorem hds_X1_change : yX1_change.name ≠ "<init>" ∧ (parseMethodDescriptor yX1_change.desc).map (fun d => d.parameters.length) = some 1 := by decide +kernel
set_option maxHeartbeats 1000000 in
set_option maxRecDepth 100000 in
theorem gm_X1_change (l : Launch) (hlt : l.stackTraces = false) (E : gE) (p0 : Nat) (p1 : Nat) (post : Int32 → Gh → Prop) (px : String → Nat → Gh → Prop) (G : Gh) (hw : gw_X1_change E post px p0 p1 G) : gX l E yX1_change (wsW_ yX1_change cX1_change 5 (some .int) [(8, 16, 19, 113)]) ({ frames := 14, cells := 941, slots := 10664, locals := 336 } : Room) 941 10664 [.ref p0, .ref p1] G (gpi post) px := by
  refine xofH (hh := [(8, 16, 19, 113)]) (by decide) (Nat.le_of_ble_eq_true rfl) ?_
  intro p e s m below meth c A ls hx hb hr hlk hml hown hin hts hPF hA htab hG hl
  have hl : lv_has ls 5 [(0, .ref p0), (1, .ref p1)] := hl
  unfold gw_X1_change at hw
  obtain ⟨G0, hG0⟩ : ∃ G0, G0 = G := ⟨_, rfl⟩
  have hG : gS E A G0 s.heap G s.heap [] := by rw [hG0]; exact hG
  rw [show gQ E A G (gpi post) = gQ E A G0 (gpi post) by rw [hG0]]
  rw [show gXC E A G px = gXC E A G0 px by rw [hG0]]
  have h0p0 := hw.1; rw [← hG0] at h0p0
  replace hw := hw.2
  refine lv_aload_n hx hb dX1_change_0 rfl (lv_at hl 0 rfl) ?_
  refine gg hx hb hts hown hPF hG 1 0 rfl in_X1 (by decide) (by decide) (by decide) q539 (fun _ h9 => h9) (gC_of (gK_mon hG.1.2 h0p0 (by decide)) (by decide)) (v := va_rf (gR G p0 0)) rfl dX1_change_1 ?_
  obtain ⟨q1, hq1, hw⟩ := hw
  refine W.eq (g2 := F0 m 4 ls [.ref q1]) (by rw [hq1]; rfl) ?_
  have hk2 := hw.1
  replace hw := hw.2
  refine gc3r hA hG (va_runV (As := []) (rest := []) ⟨hx, hb, hml, hown, hts⟩ (gm_X2_copy l E q1 _ G hw _) (cwV 0 hts (lw_V q693 q694 q695 q56 q696) rfl rfl rfl hd_X2_copy ⟨Nat.le_of_ble_eq_true rfl, Nat.le_of_ble_eq_true rfl⟩) ⟨gblind, grecv hPF hG hk2 (by decide) (by decide) rfl, fun U hU hW => gpre hPF hA hG _ U hU hW⟩ rfl rfl hl.1 rfl (lv_room (Nat.le_of_ble_eq_true rfl)) dX1_change_4 ⟨(Nat.le_of_ble_eq_true rfl), (Nat.le_of_ble_eq_true rfl)⟩) (fun r4 G3 H locs hw hmon hG => ?_)
  replace hw := hw hmon
  have hk2 : gC G3 q1 = 2 := gC_mon hmon hk2 (by decide)
  refine gt_n (i := 2) (lv' := [(2, va_rf r4), (0, .ref p0), (1, .ref p1)]) hx hb dX1_change_7 rfl hl (by decide) rfl (fun ls hl => ?_)
  refine lv_aload_n hx hb dX1_change_8 rfl (lv_at hl 2 rfl) ?_
  refine ga_n hx hb dX1_change_9 rfl (lv_at hl 0 rfl) ?_
  obtain ⟨q5, hq5, hw⟩ := hw
  refine W.eq (g2 := F0 m 10 ls [.ref q5, .ref p1]) (by rw [hq5]; rfl) ?_
  refine xc5i hA hG (gl_make (rest := []) hx hb hml hlt hts hown q943 hPF hA hG hw hl.1 (lv_room (by (try simp only [List.map, va_rf_cat, gcat_i, gcat_r, gcat_l, gcat_d, gcat_f, gcat_n]); exact Nat.le_of_ble_eq_true rfl)) (Nat.le_of_ble_eq_true rfl) (Nat.le_of_ble_eq_true rfl) (Nat.le_of_ble_eq_true rfl) (Nat.le_of_ble_eq_true rfl) dX1_change_10) (fun X ce q Gx H locs hw hmon hG hce hcv hcl => ?_) (fun r8 G7 H locs hw hmon hG => ?_)
  · replace hw := hw hmon
    rcases hw.2.2.2.2 with rfl | rfl | rfl | rfl
    · replace hw := hw.1 rfl
      refine vx_catch hown [] ⟨8, 16, 19, 113⟩ [] (by rw [htab]; rfl) (fun z hz => by cases hz) rfl (by decide) (hts _ q692) (va_Nw.use rfl (hPF.w q662 rfl)) hce hcv hcl ?_
      refine lv_astore (lv' := [(4, .ref q), (2, va_rf r4), (0, .ref p0), (1, .ref p1)]) hx hb dX1_change_19 hl (by decide) (by first | rfl | simp [List.filter, va_rf_cat, gcat_i, gcat_r, gcat_l, gcat_d, gcat_f, gcat_n]) (fun ls hl => ?_)
      refine lv_aload_n hx hb dX1_change_21 rfl (lv_at hl 2 rfl) ?_
      refine lv_aload hx hb dX1_change_22 (lv_at hl 0 rfl) ?_
      refine gp hx hb hts hown hPF hG 1 7 rfl in_X1 tyX1 tyX1_ok nmX1 (by decide) (by decide) (by decide) q546 (fun _ h9 => h9) rfl (gK_mon hG.1.2 h0p0 (by decide)) (v := va_rf (some q)) (narrow_rf _) (fits_rf _ (by decide)) (G' := gsR Gx p0 7 (some q)) rfl rfl grR_off (Nat.le_of_ble_eq_true rfl) (gFs_R 1 7 (fun _ _ _ => rfl)) dX1_change_24 (fun H locs hG => ?_)
      obtain ⟨G6, eG6⟩ : ∃ z, z = gsR Gx p0 7 (some q) := ⟨_, rfl⟩
      rw [← eG6] at hG
      replace hw := hw G6 eG6
      exact vx_throw0 (cls := "java/lang/UnsupportedOperationException") (names := excNames) (A := A) hx hb hlt hown (by decide +kernel) (by decide +kernel) (hts _ q946) (hts _ q86) (tw_hat hts hPF tw_X1_121_UnsupportedOperationException) (tw_ot (by decide +kernel)) hPF.u.1 hPF.u.2 hG.2 (hl.1.trans hml.symm) dX1_change_27 dX1_change_30 dX1_change_31 dX1_change_34 (by rw [htab]; decide) (Nat.le_of_ble_eq_true rfl) (by (try simp only [List.map, va_rf_cat, gcat_i, gcat_r, gcat_l, gcat_d, gcat_f, gcat_n]); exact Nat.le_of_ble_eq_true rfl) (Nat.le_of_ble_eq_true rfl) (Nat.le_of_ble_eq_true rfl) hlk (fun q t hq hW hz hk => gthrown hG (hw q (Classical.byContradiction fun h => Nat.lt_irrefl _ (Nat.lt_of_lt_of_le (gat_lt (hG.1.1 q h).1) hq))) hz hk) hG.2.2.2 (Nat.le_of_ble_eq_true rfl) (Nat.le_of_ble_eq_true rfl)
    · replace hw := hw.2.1 rfl
      exact gleaveP (own := "WillowPrinters") hown hlk hG (by rw [htab]; exact (show ∀ z ∈ ([⟨8, 16, 19, 113⟩] : List ExceptionTableEntry), _ from (List.forall_mem_cons.mpr ⟨Or.inr ⟨by decide, "WillowPrinters$Refused", hts _ q692, hPF.n 14 rfl⟩, (fun z hz => by cases hz)⟩))) hce hcv hcl hw (Nat.le_of_ble_eq_true rfl) (Nat.le_of_ble_eq_true rfl)
    · replace hw := hw.2.2.1 rfl
      exact gleaveP (own := "WillowPrinters") hown hlk hG (by rw [htab]; exact (show ∀ z ∈ ([⟨8, 16, 19, 113⟩] : List ExceptionTableEntry), _ from (List.forall_mem_cons.mpr ⟨Or.inr ⟨by decide, "WillowPrinters$Refused", hts _ q692, hPF.n 28 rfl⟩, (fun z hz => by cases hz)⟩))) hce hcv hcl hw (Nat.le_of_ble_eq_true rfl) (Nat.le_of_ble_eq_true rfl)
    · replace hw := hw.2.2.2.1 rfl
      exact gleaveP (own := "WillowPrinters") hown hlk hG (by rw [htab]; exact (show ∀ z ∈ ([⟨8, 16, 19, 113⟩] : List ExceptionTableEntry), _ from (List.forall_mem_cons.mpr ⟨Or.inr ⟨by decide, "WillowPrinters$Refused", hts _ q692, hPF.n 35 rfl⟩, (fun z hz => by cases hz)⟩))) hce hcv hcl hw (Nat.le_of_ble_eq_true rfl) (Nat.le_of_ble_eq_true rfl)
  · replace hw := hw hmon
    have hk2 : gC G7 q1 = 2 := gC_mon hmon hk2 (by decide)
    refine lv_istore_n (i := 3) (lv' := [(3, .int r8), (2, va_rf r4), (0, .ref p0), (1, .ref p1)]) hx hb dX1_change_15 rfl hl (by decide) (by first | rfl | simp [List.filter, va_rf_cat, gcat_i, gcat_r, gcat_l, gcat_d, gcat_f, gcat_n]) (fun ls hl => ?_)
    refine lv_goto (tgt := 35) hx hb dX1_change_16 (by decide) ?_
    refine lv_aload_n hx hb dX1_change_35 rfl (lv_at hl 2 rfl) ?_
    refine ga_n hx hb dX1_change_36 rfl (lv_at hl 1 rfl) ?_
    refine W.eq (g2 := F0 m 37 ls [.ref q5, .ref p0]) (by rw [hq5]; rfl) ?_
    refine gc3v hA hG (va_runV (As := [.ref q5]) (rest := []) ⟨hx, hb, hml, hown, hts⟩ (gm_X1_become l E p0 q5 _ G7 hw _) (cwV 1 hts (lw_V q961 q963 qs6 q55 q964) rfl rfl rfl hd_X1_become ⟨Nat.le_of_ble_eq_true rfl, Nat.le_of_ble_eq_true rfl⟩) ⟨gblind, grecv hPF hG (gC_of (gK_mon hG.1.2 h0p0 (by decide)) (by decide)) (by decide) (by decide) rfl, fun U hU hW => gpre hPF hA hG _ U hU hW⟩ rfl rfl hl.1 rfl (lv_room (Nat.le_of_ble_eq_true rfl)) dX1_change_37 ⟨(Nat.le_of_ble_eq_true rfl), (Nat.le_of_ble_eq_true rfl)⟩) (fun G9 H locs hw hmon hG => ?_)
    replace hw := hw hmon
    have hk2 : gC G9 q1 = 2 := gC_mon hmon hk2 (by decide)
    refine lv_iload_n hx hb dX1_change_40 rfl (lv_at hl 0 rfl) ?_
    exact xreti hx hb hr hlk hG rfl hw (Nat.le_of_ble_eq_true rfl) (Nat.le_of_ble_eq_true rfl) dX1_change_41
def gw_X1_sheets (E : gE) (post : Int32 → Gh → Prop) (px : String → Nat → Gh → Prop) (p0 : Nat) (p1 : Int32) (G : Gh) : Prop := gK G p0 = 1 ∧ (∀ q1, gK G q1 = 0 → ∀ G2, G2 = gsI (gN G q1 42 1) q1 0 p1 → (gw_X1_change E (fun r4 G3 => gMon G2 G3 → (post r4 G3)) px p0 q1 G2))
theorem hd_X1_sheets : yX1_sheets.cls = RX1 ∧ yX1_sheets.cls ≠ "java/lang/invoke/MethodHandle" ∧ yX1_sheets.cls ≠ "java/lang/invoke/VarHandle" ∧ (parseMethodDescriptor yX1_sheets.desc).map (fun d => d.parameters.length) = some 1 := by decide +kernel
theorem hdn_X1_sheets : yX1_sheets.cls ≠ "java/lang/invoke/MethodHandle" ∧ yX1_sheets.cls ≠ "java/lang/invoke/VarHandle" ∧ (parseMethodDescriptor yX1_sheets.desc).map (fun d => d.parameters.length) = some 1 := hd_X1_sheets.2
theorem hdu_X1_sheets : RX1 ≠ "java/lang/invoke/MethodHandle" ∧ RX1 ≠ "java/lang/invoke/VarHandle" ∧ (parseMethodDescriptor yX1_sheets.desc).map (fun d => d.parameters.length) = some 1 := by decide +kernel
theorem hds_X1_sheets : yX1_sheets.name ≠ "<init>" ∧ (parseMethodDescriptor yX1_sheets.desc).map (fun d => d.parameters.length) = some 1 := by decide +kernel
set_option maxHeartbeats 1000000 in
set_option maxRecDepth 100000 in
theorem gm_X1_sheets (l : Launch) (hlt : l.stackTraces = false) (E : gE) (p0 : Nat) (p1 : Int32) (post : Int32 → Gh → Prop) (px : String → Nat → Gh → Prop) (G : Gh) (hw : gw_X1_sheets E post px p0 p1 G) : gX l E yX1_sheets (ws_ yX1_sheets cX1_sheets 2 (some .int)) ({ frames := 15, cells := 942, slots := 10665, locals := 3200 } : Room) 942 10665 [.ref p0, .int p1] G (gpi post) px := by
  refine xof (by decide) (Nat.le_of_ble_eq_true rfl) ?_
  intro p e s m below meth c A ls hx hb hr hlk hml hown hin hts hPF hA htab hG hl
  have hl : lv_has ls 2 [(0, .ref p0), (1, .int p1)] := hl
  unfold gw_X1_sheets at hw
  obtain ⟨G0, hG0⟩ : ∃ G0, G0 = G := ⟨_, rfl⟩
  have hG : gS E A G0 s.heap G s.heap [] := by rw [hG0]; exact hG
  rw [show gQ E A G (gpi post) = gQ E A G0 (gpi post) by rw [hG0]]
  rw [show gXC E A G px = gXC E A G0 px by rw [hG0]]
  have h0p0 := hw.1; rw [← hG0] at h0p0
  replace hw := hw.2
  refine lv_aload_n hx hb dX1_sheets_0 rfl (lv_at hl 0 rfl) ?_
  refine lv_iload_n hx hb dX1_sheets_1 rfl (lv_at hl 1 rfl) ?_
  refine glmk1 (rest := [.ref p0]) hx hb hml hl.1 hts 2 rfl rfl hin.1 hPF hA hG (by (try simp only [List.map, va_rf_cat, gcat_i, gcat_r, gcat_l, gcat_d, gcat_f, gcat_n]); exact Nat.le_of_ble_eq_true rfl) (Nat.le_of_ble_eq_true rfl) (Nat.le_of_ble_eq_true rfl) dX1_sheets_2 (fun q1 H h0q1 hG => ?_)
  replace hw := hw q1 h0q1
  obtain ⟨G2, eG2⟩ : ∃ z, z = gsI (gN G q1 42 1) q1 0 p1 := ⟨_, rfl⟩
  rw [← eG2] at hG
  replace hw := hw G2 eG2
  have hkq1 : gK G2 q1 = 42 := by rw [eG2]; exact gK_Nq (n := 1)
  refine xc3i hA hG (vx_runVX (As := [.ref q1]) (rest := []) ⟨hx, hb, hml, hown, hts⟩ (gm_X1_change l hlt E p0 q1 _ _ G2 hw _) (vx_cwVW 1 hts (lw_VW q688 q690 qs2 q55 q691) rfl rfl rfl hd_X1_change ⟨Nat.le_of_ble_eq_true rfl, Nat.le_of_ble_eq_true rfl⟩) ⟨gblind, grecv hPF hG (gC_of (gK_mon hG.1.2 h0p0 (by decide)) (by decide)) (by decide) (by decide) rfl, fun U hU hW => gpre hPF hA hG _ U hU hW⟩ rfl rfl hl.1 rfl (lv_room (Nat.le_of_ble_eq_true rfl)) dX1_sheets_7 ⟨(Nat.le_of_ble_eq_true rfl), (Nat.le_of_ble_eq_true rfl)⟩) (fun X ce q Gx H locs hw hmon hG hce hcv hcl => ?_) (fun r4 G3 H locs hw hmon hG => ?_)
  · exact gleave hlk hG (fun x hx9 => (htab x hx9).elim) hce hcv hcl hw (Nat.le_of_ble_eq_true rfl) (Nat.le_of_ble_eq_true rfl)
  · replace hw := hw hmon
    have hkq1 : gK G3 q1 = 42 := gK_mon hmon hkq1 (by decide)
    exact xreti hx hb hr hlk hG rfl hw (Nat.le_of_ble_eq_true rfl) (Nat.le_of_ble_eq_true rfl) dX1_sheets_10
def gw_X1_damp (E : gE) (post : Int32 → Gh → Prop) (px : String → Nat → Gh → Prop) (p0 : Nat) (p1 : Int32) (G : Gh) : Prop := gK G p0 = 1 ∧ (∀ q1, gK G q1 = 0 → ∀ G2, G2 = gsI (gN G q1 43 1) q1 0 p1 → (gw_X1_change E (fun r4 G3 => gMon G2 G3 → (post r4 G3)) px p0 q1 G2))
theorem hd_X1_damp : yX1_damp.cls = RX1 ∧ yX1_damp.cls ≠ "java/lang/invoke/MethodHandle" ∧ yX1_damp.cls ≠ "java/lang/invoke/VarHandle" ∧ (parseMethodDescriptor yX1_damp.desc).map (fun d => d.parameters.length) = some 1 := by decide +kernel
theorem hdn_X1_damp : yX1_damp.cls ≠ "java/lang/invoke/MethodHandle" ∧ yX1_damp.cls ≠ "java/lang/invoke/VarHandle" ∧ (parseMethodDescriptor yX1_damp.desc).map (fun d => d.parameters.length) = some 1 := hd_X1_damp.2
theorem hdu_X1_damp : RX1 ≠ "java/lang/invoke/MethodHandle" ∧ RX1 ≠ "java/lang/invoke/VarHandle" ∧ (parseMethodDescriptor yX1_damp.desc).map (fun d => d.parameters.length) = some 1 := by decide +kernel
theorem hds_X1_damp : yX1_damp.name ≠ "<init>" ∧ (parseMethodDescriptor yX1_damp.desc).map (fun d => d.parameters.length) = some 1 := by decide +kernel
set_option maxHeartbeats 1000000 in
set_option maxRecDepth 100000 in
theorem gm_X1_damp (l : Launch) (hlt : l.stackTraces = false) (E : gE) (p0 : Nat) (p1 : Int32) (post : Int32 → Gh → Prop) (px : String → Nat → Gh → Prop) (G : Gh) (hw : gw_X1_damp E post px p0 p1 G) : gX l E yX1_damp (ws_ yX1_damp cX1_damp 2 (some .int)) ({ frames := 15, cells := 942, slots := 10665, locals := 3200 } : Room) 942 10665 [.ref p0, .int p1] G (gpi post) px := by
  refine xof (by decide) (Nat.le_of_ble_eq_true rfl) ?_
  intro p e s m below meth c A ls hx hb hr hlk hml hown hin hts hPF hA htab hG hl
  have hl : lv_has ls 2 [(0, .ref p0), (1, .int p1)] := hl
  unfold gw_X1_damp at hw
  obtain ⟨G0, hG0⟩ : ∃ G0, G0 = G := ⟨_, rfl⟩
  have hG : gS E A G0 s.heap G s.heap [] := by rw [hG0]; exact hG
  rw [show gQ E A G (gpi post) = gQ E A G0 (gpi post) by rw [hG0]]
  rw [show gXC E A G px = gXC E A G0 px by rw [hG0]]
  have h0p0 := hw.1; rw [← hG0] at h0p0
  replace hw := hw.2
  refine lv_aload_n hx hb dX1_damp_0 rfl (lv_at hl 0 rfl) ?_
  refine lv_iload_n hx hb dX1_damp_1 rfl (lv_at hl 1 rfl) ?_
  refine glmk1 (rest := [.ref p0]) hx hb hml hl.1 hts 3 rfl rfl hin.1 hPF hA hG (by (try simp only [List.map, va_rf_cat, gcat_i, gcat_r, gcat_l, gcat_d, gcat_f, gcat_n]); exact Nat.le_of_ble_eq_true rfl) (Nat.le_of_ble_eq_true rfl) (Nat.le_of_ble_eq_true rfl) dX1_damp_2 (fun q1 H h0q1 hG => ?_)
  replace hw := hw q1 h0q1
  obtain ⟨G2, eG2⟩ : ∃ z, z = gsI (gN G q1 43 1) q1 0 p1 := ⟨_, rfl⟩
  rw [← eG2] at hG
  replace hw := hw G2 eG2
  have hkq1 : gK G2 q1 = 43 := by rw [eG2]; exact gK_Nq (n := 1)
  refine xc3i hA hG (vx_runVX (As := [.ref q1]) (rest := []) ⟨hx, hb, hml, hown, hts⟩ (gm_X1_change l hlt E p0 q1 _ _ G2 hw _) (vx_cwVW 1 hts (lw_VW q688 q690 qs2 q55 q691) rfl rfl rfl hd_X1_change ⟨Nat.le_of_ble_eq_true rfl, Nat.le_of_ble_eq_true rfl⟩) ⟨gblind, grecv hPF hG (gC_of (gK_mon hG.1.2 h0p0 (by decide)) (by decide)) (by decide) (by decide) rfl, fun U hU hW => gpre hPF hA hG _ U hU hW⟩ rfl rfl hl.1 rfl (lv_room (Nat.le_of_ble_eq_true rfl)) dX1_damp_7 ⟨(Nat.le_of_ble_eq_true rfl), (Nat.le_of_ble_eq_true rfl)⟩) (fun X ce q Gx H locs hw hmon hG hce hcv hcl => ?_) (fun r4 G3 H locs hw hmon hG => ?_)
  · exact gleave hlk hG (fun x hx9 => (htab x hx9).elim) hce hcv hcl hw (Nat.le_of_ble_eq_true rfl) (Nat.le_of_ble_eq_true rfl)
  · replace hw := hw hmon
    have hkq1 : gK G3 q1 = 43 := gK_mon hmon hkq1 (by decide)
    exact xreti hx hb hr hlk hG rfl hw (Nat.le_of_ble_eq_true rfl) (Nat.le_of_ble_eq_true rfl) dX1_damp_10
def gw_X1_copper (E : gE) (post : Int32 → Gh → Prop) (px : String → Nat → Gh → Prop) (p0 : Nat) (p1 : Int32) (G : Gh) : Prop := gK G p0 = 1 ∧ (∀ q1, gK G q1 = 0 → ∀ G2, G2 = gsI (gN G q1 44 1) q1 0 p1 → (gw_X1_change E (fun r4 G3 => gMon G2 G3 → (post r4 G3)) px p0 q1 G2))
theorem hd_X1_copper : yX1_copper.cls = RX1 ∧ yX1_copper.cls ≠ "java/lang/invoke/MethodHandle" ∧ yX1_copper.cls ≠ "java/lang/invoke/VarHandle" ∧ (parseMethodDescriptor yX1_copper.desc).map (fun d => d.parameters.length) = some 1 := by decide +kernel
theorem hdn_X1_copper : yX1_copper.cls ≠ "java/lang/invoke/MethodHandle" ∧ yX1_copper.cls ≠ "java/lang/invoke/VarHandle" ∧ (parseMethodDescriptor yX1_copper.desc).map (fun d => d.parameters.length) = some 1 := hd_X1_copper.2
theorem hdu_X1_copper : RX1 ≠ "java/lang/invoke/MethodHandle" ∧ RX1 ≠ "java/lang/invoke/VarHandle" ∧ (parseMethodDescriptor yX1_copper.desc).map (fun d => d.parameters.length) = some 1 := by decide +kernel
theorem hds_X1_copper : yX1_copper.name ≠ "<init>" ∧ (parseMethodDescriptor yX1_copper.desc).map (fun d => d.parameters.length) = some 1 := by decide +kernel
set_option maxHeartbeats 1000000 in
set_option maxRecDepth 100000 in
theorem gm_X1_copper (l : Launch) (hlt : l.stackTraces = false) (E : gE) (p0 : Nat) (p1 : Int32) (post : Int32 → Gh → Prop) (px : String → Nat → Gh → Prop) (G : Gh) (hw : gw_X1_copper E post px p0 p1 G) : gX l E yX1_copper (ws_ yX1_copper cX1_copper 2 (some .int)) ({ frames := 15, cells := 942, slots := 10665, locals := 3200 } : Room) 942 10665 [.ref p0, .int p1] G (gpi post) px := by
  refine xof (by decide) (Nat.le_of_ble_eq_true rfl) ?_
  intro p e s m below meth c A ls hx hb hr hlk hml hown hin hts hPF hA htab hG hl
  have hl : lv_has ls 2 [(0, .ref p0), (1, .int p1)] := hl
  unfold gw_X1_copper at hw
  obtain ⟨G0, hG0⟩ : ∃ G0, G0 = G := ⟨_, rfl⟩
  have hG : gS E A G0 s.heap G s.heap [] := by rw [hG0]; exact hG
  rw [show gQ E A G (gpi post) = gQ E A G0 (gpi post) by rw [hG0]]
  rw [show gXC E A G px = gXC E A G0 px by rw [hG0]]
  have h0p0 := hw.1; rw [← hG0] at h0p0
  replace hw := hw.2
  refine lv_aload_n hx hb dX1_copper_0 rfl (lv_at hl 0 rfl) ?_
  refine lv_iload_n hx hb dX1_copper_1 rfl (lv_at hl 1 rfl) ?_
  refine glmk1 (rest := [.ref p0]) hx hb hml hl.1 hts 4 rfl rfl hin.1 hPF hA hG (by (try simp only [List.map, va_rf_cat, gcat_i, gcat_r, gcat_l, gcat_d, gcat_f, gcat_n]); exact Nat.le_of_ble_eq_true rfl) (Nat.le_of_ble_eq_true rfl) (Nat.le_of_ble_eq_true rfl) dX1_copper_2 (fun q1 H h0q1 hG => ?_)
  replace hw := hw q1 h0q1
  obtain ⟨G2, eG2⟩ : ∃ z, z = gsI (gN G q1 44 1) q1 0 p1 := ⟨_, rfl⟩
  rw [← eG2] at hG
  replace hw := hw G2 eG2
  have hkq1 : gK G2 q1 = 44 := by rw [eG2]; exact gK_Nq (n := 1)
  refine xc3i hA hG (vx_runVX (As := [.ref q1]) (rest := []) ⟨hx, hb, hml, hown, hts⟩ (gm_X1_change l hlt E p0 q1 _ _ G2 hw _) (vx_cwVW 1 hts (lw_VW q688 q690 qs2 q55 q691) rfl rfl rfl hd_X1_change ⟨Nat.le_of_ble_eq_true rfl, Nat.le_of_ble_eq_true rfl⟩) ⟨gblind, grecv hPF hG (gC_of (gK_mon hG.1.2 h0p0 (by decide)) (by decide)) (by decide) (by decide) rfl, fun U hU hW => gpre hPF hA hG _ U hU hW⟩ rfl rfl hl.1 rfl (lv_room (Nat.le_of_ble_eq_true rfl)) dX1_copper_7 ⟨(Nat.le_of_ble_eq_true rfl), (Nat.le_of_ble_eq_true rfl)⟩) (fun X ce q Gx H locs hw hmon hG hce hcv hcl => ?_) (fun r4 G3 H locs hw hmon hG => ?_)
  · exact gleave hlk hG (fun x hx9 => (htab x hx9).elim) hce hcv hcl hw (Nat.le_of_ble_eq_true rfl) (Nat.le_of_ble_eq_true rfl)
  · replace hw := hw hmon
    have hkq1 : gK G3 q1 = 44 := gK_mon hmon hkq1 (by decide)
    exact xreti hx hb hr hlk hG rfl hw (Nat.le_of_ble_eq_true rfl) (Nat.le_of_ble_eq_true rfl) dX1_copper_10
def gw_X1_copperOf (E : gE) (post : Int32 → Gh → Prop) (px : String → Nat → Gh → Prop) (p0 : Nat) (p1 : Int32) (p2 : Int32) (G : Gh) : Prop := gK G p0 = 1 ∧ (∃ q1, (gR G p0 0) = some q1 ∧ (gC G q1 = 2 ∧ (gw_X2_copper E (fun r4 G3 => gMon G G3 → ((p2 = 0 → (∃ q5, r4 = some q5 ∧ (gC G3 q5 = 4 ∧ (post (gI G3 q5 1) G3)))) ∧ (p2 = 1 → (∃ q7, r4 = some q7 ∧ (gC G3 q7 = 4 ∧ (post (gI G3 q7 2) G3)))) ∧ (p2 = 2 → (∃ q9, (gR G3 p0 0) = some q9 ∧ (gC G3 q9 = 2 ∧ (∃ q11, r4 = some q11 ∧ (gC G3 q11 = 4 ∧ (gw_X5_well E (fun r14 G13 => gMon G3 G13 → (post r14 G13)) q11 (gI G3 q9 6) G3)))))) ∧ (p2 = 3 → (∃ q15, r4 = some q15 ∧ (gC G3 q15 = 4 ∧ (post (gI G3 q15 3) G3)))) ∧ (p2.toInt < 0 ∨ 3 < p2.toInt → (∀ q, gK G3 q = 0 → px "java/lang/IllegalArgumentException" q G3)))) px q1 p1 G)))
theorem hd_X1_copperOf : yX1_copperOf.cls = RX1 ∧ yX1_copperOf.cls ≠ "java/lang/invoke/MethodHandle" ∧ yX1_copperOf.cls ≠ "java/lang/invoke/VarHandle" ∧ (parseMethodDescriptor yX1_copperOf.desc).map (fun d => d.parameters.length) = some 2 := by decide +kernel
theorem hdn_X1_copperOf : yX1_copperOf.cls ≠ "java/lang/invoke/MethodHandle" ∧ yX1_copperOf.cls ≠ "java/lang/invoke/VarHandle" ∧ (parseMethodDescriptor yX1_copperOf.desc).map (fun d => d.parameters.length) = some 2 := hd_X1_copperOf.2
theorem hdu_X1_copperOf : RX1 ≠ "java/lang/invoke/MethodHandle" ∧ RX1 ≠ "java/lang/invoke/VarHandle" ∧ (parseMethodDescriptor yX1_copperOf.desc).map (fun d => d.parameters.length) = some 2 := by decide +kernel
theorem hds_X1_copperOf : yX1_copperOf.name ≠ "<init>" ∧ (parseMethodDescriptor yX1_copperOf.desc).map (fun d => d.parameters.length) = some 2 := by decide +kernel
set_option maxHeartbeats 1000000 in
set_option maxRecDepth 100000 in
theorem gm_X1_copperOf (l : Launch) (hlt : l.stackTraces = false) (E : gE) (p0 : Nat) (p1 : Int32) (p2 : Int32) (post : Int32 → Gh → Prop) (px : String → Nat → Gh → Prop) (G : Gh) (hw : gw_X1_copperOf E post px p0 p1 p2 G) : gX l E yX1_copperOf (ws_ yX1_copperOf cX1_copperOf 4 (some .int)) ({ frames := 11, cells := 2, slots := 12, locals := 182 } : Room) 2 12 [.ref p0, .int p1, .int p2] G (gpi post) px := by
  refine xof (by decide) (Nat.le_of_ble_eq_true rfl) ?_
  intro p e s m below meth c A ls hx hb hr hlk hml hown hin hts hPF hA htab hG hl
  have hl : lv_has ls 4 [(0, .ref p0), (1, .int p1), (2, .int p2)] := hl
  unfold gw_X1_copperOf at hw
  obtain ⟨G0, hG0⟩ : ∃ G0, G0 = G := ⟨_, rfl⟩
  have hG : gS E A G0 s.heap G s.heap [] := by rw [hG0]; exact hG
  rw [show gQ E A G (gpi post) = gQ E A G0 (gpi post) by rw [hG0]]
  rw [show gXC E A G px = gXC E A G0 px by rw [hG0]]
  have h0p0 := hw.1; rw [← hG0] at h0p0
  replace hw := hw.2
  refine lv_aload_n hx hb dX1_copperOf_0 rfl (lv_at hl 0 rfl) ?_
  refine gg hx hb hts hown hPF hG 1 0 rfl in_X1 (by decide) (by decide) (by decide) q539 (fun _ h9 => h9) (gC_of (gK_mon hG.1.2 h0p0 (by decide)) (by decide)) (v := va_rf (gR G p0 0)) rfl dX1_copperOf_1 ?_
  refine lv_iload_n hx hb dX1_copperOf_4 rfl (lv_at hl 1 rfl) ?_
  obtain ⟨q1, hq1, hw⟩ := hw
  refine W.eq (g2 := F0 m 5 ls [.int p1, .ref q1]) (by rw [hq1]; rfl) ?_
  have hk2 := hw.1
  replace hw := hw.2
  refine xc3r hA hG (vx_runV (As := [.int p1]) (rest := []) ⟨hx, hb, hml, hown, hts⟩ (gm_X2_copper l hlt E q1 p1 _ _ G hw _) (cwV 1 hts (lw_V q1087 q1088 q1089 q56 q1090) rfl rfl rfl hd_X2_copper ⟨Nat.le_of_ble_eq_true rfl, Nat.le_of_ble_eq_true rfl⟩) ⟨gblind, grecv hPF hG hk2 (by decide) (by decide) rfl, fun U hU hW => gpre hPF hA hG _ U hU hW⟩ rfl rfl hl.1 rfl (lv_room (Nat.le_of_ble_eq_true rfl)) dX1_copperOf_5 ⟨(Nat.le_of_ble_eq_true rfl), (Nat.le_of_ble_eq_true rfl)⟩) (fun X ce q Gx H locs hw hmon hG hce hcv hcl => ?_) (fun r4 G3 H locs hw hmon hG => ?_)
  · exact gleave hlk hG (fun x hx9 => (htab x hx9).elim) hce hcv hcl hw (Nat.le_of_ble_eq_true rfl) (Nat.le_of_ble_eq_true rfl)
  · replace hw := hw hmon
    have hk2 : gC G3 q1 = 2 := gC_mon hmon hk2 (by decide)
    refine gt_n (i := 3) (lv' := [(3, va_rf r4), (0, .ref p0), (1, .int p1), (2, .int p2)]) hx hb dX1_copperOf_8 rfl hl (by decide) rfl (fun ls hl => ?_)
    refine lv_iload_n hx hb dX1_copperOf_9 rfl (lv_at hl 3 rfl) ?_
    by_cases ho_ : p2.toInt < 0 ∨ 3 < p2.toInt
    · refine lv_tableOut (tgt := 67) hx hb dX1_copperOf_10 ho_ (by decide) ?_
      replace hw := hw.2.2.2.2 ho_
      exact vx_throw0 (cls := "java/lang/IllegalArgumentException") (names := excNames) (A := A) hx hb hlt hown (by decide +kernel) (by decide +kernel) (hts _ q642) (hts _ q63) (tw_hat hts hPF tw_X1_3_IllegalArgumentException) (tw_ot (by decide +kernel)) hPF.u.1 hPF.u.2 hG.2 (hl.1.trans hml.symm) dX1_copperOf_67 dX1_copperOf_70 dX1_copperOf_71 dX1_copperOf_74 (fun x hx9 => (htab x hx9).elim) (Nat.le_of_ble_eq_true rfl) (by (try simp only [List.map, va_rf_cat, gcat_i, gcat_r, gcat_l, gcat_d, gcat_f, gcat_n]); exact Nat.le_of_ble_eq_true rfl) (Nat.le_of_ble_eq_true rfl) (Nat.le_of_ble_eq_true rfl) hlk (fun q t hq hW hz hk => gthrown hG (hw q (Classical.byContradiction fun h => Nat.lt_irrefl _ (Nat.lt_of_lt_of_le (gat_lt (hG.1.1 q h).1) hq))) hz hk) hG.2.2.2 (Nat.le_of_ble_eq_true rfl) (Nat.le_of_ble_eq_true rfl)
    · have hi_ : p2.toInt = 0 ∨ p2.toInt = 1 ∨ p2.toInt = 2 ∨ p2.toInt = 3 := by omega
      rcases hi_ with hi_ | hi_ | hi_ | hi_
      · have hk_ : p2 = (0 : Int32) := Int32.toInt_inj.mp (by rw [hi_]; rfl)
        refine lv_tableIn (off := 30) (tgt := 40) hx hb dX1_copperOf_10 (by rw [hk_]; decide) (by rw [hk_]; decide) (by rw [hk_]; rfl) (by decide) ?_
        replace hw := hw.1 hk_
        refine ga_n hx hb dX1_copperOf_40 rfl (lv_at hl 0 rfl) ?_
        obtain ⟨q5, hq5, hw⟩ := hw
        refine W.eq (g2 := F0 m 41 ls [.ref q5]) (by rw [hq5]; rfl) ?_
        have hk6 := hw.1
        replace hw := hw.2
        refine ggN hx hb hts hown hPF hG 4 1 rfl in_X5 (by decide) (by decide) (by decide) q774 (fun _ h9 => h9) hk6 (v := .int (gI G3 q5 1)) rfl dX1_copperOf_41 ?_
        exact xreti hx hb hr hlk hG rfl hw (Nat.le_of_ble_eq_true rfl) (Nat.le_of_ble_eq_true rfl) dX1_copperOf_44
      · have hk_ : p2 = (1 : Int32) := Int32.toInt_inj.mp (by rw [hi_]; rfl)
        refine lv_tableIn (off := 35) (tgt := 45) hx hb dX1_copperOf_10 (by rw [hk_]; decide) (by rw [hk_]; decide) (by rw [hk_]; rfl) (by decide) ?_
        replace hw := hw.2.1 hk_
        refine ga_n hx hb dX1_copperOf_45 rfl (lv_at hl 0 rfl) ?_
        obtain ⟨q7, hq7, hw⟩ := hw
        refine W.eq (g2 := F0 m 46 ls [.ref q7]) (by rw [hq7]; rfl) ?_
        have hk8 := hw.1
        replace hw := hw.2
        refine ggN hx hb hts hown hPF hG 4 2 rfl in_X5 (by decide) (by decide) (by decide) q777 (fun _ h9 => h9) hk8 (v := .int (gI G3 q7 2)) rfl dX1_copperOf_46 ?_
        exact xreti hx hb hr hlk hG rfl hw (Nat.le_of_ble_eq_true rfl) (Nat.le_of_ble_eq_true rfl) dX1_copperOf_49
      · have hk_ : p2 = (2 : Int32) := Int32.toInt_inj.mp (by rw [hi_]; rfl)
        refine lv_tableIn (off := 40) (tgt := 50) hx hb dX1_copperOf_10 (by rw [hk_]; decide) (by rw [hk_]; decide) (by rw [hk_]; rfl) (by decide) ?_
        replace hw := hw.2.2.1 hk_
        refine ga_n hx hb dX1_copperOf_50 rfl (lv_at hl 0 rfl) ?_
        refine lv_aload_n hx hb dX1_copperOf_51 rfl (lv_at hl 1 rfl) ?_
        refine gg hx hb hts hown hPF hG 1 0 rfl in_X1 (by decide) (by decide) (by decide) q539 (fun _ h9 => h9) (gC_of (gK_mon hG.1.2 h0p0 (by decide)) (by decide)) (v := va_rf (gR G3 p0 0)) rfl dX1_copperOf_52 ?_
        obtain ⟨q9, hq9, hw⟩ := hw
        refine W.eq (g2 := F0 m 55 ls [.ref q9, va_rf r4]) (by rw [hq9]; rfl) ?_
        have hk10 := hw.1
        replace hw := hw.2
        refine ggN hx hb hts hown hPF hG 2 6 rfl in_X2 (by decide) (by decide) (by decide) q475 (fun _ h9 => h9) hk10 (v := .int (gI G3 q9 6)) rfl dX1_copperOf_55 ?_
        obtain ⟨q11, hq11, hw⟩ := hw
        refine W.eq (g2 := F0 m 58 ls [.int (gI G3 q9 6), .ref q11]) (by rw [hq11]; rfl) ?_
        have hk12 := hw.1
        replace hw := hw.2
        refine gc3i hA hG (va_runV (As := [.int (gI G3 q9 6)]) (rest := []) ⟨hx, hb, hml, hown, hts⟩ (gm_X5_well l E q11 (gI G3 q9 6) _ G3 hw _) (cwV 1 hts (lw_V q1113 q1114 q1115 q81 q1116) rfl rfl rfl hd_X5_well ⟨Nat.le_of_ble_eq_true rfl, Nat.le_of_ble_eq_true rfl⟩) ⟨gblind, grecv hPF hG hk12 (by decide) (by decide) rfl, fun U hU hW => gpre hPF hA hG _ U hU hW⟩ rfl rfl hl.1 rfl (lv_room (Nat.le_of_ble_eq_true rfl)) dX1_copperOf_58 ⟨(Nat.le_of_ble_eq_true rfl), (Nat.le_of_ble_eq_true rfl)⟩) (fun r14 G13 H locs hw hmon hG => ?_)
        replace hw := hw hmon
        have hk2 : gC G13 q1 = 2 := gC_mon hmon hk2 (by decide)
        have hk10 : gC G13 q9 = 2 := gC_mon hmon hk10 (by decide)
        have hk12 : gC G13 q11 = 4 := gC_mon hmon hk12 (by decide)
        exact xreti hx hb hr hlk hG rfl hw (Nat.le_of_ble_eq_true rfl) (Nat.le_of_ble_eq_true rfl) dX1_copperOf_61
      · have hk_ : p2 = (3 : Int32) := Int32.toInt_inj.mp (by rw [hi_]; rfl)
        refine lv_tableIn (off := 52) (tgt := 62) hx hb dX1_copperOf_10 (by rw [hk_]; decide) (by rw [hk_]; decide) (by rw [hk_]; rfl) (by decide) ?_
        replace hw := hw.2.2.2.1 hk_
        refine ga_n hx hb dX1_copperOf_62 rfl (lv_at hl 0 rfl) ?_
        obtain ⟨q15, hq15, hw⟩ := hw
        refine W.eq (g2 := F0 m 63 ls [.ref q15]) (by rw [hq15]; rfl) ?_
        have hk16 := hw.1
        replace hw := hw.2
        refine ggN hx hb hts hown hPF hG 4 3 rfl in_X5 (by decide) (by decide) (by decide) q780 (fun _ h9 => h9) hk16 (v := .int (gI G3 q15 3)) rfl dX1_copperOf_63 ?_
        exact xreti hx hb hr hlk hG rfl hw (Nat.le_of_ble_eq_true rfl) (Nat.le_of_ble_eq_true rfl) dX1_copperOf_66
def gw_X1_wellAgain (E : gE) (post : Int32 → Gh → Prop) (px : String → Nat → Gh → Prop) (p0 : Nat) (p1 : Int32) (G : Gh) : Prop := gK G p0 = 1 ∧ (∃ q1, (gR G p0 0) = some q1 ∧ (gC G q1 = 2 ∧ (gw_X2_copper E (fun r4 G3 => gMon G G3 → (∃ q5, (gR G3 p0 0) = some q5 ∧ (gC G3 q5 = 2 ∧ (∃ q7, r4 = some q7 ∧ (gC G3 q7 = 4 ∧ (gw_X5_wellAgain E (fun r10 G9 => gMon G3 G9 → (post r10 G9)) q7 (gI G3 q5 6) G3)))))) px q1 p1 G)))
theorem hd_X1_wellAgain : yX1_wellAgain.cls = RX1 ∧ yX1_wellAgain.cls ≠ "java/lang/invoke/MethodHandle" ∧ yX1_wellAgain.cls ≠ "java/lang/invoke/VarHandle" ∧ (parseMethodDescriptor yX1_wellAgain.desc).map (fun d => d.parameters.length) = some 1 := by decide +kernel
theorem hdn_X1_wellAgain : yX1_wellAgain.cls ≠ "java/lang/invoke/MethodHandle" ∧ yX1_wellAgain.cls ≠ "java/lang/invoke/VarHandle" ∧ (parseMethodDescriptor yX1_wellAgain.desc).map (fun d => d.parameters.length) = some 1 := hd_X1_wellAgain.2
theorem hdu_X1_wellAgain : RX1 ≠ "java/lang/invoke/MethodHandle" ∧ RX1 ≠ "java/lang/invoke/VarHandle" ∧ (parseMethodDescriptor yX1_wellAgain.desc).map (fun d => d.parameters.length) = some 1 := by decide +kernel
theorem hds_X1_wellAgain : yX1_wellAgain.name ≠ "<init>" ∧ (parseMethodDescriptor yX1_wellAgain.desc).map (fun d => d.parameters.length) = some 1 := by decide +kernel
set_option maxHeartbeats 1000000 in
set_option maxRecDepth 100000 in
theorem gm_X1_wellAgain (l : Launch) (hlt : l.stackTraces = false) (E : gE) (p0 : Nat) (p1 : Int32) (post : Int32 → Gh → Prop) (px : String → Nat → Gh → Prop) (G : Gh) (hw : gw_X1_wellAgain E post px p0 p1 G) : gX l E yX1_wellAgain (ws_ yX1_wellAgain cX1_wellAgain 2 (some .int)) ({ frames := 11, cells := 1, slots := 6, locals := 182 } : Room) 1 6 [.ref p0, .int p1] G (gpi post) px := by
  refine xof (by decide) (Nat.le_of_ble_eq_true rfl) ?_
  intro p e s m below meth c A ls hx hb hr hlk hml hown hin hts hPF hA htab hG hl
  have hl : lv_has ls 2 [(0, .ref p0), (1, .int p1)] := hl
  unfold gw_X1_wellAgain at hw
  obtain ⟨G0, hG0⟩ : ∃ G0, G0 = G := ⟨_, rfl⟩
  have hG : gS E A G0 s.heap G s.heap [] := by rw [hG0]; exact hG
  rw [show gQ E A G (gpi post) = gQ E A G0 (gpi post) by rw [hG0]]
  rw [show gXC E A G px = gXC E A G0 px by rw [hG0]]
  have h0p0 := hw.1; rw [← hG0] at h0p0
  replace hw := hw.2
  refine lv_aload_n hx hb dX1_wellAgain_0 rfl (lv_at hl 0 rfl) ?_
  refine gg hx hb hts hown hPF hG 1 0 rfl in_X1 (by decide) (by decide) (by decide) q539 (fun _ h9 => h9) (gC_of (gK_mon hG.1.2 h0p0 (by decide)) (by decide)) (v := va_rf (gR G p0 0)) rfl dX1_wellAgain_1 ?_
  refine lv_iload_n hx hb dX1_wellAgain_4 rfl (lv_at hl 1 rfl) ?_
  obtain ⟨q1, hq1, hw⟩ := hw
  refine W.eq (g2 := F0 m 5 ls [.int p1, .ref q1]) (by rw [hq1]; rfl) ?_
  have hk2 := hw.1
  replace hw := hw.2
  refine xc3r hA hG (vx_runV (As := [.int p1]) (rest := []) ⟨hx, hb, hml, hown, hts⟩ (gm_X2_copper l hlt E q1 p1 _ _ G hw _) (cwV 1 hts (lw_V q1087 q1088 q1089 q56 q1090) rfl rfl rfl hd_X2_copper ⟨Nat.le_of_ble_eq_true rfl, Nat.le_of_ble_eq_true rfl⟩) ⟨gblind, grecv hPF hG hk2 (by decide) (by decide) rfl, fun U hU hW => gpre hPF hA hG _ U hU hW⟩ rfl rfl hl.1 rfl (lv_room (Nat.le_of_ble_eq_true rfl)) dX1_wellAgain_5 ⟨(Nat.le_of_ble_eq_true rfl), (Nat.le_of_ble_eq_true rfl)⟩) (fun X ce q Gx H locs hw hmon hG hce hcv hcl => ?_) (fun r4 G3 H locs hw hmon hG => ?_)
  · exact gleave hlk hG (fun x hx9 => (htab x hx9).elim) hce hcv hcl hw (Nat.le_of_ble_eq_true rfl) (Nat.le_of_ble_eq_true rfl)
  · replace hw := hw hmon
    have hk2 : gC G3 q1 = 2 := gC_mon hmon hk2 (by decide)
    refine lv_aload_n hx hb dX1_wellAgain_8 rfl (lv_at hl 0 rfl) ?_
    refine gg hx hb hts hown hPF hG 1 0 rfl in_X1 (by decide) (by decide) (by decide) q539 (fun _ h9 => h9) (gC_of (gK_mon hG.1.2 h0p0 (by decide)) (by decide)) (v := va_rf (gR G3 p0 0)) rfl dX1_wellAgain_9 ?_
    obtain ⟨q5, hq5, hw⟩ := hw
    refine W.eq (g2 := F0 m 12 ls [.ref q5, va_rf r4]) (by rw [hq5]; rfl) ?_
    have hk6 := hw.1
    replace hw := hw.2
    refine ggN hx hb hts hown hPF hG 2 6 rfl in_X2 (by decide) (by decide) (by decide) q475 (fun _ h9 => h9) hk6 (v := .int (gI G3 q5 6)) rfl dX1_wellAgain_12 ?_
    obtain ⟨q7, hq7, hw⟩ := hw
    refine W.eq (g2 := F0 m 15 ls [.int (gI G3 q5 6), .ref q7]) (by rw [hq7]; rfl) ?_
    have hk8 := hw.1
    replace hw := hw.2
    refine gc3i hA hG (va_runV (As := [.int (gI G3 q5 6)]) (rest := []) ⟨hx, hb, hml, hown, hts⟩ (gm_X5_wellAgain l E q7 (gI G3 q5 6) _ G3 hw _) (cwV 1 hts (lw_V q1128 q1129 q1130 q81 q1131) rfl rfl rfl hd_X5_wellAgain ⟨Nat.le_of_ble_eq_true rfl, Nat.le_of_ble_eq_true rfl⟩) ⟨gblind, grecv hPF hG hk8 (by decide) (by decide) rfl, fun U hU hW => gpre hPF hA hG _ U hU hW⟩ rfl rfl hl.1 rfl (lv_room (Nat.le_of_ble_eq_true rfl)) dX1_wellAgain_15 ⟨(Nat.le_of_ble_eq_true rfl), (Nat.le_of_ble_eq_true rfl)⟩) (fun r10 G9 H locs hw hmon hG => ?_)
    replace hw := hw hmon
    have hk2 : gC G9 q1 = 2 := gC_mon hmon hk2 (by decide)
    have hk6 : gC G9 q5 = 2 := gC_mon hmon hk6 (by decide)
    have hk8 : gC G9 q7 = 4 := gC_mon hmon hk8 (by decide)
    exact xreti hx hb hr hlk hG rfl hw (Nat.le_of_ble_eq_true rfl) (Nat.le_of_ble_eq_true rfl) dX1_wellAgain_18
def gw_X1_checkElement (E : gE) (post : Gh → Prop) (px : String → Nat → Gh → Prop) (p0 : Int32) (G : Gh) : Prop := (¬ p0 = 0 → (post G)) ∧ (p0 = 0 → (∀ q, gK G q = 0 → px "java/util/NoSuchElementException" q G))
theorem hd_X1_checkElement : yX1_checkElement.cls ≠ "java/lang/invoke/MethodHandle" ∧ yX1_checkElement.cls ≠ "java/lang/invoke/VarHandle" ∧ (parseMethodDescriptor yX1_checkElement.desc).map (fun d => d.parameters.length) = some 1 := by decide +kernel
set_option maxHeartbeats 1000000 in
set_option maxRecDepth 100000 in
theorem gm_X1_checkElement (l : Launch) (hlt : l.stackTraces = false) (E : gE) (p0 : Int32) (post : Gh → Prop) (px : String → Nat → Gh → Prop) (G : Gh) (hw : gw_X1_checkElement E post px p0 G) : gX l E yX1_checkElement (ws_ yX1_checkElement cX1_checkElement 1 none) ({ frames := 8, cells := 1, slots := 6, locals := 120 } : Room) 1 6 [.int p0] G (gpv post) px := by
  refine xof (by decide) (Nat.le_of_ble_eq_true rfl) ?_
  intro p e s m below meth c A ls hx hb hr hlk hml hown hin hts hPF hA htab hG hl
  have hl : lv_has ls 1 [(0, .int p0)] := hl
  unfold gw_X1_checkElement at hw
  obtain ⟨G0, hG0⟩ : ∃ G0, G0 = G := ⟨_, rfl⟩
  have hG : gS E A G0 s.heap G s.heap [] := by rw [hG0]; exact hG
  rw [show gQ E A G (gpv post) = gQ E A G0 (gpv post) by rw [hG0]]
  rw [show gXC E A G px = gXC E A G0 px by rw [hG0]]
  refine lv_iload_n hx hb dX1_checkElement_0 rfl (lv_at hl 0 rfl) ?_
  refine lv_if_ne (tgt := 12) hx hb dX1_checkElement_1 (by decide) (fun c_ => ?_) (fun c_ => ?_)
  · replace hw := hw.1 c_
    exact xretv hx hb hr hlk hG hw (Nat.le_of_ble_eq_true rfl) (Nat.le_of_ble_eq_true rfl) dX1_checkElement_12
  · replace hw := hw.2 c_
    exact vx_throw0 (cls := "java/util/NoSuchElementException") (names := excNames) (A := A) hx hb hlt hown (by decide +kernel) (by decide +kernel) (hts _ q1161) (hts _ q80) (tw_hat hts hPF tw_X1_15_NoSuchElementException) (tw_ot (by decide +kernel)) hPF.u.1 hPF.u.2 hG.2 (hl.1.trans hml.symm) dX1_checkElement_4 dX1_checkElement_7 dX1_checkElement_8 dX1_checkElement_11 (fun x hx9 => (htab x hx9).elim) (Nat.le_of_ble_eq_true rfl) (by (try simp only [List.map, va_rf_cat, gcat_i, gcat_r, gcat_l, gcat_d, gcat_f, gcat_n]); exact Nat.le_of_ble_eq_true rfl) (Nat.le_of_ble_eq_true rfl) (Nat.le_of_ble_eq_true rfl) hlk (fun q t hq hW hz hk => gthrown hG (hw q (Classical.byContradiction fun h => Nat.lt_irrefl _ (Nat.lt_of_lt_of_le (gat_lt (hG.1.1 q h).1) hq))) hz hk) hG.2.2.2 (Nat.le_of_ble_eq_true rfl) (Nat.le_of_ble_eq_true rfl)
def gw_X1_bestCopper (E : gE) (post : Int32 → Gh → Prop) (px : String → Nat → Gh → Prop) (p0 : Nat) (p1 : Int32) (G : Gh) : Prop := gK G p0 = 1 ∧ (∃ q1, (gR G p0 0) = some q1 ∧ (gC G q1 = 2 ∧ (gw_X2_lot E (fun r4 G3 => gMon G G3 → (∃ q5, r4 = some q5 ∧ (gw_X2_bestCopper E (fun r7 G6 => gMon G3 G6 → ((r7 = none → (gw_X1_checkElement E (fun G9 => gMon G6 G9 → (∃ q10, r7 = some q10 ∧ (gC G9 q10 = 4 ∧ (post (gI G9 q10 0) G9)))) px 0 G6)) ∧ (∀ q8, r7 = some q8 → (gw_X1_checkElement E (fun G12 => gMon G6 G12 → (gC G12 q8 = 4 ∧ (post (gI G12 q8 0) G12))) px 1 G6)))) q1 q5 G3))) px q1 p1 G)))
theorem hd_X1_bestCopper : yX1_bestCopper.cls = RX1 ∧ yX1_bestCopper.cls ≠ "java/lang/invoke/MethodHandle" ∧ yX1_bestCopper.cls ≠ "java/lang/invoke/VarHandle" ∧ (parseMethodDescriptor yX1_bestCopper.desc).map (fun d => d.parameters.length) = some 1 := by decide +kernel
theorem hdn_X1_bestCopper : yX1_bestCopper.cls ≠ "java/lang/invoke/MethodHandle" ∧ yX1_bestCopper.cls ≠ "java/lang/invoke/VarHandle" ∧ (parseMethodDescriptor yX1_bestCopper.desc).map (fun d => d.parameters.length) = some 1 := hd_X1_bestCopper.2
theorem hdu_X1_bestCopper : RX1 ≠ "java/lang/invoke/MethodHandle" ∧ RX1 ≠ "java/lang/invoke/VarHandle" ∧ (parseMethodDescriptor yX1_bestCopper.desc).map (fun d => d.parameters.length) = some 1 := by decide +kernel
theorem hds_X1_bestCopper : yX1_bestCopper.name ≠ "<init>" ∧ (parseMethodDescriptor yX1_bestCopper.desc).map (fun d => d.parameters.length) = some 1 := by decide +kernel
set_option maxHeartbeats 1000000 in
set_option maxRecDepth 100000 in
theorem gm_X1_bestCopper (l : Launch) (hlt : l.stackTraces = false) (E : gE) (p0 : Nat) (p1 : Int32) (post : Int32 → Gh → Prop) (px : String → Nat → Gh → Prop) (G : Gh) (hw : gw_X1_bestCopper E post px p0 p1 G) : gX l E yX1_bestCopper (ws_ yX1_bestCopper cX1_bestCopper 3 (some .int)) ({ frames := 11, cells := 3, slots := 16, locals := 182 } : Room) 3 16 [.ref p0, .int p1] G (gpi post) px := by
  refine xof (by decide) (Nat.le_of_ble_eq_true rfl) ?_
  intro p e s m below meth c A ls hx hb hr hlk hml hown hin hts hPF hA htab hG hl
  have hl : lv_has ls 3 [(0, .ref p0), (1, .int p1)] := hl
  unfold gw_X1_bestCopper at hw
  obtain ⟨G0, hG0⟩ : ∃ G0, G0 = G := ⟨_, rfl⟩
  have hG : gS E A G0 s.heap G s.heap [] := by rw [hG0]; exact hG
  rw [show gQ E A G (gpi post) = gQ E A G0 (gpi post) by rw [hG0]]
  rw [show gXC E A G px = gXC E A G0 px by rw [hG0]]
  have h0p0 := hw.1; rw [← hG0] at h0p0
  replace hw := hw.2
  refine lv_aload_n hx hb dX1_bestCopper_0 rfl (lv_at hl 0 rfl) ?_
  refine gg hx hb hts hown hPF hG 1 0 rfl in_X1 (by decide) (by decide) (by decide) q539 (fun _ h9 => h9) (gC_of (gK_mon hG.1.2 h0p0 (by decide)) (by decide)) (v := va_rf (gR G p0 0)) rfl dX1_bestCopper_1 ?_
  refine lv_aload_n hx hb dX1_bestCopper_4 rfl (lv_at hl 0 rfl) ?_
  refine gg hx hb hts hown hPF hG 1 0 rfl in_X1 (by decide) (by decide) (by decide) q539 (fun _ h9 => h9) (gC_of (gK_mon hG.1.2 h0p0 (by decide)) (by decide)) (v := va_rf (gR G p0 0)) rfl dX1_bestCopper_5 ?_
  refine lv_iload_n hx hb dX1_bestCopper_8 rfl (lv_at hl 1 rfl) ?_
  obtain ⟨q1, hq1, hw⟩ := hw
  refine W.eq (g2 := F0 m 9 ls [.int p1, .ref q1, va_rf (gR G p0 0)]) (by rw [hq1]; rfl) ?_
  have hk2 := hw.1
  replace hw := hw.2
  refine xc3r hA hG (vx_runV (As := [.int p1]) (rest := [va_rf (gR G p0 0)]) ⟨hx, hb, hml, hown, hts⟩ (gm_X2_lot l hlt E q1 p1 _ _ G hw _) (cwV 1 hts (lw_V q1141 q1142 q1143 q56 q1144) rfl rfl rfl hd_X2_lot ⟨Nat.le_of_ble_eq_true rfl, Nat.le_of_ble_eq_true rfl⟩) ⟨gblind, grecv hPF hG hk2 (by decide) (by decide) rfl, fun U hU hW => gpre hPF hA hG _ U hU hW⟩ rfl rfl hl.1 rfl (lv_room (by (try simp only [List.map, va_rf_cat, gcat_i, gcat_r, gcat_l, gcat_d, gcat_f, gcat_n]); exact Nat.le_of_ble_eq_true rfl)) dX1_bestCopper_9 ⟨(Nat.le_of_ble_eq_true rfl), (Nat.le_of_ble_eq_true rfl)⟩) (fun X ce q Gx H locs hw hmon hG hce hcv hcl => ?_) (fun r4 G3 H locs hw hmon hG => ?_)
  · exact gleave hlk hG (fun x hx9 => (htab x hx9).elim) hce hcv hcl hw (Nat.le_of_ble_eq_true rfl) (Nat.le_of_ble_eq_true rfl)
  · replace hw := hw hmon
    have hk2 : gC G3 q1 = 2 := gC_mon hmon hk2 (by decide)
    obtain ⟨q5, hq5, hw⟩ := hw
    refine W.eq (g2 := F0 m 12 ls [.ref q5, va_rf (gR G p0 0)]) (by rw [hq5]; rfl) ?_
    refine W.eq (g2 := F0 m 12 ls [.ref q5, .ref q1]) (by rw [hq1]; rfl) ?_
    refine gc3r hA hG (va_runV (As := [.ref q5]) (rest := []) ⟨hx, hb, hml, hown, hts⟩ (gm_X2_bestCopper l E q1 q5 _ G3 hw _) (cwV 1 hts (lw_V q1145 q1146 q1147 q56 q1148) rfl rfl rfl hd_X2_bestCopper ⟨Nat.le_of_ble_eq_true rfl, Nat.le_of_ble_eq_true rfl⟩) ⟨gblind, grecv hPF hG hk2 (by decide) (by decide) rfl, fun U hU hW => gpre hPF hA hG _ U hU hW⟩ rfl rfl hl.1 rfl (lv_room (Nat.le_of_ble_eq_true rfl)) dX1_bestCopper_12 ⟨(Nat.le_of_ble_eq_true rfl), (Nat.le_of_ble_eq_true rfl)⟩) (fun r7 G6 H locs hw hmon hG => ?_)
    replace hw := hw hmon
    have hk2 : gC G6 q1 = 2 := gC_mon hmon hk2 (by decide)
    refine gt_n (i := 2) (lv' := [(2, va_rf r7), (0, .ref p0), (1, .int p1)]) hx hb dX1_bestCopper_15 rfl hl (by decide) rfl (fun ls hl => ?_)
    refine ga_n hx hb dX1_bestCopper_16 rfl (lv_at hl 0 rfl) ?_
    refine gifnull (tgt := 24) hx hb dX1_bestCopper_17 (by decide) (fun c_ => ?_) (fun q8 hq8 => ?_)
    · replace hw := hw.1 c_
      refine lv_iconst (v := 0) hx hb dX1_bestCopper_24 (by decide) ?_
      refine xc3v hA hG (vx_runS (As := [.int 0]) (rest := []) ⟨hx, hb, hml, hown, hts⟩ (gm_X1_checkElement l hlt E 0 _ _ G6 hw _) (va_cwS 1 hts (lw_S q1158 q1159 q55 q1160) rfl rfl rfl hd_X1_checkElement ⟨Nat.le_of_ble_eq_true rfl, Nat.le_of_ble_eq_true rfl⟩) ⟨gblind, fun U hU hW => gpre hPF hA hG _ U hU hW⟩ rfl rfl hl.1 rfl (lv_room (Nat.le_of_ble_eq_true rfl)) dX1_bestCopper_25 ⟨(Nat.le_of_ble_eq_true rfl), (Nat.le_of_ble_eq_true rfl)⟩) (fun X ce q Gx H locs hw hmon hG hce hcv hcl => ?_) (fun G9 H locs hw hmon hG => ?_)
      · exact gleave hlk hG (fun x hx9 => (htab x hx9).elim) hce hcv hcl hw (Nat.le_of_ble_eq_true rfl) (Nat.le_of_ble_eq_true rfl)
      · replace hw := hw hmon
        have hk2 : gC G9 q1 = 2 := gC_mon hmon hk2 (by decide)
        refine ga_n hx hb dX1_bestCopper_28 rfl (lv_at hl 0 rfl) ?_
        obtain ⟨q10, hq10, hw⟩ := hw
        refine W.eq (g2 := F0 m 29 ls [.ref q10]) (by rw [hq10]; rfl) ?_
        have hk11 := hw.1
        replace hw := hw.2
        refine ggN hx hb hts hown hPF hG 4 0 rfl in_X5 (by decide) (by decide) (by decide) q772 (fun _ h9 => h9) hk11 (v := .int (gI G9 q10 0)) rfl dX1_bestCopper_29 ?_
        exact xreti hx hb hr hlk hG rfl hw (Nat.le_of_ble_eq_true rfl) (Nat.le_of_ble_eq_true rfl) dX1_bestCopper_32
    · replace hw := hw.2 q8 hq8
      refine lv_iconst (v := 1) hx hb dX1_bestCopper_20 (by decide) ?_
      refine lv_goto (tgt := 25) hx hb dX1_bestCopper_21 (by decide) ?_
      refine xc3v hA hG (vx_runS (As := [.int 1]) (rest := []) ⟨hx, hb, hml, hown, hts⟩ (gm_X1_checkElement l hlt E 1 _ _ G6 hw _) (va_cwS 1 hts (lw_S q1158 q1159 q55 q1160) rfl rfl rfl hd_X1_checkElement ⟨Nat.le_of_ble_eq_true rfl, Nat.le_of_ble_eq_true rfl⟩) ⟨gblind, fun U hU hW => gpre hPF hA hG _ U hU hW⟩ rfl rfl hl.1 rfl (lv_room (Nat.le_of_ble_eq_true rfl)) dX1_bestCopper_25 ⟨(Nat.le_of_ble_eq_true rfl), (Nat.le_of_ble_eq_true rfl)⟩) (fun X ce q Gx H locs hw hmon hG hce hcv hcl => ?_) (fun G12 H locs hw hmon hG => ?_)
      · exact gleave hlk hG (fun x hx9 => (htab x hx9).elim) hce hcv hcl hw (Nat.le_of_ble_eq_true rfl) (Nat.le_of_ble_eq_true rfl)
      · replace hw := hw hmon
        have hk2 : gC G12 q1 = 2 := gC_mon hmon hk2 (by decide)
        refine ga_n hx hb dX1_bestCopper_28 rfl (lv_at hl 0 rfl) ?_
        refine W.eq (g2 := F0 m 29 ls [.ref q8]) (by rw [hq8]; rfl) ?_
        have hk13 := hw.1
        replace hw := hw.2
        refine ggN hx hb hts hown hPF hG 4 0 rfl in_X5 (by decide) (by decide) (by decide) q772 (fun _ h9 => h9) hk13 (v := .int (gI G12 q8 0)) rfl dX1_bestCopper_29 ?_
        exact xreti hx hb hr hlk hG rfl hw (Nat.le_of_ble_eq_true rfl) (Nat.le_of_ble_eq_true rfl) dX1_bestCopper_32
def gw_X1_lot (E : gE) (post : Int32 → Gh → Prop) (px : String → Nat → Gh → Prop) (p0 : Nat) (p1 : Int32) (G : Gh) : Prop := gK G p0 = 1 ∧ (∀ q1, gK G q1 = 0 → ∀ G2, G2 = gsI (gN G q1 45 1) q1 0 p1 → (gw_X1_change E (fun r4 G3 => gMon G2 G3 → (post r4 G3)) px p0 q1 G2))
theorem hd_X1_lot : yX1_lot.cls = RX1 ∧ yX1_lot.cls ≠ "java/lang/invoke/MethodHandle" ∧ yX1_lot.cls ≠ "java/lang/invoke/VarHandle" ∧ (parseMethodDescriptor yX1_lot.desc).map (fun d => d.parameters.length) = some 1 := by decide +kernel
theorem hdn_X1_lot : yX1_lot.cls ≠ "java/lang/invoke/MethodHandle" ∧ yX1_lot.cls ≠ "java/lang/invoke/VarHandle" ∧ (parseMethodDescriptor yX1_lot.desc).map (fun d => d.parameters.length) = some 1 := hd_X1_lot.2
theorem hdu_X1_lot : RX1 ≠ "java/lang/invoke/MethodHandle" ∧ RX1 ≠ "java/lang/invoke/VarHandle" ∧ (parseMethodDescriptor yX1_lot.desc).map (fun d => d.parameters.length) = some 1 := by decide +kernel
theorem hds_X1_lot : yX1_lot.name ≠ "<init>" ∧ (parseMethodDescriptor yX1_lot.desc).map (fun d => d.parameters.length) = some 1 := by decide +kernel
set_option maxHeartbeats 1000000 in
set_option maxRecDepth 100000 in
theorem gm_X1_lot (l : Launch) (hlt : l.stackTraces = false) (E : gE) (p0 : Nat) (p1 : Int32) (post : Int32 → Gh → Prop) (px : String → Nat → Gh → Prop) (G : Gh) (hw : gw_X1_lot E post px p0 p1 G) : gX l E yX1_lot (ws_ yX1_lot cX1_lot 2 (some .int)) ({ frames := 15, cells := 942, slots := 10665, locals := 3200 } : Room) 942 10665 [.ref p0, .int p1] G (gpi post) px := by
  refine xof (by decide) (Nat.le_of_ble_eq_true rfl) ?_
  intro p e s m below meth c A ls hx hb hr hlk hml hown hin hts hPF hA htab hG hl
  have hl : lv_has ls 2 [(0, .ref p0), (1, .int p1)] := hl
  unfold gw_X1_lot at hw
  obtain ⟨G0, hG0⟩ : ∃ G0, G0 = G := ⟨_, rfl⟩
  have hG : gS E A G0 s.heap G s.heap [] := by rw [hG0]; exact hG
  rw [show gQ E A G (gpi post) = gQ E A G0 (gpi post) by rw [hG0]]
  rw [show gXC E A G px = gXC E A G0 px by rw [hG0]]
  have h0p0 := hw.1; rw [← hG0] at h0p0
  replace hw := hw.2
  refine lv_aload_n hx hb dX1_lot_0 rfl (lv_at hl 0 rfl) ?_
  refine lv_iload_n hx hb dX1_lot_1 rfl (lv_at hl 1 rfl) ?_
  refine glmk1 (rest := [.ref p0]) hx hb hml hl.1 hts 5 rfl rfl hin.1 hPF hA hG (by (try simp only [List.map, va_rf_cat, gcat_i, gcat_r, gcat_l, gcat_d, gcat_f, gcat_n]); exact Nat.le_of_ble_eq_true rfl) (Nat.le_of_ble_eq_true rfl) (Nat.le_of_ble_eq_true rfl) dX1_lot_2 (fun q1 H h0q1 hG => ?_)
  replace hw := hw q1 h0q1
  obtain ⟨G2, eG2⟩ : ∃ z, z = gsI (gN G q1 45 1) q1 0 p1 := ⟨_, rfl⟩
  rw [← eG2] at hG
  replace hw := hw G2 eG2
  have hkq1 : gK G2 q1 = 45 := by rw [eG2]; exact gK_Nq (n := 1)
  refine xc3i hA hG (vx_runVX (As := [.ref q1]) (rest := []) ⟨hx, hb, hml, hown, hts⟩ (gm_X1_change l hlt E p0 q1 _ _ G2 hw _) (vx_cwVW 1 hts (lw_VW q688 q690 qs2 q55 q691) rfl rfl rfl hd_X1_change ⟨Nat.le_of_ble_eq_true rfl, Nat.le_of_ble_eq_true rfl⟩) ⟨gblind, grecv hPF hG (gC_of (gK_mon hG.1.2 h0p0 (by decide)) (by decide)) (by decide) (by decide) rfl, fun U hU hW => gpre hPF hA hG _ U hU hW⟩ rfl rfl hl.1 rfl (lv_room (Nat.le_of_ble_eq_true rfl)) dX1_lot_7 ⟨(Nat.le_of_ble_eq_true rfl), (Nat.le_of_ble_eq_true rfl)⟩) (fun X ce q Gx H locs hw hmon hG hce hcv hcl => ?_) (fun r4 G3 H locs hw hmon hG => ?_)
  · exact gleave hlk hG (fun x hx9 => (htab x hx9).elim) hce hcv hcl hw (Nat.le_of_ble_eq_true rfl) (Nat.le_of_ble_eq_true rfl)
  · replace hw := hw hmon
    have hkq1 : gK G3 q1 = 45 := gK_mon hmon hkq1 (by decide)
    exact xreti hx hb hr hlk hG rfl hw (Nat.le_of_ble_eq_true rfl) (Nat.le_of_ble_eq_true rfl) dX1_lot_10
def gw_X1_lotOf (E : gE) (post : Int32 → Gh → Prop) (px : String → Nat → Gh → Prop) (p0 : Nat) (p1 : Int32) (p2 : Int32) (G : Gh) : Prop := gK G p0 = 1 ∧ (∃ q1, (gR G p0 0) = some q1 ∧ (gC G q1 = 2 ∧ (gw_X2_lot E (fun r4 G3 => gMon G G3 → ((p2 = 0 → (∃ q5, r4 = some q5 ∧ (gC G3 q5 = 5 ∧ (post (gI G3 q5 1) G3)))) ∧ (p2 = 1 → (∃ q7, r4 = some q7 ∧ (gC G3 q7 = 5 ∧ (∃ q9, (gR G3 q7 2) = some q9 ∧ (gSt G3 q9 ∧ (∃ k11, k11 < 4 ∧ (eZ E (gStg G3 q9)) = eZ E k11 ∧ (post (nI k11) G3))))))) ∧ (p2 = 2 → (∃ q14, r4 = some q14 ∧ (gC G3 q14 = 5 ∧ (∃ q16, (gR G3 q14 2) = some q16 ∧ (gSt G3 q16 ∧ (post (gWel G3 q16) G3)))))) ∧ (p2 = 3 → (∃ q18, r4 = some q18 ∧ (gC G3 q18 = 5 ∧ (gw_X6_kiln E (fun r21 G20 => gMon G3 G20 → (post r21 G20)) q18 G3)))) ∧ (p2 = 4 → (∃ q22, r4 = some q22 ∧ (gC G3 q22 = 5 ∧ (gw_X6_cone E (fun r25 G24 => gMon G3 G24 → (post r25 G24)) q22 G3)))) ∧ (p2 = 5 → (∃ q26, r4 = some q26 ∧ (gC G3 q26 = 5 ∧ (gw_X6_hours E (fun r29 G28 => gMon G3 G28 → (post r29 G28)) q26 G3)))) ∧ (p2.toInt < 0 ∨ 5 < p2.toInt → (∀ q, gK G3 q = 0 → px "java/lang/IllegalArgumentException" q G3)))) px q1 p1 G)))
theorem hd_X1_lotOf : yX1_lotOf.cls = RX1 ∧ yX1_lotOf.cls ≠ "java/lang/invoke/MethodHandle" ∧ yX1_lotOf.cls ≠ "java/lang/invoke/VarHandle" ∧ (parseMethodDescriptor yX1_lotOf.desc).map (fun d => d.parameters.length) = some 2 := by decide +kernel
theorem hdn_X1_lotOf : yX1_lotOf.cls ≠ "java/lang/invoke/MethodHandle" ∧ yX1_lotOf.cls ≠ "java/lang/invoke/VarHandle" ∧ (parseMethodDescriptor yX1_lotOf.desc).map (fun d => d.parameters.length) = some 2 := hd_X1_lotOf.2
theorem hdu_X1_lotOf : RX1 ≠ "java/lang/invoke/MethodHandle" ∧ RX1 ≠ "java/lang/invoke/VarHandle" ∧ (parseMethodDescriptor yX1_lotOf.desc).map (fun d => d.parameters.length) = some 2 := by decide +kernel
theorem hds_X1_lotOf : yX1_lotOf.name ≠ "<init>" ∧ (parseMethodDescriptor yX1_lotOf.desc).map (fun d => d.parameters.length) = some 2 := by decide +kernel
set_option maxHeartbeats 1000000 in
set_option maxRecDepth 100000 in
theorem gm_X1_lotOf (l : Launch) (hlt : l.stackTraces = false) (E : gE) (p0 : Nat) (p1 : Int32) (p2 : Int32) (post : Int32 → Gh → Prop) (px : String → Nat → Gh → Prop) (G : Gh) (hw : gw_X1_lotOf E post px p0 p1 p2 G) : gX l E yX1_lotOf (ws_ yX1_lotOf cX1_lotOf 4 (some .int)) ({ frames := 11, cells := 2, slots := 12, locals := 182 } : Room) 2 12 [.ref p0, .int p1, .int p2] G (gpi post) px := by
  refine xof (by decide) (Nat.le_of_ble_eq_true rfl) ?_
  intro p e s m below meth c A ls hx hb hr hlk hml hown hin hts hPF hA htab hG hl
  have hl : lv_has ls 4 [(0, .ref p0), (1, .int p1), (2, .int p2)] := hl
  unfold gw_X1_lotOf at hw
  obtain ⟨G0, hG0⟩ : ∃ G0, G0 = G := ⟨_, rfl⟩
  have hG : gS E A G0 s.heap G s.heap [] := by rw [hG0]; exact hG
  rw [show gQ E A G (gpi post) = gQ E A G0 (gpi post) by rw [hG0]]
  rw [show gXC E A G px = gXC E A G0 px by rw [hG0]]
  have h0p0 := hw.1; rw [← hG0] at h0p0
  replace hw := hw.2
  refine lv_aload_n hx hb dX1_lotOf_0 rfl (lv_at hl 0 rfl) ?_
  refine gg hx hb hts hown hPF hG 1 0 rfl in_X1 (by decide) (by decide) (by decide) q539 (fun _ h9 => h9) (gC_of (gK_mon hG.1.2 h0p0 (by decide)) (by decide)) (v := va_rf (gR G p0 0)) rfl dX1_lotOf_1 ?_
  refine lv_iload_n hx hb dX1_lotOf_4 rfl (lv_at hl 1 rfl) ?_
  obtain ⟨q1, hq1, hw⟩ := hw
  refine W.eq (g2 := F0 m 5 ls [.int p1, .ref q1]) (by rw [hq1]; rfl) ?_
  have hk2 := hw.1
  replace hw := hw.2
  refine xc3r hA hG (vx_runV (As := [.int p1]) (rest := []) ⟨hx, hb, hml, hown, hts⟩ (gm_X2_lot l hlt E q1 p1 _ _ G hw _) (cwV 1 hts (lw_V q1141 q1142 q1143 q56 q1144) rfl rfl rfl hd_X2_lot ⟨Nat.le_of_ble_eq_true rfl, Nat.le_of_ble_eq_true rfl⟩) ⟨gblind, grecv hPF hG hk2 (by decide) (by decide) rfl, fun U hU hW => gpre hPF hA hG _ U hU hW⟩ rfl rfl hl.1 rfl (lv_room (Nat.le_of_ble_eq_true rfl)) dX1_lotOf_5 ⟨(Nat.le_of_ble_eq_true rfl), (Nat.le_of_ble_eq_true rfl)⟩) (fun X ce q Gx H locs hw hmon hG hce hcv hcl => ?_) (fun r4 G3 H locs hw hmon hG => ?_)
  · exact gleave hlk hG (fun x hx9 => (htab x hx9).elim) hce hcv hcl hw (Nat.le_of_ble_eq_true rfl) (Nat.le_of_ble_eq_true rfl)
  · replace hw := hw hmon
    have hk2 : gC G3 q1 = 2 := gC_mon hmon hk2 (by decide)
    refine gt_n (i := 3) (lv' := [(3, va_rf r4), (0, .ref p0), (1, .int p1), (2, .int p2)]) hx hb dX1_lotOf_8 rfl hl (by decide) rfl (fun ls hl => ?_)
    refine lv_iload_n hx hb dX1_lotOf_9 rfl (lv_at hl 3 rfl) ?_
    by_cases ho_ : p2.toInt < 0 ∨ 5 < p2.toInt
    · refine lv_tableOut (tgt := 91) hx hb dX1_lotOf_10 ho_ (by decide) ?_
      replace hw := hw.2.2.2.2.2.2 ho_
      exact vx_throw0 (cls := "java/lang/IllegalArgumentException") (names := excNames) (A := A) hx hb hlt hown (by decide +kernel) (by decide +kernel) (hts _ q642) (hts _ q63) (tw_hat hts hPF tw_X1_3_IllegalArgumentException) (tw_ot (by decide +kernel)) hPF.u.1 hPF.u.2 hG.2 (hl.1.trans hml.symm) dX1_lotOf_91 dX1_lotOf_94 dX1_lotOf_95 dX1_lotOf_98 (fun x hx9 => (htab x hx9).elim) (Nat.le_of_ble_eq_true rfl) (by (try simp only [List.map, va_rf_cat, gcat_i, gcat_r, gcat_l, gcat_d, gcat_f, gcat_n]); exact Nat.le_of_ble_eq_true rfl) (Nat.le_of_ble_eq_true rfl) (Nat.le_of_ble_eq_true rfl) hlk (fun q t hq hW hz hk => gthrown hG (hw q (Classical.byContradiction fun h => Nat.lt_irrefl _ (Nat.lt_of_lt_of_le (gat_lt (hG.1.1 q h).1) hq))) hz hk) hG.2.2.2 (Nat.le_of_ble_eq_true rfl) (Nat.le_of_ble_eq_true rfl)
    · have hi_ : p2.toInt = 0 ∨ p2.toInt = 1 ∨ p2.toInt = 2 ∨ p2.toInt = 3 ∨ p2.toInt = 4 ∨ p2.toInt = 5 := by omega
      rcases hi_ with hi_ | hi_ | hi_ | hi_ | hi_ | hi_
      · have hk_ : p2 = (0 : Int32) := Int32.toInt_inj.mp (by rw [hi_]; rfl)
        refine lv_tableIn (off := 38) (tgt := 48) hx hb dX1_lotOf_10 (by rw [hk_]; decide) (by rw [hk_]; decide) (by rw [hk_]; rfl) (by decide) ?_
        replace hw := hw.1 hk_
        refine ga_n hx hb dX1_lotOf_48 rfl (lv_at hl 0 rfl) ?_
        obtain ⟨q5, hq5, hw⟩ := hw
        refine W.eq (g2 := F0 m 49 ls [.ref q5]) (by rw [hq5]; rfl) ?_
        have hk6 := hw.1
        replace hw := hw.2
        refine ggN hx hb hts hown hPF hG 5 1 rfl in_X6 (by decide) (by decide) (by decide) q876 (fun _ h9 => h9) hk6 (v := .int (gI G3 q5 1)) rfl dX1_lotOf_49 ?_
        exact xreti hx hb hr hlk hG rfl hw (Nat.le_of_ble_eq_true rfl) (Nat.le_of_ble_eq_true rfl) dX1_lotOf_52
      · have hk_ : p2 = (1 : Int32) := Int32.toInt_inj.mp (by rw [hi_]; rfl)
        refine lv_tableIn (off := 43) (tgt := 53) hx hb dX1_lotOf_10 (by rw [hk_]; decide) (by rw [hk_]; decide) (by rw [hk_]; rfl) (by decide) ?_
        replace hw := hw.2.1 hk_
        refine ga_n hx hb dX1_lotOf_53 rfl (lv_at hl 0 rfl) ?_
        obtain ⟨q7, hq7, hw⟩ := hw
        refine W.eq (g2 := F0 m 54 ls [.ref q7]) (by rw [hq7]; rfl) ?_
        have hk8 := hw.1
        replace hw := hw.2
        refine ggN hx hb hts hown hPF hG 5 2 rfl in_X6 (by decide) (by decide) (by decide) q880 (fun _ h9 => h9) hk8 (v := va_rf (gR G3 q7 2)) rfl dX1_lotOf_54 ?_
        obtain ⟨q9, hq9, hw⟩ := hw
        refine W.eq (g2 := F0 m 57 ls [.ref q9]) (by rw [hq9]; rfl) ?_
        have hS10 := hw.1
        replace hw := hw.2
        refine gdstage (rest := []) hx hb hml hts hown q1186 hPF hA hG hS10 hl.1 (lv_room (by (try simp only [List.map, va_rf_cat, gcat_i, gcat_r, gcat_l, gcat_d, gcat_f, gcat_n]); exact Nat.le_of_ble_eq_true rfl)) (Nat.le_of_ble_eq_true rfl) (Nat.le_of_ble_eq_true rfl) (Nat.le_of_ble_eq_true rfl) (Nat.le_of_ble_eq_true rfl) dX1_lotOf_57 (fun H locs hG => ?_)
        obtain ⟨k11, hk12, he13, hw⟩ := hw
        refine W.eq (g2 := F0 m 62 ls (.ref (eZ E k11) :: [])) (by rw [he13]) ?_
        refine gordinal (rest := []) hx hb hml hts hown q1221 hPF hA hG hk12 hl.1 (lv_room (by (try simp only [List.map, va_rf_cat, gcat_i, gcat_r, gcat_l, gcat_d, gcat_f, gcat_n]); exact Nat.le_of_ble_eq_true rfl)) (Nat.le_of_ble_eq_true rfl) (Nat.le_of_ble_eq_true rfl) (Nat.le_of_ble_eq_true rfl) (Nat.le_of_ble_eq_true rfl) dX1_lotOf_62 (fun H locs hG => ?_)
        exact xreti hx hb hr hlk hG rfl hw (Nat.le_of_ble_eq_true rfl) (Nat.le_of_ble_eq_true rfl) dX1_lotOf_65
      · have hk_ : p2 = (2 : Int32) := Int32.toInt_inj.mp (by rw [hi_]; rfl)
        refine lv_tableIn (off := 56) (tgt := 66) hx hb dX1_lotOf_10 (by rw [hk_]; decide) (by rw [hk_]; decide) (by rw [hk_]; rfl) (by decide) ?_
        replace hw := hw.2.2.1 hk_
        refine ga_n hx hb dX1_lotOf_66 rfl (lv_at hl 0 rfl) ?_
        obtain ⟨q14, hq14, hw⟩ := hw
        refine W.eq (g2 := F0 m 67 ls [.ref q14]) (by rw [hq14]; rfl) ?_
        have hk15 := hw.1
        replace hw := hw.2
        refine ggN hx hb hts hown hPF hG 5 2 rfl in_X6 (by decide) (by decide) (by decide) q880 (fun _ h9 => h9) hk15 (v := va_rf (gR G3 q14 2)) rfl dX1_lotOf_67 ?_
        obtain ⟨q16, hq16, hw⟩ := hw
        refine W.eq (g2 := F0 m 70 ls [.ref q16]) (by rw [hq16]; rfl) ?_
        have hS17 := hw.1
        replace hw := hw.2
        refine gdwell (rest := []) hx hb hml hts hown q1231 hPF hA hG hS17 hl.1 (lv_room (by (try simp only [List.map, va_rf_cat, gcat_i, gcat_r, gcat_l, gcat_d, gcat_f, gcat_n]); exact Nat.le_of_ble_eq_true rfl)) (Nat.le_of_ble_eq_true rfl) (Nat.le_of_ble_eq_true rfl) (Nat.le_of_ble_eq_true rfl) (Nat.le_of_ble_eq_true rfl) dX1_lotOf_70 (fun H locs hG => ?_)
        exact xreti hx hb hr hlk hG rfl hw (Nat.le_of_ble_eq_true rfl) (Nat.le_of_ble_eq_true rfl) dX1_lotOf_75
      · have hk_ : p2 = (3 : Int32) := Int32.toInt_inj.mp (by rw [hi_]; rfl)
        refine lv_tableIn (off := 66) (tgt := 76) hx hb dX1_lotOf_10 (by rw [hk_]; decide) (by rw [hk_]; decide) (by rw [hk_]; rfl) (by decide) ?_
        replace hw := hw.2.2.2.1 hk_
        refine ga_n hx hb dX1_lotOf_76 rfl (lv_at hl 0 rfl) ?_
        obtain ⟨q18, hq18, hw⟩ := hw
        refine W.eq (g2 := F0 m 77 ls [.ref q18]) (by rw [hq18]; rfl) ?_
        have hk19 := hw.1
        replace hw := hw.2
        refine gc3i hA hG (va_runV (As := []) (rest := []) ⟨hx, hb, hml, hown, hts⟩ (gm_X6_kiln l E q18 _ G3 hw _) (cwV 0 hts (lw_V q1253 q1254 q1255 q82 q1256) rfl rfl rfl hd_X6_kiln ⟨Nat.le_of_ble_eq_true rfl, Nat.le_of_ble_eq_true rfl⟩) ⟨gblind, grecv hPF hG hk19 (by decide) (by decide) rfl, fun U hU hW => gpre hPF hA hG _ U hU hW⟩ rfl rfl hl.1 rfl (lv_room (Nat.le_of_ble_eq_true rfl)) dX1_lotOf_77 ⟨(Nat.le_of_ble_eq_true rfl), (Nat.le_of_ble_eq_true rfl)⟩) (fun r21 G20 H locs hw hmon hG => ?_)
        replace hw := hw hmon
        have hk2 : gC G20 q1 = 2 := gC_mon hmon hk2 (by decide)
        have hk19 : gC G20 q18 = 5 := gC_mon hmon hk19 (by decide)
        exact xreti hx hb hr hlk hG rfl hw (Nat.le_of_ble_eq_true rfl) (Nat.le_of_ble_eq_true rfl) dX1_lotOf_80
      · have hk_ : p2 = (4 : Int32) := Int32.toInt_inj.mp (by rw [hi_]; rfl)
        refine lv_tableIn (off := 71) (tgt := 81) hx hb dX1_lotOf_10 (by rw [hk_]; decide) (by rw [hk_]; decide) (by rw [hk_]; rfl) (by decide) ?_
        replace hw := hw.2.2.2.2.1 hk_
        refine ga_n hx hb dX1_lotOf_81 rfl (lv_at hl 0 rfl) ?_
        obtain ⟨q22, hq22, hw⟩ := hw
        refine W.eq (g2 := F0 m 82 ls [.ref q22]) (by rw [hq22]; rfl) ?_
        have hk23 := hw.1
        replace hw := hw.2
        refine gc3i hA hG (va_runV (As := []) (rest := []) ⟨hx, hb, hml, hown, hts⟩ (gm_X6_cone l E q22 _ G3 hw _) (cwV 0 hts (lw_V q1258 q1259 q1260 q82 q1261) rfl rfl rfl hd_X6_cone ⟨Nat.le_of_ble_eq_true rfl, Nat.le_of_ble_eq_true rfl⟩) ⟨gblind, grecv hPF hG hk23 (by decide) (by decide) rfl, fun U hU hW => gpre hPF hA hG _ U hU hW⟩ rfl rfl hl.1 rfl (lv_room (Nat.le_of_ble_eq_true rfl)) dX1_lotOf_82 ⟨(Nat.le_of_ble_eq_true rfl), (Nat.le_of_ble_eq_true rfl)⟩) (fun r25 G24 H locs hw hmon hG => ?_)
        replace hw := hw hmon
        have hk2 : gC G24 q1 = 2 := gC_mon hmon hk2 (by decide)
        have hk23 : gC G24 q22 = 5 := gC_mon hmon hk23 (by decide)
        exact xreti hx hb hr hlk hG rfl hw (Nat.le_of_ble_eq_true rfl) (Nat.le_of_ble_eq_true rfl) dX1_lotOf_85
      · have hk_ : p2 = (5 : Int32) := Int32.toInt_inj.mp (by rw [hi_]; rfl)
        refine lv_tableIn (off := 76) (tgt := 86) hx hb dX1_lotOf_10 (by rw [hk_]; decide) (by rw [hk_]; decide) (by rw [hk_]; rfl) (by decide) ?_
        replace hw := hw.2.2.2.2.2.1 hk_
        refine ga_n hx hb dX1_lotOf_86 rfl (lv_at hl 0 rfl) ?_
        obtain ⟨q26, hq26, hw⟩ := hw
        refine W.eq (g2 := F0 m 87 ls [.ref q26]) (by rw [hq26]; rfl) ?_
        have hk27 := hw.1
        replace hw := hw.2
        refine gc3i hA hG (va_runV (As := []) (rest := []) ⟨hx, hb, hml, hown, hts⟩ (gm_X6_hours l E q26 _ G3 hw _) (cwV 0 hts (lw_V q1263 q1264 q1265 q82 q1266) rfl rfl rfl hd_X6_hours ⟨Nat.le_of_ble_eq_true rfl, Nat.le_of_ble_eq_true rfl⟩) ⟨gblind, grecv hPF hG hk27 (by decide) (by decide) rfl, fun U hU hW => gpre hPF hA hG _ U hU hW⟩ rfl rfl hl.1 rfl (lv_room (Nat.le_of_ble_eq_true rfl)) dX1_lotOf_87 ⟨(Nat.le_of_ble_eq_true rfl), (Nat.le_of_ble_eq_true rfl)⟩) (fun r29 G28 H locs hw hmon hG => ?_)
        replace hw := hw hmon
        have hk2 : gC G28 q1 = 2 := gC_mon hmon hk2 (by decide)
        have hk27 : gC G28 q26 = 5 := gC_mon hmon hk27 (by decide)
        exact xreti hx hb hr hlk hG rfl hw (Nat.le_of_ble_eq_true rfl) (Nat.le_of_ble_eq_true rfl) dX1_lotOf_90
def gw_X1_print (E : gE) (post : Int32 → Gh → Prop) (px : String → Nat → Gh → Prop) (p0 : Nat) (p1 : Int32) (p2 : Int32) (G : Gh) : Prop := gK G p0 = 1 ∧ (∀ q1, gK G q1 = 0 → ∀ G2, G2 = gsI (gsI (gN G q1 46 2) q1 0 p1) q1 1 p2 → (gw_X1_change E (fun r4 G3 => gMon G2 G3 → (post r4 G3)) px p0 q1 G2))
theorem hd_X1_print : yX1_print.cls = RX1 ∧ yX1_print.cls ≠ "java/lang/invoke/MethodHandle" ∧ yX1_print.cls ≠ "java/lang/invoke/VarHandle" ∧ (parseMethodDescriptor yX1_print.desc).map (fun d => d.parameters.length) = some 2 := by decide +kernel
theorem hdn_X1_print : yX1_print.cls ≠ "java/lang/invoke/MethodHandle" ∧ yX1_print.cls ≠ "java/lang/invoke/VarHandle" ∧ (parseMethodDescriptor yX1_print.desc).map (fun d => d.parameters.length) = some 2 := hd_X1_print.2
theorem hdu_X1_print : RX1 ≠ "java/lang/invoke/MethodHandle" ∧ RX1 ≠ "java/lang/invoke/VarHandle" ∧ (parseMethodDescriptor yX1_print.desc).map (fun d => d.parameters.length) = some 2 := by decide +kernel
theorem hds_X1_print : yX1_print.name ≠ "<init>" ∧ (parseMethodDescriptor yX1_print.desc).map (fun d => d.parameters.length) = some 2 := by decide +kernel
set_option maxHeartbeats 1000000 in
set_option maxRecDepth 100000 in
theorem gm_X1_print (l : Launch) (hlt : l.stackTraces = false) (E : gE) (p0 : Nat) (p1 : Int32) (p2 : Int32) (post : Int32 → Gh → Prop) (px : String → Nat → Gh → Prop) (G : Gh) (hw : gw_X1_print E post px p0 p1 p2 G) : gX l E yX1_print (ws_ yX1_print cX1_print 3 (some .int)) ({ frames := 15, cells := 942, slots := 10666, locals := 3200 } : Room) 942 10666 [.ref p0, .int p1, .int p2] G (gpi post) px := by
  refine xof (by decide) (Nat.le_of_ble_eq_true rfl) ?_
  intro p e s m below meth c A ls hx hb hr hlk hml hown hin hts hPF hA htab hG hl
  have hl : lv_has ls 3 [(0, .ref p0), (1, .int p1), (2, .int p2)] := hl
  unfold gw_X1_print at hw
  obtain ⟨G0, hG0⟩ : ∃ G0, G0 = G := ⟨_, rfl⟩
  have hG : gS E A G0 s.heap G s.heap [] := by rw [hG0]; exact hG
  rw [show gQ E A G (gpi post) = gQ E A G0 (gpi post) by rw [hG0]]
  rw [show gXC E A G px = gXC E A G0 px by rw [hG0]]
  have h0p0 := hw.1; rw [← hG0] at h0p0
  replace hw := hw.2
  refine lv_aload_n hx hb dX1_print_0 rfl (lv_at hl 0 rfl) ?_
  refine lv_iload_n hx hb dX1_print_1 rfl (lv_at hl 1 rfl) ?_
  refine lv_iload_n hx hb dX1_print_2 rfl (lv_at hl 2 rfl) ?_
  refine glmk2 (rest := [.ref p0]) hx hb hml hl.1 hts 6 rfl rfl hin.1 hPF hA hG (by (try simp only [List.map, va_rf_cat, gcat_i, gcat_r, gcat_l, gcat_d, gcat_f, gcat_n]); exact Nat.le_of_ble_eq_true rfl) (Nat.le_of_ble_eq_true rfl) (Nat.le_of_ble_eq_true rfl) dX1_print_3 (fun q1 H h0q1 hG => ?_)
  replace hw := hw q1 h0q1
  obtain ⟨G2, eG2⟩ : ∃ z, z = gsI (gsI (gN G q1 46 2) q1 0 p1) q1 1 p2 := ⟨_, rfl⟩
  rw [← eG2] at hG
  replace hw := hw G2 eG2
  have hkq1 : gK G2 q1 = 46 := by rw [eG2]; exact gK_Nq (n := 2)
  refine xc3i hA hG (vx_runVX (As := [.ref q1]) (rest := []) ⟨hx, hb, hml, hown, hts⟩ (gm_X1_change l hlt E p0 q1 _ _ G2 hw _) (vx_cwVW 1 hts (lw_VW q688 q690 qs2 q55 q691) rfl rfl rfl hd_X1_change ⟨Nat.le_of_ble_eq_true rfl, Nat.le_of_ble_eq_true rfl⟩) ⟨gblind, grecv hPF hG (gC_of (gK_mon hG.1.2 h0p0 (by decide)) (by decide)) (by decide) (by decide) rfl, fun U hU hW => gpre hPF hA hG _ U hU hW⟩ rfl rfl hl.1 rfl (lv_room (Nat.le_of_ble_eq_true rfl)) dX1_print_8 ⟨(Nat.le_of_ble_eq_true rfl), (Nat.le_of_ble_eq_true rfl)⟩) (fun X ce q Gx H locs hw hmon hG hce hcv hcl => ?_) (fun r4 G3 H locs hw hmon hG => ?_)
  · exact gleave hlk hG (fun x hx9 => (htab x hx9).elim) hce hcv hcl hw (Nat.le_of_ble_eq_true rfl) (Nat.le_of_ble_eq_true rfl)
  · replace hw := hw hmon
    have hkq1 : gK G3 q1 = 46 := gK_mon hmon hkq1 (by decide)
    exact xreti hx hb hr hlk hG rfl hw (Nat.le_of_ble_eq_true rfl) (Nat.le_of_ble_eq_true rfl) dX1_print_11
def gw_X1_kiln (E : gE) (post : Int32 → Gh → Prop) (px : String → Nat → Gh → Prop) (p0 : Nat) (p1 : Int32) (G : Gh) : Prop := gK G p0 = 1 ∧ (∀ q1, gK G q1 = 0 → ∀ G2, G2 = gsI (gN G q1 47 1) q1 0 p1 → (gw_X1_change E (fun r4 G3 => gMon G2 G3 → (post r4 G3)) px p0 q1 G2))
theorem hd_X1_kiln : yX1_kiln.cls = RX1 ∧ yX1_kiln.cls ≠ "java/lang/invoke/MethodHandle" ∧ yX1_kiln.cls ≠ "java/lang/invoke/VarHandle" ∧ (parseMethodDescriptor yX1_kiln.desc).map (fun d => d.parameters.length) = some 1 := by decide +kernel
theorem hdn_X1_kiln : yX1_kiln.cls ≠ "java/lang/invoke/MethodHandle" ∧ yX1_kiln.cls ≠ "java/lang/invoke/VarHandle" ∧ (parseMethodDescriptor yX1_kiln.desc).map (fun d => d.parameters.length) = some 1 := hd_X1_kiln.2
theorem hdu_X1_kiln : RX1 ≠ "java/lang/invoke/MethodHandle" ∧ RX1 ≠ "java/lang/invoke/VarHandle" ∧ (parseMethodDescriptor yX1_kiln.desc).map (fun d => d.parameters.length) = some 1 := by decide +kernel
theorem hds_X1_kiln : yX1_kiln.name ≠ "<init>" ∧ (parseMethodDescriptor yX1_kiln.desc).map (fun d => d.parameters.length) = some 1 := by decide +kernel
set_option maxHeartbeats 1000000 in
set_option maxRecDepth 100000 in
theorem gm_X1_kiln (l : Launch) (hlt : l.stackTraces = false) (E : gE) (p0 : Nat) (p1 : Int32) (post : Int32 → Gh → Prop) (px : String → Nat → Gh → Prop) (G : Gh) (hw : gw_X1_kiln E post px p0 p1 G) : gX l E yX1_kiln (ws_ yX1_kiln cX1_kiln 2 (some .int)) ({ frames := 15, cells := 942, slots := 10665, locals := 3200 } : Room) 942 10665 [.ref p0, .int p1] G (gpi post) px := by
  refine xof (by decide) (Nat.le_of_ble_eq_true rfl) ?_
  intro p e s m below meth c A ls hx hb hr hlk hml hown hin hts hPF hA htab hG hl
  have hl : lv_has ls 2 [(0, .ref p0), (1, .int p1)] := hl
  unfold gw_X1_kiln at hw
  obtain ⟨G0, hG0⟩ : ∃ G0, G0 = G := ⟨_, rfl⟩
  have hG : gS E A G0 s.heap G s.heap [] := by rw [hG0]; exact hG
  rw [show gQ E A G (gpi post) = gQ E A G0 (gpi post) by rw [hG0]]
  rw [show gXC E A G px = gXC E A G0 px by rw [hG0]]
  have h0p0 := hw.1; rw [← hG0] at h0p0
  replace hw := hw.2
  refine lv_aload_n hx hb dX1_kiln_0 rfl (lv_at hl 0 rfl) ?_
  refine lv_iload_n hx hb dX1_kiln_1 rfl (lv_at hl 1 rfl) ?_
  refine glmk1 (rest := [.ref p0]) hx hb hml hl.1 hts 7 rfl rfl hin.1 hPF hA hG (by (try simp only [List.map, va_rf_cat, gcat_i, gcat_r, gcat_l, gcat_d, gcat_f, gcat_n]); exact Nat.le_of_ble_eq_true rfl) (Nat.le_of_ble_eq_true rfl) (Nat.le_of_ble_eq_true rfl) dX1_kiln_2 (fun q1 H h0q1 hG => ?_)
  replace hw := hw q1 h0q1
  obtain ⟨G2, eG2⟩ : ∃ z, z = gsI (gN G q1 47 1) q1 0 p1 := ⟨_, rfl⟩
  rw [← eG2] at hG
  replace hw := hw G2 eG2
  have hkq1 : gK G2 q1 = 47 := by rw [eG2]; exact gK_Nq (n := 1)
  refine xc3i hA hG (vx_runVX (As := [.ref q1]) (rest := []) ⟨hx, hb, hml, hown, hts⟩ (gm_X1_change l hlt E p0 q1 _ _ G2 hw _) (vx_cwVW 1 hts (lw_VW q688 q690 qs2 q55 q691) rfl rfl rfl hd_X1_change ⟨Nat.le_of_ble_eq_true rfl, Nat.le_of_ble_eq_true rfl⟩) ⟨gblind, grecv hPF hG (gC_of (gK_mon hG.1.2 h0p0 (by decide)) (by decide)) (by decide) (by decide) rfl, fun U hU hW => gpre hPF hA hG _ U hU hW⟩ rfl rfl hl.1 rfl (lv_room (Nat.le_of_ble_eq_true rfl)) dX1_kiln_7 ⟨(Nat.le_of_ble_eq_true rfl), (Nat.le_of_ble_eq_true rfl)⟩) (fun X ce q Gx H locs hw hmon hG hce hcv hcl => ?_) (fun r4 G3 H locs hw hmon hG => ?_)
  · exact gleave hlk hG (fun x hx9 => (htab x hx9).elim) hce hcv hcl hw (Nat.le_of_ble_eq_true rfl) (Nat.le_of_ble_eq_true rfl)
  · replace hw := hw hmon
    have hkq1 : gK G3 q1 = 47 := gK_mon hmon hkq1 (by decide)
    exact xreti hx hb hr hlk hG rfl hw (Nat.le_of_ble_eq_true rfl) (Nat.le_of_ble_eq_true rfl) dX1_kiln_10
def gw_X1_kilnOf (E : gE) (post : Int32 → Gh → Prop) (px : String → Nat → Gh → Prop) (p0 : Nat) (p1 : Int32) (p2 : Int32) (G : Gh) : Prop := gK G p0 = 1 ∧ (∃ q1, (gR G p0 0) = some q1 ∧ (gC G q1 = 2 ∧ (gw_X2_kiln E (fun r4 G3 => gMon G G3 → (∃ q5, (gR G3 p0 0) = some q5 ∧ (gC G3 q5 = 2 ∧ (gw_X2_lotIn E (fun r8 G7 => gMon G3 G7 → ((p2 = 0 → (∃ q9, r4 = some q9 ∧ (gC G7 q9 = 7 ∧ (post (gI G7 q9 0) G7)))) ∧ (p2 = 1 → ((r8 = none → (post (-1) G7)) ∧ (∀ q11, r8 = some q11 → (gC G7 q11 = 5 ∧ (post (gI G7 q11 0) G7))))) ∧ (p2 = 2 → ((r8 = none → (post 0 G7)) ∧ (∀ q13, r8 = some q13 → (gC G7 q13 = 5 ∧ (gw_X6_hours E (fun r16 G15 => gMon G7 G15 → (post r16 G15)) q13 G7))))) ∧ (p2 = 3 → (∃ q17, r4 = some q17 ∧ (gC G7 q17 = 7 ∧ (post (gI G7 q17 1) G7)))) ∧ (p2.toInt < 0 ∨ 3 < p2.toInt → (∀ q, gK G7 q = 0 → px "java/lang/IllegalArgumentException" q G7)))) q5 p1 G3)))) px q1 p1 G)))
theorem hd_X1_kilnOf : yX1_kilnOf.cls = RX1 ∧ yX1_kilnOf.cls ≠ "java/lang/invoke/MethodHandle" ∧ yX1_kilnOf.cls ≠ "java/lang/invoke/VarHandle" ∧ (parseMethodDescriptor yX1_kilnOf.desc).map (fun d => d.parameters.length) = some 2 := by decide +kernel
theorem hdn_X1_kilnOf : yX1_kilnOf.cls ≠ "java/lang/invoke/MethodHandle" ∧ yX1_kilnOf.cls ≠ "java/lang/invoke/VarHandle" ∧ (parseMethodDescriptor yX1_kilnOf.desc).map (fun d => d.parameters.length) = some 2 := hd_X1_kilnOf.2
theorem hdu_X1_kilnOf : RX1 ≠ "java/lang/invoke/MethodHandle" ∧ RX1 ≠ "java/lang/invoke/VarHandle" ∧ (parseMethodDescriptor yX1_kilnOf.desc).map (fun d => d.parameters.length) = some 2 := by decide +kernel
theorem hds_X1_kilnOf : yX1_kilnOf.name ≠ "<init>" ∧ (parseMethodDescriptor yX1_kilnOf.desc).map (fun d => d.parameters.length) = some 2 := by decide +kernel
set_option maxHeartbeats 1000000 in
set_option maxRecDepth 100000 in
theorem gm_X1_kilnOf (l : Launch) (hlt : l.stackTraces = false) (E : gE) (p0 : Nat) (p1 : Int32) (p2 : Int32) (post : Int32 → Gh → Prop) (px : String → Nat → Gh → Prop) (G : Gh) (hw : gw_X1_kilnOf E post px p0 p1 p2 G) : gX l E yX1_kilnOf (ws_ yX1_kilnOf cX1_kilnOf 5 (some .int)) ({ frames := 11, cells := 3, slots := 16, locals := 182 } : Room) 3 16 [.ref p0, .int p1, .int p2] G (gpi post) px := by
  refine xof (by decide) (Nat.le_of_ble_eq_true rfl) ?_
  intro p e s m below meth c A ls hx hb hr hlk hml hown hin hts hPF hA htab hG hl
  have hl : lv_has ls 5 [(0, .ref p0), (1, .int p1), (2, .int p2)] := hl
  unfold gw_X1_kilnOf at hw
  obtain ⟨G0, hG0⟩ : ∃ G0, G0 = G := ⟨_, rfl⟩
  have hG : gS E A G0 s.heap G s.heap [] := by rw [hG0]; exact hG
  rw [show gQ E A G (gpi post) = gQ E A G0 (gpi post) by rw [hG0]]
  rw [show gXC E A G px = gXC E A G0 px by rw [hG0]]
  have h0p0 := hw.1; rw [← hG0] at h0p0
  replace hw := hw.2
  refine lv_aload_n hx hb dX1_kilnOf_0 rfl (lv_at hl 0 rfl) ?_
  refine gg hx hb hts hown hPF hG 1 0 rfl in_X1 (by decide) (by decide) (by decide) q539 (fun _ h9 => h9) (gC_of (gK_mon hG.1.2 h0p0 (by decide)) (by decide)) (v := va_rf (gR G p0 0)) rfl dX1_kilnOf_1 ?_
  refine lv_iload_n hx hb dX1_kilnOf_4 rfl (lv_at hl 1 rfl) ?_
  obtain ⟨q1, hq1, hw⟩ := hw
  refine W.eq (g2 := F0 m 5 ls [.int p1, .ref q1]) (by rw [hq1]; rfl) ?_
  have hk2 := hw.1
  replace hw := hw.2
  refine xc3r hA hG (vx_runV (As := [.int p1]) (rest := []) ⟨hx, hb, hml, hown, hts⟩ (gm_X2_kiln l hlt E q1 p1 _ _ G hw _) (cwV 1 hts (lw_V q1329 q1330 q1331 q56 q1332) rfl rfl rfl hd_X2_kiln ⟨Nat.le_of_ble_eq_true rfl, Nat.le_of_ble_eq_true rfl⟩) ⟨gblind, grecv hPF hG hk2 (by decide) (by decide) rfl, fun U hU hW => gpre hPF hA hG _ U hU hW⟩ rfl rfl hl.1 rfl (lv_room (Nat.le_of_ble_eq_true rfl)) dX1_kilnOf_5 ⟨(Nat.le_of_ble_eq_true rfl), (Nat.le_of_ble_eq_true rfl)⟩) (fun X ce q Gx H locs hw hmon hG hce hcv hcl => ?_) (fun r4 G3 H locs hw hmon hG => ?_)
  · exact gleave hlk hG (fun x hx9 => (htab x hx9).elim) hce hcv hcl hw (Nat.le_of_ble_eq_true rfl) (Nat.le_of_ble_eq_true rfl)
  · replace hw := hw hmon
    have hk2 : gC G3 q1 = 2 := gC_mon hmon hk2 (by decide)
    refine gt_n (i := 3) (lv' := [(3, va_rf r4), (0, .ref p0), (1, .int p1), (2, .int p2)]) hx hb dX1_kilnOf_8 rfl hl (by decide) rfl (fun ls hl => ?_)
    refine lv_aload_n hx hb dX1_kilnOf_9 rfl (lv_at hl 1 rfl) ?_
    refine gg hx hb hts hown hPF hG 1 0 rfl in_X1 (by decide) (by decide) (by decide) q539 (fun _ h9 => h9) (gC_of (gK_mon hG.1.2 h0p0 (by decide)) (by decide)) (v := va_rf (gR G3 p0 0)) rfl dX1_kilnOf_10 ?_
    refine lv_iload_n hx hb dX1_kilnOf_13 rfl (lv_at hl 2 rfl) ?_
    obtain ⟨q5, hq5, hw⟩ := hw
    refine W.eq (g2 := F0 m 14 ls [.int p1, .ref q5]) (by rw [hq5]; rfl) ?_
    have hk6 := hw.1
    replace hw := hw.2
    refine gc3r hA hG (va_runV (As := [.int p1]) (rest := []) ⟨hx, hb, hml, hown, hts⟩ (gm_X2_lotIn l E q5 p1 _ G3 hw _) (cwV 1 hts (lw_V q1333 q1334 q1335 q56 q1336) rfl rfl rfl hd_X2_lotIn ⟨Nat.le_of_ble_eq_true rfl, Nat.le_of_ble_eq_true rfl⟩) ⟨gblind, grecv hPF hG hk6 (by decide) (by decide) rfl, fun U hU hW => gpre hPF hA hG _ U hU hW⟩ rfl rfl hl.1 rfl (lv_room (Nat.le_of_ble_eq_true rfl)) dX1_kilnOf_14 ⟨(Nat.le_of_ble_eq_true rfl), (Nat.le_of_ble_eq_true rfl)⟩) (fun r8 G7 H locs hw hmon hG => ?_)
    replace hw := hw hmon
    have hk2 : gC G7 q1 = 2 := gC_mon hmon hk2 (by decide)
    have hk6 : gC G7 q5 = 2 := gC_mon hmon hk6 (by decide)
    refine gt_ (lv' := [(4, va_rf r8), (3, va_rf r4), (0, .ref p0), (1, .int p1), (2, .int p2)]) hx hb dX1_kilnOf_17 hl (by decide) (by first | rfl | simp [List.filter, va_rf_cat, gcat_i, gcat_r, gcat_l, gcat_d, gcat_f, gcat_n]) (fun ls hl => ?_)
    refine lv_iload_n hx hb dX1_kilnOf_19 rfl (lv_at hl 4 rfl) ?_
    by_cases ho_ : p2.toInt < 0 ∨ 3 < p2.toInt
    · refine lv_tableOut (tgt := 92) hx hb dX1_kilnOf_20 ho_ (by decide) ?_
      replace hw := hw.2.2.2.2 ho_
      exact vx_throw0 (cls := "java/lang/IllegalArgumentException") (names := excNames) (A := A) hx hb hlt hown (by decide +kernel) (by decide +kernel) (hts _ q642) (hts _ q63) (tw_hat hts hPF tw_X1_3_IllegalArgumentException) (tw_ot (by decide +kernel)) hPF.u.1 hPF.u.2 hG.2 (hl.1.trans hml.symm) dX1_kilnOf_92 dX1_kilnOf_95 dX1_kilnOf_96 dX1_kilnOf_99 (fun x hx9 => (htab x hx9).elim) (Nat.le_of_ble_eq_true rfl) (by (try simp only [List.map, va_rf_cat, gcat_i, gcat_r, gcat_l, gcat_d, gcat_f, gcat_n]); exact Nat.le_of_ble_eq_true rfl) (Nat.le_of_ble_eq_true rfl) (Nat.le_of_ble_eq_true rfl) hlk (fun q t hq hW hz hk => gthrown hG (hw q (Classical.byContradiction fun h => Nat.lt_irrefl _ (Nat.lt_of_lt_of_le (gat_lt (hG.1.1 q h).1) hq))) hz hk) hG.2.2.2 (Nat.le_of_ble_eq_true rfl) (Nat.le_of_ble_eq_true rfl)
    · have hi_ : p2.toInt = 0 ∨ p2.toInt = 1 ∨ p2.toInt = 2 ∨ p2.toInt = 3 := by omega
      rcases hi_ with hi_ | hi_ | hi_ | hi_
      · have hk_ : p2 = (0 : Int32) := Int32.toInt_inj.mp (by rw [hi_]; rfl)
        refine lv_tableIn (off := 32) (tgt := 52) hx hb dX1_kilnOf_20 (by rw [hk_]; decide) (by rw [hk_]; decide) (by rw [hk_]; rfl) (by decide) ?_
        replace hw := hw.1 hk_
        refine ga_n hx hb dX1_kilnOf_52 rfl (lv_at hl 1 rfl) ?_
        obtain ⟨q9, hq9, hw⟩ := hw
        refine W.eq (g2 := F0 m 53 ls [.ref q9]) (by rw [hq9]; rfl) ?_
        have hk10 := hw.1
        replace hw := hw.2
        refine ggN hx hb hts hown hPF hG 7 0 rfl in_X8 (by decide) (by decide) (by decide) q901 (fun _ h9 => h9) hk10 (v := .int (gI G7 q9 0)) rfl dX1_kilnOf_53 ?_
        exact xreti hx hb hr hlk hG rfl hw (Nat.le_of_ble_eq_true rfl) (Nat.le_of_ble_eq_true rfl) dX1_kilnOf_56
      · have hk_ : p2 = (1 : Int32) := Int32.toInt_inj.mp (by rw [hi_]; rfl)
        refine lv_tableIn (off := 37) (tgt := 57) hx hb dX1_kilnOf_20 (by rw [hk_]; decide) (by rw [hk_]; decide) (by rw [hk_]; rfl) (by decide) ?_
        replace hw := hw.2.1 hk_
        refine ga_ hx hb dX1_kilnOf_57 (lv_at hl 0 rfl) ?_
        refine gifnonnull (tgt := 66) hx hb dX1_kilnOf_59 (by decide) (fun q11 hq11 => ?_) (fun c_ => ?_)
        · replace hw := hw.2 q11 hq11
          refine ga_ hx hb dX1_kilnOf_66 (lv_at hl 0 rfl) ?_
          refine W.eq (g2 := F0 m 68 ls [.ref q11]) (by rw [hq11]; rfl) ?_
          have hk12 := hw.1
          replace hw := hw.2
          refine ggN hx hb hts hown hPF hG 5 0 rfl in_X6 (by decide) (by decide) (by decide) q872 (fun _ h9 => h9) hk12 (v := .int (gI G7 q11 0)) rfl dX1_kilnOf_68 ?_
          exact xreti hx hb hr hlk hG rfl hw (Nat.le_of_ble_eq_true rfl) (Nat.le_of_ble_eq_true rfl) dX1_kilnOf_71
        · replace hw := hw.1 c_
          refine lv_iconst (v := (-1)) hx hb dX1_kilnOf_62 (by decide) ?_
          refine lv_goto (tgt := 71) hx hb dX1_kilnOf_63 (by decide) ?_
          exact xreti hx hb hr hlk hG rfl hw (Nat.le_of_ble_eq_true rfl) (Nat.le_of_ble_eq_true rfl) dX1_kilnOf_71
      · have hk_ : p2 = (2 : Int32) := Int32.toInt_inj.mp (by rw [hi_]; rfl)
        refine lv_tableIn (off := 52) (tgt := 72) hx hb dX1_kilnOf_20 (by rw [hk_]; decide) (by rw [hk_]; decide) (by rw [hk_]; rfl) (by decide) ?_
        replace hw := hw.2.2.1 hk_
        refine ga_ hx hb dX1_kilnOf_72 (lv_at hl 0 rfl) ?_
        refine gifnonnull (tgt := 81) hx hb dX1_kilnOf_74 (by decide) (fun q13 hq13 => ?_) (fun c_ => ?_)
        · replace hw := hw.2 q13 hq13
          refine ga_ hx hb dX1_kilnOf_81 (lv_at hl 0 rfl) ?_
          refine W.eq (g2 := F0 m 83 ls [.ref q13]) (by rw [hq13]; rfl) ?_
          have hk14 := hw.1
          replace hw := hw.2
          refine gc3i hA hG (va_runV (As := []) (rest := []) ⟨hx, hb, hml, hown, hts⟩ (gm_X6_hours l E q13 _ G7 hw _) (cwV 0 hts (lw_V q1263 q1264 q1265 q82 q1266) rfl rfl rfl hd_X6_hours ⟨Nat.le_of_ble_eq_true rfl, Nat.le_of_ble_eq_true rfl⟩) ⟨gblind, grecv hPF hG hk14 (by decide) (by decide) rfl, fun U hU hW => gpre hPF hA hG _ U hU hW⟩ rfl rfl hl.1 rfl (lv_room (Nat.le_of_ble_eq_true rfl)) dX1_kilnOf_83 ⟨(Nat.le_of_ble_eq_true rfl), (Nat.le_of_ble_eq_true rfl)⟩) (fun r16 G15 H locs hw hmon hG => ?_)
          replace hw := hw hmon
          have hk2 : gC G15 q1 = 2 := gC_mon hmon hk2 (by decide)
          have hk6 : gC G15 q5 = 2 := gC_mon hmon hk6 (by decide)
          have hk14 : gC G15 q13 = 5 := gC_mon hmon hk14 (by decide)
          exact xreti hx hb hr hlk hG rfl hw (Nat.le_of_ble_eq_true rfl) (Nat.le_of_ble_eq_true rfl) dX1_kilnOf_86
        · replace hw := hw.1 c_
          refine lv_iconst (v := 0) hx hb dX1_kilnOf_77 (by decide) ?_
          refine lv_goto (tgt := 86) hx hb dX1_kilnOf_78 (by decide) ?_
          exact xreti hx hb hr hlk hG rfl hw (Nat.le_of_ble_eq_true rfl) (Nat.le_of_ble_eq_true rfl) dX1_kilnOf_86
      · have hk_ : p2 = (3 : Int32) := Int32.toInt_inj.mp (by rw [hi_]; rfl)
        refine lv_tableIn (off := 67) (tgt := 87) hx hb dX1_kilnOf_20 (by rw [hk_]; decide) (by rw [hk_]; decide) (by rw [hk_]; rfl) (by decide) ?_
        replace hw := hw.2.2.2.1 hk_
        refine ga_n hx hb dX1_kilnOf_87 rfl (lv_at hl 1 rfl) ?_
        obtain ⟨q17, hq17, hw⟩ := hw
        refine W.eq (g2 := F0 m 88 ls [.ref q17]) (by rw [hq17]; rfl) ?_
        have hk18 := hw.1
        replace hw := hw.2
        refine ggN hx hb hts hown hPF hG 7 1 rfl in_X8 (by decide) (by decide) (by decide) q903 (fun _ h9 => h9) hk18 (v := .int (gI G7 q17 1)) rfl dX1_kilnOf_88 ?_
        exact xreti hx hb hr hlk hG rfl hw (Nat.le_of_ble_eq_true rfl) (Nat.le_of_ble_eq_true rfl) dX1_kilnOf_91
def gw_X1_fire (E : gE) (post : Int32 → Gh → Prop) (px : String → Nat → Gh → Prop) (p0 : Nat) (p1 : Int32) (p2 : Int32) (p3 : Int32) (G : Gh) : Prop := gK G p0 = 1 ∧ (∀ q1, gK G q1 = 0 → ∀ G2, G2 = gsI (gsI (gsI (gN G q1 48 3) q1 0 p1) q1 1 p2) q1 2 p3 → (gw_X1_change E (fun r4 G3 => gMon G2 G3 → (post r4 G3)) px p0 q1 G2))
theorem hd_X1_fire : yX1_fire.cls = RX1 ∧ yX1_fire.cls ≠ "java/lang/invoke/MethodHandle" ∧ yX1_fire.cls ≠ "java/lang/invoke/VarHandle" ∧ (parseMethodDescriptor yX1_fire.desc).map (fun d => d.parameters.length) = some 3 := by decide +kernel
theorem hdn_X1_fire : yX1_fire.cls ≠ "java/lang/invoke/MethodHandle" ∧ yX1_fire.cls ≠ "java/lang/invoke/VarHandle" ∧ (parseMethodDescriptor yX1_fire.desc).map (fun d => d.parameters.length) = some 3 := hd_X1_fire.2
theorem hdu_X1_fire : RX1 ≠ "java/lang/invoke/MethodHandle" ∧ RX1 ≠ "java/lang/invoke/VarHandle" ∧ (parseMethodDescriptor yX1_fire.desc).map (fun d => d.parameters.length) = some 3 := by decide +kernel
theorem hds_X1_fire : yX1_fire.name ≠ "<init>" ∧ (parseMethodDescriptor yX1_fire.desc).map (fun d => d.parameters.length) = some 3 := by decide +kernel
set_option maxHeartbeats 1000000 in
set_option maxRecDepth 100000 in
theorem gm_X1_fire (l : Launch) (hlt : l.stackTraces = false) (E : gE) (p0 : Nat) (p1 : Int32) (p2 : Int32) (p3 : Int32) (post : Int32 → Gh → Prop) (px : String → Nat → Gh → Prop) (G : Gh) (hw : gw_X1_fire E post px p0 p1 p2 p3 G) : gX l E yX1_fire (ws_ yX1_fire cX1_fire 4 (some .int)) ({ frames := 15, cells := 942, slots := 10667, locals := 3200 } : Room) 942 10667 [.ref p0, .int p1, .int p2, .int p3] G (gpi post) px := by
  refine xof (by decide) (Nat.le_of_ble_eq_true rfl) ?_
  intro p e s m below meth c A ls hx hb hr hlk hml hown hin hts hPF hA htab hG hl
  have hl : lv_has ls 4 [(0, .ref p0), (1, .int p1), (2, .int p2), (3, .int p3)] := hl
  unfold gw_X1_fire at hw
  obtain ⟨G0, hG0⟩ : ∃ G0, G0 = G := ⟨_, rfl⟩
  have hG : gS E A G0 s.heap G s.heap [] := by rw [hG0]; exact hG
  rw [show gQ E A G (gpi post) = gQ E A G0 (gpi post) by rw [hG0]]
  rw [show gXC E A G px = gXC E A G0 px by rw [hG0]]
  have h0p0 := hw.1; rw [← hG0] at h0p0
  replace hw := hw.2
  refine lv_aload_n hx hb dX1_fire_0 rfl (lv_at hl 0 rfl) ?_
  refine lv_iload_n hx hb dX1_fire_1 rfl (lv_at hl 1 rfl) ?_
  refine lv_iload_n hx hb dX1_fire_2 rfl (lv_at hl 2 rfl) ?_
  refine lv_iload_n hx hb dX1_fire_3 rfl (lv_at hl 3 rfl) ?_
  refine glmk3 (rest := [.ref p0]) hx hb hml hl.1 hts 8 rfl rfl hin.1 hPF hA hG (by (try simp only [List.map, va_rf_cat, gcat_i, gcat_r, gcat_l, gcat_d, gcat_f, gcat_n]); exact Nat.le_of_ble_eq_true rfl) (Nat.le_of_ble_eq_true rfl) (Nat.le_of_ble_eq_true rfl) dX1_fire_4 (fun q1 H h0q1 hG => ?_)
  replace hw := hw q1 h0q1
  obtain ⟨G2, eG2⟩ : ∃ z, z = gsI (gsI (gsI (gN G q1 48 3) q1 0 p1) q1 1 p2) q1 2 p3 := ⟨_, rfl⟩
  rw [← eG2] at hG
  replace hw := hw G2 eG2
  have hkq1 : gK G2 q1 = 48 := by rw [eG2]; exact gK_Nq (n := 3)
  refine xc3i hA hG (vx_runVX (As := [.ref q1]) (rest := []) ⟨hx, hb, hml, hown, hts⟩ (gm_X1_change l hlt E p0 q1 _ _ G2 hw _) (vx_cwVW 1 hts (lw_VW q688 q690 qs2 q55 q691) rfl rfl rfl hd_X1_change ⟨Nat.le_of_ble_eq_true rfl, Nat.le_of_ble_eq_true rfl⟩) ⟨gblind, grecv hPF hG (gC_of (gK_mon hG.1.2 h0p0 (by decide)) (by decide)) (by decide) (by decide) rfl, fun U hU hW => gpre hPF hA hG _ U hU hW⟩ rfl rfl hl.1 rfl (lv_room (Nat.le_of_ble_eq_true rfl)) dX1_fire_9 ⟨(Nat.le_of_ble_eq_true rfl), (Nat.le_of_ble_eq_true rfl)⟩) (fun X ce q Gx H locs hw hmon hG hce hcv hcl => ?_) (fun r4 G3 H locs hw hmon hG => ?_)
  · exact gleave hlk hG (fun x hx9 => (htab x hx9).elim) hce hcv hcl hw (Nat.le_of_ble_eq_true rfl) (Nat.le_of_ble_eq_true rfl)
  · replace hw := hw hmon
    have hkq1 : gK G3 q1 = 48 := gK_mon hmon hkq1 (by decide)
    exact xreti hx hb hr hlk hG rfl hw (Nat.le_of_ble_eq_true rfl) (Nat.le_of_ble_eq_true rfl) dX1_fire_12
def gw_X1_wouldChip (E : gE) (post : Int32 → Gh → Prop) (px : String → Nat → Gh → Prop) (p0 : Nat) (p1 : Int32) (p2 : Int32) (G : Gh) : Prop := gK G p0 = 1 ∧ (∃ q1, (gR G p0 0) = some q1 ∧ (gC G q1 = 2 ∧ (gw_X2_lot E (fun r4 G3 => gMon G G3 → (gw_X1_checkCone E (fun G5 => gMon G3 G5 → (∃ q6, r4 = some q6 ∧ (gC G5 q6 = 5 ∧ (gw_X6_wouldChip E (fun r9 G8 => gMon G5 G8 → (post r9 G8)) q6 p2 G5)))) px p2 G3)) px q1 p1 G)))
theorem hd_X1_wouldChip : yX1_wouldChip.cls = RX1 ∧ yX1_wouldChip.cls ≠ "java/lang/invoke/MethodHandle" ∧ yX1_wouldChip.cls ≠ "java/lang/invoke/VarHandle" ∧ (parseMethodDescriptor yX1_wouldChip.desc).map (fun d => d.parameters.length) = some 2 := by decide +kernel
theorem hdn_X1_wouldChip : yX1_wouldChip.cls ≠ "java/lang/invoke/MethodHandle" ∧ yX1_wouldChip.cls ≠ "java/lang/invoke/VarHandle" ∧ (parseMethodDescriptor yX1_wouldChip.desc).map (fun d => d.parameters.length) = some 2 := hd_X1_wouldChip.2
theorem hdu_X1_wouldChip : RX1 ≠ "java/lang/invoke/MethodHandle" ∧ RX1 ≠ "java/lang/invoke/VarHandle" ∧ (parseMethodDescriptor yX1_wouldChip.desc).map (fun d => d.parameters.length) = some 2 := by decide +kernel
theorem hds_X1_wouldChip : yX1_wouldChip.name ≠ "<init>" ∧ (parseMethodDescriptor yX1_wouldChip.desc).map (fun d => d.parameters.length) = some 2 := by decide +kernel
set_option maxHeartbeats 1000000 in
set_option maxRecDepth 100000 in
theorem gm_X1_wouldChip (l : Launch) (hlt : l.stackTraces = false) (E : gE) (p0 : Nat) (p1 : Int32) (p2 : Int32) (post : Int32 → Gh → Prop) (px : String → Nat → Gh → Prop) (G : Gh) (hw : gw_X1_wouldChip E post px p0 p1 p2 G) : gX l E yX1_wouldChip (ws_ yX1_wouldChip cX1_wouldChip 4 (some .int)) ({ frames := 11, cells := 2, slots := 12, locals := 182 } : Room) 2 12 [.ref p0, .int p1, .int p2] G (gpi post) px := by
  refine xof (by decide) (Nat.le_of_ble_eq_true rfl) ?_
  intro p e s m below meth c A ls hx hb hr hlk hml hown hin hts hPF hA htab hG hl
  have hl : lv_has ls 4 [(0, .ref p0), (1, .int p1), (2, .int p2)] := hl
  unfold gw_X1_wouldChip at hw
  obtain ⟨G0, hG0⟩ : ∃ G0, G0 = G := ⟨_, rfl⟩
  have hG : gS E A G0 s.heap G s.heap [] := by rw [hG0]; exact hG
  rw [show gQ E A G (gpi post) = gQ E A G0 (gpi post) by rw [hG0]]
  rw [show gXC E A G px = gXC E A G0 px by rw [hG0]]
  have h0p0 := hw.1; rw [← hG0] at h0p0
  replace hw := hw.2
  refine lv_aload_n hx hb dX1_wouldChip_0 rfl (lv_at hl 0 rfl) ?_
  refine gg hx hb hts hown hPF hG 1 0 rfl in_X1 (by decide) (by decide) (by decide) q539 (fun _ h9 => h9) (gC_of (gK_mon hG.1.2 h0p0 (by decide)) (by decide)) (v := va_rf (gR G p0 0)) rfl dX1_wouldChip_1 ?_
  refine lv_iload_n hx hb dX1_wouldChip_4 rfl (lv_at hl 1 rfl) ?_
  obtain ⟨q1, hq1, hw⟩ := hw
  refine W.eq (g2 := F0 m 5 ls [.int p1, .ref q1]) (by rw [hq1]; rfl) ?_
  have hk2 := hw.1
  replace hw := hw.2
  refine xc3r hA hG (vx_runV (As := [.int p1]) (rest := []) ⟨hx, hb, hml, hown, hts⟩ (gm_X2_lot l hlt E q1 p1 _ _ G hw _) (cwV 1 hts (lw_V q1141 q1142 q1143 q56 q1144) rfl rfl rfl hd_X2_lot ⟨Nat.le_of_ble_eq_true rfl, Nat.le_of_ble_eq_true rfl⟩) ⟨gblind, grecv hPF hG hk2 (by decide) (by decide) rfl, fun U hU hW => gpre hPF hA hG _ U hU hW⟩ rfl rfl hl.1 rfl (lv_room (Nat.le_of_ble_eq_true rfl)) dX1_wouldChip_5 ⟨(Nat.le_of_ble_eq_true rfl), (Nat.le_of_ble_eq_true rfl)⟩) (fun X ce q Gx H locs hw hmon hG hce hcv hcl => ?_) (fun r4 G3 H locs hw hmon hG => ?_)
  · exact gleave hlk hG (fun x hx9 => (htab x hx9).elim) hce hcv hcl hw (Nat.le_of_ble_eq_true rfl) (Nat.le_of_ble_eq_true rfl)
  · replace hw := hw hmon
    have hk2 : gC G3 q1 = 2 := gC_mon hmon hk2 (by decide)
    refine gt_n (i := 3) (lv' := [(3, va_rf r4), (0, .ref p0), (1, .int p1), (2, .int p2)]) hx hb dX1_wouldChip_8 rfl hl (by decide) rfl (fun ls hl => ?_)
    refine lv_iload_n hx hb dX1_wouldChip_9 rfl (lv_at hl 3 rfl) ?_
    refine xc3v hA hG (vx_runS (As := [.int p2]) (rest := []) ⟨hx, hb, hml, hown, hts⟩ (gm_X1_checkCone l hlt E p2 _ _ G3 hw _) (va_cwS 1 hts (lw_S q1391 q1353 q55 q1354) rfl rfl rfl hd_X1_checkCone ⟨Nat.le_of_ble_eq_true rfl, Nat.le_of_ble_eq_true rfl⟩) ⟨gblind, fun U hU hW => gpre hPF hA hG _ U hU hW⟩ rfl rfl hl.1 rfl (lv_room (Nat.le_of_ble_eq_true rfl)) dX1_wouldChip_10 ⟨(Nat.le_of_ble_eq_true rfl), (Nat.le_of_ble_eq_true rfl)⟩) (fun X ce q Gx H locs hw hmon hG hce hcv hcl => ?_) (fun G5 H locs hw hmon hG => ?_)
    · exact gleave hlk hG (fun x hx9 => (htab x hx9).elim) hce hcv hcl hw (Nat.le_of_ble_eq_true rfl) (Nat.le_of_ble_eq_true rfl)
    · replace hw := hw hmon
      have hk2 : gC G5 q1 = 2 := gC_mon hmon hk2 (by decide)
      refine ga_n hx hb dX1_wouldChip_13 rfl (lv_at hl 0 rfl) ?_
      refine lv_iload_n hx hb dX1_wouldChip_14 rfl (lv_at hl 3 rfl) ?_
      obtain ⟨q6, hq6, hw⟩ := hw
      refine W.eq (g2 := F0 m 15 ls [.int p2, .ref q6]) (by rw [hq6]; rfl) ?_
      have hk7 := hw.1
      replace hw := hw.2
      refine gc3i hA hG (va_runV (As := [.int p2]) (rest := []) ⟨hx, hb, hml, hown, hts⟩ (gm_X6_wouldChip l E q6 p2 _ G5 hw _) (cwV 1 hts (lw_V q1392 q1393 q1394 q82 q1395) rfl rfl rfl hd_X6_wouldChip ⟨Nat.le_of_ble_eq_true rfl, Nat.le_of_ble_eq_true rfl⟩) ⟨gblind, grecv hPF hG hk7 (by decide) (by decide) rfl, fun U hU hW => gpre hPF hA hG _ U hU hW⟩ rfl rfl hl.1 rfl (lv_room (Nat.le_of_ble_eq_true rfl)) dX1_wouldChip_15 ⟨(Nat.le_of_ble_eq_true rfl), (Nat.le_of_ble_eq_true rfl)⟩) (fun r9 G8 H locs hw hmon hG => ?_)
      replace hw := hw hmon
      have hk2 : gC G8 q1 = 2 := gC_mon hmon hk2 (by decide)
      have hk7 : gC G8 q6 = 5 := gC_mon hmon hk7 (by decide)
      exact xreti hx hb hr hlk hG rfl hw (Nat.le_of_ble_eq_true rfl) (Nat.le_of_ble_eq_true rfl) dX1_wouldChip_18
def gw_X1_firstDone (E : gE) (post : Int32 → Gh → Prop) (px : String → Nat → Gh → Prop) (p0 : Nat) (G : Gh) : Prop := gK G p0 = 1 ∧ (∃ q1, (gR G p0 0) = some q1 ∧ (gC G q1 = 2 ∧ (gw_X2_firstDone E (fun r4 G3 => gMon G G3 → ((r4 = (-1) → (gw_X1_checkElement E (fun G5 => gMon G3 G5 → (post r4 G5)) px 0 G3)) ∧ (¬ r4 = (-1) → (gw_X1_checkElement E (fun G6 => gMon G3 G6 → (post r4 G6)) px 1 G3)))) q1 G)))
theorem hd_X1_firstDone : yX1_firstDone.cls = RX1 ∧ yX1_firstDone.cls ≠ "java/lang/invoke/MethodHandle" ∧ yX1_firstDone.cls ≠ "java/lang/invoke/VarHandle" ∧ (parseMethodDescriptor yX1_firstDone.desc).map (fun d => d.parameters.length) = some 0 := by decide +kernel
theorem hdn_X1_firstDone : yX1_firstDone.cls ≠ "java/lang/invoke/MethodHandle" ∧ yX1_firstDone.cls ≠ "java/lang/invoke/VarHandle" ∧ (parseMethodDescriptor yX1_firstDone.desc).map (fun d => d.parameters.length) = some 0 := hd_X1_firstDone.2
theorem hdu_X1_firstDone : RX1 ≠ "java/lang/invoke/MethodHandle" ∧ RX1 ≠ "java/lang/invoke/VarHandle" ∧ (parseMethodDescriptor yX1_firstDone.desc).map (fun d => d.parameters.length) = some 0 := by decide +kernel
theorem hds_X1_firstDone : yX1_firstDone.name ≠ "<init>" ∧ (parseMethodDescriptor yX1_firstDone.desc).map (fun d => d.parameters.length) = some 0 := by decide +kernel
set_option maxHeartbeats 1000000 in
set_option maxRecDepth 100000 in
theorem gm_X1_firstDone (l : Launch) (hlt : l.stackTraces = false) (E : gE) (p0 : Nat) (post : Int32 → Gh → Prop) (px : String → Nat → Gh → Prop) (G : Gh) (hw : gw_X1_firstDone E post px p0 G) : gX l E yX1_firstDone (ws_ yX1_firstDone cX1_firstDone 2 (some .int)) ({ frames := 9, cells := 301, slots := 8006, locals := 140 } : Room) 301 8006 [.ref p0] G (gpi post) px := by
  refine xof (by decide) (Nat.le_of_ble_eq_true rfl) ?_
  intro p e s m below meth c A ls hx hb hr hlk hml hown hin hts hPF hA htab hG hl
  have hl : lv_has ls 2 [(0, .ref p0)] := hl
  unfold gw_X1_firstDone at hw
  obtain ⟨G0, hG0⟩ : ∃ G0, G0 = G := ⟨_, rfl⟩
  have hG : gS E A G0 s.heap G s.heap [] := by rw [hG0]; exact hG
  rw [show gQ E A G (gpi post) = gQ E A G0 (gpi post) by rw [hG0]]
  rw [show gXC E A G px = gXC E A G0 px by rw [hG0]]
  have h0p0 := hw.1; rw [← hG0] at h0p0
  replace hw := hw.2
  refine lv_aload_n hx hb dX1_firstDone_0 rfl (lv_at hl 0 rfl) ?_
  refine gg hx hb hts hown hPF hG 1 0 rfl in_X1 (by decide) (by decide) (by decide) q539 (fun _ h9 => h9) (gC_of (gK_mon hG.1.2 h0p0 (by decide)) (by decide)) (v := va_rf (gR G p0 0)) rfl dX1_firstDone_1 ?_
  obtain ⟨q1, hq1, hw⟩ := hw
  refine W.eq (g2 := F0 m 4 ls [.ref q1]) (by rw [hq1]; rfl) ?_
  have hk2 := hw.1
  replace hw := hw.2
  refine gc3i hA hG (va_runV (As := []) (rest := []) ⟨hx, hb, hml, hown, hts⟩ (gm_X2_firstDone l E q1 _ G hw _) (cwV 0 hts (lw_V q1405 q1406 q1407 q56 q1408) rfl rfl rfl hd_X2_firstDone ⟨Nat.le_of_ble_eq_true rfl, Nat.le_of_ble_eq_true rfl⟩) ⟨gblind, grecv hPF hG hk2 (by decide) (by decide) rfl, fun U hU hW => gpre hPF hA hG _ U hU hW⟩ rfl rfl hl.1 rfl (lv_room (Nat.le_of_ble_eq_true rfl)) dX1_firstDone_4 ⟨(Nat.le_of_ble_eq_true rfl), (Nat.le_of_ble_eq_true rfl)⟩) (fun r4 G3 H locs hw hmon hG => ?_)
  replace hw := hw hmon
  have hk2 : gC G3 q1 = 2 := gC_mon hmon hk2 (by decide)
  refine lv_istore_n (i := 1) (lv' := [(1, .int r4), (0, .ref p0)]) hx hb dX1_firstDone_7 rfl hl (by decide) rfl (fun ls hl => ?_)
  refine lv_iload_n hx hb dX1_firstDone_8 rfl (lv_at hl 0 rfl) ?_
  refine lv_iconst (v := (-1)) hx hb dX1_firstDone_9 (by decide) ?_
  refine lv_icmp_eq (tgt := 17) hx hb dX1_firstDone_10 (by decide) (fun c_ => ?_) (fun c_ => ?_)
  · replace hw := hw.1 c_
    refine lv_iconst (v := 0) hx hb dX1_firstDone_17 (by decide) ?_
    refine xc3v hA hG (vx_runS (As := [.int 0]) (rest := []) ⟨hx, hb, hml, hown, hts⟩ (gm_X1_checkElement l hlt E 0 _ _ G3 hw _) (va_cwS 1 hts (lw_S q1158 q1159 q55 q1160) rfl rfl rfl hd_X1_checkElement ⟨Nat.le_of_ble_eq_true rfl, Nat.le_of_ble_eq_true rfl⟩) ⟨gblind, fun U hU hW => gpre hPF hA hG _ U hU hW⟩ rfl rfl hl.1 rfl (lv_room (Nat.le_of_ble_eq_true rfl)) dX1_firstDone_18 ⟨(Nat.le_of_ble_eq_true rfl), (Nat.le_of_ble_eq_true rfl)⟩) (fun X ce q Gx H locs hw hmon hG hce hcv hcl => ?_) (fun G5 H locs hw hmon hG => ?_)
    · exact gleave hlk hG (fun x hx9 => (htab x hx9).elim) hce hcv hcl hw (Nat.le_of_ble_eq_true rfl) (Nat.le_of_ble_eq_true rfl)
    · replace hw := hw hmon
      have hk2 : gC G5 q1 = 2 := gC_mon hmon hk2 (by decide)
      refine lv_iload_n hx hb dX1_firstDone_21 rfl (lv_at hl 0 rfl) ?_
      exact xreti hx hb hr hlk hG rfl hw (Nat.le_of_ble_eq_true rfl) (Nat.le_of_ble_eq_true rfl) dX1_firstDone_22
  · replace hw := hw.2 c_
    refine lv_iconst (v := 1) hx hb dX1_firstDone_13 (by decide) ?_
    refine lv_goto (tgt := 18) hx hb dX1_firstDone_14 (by decide) ?_
    refine xc3v hA hG (vx_runS (As := [.int 1]) (rest := []) ⟨hx, hb, hml, hown, hts⟩ (gm_X1_checkElement l hlt E 1 _ _ G3 hw _) (va_cwS 1 hts (lw_S q1158 q1159 q55 q1160) rfl rfl rfl hd_X1_checkElement ⟨Nat.le_of_ble_eq_true rfl, Nat.le_of_ble_eq_true rfl⟩) ⟨gblind, fun U hU hW => gpre hPF hA hG _ U hU hW⟩ rfl rfl hl.1 rfl (lv_room (Nat.le_of_ble_eq_true rfl)) dX1_firstDone_18 ⟨(Nat.le_of_ble_eq_true rfl), (Nat.le_of_ble_eq_true rfl)⟩) (fun X ce q Gx H locs hw hmon hG hce hcv hcl => ?_) (fun G6 H locs hw hmon hG => ?_)
    · exact gleave hlk hG (fun x hx9 => (htab x hx9).elim) hce hcv hcl hw (Nat.le_of_ble_eq_true rfl) (Nat.le_of_ble_eq_true rfl)
    · replace hw := hw hmon
      have hk2 : gC G6 q1 = 2 := gC_mon hmon hk2 (by decide)
      refine lv_iload_n hx hb dX1_firstDone_21 rfl (lv_at hl 0 rfl) ?_
      exact xreti hx hb hr hlk hG rfl hw (Nat.le_of_ble_eq_true rfl) (Nat.le_of_ble_eq_true rfl) dX1_firstDone_22
def gw_X1_crate (E : gE) (post : Int32 → Gh → Prop) (px : String → Nat → Gh → Prop) (p0 : Nat) (p1 : Int32) (G : Gh) : Prop := gK G p0 = 1 ∧ (∀ q1, gK G q1 = 0 → ∀ G2, G2 = gsI (gN G q1 49 1) q1 0 p1 → (gw_X1_change E (fun r4 G3 => gMon G2 G3 → (post r4 G3)) px p0 q1 G2))
theorem hd_X1_crate : yX1_crate.cls = RX1 ∧ yX1_crate.cls ≠ "java/lang/invoke/MethodHandle" ∧ yX1_crate.cls ≠ "java/lang/invoke/VarHandle" ∧ (parseMethodDescriptor yX1_crate.desc).map (fun d => d.parameters.length) = some 1 := by decide +kernel
theorem hdn_X1_crate : yX1_crate.cls ≠ "java/lang/invoke/MethodHandle" ∧ yX1_crate.cls ≠ "java/lang/invoke/VarHandle" ∧ (parseMethodDescriptor yX1_crate.desc).map (fun d => d.parameters.length) = some 1 := hd_X1_crate.2
theorem hdu_X1_crate : RX1 ≠ "java/lang/invoke/MethodHandle" ∧ RX1 ≠ "java/lang/invoke/VarHandle" ∧ (parseMethodDescriptor yX1_crate.desc).map (fun d => d.parameters.length) = some 1 := by decide +kernel
theorem hds_X1_crate : yX1_crate.name ≠ "<init>" ∧ (parseMethodDescriptor yX1_crate.desc).map (fun d => d.parameters.length) = some 1 := by decide +kernel
set_option maxHeartbeats 1000000 in
set_option maxRecDepth 100000 in
theorem gm_X1_crate (l : Launch) (hlt : l.stackTraces = false) (E : gE) (p0 : Nat) (p1 : Int32) (post : Int32 → Gh → Prop) (px : String → Nat → Gh → Prop) (G : Gh) (hw : gw_X1_crate E post px p0 p1 G) : gX l E yX1_crate (ws_ yX1_crate cX1_crate 2 (some .int)) ({ frames := 15, cells := 942, slots := 10665, locals := 3200 } : Room) 942 10665 [.ref p0, .int p1] G (gpi post) px := by
  refine xof (by decide) (Nat.le_of_ble_eq_true rfl) ?_
  intro p e s m below meth c A ls hx hb hr hlk hml hown hin hts hPF hA htab hG hl
  have hl : lv_has ls 2 [(0, .ref p0), (1, .int p1)] := hl
  unfold gw_X1_crate at hw
  obtain ⟨G0, hG0⟩ : ∃ G0, G0 = G := ⟨_, rfl⟩
  have hG : gS E A G0 s.heap G s.heap [] := by rw [hG0]; exact hG
  rw [show gQ E A G (gpi post) = gQ E A G0 (gpi post) by rw [hG0]]
  rw [show gXC E A G px = gXC E A G0 px by rw [hG0]]
  have h0p0 := hw.1; rw [← hG0] at h0p0
  replace hw := hw.2
  refine lv_aload_n hx hb dX1_crate_0 rfl (lv_at hl 0 rfl) ?_
  refine lv_iload_n hx hb dX1_crate_1 rfl (lv_at hl 1 rfl) ?_
  refine glmk1 (rest := [.ref p0]) hx hb hml hl.1 hts 9 rfl rfl hin.1 hPF hA hG (by (try simp only [List.map, va_rf_cat, gcat_i, gcat_r, gcat_l, gcat_d, gcat_f, gcat_n]); exact Nat.le_of_ble_eq_true rfl) (Nat.le_of_ble_eq_true rfl) (Nat.le_of_ble_eq_true rfl) dX1_crate_2 (fun q1 H h0q1 hG => ?_)
  replace hw := hw q1 h0q1
  obtain ⟨G2, eG2⟩ : ∃ z, z = gsI (gN G q1 49 1) q1 0 p1 := ⟨_, rfl⟩
  rw [← eG2] at hG
  replace hw := hw G2 eG2
  have hkq1 : gK G2 q1 = 49 := by rw [eG2]; exact gK_Nq (n := 1)
  refine xc3i hA hG (vx_runVX (As := [.ref q1]) (rest := []) ⟨hx, hb, hml, hown, hts⟩ (gm_X1_change l hlt E p0 q1 _ _ G2 hw _) (vx_cwVW 1 hts (lw_VW q688 q690 qs2 q55 q691) rfl rfl rfl hd_X1_change ⟨Nat.le_of_ble_eq_true rfl, Nat.le_of_ble_eq_true rfl⟩) ⟨gblind, grecv hPF hG (gC_of (gK_mon hG.1.2 h0p0 (by decide)) (by decide)) (by decide) (by decide) rfl, fun U hU hW => gpre hPF hA hG _ U hU hW⟩ rfl rfl hl.1 rfl (lv_room (Nat.le_of_ble_eq_true rfl)) dX1_crate_7 ⟨(Nat.le_of_ble_eq_true rfl), (Nat.le_of_ble_eq_true rfl)⟩) (fun X ce q Gx H locs hw hmon hG hce hcv hcl => ?_) (fun r4 G3 H locs hw hmon hG => ?_)
  · exact gleave hlk hG (fun x hx9 => (htab x hx9).elim) hce hcv hcl hw (Nat.le_of_ble_eq_true rfl) (Nat.le_of_ble_eq_true rfl)
  · replace hw := hw hmon
    have hkq1 : gK G3 q1 = 49 := gK_mon hmon hkq1 (by decide)
    exact xreti hx hb hr hlk hG rfl hw (Nat.le_of_ble_eq_true rfl) (Nat.le_of_ble_eq_true rfl) dX1_crate_10
def gw_X1_crateOf (E : gE) (post : Int32 → Gh → Prop) (px : String → Nat → Gh → Prop) (p0 : Nat) (p1 : Int32) (p2 : Int32) (G : Gh) : Prop := gK G p0 = 1 ∧ (∃ q1, (gR G p0 0) = some q1 ∧ (gC G q1 = 2 ∧ (gw_X2_crate E (fun r4 G3 => gMon G G3 → ((p2 = 0 → (∃ q5, r4 = some q5 ∧ (gC G3 q5 = 8 ∧ (post (gI G3 q5 0) G3)))) ∧ (p2 = 1 → (∃ q7, r4 = some q7 ∧ (gC G3 q7 = 8 ∧ (post (gI G3 q7 1) G3)))) ∧ (p2 = 2 → (∃ q9, r4 = some q9 ∧ (gC G3 q9 = 8 ∧ (post (gI G3 q9 3) G3)))) ∧ (p2 = 3 → (∃ q11, r4 = some q11 ∧ (gC G3 q11 = 8 ∧ (post (gI G3 q11 2) G3)))) ∧ (p2 = 4 → (∃ q13, r4 = some q13 ∧ (gC G3 q13 = 8 ∧ (gw_X9_coins E (fun r16 G15 => gMon G3 G15 → (post r16 G15)) q13 G3)))) ∧ (p2 = 5 → (∃ q17, r4 = some q17 ∧ (gC G3 q17 = 8 ∧ (gw_X9_chips E (fun r20 G19 => gMon G3 G19 → (post r20 G19)) q17 G3)))) ∧ (p2.toInt < 0 ∨ 5 < p2.toInt → (∀ q, gK G3 q = 0 → px "java/lang/IllegalArgumentException" q G3)))) px q1 p1 G)))
theorem hd_X1_crateOf : yX1_crateOf.cls = RX1 ∧ yX1_crateOf.cls ≠ "java/lang/invoke/MethodHandle" ∧ yX1_crateOf.cls ≠ "java/lang/invoke/VarHandle" ∧ (parseMethodDescriptor yX1_crateOf.desc).map (fun d => d.parameters.length) = some 2 := by decide +kernel
theorem hdn_X1_crateOf : yX1_crateOf.cls ≠ "java/lang/invoke/MethodHandle" ∧ yX1_crateOf.cls ≠ "java/lang/invoke/VarHandle" ∧ (parseMethodDescriptor yX1_crateOf.desc).map (fun d => d.parameters.length) = some 2 := hd_X1_crateOf.2
theorem hdu_X1_crateOf : RX1 ≠ "java/lang/invoke/MethodHandle" ∧ RX1 ≠ "java/lang/invoke/VarHandle" ∧ (parseMethodDescriptor yX1_crateOf.desc).map (fun d => d.parameters.length) = some 2 := by decide +kernel
theorem hds_X1_crateOf : yX1_crateOf.name ≠ "<init>" ∧ (parseMethodDescriptor yX1_crateOf.desc).map (fun d => d.parameters.length) = some 2 := by decide +kernel
set_option maxHeartbeats 1000000 in
set_option maxRecDepth 100000 in
theorem gm_X1_crateOf (l : Launch) (hlt : l.stackTraces = false) (E : gE) (p0 : Nat) (p1 : Int32) (p2 : Int32) (post : Int32 → Gh → Prop) (px : String → Nat → Gh → Prop) (G : Gh) (hw : gw_X1_crateOf E post px p0 p1 p2 G) : gX l E yX1_crateOf (ws_ yX1_crateOf cX1_crateOf 4 (some .int)) ({ frames := 11, cells := 2, slots := 12, locals := 182 } : Room) 2 12 [.ref p0, .int p1, .int p2] G (gpi post) px := by
  refine xof (by decide) (Nat.le_of_ble_eq_true rfl) ?_
  intro p e s m below meth c A ls hx hb hr hlk hml hown hin hts hPF hA htab hG hl
  have hl : lv_has ls 4 [(0, .ref p0), (1, .int p1), (2, .int p2)] := hl
  unfold gw_X1_crateOf at hw
  obtain ⟨G0, hG0⟩ : ∃ G0, G0 = G := ⟨_, rfl⟩
  have hG : gS E A G0 s.heap G s.heap [] := by rw [hG0]; exact hG
  rw [show gQ E A G (gpi post) = gQ E A G0 (gpi post) by rw [hG0]]
  rw [show gXC E A G px = gXC E A G0 px by rw [hG0]]
  have h0p0 := hw.1; rw [← hG0] at h0p0
  replace hw := hw.2
  refine lv_aload_n hx hb dX1_crateOf_0 rfl (lv_at hl 0 rfl) ?_
  refine gg hx hb hts hown hPF hG 1 0 rfl in_X1 (by decide) (by decide) (by decide) q539 (fun _ h9 => h9) (gC_of (gK_mon hG.1.2 h0p0 (by decide)) (by decide)) (v := va_rf (gR G p0 0)) rfl dX1_crateOf_1 ?_
  refine lv_iload_n hx hb dX1_crateOf_4 rfl (lv_at hl 1 rfl) ?_
  obtain ⟨q1, hq1, hw⟩ := hw
  refine W.eq (g2 := F0 m 5 ls [.int p1, .ref q1]) (by rw [hq1]; rfl) ?_
  have hk2 := hw.1
  replace hw := hw.2
  refine xc3r hA hG (vx_runV (As := [.int p1]) (rest := []) ⟨hx, hb, hml, hown, hts⟩ (gm_X2_crate l hlt E q1 p1 _ _ G hw _) (cwV 1 hts (lw_V q1433 q1434 q1435 q56 q1436) rfl rfl rfl hd_X2_crate ⟨Nat.le_of_ble_eq_true rfl, Nat.le_of_ble_eq_true rfl⟩) ⟨gblind, grecv hPF hG hk2 (by decide) (by decide) rfl, fun U hU hW => gpre hPF hA hG _ U hU hW⟩ rfl rfl hl.1 rfl (lv_room (Nat.le_of_ble_eq_true rfl)) dX1_crateOf_5 ⟨(Nat.le_of_ble_eq_true rfl), (Nat.le_of_ble_eq_true rfl)⟩) (fun X ce q Gx H locs hw hmon hG hce hcv hcl => ?_) (fun r4 G3 H locs hw hmon hG => ?_)
  · exact gleave hlk hG (fun x hx9 => (htab x hx9).elim) hce hcv hcl hw (Nat.le_of_ble_eq_true rfl) (Nat.le_of_ble_eq_true rfl)
  · replace hw := hw hmon
    have hk2 : gC G3 q1 = 2 := gC_mon hmon hk2 (by decide)
    refine gt_n (i := 3) (lv' := [(3, va_rf r4), (0, .ref p0), (1, .int p1), (2, .int p2)]) hx hb dX1_crateOf_8 rfl hl (by decide) rfl (fun ls hl => ?_)
    refine lv_iload_n hx hb dX1_crateOf_9 rfl (lv_at hl 3 rfl) ?_
    by_cases ho_ : p2.toInt < 0 ∨ 5 < p2.toInt
    · refine lv_tableOut (tgt := 78) hx hb dX1_crateOf_10 ho_ (by decide) ?_
      replace hw := hw.2.2.2.2.2.2 ho_
      exact vx_throw0 (cls := "java/lang/IllegalArgumentException") (names := excNames) (A := A) hx hb hlt hown (by decide +kernel) (by decide +kernel) (hts _ q642) (hts _ q63) (tw_hat hts hPF tw_X1_3_IllegalArgumentException) (tw_ot (by decide +kernel)) hPF.u.1 hPF.u.2 hG.2 (hl.1.trans hml.symm) dX1_crateOf_78 dX1_crateOf_81 dX1_crateOf_82 dX1_crateOf_85 (fun x hx9 => (htab x hx9).elim) (Nat.le_of_ble_eq_true rfl) (by (try simp only [List.map, va_rf_cat, gcat_i, gcat_r, gcat_l, gcat_d, gcat_f, gcat_n]); exact Nat.le_of_ble_eq_true rfl) (Nat.le_of_ble_eq_true rfl) (Nat.le_of_ble_eq_true rfl) hlk (fun q t hq hW hz hk => gthrown hG (hw q (Classical.byContradiction fun h => Nat.lt_irrefl _ (Nat.lt_of_lt_of_le (gat_lt (hG.1.1 q h).1) hq))) hz hk) hG.2.2.2 (Nat.le_of_ble_eq_true rfl) (Nat.le_of_ble_eq_true rfl)
    · have hi_ : p2.toInt = 0 ∨ p2.toInt = 1 ∨ p2.toInt = 2 ∨ p2.toInt = 3 ∨ p2.toInt = 4 ∨ p2.toInt = 5 := by omega
      rcases hi_ with hi_ | hi_ | hi_ | hi_ | hi_ | hi_
      · have hk_ : p2 = (0 : Int32) := Int32.toInt_inj.mp (by rw [hi_]; rfl)
        refine lv_tableIn (off := 38) (tgt := 48) hx hb dX1_crateOf_10 (by rw [hk_]; decide) (by rw [hk_]; decide) (by rw [hk_]; rfl) (by decide) ?_
        replace hw := hw.1 hk_
        refine ga_n hx hb dX1_crateOf_48 rfl (lv_at hl 0 rfl) ?_
        obtain ⟨q5, hq5, hw⟩ := hw
        refine W.eq (g2 := F0 m 49 ls [.ref q5]) (by rw [hq5]; rfl) ?_
        have hk6 := hw.1
        replace hw := hw.2
        refine ggN hx hb hts hown hPF hG 8 0 rfl in_X9 (by decide) (by decide) (by decide) q923 (fun _ h9 => h9) hk6 (v := .int (gI G3 q5 0)) rfl dX1_crateOf_49 ?_
        exact xreti hx hb hr hlk hG rfl hw (Nat.le_of_ble_eq_true rfl) (Nat.le_of_ble_eq_true rfl) dX1_crateOf_52
      · have hk_ : p2 = (1 : Int32) := Int32.toInt_inj.mp (by rw [hi_]; rfl)
        refine lv_tableIn (off := 43) (tgt := 53) hx hb dX1_crateOf_10 (by rw [hk_]; decide) (by rw [hk_]; decide) (by rw [hk_]; rfl) (by decide) ?_
        replace hw := hw.2.1 hk_
        refine ga_n hx hb dX1_crateOf_53 rfl (lv_at hl 0 rfl) ?_
        obtain ⟨q7, hq7, hw⟩ := hw
        refine W.eq (g2 := F0 m 54 ls [.ref q7]) (by rw [hq7]; rfl) ?_
        have hk8 := hw.1
        replace hw := hw.2
        refine ggN hx hb hts hown hPF hG 8 1 rfl in_X9 (by decide) (by decide) (by decide) q926 (fun _ h9 => h9) hk8 (v := .int (gI G3 q7 1)) rfl dX1_crateOf_54 ?_
        exact xreti hx hb hr hlk hG rfl hw (Nat.le_of_ble_eq_true rfl) (Nat.le_of_ble_eq_true rfl) dX1_crateOf_57
      · have hk_ : p2 = (2 : Int32) := Int32.toInt_inj.mp (by rw [hi_]; rfl)
        refine lv_tableIn (off := 48) (tgt := 58) hx hb dX1_crateOf_10 (by rw [hk_]; decide) (by rw [hk_]; decide) (by rw [hk_]; rfl) (by decide) ?_
        replace hw := hw.2.2.1 hk_
        refine ga_n hx hb dX1_crateOf_58 rfl (lv_at hl 0 rfl) ?_
        obtain ⟨q9, hq9, hw⟩ := hw
        refine W.eq (g2 := F0 m 59 ls [.ref q9]) (by rw [hq9]; rfl) ?_
        have hk10 := hw.1
        replace hw := hw.2
        refine ggN hx hb hts hown hPF hG 8 3 rfl in_X9 (by decide) (by decide) (by decide) q932 (fun _ h9 => h9) hk10 (v := .int (gI G3 q9 3)) rfl dX1_crateOf_59 ?_
        exact xreti hx hb hr hlk hG rfl hw (Nat.le_of_ble_eq_true rfl) (Nat.le_of_ble_eq_true rfl) dX1_crateOf_62
      · have hk_ : p2 = (3 : Int32) := Int32.toInt_inj.mp (by rw [hi_]; rfl)
        refine lv_tableIn (off := 53) (tgt := 63) hx hb dX1_crateOf_10 (by rw [hk_]; decide) (by rw [hk_]; decide) (by rw [hk_]; rfl) (by decide) ?_
        replace hw := hw.2.2.2.1 hk_
        refine ga_n hx hb dX1_crateOf_63 rfl (lv_at hl 0 rfl) ?_
        obtain ⟨q11, hq11, hw⟩ := hw
        refine W.eq (g2 := F0 m 64 ls [.ref q11]) (by rw [hq11]; rfl) ?_
        have hk12 := hw.1
        replace hw := hw.2
        refine ggN hx hb hts hown hPF hG 8 2 rfl in_X9 (by decide) (by decide) (by decide) q929 (fun _ h9 => h9) hk12 (v := .int (gI G3 q11 2)) rfl dX1_crateOf_64 ?_
        exact xreti hx hb hr hlk hG rfl hw (Nat.le_of_ble_eq_true rfl) (Nat.le_of_ble_eq_true rfl) dX1_crateOf_67
      · have hk_ : p2 = (4 : Int32) := Int32.toInt_inj.mp (by rw [hi_]; rfl)
        refine lv_tableIn (off := 58) (tgt := 68) hx hb dX1_crateOf_10 (by rw [hk_]; decide) (by rw [hk_]; decide) (by rw [hk_]; rfl) (by decide) ?_
        replace hw := hw.2.2.2.2.1 hk_
        refine ga_n hx hb dX1_crateOf_68 rfl (lv_at hl 0 rfl) ?_
        obtain ⟨q13, hq13, hw⟩ := hw
        refine W.eq (g2 := F0 m 69 ls [.ref q13]) (by rw [hq13]; rfl) ?_
        have hk14 := hw.1
        replace hw := hw.2
        refine gc3i hA hG (va_runV (As := []) (rest := []) ⟨hx, hb, hml, hown, hts⟩ (gm_X9_coins l E q13 _ G3 hw _) (cwV 0 hts (lw_V q1437 q1438 q1439 q85 q1440) rfl rfl rfl hd_X9_coins ⟨Nat.le_of_ble_eq_true rfl, Nat.le_of_ble_eq_true rfl⟩) ⟨gblind, grecv hPF hG hk14 (by decide) (by decide) rfl, fun U hU hW => gpre hPF hA hG _ U hU hW⟩ rfl rfl hl.1 rfl (lv_room (Nat.le_of_ble_eq_true rfl)) dX1_crateOf_69 ⟨(Nat.le_of_ble_eq_true rfl), (Nat.le_of_ble_eq_true rfl)⟩) (fun r16 G15 H locs hw hmon hG => ?_)
        replace hw := hw hmon
        have hk2 : gC G15 q1 = 2 := gC_mon hmon hk2 (by decide)
        have hk14 : gC G15 q13 = 8 := gC_mon hmon hk14 (by decide)
        exact xreti hx hb hr hlk hG rfl hw (Nat.le_of_ble_eq_true rfl) (Nat.le_of_ble_eq_true rfl) dX1_crateOf_72
      · have hk_ : p2 = (5 : Int32) := Int32.toInt_inj.mp (by rw [hi_]; rfl)
        refine lv_tableIn (off := 63) (tgt := 73) hx hb dX1_crateOf_10 (by rw [hk_]; decide) (by rw [hk_]; decide) (by rw [hk_]; rfl) (by decide) ?_
        replace hw := hw.2.2.2.2.2.1 hk_
        refine ga_n hx hb dX1_crateOf_73 rfl (lv_at hl 0 rfl) ?_
        obtain ⟨q17, hq17, hw⟩ := hw
        refine W.eq (g2 := F0 m 74 ls [.ref q17]) (by rw [hq17]; rfl) ?_
        have hk18 := hw.1
        replace hw := hw.2
        refine gc3i hA hG (va_runV (As := []) (rest := []) ⟨hx, hb, hml, hown, hts⟩ (gm_X9_chips l E q17 _ G3 hw _) (cwV 0 hts (lw_V q1446 q1442 q1443 q85 q1444) rfl rfl rfl hd_X9_chips ⟨Nat.le_of_ble_eq_true rfl, Nat.le_of_ble_eq_true rfl⟩) ⟨gblind, grecv hPF hG hk18 (by decide) (by decide) rfl, fun U hU hW => gpre hPF hA hG _ U hU hW⟩ rfl rfl hl.1 rfl (lv_room (Nat.le_of_ble_eq_true rfl)) dX1_crateOf_74 ⟨(Nat.le_of_ble_eq_true rfl), (Nat.le_of_ble_eq_true rfl)⟩) (fun r20 G19 H locs hw hmon hG => ?_)
        replace hw := hw hmon
        have hk2 : gC G19 q1 = 2 := gC_mon hmon hk2 (by decide)
        have hk18 : gC G19 q17 = 8 := gC_mon hmon hk18 (by decide)
        exact xreti hx hb hr hlk hG rfl hw (Nat.le_of_ble_eq_true rfl) (Nat.le_of_ble_eq_true rfl) dX1_crateOf_77
def gw_X1_straw (E : gE) (post : Int32 → Gh → Prop) (px : String → Nat → Gh → Prop) (p0 : Nat) (p1 : Int32) (p2 : Int32) (G : Gh) : Prop := gK G p0 = 1 ∧ (∀ q1, gK G q1 = 0 → ∀ G2, G2 = gsI (gsI (gN G q1 50 2) q1 0 p1) q1 1 p2 → (gw_X1_change E (fun r4 G3 => gMon G2 G3 → (post r4 G3)) px p0 q1 G2))
theorem hd_X1_straw : yX1_straw.cls = RX1 ∧ yX1_straw.cls ≠ "java/lang/invoke/MethodHandle" ∧ yX1_straw.cls ≠ "java/lang/invoke/VarHandle" ∧ (parseMethodDescriptor yX1_straw.desc).map (fun d => d.parameters.length) = some 2 := by decide +kernel
theorem hdn_X1_straw : yX1_straw.cls ≠ "java/lang/invoke/MethodHandle" ∧ yX1_straw.cls ≠ "java/lang/invoke/VarHandle" ∧ (parseMethodDescriptor yX1_straw.desc).map (fun d => d.parameters.length) = some 2 := hd_X1_straw.2
theorem hdu_X1_straw : RX1 ≠ "java/lang/invoke/MethodHandle" ∧ RX1 ≠ "java/lang/invoke/VarHandle" ∧ (parseMethodDescriptor yX1_straw.desc).map (fun d => d.parameters.length) = some 2 := by decide +kernel
theorem hds_X1_straw : yX1_straw.name ≠ "<init>" ∧ (parseMethodDescriptor yX1_straw.desc).map (fun d => d.parameters.length) = some 2 := by decide +kernel
set_option maxHeartbeats 1000000 in
set_option maxRecDepth 100000 in
theorem gm_X1_straw (l : Launch) (hlt : l.stackTraces = false) (E : gE) (p0 : Nat) (p1 : Int32) (p2 : Int32) (post : Int32 → Gh → Prop) (px : String → Nat → Gh → Prop) (G : Gh) (hw : gw_X1_straw E post px p0 p1 p2 G) : gX l E yX1_straw (ws_ yX1_straw cX1_straw 3 (some .int)) ({ frames := 15, cells := 942, slots := 10666, locals := 3200 } : Room) 942 10666 [.ref p0, .int p1, .int p2] G (gpi post) px := by
  refine xof (by decide) (Nat.le_of_ble_eq_true rfl) ?_
  intro p e s m below meth c A ls hx hb hr hlk hml hown hin hts hPF hA htab hG hl
  have hl : lv_has ls 3 [(0, .ref p0), (1, .int p1), (2, .int p2)] := hl
  unfold gw_X1_straw at hw
  obtain ⟨G0, hG0⟩ : ∃ G0, G0 = G := ⟨_, rfl⟩
  have hG : gS E A G0 s.heap G s.heap [] := by rw [hG0]; exact hG
  rw [show gQ E A G (gpi post) = gQ E A G0 (gpi post) by rw [hG0]]
  rw [show gXC E A G px = gXC E A G0 px by rw [hG0]]
  have h0p0 := hw.1; rw [← hG0] at h0p0
  replace hw := hw.2
  refine lv_aload_n hx hb dX1_straw_0 rfl (lv_at hl 0 rfl) ?_
  refine lv_iload_n hx hb dX1_straw_1 rfl (lv_at hl 1 rfl) ?_
  refine lv_iload_n hx hb dX1_straw_2 rfl (lv_at hl 2 rfl) ?_
  refine glmk2 (rest := [.ref p0]) hx hb hml hl.1 hts 10 rfl rfl hin.1 hPF hA hG (by (try simp only [List.map, va_rf_cat, gcat_i, gcat_r, gcat_l, gcat_d, gcat_f, gcat_n]); exact Nat.le_of_ble_eq_true rfl) (Nat.le_of_ble_eq_true rfl) (Nat.le_of_ble_eq_true rfl) dX1_straw_3 (fun q1 H h0q1 hG => ?_)
  replace hw := hw q1 h0q1
  obtain ⟨G2, eG2⟩ : ∃ z, z = gsI (gsI (gN G q1 50 2) q1 0 p1) q1 1 p2 := ⟨_, rfl⟩
  rw [← eG2] at hG
  replace hw := hw G2 eG2
  have hkq1 : gK G2 q1 = 50 := by rw [eG2]; exact gK_Nq (n := 2)
  refine xc3i hA hG (vx_runVX (As := [.ref q1]) (rest := []) ⟨hx, hb, hml, hown, hts⟩ (gm_X1_change l hlt E p0 q1 _ _ G2 hw _) (vx_cwVW 1 hts (lw_VW q688 q690 qs2 q55 q691) rfl rfl rfl hd_X1_change ⟨Nat.le_of_ble_eq_true rfl, Nat.le_of_ble_eq_true rfl⟩) ⟨gblind, grecv hPF hG (gC_of (gK_mon hG.1.2 h0p0 (by decide)) (by decide)) (by decide) (by decide) rfl, fun U hU hW => gpre hPF hA hG _ U hU hW⟩ rfl rfl hl.1 rfl (lv_room (Nat.le_of_ble_eq_true rfl)) dX1_straw_8 ⟨(Nat.le_of_ble_eq_true rfl), (Nat.le_of_ble_eq_true rfl)⟩) (fun X ce q Gx H locs hw hmon hG hce hcv hcl => ?_) (fun r4 G3 H locs hw hmon hG => ?_)
  · exact gleave hlk hG (fun x hx9 => (htab x hx9).elim) hce hcv hcl hw (Nat.le_of_ble_eq_true rfl) (Nat.le_of_ble_eq_true rfl)
  · replace hw := hw hmon
    have hkq1 : gK G3 q1 = 50 := gK_mon hmon hkq1 (by decide)
    exact xreti hx hb hr hlk hG rfl hw (Nat.le_of_ble_eq_true rfl) (Nat.le_of_ble_eq_true rfl) dX1_straw_11
def gw_X1_pack (E : gE) (post : Int32 → Gh → Prop) (px : String → Nat → Gh → Prop) (p0 : Nat) (p1 : Int32) (p2 : Int32) (p3 : Int32) (G : Gh) : Prop := gK G p0 = 1 ∧ (∀ q1, gK G q1 = 0 → ∀ G2, G2 = gsI (gsI (gsI (gN G q1 51 3) q1 0 p1) q1 1 p2) q1 2 p3 → (gw_X1_change E (fun r4 G3 => gMon G2 G3 → (post r4 G3)) px p0 q1 G2))
theorem hd_X1_pack : yX1_pack.cls = RX1 ∧ yX1_pack.cls ≠ "java/lang/invoke/MethodHandle" ∧ yX1_pack.cls ≠ "java/lang/invoke/VarHandle" ∧ (parseMethodDescriptor yX1_pack.desc).map (fun d => d.parameters.length) = some 3 := by decide +kernel
theorem hdn_X1_pack : yX1_pack.cls ≠ "java/lang/invoke/MethodHandle" ∧ yX1_pack.cls ≠ "java/lang/invoke/VarHandle" ∧ (parseMethodDescriptor yX1_pack.desc).map (fun d => d.parameters.length) = some 3 := hd_X1_pack.2
theorem hdu_X1_pack : RX1 ≠ "java/lang/invoke/MethodHandle" ∧ RX1 ≠ "java/lang/invoke/VarHandle" ∧ (parseMethodDescriptor yX1_pack.desc).map (fun d => d.parameters.length) = some 3 := by decide +kernel
theorem hds_X1_pack : yX1_pack.name ≠ "<init>" ∧ (parseMethodDescriptor yX1_pack.desc).map (fun d => d.parameters.length) = some 3 := by decide +kernel
set_option maxHeartbeats 1000000 in
set_option maxRecDepth 100000 in
theorem gm_X1_pack (l : Launch) (hlt : l.stackTraces = false) (E : gE) (p0 : Nat) (p1 : Int32) (p2 : Int32) (p3 : Int32) (post : Int32 → Gh → Prop) (px : String → Nat → Gh → Prop) (G : Gh) (hw : gw_X1_pack E post px p0 p1 p2 p3 G) : gX l E yX1_pack (ws_ yX1_pack cX1_pack 4 (some .int)) ({ frames := 15, cells := 942, slots := 10667, locals := 3200 } : Room) 942 10667 [.ref p0, .int p1, .int p2, .int p3] G (gpi post) px := by
  refine xof (by decide) (Nat.le_of_ble_eq_true rfl) ?_
  intro p e s m below meth c A ls hx hb hr hlk hml hown hin hts hPF hA htab hG hl
  have hl : lv_has ls 4 [(0, .ref p0), (1, .int p1), (2, .int p2), (3, .int p3)] := hl
  unfold gw_X1_pack at hw
  obtain ⟨G0, hG0⟩ : ∃ G0, G0 = G := ⟨_, rfl⟩
  have hG : gS E A G0 s.heap G s.heap [] := by rw [hG0]; exact hG
  rw [show gQ E A G (gpi post) = gQ E A G0 (gpi post) by rw [hG0]]
  rw [show gXC E A G px = gXC E A G0 px by rw [hG0]]
  have h0p0 := hw.1; rw [← hG0] at h0p0
  replace hw := hw.2
  refine lv_aload_n hx hb dX1_pack_0 rfl (lv_at hl 0 rfl) ?_
  refine lv_iload_n hx hb dX1_pack_1 rfl (lv_at hl 1 rfl) ?_
  refine lv_iload_n hx hb dX1_pack_2 rfl (lv_at hl 2 rfl) ?_
  refine lv_iload_n hx hb dX1_pack_3 rfl (lv_at hl 3 rfl) ?_
  refine glmk3 (rest := [.ref p0]) hx hb hml hl.1 hts 11 rfl rfl hin.1 hPF hA hG (by (try simp only [List.map, va_rf_cat, gcat_i, gcat_r, gcat_l, gcat_d, gcat_f, gcat_n]); exact Nat.le_of_ble_eq_true rfl) (Nat.le_of_ble_eq_true rfl) (Nat.le_of_ble_eq_true rfl) dX1_pack_4 (fun q1 H h0q1 hG => ?_)
  replace hw := hw q1 h0q1
  obtain ⟨G2, eG2⟩ : ∃ z, z = gsI (gsI (gsI (gN G q1 51 3) q1 0 p1) q1 1 p2) q1 2 p3 := ⟨_, rfl⟩
  rw [← eG2] at hG
  replace hw := hw G2 eG2
  have hkq1 : gK G2 q1 = 51 := by rw [eG2]; exact gK_Nq (n := 3)
  refine xc3i hA hG (vx_runVX (As := [.ref q1]) (rest := []) ⟨hx, hb, hml, hown, hts⟩ (gm_X1_change l hlt E p0 q1 _ _ G2 hw _) (vx_cwVW 1 hts (lw_VW q688 q690 qs2 q55 q691) rfl rfl rfl hd_X1_change ⟨Nat.le_of_ble_eq_true rfl, Nat.le_of_ble_eq_true rfl⟩) ⟨gblind, grecv hPF hG (gC_of (gK_mon hG.1.2 h0p0 (by decide)) (by decide)) (by decide) (by decide) rfl, fun U hU hW => gpre hPF hA hG _ U hU hW⟩ rfl rfl hl.1 rfl (lv_room (Nat.le_of_ble_eq_true rfl)) dX1_pack_9 ⟨(Nat.le_of_ble_eq_true rfl), (Nat.le_of_ble_eq_true rfl)⟩) (fun X ce q Gx H locs hw hmon hG hce hcv hcl => ?_) (fun r4 G3 H locs hw hmon hG => ?_)
  · exact gleave hlk hG (fun x hx9 => (htab x hx9).elim) hce hcv hcl hw (Nat.le_of_ble_eq_true rfl) (Nat.le_of_ble_eq_true rfl)
  · replace hw := hw hmon
    have hkq1 : gK G3 q1 = 51 := gK_mon hmon hkq1 (by decide)
    exact xreti hx hb hr hlk hG rfl hw (Nat.le_of_ble_eq_true rfl) (Nat.le_of_ble_eq_true rfl) dX1_pack_12
def gw_X1_carry (E : gE) (post : Int32 → Gh → Prop) (px : String → Nat → Gh → Prop) (p0 : Nat) (p1 : Int32) (G : Gh) : Prop := gK G p0 = 1 ∧ (∀ q1, gK G q1 = 0 → ∀ G2, G2 = gsI (gN G q1 52 1) q1 0 p1 → (gw_X1_change E (fun r4 G3 => gMon G2 G3 → (post r4 G3)) px p0 q1 G2))
theorem hd_X1_carry : yX1_carry.cls = RX1 ∧ yX1_carry.cls ≠ "java/lang/invoke/MethodHandle" ∧ yX1_carry.cls ≠ "java/lang/invoke/VarHandle" ∧ (parseMethodDescriptor yX1_carry.desc).map (fun d => d.parameters.length) = some 1 := by decide +kernel
theorem hdn_X1_carry : yX1_carry.cls ≠ "java/lang/invoke/MethodHandle" ∧ yX1_carry.cls ≠ "java/lang/invoke/VarHandle" ∧ (parseMethodDescriptor yX1_carry.desc).map (fun d => d.parameters.length) = some 1 := hd_X1_carry.2
theorem hdu_X1_carry : RX1 ≠ "java/lang/invoke/MethodHandle" ∧ RX1 ≠ "java/lang/invoke/VarHandle" ∧ (parseMethodDescriptor yX1_carry.desc).map (fun d => d.parameters.length) = some 1 := by decide +kernel
theorem hds_X1_carry : yX1_carry.name ≠ "<init>" ∧ (parseMethodDescriptor yX1_carry.desc).map (fun d => d.parameters.length) = some 1 := by decide +kernel
set_option maxHeartbeats 1000000 in
set_option maxRecDepth 100000 in
theorem gm_X1_carry (l : Launch) (hlt : l.stackTraces = false) (E : gE) (p0 : Nat) (p1 : Int32) (post : Int32 → Gh → Prop) (px : String → Nat → Gh → Prop) (G : Gh) (hw : gw_X1_carry E post px p0 p1 G) : gX l E yX1_carry (ws_ yX1_carry cX1_carry 2 (some .int)) ({ frames := 15, cells := 942, slots := 10665, locals := 3200 } : Room) 942 10665 [.ref p0, .int p1] G (gpi post) px := by
  refine xof (by decide) (Nat.le_of_ble_eq_true rfl) ?_
  intro p e s m below meth c A ls hx hb hr hlk hml hown hin hts hPF hA htab hG hl
  have hl : lv_has ls 2 [(0, .ref p0), (1, .int p1)] := hl
  unfold gw_X1_carry at hw
  obtain ⟨G0, hG0⟩ : ∃ G0, G0 = G := ⟨_, rfl⟩
  have hG : gS E A G0 s.heap G s.heap [] := by rw [hG0]; exact hG
  rw [show gQ E A G (gpi post) = gQ E A G0 (gpi post) by rw [hG0]]
  rw [show gXC E A G px = gXC E A G0 px by rw [hG0]]
  have h0p0 := hw.1; rw [← hG0] at h0p0
  replace hw := hw.2
  refine lv_aload_n hx hb dX1_carry_0 rfl (lv_at hl 0 rfl) ?_
  refine lv_iload_n hx hb dX1_carry_1 rfl (lv_at hl 1 rfl) ?_
  refine glmk1 (rest := [.ref p0]) hx hb hml hl.1 hts 12 rfl rfl hin.1 hPF hA hG (by (try simp only [List.map, va_rf_cat, gcat_i, gcat_r, gcat_l, gcat_d, gcat_f, gcat_n]); exact Nat.le_of_ble_eq_true rfl) (Nat.le_of_ble_eq_true rfl) (Nat.le_of_ble_eq_true rfl) dX1_carry_2 (fun q1 H h0q1 hG => ?_)
  replace hw := hw q1 h0q1
  obtain ⟨G2, eG2⟩ : ∃ z, z = gsI (gN G q1 52 1) q1 0 p1 := ⟨_, rfl⟩
  rw [← eG2] at hG
  replace hw := hw G2 eG2
  have hkq1 : gK G2 q1 = 52 := by rw [eG2]; exact gK_Nq (n := 1)
  refine xc3i hA hG (vx_runVX (As := [.ref q1]) (rest := []) ⟨hx, hb, hml, hown, hts⟩ (gm_X1_change l hlt E p0 q1 _ _ G2 hw _) (vx_cwVW 1 hts (lw_VW q688 q690 qs2 q55 q691) rfl rfl rfl hd_X1_change ⟨Nat.le_of_ble_eq_true rfl, Nat.le_of_ble_eq_true rfl⟩) ⟨gblind, grecv hPF hG (gC_of (gK_mon hG.1.2 h0p0 (by decide)) (by decide)) (by decide) (by decide) rfl, fun U hU hW => gpre hPF hA hG _ U hU hW⟩ rfl rfl hl.1 rfl (lv_room (Nat.le_of_ble_eq_true rfl)) dX1_carry_7 ⟨(Nat.le_of_ble_eq_true rfl), (Nat.le_of_ble_eq_true rfl)⟩) (fun X ce q Gx H locs hw hmon hG hce hcv hcl => ?_) (fun r4 G3 H locs hw hmon hG => ?_)
  · exact gleave hlk hG (fun x hx9 => (htab x hx9).elim) hce hcv hcl hw (Nat.le_of_ble_eq_true rfl) (Nat.le_of_ble_eq_true rfl)
  · replace hw := hw hmon
    have hkq1 : gK G3 q1 = 52 := gK_mon hmon hkq1 (by decide)
    exact xreti hx hb hr hlk hG rfl hw (Nat.le_of_ble_eq_true rfl) (Nat.le_of_ble_eq_true rfl) dX1_carry_10
def gw_X1_sell (E : gE) (post : Int32 → Gh → Prop) (px : String → Nat → Gh → Prop) (p0 : Nat) (G : Gh) : Prop := gK G p0 = 1 ∧ (gw_X1_change E (fun r2 G1 => gMon G G1 → (post r2 G1)) px p0 (eZ E 43) G)
theorem hd_X1_sell : yX1_sell.cls = RX1 ∧ yX1_sell.cls ≠ "java/lang/invoke/MethodHandle" ∧ yX1_sell.cls ≠ "java/lang/invoke/VarHandle" ∧ (parseMethodDescriptor yX1_sell.desc).map (fun d => d.parameters.length) = some 0 := by decide +kernel
theorem hdn_X1_sell : yX1_sell.cls ≠ "java/lang/invoke/MethodHandle" ∧ yX1_sell.cls ≠ "java/lang/invoke/VarHandle" ∧ (parseMethodDescriptor yX1_sell.desc).map (fun d => d.parameters.length) = some 0 := hd_X1_sell.2
theorem hdu_X1_sell : RX1 ≠ "java/lang/invoke/MethodHandle" ∧ RX1 ≠ "java/lang/invoke/VarHandle" ∧ (parseMethodDescriptor yX1_sell.desc).map (fun d => d.parameters.length) = some 0 := by decide +kernel
theorem hds_X1_sell : yX1_sell.name ≠ "<init>" ∧ (parseMethodDescriptor yX1_sell.desc).map (fun d => d.parameters.length) = some 0 := by decide +kernel
set_option maxHeartbeats 1000000 in
set_option maxRecDepth 100000 in
theorem gm_X1_sell (l : Launch) (hlt : l.stackTraces = false) (E : gE) (p0 : Nat) (post : Int32 → Gh → Prop) (px : String → Nat → Gh → Prop) (G : Gh) (hw : gw_X1_sell E post px p0 G) : gX l E yX1_sell (ws_ yX1_sell cX1_sell 1 (some .int)) ({ frames := 15, cells := 941, slots := 10664, locals := 3200 } : Room) 941 10664 [.ref p0] G (gpi post) px := by
  refine xof (by decide) (Nat.le_of_ble_eq_true rfl) ?_
  intro p e s m below meth c A ls hx hb hr hlk hml hown hin hts hPF hA htab hG hl
  have hl : lv_has ls 1 [(0, .ref p0)] := hl
  unfold gw_X1_sell at hw
  obtain ⟨G0, hG0⟩ : ∃ G0, G0 = G := ⟨_, rfl⟩
  have hG : gS E A G0 s.heap G s.heap [] := by rw [hG0]; exact hG
  rw [show gQ E A G (gpi post) = gQ E A G0 (gpi post) by rw [hG0]]
  rw [show gXC E A G px = gXC E A G0 px by rw [hG0]]
  have h0p0 := hw.1; rw [← hG0] at h0p0
  replace hw := hw.2
  refine lv_aload_n hx hb dX1_sell_0 rfl (lv_at hl 0 rfl) ?_
  refine glct (rest := [.ref p0]) hx hb hml hl.1 13 rfl rfl hin.1 hPF (by (try simp only [List.map, va_rf_cat, gcat_i, gcat_r, gcat_l, gcat_d, gcat_f, gcat_n]); exact Nat.le_of_ble_eq_true rfl) dX1_sell_1 ?_
  refine xc3i hA hG (vx_runVX (As := [.ref (eZ E 43)]) (rest := []) ⟨hx, hb, hml, hown, hts⟩ (gm_X1_change l hlt E p0 (eZ E 43) _ _ G hw _) (vx_cwVW 1 hts (lw_VW q688 q690 qs2 q55 q691) rfl rfl rfl hd_X1_change ⟨Nat.le_of_ble_eq_true rfl, Nat.le_of_ble_eq_true rfl⟩) ⟨gblind, grecv hPF hG (gC_of (gK_mon hG.1.2 h0p0 (by decide)) (by decide)) (by decide) (by decide) rfl, fun U hU hW => gpre hPF hA hG _ U hU hW⟩ rfl rfl hl.1 rfl (lv_room (Nat.le_of_ble_eq_true rfl)) dX1_sell_6 ⟨(Nat.le_of_ble_eq_true rfl), (Nat.le_of_ble_eq_true rfl)⟩) (fun X ce q Gx H locs hw hmon hG hce hcv hcl => ?_) (fun r2 G1 H locs hw hmon hG => ?_)
  · exact gleave hlk hG (fun x hx9 => (htab x hx9).elim) hce hcv hcl hw (Nat.le_of_ble_eq_true rfl) (Nat.le_of_ble_eq_true rfl)
  · replace hw := hw hmon
    exact xreti hx hb hr hlk hG rfl hw (Nat.le_of_ble_eq_true rfl) (Nat.le_of_ble_eq_true rfl) dX1_sell_9
def gw_X1_pass (E : gE) (post : Int32 → Gh → Prop) (px : String → Nat → Gh → Prop) (p0 : Nat) (p1 : Int32) (G : Gh) : Prop := gK G p0 = 1 ∧ (∀ q1, gK G q1 = 0 → ∀ G2, G2 = gsI (gN G q1 54 1) q1 0 p1 → (gw_X1_change E (fun r4 G3 => gMon G2 G3 → (post r4 G3)) px p0 q1 G2))
theorem hd_X1_pass : yX1_pass.cls = RX1 ∧ yX1_pass.cls ≠ "java/lang/invoke/MethodHandle" ∧ yX1_pass.cls ≠ "java/lang/invoke/VarHandle" ∧ (parseMethodDescriptor yX1_pass.desc).map (fun d => d.parameters.length) = some 1 := by decide +kernel
theorem hdn_X1_pass : yX1_pass.cls ≠ "java/lang/invoke/MethodHandle" ∧ yX1_pass.cls ≠ "java/lang/invoke/VarHandle" ∧ (parseMethodDescriptor yX1_pass.desc).map (fun d => d.parameters.length) = some 1 := hd_X1_pass.2
theorem hdu_X1_pass : RX1 ≠ "java/lang/invoke/MethodHandle" ∧ RX1 ≠ "java/lang/invoke/VarHandle" ∧ (parseMethodDescriptor yX1_pass.desc).map (fun d => d.parameters.length) = some 1 := by decide +kernel
theorem hds_X1_pass : yX1_pass.name ≠ "<init>" ∧ (parseMethodDescriptor yX1_pass.desc).map (fun d => d.parameters.length) = some 1 := by decide +kernel
set_option maxHeartbeats 1000000 in
set_option maxRecDepth 100000 in
theorem gm_X1_pass (l : Launch) (hlt : l.stackTraces = false) (E : gE) (p0 : Nat) (p1 : Int32) (post : Int32 → Gh → Prop) (px : String → Nat → Gh → Prop) (G : Gh) (hw : gw_X1_pass E post px p0 p1 G) : gX l E yX1_pass (ws_ yX1_pass cX1_pass 2 (some .int)) ({ frames := 15, cells := 942, slots := 10665, locals := 3200 } : Room) 942 10665 [.ref p0, .int p1] G (gpi post) px := by
  refine xof (by decide) (Nat.le_of_ble_eq_true rfl) ?_
  intro p e s m below meth c A ls hx hb hr hlk hml hown hin hts hPF hA htab hG hl
  have hl : lv_has ls 2 [(0, .ref p0), (1, .int p1)] := hl
  unfold gw_X1_pass at hw
  obtain ⟨G0, hG0⟩ : ∃ G0, G0 = G := ⟨_, rfl⟩
  have hG : gS E A G0 s.heap G s.heap [] := by rw [hG0]; exact hG
  rw [show gQ E A G (gpi post) = gQ E A G0 (gpi post) by rw [hG0]]
  rw [show gXC E A G px = gXC E A G0 px by rw [hG0]]
  have h0p0 := hw.1; rw [← hG0] at h0p0
  replace hw := hw.2
  refine lv_aload_n hx hb dX1_pass_0 rfl (lv_at hl 0 rfl) ?_
  refine lv_iload_n hx hb dX1_pass_1 rfl (lv_at hl 1 rfl) ?_
  refine glmk1 (rest := [.ref p0]) hx hb hml hl.1 hts 14 rfl rfl hin.1 hPF hA hG (by (try simp only [List.map, va_rf_cat, gcat_i, gcat_r, gcat_l, gcat_d, gcat_f, gcat_n]); exact Nat.le_of_ble_eq_true rfl) (Nat.le_of_ble_eq_true rfl) (Nat.le_of_ble_eq_true rfl) dX1_pass_2 (fun q1 H h0q1 hG => ?_)
  replace hw := hw q1 h0q1
  obtain ⟨G2, eG2⟩ : ∃ z, z = gsI (gN G q1 54 1) q1 0 p1 := ⟨_, rfl⟩
  rw [← eG2] at hG
  replace hw := hw G2 eG2
  have hkq1 : gK G2 q1 = 54 := by rw [eG2]; exact gK_Nq (n := 1)
  refine xc3i hA hG (vx_runVX (As := [.ref q1]) (rest := []) ⟨hx, hb, hml, hown, hts⟩ (gm_X1_change l hlt E p0 q1 _ _ G2 hw _) (vx_cwVW 1 hts (lw_VW q688 q690 qs2 q55 q691) rfl rfl rfl hd_X1_change ⟨Nat.le_of_ble_eq_true rfl, Nat.le_of_ble_eq_true rfl⟩) ⟨gblind, grecv hPF hG (gC_of (gK_mon hG.1.2 h0p0 (by decide)) (by decide)) (by decide) (by decide) rfl, fun U hU hW => gpre hPF hA hG _ U hU hW⟩ rfl rfl hl.1 rfl (lv_room (Nat.le_of_ble_eq_true rfl)) dX1_pass_7 ⟨(Nat.le_of_ble_eq_true rfl), (Nat.le_of_ble_eq_true rfl)⟩) (fun X ce q Gx H locs hw hmon hG hce hcv hcl => ?_) (fun r4 G3 H locs hw hmon hG => ?_)
  · exact gleave hlk hG (fun x hx9 => (htab x hx9).elim) hce hcv hcl hw (Nat.le_of_ble_eq_true rfl) (Nat.le_of_ble_eq_true rfl)
  · replace hw := hw hmon
    have hkq1 : gK G3 q1 = 54 := gK_mon hmon hkq1 (by decide)
    exact xreti hx hb hr hlk hG rfl hw (Nat.le_of_ble_eq_true rfl) (Nat.le_of_ble_eq_true rfl) dX1_pass_10
