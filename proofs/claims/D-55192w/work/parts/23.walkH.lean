/-! walks over the ghost heap: walkH -/
set_option maxRecDepth 100000
def gw_X2_init (E : gE) (post : Gh → Prop) (p0 : Nat) (G : Gh) : Prop := gK G p0 = 2 ∧ (∀ q1, gK G q1 = 0 → ∀ G2, G2 = gN G q1 14 0 → (gw_J2_init E (fun G3 => gMon G2 G3 → (∀ G4, G4 = gsR G3 p0 0 (some q1) → (∀ q5, gK G4 q5 = 0 → ∀ G6, G6 = gN G4 q5 14 0 → (gw_J2_init E (fun G7 => gMon G6 G7 → (∀ G8, G8 = gsR G7 p0 1 (some q5) → (∀ q9, gK G8 q9 = 0 → ∀ G10, G10 = gN G8 q9 14 0 → (gw_J2_init E (fun G11 => gMon G10 G11 → (∀ G12, G12 = gsR G11 p0 2 (some q9) → (∀ q13, gK G12 q13 = 0 → ∀ G14, G14 = gN G12 q13 14 0 → (gw_J2_init E (fun G15 => gMon G14 G15 → (∀ G16, G16 = gsR G15 p0 3 (some q13) → (∀ G17, G17 = gsI G16 p0 5 40 → (∀ G18, G18 = gsI G17 p0 6 5 → (∀ G19, G19 = gsI G18 p0 7 60 → (post G19)))))) q13 6 G14)))) q9 3 G10)))) q5 12 G6)))) q1 5 G2))
theorem hd_X2_init : yX2_init.cls ≠ "java/lang/invoke/MethodHandle" ∧ yX2_init.cls ≠ "java/lang/invoke/VarHandle" ∧ (parseMethodDescriptor yX2_init.desc).map (fun d => d.parameters.length) = some 0 := by decide +kernel
set_option maxHeartbeats 1000000 in
set_option maxRecDepth 100000 in
theorem gm_X2_init (l : Launch) (E : gE) (p0 : Nat) (post : Gh → Prop) (G : Gh) (hw : gw_X2_init E post p0 G) : gM l E yX2_init (ws_ yX2_init cX2_init 1 none) ({ frames := 4, cells := 8, slots := 268, locals := 91 } : Room) 8 268 [.ref p0] G (gpv post) := by
  refine gof (by decide) (Nat.le_of_ble_eq_true rfl) ?_
  intro p e s m below meth c A ls hx hb hr hlk hml hown hin hts hPF hA hG hl
  have hl : lv_has ls 1 [(0, .ref p0)] := hl
  unfold gw_X2_init at hw
  obtain ⟨G0, hG0⟩ : ∃ G0, G0 = G := ⟨_, rfl⟩
  have hG : gS E A G0 s.heap G s.heap [] := by rw [hG0]; exact hG
  rw [show gQ E A G (gpv post) = gQ E A G0 (gpv post) by rw [hG0]]
  have h0p0 := hw.1; rw [← hG0] at h0p0
  replace hw := hw.2
  refine lv_aload_n hx hb dX2_init_0 rfl (lv_at hl 0 rfl) ?_
  refine W.objInit hx hb hown (hts _ q112) (hts _ q105) (hts _ q106) (g := F0 m 1 ls (.ref p0 :: [])) rfl (hl.1.trans hml.symm) rfl dX2_init_1 (Nat.le_of_ble_eq_true rfl) (by (try simp only [List.map, va_rf_cat, gcat_i, gcat_r, gcat_l, gcat_d, gcat_f, gcat_n]); exact Nat.le_of_ble_eq_true rfl) ?_
  refine W.eq (g2 := F0 m 4 ls []) rfl ?_
  refine lv_aload_n hx hb dX2_init_4 rfl (lv_at hl 0 rfl) ?_
  refine gnew (ci := 14) hx hb hts in_J2 tyJ2 tyJ2_ok hown q113 q114 q59 hPF hG hA rfl (by decide) (by decide) gborn_J2 (Nat.le_of_ble_eq_true rfl) (Nat.le_of_ble_eq_true rfl) dX2_init_5 (fun q1 H h0q1 hG => ?_)
  replace hw := hw q1 h0q1
  obtain ⟨G2, eG2⟩ : ∃ z, z = gN G q1 14 0 := ⟨_, rfl⟩
  rw [← eG2] at hG
  replace hw := hw G2 eG2
  have hkq1 : gK G2 q1 = 14 := by rw [eG2]; exact gK_Nq
  refine lv_dup hx hb dX2_init_8 rfl ?_
  refine lv_iconst (v := 5) hx hb dX2_init_9 (by decide) ?_
  refine gc3v hA hG (va_runI (As := [.int 5]) (rest := [.ref q1, .ref p0]) ⟨hx, hb, hml, hown, hts⟩ (gm_J2_init l E q1 5 _ G2 hw _) (cwI 1 hts (lw_meth q117) rfl rfl rfl (hts _ q59) (hts _ q115) (hts _ q116) rfl hd_J2_init ⟨Nat.le_of_ble_eq_true rfl, Nat.le_of_ble_eq_true rfl⟩) ⟨gblind, fun U hU hW => gpre hPF hA hG _ U hU hW⟩ rfl rfl hl.1 rfl (lv_room (Nat.le_of_ble_eq_true rfl)) dX2_init_10 ⟨(Nat.le_of_ble_eq_true rfl), (Nat.le_of_ble_eq_true rfl)⟩) (fun G3 H locs hw hmon hG => ?_)
  replace hw := hw hmon
  have hkq1 : gK G3 q1 = 14 := gK_mon hmon hkq1 (by decide)
  refine gpF hx hb hts hown hPF hG 2 0 rfl in_X2 tyX2 tyX2_ok nmX2 (by decide) (by decide) (by decide) q462 (fun _ h9 => h9) rfl hin.2 rfl (gK_mon hG.1.2 h0p0 (by decide)) (v := va_rf (some q1)) (narrow_rf _) (fits_rf _ (by decide)) (G' := gsR G3 p0 0 (some q1)) rfl rfl grR_off (Nat.le_of_ble_eq_true rfl) (gFs_R 2 0 (fun _ _ _ => rfl)) dX2_init_13 (fun H locs hG => ?_)
  obtain ⟨G4, eG4⟩ : ∃ z, z = gsR G3 p0 0 (some q1) := ⟨_, rfl⟩
  rw [← eG4] at hG
  replace hw := hw G4 eG4
  have hkq1 : gK G4 q1 = 14 := by rw [eG4]; exact hkq1
  refine lv_aload_n hx hb dX2_init_16 rfl (lv_at hl 0 rfl) ?_
  refine gnew (ci := 14) hx hb hts in_J2 tyJ2 tyJ2_ok hown q113 q114 q59 hPF hG hA rfl (by decide) (by decide) gborn_J2 (Nat.le_of_ble_eq_true rfl) (Nat.le_of_ble_eq_true rfl) dX2_init_17 (fun q5 H h0q5 hG => ?_)
  replace hw := hw q5 h0q5
  obtain ⟨G6, eG6⟩ : ∃ z, z = gN G4 q5 14 0 := ⟨_, rfl⟩
  rw [← eG6] at hG
  replace hw := hw G6 eG6
  have hkq1 : gK G6 q1 = 14 := by rw [eG6]; exact gK_N hkq1 (by decide) h0q5
  have hkq5 : gK G6 q5 = 14 := by rw [eG6]; exact gK_Nq
  refine lv_dup hx hb dX2_init_20 rfl ?_
  refine lv_bipush (v := 12) hx hb dX2_init_21 (by decide) ?_
  refine gc3v hA hG (va_runI (As := [.int 12]) (rest := [.ref q5, .ref p0]) ⟨hx, hb, hml, hown, hts⟩ (gm_J2_init l E q5 12 _ G6 hw _) (cwI 1 hts (lw_meth q117) rfl rfl rfl (hts _ q59) (hts _ q115) (hts _ q116) rfl hd_J2_init ⟨Nat.le_of_ble_eq_true rfl, Nat.le_of_ble_eq_true rfl⟩) ⟨gblind, fun U hU hW => gpre hPF hA hG _ U hU hW⟩ rfl rfl hl.1 rfl (lv_room (Nat.le_of_ble_eq_true rfl)) dX2_init_23 ⟨(Nat.le_of_ble_eq_true rfl), (Nat.le_of_ble_eq_true rfl)⟩) (fun G7 H locs hw hmon hG => ?_)
  replace hw := hw hmon
  have hkq1 : gK G7 q1 = 14 := gK_mon hmon hkq1 (by decide)
  have hkq5 : gK G7 q5 = 14 := gK_mon hmon hkq5 (by decide)
  refine gpF hx hb hts hown hPF hG 2 1 rfl in_X2 tyX2 tyX2_ok nmX2 (by decide) (by decide) (by decide) q464 (fun _ h9 => h9) rfl hin.2 rfl (gK_mon hG.1.2 h0p0 (by decide)) (v := va_rf (some q5)) (narrow_rf _) (fits_rf _ (by decide)) (G' := gsR G7 p0 1 (some q5)) rfl rfl grR_off (Nat.le_of_ble_eq_true rfl) (gFs_R 2 1 (fun _ _ _ => rfl)) dX2_init_26 (fun H locs hG => ?_)
  obtain ⟨G8, eG8⟩ : ∃ z, z = gsR G7 p0 1 (some q5) := ⟨_, rfl⟩
  rw [← eG8] at hG
  replace hw := hw G8 eG8
  have hkq1 : gK G8 q1 = 14 := by rw [eG8]; exact hkq1
  have hkq5 : gK G8 q5 = 14 := by rw [eG8]; exact hkq5
  refine lv_aload_n hx hb dX2_init_29 rfl (lv_at hl 0 rfl) ?_
  refine gnew (ci := 14) hx hb hts in_J2 tyJ2 tyJ2_ok hown q113 q114 q59 hPF hG hA rfl (by decide) (by decide) gborn_J2 (Nat.le_of_ble_eq_true rfl) (Nat.le_of_ble_eq_true rfl) dX2_init_30 (fun q9 H h0q9 hG => ?_)
  replace hw := hw q9 h0q9
  obtain ⟨G10, eG10⟩ : ∃ z, z = gN G8 q9 14 0 := ⟨_, rfl⟩
  rw [← eG10] at hG
  replace hw := hw G10 eG10
  have hkq1 : gK G10 q1 = 14 := by rw [eG10]; exact gK_N hkq1 (by decide) h0q9
  have hkq5 : gK G10 q5 = 14 := by rw [eG10]; exact gK_N hkq5 (by decide) h0q9
  have hkq9 : gK G10 q9 = 14 := by rw [eG10]; exact gK_Nq
  refine lv_dup hx hb dX2_init_33 rfl ?_
  refine lv_iconst (v := 3) hx hb dX2_init_34 (by decide) ?_
  refine gc3v hA hG (va_runI (As := [.int 3]) (rest := [.ref q9, .ref p0]) ⟨hx, hb, hml, hown, hts⟩ (gm_J2_init l E q9 3 _ G10 hw _) (cwI 1 hts (lw_meth q117) rfl rfl rfl (hts _ q59) (hts _ q115) (hts _ q116) rfl hd_J2_init ⟨Nat.le_of_ble_eq_true rfl, Nat.le_of_ble_eq_true rfl⟩) ⟨gblind, fun U hU hW => gpre hPF hA hG _ U hU hW⟩ rfl rfl hl.1 rfl (lv_room (Nat.le_of_ble_eq_true rfl)) dX2_init_35 ⟨(Nat.le_of_ble_eq_true rfl), (Nat.le_of_ble_eq_true rfl)⟩) (fun G11 H locs hw hmon hG => ?_)
  replace hw := hw hmon
  have hkq1 : gK G11 q1 = 14 := gK_mon hmon hkq1 (by decide)
  have hkq5 : gK G11 q5 = 14 := gK_mon hmon hkq5 (by decide)
  have hkq9 : gK G11 q9 = 14 := gK_mon hmon hkq9 (by decide)
  refine gpF hx hb hts hown hPF hG 2 2 rfl in_X2 tyX2 tyX2_ok nmX2 (by decide) (by decide) (by decide) q466 (fun _ h9 => h9) rfl hin.2 rfl (gK_mon hG.1.2 h0p0 (by decide)) (v := va_rf (some q9)) (narrow_rf _) (fits_rf _ (by decide)) (G' := gsR G11 p0 2 (some q9)) rfl rfl grR_off (Nat.le_of_ble_eq_true rfl) (gFs_R 2 2 (fun _ _ _ => rfl)) dX2_init_38 (fun H locs hG => ?_)
  obtain ⟨G12, eG12⟩ : ∃ z, z = gsR G11 p0 2 (some q9) := ⟨_, rfl⟩
  rw [← eG12] at hG
  replace hw := hw G12 eG12
  have hkq1 : gK G12 q1 = 14 := by rw [eG12]; exact hkq1
  have hkq5 : gK G12 q5 = 14 := by rw [eG12]; exact hkq5
  have hkq9 : gK G12 q9 = 14 := by rw [eG12]; exact hkq9
  refine lv_aload_n hx hb dX2_init_41 rfl (lv_at hl 0 rfl) ?_
  refine gnew (ci := 14) hx hb hts in_J2 tyJ2 tyJ2_ok hown q113 q114 q59 hPF hG hA rfl (by decide) (by decide) gborn_J2 (Nat.le_of_ble_eq_true rfl) (Nat.le_of_ble_eq_true rfl) dX2_init_42 (fun q13 H h0q13 hG => ?_)
  replace hw := hw q13 h0q13
  obtain ⟨G14, eG14⟩ : ∃ z, z = gN G12 q13 14 0 := ⟨_, rfl⟩
  rw [← eG14] at hG
  replace hw := hw G14 eG14
  have hkq1 : gK G14 q1 = 14 := by rw [eG14]; exact gK_N hkq1 (by decide) h0q13
  have hkq5 : gK G14 q5 = 14 := by rw [eG14]; exact gK_N hkq5 (by decide) h0q13
  have hkq9 : gK G14 q9 = 14 := by rw [eG14]; exact gK_N hkq9 (by decide) h0q13
  have hkq13 : gK G14 q13 = 14 := by rw [eG14]; exact gK_Nq
  refine lv_dup hx hb dX2_init_45 rfl ?_
  refine lv_bipush (v := 6) hx hb dX2_init_46 (by decide) ?_
  refine gc3v hA hG (va_runI (As := [.int 6]) (rest := [.ref q13, .ref p0]) ⟨hx, hb, hml, hown, hts⟩ (gm_J2_init l E q13 6 _ G14 hw _) (cwI 1 hts (lw_meth q117) rfl rfl rfl (hts _ q59) (hts _ q115) (hts _ q116) rfl hd_J2_init ⟨Nat.le_of_ble_eq_true rfl, Nat.le_of_ble_eq_true rfl⟩) ⟨gblind, fun U hU hW => gpre hPF hA hG _ U hU hW⟩ rfl rfl hl.1 rfl (lv_room (Nat.le_of_ble_eq_true rfl)) dX2_init_48 ⟨(Nat.le_of_ble_eq_true rfl), (Nat.le_of_ble_eq_true rfl)⟩) (fun G15 H locs hw hmon hG => ?_)
  replace hw := hw hmon
  have hkq1 : gK G15 q1 = 14 := gK_mon hmon hkq1 (by decide)
  have hkq5 : gK G15 q5 = 14 := gK_mon hmon hkq5 (by decide)
  have hkq9 : gK G15 q9 = 14 := gK_mon hmon hkq9 (by decide)
  have hkq13 : gK G15 q13 = 14 := gK_mon hmon hkq13 (by decide)
  refine gpF hx hb hts hown hPF hG 2 3 rfl in_X2 tyX2 tyX2_ok nmX2 (by decide) (by decide) (by decide) q468 (fun _ h9 => h9) rfl hin.2 rfl (gK_mon hG.1.2 h0p0 (by decide)) (v := va_rf (some q13)) (narrow_rf _) (fits_rf _ (by decide)) (G' := gsR G15 p0 3 (some q13)) rfl rfl grR_off (Nat.le_of_ble_eq_true rfl) (gFs_R 2 3 (fun _ _ _ => rfl)) dX2_init_51 (fun H locs hG => ?_)
  obtain ⟨G16, eG16⟩ : ∃ z, z = gsR G15 p0 3 (some q13) := ⟨_, rfl⟩
  rw [← eG16] at hG
  replace hw := hw G16 eG16
  have hkq1 : gK G16 q1 = 14 := by rw [eG16]; exact hkq1
  have hkq5 : gK G16 q5 = 14 := by rw [eG16]; exact hkq5
  have hkq9 : gK G16 q9 = 14 := by rw [eG16]; exact hkq9
  have hkq13 : gK G16 q13 = 14 := by rw [eG16]; exact hkq13
  refine lv_aload_n hx hb dX2_init_54 rfl (lv_at hl 0 rfl) ?_
  refine lv_bipush (v := 40) hx hb dX2_init_55 (by decide) ?_
  refine gp hx hb hts hown hPF hG 2 5 rfl in_X2 tyX2 tyX2_ok nmX2 (by decide) (by decide) (by decide) q472 (fun _ h9 => h9) rfl (gK_mon hG.1.2 h0p0 (by decide)) (v := .int 40) rfl rfl (G' := gsI G16 p0 5 40) rfl rfl grI_off (Nat.le_of_ble_eq_true rfl) (gFs_I 2 5 (fun _ _ _ => rfl)) dX2_init_57 (fun H locs hG => ?_)
  obtain ⟨G17, eG17⟩ : ∃ z, z = gsI G16 p0 5 40 := ⟨_, rfl⟩
  rw [← eG17] at hG
  replace hw := hw G17 eG17
  have hkq1 : gK G17 q1 = 14 := by rw [eG17]; exact hkq1
  have hkq5 : gK G17 q5 = 14 := by rw [eG17]; exact hkq5
  have hkq9 : gK G17 q9 = 14 := by rw [eG17]; exact hkq9
  have hkq13 : gK G17 q13 = 14 := by rw [eG17]; exact hkq13
  refine lv_aload_n hx hb dX2_init_60 rfl (lv_at hl 0 rfl) ?_
  refine lv_iconst (v := 5) hx hb dX2_init_61 (by decide) ?_
  refine gp hx hb hts hown hPF hG 2 6 rfl in_X2 tyX2 tyX2_ok nmX2 (by decide) (by decide) (by decide) q474 (fun _ h9 => h9) rfl (gK_mon hG.1.2 h0p0 (by decide)) (v := .int 5) rfl rfl (G' := gsI G17 p0 6 5) rfl rfl grI_off (Nat.le_of_ble_eq_true rfl) (gFs_I 2 6 (fun _ _ _ => rfl)) dX2_init_62 (fun H locs hG => ?_)
  obtain ⟨G18, eG18⟩ : ∃ z, z = gsI G17 p0 6 5 := ⟨_, rfl⟩
  rw [← eG18] at hG
  replace hw := hw G18 eG18
  have hkq1 : gK G18 q1 = 14 := by rw [eG18]; exact hkq1
  have hkq5 : gK G18 q5 = 14 := by rw [eG18]; exact hkq5
  have hkq9 : gK G18 q9 = 14 := by rw [eG18]; exact hkq9
  have hkq13 : gK G18 q13 = 14 := by rw [eG18]; exact hkq13
  refine lv_aload_n hx hb dX2_init_65 rfl (lv_at hl 0 rfl) ?_
  refine lv_bipush (v := 60) hx hb dX2_init_66 (by decide) ?_
  refine gp hx hb hts hown hPF hG 2 7 rfl in_X2 tyX2 tyX2_ok nmX2 (by decide) (by decide) (by decide) q476 (fun _ h9 => h9) rfl (gK_mon hG.1.2 h0p0 (by decide)) (v := .int 60) rfl rfl (G' := gsI G18 p0 7 60) rfl rfl grI_off (Nat.le_of_ble_eq_true rfl) (gFs_I 2 7 (fun _ _ _ => rfl)) dX2_init_68 (fun H locs hG => ?_)
  obtain ⟨G19, eG19⟩ : ∃ z, z = gsI G18 p0 7 60 := ⟨_, rfl⟩
  rw [← eG19] at hG
  replace hw := hw G19 eG19
  have hkq1 : gK G19 q1 = 14 := by rw [eG19]; exact hkq1
  have hkq5 : gK G19 q5 = 14 := by rw [eG19]; exact hkq5
  have hkq9 : gK G19 q9 = 14 := by rw [eG19]; exact hkq9
  have hkq13 : gK G19 q13 = 14 := by rw [eG19]; exact hkq13
  exact gretv hx hb hr hlk hG hw (Nat.le_of_ble_eq_true rfl) (Nat.le_of_ble_eq_true rfl) dX2_init_71
def gw_X2_copy_L150 (E : gE) (p0 : Nat) (post : Option Nat → Gh → Prop) : Nat → Nat → Option Nat → Nat → Nat → Gh → Prop
  | 0, _, _, _, _, _ => False
  | n + 1, x1, x3, cB, zB, G => ∃ q83, x3 = some q83 ∧ (gC G q83 = 15 ∧ ((cB + 0 ≤ 300 ∧ zB + 0 ≤ 8000) ∧ (gw_J18_hasNext E (fun r87 G86 => gMon G G86 → ((r87 = 0 → (gK G86 x1 = 2 ∧ (∀ G89, G89 = gsI G86 x1 4 (gI G86 p0 4) → (∀ G90, G90 = gsI G89 x1 5 (gI G89 p0 5) → (∀ G91, G91 = gsI G90 x1 6 (gI G90 p0 6) → (∀ G92, G92 = gsI G91 x1 7 (gI G91 p0 7) → (∀ G93, G93 = gsI G92 x1 8 (gI G92 p0 8) → (∀ G94, G94 = gsI G93 x1 9 (gI G93 p0 9) → (∀ G95, G95 = gsI G94 x1 10 (gI G94 p0 10) → (∀ G96, G96 = gsI G95 x1 11 (gI G95 p0 11) → (∀ G97, G97 = gsI G96 x1 12 (gI G96 p0 12) → (∀ G98, G98 = gsI G97 x1 13 (gI G97 p0 13) → ((cB ≤ 300 ∧ zB ≤ 8000) ∧ (post (some x1) G98)))))))))))))) ∧ (¬ r87 = 0 → ((cB + 0 ≤ 300 ∧ zB + 0 ≤ 8000) ∧ (gw_J18_next E (fun r101 G100 => gMon G86 G100 → (∃ q102, r101 = some q102 ∧ (gC G100 q102 = 8 ∧ (gC G100 x1 = 2 ∧ ((cB + 1 ≤ 300 ∧ zB + 4 ≤ 8000) ∧ (gw_X9_copy E (fun r107 G106 => gMon G100 G106 → (∃ q108, r107 = some q108 ∧ (∃ q109, (gR G100 x1 3) = some q109 ∧ (gC G106 q109 = 14 ∧ ((cB + 2 ≤ 300 ∧ zB + 68 ≤ 8000) ∧ (gw_J2_add E (fun r113 G112 => gMon G106 G112 → (gw_X2_copy_L150 E p0 post  n x1 x3 (cB + 2) (zB + 68) G112)) q109 q108 G106)))))) q102 G100)))))) q83 G86))))) q83 G)))
def gw_X2_copy_L106 (E : gE) (p0 : Nat) (post : Option Nat → Gh → Prop) : Nat → Nat → Option Nat → Nat → Nat → Gh → Prop
  | 0, _, _, _, _, _ => False
  | n + 1, x1, x3, cB, zB, G => ∃ q58, x3 = some q58 ∧ (gC G q58 = 15 ∧ ((cB + 0 ≤ 300 ∧ zB + 0 ≤ 8000) ∧ (gw_J18_hasNext E (fun r62 G61 => gMon G G61 → ((r62 = 0 → (∃ q63, (gR G61 p0 3) = some q63 ∧ (gC G61 q63 = 14 ∧ ((cB + 1 ≤ 300 ∧ zB + 4 ≤ 8000) ∧ (gw_J2_iterator E (fun r67 G66 => gMon G61 G66 → ((∃ n, gw_X2_copy_L150 E p0 post  n x1 r67 (cB + 1) (zB + 4) G66))) q63 G61))))) ∧ (¬ r62 = 0 → ((cB + 0 ≤ 300 ∧ zB + 0 ≤ 8000) ∧ (gw_J18_next E (fun r70 G69 => gMon G61 G69 → (∃ q71, r70 = some q71 ∧ (gC G69 q71 = 7 ∧ (gC G69 x1 = 2 ∧ ((cB + 1 ≤ 300 ∧ zB + 2 ≤ 8000) ∧ (gw_X8_copy E (fun r76 G75 => gMon G69 G75 → (∃ q77, r76 = some q77 ∧ (∃ q78, (gR G69 x1 2) = some q78 ∧ (gC G75 q78 = 14 ∧ ((cB + 2 ≤ 300 ∧ zB + 66 ≤ 8000) ∧ (gw_J2_add E (fun r82 G81 => gMon G75 G81 → (gw_X2_copy_L106 E p0 post  n x1 x3 (cB + 2) (zB + 66) G81)) q78 q77 G75)))))) q71 G69)))))) q58 G61))))) q58 G)))
def gw_X2_copy_L62 (E : gE) (p0 : Nat) (post : Option Nat → Gh → Prop) : Nat → Nat → Option Nat → Nat → Nat → Gh → Prop
  | 0, _, _, _, _, _ => False
  | n + 1, x1, x3, cB, zB, G => ∃ q33, x3 = some q33 ∧ (gC G q33 = 15 ∧ ((cB + 0 ≤ 300 ∧ zB + 0 ≤ 8000) ∧ (gw_J18_hasNext E (fun r37 G36 => gMon G G36 → ((r37 = 0 → (∃ q38, (gR G36 p0 2) = some q38 ∧ (gC G36 q38 = 14 ∧ ((cB + 1 ≤ 300 ∧ zB + 4 ≤ 8000) ∧ (gw_J2_iterator E (fun r42 G41 => gMon G36 G41 → ((∃ n, gw_X2_copy_L106 E p0 post  n x1 r42 (cB + 1) (zB + 4) G41))) q38 G36))))) ∧ (¬ r37 = 0 → ((cB + 0 ≤ 300 ∧ zB + 0 ≤ 8000) ∧ (gw_J18_next E (fun r45 G44 => gMon G36 G44 → (∃ q46, r45 = some q46 ∧ (gC G44 q46 = 5 ∧ (gC G44 x1 = 2 ∧ ((cB + 2 ≤ 300 ∧ zB + 3 ≤ 8000) ∧ (gw_X6_copy E (fun r51 G50 => gMon G44 G50 → (∃ q52, r51 = some q52 ∧ (∃ q53, (gR G44 x1 1) = some q53 ∧ (gC G50 q53 = 14 ∧ ((cB + 3 ≤ 300 ∧ zB + 67 ≤ 8000) ∧ (gw_J2_add E (fun r57 G56 => gMon G50 G56 → (gw_X2_copy_L62 E p0 post  n x1 x3 (cB + 3) (zB + 67) G56)) q53 q52 G50)))))) q46 G44)))))) q33 G36))))) q33 G)))
def gw_X2_copy_L18 (E : gE) (p0 : Nat) (post : Option Nat → Gh → Prop) : Nat → Nat → Option Nat → Nat → Nat → Gh → Prop
  | 0, _, _, _, _, _ => False
  | n + 1, x1, x3, cB, zB, G => ∃ q8, x3 = some q8 ∧ (gC G q8 = 15 ∧ ((cB + 0 ≤ 300 ∧ zB + 0 ≤ 8000) ∧ (gw_J18_hasNext E (fun r12 G11 => gMon G G11 → ((r12 = 0 → (∃ q13, (gR G11 p0 1) = some q13 ∧ (gC G11 q13 = 14 ∧ ((cB + 1 ≤ 300 ∧ zB + 4 ≤ 8000) ∧ (gw_J2_iterator E (fun r17 G16 => gMon G11 G16 → ((∃ n, gw_X2_copy_L62 E p0 post  n x1 r17 (cB + 1) (zB + 4) G16))) q13 G11))))) ∧ (¬ r12 = 0 → ((cB + 0 ≤ 300 ∧ zB + 0 ≤ 8000) ∧ (gw_J18_next E (fun r20 G19 => gMon G11 G19 → (∃ q21, r20 = some q21 ∧ (gC G19 q21 = 4 ∧ (gC G19 x1 = 2 ∧ ((cB + 1 ≤ 300 ∧ zB + 4 ≤ 8000) ∧ (gw_X5_copy E (fun r26 G25 => gMon G19 G25 → (∃ q27, r26 = some q27 ∧ (∃ q28, (gR G19 x1 0) = some q28 ∧ (gC G25 q28 = 14 ∧ ((cB + 2 ≤ 300 ∧ zB + 68 ≤ 8000) ∧ (gw_J2_add E (fun r32 G31 => gMon G25 G31 → (gw_X2_copy_L18 E p0 post  n x1 x3 (cB + 2) (zB + 68) G31)) q28 q27 G25)))))) q21 G19)))))) q8 G11))))) q8 G)))
def gw_X2_copy (E : gE) (post : Option Nat → Gh → Prop) (p0 : Nat) (G : Gh) : Prop := gK G p0 = 2 ∧ (∀ q1, gK G q1 = 0 → ∀ G2, G2 = gN G q1 2 0 → (gw_X2_init E (fun G3 => gMon G2 G3 → (∃ q4, (gR G3 p0 0) = some q4 ∧ (gC G3 q4 = 14 ∧ (gw_J2_iterator E (fun r7 G6 => gMon G3 G6 → ((∃ n, gw_X2_copy_L18 E p0 post  n q1 r7 10 286 G6))) q4 G3)))) q1 G2))
theorem hd_X2_copy : yX2_copy.cls = RX2 ∧ yX2_copy.cls ≠ "java/lang/invoke/MethodHandle" ∧ yX2_copy.cls ≠ "java/lang/invoke/VarHandle" ∧ (parseMethodDescriptor yX2_copy.desc).map (fun d => d.parameters.length) = some 0 := by decide +kernel
theorem hdn_X2_copy : yX2_copy.cls ≠ "java/lang/invoke/MethodHandle" ∧ yX2_copy.cls ≠ "java/lang/invoke/VarHandle" ∧ (parseMethodDescriptor yX2_copy.desc).map (fun d => d.parameters.length) = some 0 := hd_X2_copy.2
theorem hdu_X2_copy : RX2 ≠ "java/lang/invoke/MethodHandle" ∧ RX2 ≠ "java/lang/invoke/VarHandle" ∧ (parseMethodDescriptor yX2_copy.desc).map (fun d => d.parameters.length) = some 0 := by decide +kernel
theorem hds_X2_copy : yX2_copy.name ≠ "<init>" ∧ (parseMethodDescriptor yX2_copy.desc).map (fun d => d.parameters.length) = some 0 := by decide +kernel
set_option maxHeartbeats 8000000 in
set_option maxRecDepth 100000 in
theorem gm_X2_copy (l : Launch) (E : gE) (p0 : Nat) (post : Option Nat → Gh → Prop) (G : Gh) (hw : gw_X2_copy E post p0 G) : gM l E yX2_copy (ws_ yX2_copy cX2_copy 5 (some (.object "WillowPrinters$House"))) ({ frames := 7, cells := 300, slots := 8000, locals := 191 } : Room) 300 8000 [.ref p0] G (gpr post) := by
  refine gof (by decide) (Nat.le_of_ble_eq_true rfl) ?_
  intro p e s m below meth c A ls hx hb hr hlk hml hown hin hts hPF hA hG hl
  have hl : lv_has ls 5 [(0, .ref p0)] := hl
  unfold gw_X2_copy at hw
  obtain ⟨G0, hG0⟩ : ∃ G0, G0 = G := ⟨_, rfl⟩
  have hG : gS E A G0 s.heap G s.heap [] := by rw [hG0]; exact hG
  rw [show gQ E A G (gpr post) = gQ E A G0 (gpr post) by rw [hG0]]
  have h0p0 := hw.1; rw [← hG0] at h0p0
  replace hw := hw.2
  have hL150 : ∀ (n : Nat) (x1 : Nat) (x3 : Option Nat) (cB : Nat) (zB : Nat) (G : Gh) (H : Heap) (locs : List Loc) (ls : Array Slot), gS E A G0 s.heap G H locs → lv_has ls 5 [(0, .ref p0), (1, .ref x1), (3, va_rf x3)] → gw_X2_copy_L150 E p0 post n x1 x3 cB zB G → W p l e (headSpec (ws_ yX2_copy cX2_copy 5 (some (.object "WillowPrinters$House"))) ({ frames := 7, cells := 300, slots := 8000, locals := 191 } : Room)).room s m ([.ref p0] : List Value).toArray below meth c H locs cB zB (MQ below (gQ E A G0 (gpr post)) ([.ref p0] : List Value).toArray s 300 8000 A) (F0 m 150 ls []) := by
    intro n
    induction n with
    | zero => exact fun _ _ _ _ _ _ _ _ _ _ hw => hw.elim
    | succ n ih =>
      intro x1 x3 cB zB G H locs ls hG hl hw
      unfold gw_X2_copy_L150 at hw
      refine ga_n hx hb dX2_copy_150 rfl (lv_at hl 2 rfl) ?_
      obtain ⟨q83, hq83, hw⟩ := hw
      refine W.eq (g2 := F0 m 151 ls [.ref q83]) (by rw [hq83]; rfl) ?_
      have hk84 := hw.1
      replace hw := hw.2
      have hb85 := hw.1
      replace hw := hw.2
      refine gc5i hA hG (va_runF (hPF.K.1 15 _ rfl).2 (As := []) (rest := []) ⟨hx, hb, hml, hown, hts⟩ (gm_J18_hasNext l E q83 _ G hw _) (va_cwF 0 hts (lw_F q723 q727 q729 q79 q731) rfl rfl rfl (hPF.f 0 rfl) hdx_java_util_Iterator_hasNext ⟨Nat.le_of_ble_eq_true rfl, Nat.le_of_ble_eq_true rfl⟩) ⟨gblind, grecv hPF hG hk84 (by decide) (by decide) rfl, fun U hU hW => gpre hPF hA hG _ U hU hW⟩ rfl rfl hl.1 rfl (lv_room (Nat.le_of_ble_eq_true rfl)) dX2_copy_151 ⟨(Nat.le_trans (Nat.le_of_eq (by simp only [Nat.add_assoc, Nat.zero_add, Nat.add_zero])) hb85.1), (Nat.le_trans (Nat.le_of_eq (by simp only [Nat.add_assoc, Nat.zero_add, Nat.add_zero])) hb85.2)⟩) (fun r87 G86 H locs hw hmon hG => ?_)
      replace hw := hw hmon
      have hk84 : gC G86 q83 = 15 := gC_mon hmon hk84 (by decide)
      refine lv_if_eq (tgt := 186) hx hb dX2_copy_156 (by decide) (fun c_ => ?_) (fun c_ => ?_)
      · replace hw := hw.1 c_
        refine lv_aload_n hx hb dX2_copy_186 rfl (lv_at hl 1 rfl) ?_
        refine lv_aload_n hx hb dX2_copy_187 rfl (lv_at hl 0 rfl) ?_
        refine gg hx hb hts hown hPF hG 2 4 rfl in_X2 (by decide) (by decide) (by decide) q470 (fun _ h9 => h9) (gC_of (gK_mon hG.1.2 h0p0 (by decide)) (by decide)) (v := .int (gI G86 p0 4)) rfl dX2_copy_188 ?_
        have hk88 := hw.1
        replace hw := hw.2
        refine gp hx hb hts hown hPF hG 2 4 rfl in_X2 tyX2 tyX2_ok nmX2 (by decide) (by decide) (by decide) q470 (fun _ h9 => h9) rfl hk88 (v := .int (gI G86 p0 4)) rfl rfl (G' := gsI G86 x1 4 (gI G86 p0 4)) rfl rfl grI_off (Nat.le_of_ble_eq_true rfl) (gFs_I 2 4 (fun _ _ _ => rfl)) dX2_copy_191 (fun H locs hG => ?_)
        obtain ⟨G89, eG89⟩ : ∃ z, z = gsI G86 x1 4 (gI G86 p0 4) := ⟨_, rfl⟩
        rw [← eG89] at hG
        replace hw := hw G89 eG89
        have hk84 : gC G89 q83 = 15 := by rw [eG89]; exact hk84
        have hk88 : gK G89 x1 = 2 := by rw [eG89]; exact hk88
        refine lv_aload_n hx hb dX2_copy_194 rfl (lv_at hl 1 rfl) ?_
        refine lv_aload_n hx hb dX2_copy_195 rfl (lv_at hl 0 rfl) ?_
        refine gg hx hb hts hown hPF hG 2 5 rfl in_X2 (by decide) (by decide) (by decide) q472 (fun _ h9 => h9) (gC_of (gK_mon hG.1.2 h0p0 (by decide)) (by decide)) (v := .int (gI G89 p0 5)) rfl dX2_copy_196 ?_
        refine gp hx hb hts hown hPF hG 2 5 rfl in_X2 tyX2 tyX2_ok nmX2 (by decide) (by decide) (by decide) q472 (fun _ h9 => h9) rfl hk88 (v := .int (gI G89 p0 5)) rfl rfl (G' := gsI G89 x1 5 (gI G89 p0 5)) rfl rfl grI_off (Nat.le_of_ble_eq_true rfl) (gFs_I 2 5 (fun _ _ _ => rfl)) dX2_copy_199 (fun H locs hG => ?_)
        obtain ⟨G90, eG90⟩ : ∃ z, z = gsI G89 x1 5 (gI G89 p0 5) := ⟨_, rfl⟩
        rw [← eG90] at hG
        replace hw := hw G90 eG90
        have hk84 : gC G90 q83 = 15 := by rw [eG90]; exact hk84
        have hk88 : gK G90 x1 = 2 := by rw [eG90]; exact hk88
        refine lv_aload_n hx hb dX2_copy_202 rfl (lv_at hl 1 rfl) ?_
        refine lv_aload_n hx hb dX2_copy_203 rfl (lv_at hl 0 rfl) ?_
        refine gg hx hb hts hown hPF hG 2 6 rfl in_X2 (by decide) (by decide) (by decide) q474 (fun _ h9 => h9) (gC_of (gK_mon hG.1.2 h0p0 (by decide)) (by decide)) (v := .int (gI G90 p0 6)) rfl dX2_copy_204 ?_
        refine gp hx hb hts hown hPF hG 2 6 rfl in_X2 tyX2 tyX2_ok nmX2 (by decide) (by decide) (by decide) q474 (fun _ h9 => h9) rfl hk88 (v := .int (gI G90 p0 6)) rfl rfl (G' := gsI G90 x1 6 (gI G90 p0 6)) rfl rfl grI_off (Nat.le_of_ble_eq_true rfl) (gFs_I 2 6 (fun _ _ _ => rfl)) dX2_copy_207 (fun H locs hG => ?_)
        obtain ⟨G91, eG91⟩ : ∃ z, z = gsI G90 x1 6 (gI G90 p0 6) := ⟨_, rfl⟩
        rw [← eG91] at hG
        replace hw := hw G91 eG91
        have hk84 : gC G91 q83 = 15 := by rw [eG91]; exact hk84
        have hk88 : gK G91 x1 = 2 := by rw [eG91]; exact hk88
        refine lv_aload_n hx hb dX2_copy_210 rfl (lv_at hl 1 rfl) ?_
        refine lv_aload_n hx hb dX2_copy_211 rfl (lv_at hl 0 rfl) ?_
        refine gg hx hb hts hown hPF hG 2 7 rfl in_X2 (by decide) (by decide) (by decide) q476 (fun _ h9 => h9) (gC_of (gK_mon hG.1.2 h0p0 (by decide)) (by decide)) (v := .int (gI G91 p0 7)) rfl dX2_copy_212 ?_
        refine gp hx hb hts hown hPF hG 2 7 rfl in_X2 tyX2 tyX2_ok nmX2 (by decide) (by decide) (by decide) q476 (fun _ h9 => h9) rfl hk88 (v := .int (gI G91 p0 7)) rfl rfl (G' := gsI G91 x1 7 (gI G91 p0 7)) rfl rfl grI_off (Nat.le_of_ble_eq_true rfl) (gFs_I 2 7 (fun _ _ _ => rfl)) dX2_copy_215 (fun H locs hG => ?_)
        obtain ⟨G92, eG92⟩ : ∃ z, z = gsI G91 x1 7 (gI G91 p0 7) := ⟨_, rfl⟩
        rw [← eG92] at hG
        replace hw := hw G92 eG92
        have hk84 : gC G92 q83 = 15 := by rw [eG92]; exact hk84
        have hk88 : gK G92 x1 = 2 := by rw [eG92]; exact hk88
        refine lv_aload_n hx hb dX2_copy_218 rfl (lv_at hl 1 rfl) ?_
        refine lv_aload_n hx hb dX2_copy_219 rfl (lv_at hl 0 rfl) ?_
        refine gg hx hb hts hown hPF hG 2 8 rfl in_X2 (by decide) (by decide) (by decide) q478 (fun _ h9 => h9) (gC_of (gK_mon hG.1.2 h0p0 (by decide)) (by decide)) (v := .int (gI G92 p0 8)) rfl dX2_copy_220 ?_
        refine gp hx hb hts hown hPF hG 2 8 rfl in_X2 tyX2 tyX2_ok nmX2 (by decide) (by decide) (by decide) q478 (fun _ h9 => h9) rfl hk88 (v := .int (gI G92 p0 8)) rfl rfl (G' := gsI G92 x1 8 (gI G92 p0 8)) rfl rfl grI_off (Nat.le_of_ble_eq_true rfl) (gFs_I 2 8 (fun _ _ _ => rfl)) dX2_copy_223 (fun H locs hG => ?_)
        obtain ⟨G93, eG93⟩ : ∃ z, z = gsI G92 x1 8 (gI G92 p0 8) := ⟨_, rfl⟩
        rw [← eG93] at hG
        replace hw := hw G93 eG93
        have hk84 : gC G93 q83 = 15 := by rw [eG93]; exact hk84
        have hk88 : gK G93 x1 = 2 := by rw [eG93]; exact hk88
        refine lv_aload_n hx hb dX2_copy_226 rfl (lv_at hl 1 rfl) ?_
        refine lv_aload_n hx hb dX2_copy_227 rfl (lv_at hl 0 rfl) ?_
        refine gg hx hb hts hown hPF hG 2 9 rfl in_X2 (by decide) (by decide) (by decide) q480 (fun _ h9 => h9) (gC_of (gK_mon hG.1.2 h0p0 (by decide)) (by decide)) (v := .int (gI G93 p0 9)) rfl dX2_copy_228 ?_
        refine gp hx hb hts hown hPF hG 2 9 rfl in_X2 tyX2 tyX2_ok nmX2 (by decide) (by decide) (by decide) q480 (fun _ h9 => h9) rfl hk88 (v := .int (gI G93 p0 9)) rfl rfl (G' := gsI G93 x1 9 (gI G93 p0 9)) rfl rfl grI_off (Nat.le_of_ble_eq_true rfl) (gFs_I 2 9 (fun _ _ _ => rfl)) dX2_copy_231 (fun H locs hG => ?_)
        obtain ⟨G94, eG94⟩ : ∃ z, z = gsI G93 x1 9 (gI G93 p0 9) := ⟨_, rfl⟩
        rw [← eG94] at hG
        replace hw := hw G94 eG94
        have hk84 : gC G94 q83 = 15 := by rw [eG94]; exact hk84
        have hk88 : gK G94 x1 = 2 := by rw [eG94]; exact hk88
        refine lv_aload_n hx hb dX2_copy_234 rfl (lv_at hl 1 rfl) ?_
        refine lv_aload_n hx hb dX2_copy_235 rfl (lv_at hl 0 rfl) ?_
        refine gg hx hb hts hown hPF hG 2 10 rfl in_X2 (by decide) (by decide) (by decide) q482 (fun _ h9 => h9) (gC_of (gK_mon hG.1.2 h0p0 (by decide)) (by decide)) (v := .int (gI G94 p0 10)) rfl dX2_copy_236 ?_
        refine gp hx hb hts hown hPF hG 2 10 rfl in_X2 tyX2 tyX2_ok nmX2 (by decide) (by decide) (by decide) q482 (fun _ h9 => h9) rfl hk88 (v := .int (gI G94 p0 10)) rfl rfl (G' := gsI G94 x1 10 (gI G94 p0 10)) rfl rfl grI_off (Nat.le_of_ble_eq_true rfl) (gFs_I 2 10 (fun _ _ _ => rfl)) dX2_copy_239 (fun H locs hG => ?_)
        obtain ⟨G95, eG95⟩ : ∃ z, z = gsI G94 x1 10 (gI G94 p0 10) := ⟨_, rfl⟩
        rw [← eG95] at hG
        replace hw := hw G95 eG95
        have hk84 : gC G95 q83 = 15 := by rw [eG95]; exact hk84
        have hk88 : gK G95 x1 = 2 := by rw [eG95]; exact hk88
        refine lv_aload_n hx hb dX2_copy_242 rfl (lv_at hl 1 rfl) ?_
        refine lv_aload_n hx hb dX2_copy_243 rfl (lv_at hl 0 rfl) ?_
        refine gg hx hb hts hown hPF hG 2 11 rfl in_X2 (by decide) (by decide) (by decide) q484 (fun _ h9 => h9) (gC_of (gK_mon hG.1.2 h0p0 (by decide)) (by decide)) (v := .int (gI G95 p0 11)) rfl dX2_copy_244 ?_
        refine gp hx hb hts hown hPF hG 2 11 rfl in_X2 tyX2 tyX2_ok nmX2 (by decide) (by decide) (by decide) q484 (fun _ h9 => h9) rfl hk88 (v := .int (gI G95 p0 11)) rfl rfl (G' := gsI G95 x1 11 (gI G95 p0 11)) rfl rfl grI_off (Nat.le_of_ble_eq_true rfl) (gFs_I 2 11 (fun _ _ _ => rfl)) dX2_copy_247 (fun H locs hG => ?_)
        obtain ⟨G96, eG96⟩ : ∃ z, z = gsI G95 x1 11 (gI G95 p0 11) := ⟨_, rfl⟩
        rw [← eG96] at hG
        replace hw := hw G96 eG96
        have hk84 : gC G96 q83 = 15 := by rw [eG96]; exact hk84
        have hk88 : gK G96 x1 = 2 := by rw [eG96]; exact hk88
        refine lv_aload_n hx hb dX2_copy_250 rfl (lv_at hl 1 rfl) ?_
        refine lv_aload_n hx hb dX2_copy_251 rfl (lv_at hl 0 rfl) ?_
        refine gg hx hb hts hown hPF hG 2 12 rfl in_X2 (by decide) (by decide) (by decide) q486 (fun _ h9 => h9) (gC_of (gK_mon hG.1.2 h0p0 (by decide)) (by decide)) (v := .int (gI G96 p0 12)) rfl dX2_copy_252 ?_
        refine gp hx hb hts hown hPF hG 2 12 rfl in_X2 tyX2 tyX2_ok nmX2 (by decide) (by decide) (by decide) q486 (fun _ h9 => h9) rfl hk88 (v := .int (gI G96 p0 12)) rfl rfl (G' := gsI G96 x1 12 (gI G96 p0 12)) rfl rfl grI_off (Nat.le_of_ble_eq_true rfl) (gFs_I 2 12 (fun _ _ _ => rfl)) dX2_copy_255 (fun H locs hG => ?_)
        obtain ⟨G97, eG97⟩ : ∃ z, z = gsI G96 x1 12 (gI G96 p0 12) := ⟨_, rfl⟩
        rw [← eG97] at hG
        replace hw := hw G97 eG97
        have hk84 : gC G97 q83 = 15 := by rw [eG97]; exact hk84
        have hk88 : gK G97 x1 = 2 := by rw [eG97]; exact hk88
        refine lv_aload_n hx hb dX2_copy_258 rfl (lv_at hl 1 rfl) ?_
        refine lv_aload_n hx hb dX2_copy_259 rfl (lv_at hl 0 rfl) ?_
        refine gg hx hb hts hown hPF hG 2 13 rfl in_X2 (by decide) (by decide) (by decide) q488 (fun _ h9 => h9) (gC_of (gK_mon hG.1.2 h0p0 (by decide)) (by decide)) (v := .int (gI G97 p0 13)) rfl dX2_copy_260 ?_
        refine gp hx hb hts hown hPF hG 2 13 rfl in_X2 tyX2 tyX2_ok nmX2 (by decide) (by decide) (by decide) q488 (fun _ h9 => h9) rfl hk88 (v := .int (gI G97 p0 13)) rfl rfl (G' := gsI G97 x1 13 (gI G97 p0 13)) rfl rfl grI_off (Nat.le_of_ble_eq_true rfl) (gFs_I 2 13 (fun _ _ _ => rfl)) dX2_copy_263 (fun H locs hG => ?_)
        obtain ⟨G98, eG98⟩ : ∃ z, z = gsI G97 x1 13 (gI G97 p0 13) := ⟨_, rfl⟩
        rw [← eG98] at hG
        replace hw := hw G98 eG98
        have hk84 : gC G98 q83 = 15 := by rw [eG98]; exact hk84
        have hk88 : gK G98 x1 = 2 := by rw [eG98]; exact hk88
        refine lv_aload_n hx hb dX2_copy_266 rfl (lv_at hl 1 rfl) ?_
        have hb_ := hw.1
        replace hw := hw.2
        exact gretr (v := (some x1)) hx hb hr hlk hG (Or.inl ⟨_, rfl⟩) hw (Nat.le_trans (Nat.le_of_eq (by simp only [Nat.add_assoc, Nat.add_zero])) hb_.1) (Nat.le_trans (Nat.le_of_eq (by simp only [Nat.add_assoc, Nat.add_zero])) hb_.2) dX2_copy_267
      · replace hw := hw.2 c_
        refine ga_n hx hb dX2_copy_159 rfl (lv_at hl 2 rfl) ?_
        refine W.eq (g2 := F0 m 160 ls [.ref q83]) (by rw [hq83]; rfl) ?_
        have hb99 := hw.1
        replace hw := hw.2
        refine gc5r hA hG (va_runF (hPF.K.1 15 _ rfl).2 (As := []) (rest := []) ⟨hx, hb, hml, hown, hts⟩ (gm_J18_next l E q83 _ G86 hw _) (va_cwF 0 hts (lw_F q733 q736 q738 q79 q740) rfl rfl rfl (hPF.f 1 rfl) hdx_java_util_Iterator_next ⟨Nat.le_of_ble_eq_true rfl, Nat.le_of_ble_eq_true rfl⟩) ⟨gblind, grecv hPF hG hk84 (by decide) (by decide) rfl, fun U hU hW => gpre hPF hA hG _ U hU hW⟩ rfl rfl hl.1 rfl (lv_room (Nat.le_of_ble_eq_true rfl)) dX2_copy_160 ⟨(Nat.le_trans (Nat.le_of_eq (by simp only [Nat.add_assoc, Nat.zero_add, Nat.add_zero])) hb99.1), (Nat.le_trans (Nat.le_of_eq (by simp only [Nat.add_assoc, Nat.zero_add, Nat.add_zero])) hb99.2)⟩) (fun r101 G100 H locs hw hmon hG => ?_)
        replace hw := hw hmon
        have hk84 : gC G100 q83 = 15 := gC_mon hmon hk84 (by decide)
        obtain ⟨q102, hq102, hw⟩ := hw
        refine W.eq (g2 := F0 m 165 ls [.ref q102]) (by rw [hq102]; rfl) ?_
        have hk103 := hw.1
        replace hw := hw.2
        refine va_castS hx hb hown (hts _ q910) (hPF.K.1 8 _ rfl).2 (grecv hPF hG hk103 (by decide) (by decide) rfl) dX2_copy_165 ?_
        refine lv_astore (lv' := [(4, .ref q102), (0, .ref p0), (1, .ref x1), (3, va_rf x3)]) hx hb dX2_copy_168 hl (by decide) (by first | rfl | simp [List.filter, va_rf_cat, gcat_i, gcat_r, gcat_l, gcat_d, gcat_f, gcat_n]) (fun ls hl => ?_)
        refine lv_aload_n hx hb dX2_copy_170 rfl (lv_at hl 2 rfl) ?_
        have hk104 := hw.1
        replace hw := hw.2
        refine gg hx hb hts hown hPF hG 2 3 rfl in_X2 (by decide) (by decide) (by decide) q468 (fun _ h9 => h9) hk104 (v := va_rf (gR G100 x1 3)) rfl dX2_copy_171 ?_
        refine lv_aload hx hb dX2_copy_174 (lv_at hl 0 rfl) ?_
        have hb105 := hw.1
        replace hw := hw.2
        refine gc3r hA hG (va_runV (As := []) (rest := [va_rf (gR G100 x1 3)]) ⟨hx, hb, hml, hown, hts⟩ (gm_X9_copy l E q102 _ G100 hw _) (cwV 0 hts (lw_V q911 q912 q913 q85 q914) rfl rfl rfl hd_X9_copy ⟨Nat.le_of_ble_eq_true rfl, Nat.le_of_ble_eq_true rfl⟩) ⟨gblind, grecv hPF hG hk103 (by decide) (by decide) rfl, fun U hU hW => gpre hPF hA hG _ U hU hW⟩ rfl rfl hl.1 rfl (lv_room (by (try simp only [List.map, va_rf_cat, gcat_i, gcat_r, gcat_l, gcat_d, gcat_f, gcat_n]); exact Nat.le_of_ble_eq_true rfl)) dX2_copy_176 ⟨(Nat.le_trans (Nat.le_of_eq (by simp only [Nat.add_assoc, Nat.zero_add, Nat.add_zero])) hb105.1), (Nat.le_trans (Nat.le_of_eq (by simp only [Nat.add_assoc, Nat.zero_add, Nat.add_zero])) hb105.2)⟩) (fun r107 G106 H locs hw hmon hG => ?_)
        replace hw := hw hmon
        have hk84 : gC G106 q83 = 15 := gC_mon hmon hk84 (by decide)
        have hk103 : gC G106 q102 = 8 := gC_mon hmon hk103 (by decide)
        have hk104 : gC G106 x1 = 2 := gC_mon hmon hk104 (by decide)
        obtain ⟨q108, hq108, hw⟩ := hw
        refine W.eq (g2 := F0 m 179 ls [.ref q108, va_rf (gR G100 x1 3)]) (by rw [hq108]; rfl) ?_
        obtain ⟨q109, hq109, hw⟩ := hw
        refine W.eq (g2 := F0 m 179 ls [.ref q108, .ref q109]) (by rw [hq109]; rfl) ?_
        have hk110 := hw.1
        replace hw := hw.2
        have hb111 := hw.1
        replace hw := hw.2
        refine gc3i hA hG (va_runV (As := [.ref q108]) (rest := []) ⟨hx, hb, hml, hown, hts⟩ (gm_J2_add l E q109 q108 _ G106 hw _) (cwV 1 hts (lw_V q790 q791 q792 q59 q793) rfl rfl rfl hd_J2_add ⟨Nat.le_of_ble_eq_true rfl, Nat.le_of_ble_eq_true rfl⟩) ⟨gblind, grecv hPF hG hk110 (by decide) (by decide) rfl, fun U hU hW => gpre hPF hA hG _ U hU hW⟩ rfl rfl hl.1 rfl (lv_room (Nat.le_of_ble_eq_true rfl)) dX2_copy_179 ⟨(Nat.le_trans (Nat.le_of_eq (by simp only [Nat.add_assoc, Nat.zero_add, Nat.add_zero])) hb111.1), (Nat.le_trans (Nat.le_of_eq (by simp only [Nat.add_assoc, Nat.zero_add, Nat.add_zero])) hb111.2)⟩) (fun r113 G112 H locs hw hmon hG => ?_)
        replace hw := hw hmon
        have hk84 : gC G112 q83 = 15 := gC_mon hmon hk84 (by decide)
        have hk103 : gC G112 q102 = 8 := gC_mon hmon hk103 (by decide)
        have hk104 : gC G112 x1 = 2 := gC_mon hmon hk104 (by decide)
        have hk110 : gC G112 q109 = 14 := gC_mon hmon hk110 (by decide)
        refine lv_istore_n (i := 2) (lv' := [(2, .int r113), (4, .ref q102), (0, .ref p0), (1, .ref x1), (3, va_rf x3)]) hx hb dX2_copy_182 rfl hl (by decide) (by first | rfl | simp [List.filter, va_rf_cat, gcat_i, gcat_r, gcat_l, gcat_d, gcat_f, gcat_n]) (fun ls hl => ?_)
        refine lv_goto (tgt := 150) hx hb dX2_copy_183 (by decide) ?_
        refine W.cs (cells' := cB + 2) (slots' := zB + 68) (by simp only [Nat.zero_add, Nat.add_zero, Nat.add_assoc]) (by simp only [Nat.zero_add, Nat.add_zero, Nat.add_assoc]) ?_
        exact ih x1 x3 (cB + 2) (zB + 68) G112 _ _ ls hG (lv_sub hl [2, 3, 4] rfl) hw
  have hL106 : ∀ (n : Nat) (x1 : Nat) (x3 : Option Nat) (cB : Nat) (zB : Nat) (G : Gh) (H : Heap) (locs : List Loc) (ls : Array Slot), gS E A G0 s.heap G H locs → lv_has ls 5 [(0, .ref p0), (1, .ref x1), (3, va_rf x3)] → gw_X2_copy_L106 E p0 post n x1 x3 cB zB G → W p l e (headSpec (ws_ yX2_copy cX2_copy 5 (some (.object "WillowPrinters$House"))) ({ frames := 7, cells := 300, slots := 8000, locals := 191 } : Room)).room s m ([.ref p0] : List Value).toArray below meth c H locs cB zB (MQ below (gQ E A G0 (gpr post)) ([.ref p0] : List Value).toArray s 300 8000 A) (F0 m 106 ls []) := by
    intro n
    induction n with
    | zero => exact fun _ _ _ _ _ _ _ _ _ _ hw => hw.elim
    | succ n ih =>
      intro x1 x3 cB zB G H locs ls hG hl hw
      unfold gw_X2_copy_L106 at hw
      refine ga_n hx hb dX2_copy_106 rfl (lv_at hl 2 rfl) ?_
      obtain ⟨q58, hq58, hw⟩ := hw
      refine W.eq (g2 := F0 m 107 ls [.ref q58]) (by rw [hq58]; rfl) ?_
      have hk59 := hw.1
      replace hw := hw.2
      have hb60 := hw.1
      replace hw := hw.2
      refine gc5i hA hG (va_runF (hPF.K.1 15 _ rfl).2 (As := []) (rest := []) ⟨hx, hb, hml, hown, hts⟩ (gm_J18_hasNext l E q58 _ G hw _) (va_cwF 0 hts (lw_F q723 q727 q729 q79 q731) rfl rfl rfl (hPF.f 0 rfl) hdx_java_util_Iterator_hasNext ⟨Nat.le_of_ble_eq_true rfl, Nat.le_of_ble_eq_true rfl⟩) ⟨gblind, grecv hPF hG hk59 (by decide) (by decide) rfl, fun U hU hW => gpre hPF hA hG _ U hU hW⟩ rfl rfl hl.1 rfl (lv_room (Nat.le_of_ble_eq_true rfl)) dX2_copy_107 ⟨(Nat.le_trans (Nat.le_of_eq (by simp only [Nat.add_assoc, Nat.zero_add, Nat.add_zero])) hb60.1), (Nat.le_trans (Nat.le_of_eq (by simp only [Nat.add_assoc, Nat.zero_add, Nat.add_zero])) hb60.2)⟩) (fun r62 G61 H locs hw hmon hG => ?_)
      replace hw := hw hmon
      have hk59 : gC G61 q58 = 15 := gC_mon hmon hk59 (by decide)
      refine lv_if_eq (tgt := 142) hx hb dX2_copy_112 (by decide) (fun c_ => ?_) (fun c_ => ?_)
      · replace hw := hw.1 c_
        refine lv_aload_n hx hb dX2_copy_142 rfl (lv_at hl 0 rfl) ?_
        refine gg hx hb hts hown hPF hG 2 3 rfl in_X2 (by decide) (by decide) (by decide) q468 (fun _ h9 => h9) (gC_of (gK_mon hG.1.2 h0p0 (by decide)) (by decide)) (v := va_rf (gR G61 p0 3)) rfl dX2_copy_143 ?_
        obtain ⟨q63, hq63, hw⟩ := hw
        refine W.eq (g2 := F0 m 146 ls [.ref q63]) (by rw [hq63]; rfl) ?_
        have hk64 := hw.1
        replace hw := hw.2
        have hb65 := hw.1
        replace hw := hw.2
        refine gc3r hA hG (va_runV (As := []) (rest := []) ⟨hx, hb, hml, hown, hts⟩ (gm_J2_iterator l E q63 _ G61 hw _) (cwV 0 hts (lw_V q699 q700 q701 q59 q702) rfl rfl rfl hd_J2_iterator ⟨Nat.le_of_ble_eq_true rfl, Nat.le_of_ble_eq_true rfl⟩) ⟨gblind, grecv hPF hG hk64 (by decide) (by decide) rfl, fun U hU hW => gpre hPF hA hG _ U hU hW⟩ rfl rfl hl.1 rfl (lv_room (Nat.le_of_ble_eq_true rfl)) dX2_copy_146 ⟨(Nat.le_trans (Nat.le_of_eq (by simp only [Nat.add_assoc, Nat.zero_add, Nat.add_zero])) hb65.1), (Nat.le_trans (Nat.le_of_eq (by simp only [Nat.add_assoc, Nat.zero_add, Nat.add_zero])) hb65.2)⟩) (fun r67 G66 H locs hw hmon hG => ?_)
        replace hw := hw hmon
        have hk59 : gC G66 q58 = 15 := gC_mon hmon hk59 (by decide)
        have hk64 : gC G66 q63 = 14 := gC_mon hmon hk64 (by decide)
        refine gt_n (i := 3) (lv' := [(3, va_rf r67), (0, .ref p0), (1, .ref x1)]) hx hb dX2_copy_149 rfl hl (by decide) (by first | rfl | simp [List.filter, va_rf_cat, gcat_i, gcat_r, gcat_l, gcat_d, gcat_f, gcat_n]) (fun ls hl => ?_)
        refine W.cs (cells' := cB + 1) (slots' := zB + 4) (by simp only [Nat.zero_add, Nat.add_zero, Nat.add_assoc]) (by simp only [Nat.zero_add, Nat.add_zero, Nat.add_assoc]) ?_
        obtain ⟨n0, hw⟩ := hw
        exact hL150  n0 x1 r67 (cB + 1) (zB + 4) G66 _ _ ls hG (lv_sub hl [1, 2, 0] rfl) hw
      · replace hw := hw.2 c_
        refine ga_n hx hb dX2_copy_115 rfl (lv_at hl 2 rfl) ?_
        refine W.eq (g2 := F0 m 116 ls [.ref q58]) (by rw [hq58]; rfl) ?_
        have hb68 := hw.1
        replace hw := hw.2
        refine gc5r hA hG (va_runF (hPF.K.1 15 _ rfl).2 (As := []) (rest := []) ⟨hx, hb, hml, hown, hts⟩ (gm_J18_next l E q58 _ G61 hw _) (va_cwF 0 hts (lw_F q733 q736 q738 q79 q740) rfl rfl rfl (hPF.f 1 rfl) hdx_java_util_Iterator_next ⟨Nat.le_of_ble_eq_true rfl, Nat.le_of_ble_eq_true rfl⟩) ⟨gblind, grecv hPF hG hk59 (by decide) (by decide) rfl, fun U hU hW => gpre hPF hA hG _ U hU hW⟩ rfl rfl hl.1 rfl (lv_room (Nat.le_of_ble_eq_true rfl)) dX2_copy_116 ⟨(Nat.le_trans (Nat.le_of_eq (by simp only [Nat.add_assoc, Nat.zero_add, Nat.add_zero])) hb68.1), (Nat.le_trans (Nat.le_of_eq (by simp only [Nat.add_assoc, Nat.zero_add, Nat.add_zero])) hb68.2)⟩) (fun r70 G69 H locs hw hmon hG => ?_)
        replace hw := hw hmon
        have hk59 : gC G69 q58 = 15 := gC_mon hmon hk59 (by decide)
        obtain ⟨q71, hq71, hw⟩ := hw
        refine W.eq (g2 := F0 m 121 ls [.ref q71]) (by rw [hq71]; rfl) ?_
        have hk72 := hw.1
        replace hw := hw.2
        refine va_castS hx hb hown (hts _ q888) (hPF.K.1 7 _ rfl).2 (grecv hPF hG hk72 (by decide) (by decide) rfl) dX2_copy_121 ?_
        refine lv_astore (lv' := [(4, .ref q71), (0, .ref p0), (1, .ref x1), (3, va_rf x3)]) hx hb dX2_copy_124 hl (by decide) (by first | rfl | simp [List.filter, va_rf_cat, gcat_i, gcat_r, gcat_l, gcat_d, gcat_f, gcat_n]) (fun ls hl => ?_)
        refine lv_aload_n hx hb dX2_copy_126 rfl (lv_at hl 2 rfl) ?_
        have hk73 := hw.1
        replace hw := hw.2
        refine gg hx hb hts hown hPF hG 2 2 rfl in_X2 (by decide) (by decide) (by decide) q466 (fun _ h9 => h9) hk73 (v := va_rf (gR G69 x1 2)) rfl dX2_copy_127 ?_
        refine lv_aload hx hb dX2_copy_130 (lv_at hl 0 rfl) ?_
        have hb74 := hw.1
        replace hw := hw.2
        refine gc3r hA hG (va_runV (As := []) (rest := [va_rf (gR G69 x1 2)]) ⟨hx, hb, hml, hown, hts⟩ (gm_X8_copy l E q71 _ G69 hw _) (cwV 0 hts (lw_V q889 q890 q891 q84 q892) rfl rfl rfl hd_X8_copy ⟨Nat.le_of_ble_eq_true rfl, Nat.le_of_ble_eq_true rfl⟩) ⟨gblind, grecv hPF hG hk72 (by decide) (by decide) rfl, fun U hU hW => gpre hPF hA hG _ U hU hW⟩ rfl rfl hl.1 rfl (lv_room (by (try simp only [List.map, va_rf_cat, gcat_i, gcat_r, gcat_l, gcat_d, gcat_f, gcat_n]); exact Nat.le_of_ble_eq_true rfl)) dX2_copy_132 ⟨(Nat.le_trans (Nat.le_of_eq (by simp only [Nat.add_assoc, Nat.zero_add, Nat.add_zero])) hb74.1), (Nat.le_trans (Nat.le_of_eq (by simp only [Nat.add_assoc, Nat.zero_add, Nat.add_zero])) hb74.2)⟩) (fun r76 G75 H locs hw hmon hG => ?_)
        replace hw := hw hmon
        have hk59 : gC G75 q58 = 15 := gC_mon hmon hk59 (by decide)
        have hk72 : gC G75 q71 = 7 := gC_mon hmon hk72 (by decide)
        have hk73 : gC G75 x1 = 2 := gC_mon hmon hk73 (by decide)
        obtain ⟨q77, hq77, hw⟩ := hw
        refine W.eq (g2 := F0 m 135 ls [.ref q77, va_rf (gR G69 x1 2)]) (by rw [hq77]; rfl) ?_
        obtain ⟨q78, hq78, hw⟩ := hw
        refine W.eq (g2 := F0 m 135 ls [.ref q77, .ref q78]) (by rw [hq78]; rfl) ?_
        have hk79 := hw.1
        replace hw := hw.2
        have hb80 := hw.1
        replace hw := hw.2
        refine gc3i hA hG (va_runV (As := [.ref q77]) (rest := []) ⟨hx, hb, hml, hown, hts⟩ (gm_J2_add l E q78 q77 _ G75 hw _) (cwV 1 hts (lw_V q790 q791 q792 q59 q793) rfl rfl rfl hd_J2_add ⟨Nat.le_of_ble_eq_true rfl, Nat.le_of_ble_eq_true rfl⟩) ⟨gblind, grecv hPF hG hk79 (by decide) (by decide) rfl, fun U hU hW => gpre hPF hA hG _ U hU hW⟩ rfl rfl hl.1 rfl (lv_room (Nat.le_of_ble_eq_true rfl)) dX2_copy_135 ⟨(Nat.le_trans (Nat.le_of_eq (by simp only [Nat.add_assoc, Nat.zero_add, Nat.add_zero])) hb80.1), (Nat.le_trans (Nat.le_of_eq (by simp only [Nat.add_assoc, Nat.zero_add, Nat.add_zero])) hb80.2)⟩) (fun r82 G81 H locs hw hmon hG => ?_)
        replace hw := hw hmon
        have hk59 : gC G81 q58 = 15 := gC_mon hmon hk59 (by decide)
        have hk72 : gC G81 q71 = 7 := gC_mon hmon hk72 (by decide)
        have hk73 : gC G81 x1 = 2 := gC_mon hmon hk73 (by decide)
        have hk79 : gC G81 q78 = 14 := gC_mon hmon hk79 (by decide)
        refine lv_istore_n (i := 2) (lv' := [(2, .int r82), (4, .ref q71), (0, .ref p0), (1, .ref x1), (3, va_rf x3)]) hx hb dX2_copy_138 rfl hl (by decide) (by first | rfl | simp [List.filter, va_rf_cat, gcat_i, gcat_r, gcat_l, gcat_d, gcat_f, gcat_n]) (fun ls hl => ?_)
        refine lv_goto (tgt := 106) hx hb dX2_copy_139 (by decide) ?_
        refine W.cs (cells' := cB + 2) (slots' := zB + 66) (by simp only [Nat.zero_add, Nat.add_zero, Nat.add_assoc]) (by simp only [Nat.zero_add, Nat.add_zero, Nat.add_assoc]) ?_
        exact ih x1 x3 (cB + 2) (zB + 66) G81 _ _ ls hG (lv_sub hl [2, 3, 4] rfl) hw
  have hL62 : ∀ (n : Nat) (x1 : Nat) (x3 : Option Nat) (cB : Nat) (zB : Nat) (G : Gh) (H : Heap) (locs : List Loc) (ls : Array Slot), gS E A G0 s.heap G H locs → lv_has ls 5 [(0, .ref p0), (1, .ref x1), (3, va_rf x3)] → gw_X2_copy_L62 E p0 post n x1 x3 cB zB G → W p l e (headSpec (ws_ yX2_copy cX2_copy 5 (some (.object "WillowPrinters$House"))) ({ frames := 7, cells := 300, slots := 8000, locals := 191 } : Room)).room s m ([.ref p0] : List Value).toArray below meth c H locs cB zB (MQ below (gQ E A G0 (gpr post)) ([.ref p0] : List Value).toArray s 300 8000 A) (F0 m 62 ls []) := by
    intro n
    induction n with
    | zero => exact fun _ _ _ _ _ _ _ _ _ _ hw => hw.elim
    | succ n ih =>
      intro x1 x3 cB zB G H locs ls hG hl hw
      unfold gw_X2_copy_L62 at hw
      refine ga_n hx hb dX2_copy_62 rfl (lv_at hl 2 rfl) ?_
      obtain ⟨q33, hq33, hw⟩ := hw
      refine W.eq (g2 := F0 m 63 ls [.ref q33]) (by rw [hq33]; rfl) ?_
      have hk34 := hw.1
      replace hw := hw.2
      have hb35 := hw.1
      replace hw := hw.2
      refine gc5i hA hG (va_runF (hPF.K.1 15 _ rfl).2 (As := []) (rest := []) ⟨hx, hb, hml, hown, hts⟩ (gm_J18_hasNext l E q33 _ G hw _) (va_cwF 0 hts (lw_F q723 q727 q729 q79 q731) rfl rfl rfl (hPF.f 0 rfl) hdx_java_util_Iterator_hasNext ⟨Nat.le_of_ble_eq_true rfl, Nat.le_of_ble_eq_true rfl⟩) ⟨gblind, grecv hPF hG hk34 (by decide) (by decide) rfl, fun U hU hW => gpre hPF hA hG _ U hU hW⟩ rfl rfl hl.1 rfl (lv_room (Nat.le_of_ble_eq_true rfl)) dX2_copy_63 ⟨(Nat.le_trans (Nat.le_of_eq (by simp only [Nat.add_assoc, Nat.zero_add, Nat.add_zero])) hb35.1), (Nat.le_trans (Nat.le_of_eq (by simp only [Nat.add_assoc, Nat.zero_add, Nat.add_zero])) hb35.2)⟩) (fun r37 G36 H locs hw hmon hG => ?_)
      replace hw := hw hmon
      have hk34 : gC G36 q33 = 15 := gC_mon hmon hk34 (by decide)
      refine lv_if_eq (tgt := 98) hx hb dX2_copy_68 (by decide) (fun c_ => ?_) (fun c_ => ?_)
      · replace hw := hw.1 c_
        refine lv_aload_n hx hb dX2_copy_98 rfl (lv_at hl 0 rfl) ?_
        refine gg hx hb hts hown hPF hG 2 2 rfl in_X2 (by decide) (by decide) (by decide) q466 (fun _ h9 => h9) (gC_of (gK_mon hG.1.2 h0p0 (by decide)) (by decide)) (v := va_rf (gR G36 p0 2)) rfl dX2_copy_99 ?_
        obtain ⟨q38, hq38, hw⟩ := hw
        refine W.eq (g2 := F0 m 102 ls [.ref q38]) (by rw [hq38]; rfl) ?_
        have hk39 := hw.1
        replace hw := hw.2
        have hb40 := hw.1
        replace hw := hw.2
        refine gc3r hA hG (va_runV (As := []) (rest := []) ⟨hx, hb, hml, hown, hts⟩ (gm_J2_iterator l E q38 _ G36 hw _) (cwV 0 hts (lw_V q699 q700 q701 q59 q702) rfl rfl rfl hd_J2_iterator ⟨Nat.le_of_ble_eq_true rfl, Nat.le_of_ble_eq_true rfl⟩) ⟨gblind, grecv hPF hG hk39 (by decide) (by decide) rfl, fun U hU hW => gpre hPF hA hG _ U hU hW⟩ rfl rfl hl.1 rfl (lv_room (Nat.le_of_ble_eq_true rfl)) dX2_copy_102 ⟨(Nat.le_trans (Nat.le_of_eq (by simp only [Nat.add_assoc, Nat.zero_add, Nat.add_zero])) hb40.1), (Nat.le_trans (Nat.le_of_eq (by simp only [Nat.add_assoc, Nat.zero_add, Nat.add_zero])) hb40.2)⟩) (fun r42 G41 H locs hw hmon hG => ?_)
        replace hw := hw hmon
        have hk34 : gC G41 q33 = 15 := gC_mon hmon hk34 (by decide)
        have hk39 : gC G41 q38 = 14 := gC_mon hmon hk39 (by decide)
        refine gt_n (i := 3) (lv' := [(3, va_rf r42), (0, .ref p0), (1, .ref x1)]) hx hb dX2_copy_105 rfl hl (by decide) (by first | rfl | simp [List.filter, va_rf_cat, gcat_i, gcat_r, gcat_l, gcat_d, gcat_f, gcat_n]) (fun ls hl => ?_)
        refine W.cs (cells' := cB + 1) (slots' := zB + 4) (by simp only [Nat.zero_add, Nat.add_zero, Nat.add_assoc]) (by simp only [Nat.zero_add, Nat.add_zero, Nat.add_assoc]) ?_
        obtain ⟨n0, hw⟩ := hw
        exact hL106  n0 x1 r42 (cB + 1) (zB + 4) G41 _ _ ls hG (lv_sub hl [1, 2, 0] rfl) hw
      · replace hw := hw.2 c_
        refine ga_n hx hb dX2_copy_71 rfl (lv_at hl 2 rfl) ?_
        refine W.eq (g2 := F0 m 72 ls [.ref q33]) (by rw [hq33]; rfl) ?_
        have hb43 := hw.1
        replace hw := hw.2
        refine gc5r hA hG (va_runF (hPF.K.1 15 _ rfl).2 (As := []) (rest := []) ⟨hx, hb, hml, hown, hts⟩ (gm_J18_next l E q33 _ G36 hw _) (va_cwF 0 hts (lw_F q733 q736 q738 q79 q740) rfl rfl rfl (hPF.f 1 rfl) hdx_java_util_Iterator_next ⟨Nat.le_of_ble_eq_true rfl, Nat.le_of_ble_eq_true rfl⟩) ⟨gblind, grecv hPF hG hk34 (by decide) (by decide) rfl, fun U hU hW => gpre hPF hA hG _ U hU hW⟩ rfl rfl hl.1 rfl (lv_room (Nat.le_of_ble_eq_true rfl)) dX2_copy_72 ⟨(Nat.le_trans (Nat.le_of_eq (by simp only [Nat.add_assoc, Nat.zero_add, Nat.add_zero])) hb43.1), (Nat.le_trans (Nat.le_of_eq (by simp only [Nat.add_assoc, Nat.zero_add, Nat.add_zero])) hb43.2)⟩) (fun r45 G44 H locs hw hmon hG => ?_)
        replace hw := hw hmon
        have hk34 : gC G44 q33 = 15 := gC_mon hmon hk34 (by decide)
        obtain ⟨q46, hq46, hw⟩ := hw
        refine W.eq (g2 := F0 m 77 ls [.ref q46]) (by rw [hq46]; rfl) ?_
        have hk47 := hw.1
        replace hw := hw.2
        refine va_castS hx hb hown (hts _ q852) (hPF.K.1 5 _ rfl).2 (grecv hPF hG hk47 (by decide) (by decide) rfl) dX2_copy_77 ?_
        refine lv_astore (lv' := [(4, .ref q46), (0, .ref p0), (1, .ref x1), (3, va_rf x3)]) hx hb dX2_copy_80 hl (by decide) (by first | rfl | simp [List.filter, va_rf_cat, gcat_i, gcat_r, gcat_l, gcat_d, gcat_f, gcat_n]) (fun ls hl => ?_)
        refine lv_aload_n hx hb dX2_copy_82 rfl (lv_at hl 2 rfl) ?_
        have hk48 := hw.1
        replace hw := hw.2
        refine gg hx hb hts hown hPF hG 2 1 rfl in_X2 (by decide) (by decide) (by decide) q464 (fun _ h9 => h9) hk48 (v := va_rf (gR G44 x1 1)) rfl dX2_copy_83 ?_
        refine lv_aload hx hb dX2_copy_86 (lv_at hl 0 rfl) ?_
        have hb49 := hw.1
        replace hw := hw.2
        refine gc3r hA hG (va_runV (As := []) (rest := [va_rf (gR G44 x1 1)]) ⟨hx, hb, hml, hown, hts⟩ (gm_X6_copy l E q46 _ G44 hw _) (cwV 0 hts (lw_V q853 q854 q855 q82 q856) rfl rfl rfl hd_X6_copy ⟨Nat.le_of_ble_eq_true rfl, Nat.le_of_ble_eq_true rfl⟩) ⟨gblind, grecv hPF hG hk47 (by decide) (by decide) rfl, fun U hU hW => gpre hPF hA hG _ U hU hW⟩ rfl rfl hl.1 rfl (lv_room (by (try simp only [List.map, va_rf_cat, gcat_i, gcat_r, gcat_l, gcat_d, gcat_f, gcat_n]); exact Nat.le_of_ble_eq_true rfl)) dX2_copy_88 ⟨(Nat.le_trans (Nat.le_of_eq (by simp only [Nat.add_assoc, Nat.zero_add, Nat.add_zero])) hb49.1), (Nat.le_trans (Nat.le_of_eq (by simp only [Nat.add_assoc, Nat.zero_add, Nat.add_zero])) hb49.2)⟩) (fun r51 G50 H locs hw hmon hG => ?_)
        replace hw := hw hmon
        have hk34 : gC G50 q33 = 15 := gC_mon hmon hk34 (by decide)
        have hk47 : gC G50 q46 = 5 := gC_mon hmon hk47 (by decide)
        have hk48 : gC G50 x1 = 2 := gC_mon hmon hk48 (by decide)
        obtain ⟨q52, hq52, hw⟩ := hw
        refine W.eq (g2 := F0 m 91 ls [.ref q52, va_rf (gR G44 x1 1)]) (by rw [hq52]; rfl) ?_
        obtain ⟨q53, hq53, hw⟩ := hw
        refine W.eq (g2 := F0 m 91 ls [.ref q52, .ref q53]) (by rw [hq53]; rfl) ?_
        have hk54 := hw.1
        replace hw := hw.2
        have hb55 := hw.1
        replace hw := hw.2
        refine gc3i hA hG (va_runV (As := [.ref q52]) (rest := []) ⟨hx, hb, hml, hown, hts⟩ (gm_J2_add l E q53 q52 _ G50 hw _) (cwV 1 hts (lw_V q790 q791 q792 q59 q793) rfl rfl rfl hd_J2_add ⟨Nat.le_of_ble_eq_true rfl, Nat.le_of_ble_eq_true rfl⟩) ⟨gblind, grecv hPF hG hk54 (by decide) (by decide) rfl, fun U hU hW => gpre hPF hA hG _ U hU hW⟩ rfl rfl hl.1 rfl (lv_room (Nat.le_of_ble_eq_true rfl)) dX2_copy_91 ⟨(Nat.le_trans (Nat.le_of_eq (by simp only [Nat.add_assoc, Nat.zero_add, Nat.add_zero])) hb55.1), (Nat.le_trans (Nat.le_of_eq (by simp only [Nat.add_assoc, Nat.zero_add, Nat.add_zero])) hb55.2)⟩) (fun r57 G56 H locs hw hmon hG => ?_)
        replace hw := hw hmon
        have hk34 : gC G56 q33 = 15 := gC_mon hmon hk34 (by decide)
        have hk47 : gC G56 q46 = 5 := gC_mon hmon hk47 (by decide)
        have hk48 : gC G56 x1 = 2 := gC_mon hmon hk48 (by decide)
        have hk54 : gC G56 q53 = 14 := gC_mon hmon hk54 (by decide)
        refine lv_istore_n (i := 2) (lv' := [(2, .int r57), (4, .ref q46), (0, .ref p0), (1, .ref x1), (3, va_rf x3)]) hx hb dX2_copy_94 rfl hl (by decide) (by first | rfl | simp [List.filter, va_rf_cat, gcat_i, gcat_r, gcat_l, gcat_d, gcat_f, gcat_n]) (fun ls hl => ?_)
        refine lv_goto (tgt := 62) hx hb dX2_copy_95 (by decide) ?_
        refine W.cs (cells' := cB + 3) (slots' := zB + 67) (by simp only [Nat.zero_add, Nat.add_zero, Nat.add_assoc]) (by simp only [Nat.zero_add, Nat.add_zero, Nat.add_assoc]) ?_
        exact ih x1 x3 (cB + 3) (zB + 67) G56 _ _ ls hG (lv_sub hl [2, 3, 4] rfl) hw
  have hL18 : ∀ (n : Nat) (x1 : Nat) (x3 : Option Nat) (cB : Nat) (zB : Nat) (G : Gh) (H : Heap) (locs : List Loc) (ls : Array Slot), gS E A G0 s.heap G H locs → lv_has ls 5 [(0, .ref p0), (1, .ref x1), (3, va_rf x3)] → gw_X2_copy_L18 E p0 post n x1 x3 cB zB G → W p l e (headSpec (ws_ yX2_copy cX2_copy 5 (some (.object "WillowPrinters$House"))) ({ frames := 7, cells := 300, slots := 8000, locals := 191 } : Room)).room s m ([.ref p0] : List Value).toArray below meth c H locs cB zB (MQ below (gQ E A G0 (gpr post)) ([.ref p0] : List Value).toArray s 300 8000 A) (F0 m 18 ls []) := by
    intro n
    induction n with
    | zero => exact fun _ _ _ _ _ _ _ _ _ _ hw => hw.elim
    | succ n ih =>
      intro x1 x3 cB zB G H locs ls hG hl hw
      unfold gw_X2_copy_L18 at hw
      refine ga_n hx hb dX2_copy_18 rfl (lv_at hl 2 rfl) ?_
      obtain ⟨q8, hq8, hw⟩ := hw
      refine W.eq (g2 := F0 m 19 ls [.ref q8]) (by rw [hq8]; rfl) ?_
      have hk9 := hw.1
      replace hw := hw.2
      have hb10 := hw.1
      replace hw := hw.2
      refine gc5i hA hG (va_runF (hPF.K.1 15 _ rfl).2 (As := []) (rest := []) ⟨hx, hb, hml, hown, hts⟩ (gm_J18_hasNext l E q8 _ G hw _) (va_cwF 0 hts (lw_F q723 q727 q729 q79 q731) rfl rfl rfl (hPF.f 0 rfl) hdx_java_util_Iterator_hasNext ⟨Nat.le_of_ble_eq_true rfl, Nat.le_of_ble_eq_true rfl⟩) ⟨gblind, grecv hPF hG hk9 (by decide) (by decide) rfl, fun U hU hW => gpre hPF hA hG _ U hU hW⟩ rfl rfl hl.1 rfl (lv_room (Nat.le_of_ble_eq_true rfl)) dX2_copy_19 ⟨(Nat.le_trans (Nat.le_of_eq (by simp only [Nat.add_assoc, Nat.zero_add, Nat.add_zero])) hb10.1), (Nat.le_trans (Nat.le_of_eq (by simp only [Nat.add_assoc, Nat.zero_add, Nat.add_zero])) hb10.2)⟩) (fun r12 G11 H locs hw hmon hG => ?_)
      replace hw := hw hmon
      have hk9 : gC G11 q8 = 15 := gC_mon hmon hk9 (by decide)
      refine lv_if_eq (tgt := 54) hx hb dX2_copy_24 (by decide) (fun c_ => ?_) (fun c_ => ?_)
      · replace hw := hw.1 c_
        refine lv_aload_n hx hb dX2_copy_54 rfl (lv_at hl 0 rfl) ?_
        refine gg hx hb hts hown hPF hG 2 1 rfl in_X2 (by decide) (by decide) (by decide) q464 (fun _ h9 => h9) (gC_of (gK_mon hG.1.2 h0p0 (by decide)) (by decide)) (v := va_rf (gR G11 p0 1)) rfl dX2_copy_55 ?_
        obtain ⟨q13, hq13, hw⟩ := hw
        refine W.eq (g2 := F0 m 58 ls [.ref q13]) (by rw [hq13]; rfl) ?_
        have hk14 := hw.1
        replace hw := hw.2
        have hb15 := hw.1
        replace hw := hw.2
        refine gc3r hA hG (va_runV (As := []) (rest := []) ⟨hx, hb, hml, hown, hts⟩ (gm_J2_iterator l E q13 _ G11 hw _) (cwV 0 hts (lw_V q699 q700 q701 q59 q702) rfl rfl rfl hd_J2_iterator ⟨Nat.le_of_ble_eq_true rfl, Nat.le_of_ble_eq_true rfl⟩) ⟨gblind, grecv hPF hG hk14 (by decide) (by decide) rfl, fun U hU hW => gpre hPF hA hG _ U hU hW⟩ rfl rfl hl.1 rfl (lv_room (Nat.le_of_ble_eq_true rfl)) dX2_copy_58 ⟨(Nat.le_trans (Nat.le_of_eq (by simp only [Nat.add_assoc, Nat.zero_add, Nat.add_zero])) hb15.1), (Nat.le_trans (Nat.le_of_eq (by simp only [Nat.add_assoc, Nat.zero_add, Nat.add_zero])) hb15.2)⟩) (fun r17 G16 H locs hw hmon hG => ?_)
        replace hw := hw hmon
        have hk9 : gC G16 q8 = 15 := gC_mon hmon hk9 (by decide)
        have hk14 : gC G16 q13 = 14 := gC_mon hmon hk14 (by decide)
        refine gt_n (i := 3) (lv' := [(3, va_rf r17), (0, .ref p0), (1, .ref x1)]) hx hb dX2_copy_61 rfl hl (by decide) (by first | rfl | simp [List.filter, va_rf_cat, gcat_i, gcat_r, gcat_l, gcat_d, gcat_f, gcat_n]) (fun ls hl => ?_)
        refine W.cs (cells' := cB + 1) (slots' := zB + 4) (by simp only [Nat.zero_add, Nat.add_zero, Nat.add_assoc]) (by simp only [Nat.zero_add, Nat.add_zero, Nat.add_assoc]) ?_
        obtain ⟨n0, hw⟩ := hw
        exact hL62  n0 x1 r17 (cB + 1) (zB + 4) G16 _ _ ls hG (lv_sub hl [1, 2, 0] rfl) hw
      · replace hw := hw.2 c_
        refine ga_n hx hb dX2_copy_27 rfl (lv_at hl 2 rfl) ?_
        refine W.eq (g2 := F0 m 28 ls [.ref q8]) (by rw [hq8]; rfl) ?_
        have hb18 := hw.1
        replace hw := hw.2
        refine gc5r hA hG (va_runF (hPF.K.1 15 _ rfl).2 (As := []) (rest := []) ⟨hx, hb, hml, hown, hts⟩ (gm_J18_next l E q8 _ G11 hw _) (va_cwF 0 hts (lw_F q733 q736 q738 q79 q740) rfl rfl rfl (hPF.f 1 rfl) hdx_java_util_Iterator_next ⟨Nat.le_of_ble_eq_true rfl, Nat.le_of_ble_eq_true rfl⟩) ⟨gblind, grecv hPF hG hk9 (by decide) (by decide) rfl, fun U hU hW => gpre hPF hA hG _ U hU hW⟩ rfl rfl hl.1 rfl (lv_room (Nat.le_of_ble_eq_true rfl)) dX2_copy_28 ⟨(Nat.le_trans (Nat.le_of_eq (by simp only [Nat.add_assoc, Nat.zero_add, Nat.add_zero])) hb18.1), (Nat.le_trans (Nat.le_of_eq (by simp only [Nat.add_assoc, Nat.zero_add, Nat.add_zero])) hb18.2)⟩) (fun r20 G19 H locs hw hmon hG => ?_)
        replace hw := hw hmon
        have hk9 : gC G19 q8 = 15 := gC_mon hmon hk9 (by decide)
        obtain ⟨q21, hq21, hw⟩ := hw
        refine W.eq (g2 := F0 m 33 ls [.ref q21]) (by rw [hq21]; rfl) ?_
        have hk22 := hw.1
        replace hw := hw.2
        refine va_castS hx hb hown (hts _ q760) (hPF.K.1 4 _ rfl).2 (grecv hPF hG hk22 (by decide) (by decide) rfl) dX2_copy_33 ?_
        refine lv_astore (lv' := [(4, .ref q21), (0, .ref p0), (1, .ref x1), (3, va_rf x3)]) hx hb dX2_copy_36 hl (by decide) (by first | rfl | simp [List.filter, va_rf_cat, gcat_i, gcat_r, gcat_l, gcat_d, gcat_f, gcat_n]) (fun ls hl => ?_)
        refine lv_aload_n hx hb dX2_copy_38 rfl (lv_at hl 2 rfl) ?_
        have hk23 := hw.1
        replace hw := hw.2
        refine gg hx hb hts hown hPF hG 2 0 rfl in_X2 (by decide) (by decide) (by decide) q462 (fun _ h9 => h9) hk23 (v := va_rf (gR G19 x1 0)) rfl dX2_copy_39 ?_
        refine lv_aload hx hb dX2_copy_42 (lv_at hl 0 rfl) ?_
        have hb24 := hw.1
        replace hw := hw.2
        refine gc3r hA hG (va_runV (As := []) (rest := [va_rf (gR G19 x1 0)]) ⟨hx, hb, hml, hown, hts⟩ (gm_X5_copy l E q21 _ G19 hw _) (cwV 0 hts (lw_V q761 q762 q763 q81 q764) rfl rfl rfl hd_X5_copy ⟨Nat.le_of_ble_eq_true rfl, Nat.le_of_ble_eq_true rfl⟩) ⟨gblind, grecv hPF hG hk22 (by decide) (by decide) rfl, fun U hU hW => gpre hPF hA hG _ U hU hW⟩ rfl rfl hl.1 rfl (lv_room (by (try simp only [List.map, va_rf_cat, gcat_i, gcat_r, gcat_l, gcat_d, gcat_f, gcat_n]); exact Nat.le_of_ble_eq_true rfl)) dX2_copy_44 ⟨(Nat.le_trans (Nat.le_of_eq (by simp only [Nat.add_assoc, Nat.zero_add, Nat.add_zero])) hb24.1), (Nat.le_trans (Nat.le_of_eq (by simp only [Nat.add_assoc, Nat.zero_add, Nat.add_zero])) hb24.2)⟩) (fun r26 G25 H locs hw hmon hG => ?_)
        replace hw := hw hmon
        have hk9 : gC G25 q8 = 15 := gC_mon hmon hk9 (by decide)
        have hk22 : gC G25 q21 = 4 := gC_mon hmon hk22 (by decide)
        have hk23 : gC G25 x1 = 2 := gC_mon hmon hk23 (by decide)
        obtain ⟨q27, hq27, hw⟩ := hw
        refine W.eq (g2 := F0 m 47 ls [.ref q27, va_rf (gR G19 x1 0)]) (by rw [hq27]; rfl) ?_
        obtain ⟨q28, hq28, hw⟩ := hw
        refine W.eq (g2 := F0 m 47 ls [.ref q27, .ref q28]) (by rw [hq28]; rfl) ?_
        have hk29 := hw.1
        replace hw := hw.2
        have hb30 := hw.1
        replace hw := hw.2
        refine gc3i hA hG (va_runV (As := [.ref q27]) (rest := []) ⟨hx, hb, hml, hown, hts⟩ (gm_J2_add l E q28 q27 _ G25 hw _) (cwV 1 hts (lw_V q790 q791 q792 q59 q793) rfl rfl rfl hd_J2_add ⟨Nat.le_of_ble_eq_true rfl, Nat.le_of_ble_eq_true rfl⟩) ⟨gblind, grecv hPF hG hk29 (by decide) (by decide) rfl, fun U hU hW => gpre hPF hA hG _ U hU hW⟩ rfl rfl hl.1 rfl (lv_room (Nat.le_of_ble_eq_true rfl)) dX2_copy_47 ⟨(Nat.le_trans (Nat.le_of_eq (by simp only [Nat.add_assoc, Nat.zero_add, Nat.add_zero])) hb30.1), (Nat.le_trans (Nat.le_of_eq (by simp only [Nat.add_assoc, Nat.zero_add, Nat.add_zero])) hb30.2)⟩) (fun r32 G31 H locs hw hmon hG => ?_)
        replace hw := hw hmon
        have hk9 : gC G31 q8 = 15 := gC_mon hmon hk9 (by decide)
        have hk22 : gC G31 q21 = 4 := gC_mon hmon hk22 (by decide)
        have hk23 : gC G31 x1 = 2 := gC_mon hmon hk23 (by decide)
        have hk29 : gC G31 q28 = 14 := gC_mon hmon hk29 (by decide)
        refine lv_istore_n (i := 2) (lv' := [(2, .int r32), (4, .ref q21), (0, .ref p0), (1, .ref x1), (3, va_rf x3)]) hx hb dX2_copy_50 rfl hl (by decide) (by first | rfl | simp [List.filter, va_rf_cat, gcat_i, gcat_r, gcat_l, gcat_d, gcat_f, gcat_n]) (fun ls hl => ?_)
        refine lv_goto (tgt := 18) hx hb dX2_copy_51 (by decide) ?_
        refine W.cs (cells' := cB + 2) (slots' := zB + 68) (by simp only [Nat.zero_add, Nat.add_zero, Nat.add_assoc]) (by simp only [Nat.zero_add, Nat.add_zero, Nat.add_assoc]) ?_
        exact ih x1 x3 (cB + 2) (zB + 68) G31 _ _ ls hG (lv_sub hl [2, 3, 4] rfl) hw
  refine gnew (ci := 2) hx hb hts in_X2 tyX2 tyX2_ok hown q697 q108 q56 hPF hG hA rfl (by decide) (by decide) gborn_X2 (Nat.le_of_ble_eq_true rfl) (Nat.le_of_ble_eq_true rfl) dX2_copy_0 (fun q1 H h0q1 hG => ?_)
  replace hw := hw q1 h0q1
  obtain ⟨G2, eG2⟩ : ∃ z, z = gN G q1 2 0 := ⟨_, rfl⟩
  rw [← eG2] at hG
  replace hw := hw G2 eG2
  have hkq1 : gK G2 q1 = 2 := by rw [eG2]; exact gK_Nq
  refine lv_dup hx hb dX2_copy_3 rfl ?_
  refine gc3v hA hG (va_runI (As := []) (rest := [.ref q1]) ⟨hx, hb, hml, hown, hts⟩ (gm_X2_init l E q1 _ G2 hw _) (cwI 0 hts (lw_meth q111) rfl rfl rfl (hts _ q56) (hts _ q698) (hts _ q110) rfl hd_X2_init ⟨Nat.le_of_ble_eq_true rfl, Nat.le_of_ble_eq_true rfl⟩) ⟨gblind, fun U hU hW => gpre hPF hA hG _ U hU hW⟩ rfl rfl hl.1 rfl (lv_room (Nat.le_of_ble_eq_true rfl)) dX2_copy_4 ⟨(Nat.le_of_ble_eq_true rfl), (Nat.le_of_ble_eq_true rfl)⟩) (fun G3 H locs hw hmon hG => ?_)
  replace hw := hw hmon
  have hkq1 : gK G3 q1 = 2 := gK_mon hmon hkq1 (by decide)
  refine lv_astore_n (i := 1) (lv' := [(1, .ref q1), (0, .ref p0)]) hx hb dX2_copy_7 rfl hl (by decide) rfl (fun ls hl => ?_)
  refine lv_iconst (v := 0) hx hb dX2_copy_8 (by decide) ?_
  refine lv_istore_n (i := 2) (lv' := [(2, .int 0), (1, .ref q1), (0, .ref p0)]) hx hb dX2_copy_9 rfl hl (by decide) rfl (fun ls hl => ?_)
  refine lv_aload_n hx hb dX2_copy_10 rfl (lv_at hl 2 rfl) ?_
  refine gg hx hb hts hown hPF hG 2 0 rfl in_X2 (by decide) (by decide) (by decide) q462 (fun _ h9 => h9) (gC_of (gK_mon hG.1.2 h0p0 (by decide)) (by decide)) (v := va_rf (gR G3 p0 0)) rfl dX2_copy_11 ?_
  obtain ⟨q4, hq4, hw⟩ := hw
  refine W.eq (g2 := F0 m 14 ls [.ref q4]) (by rw [hq4]; rfl) ?_
  have hk5 := hw.1
  replace hw := hw.2
  refine gc3r hA hG (va_runV (As := []) (rest := []) ⟨hx, hb, hml, hown, hts⟩ (gm_J2_iterator l E q4 _ G3 hw _) (cwV 0 hts (lw_V q699 q700 q701 q59 q702) rfl rfl rfl hd_J2_iterator ⟨Nat.le_of_ble_eq_true rfl, Nat.le_of_ble_eq_true rfl⟩) ⟨gblind, grecv hPF hG hk5 (by decide) (by decide) rfl, fun U hU hW => gpre hPF hA hG _ U hU hW⟩ rfl rfl hl.1 rfl (lv_room (Nat.le_of_ble_eq_true rfl)) dX2_copy_14 ⟨(Nat.le_of_ble_eq_true rfl), (Nat.le_of_ble_eq_true rfl)⟩) (fun r7 G6 H locs hw hmon hG => ?_)
  replace hw := hw hmon
  have hkq1 : gK G6 q1 = 2 := gK_mon hmon hkq1 (by decide)
  have hk5 : gC G6 q4 = 14 := gC_mon hmon hk5 (by decide)
  refine gt_n (i := 3) (lv' := [(3, va_rf r7), (2, .int 0), (1, .ref q1), (0, .ref p0)]) hx hb dX2_copy_17 rfl hl (by decide) rfl (fun ls hl => ?_)
  refine W.cs (cells' := 10) (slots' := 286) (by simp only [Nat.zero_add, Nat.add_zero, Nat.add_assoc]) (by simp only [Nat.zero_add, Nat.add_zero, Nat.add_assoc]) ?_
  obtain ⟨n0, hw⟩ := hw
  exact hL18  n0 q1 r7 10 286 G6 _ _ ls hG (lv_sub hl [3, 2, 0] rfl) hw
def gw_X1_checkArgument (E : gE) (post : Gh → Prop) (px : String → Nat → Gh → Prop) (p0 : Int32) (G : Gh) : Prop := (¬ p0 = 0 → (post G)) ∧ (p0 = 0 → (∀ q, gK G q = 0 → px "java/lang/IllegalArgumentException" q G))
theorem hd_X1_checkArgument : yX1_checkArgument.cls ≠ "java/lang/invoke/MethodHandle" ∧ yX1_checkArgument.cls ≠ "java/lang/invoke/VarHandle" ∧ (parseMethodDescriptor yX1_checkArgument.desc).map (fun d => d.parameters.length) = some 1 := by decide +kernel
set_option maxHeartbeats 1000000 in
set_option maxRecDepth 100000 in
theorem gm_X1_checkArgument (l : Launch) (hlt : l.stackTraces = false) (E : gE) (p0 : Int32) (post : Gh → Prop) (px : String → Nat → Gh → Prop) (G : Gh) (hw : gw_X1_checkArgument E post px p0 G) : gX l E yX1_checkArgument (ws_ yX1_checkArgument cX1_checkArgument 1 none) ({ frames := 8, cells := 1, slots := 6, locals := 120 } : Room) 1 6 [.int p0] G (gpv post) px := by
  refine xof (by decide) (Nat.le_of_ble_eq_true rfl) ?_
  intro p e s m below meth c A ls hx hb hr hlk hml hown hin hts hPF hA htab hG hl
  have hl : lv_has ls 1 [(0, .int p0)] := hl
  unfold gw_X1_checkArgument at hw
  obtain ⟨G0, hG0⟩ : ∃ G0, G0 = G := ⟨_, rfl⟩
  have hG : gS E A G0 s.heap G s.heap [] := by rw [hG0]; exact hG
  rw [show gQ E A G (gpv post) = gQ E A G0 (gpv post) by rw [hG0]]
  rw [show gXC E A G px = gXC E A G0 px by rw [hG0]]
  refine lv_iload_n hx hb dX1_checkArgument_0 rfl (lv_at hl 0 rfl) ?_
  refine lv_if_ne (tgt := 12) hx hb dX1_checkArgument_1 (by decide) (fun c_ => ?_) (fun c_ => ?_)
  · replace hw := hw.1 c_
    exact xretv hx hb hr hlk hG hw (Nat.le_of_ble_eq_true rfl) (Nat.le_of_ble_eq_true rfl) dX1_checkArgument_12
  · replace hw := hw.2 c_
    exact vx_throw0 (cls := "java/lang/IllegalArgumentException") (names := excNames) (A := A) hx hb hlt hown (by decide +kernel) (by decide +kernel) (hts _ q642) (hts _ q63) (tw_hat hts hPF tw_X1_3_IllegalArgumentException) (tw_ot (by decide +kernel)) hPF.u.1 hPF.u.2 hG.2 (hl.1.trans hml.symm) dX1_checkArgument_4 dX1_checkArgument_7 dX1_checkArgument_8 dX1_checkArgument_11 (fun x hx9 => (htab x hx9).elim) (Nat.le_of_ble_eq_true rfl) (by (try simp only [List.map, va_rf_cat, gcat_i, gcat_r, gcat_l, gcat_d, gcat_f, gcat_n]); exact Nat.le_of_ble_eq_true rfl) (Nat.le_of_ble_eq_true rfl) (Nat.le_of_ble_eq_true rfl) hlk (fun q t hq hW hz hk => gthrown hG (hw q (Classical.byContradiction fun h => Nat.lt_irrefl _ (Nat.lt_of_lt_of_le (gat_lt (hG.1.1 q h).1) hq))) hz hk) hG.2.2.2 (Nat.le_of_ble_eq_true rfl) (Nat.le_of_ble_eq_true rfl)
def gw_X2_pay_L13 (E : gE) (p0 : Nat) (post : Gh → Prop) (px : String → Nat → Gh → Prop) (x1 : Int32) (t0 : Int32) (G : Gh) : Prop := gw_X4_check E (fun G1 => gMon G G1 → (∀ G2, G2 = gsI G1 p0 7 ((gI G1 p0 7) - x1) → (∀ G3, G3 = gsI G2 p0 9 ((gI G2 p0 9) + x1) → (post G3)))) px t0 6 (x1 - (gI G p0 7)) G
def gw_X2_pay (E : gE) (post : Gh → Prop) (px : String → Nat → Gh → Prop) (p0 : Nat) (p1 : Int32) (G : Gh) : Prop := gK G p0 = 2 ∧ (((gI G p0 7) < p1 → (gw_X2_pay_L13 E p0 post px  p1 0 G)) ∧ (¬ (gI G p0 7) < p1 → (gw_X2_pay_L13 E p0 post px  p1 1 G)))
theorem hd_X2_pay : yX2_pay.cls = RX2 ∧ yX2_pay.cls ≠ "java/lang/invoke/MethodHandle" ∧ yX2_pay.cls ≠ "java/lang/invoke/VarHandle" ∧ (parseMethodDescriptor yX2_pay.desc).map (fun d => d.parameters.length) = some 1 := by decide +kernel
theorem hdn_X2_pay : yX2_pay.cls ≠ "java/lang/invoke/MethodHandle" ∧ yX2_pay.cls ≠ "java/lang/invoke/VarHandle" ∧ (parseMethodDescriptor yX2_pay.desc).map (fun d => d.parameters.length) = some 1 := hd_X2_pay.2
theorem hdu_X2_pay : RX2 ≠ "java/lang/invoke/MethodHandle" ∧ RX2 ≠ "java/lang/invoke/VarHandle" ∧ (parseMethodDescriptor yX2_pay.desc).map (fun d => d.parameters.length) = some 1 := by decide +kernel
theorem hds_X2_pay : yX2_pay.name ≠ "<init>" ∧ (parseMethodDescriptor yX2_pay.desc).map (fun d => d.parameters.length) = some 1 := by decide +kernel
set_option maxHeartbeats 1000000 in
set_option maxRecDepth 100000 in
theorem gm_X2_pay (l : Launch) (hlt : l.stackTraces = false) (E : gE) (p0 : Nat) (p1 : Int32) (post : Gh → Prop) (px : String → Nat → Gh → Prop) (G : Gh) (hw : gw_X2_pay E post px p0 p1 G) : gX l E yX2_pay (ws_ yX2_pay cX2_pay 2 none) ({ frames := 5, cells := 1, slots := 8, locals := 122 } : Room) 1 8 [.ref p0, .int p1] G (gpv post) px := by
  refine xof (by decide) (Nat.le_of_ble_eq_true rfl) ?_
  intro p e s m below meth c A ls hx hb hr hlk hml hown hin hts hPF hA htab hG hl
  have hl : lv_has ls 2 [(0, .ref p0), (1, .int p1)] := hl
  unfold gw_X2_pay at hw
  obtain ⟨G0, hG0⟩ : ∃ G0, G0 = G := ⟨_, rfl⟩
  have hG : gS E A G0 s.heap G s.heap [] := by rw [hG0]; exact hG
  rw [show gQ E A G (gpv post) = gQ E A G0 (gpv post) by rw [hG0]]
  rw [show gXC E A G px = gXC E A G0 px by rw [hG0]]
  have h0p0 := hw.1; rw [← hG0] at h0p0
  replace hw := hw.2
  have hL13 : ∀ (x1 : Int32) (t0 : Int32) (G : Gh) (H : Heap) (locs : List Loc) (ls : Array Slot), gS E A G0 s.heap G H locs → lv_has ls 2 [(0, .ref p0), (1, .int x1)] → gw_X2_pay_L13 E p0 post px x1 t0 G → W p l e (headSpec (ws_ yX2_pay cX2_pay 2 none) ({ frames := 5, cells := 1, slots := 8, locals := 122 } : Room)).room s m ([.ref p0, .int p1] : List Value).toArray below meth c H locs 0 0 (vx_MQ below (gQ E A G0 (gpv post)) (gXC E A G0 px) ([.ref p0, .int p1] : List Value).toArray s 1 8 A) (F0 m 13 ls [.int t0]) := by
    intro x1 t0 G H locs ls hG hl hw
    unfold gw_X2_pay_L13 at hw
    refine lv_bipush (v := 6) hx hb dX2_pay_13 (by decide) ?_
    refine lv_iload_n hx hb dX2_pay_15 rfl (lv_at hl 1 rfl) ?_
    refine lv_aload_n hx hb dX2_pay_16 rfl (lv_at hl 0 rfl) ?_
    refine gg hx hb hts hown hPF hG 2 7 rfl in_X2 (by decide) (by decide) (by decide) q476 (fun _ h9 => h9) (gC_of (gK_mon hG.1.2 h0p0 (by decide)) (by decide)) (v := .int (gI G p0 7)) rfl dX2_pay_17 ?_
    refine lv_isub hx hb dX2_pay_20 ?_
    refine xc3v hA hG (vx_runS (As := [.int t0, .int 6, .int (x1 - (gI G p0 7))]) (rest := []) ⟨hx, hb, hml, hown, hts⟩ (gm_X4_check l hlt E t0 6 (x1 - (gI G p0 7)) _ _ G hw _) (va_cwS 3 hts (lw_S q657 q658 q78 q659) rfl rfl rfl hd_X4_check ⟨Nat.le_of_ble_eq_true rfl, Nat.le_of_ble_eq_true rfl⟩) ⟨gblind, fun U hU hW => gpre hPF hA hG _ U hU hW⟩ rfl rfl hl.1 rfl (lv_room (Nat.le_of_ble_eq_true rfl)) dX2_pay_21 ⟨(Nat.le_of_ble_eq_true rfl), (Nat.le_of_ble_eq_true rfl)⟩) (fun X ce q Gx H locs hw hmon hG hce hcv hcl => ?_) (fun G1 H locs hw hmon hG => ?_)
    · exact gleave hlk hG (fun x hx9 => (htab x hx9).elim) hce hcv hcl hw (Nat.le_of_ble_eq_true rfl) (Nat.le_of_ble_eq_true rfl)
    · replace hw := hw hmon
      refine lv_aload_n hx hb dX2_pay_24 rfl (lv_at hl 0 rfl) ?_
      refine lv_dup hx hb dX2_pay_25 rfl ?_
      refine gg hx hb hts hown hPF hG 2 7 rfl in_X2 (by decide) (by decide) (by decide) q476 (fun _ h9 => h9) (gC_of (gK_mon hG.1.2 h0p0 (by decide)) (by decide)) (v := .int (gI G1 p0 7)) rfl dX2_pay_26 ?_
      refine lv_iload_n hx hb dX2_pay_29 rfl (lv_at hl 1 rfl) ?_
      refine lv_isub hx hb dX2_pay_30 ?_
      refine gp hx hb hts hown hPF hG 2 7 rfl in_X2 tyX2 tyX2_ok nmX2 (by decide) (by decide) (by decide) q476 (fun _ h9 => h9) rfl (gK_mon hG.1.2 h0p0 (by decide)) (v := .int ((gI G1 p0 7) - x1)) rfl rfl (G' := gsI G1 p0 7 ((gI G1 p0 7) - x1)) rfl rfl grI_off (Nat.le_of_ble_eq_true rfl) (gFs_I 2 7 (fun _ _ _ => rfl)) dX2_pay_31 (fun H locs hG => ?_)
      obtain ⟨G2, eG2⟩ : ∃ z, z = gsI G1 p0 7 ((gI G1 p0 7) - x1) := ⟨_, rfl⟩
      rw [← eG2] at hG
      replace hw := hw G2 eG2
      refine lv_aload_n hx hb dX2_pay_34 rfl (lv_at hl 0 rfl) ?_
      refine lv_dup hx hb dX2_pay_35 rfl ?_
      refine gg hx hb hts hown hPF hG 2 9 rfl in_X2 (by decide) (by decide) (by decide) q480 (fun _ h9 => h9) (gC_of (gK_mon hG.1.2 h0p0 (by decide)) (by decide)) (v := .int (gI G2 p0 9)) rfl dX2_pay_36 ?_
      refine lv_iload_n hx hb dX2_pay_39 rfl (lv_at hl 1 rfl) ?_
      refine lv_iadd hx hb dX2_pay_40 ?_
      refine gp hx hb hts hown hPF hG 2 9 rfl in_X2 tyX2 tyX2_ok nmX2 (by decide) (by decide) (by decide) q480 (fun _ h9 => h9) rfl (gK_mon hG.1.2 h0p0 (by decide)) (v := .int ((gI G2 p0 9) + x1)) rfl rfl (G' := gsI G2 p0 9 ((gI G2 p0 9) + x1)) rfl rfl grI_off (Nat.le_of_ble_eq_true rfl) (gFs_I 2 9 (fun _ _ _ => rfl)) dX2_pay_41 (fun H locs hG => ?_)
      obtain ⟨G3, eG3⟩ : ∃ z, z = gsI G2 p0 9 ((gI G2 p0 9) + x1) := ⟨_, rfl⟩
      rw [← eG3] at hG
      replace hw := hw G3 eG3
      exact xretv hx hb hr hlk hG hw (Nat.le_of_ble_eq_true rfl) (Nat.le_of_ble_eq_true rfl) dX2_pay_44
  refine lv_aload_n hx hb dX2_pay_0 rfl (lv_at hl 0 rfl) ?_
  refine gg hx hb hts hown hPF hG 2 7 rfl in_X2 (by decide) (by decide) (by decide) q476 (fun _ h9 => h9) (gC_of (gK_mon hG.1.2 h0p0 (by decide)) (by decide)) (v := .int (gI G p0 7)) rfl dX2_pay_1 ?_
  refine lv_iload_n hx hb dX2_pay_4 rfl (lv_at hl 1 rfl) ?_
  refine lv_icmp_lt (tgt := 12) hx hb dX2_pay_5 (by decide) (fun c_ => ?_) (fun c_ => ?_)
  · replace hw := hw.1 c_
    refine lv_iconst (v := 0) hx hb dX2_pay_12 (by decide) ?_
    refine W.widen (k := 0) (n := 0) (Nat.le_of_ble_eq_true rfl) (Nat.le_of_ble_eq_true rfl) ?_
    exact hL13  p1 0 G _ _ ls hG (lv_sub hl [0, 1] rfl) hw
  · replace hw := hw.2 c_
    refine lv_iconst (v := 1) hx hb dX2_pay_8 (by decide) ?_
    refine lv_goto (tgt := 13) hx hb dX2_pay_9 (by decide) ?_
    refine W.widen (k := 0) (n := 0) (Nat.le_of_ble_eq_true rfl) (Nat.le_of_ble_eq_true rfl) ?_
    exact hL13  p1 1 G _ _ ls hG (lv_sub hl [0, 1] rfl) hw
def gw_X2_buySheets (E : gE) (post : Int32 → Gh → Prop) (px : String → Nat → Gh → Prop) (p0 : Nat) (p1 : Int32) (G : Gh) : Prop := gK G p0 = 2 ∧ (gw_X1_inRange E (fun r2 G1 => gMon G G1 → (gw_X1_checkArgument E (fun G3 => gMon G1 G3 → (gw_X2_pay E (fun G4 => gMon G3 G4 → (∀ G5, G5 = gsI G4 p0 5 ((gI G4 p0 5) + p1) → (post (gI G5 p0 5) G5))) px p0 ((p1 + 4) / 5) G3)) px r2 G1)) p1.toInt64 1 50 G)
theorem hd_X2_buySheets : yX2_buySheets.cls = RX2 ∧ yX2_buySheets.cls ≠ "java/lang/invoke/MethodHandle" ∧ yX2_buySheets.cls ≠ "java/lang/invoke/VarHandle" ∧ (parseMethodDescriptor yX2_buySheets.desc).map (fun d => d.parameters.length) = some 1 := by decide +kernel
theorem hdn_X2_buySheets : yX2_buySheets.cls ≠ "java/lang/invoke/MethodHandle" ∧ yX2_buySheets.cls ≠ "java/lang/invoke/VarHandle" ∧ (parseMethodDescriptor yX2_buySheets.desc).map (fun d => d.parameters.length) = some 1 := hd_X2_buySheets.2
theorem hdu_X2_buySheets : RX2 ≠ "java/lang/invoke/MethodHandle" ∧ RX2 ≠ "java/lang/invoke/VarHandle" ∧ (parseMethodDescriptor yX2_buySheets.desc).map (fun d => d.parameters.length) = some 1 := by decide +kernel
theorem hds_X2_buySheets : yX2_buySheets.name ≠ "<init>" ∧ (parseMethodDescriptor yX2_buySheets.desc).map (fun d => d.parameters.length) = some 1 := by decide +kernel
set_option maxHeartbeats 1000000 in
set_option maxRecDepth 100000 in
theorem gm_X2_buySheets (l : Launch) (hlt : l.stackTraces = false) (E : gE) (p0 : Nat) (p1 : Int32) (post : Int32 → Gh → Prop) (px : String → Nat → Gh → Prop) (G : Gh) (hw : gw_X2_buySheets E post px p0 p1 G) : gX l E yX2_buySheets (ws_ yX2_buySheets cX2_buySheets 2 (some .int)) ({ frames := 9, cells := 2, slots := 14, locals := 143 } : Room) 2 14 [.ref p0, .int p1] G (gpi post) px := by
  refine xof (by decide) (Nat.le_of_ble_eq_true rfl) ?_
  intro p e s m below meth c A ls hx hb hr hlk hml hown hin hts hPF hA htab hG hl
  have hl : lv_has ls 2 [(0, .ref p0), (1, .int p1)] := hl
  unfold gw_X2_buySheets at hw
  obtain ⟨G0, hG0⟩ : ∃ G0, G0 = G := ⟨_, rfl⟩
  have hG : gS E A G0 s.heap G s.heap [] := by rw [hG0]; exact hG
  rw [show gQ E A G (gpi post) = gQ E A G0 (gpi post) by rw [hG0]]
  rw [show gXC E A G px = gXC E A G0 px by rw [hG0]]
  have h0p0 := hw.1; rw [← hG0] at h0p0
  replace hw := hw.2
  refine lv_iload_n hx hb dX2_buySheets_0 rfl (lv_at hl 1 rfl) ?_
  refine lv_i2l (v := p1.toInt64) hx hb dX2_buySheets_1 rfl ?_
  refine lv_lconst (v := 1) hx hb dX2_buySheets_2 (by decide) ?_
  refine lv_ldc2 (v := 50) hx hb hown (hts _ q635) dX2_buySheets_3 ?_
  refine gc3i hA hG (va_runSN (As := [.long p1.toInt64, .long 1, .long 50]) (rest := []) ⟨hx, hb, hml, hown, hts⟩ (gm_X1_inRange l E p1.toInt64 1 50 _ G hw _) ⟨va_cnB 3 hts (lw_meth q638) rfl rfl rfl (hPF.w q636 rfl) (hts _ q55) hd_X1_inRange ⟨Nat.le_of_ble_eq_true rfl, Nat.le_of_ble_eq_true rfl⟩, hts _ q637, trivial⟩ ⟨gblind, fun U hU hW => gpre hPF hA hG _ U hU hW⟩ rfl rfl hl.1 rfl (lv_room (Nat.le_of_ble_eq_true rfl)) dX2_buySheets_6 ⟨(Nat.le_of_ble_eq_true rfl), (Nat.le_of_ble_eq_true rfl)⟩) (fun r2 G1 H locs hw hmon hG => ?_)
  replace hw := hw hmon
  refine xc3v hA hG (vx_runSN (As := [.int r2]) (rest := []) ⟨hx, hb, hml, hown, hts⟩ (gm_X1_checkArgument l hlt E r2 _ _ G1 hw _) ⟨va_cnB 1 hts (lw_meth q641) rfl rfl rfl (hPF.w q639 rfl) (hts _ q55) hd_X1_checkArgument ⟨Nat.le_of_ble_eq_true rfl, Nat.le_of_ble_eq_true rfl⟩, hts _ q640, trivial⟩ ⟨gblind, fun U hU hW => gpre hPF hA hG _ U hU hW⟩ rfl rfl hl.1 rfl (lv_room (Nat.le_of_ble_eq_true rfl)) dX2_buySheets_9 ⟨(Nat.le_of_ble_eq_true rfl), (Nat.le_of_ble_eq_true rfl)⟩) (fun X ce q Gx H locs hw hmon hG hce hcv hcl => ?_) (fun G3 H locs hw hmon hG => ?_)
  · exact gleave hlk hG (fun x hx9 => (htab x hx9).elim) hce hcv hcl hw (Nat.le_of_ble_eq_true rfl) (Nat.le_of_ble_eq_true rfl)
  · replace hw := hw hmon
    refine lv_aload_n hx hb dX2_buySheets_12 rfl (lv_at hl 0 rfl) ?_
    refine lv_iload_n hx hb dX2_buySheets_13 rfl (lv_at hl 1 rfl) ?_
    refine lv_iconst (v := 4) hx hb dX2_buySheets_14 (by decide) ?_
    refine lv_iadd hx hb dX2_buySheets_15 ?_
    refine lv_iconst (v := 5) hx hb dX2_buySheets_16 (by decide) ?_
    refine lv_idiv hx hb dX2_buySheets_17 (by decide) ?_
    refine xc3v hA hG (vx_runV (As := [.int ((p1 + 4) / 5)]) (rest := []) ⟨hx, hb, hml, hown, hts⟩ (gm_X2_pay l hlt E p0 ((p1 + 4) / 5) _ _ G3 hw _) (cwV 1 hts (lw_V q653 q655 qs1 q56 q656) rfl rfl rfl hd_X2_pay ⟨Nat.le_of_ble_eq_true rfl, Nat.le_of_ble_eq_true rfl⟩) ⟨gblind, grecv hPF hG (gC_of (gK_mon hG.1.2 h0p0 (by decide)) (by decide)) (by decide) (by decide) rfl, fun U hU hW => gpre hPF hA hG _ U hU hW⟩ rfl rfl hl.1 rfl (lv_room (Nat.le_of_ble_eq_true rfl)) dX2_buySheets_18 ⟨(Nat.le_of_ble_eq_true rfl), (Nat.le_of_ble_eq_true rfl)⟩) (fun X ce q Gx H locs hw hmon hG hce hcv hcl => ?_) (fun G4 H locs hw hmon hG => ?_)
    · exact gleave hlk hG (fun x hx9 => (htab x hx9).elim) hce hcv hcl hw (Nat.le_of_ble_eq_true rfl) (Nat.le_of_ble_eq_true rfl)
    · replace hw := hw hmon
      refine lv_aload_n hx hb dX2_buySheets_21 rfl (lv_at hl 0 rfl) ?_
      refine lv_dup hx hb dX2_buySheets_22 rfl ?_
      refine gg hx hb hts hown hPF hG 2 5 rfl in_X2 (by decide) (by decide) (by decide) q472 (fun _ h9 => h9) (gC_of (gK_mon hG.1.2 h0p0 (by decide)) (by decide)) (v := .int (gI G4 p0 5)) rfl dX2_buySheets_23 ?_
      refine lv_iload_n hx hb dX2_buySheets_26 rfl (lv_at hl 1 rfl) ?_
      refine lv_iadd hx hb dX2_buySheets_27 ?_
      refine gp hx hb hts hown hPF hG 2 5 rfl in_X2 tyX2 tyX2_ok nmX2 (by decide) (by decide) (by decide) q472 (fun _ h9 => h9) rfl (gK_mon hG.1.2 h0p0 (by decide)) (v := .int ((gI G4 p0 5) + p1)) rfl rfl (G' := gsI G4 p0 5 ((gI G4 p0 5) + p1)) rfl rfl grI_off (Nat.le_of_ble_eq_true rfl) (gFs_I 2 5 (fun _ _ _ => rfl)) dX2_buySheets_28 (fun H locs hG => ?_)
      obtain ⟨G5, eG5⟩ : ∃ z, z = gsI G4 p0 5 ((gI G4 p0 5) + p1) := ⟨_, rfl⟩
      rw [← eG5] at hG
      replace hw := hw G5 eG5
      refine lv_aload_n hx hb dX2_buySheets_31 rfl (lv_at hl 0 rfl) ?_
      refine gg hx hb hts hown hPF hG 2 5 rfl in_X2 (by decide) (by decide) (by decide) q472 (fun _ h9 => h9) (gC_of (gK_mon hG.1.2 h0p0 (by decide)) (by decide)) (v := .int (gI G5 p0 5)) rfl dX2_buySheets_32 ?_
      exact xreti hx hb hr hlk hG rfl hw (Nat.le_of_ble_eq_true rfl) (Nat.le_of_ble_eq_true rfl) dX2_buySheets_35
def gw_X2_setDamp (E : gE) (post : Int32 → Gh → Prop) (px : String → Nat → Gh → Prop) (p0 : Nat) (p1 : Int32) (G : Gh) : Prop := gK G p0 = 2 ∧ (gw_X1_inRange E (fun r2 G1 => gMon G G1 → (gw_X1_checkArgument E (fun G3 => gMon G1 G3 → (∀ G4, G4 = gsI G3 p0 6 p1 → (post (gI G3 p0 6) G4))) px r2 G1)) p1.toInt64 0 9 G)
theorem hd_X2_setDamp : yX2_setDamp.cls = RX2 ∧ yX2_setDamp.cls ≠ "java/lang/invoke/MethodHandle" ∧ yX2_setDamp.cls ≠ "java/lang/invoke/VarHandle" ∧ (parseMethodDescriptor yX2_setDamp.desc).map (fun d => d.parameters.length) = some 1 := by decide +kernel
theorem hdn_X2_setDamp : yX2_setDamp.cls ≠ "java/lang/invoke/MethodHandle" ∧ yX2_setDamp.cls ≠ "java/lang/invoke/VarHandle" ∧ (parseMethodDescriptor yX2_setDamp.desc).map (fun d => d.parameters.length) = some 1 := hd_X2_setDamp.2
theorem hdu_X2_setDamp : RX2 ≠ "java/lang/invoke/MethodHandle" ∧ RX2 ≠ "java/lang/invoke/VarHandle" ∧ (parseMethodDescriptor yX2_setDamp.desc).map (fun d => d.parameters.length) = some 1 := by decide +kernel
theorem hds_X2_setDamp : yX2_setDamp.name ≠ "<init>" ∧ (parseMethodDescriptor yX2_setDamp.desc).map (fun d => d.parameters.length) = some 1 := by decide +kernel
set_option maxHeartbeats 1000000 in
set_option maxRecDepth 100000 in
theorem gm_X2_setDamp (l : Launch) (hlt : l.stackTraces = false) (E : gE) (p0 : Nat) (p1 : Int32) (post : Int32 → Gh → Prop) (px : String → Nat → Gh → Prop) (G : Gh) (hw : gw_X2_setDamp E post px p0 p1 G) : gX l E yX2_setDamp (ws_ yX2_setDamp cX2_setDamp 3 (some .int)) ({ frames := 9, cells := 1, slots := 6, locals := 140 } : Room) 1 6 [.ref p0, .int p1] G (gpi post) px := by
  refine xof (by decide) (Nat.le_of_ble_eq_true rfl) ?_
  intro p e s m below meth c A ls hx hb hr hlk hml hown hin hts hPF hA htab hG hl
  have hl : lv_has ls 3 [(0, .ref p0), (1, .int p1)] := hl
  unfold gw_X2_setDamp at hw
  obtain ⟨G0, hG0⟩ : ∃ G0, G0 = G := ⟨_, rfl⟩
  have hG : gS E A G0 s.heap G s.heap [] := by rw [hG0]; exact hG
  rw [show gQ E A G (gpi post) = gQ E A G0 (gpi post) by rw [hG0]]
  rw [show gXC E A G px = gXC E A G0 px by rw [hG0]]
  have h0p0 := hw.1; rw [← hG0] at h0p0
  replace hw := hw.2
  refine lv_iload_n hx hb dX2_setDamp_0 rfl (lv_at hl 1 rfl) ?_
  refine lv_i2l (v := p1.toInt64) hx hb dX2_setDamp_1 rfl ?_
  refine lv_lconst (v := 0) hx hb dX2_setDamp_2 (by decide) ?_
  refine lv_ldc2 (v := 9) hx hb hown (hts _ q1033) dX2_setDamp_3 ?_
  refine gc3i hA hG (va_runSN (As := [.long p1.toInt64, .long 0, .long 9]) (rest := []) ⟨hx, hb, hml, hown, hts⟩ (gm_X1_inRange l E p1.toInt64 0 9 _ G hw _) ⟨va_cnB 3 hts (lw_meth q638) rfl rfl rfl (hPF.w q636 rfl) (hts _ q55) hd_X1_inRange ⟨Nat.le_of_ble_eq_true rfl, Nat.le_of_ble_eq_true rfl⟩, hts _ q637, trivial⟩ ⟨gblind, fun U hU hW => gpre hPF hA hG _ U hU hW⟩ rfl rfl hl.1 rfl (lv_room (Nat.le_of_ble_eq_true rfl)) dX2_setDamp_6 ⟨(Nat.le_of_ble_eq_true rfl), (Nat.le_of_ble_eq_true rfl)⟩) (fun r2 G1 H locs hw hmon hG => ?_)
  replace hw := hw hmon
  refine xc3v hA hG (vx_runSN (As := [.int r2]) (rest := []) ⟨hx, hb, hml, hown, hts⟩ (gm_X1_checkArgument l hlt E r2 _ _ G1 hw _) ⟨va_cnB 1 hts (lw_meth q641) rfl rfl rfl (hPF.w q639 rfl) (hts _ q55) hd_X1_checkArgument ⟨Nat.le_of_ble_eq_true rfl, Nat.le_of_ble_eq_true rfl⟩, hts _ q640, trivial⟩ ⟨gblind, fun U hU hW => gpre hPF hA hG _ U hU hW⟩ rfl rfl hl.1 rfl (lv_room (Nat.le_of_ble_eq_true rfl)) dX2_setDamp_9 ⟨(Nat.le_of_ble_eq_true rfl), (Nat.le_of_ble_eq_true rfl)⟩) (fun X ce q Gx H locs hw hmon hG hce hcv hcl => ?_) (fun G3 H locs hw hmon hG => ?_)
  · exact gleave hlk hG (fun x hx9 => (htab x hx9).elim) hce hcv hcl hw (Nat.le_of_ble_eq_true rfl) (Nat.le_of_ble_eq_true rfl)
  · replace hw := hw hmon
    refine lv_aload_n hx hb dX2_setDamp_12 rfl (lv_at hl 0 rfl) ?_
    refine gg hx hb hts hown hPF hG 2 6 rfl in_X2 (by decide) (by decide) (by decide) q474 (fun _ h9 => h9) (gC_of (gK_mon hG.1.2 h0p0 (by decide)) (by decide)) (v := .int (gI G3 p0 6)) rfl dX2_setDamp_13 ?_
    refine lv_istore_n (i := 2) (lv' := [(2, .int (gI G3 p0 6)), (0, .ref p0), (1, .int p1)]) hx hb dX2_setDamp_16 rfl hl (by decide) rfl (fun ls hl => ?_)
    refine lv_aload_n hx hb dX2_setDamp_17 rfl (lv_at hl 1 rfl) ?_
    refine lv_iload_n hx hb dX2_setDamp_18 rfl (lv_at hl 2 rfl) ?_
    refine gp hx hb hts hown hPF hG 2 6 rfl in_X2 tyX2 tyX2_ok nmX2 (by decide) (by decide) (by decide) q474 (fun _ h9 => h9) rfl (gK_mon hG.1.2 h0p0 (by decide)) (v := .int p1) rfl rfl (G' := gsI G3 p0 6 p1) rfl rfl grI_off (Nat.le_of_ble_eq_true rfl) (gFs_I 2 6 (fun _ _ _ => rfl)) dX2_setDamp_19 (fun H locs hG => ?_)
    obtain ⟨G4, eG4⟩ : ∃ z, z = gsI G3 p0 6 p1 := ⟨_, rfl⟩
    rw [← eG4] at hG
    replace hw := hw G4 eG4
    refine lv_iload_n hx hb dX2_setDamp_22 rfl (lv_at hl 0 rfl) ?_
    exact xreti hx hb hr hlk hG rfl hw (Nat.le_of_ble_eq_true rfl) (Nat.le_of_ble_eq_true rfl) dX2_setDamp_23
def gw_X1_checkState (E : gE) (post : Gh → Prop) (px : String → Nat → Gh → Prop) (p0 : Int32) (G : Gh) : Prop := (¬ p0 = 0 → (post G)) ∧ (p0 = 0 → (∀ q, gK G q = 0 → px "java/lang/IllegalStateException" q G))
theorem hd_X1_checkState : yX1_checkState.cls ≠ "java/lang/invoke/MethodHandle" ∧ yX1_checkState.cls ≠ "java/lang/invoke/VarHandle" ∧ (parseMethodDescriptor yX1_checkState.desc).map (fun d => d.parameters.length) = some 1 := by decide +kernel
set_option maxHeartbeats 1000000 in
set_option maxRecDepth 100000 in
theorem gm_X1_checkState (l : Launch) (hlt : l.stackTraces = false) (E : gE) (p0 : Int32) (post : Gh → Prop) (px : String → Nat → Gh → Prop) (G : Gh) (hw : gw_X1_checkState E post px p0 G) : gX l E yX1_checkState (ws_ yX1_checkState cX1_checkState 1 none) ({ frames := 8, cells := 1, slots := 6, locals := 120 } : Room) 1 6 [.int p0] G (gpv post) px := by
  refine xof (by decide) (Nat.le_of_ble_eq_true rfl) ?_
  intro p e s m below meth c A ls hx hb hr hlk hml hown hin hts hPF hA htab hG hl
  have hl : lv_has ls 1 [(0, .int p0)] := hl
  unfold gw_X1_checkState at hw
  obtain ⟨G0, hG0⟩ : ∃ G0, G0 = G := ⟨_, rfl⟩
  have hG : gS E A G0 s.heap G s.heap [] := by rw [hG0]; exact hG
  rw [show gQ E A G (gpv post) = gQ E A G0 (gpv post) by rw [hG0]]
  rw [show gXC E A G px = gXC E A G0 px by rw [hG0]]
  refine lv_iload_n hx hb dX1_checkState_0 rfl (lv_at hl 0 rfl) ?_
  refine lv_if_ne (tgt := 12) hx hb dX1_checkState_1 (by decide) (fun c_ => ?_) (fun c_ => ?_)
  · replace hw := hw.1 c_
    exact xretv hx hb hr hlk hG hw (Nat.le_of_ble_eq_true rfl) (Nat.le_of_ble_eq_true rfl) dX1_checkState_12
  · replace hw := hw.2 c_
    exact vx_throw0 (cls := "java/lang/IllegalStateException") (names := excNames) (A := A) hx hb hlt hown (by decide +kernel) (by decide +kernel) (hts _ q1052) (hts _ q87) (tw_hat hts hPF tw_X1_12_IllegalStateException) (tw_ot (by decide +kernel)) hPF.u.1 hPF.u.2 hG.2 (hl.1.trans hml.symm) dX1_checkState_4 dX1_checkState_7 dX1_checkState_8 dX1_checkState_11 (fun x hx9 => (htab x hx9).elim) (Nat.le_of_ble_eq_true rfl) (by (try simp only [List.map, va_rf_cat, gcat_i, gcat_r, gcat_l, gcat_d, gcat_f, gcat_n]); exact Nat.le_of_ble_eq_true rfl) (Nat.le_of_ble_eq_true rfl) (Nat.le_of_ble_eq_true rfl) hlk (fun q t hq hW hz hk => gthrown hG (hw q (Classical.byContradiction fun h => Nat.lt_irrefl _ (Nat.lt_of_lt_of_le (gat_lt (hG.1.1 q h).1) hq))) hz hk) hG.2.2.2 (Nat.le_of_ble_eq_true rfl) (Nat.le_of_ble_eq_true rfl)
def gw_X2_added (E : gE) (post : Int32 → Gh → Prop) (p0 : Nat) (p1 : Nat) (G : Gh) : Prop := gK G p0 = 14 ∧ (gw_J2_add E (fun r2 G1 => gMon G G1 → (gw_J2_size E (fun r4 G3 => gMon G1 G3 → (post (r4 - 1) G3)) p0 G1)) p0 p1 G)
theorem hd_X2_added : yX2_added.cls ≠ "java/lang/invoke/MethodHandle" ∧ yX2_added.cls ≠ "java/lang/invoke/VarHandle" ∧ (parseMethodDescriptor yX2_added.desc).map (fun d => d.parameters.length) = some 2 := by decide +kernel
set_option maxHeartbeats 1000000 in
set_option maxRecDepth 100000 in
theorem gm_X2_added (l : Launch) (E : gE) (p0 : Nat) (p1 : Nat) (post : Int32 → Gh → Prop) (G : Gh) (hw : gw_X2_added E post p0 p1 G) : gM l E yX2_added (ws_ yX2_added cX2_added 3 (some .int)) ({ frames := 7, cells := 1, slots := 64, locals := 191 } : Room) 1 64 [.ref p0, .ref p1] G (gpi post) := by
  refine gof (by decide) (Nat.le_of_ble_eq_true rfl) ?_
  intro p e s m below meth c A ls hx hb hr hlk hml hown hin hts hPF hA hG hl
  have hl : lv_has ls 3 [(0, .ref p0), (1, .ref p1)] := hl
  unfold gw_X2_added at hw
  obtain ⟨G0, hG0⟩ : ∃ G0, G0 = G := ⟨_, rfl⟩
  have hG : gS E A G0 s.heap G s.heap [] := by rw [hG0]; exact hG
  rw [show gQ E A G (gpi post) = gQ E A G0 (gpi post) by rw [hG0]]
  have h0p0 := hw.1; rw [← hG0] at h0p0
  replace hw := hw.2
  refine lv_aload_n hx hb dX2_added_0 rfl (lv_at hl 0 rfl) ?_
  refine lv_aload_n hx hb dX2_added_1 rfl (lv_at hl 1 rfl) ?_
  refine gc3i hA hG (va_runV (As := [.ref p1]) (rest := []) ⟨hx, hb, hml, hown, hts⟩ (gm_J2_add l E p0 p1 _ G hw _) (cwV 1 hts (lw_V q790 q791 q792 q59 q793) rfl rfl rfl hd_J2_add ⟨Nat.le_of_ble_eq_true rfl, Nat.le_of_ble_eq_true rfl⟩) ⟨gblind, grecv hPF hG (gC_of (gK_mon hG.1.2 h0p0 (by decide)) (by decide)) (by decide) (by decide) rfl, fun U hU hW => gpre hPF hA hG _ U hU hW⟩ rfl rfl hl.1 rfl (lv_room (Nat.le_of_ble_eq_true rfl)) dX2_added_2 ⟨(Nat.le_of_ble_eq_true rfl), (Nat.le_of_ble_eq_true rfl)⟩) (fun r2 G1 H locs hw hmon hG => ?_)
  replace hw := hw hmon
  refine lv_istore_n (i := 2) (lv' := [(2, .int r2), (0, .ref p0), (1, .ref p1)]) hx hb dX2_added_5 rfl hl (by decide) rfl (fun ls hl => ?_)
  refine lv_aload_n hx hb dX2_added_6 rfl (lv_at hl 1 rfl) ?_
  refine gc3i hA hG (va_runV (As := []) (rest := []) ⟨hx, hb, hml, hown, hts⟩ (gm_J2_size l E p0 _ G1 hw _) (cwV 0 hts (lw_V q1048 q591 q592 q59 q593) rfl rfl rfl hd_J2_size ⟨Nat.le_of_ble_eq_true rfl, Nat.le_of_ble_eq_true rfl⟩) ⟨gblind, grecv hPF hG (gC_of (gK_mon hG.1.2 h0p0 (by decide)) (by decide)) (by decide) (by decide) rfl, fun U hU hW => gpre hPF hA hG _ U hU hW⟩ rfl rfl hl.1 rfl (lv_room (Nat.le_of_ble_eq_true rfl)) dX2_added_7 ⟨(Nat.le_of_ble_eq_true rfl), (Nat.le_of_ble_eq_true rfl)⟩) (fun r4 G3 H locs hw hmon hG => ?_)
  replace hw := hw hmon
  refine lv_iconst (v := 1) hx hb dX2_added_10 (by decide) ?_
  refine lv_isub hx hb dX2_added_11 ?_
  exact greti hx hb hr hlk hG rfl hw (Nat.le_of_ble_eq_true rfl) (Nat.le_of_ble_eq_true rfl) dX2_added_12
def gw_X2_addCopper_L28 (E : gE) (p0 : Nat) (post : Int32 → Gh → Prop) (px : String → Nat → Gh → Prop) (x1 : Int32) (t0 : Int32) (G : Gh) : Prop := gw_X1_checkState E (fun G8 => gMon G G8 → (∀ q9, gK G8 q9 = 0 → ∀ G10, G10 = gN G8 q9 4 0 → (∃ q11, (gR G10 p0 0) = some q11 ∧ (gC G10 q11 = 14 ∧ (gw_J2_size E (fun r14 G13 => gMon G10 G13 → (gw_X5_init E (fun G15 => gMon G13 G15 → (∃ q16, (gR G8 p0 0) = some q16 ∧ (gw_X2_added E (fun r18 G17 => gMon G15 G17 → (post r18 G17)) q16 q9 G15))) q9 r14 x1 G13)) q11 G10))))) px t0 G
def gw_X2_addCopper (E : gE) (post : Int32 → Gh → Prop) (px : String → Nat → Gh → Prop) (p0 : Nat) (p1 : Int32) (G : Gh) : Prop := gK G p0 = 2 ∧ (gw_X1_inRange E (fun r2 G1 => gMon G G1 → (gw_X1_checkArgument E (fun G3 => gMon G1 G3 → (∃ q4, (gR G3 p0 0) = some q4 ∧ (gC G3 q4 = 14 ∧ (gw_J2_size E (fun r7 G6 => gMon G3 G6 → ((5 ≤ r7 → (gw_X2_addCopper_L28 E p0 post px  p1 0 G6)) ∧ (¬ 5 ≤ r7 → (gw_X2_addCopper_L28 E p0 post px  p1 1 G6)))) q4 G3)))) px r2 G1)) p1.toInt64 1 9 G)
theorem hd_X2_addCopper : yX2_addCopper.cls = RX2 ∧ yX2_addCopper.cls ≠ "java/lang/invoke/MethodHandle" ∧ yX2_addCopper.cls ≠ "java/lang/invoke/VarHandle" ∧ (parseMethodDescriptor yX2_addCopper.desc).map (fun d => d.parameters.length) = some 1 := by decide +kernel
theorem hdn_X2_addCopper : yX2_addCopper.cls ≠ "java/lang/invoke/MethodHandle" ∧ yX2_addCopper.cls ≠ "java/lang/invoke/VarHandle" ∧ (parseMethodDescriptor yX2_addCopper.desc).map (fun d => d.parameters.length) = some 1 := hd_X2_addCopper.2
theorem hdu_X2_addCopper : RX2 ≠ "java/lang/invoke/MethodHandle" ∧ RX2 ≠ "java/lang/invoke/VarHandle" ∧ (parseMethodDescriptor yX2_addCopper.desc).map (fun d => d.parameters.length) = some 1 := by decide +kernel
theorem hds_X2_addCopper : yX2_addCopper.name ≠ "<init>" ∧ (parseMethodDescriptor yX2_addCopper.desc).map (fun d => d.parameters.length) = some 1 := by decide +kernel
set_option maxHeartbeats 1000000 in
set_option maxRecDepth 100000 in
theorem gm_X2_addCopper (l : Launch) (hlt : l.stackTraces = false) (E : gE) (p0 : Nat) (p1 : Int32) (post : Int32 → Gh → Prop) (px : String → Nat → Gh → Prop) (G : Gh) (hw : gw_X2_addCopper E post px p0 p1 G) : gX l E yX2_addCopper (ws_ yX2_addCopper cX2_addCopper 2 (some .int)) ({ frames := 9, cells := 4, slots := 80, locals := 213 } : Room) 4 80 [.ref p0, .int p1] G (gpi post) px := by
  refine xof (by decide) (Nat.le_of_ble_eq_true rfl) ?_
  intro p e s m below meth c A ls hx hb hr hlk hml hown hin hts hPF hA htab hG hl
  have hl : lv_has ls 2 [(0, .ref p0), (1, .int p1)] := hl
  unfold gw_X2_addCopper at hw
  obtain ⟨G0, hG0⟩ : ∃ G0, G0 = G := ⟨_, rfl⟩
  have hG : gS E A G0 s.heap G s.heap [] := by rw [hG0]; exact hG
  rw [show gQ E A G (gpi post) = gQ E A G0 (gpi post) by rw [hG0]]
  rw [show gXC E A G px = gXC E A G0 px by rw [hG0]]
  have h0p0 := hw.1; rw [← hG0] at h0p0
  replace hw := hw.2
  have hL28 : ∀ (x1 : Int32) (t0 : Int32) (G : Gh) (H : Heap) (locs : List Loc) (ls : Array Slot), gS E A G0 s.heap G H locs → lv_has ls 2 [(0, .ref p0), (1, .int x1)] → gw_X2_addCopper_L28 E p0 post px x1 t0 G → W p l e (headSpec (ws_ yX2_addCopper cX2_addCopper 2 (some .int)) ({ frames := 9, cells := 4, slots := 80, locals := 213 } : Room)).room s m ([.ref p0, .int p1] : List Value).toArray below meth c H locs 1 6 (vx_MQ below (gQ E A G0 (gpi post)) (gXC E A G0 px) ([.ref p0, .int p1] : List Value).toArray s 4 80 A) (F0 m 28 ls [.int t0]) := by
    intro x1 t0 G H locs ls hG hl hw
    unfold gw_X2_addCopper_L28 at hw
    refine xc3v hA hG (vx_runSN (As := [.int t0]) (rest := []) ⟨hx, hb, hml, hown, hts⟩ (gm_X1_checkState l hlt E t0 _ _ G hw _) ⟨va_cnB 1 hts (lw_meth q1051) rfl rfl rfl (hPF.w q1049 rfl) (hts _ q55) hd_X1_checkState ⟨Nat.le_of_ble_eq_true rfl, Nat.le_of_ble_eq_true rfl⟩, hts _ q1050, trivial⟩ ⟨gblind, fun U hU hW => gpre hPF hA hG _ U hU hW⟩ rfl rfl hl.1 rfl (lv_room (Nat.le_of_ble_eq_true rfl)) dX2_addCopper_28 ⟨(Nat.le_of_ble_eq_true rfl), (Nat.le_of_ble_eq_true rfl)⟩) (fun X ce q Gx H locs hw hmon hG hce hcv hcl => ?_) (fun G8 H locs hw hmon hG => ?_)
    · exact gleave hlk hG (fun x hx9 => (htab x hx9).elim) hce hcv hcl hw (Nat.le_of_ble_eq_true rfl) (Nat.le_of_ble_eq_true rfl)
    · replace hw := hw hmon
      refine lv_aload_n hx hb dX2_addCopper_31 rfl (lv_at hl 0 rfl) ?_
      refine gg hx hb hts hown hPF hG 2 0 rfl in_X2 (by decide) (by decide) (by decide) q462 (fun _ h9 => h9) (gC_of (gK_mon hG.1.2 h0p0 (by decide)) (by decide)) (v := va_rf (gR G8 p0 0)) rfl dX2_addCopper_32 ?_
      refine gnew (ci := 4) hx hb hts in_X5 tyX5 tyX5_ok hown q760 q766 q81 hPF hG hA rfl (by decide) (by decide) gborn_X5 (Nat.le_of_ble_eq_true rfl) (Nat.le_of_ble_eq_true rfl) dX2_addCopper_35 (fun q9 H h0q9 hG => ?_)
      replace hw := hw q9 h0q9
      obtain ⟨G10, eG10⟩ : ∃ z, z = gN G8 q9 4 0 := ⟨_, rfl⟩
      rw [← eG10] at hG
      replace hw := hw G10 eG10
      have hkq9 : gK G10 q9 = 4 := by rw [eG10]; exact gK_Nq
      refine lv_dup hx hb dX2_addCopper_38 rfl ?_
      refine lv_aload_n hx hb dX2_addCopper_39 rfl (lv_at hl 0 rfl) ?_
      refine gg hx hb hts hown hPF hG 2 0 rfl in_X2 (by decide) (by decide) (by decide) q462 (fun _ h9 => h9) (gC_of (gK_mon hG.1.2 h0p0 (by decide)) (by decide)) (v := va_rf (gR G10 p0 0)) rfl dX2_addCopper_40 ?_
      obtain ⟨q11, hq11, hw⟩ := hw
      refine W.eq (g2 := F0 m 43 ls [.ref q11, .ref q9, .ref q9, va_rf (gR G8 p0 0)]) (by rw [hq11]; rfl) ?_
      have hk12 := hw.1
      replace hw := hw.2
      refine gc3i hA hG (va_runV (As := []) (rest := [.ref q9, .ref q9, va_rf (gR G8 p0 0)]) ⟨hx, hb, hml, hown, hts⟩ (gm_J2_size l E q11 _ G10 hw _) (cwV 0 hts (lw_V q1048 q591 q592 q59 q593) rfl rfl rfl hd_J2_size ⟨Nat.le_of_ble_eq_true rfl, Nat.le_of_ble_eq_true rfl⟩) ⟨gblind, grecv hPF hG hk12 (by decide) (by decide) rfl, fun U hU hW => gpre hPF hA hG _ U hU hW⟩ rfl rfl hl.1 rfl (lv_room (by (try simp only [List.map, va_rf_cat, gcat_i, gcat_r, gcat_l, gcat_d, gcat_f, gcat_n]); exact Nat.le_of_ble_eq_true rfl)) dX2_addCopper_43 ⟨(Nat.le_of_ble_eq_true rfl), (Nat.le_of_ble_eq_true rfl)⟩) (fun r14 G13 H locs hw hmon hG => ?_)
      replace hw := hw hmon
      have hkq9 : gK G13 q9 = 4 := gK_mon hmon hkq9 (by decide)
      have hk12 : gC G13 q11 = 14 := gC_mon hmon hk12 (by decide)
      refine lv_iload_n hx hb dX2_addCopper_46 rfl (lv_at hl 1 rfl) ?_
      refine gc3v hA hG (va_runI (As := [.int r14, .int x1]) (rest := [.ref q9, va_rf (gR G8 p0 0)]) ⟨hx, hb, hml, hown, hts⟩ (gm_X5_init l E q9 r14 x1 _ G13 hw _) (cwI 2 hts (lw_meth q769) rfl rfl rfl (hts _ q81) (hts _ q1057) (hts _ q768) rfl hd_X5_init ⟨Nat.le_of_ble_eq_true rfl, Nat.le_of_ble_eq_true rfl⟩) ⟨gblind, fun U hU hW => gpre hPF hA hG _ U hU hW⟩ rfl rfl hl.1 rfl (lv_room (by (try simp only [List.map, va_rf_cat, gcat_i, gcat_r, gcat_l, gcat_d, gcat_f, gcat_n]); exact Nat.le_of_ble_eq_true rfl)) dX2_addCopper_47 ⟨(Nat.le_of_ble_eq_true rfl), (Nat.le_of_ble_eq_true rfl)⟩) (fun G15 H locs hw hmon hG => ?_)
      replace hw := hw hmon
      have hkq9 : gK G15 q9 = 4 := gK_mon hmon hkq9 (by decide)
      have hk12 : gC G15 q11 = 14 := gC_mon hmon hk12 (by decide)
      obtain ⟨q16, hq16, hw⟩ := hw
      refine W.eq (g2 := F0 m 50 ls [.ref q9, .ref q16]) (by rw [hq16]; rfl) ?_
      refine gc3i hA hG (va_runS (As := [.ref q16, .ref q9]) (rest := []) ⟨hx, hb, hml, hown, hts⟩ (gm_X2_added l E q16 q9 _ G15 hw _) (va_cwS 2 hts (lw_S q1058 q1059 q56 q1060) rfl rfl rfl hd_X2_added ⟨Nat.le_of_ble_eq_true rfl, Nat.le_of_ble_eq_true rfl⟩) ⟨gblind, fun U hU hW => gpre hPF hA hG _ U hU hW⟩ rfl rfl hl.1 rfl (lv_room (Nat.le_of_ble_eq_true rfl)) dX2_addCopper_50 ⟨(Nat.le_of_ble_eq_true rfl), (Nat.le_of_ble_eq_true rfl)⟩) (fun r18 G17 H locs hw hmon hG => ?_)
      replace hw := hw hmon
      have hkq9 : gK G17 q9 = 4 := gK_mon hmon hkq9 (by decide)
      have hk12 : gC G17 q11 = 14 := gC_mon hmon hk12 (by decide)
      exact xreti hx hb hr hlk hG rfl hw (Nat.le_of_ble_eq_true rfl) (Nat.le_of_ble_eq_true rfl) dX2_addCopper_53
  refine lv_iload_n hx hb dX2_addCopper_0 rfl (lv_at hl 1 rfl) ?_
  refine lv_i2l (v := p1.toInt64) hx hb dX2_addCopper_1 rfl ?_
  refine lv_lconst (v := 1) hx hb dX2_addCopper_2 (by decide) ?_
  refine lv_ldc2 (v := 9) hx hb hown (hts _ q1033) dX2_addCopper_3 ?_
  refine gc3i hA hG (va_runSN (As := [.long p1.toInt64, .long 1, .long 9]) (rest := []) ⟨hx, hb, hml, hown, hts⟩ (gm_X1_inRange l E p1.toInt64 1 9 _ G hw _) ⟨va_cnB 3 hts (lw_meth q638) rfl rfl rfl (hPF.w q636 rfl) (hts _ q55) hd_X1_inRange ⟨Nat.le_of_ble_eq_true rfl, Nat.le_of_ble_eq_true rfl⟩, hts _ q637, trivial⟩ ⟨gblind, fun U hU hW => gpre hPF hA hG _ U hU hW⟩ rfl rfl hl.1 rfl (lv_room (Nat.le_of_ble_eq_true rfl)) dX2_addCopper_6 ⟨(Nat.le_of_ble_eq_true rfl), (Nat.le_of_ble_eq_true rfl)⟩) (fun r2 G1 H locs hw hmon hG => ?_)
  replace hw := hw hmon
  refine xc3v hA hG (vx_runSN (As := [.int r2]) (rest := []) ⟨hx, hb, hml, hown, hts⟩ (gm_X1_checkArgument l hlt E r2 _ _ G1 hw _) ⟨va_cnB 1 hts (lw_meth q641) rfl rfl rfl (hPF.w q639 rfl) (hts _ q55) hd_X1_checkArgument ⟨Nat.le_of_ble_eq_true rfl, Nat.le_of_ble_eq_true rfl⟩, hts _ q640, trivial⟩ ⟨gblind, fun U hU hW => gpre hPF hA hG _ U hU hW⟩ rfl rfl hl.1 rfl (lv_room (Nat.le_of_ble_eq_true rfl)) dX2_addCopper_9 ⟨(Nat.le_of_ble_eq_true rfl), (Nat.le_of_ble_eq_true rfl)⟩) (fun X ce q Gx H locs hw hmon hG hce hcv hcl => ?_) (fun G3 H locs hw hmon hG => ?_)
  · exact gleave hlk hG (fun x hx9 => (htab x hx9).elim) hce hcv hcl hw (Nat.le_of_ble_eq_true rfl) (Nat.le_of_ble_eq_true rfl)
  · replace hw := hw hmon
    refine lv_aload_n hx hb dX2_addCopper_12 rfl (lv_at hl 0 rfl) ?_
    refine gg hx hb hts hown hPF hG 2 0 rfl in_X2 (by decide) (by decide) (by decide) q462 (fun _ h9 => h9) (gC_of (gK_mon hG.1.2 h0p0 (by decide)) (by decide)) (v := va_rf (gR G3 p0 0)) rfl dX2_addCopper_13 ?_
    obtain ⟨q4, hq4, hw⟩ := hw
    refine W.eq (g2 := F0 m 16 ls [.ref q4]) (by rw [hq4]; rfl) ?_
    have hk5 := hw.1
    replace hw := hw.2
    refine gc3i hA hG (va_runV (As := []) (rest := []) ⟨hx, hb, hml, hown, hts⟩ (gm_J2_size l E q4 _ G3 hw _) (cwV 0 hts (lw_V q1048 q591 q592 q59 q593) rfl rfl rfl hd_J2_size ⟨Nat.le_of_ble_eq_true rfl, Nat.le_of_ble_eq_true rfl⟩) ⟨gblind, grecv hPF hG hk5 (by decide) (by decide) rfl, fun U hU hW => gpre hPF hA hG _ U hU hW⟩ rfl rfl hl.1 rfl (lv_room (Nat.le_of_ble_eq_true rfl)) dX2_addCopper_16 ⟨(Nat.le_of_ble_eq_true rfl), (Nat.le_of_ble_eq_true rfl)⟩) (fun r7 G6 H locs hw hmon hG => ?_)
    replace hw := hw hmon
    have hk5 : gC G6 q4 = 14 := gC_mon hmon hk5 (by decide)
    refine lv_iconst (v := 5) hx hb dX2_addCopper_19 (by decide) ?_
    refine lv_icmp_ge (tgt := 27) hx hb dX2_addCopper_20 (by decide) (fun c_ => ?_) (fun c_ => ?_)
    · replace hw := hw.1 c_
      refine lv_iconst (v := 0) hx hb dX2_addCopper_27 (by decide) ?_
      refine W.widen (k := 1) (n := 6) (Nat.le_of_ble_eq_true rfl) (Nat.le_of_ble_eq_true rfl) ?_
      exact hL28  p1 0 G6 _ _ ls hG (lv_sub hl [0, 1] rfl) hw
    · replace hw := hw.2 c_
      refine lv_iconst (v := 1) hx hb dX2_addCopper_23 (by decide) ?_
      refine lv_goto (tgt := 28) hx hb dX2_addCopper_24 (by decide) ?_
      refine W.widen (k := 1) (n := 6) (Nat.le_of_ble_eq_true rfl) (Nat.le_of_ble_eq_true rfl) ?_
      exact hL28  p1 1 G6 _ _ ls hG (lv_sub hl [0, 1] rfl) hw
def gw_X1_checkIndex (E : gE) (post : Gh → Prop) (px : String → Nat → Gh → Prop) (p0 : Int32) (G : Gh) : Prop := (¬ p0 = 0 → (post G)) ∧ (p0 = 0 → (∀ q, gK G q = 0 → px "java/lang/IndexOutOfBoundsException" q G))
theorem hd_X1_checkIndex : yX1_checkIndex.cls ≠ "java/lang/invoke/MethodHandle" ∧ yX1_checkIndex.cls ≠ "java/lang/invoke/VarHandle" ∧ (parseMethodDescriptor yX1_checkIndex.desc).map (fun d => d.parameters.length) = some 1 := by decide +kernel
set_option maxHeartbeats 1000000 in
set_option maxRecDepth 100000 in
theorem gm_X1_checkIndex (l : Launch) (hlt : l.stackTraces = false) (E : gE) (p0 : Int32) (post : Gh → Prop) (px : String → Nat → Gh → Prop) (G : Gh) (hw : gw_X1_checkIndex E post px p0 G) : gX l E yX1_checkIndex (ws_ yX1_checkIndex cX1_checkIndex 1 none) ({ frames := 8, cells := 1, slots := 6, locals := 120 } : Room) 1 6 [.int p0] G (gpv post) px := by
  refine xof (by decide) (Nat.le_of_ble_eq_true rfl) ?_
  intro p e s m below meth c A ls hx hb hr hlk hml hown hin hts hPF hA htab hG hl
  have hl : lv_has ls 1 [(0, .int p0)] := hl
  unfold gw_X1_checkIndex at hw
  obtain ⟨G0, hG0⟩ : ∃ G0, G0 = G := ⟨_, rfl⟩
  have hG : gS E A G0 s.heap G s.heap [] := by rw [hG0]; exact hG
  rw [show gQ E A G (gpv post) = gQ E A G0 (gpv post) by rw [hG0]]
  rw [show gXC E A G px = gXC E A G0 px by rw [hG0]]
  refine lv_iload_n hx hb dX1_checkIndex_0 rfl (lv_at hl 0 rfl) ?_
  refine lv_if_ne (tgt := 12) hx hb dX1_checkIndex_1 (by decide) (fun c_ => ?_) (fun c_ => ?_)
  · replace hw := hw.1 c_
    exact xretv hx hb hr hlk hG hw (Nat.le_of_ble_eq_true rfl) (Nat.le_of_ble_eq_true rfl) dX1_checkIndex_12
  · replace hw := hw.2 c_
    exact vx_throw0 (cls := "java/lang/IndexOutOfBoundsException") (names := excNames) (A := A) hx hb hlt hown (by decide +kernel) (by decide +kernel) (hts _ q1097) (hts _ q88) (tw_hat hts hPF tw_X1_9_IndexOutOfBoundsException) (tw_ot (by decide +kernel)) hPF.u.1 hPF.u.2 hG.2 (hl.1.trans hml.symm) dX1_checkIndex_4 dX1_checkIndex_7 dX1_checkIndex_8 dX1_checkIndex_11 (fun x hx9 => (htab x hx9).elim) (Nat.le_of_ble_eq_true rfl) (by (try simp only [List.map, va_rf_cat, gcat_i, gcat_r, gcat_l, gcat_d, gcat_f, gcat_n]); exact Nat.le_of_ble_eq_true rfl) (Nat.le_of_ble_eq_true rfl) (Nat.le_of_ble_eq_true rfl) hlk (fun q t hq hW hz hk => gthrown hG (hw q (Classical.byContradiction fun h => Nat.lt_irrefl _ (Nat.lt_of_lt_of_le (gat_lt (hG.1.1 q h).1) hq))) hz hk) hG.2.2.2 (Nat.le_of_ble_eq_true rfl) (Nat.le_of_ble_eq_true rfl)
def gw_X2_checked (E : gE) (post : Option Nat → Gh → Prop) (px : String → Nat → Gh → Prop) (p0 : Nat) (p1 : Int32) (G : Gh) : Prop := gK G p0 = 14 ∧ (gw_J2_size E (fun r2 G1 => gMon G G1 → (gw_X1_inRange E (fun r4 G3 => gMon G1 G3 → (gw_X1_checkIndex E (fun G5 => gMon G3 G5 → (gw_J2_get E (fun r7 G6 => gMon G5 G6 → (post r7 G6)) p0 p1 G5)) px r4 G3)) p1.toInt64 0 ((r2 - 1).toInt64) G1)) p0 G)
theorem hd_X2_checked : yX2_checked.cls ≠ "java/lang/invoke/MethodHandle" ∧ yX2_checked.cls ≠ "java/lang/invoke/VarHandle" ∧ (parseMethodDescriptor yX2_checked.desc).map (fun d => d.parameters.length) = some 2 := by decide +kernel
set_option maxHeartbeats 1000000 in
set_option maxRecDepth 100000 in
theorem gm_X2_checked (l : Launch) (hlt : l.stackTraces = false) (E : gE) (p0 : Nat) (p1 : Int32) (post : Option Nat → Gh → Prop) (px : String → Nat → Gh → Prop) (G : Gh) (hw : gw_X2_checked E post px p0 p1 G) : gX l E yX2_checked (ws_ yX2_checked cX2_checked 2 (some (.object "java/lang/Object"))) ({ frames := 9, cells := 1, slots := 6, locals := 140 } : Room) 1 6 [.ref p0, .int p1] G (gpr post) px := by
  refine xof (by decide) (Nat.le_of_ble_eq_true rfl) ?_
  intro p e s m below meth c A ls hx hb hr hlk hml hown hin hts hPF hA htab hG hl
  have hl : lv_has ls 2 [(0, .ref p0), (1, .int p1)] := hl
  unfold gw_X2_checked at hw
  obtain ⟨G0, hG0⟩ : ∃ G0, G0 = G := ⟨_, rfl⟩
  have hG : gS E A G0 s.heap G s.heap [] := by rw [hG0]; exact hG
  rw [show gQ E A G (gpr post) = gQ E A G0 (gpr post) by rw [hG0]]
  rw [show gXC E A G px = gXC E A G0 px by rw [hG0]]
  have h0p0 := hw.1; rw [← hG0] at h0p0
  replace hw := hw.2
  refine lv_iload_n hx hb dX2_checked_0 rfl (lv_at hl 1 rfl) ?_
  refine lv_i2l (v := p1.toInt64) hx hb dX2_checked_1 rfl ?_
  refine lv_lconst (v := 0) hx hb dX2_checked_2 (by decide) ?_
  refine lv_aload_n hx hb dX2_checked_3 rfl (lv_at hl 0 rfl) ?_
  refine gc3i hA hG (va_runV (As := []) (rest := [.long 0, .long p1.toInt64]) ⟨hx, hb, hml, hown, hts⟩ (gm_J2_size l E p0 _ G hw _) (cwV 0 hts (lw_V q1048 q591 q592 q59 q593) rfl rfl rfl hd_J2_size ⟨Nat.le_of_ble_eq_true rfl, Nat.le_of_ble_eq_true rfl⟩) ⟨gblind, grecv hPF hG (gC_of (gK_mon hG.1.2 h0p0 (by decide)) (by decide)) (by decide) (by decide) rfl, fun U hU hW => gpre hPF hA hG _ U hU hW⟩ rfl rfl hl.1 rfl (lv_room (Nat.le_of_ble_eq_true rfl)) dX2_checked_4 ⟨(Nat.le_of_ble_eq_true rfl), (Nat.le_of_ble_eq_true rfl)⟩) (fun r2 G1 H locs hw hmon hG => ?_)
  replace hw := hw hmon
  refine lv_iconst (v := 1) hx hb dX2_checked_7 (by decide) ?_
  refine lv_isub hx hb dX2_checked_8 ?_
  refine lv_i2l (v := (r2 - 1).toInt64) hx hb dX2_checked_9 rfl ?_
  refine gc3i hA hG (va_runSN (As := [.long p1.toInt64, .long 0, .long ((r2 - 1).toInt64)]) (rest := []) ⟨hx, hb, hml, hown, hts⟩ (gm_X1_inRange l E p1.toInt64 0 ((r2 - 1).toInt64) _ G1 hw _) ⟨va_cnB 3 hts (lw_meth q638) rfl rfl rfl (hPF.w q636 rfl) (hts _ q55) hd_X1_inRange ⟨Nat.le_of_ble_eq_true rfl, Nat.le_of_ble_eq_true rfl⟩, hts _ q637, trivial⟩ ⟨gblind, fun U hU hW => gpre hPF hA hG _ U hU hW⟩ rfl rfl hl.1 rfl (lv_room (Nat.le_of_ble_eq_true rfl)) dX2_checked_10 ⟨(Nat.le_of_ble_eq_true rfl), (Nat.le_of_ble_eq_true rfl)⟩) (fun r4 G3 H locs hw hmon hG => ?_)
  replace hw := hw hmon
  refine xc3v hA hG (vx_runSN (As := [.int r4]) (rest := []) ⟨hx, hb, hml, hown, hts⟩ (gm_X1_checkIndex l hlt E r4 _ _ G3 hw _) ⟨va_cnB 1 hts (lw_meth q1096) rfl rfl rfl (hPF.w q1094 rfl) (hts _ q55) hd_X1_checkIndex ⟨Nat.le_of_ble_eq_true rfl, Nat.le_of_ble_eq_true rfl⟩, hts _ q1095, trivial⟩ ⟨gblind, fun U hU hW => gpre hPF hA hG _ U hU hW⟩ rfl rfl hl.1 rfl (lv_room (Nat.le_of_ble_eq_true rfl)) dX2_checked_13 ⟨(Nat.le_of_ble_eq_true rfl), (Nat.le_of_ble_eq_true rfl)⟩) (fun X ce q Gx H locs hw hmon hG hce hcv hcl => ?_) (fun G5 H locs hw hmon hG => ?_)
  · exact gleave hlk hG (fun x hx9 => (htab x hx9).elim) hce hcv hcl hw (Nat.le_of_ble_eq_true rfl) (Nat.le_of_ble_eq_true rfl)
  · replace hw := hw hmon
    refine lv_aload_n hx hb dX2_checked_16 rfl (lv_at hl 0 rfl) ?_
    refine lv_iload_n hx hb dX2_checked_17 rfl (lv_at hl 1 rfl) ?_
    refine gc3r hA hG (va_runV (As := [.int p1]) (rest := []) ⟨hx, hb, hml, hown, hts⟩ (gm_J2_get l E p0 p1 _ G5 hw _) (cwV 1 hts (lw_V q1112 q595 q596 q59 q597) rfl rfl rfl hd_J2_get ⟨Nat.le_of_ble_eq_true rfl, Nat.le_of_ble_eq_true rfl⟩) ⟨gblind, grecv hPF hG (gC_of (gK_mon hG.1.2 h0p0 (by decide)) (by decide)) (by decide) (by decide) rfl, fun U hU hW => gpre hPF hA hG _ U hU hW⟩ rfl rfl hl.1 rfl (lv_room (Nat.le_of_ble_eq_true rfl)) dX2_checked_18 ⟨(Nat.le_of_ble_eq_true rfl), (Nat.le_of_ble_eq_true rfl)⟩) (fun r7 G6 H locs hw hmon hG => ?_)
    replace hw := hw hmon
    exact xretr (v := r7) hx hb hr hlk hG (Or.inl ⟨_, rfl⟩) hw (Nat.le_of_ble_eq_true rfl) (Nat.le_of_ble_eq_true rfl) dX2_checked_21
def gw_X2_copper (E : gE) (post : Option Nat → Gh → Prop) (px : String → Nat → Gh → Prop) (p0 : Nat) (p1 : Int32) (G : Gh) : Prop := gK G p0 = 2 ∧ (∃ q1, (gR G p0 0) = some q1 ∧ (gw_X2_checked E (fun r3 G2 => gMon G G2 → (∃ q4, r3 = some q4 ∧ (gC G2 q4 = 4 ∧ (post (some q4) G2)))) px q1 p1 G))
theorem hd_X2_copper : yX2_copper.cls = RX2 ∧ yX2_copper.cls ≠ "java/lang/invoke/MethodHandle" ∧ yX2_copper.cls ≠ "java/lang/invoke/VarHandle" ∧ (parseMethodDescriptor yX2_copper.desc).map (fun d => d.parameters.length) = some 1 := by decide +kernel
theorem hdn_X2_copper : yX2_copper.cls ≠ "java/lang/invoke/MethodHandle" ∧ yX2_copper.cls ≠ "java/lang/invoke/VarHandle" ∧ (parseMethodDescriptor yX2_copper.desc).map (fun d => d.parameters.length) = some 1 := hd_X2_copper.2
theorem hdu_X2_copper : RX2 ≠ "java/lang/invoke/MethodHandle" ∧ RX2 ≠ "java/lang/invoke/VarHandle" ∧ (parseMethodDescriptor yX2_copper.desc).map (fun d => d.parameters.length) = some 1 := by decide +kernel
theorem hds_X2_copper : yX2_copper.name ≠ "<init>" ∧ (parseMethodDescriptor yX2_copper.desc).map (fun d => d.parameters.length) = some 1 := by decide +kernel
set_option maxHeartbeats 1000000 in
set_option maxRecDepth 100000 in
theorem gm_X2_copper (l : Launch) (hlt : l.stackTraces = false) (E : gE) (p0 : Nat) (p1 : Int32) (post : Option Nat → Gh → Prop) (px : String → Nat → Gh → Prop) (G : Gh) (hw : gw_X2_copper E post px p0 p1 G) : gX l E yX2_copper (ws_ yX2_copper cX2_copper 2 (some (.object "WillowPrinters$Copper"))) ({ frames := 10, cells := 1, slots := 6, locals := 161 } : Room) 1 6 [.ref p0, .int p1] G (gpr post) px := by
  refine xof (by decide) (Nat.le_of_ble_eq_true rfl) ?_
  intro p e s m below meth c A ls hx hb hr hlk hml hown hin hts hPF hA htab hG hl
  have hl : lv_has ls 2 [(0, .ref p0), (1, .int p1)] := hl
  unfold gw_X2_copper at hw
  obtain ⟨G0, hG0⟩ : ∃ G0, G0 = G := ⟨_, rfl⟩
  have hG : gS E A G0 s.heap G s.heap [] := by rw [hG0]; exact hG
  rw [show gQ E A G (gpr post) = gQ E A G0 (gpr post) by rw [hG0]]
  rw [show gXC E A G px = gXC E A G0 px by rw [hG0]]
  have h0p0 := hw.1; rw [← hG0] at h0p0
  replace hw := hw.2
  refine lv_aload_n hx hb dX2_copper_0 rfl (lv_at hl 0 rfl) ?_
  refine gg hx hb hts hown hPF hG 2 0 rfl in_X2 (by decide) (by decide) (by decide) q462 (fun _ h9 => h9) (gC_of (gK_mon hG.1.2 h0p0 (by decide)) (by decide)) (v := va_rf (gR G p0 0)) rfl dX2_copper_1 ?_
  refine lv_iload_n hx hb dX2_copper_4 rfl (lv_at hl 1 rfl) ?_
  obtain ⟨q1, hq1, hw⟩ := hw
  refine W.eq (g2 := F0 m 5 ls [.int p1, .ref q1]) (by rw [hq1]; rfl) ?_
  refine xc3r hA hG (vx_runS (As := [.ref q1, .int p1]) (rest := []) ⟨hx, hb, hml, hown, hts⟩ (gm_X2_checked l hlt E q1 p1 _ _ G hw _) (va_cwS 2 hts (lw_S q1091 q1092 q56 q1093) rfl rfl rfl hd_X2_checked ⟨Nat.le_of_ble_eq_true rfl, Nat.le_of_ble_eq_true rfl⟩) ⟨gblind, fun U hU hW => gpre hPF hA hG _ U hU hW⟩ rfl rfl hl.1 rfl (lv_room (Nat.le_of_ble_eq_true rfl)) dX2_copper_5 ⟨(Nat.le_of_ble_eq_true rfl), (Nat.le_of_ble_eq_true rfl)⟩) (fun X ce q Gx H locs hw hmon hG hce hcv hcl => ?_) (fun r3 G2 H locs hw hmon hG => ?_)
  · exact gleave hlk hG (fun x hx9 => (htab x hx9).elim) hce hcv hcl hw (Nat.le_of_ble_eq_true rfl) (Nat.le_of_ble_eq_true rfl)
  · replace hw := hw hmon
    obtain ⟨q4, hq4, hw⟩ := hw
    refine W.eq (g2 := F0 m 8 ls [.ref q4]) (by rw [hq4]; rfl) ?_
    have hk5 := hw.1
    replace hw := hw.2
    refine va_castS hx hb hown (hts _ q760) (hPF.K.1 4 _ rfl).2 (grecv hPF hG hk5 (by decide) (by decide) rfl) dX2_copper_8 ?_
    exact xretr (v := (some q4)) hx hb hr hlk hG (Or.inl ⟨_, rfl⟩) hw (Nat.le_of_ble_eq_true rfl) (Nat.le_of_ble_eq_true rfl) dX2_copper_11
def gw_X2_lot (E : gE) (post : Option Nat → Gh → Prop) (px : String → Nat → Gh → Prop) (p0 : Nat) (p1 : Int32) (G : Gh) : Prop := gK G p0 = 2 ∧ (∃ q1, (gR G p0 1) = some q1 ∧ (gw_X2_checked E (fun r3 G2 => gMon G G2 → (∃ q4, r3 = some q4 ∧ (gC G2 q4 = 5 ∧ (post (some q4) G2)))) px q1 p1 G))
theorem hd_X2_lot : yX2_lot.cls = RX2 ∧ yX2_lot.cls ≠ "java/lang/invoke/MethodHandle" ∧ yX2_lot.cls ≠ "java/lang/invoke/VarHandle" ∧ (parseMethodDescriptor yX2_lot.desc).map (fun d => d.parameters.length) = some 1 := by decide +kernel
theorem hdn_X2_lot : yX2_lot.cls ≠ "java/lang/invoke/MethodHandle" ∧ yX2_lot.cls ≠ "java/lang/invoke/VarHandle" ∧ (parseMethodDescriptor yX2_lot.desc).map (fun d => d.parameters.length) = some 1 := hd_X2_lot.2
theorem hdu_X2_lot : RX2 ≠ "java/lang/invoke/MethodHandle" ∧ RX2 ≠ "java/lang/invoke/VarHandle" ∧ (parseMethodDescriptor yX2_lot.desc).map (fun d => d.parameters.length) = some 1 := by decide +kernel
theorem hds_X2_lot : yX2_lot.name ≠ "<init>" ∧ (parseMethodDescriptor yX2_lot.desc).map (fun d => d.parameters.length) = some 1 := by decide +kernel
set_option maxHeartbeats 1000000 in
set_option maxRecDepth 100000 in
theorem gm_X2_lot (l : Launch) (hlt : l.stackTraces = false) (E : gE) (p0 : Nat) (p1 : Int32) (post : Option Nat → Gh → Prop) (px : String → Nat → Gh → Prop) (G : Gh) (hw : gw_X2_lot E post px p0 p1 G) : gX l E yX2_lot (ws_ yX2_lot cX2_lot 2 (some (.object "WillowPrinters$Lot"))) ({ frames := 10, cells := 1, slots := 6, locals := 161 } : Room) 1 6 [.ref p0, .int p1] G (gpr post) px := by
  refine xof (by decide) (Nat.le_of_ble_eq_true rfl) ?_
  intro p e s m below meth c A ls hx hb hr hlk hml hown hin hts hPF hA htab hG hl
  have hl : lv_has ls 2 [(0, .ref p0), (1, .int p1)] := hl
  unfold gw_X2_lot at hw
  obtain ⟨G0, hG0⟩ : ∃ G0, G0 = G := ⟨_, rfl⟩
  have hG : gS E A G0 s.heap G s.heap [] := by rw [hG0]; exact hG
  rw [show gQ E A G (gpr post) = gQ E A G0 (gpr post) by rw [hG0]]
  rw [show gXC E A G px = gXC E A G0 px by rw [hG0]]
  have h0p0 := hw.1; rw [← hG0] at h0p0
  replace hw := hw.2
  refine lv_aload_n hx hb dX2_lot_0 rfl (lv_at hl 0 rfl) ?_
  refine gg hx hb hts hown hPF hG 2 1 rfl in_X2 (by decide) (by decide) (by decide) q464 (fun _ h9 => h9) (gC_of (gK_mon hG.1.2 h0p0 (by decide)) (by decide)) (v := va_rf (gR G p0 1)) rfl dX2_lot_1 ?_
  refine lv_iload_n hx hb dX2_lot_4 rfl (lv_at hl 1 rfl) ?_
  obtain ⟨q1, hq1, hw⟩ := hw
  refine W.eq (g2 := F0 m 5 ls [.int p1, .ref q1]) (by rw [hq1]; rfl) ?_
  refine xc3r hA hG (vx_runS (As := [.ref q1, .int p1]) (rest := []) ⟨hx, hb, hml, hown, hts⟩ (gm_X2_checked l hlt E q1 p1 _ _ G hw _) (va_cwS 2 hts (lw_S q1091 q1092 q56 q1093) rfl rfl rfl hd_X2_checked ⟨Nat.le_of_ble_eq_true rfl, Nat.le_of_ble_eq_true rfl⟩) ⟨gblind, fun U hU hW => gpre hPF hA hG _ U hU hW⟩ rfl rfl hl.1 rfl (lv_room (Nat.le_of_ble_eq_true rfl)) dX2_lot_5 ⟨(Nat.le_of_ble_eq_true rfl), (Nat.le_of_ble_eq_true rfl)⟩) (fun X ce q Gx H locs hw hmon hG hce hcv hcl => ?_) (fun r3 G2 H locs hw hmon hG => ?_)
  · exact gleave hlk hG (fun x hx9 => (htab x hx9).elim) hce hcv hcl hw (Nat.le_of_ble_eq_true rfl) (Nat.le_of_ble_eq_true rfl)
  · replace hw := hw hmon
    obtain ⟨q4, hq4, hw⟩ := hw
    refine W.eq (g2 := F0 m 8 ls [.ref q4]) (by rw [hq4]; rfl) ?_
    have hk5 := hw.1
    replace hw := hw.2
    refine va_castS hx hb hown (hts _ q852) (hPF.K.1 5 _ rfl).2 (grecv hPF hG hk5 (by decide) (by decide) rfl) dX2_lot_8 ?_
    exact xretr (v := (some q4)) hx hb hr hlk hG (Or.inl ⟨_, rfl⟩) hw (Nat.le_of_ble_eq_true rfl) (Nat.le_of_ble_eq_true rfl) dX2_lot_11
def gw_X2_kiln (E : gE) (post : Option Nat → Gh → Prop) (px : String → Nat → Gh → Prop) (p0 : Nat) (p1 : Int32) (G : Gh) : Prop := gK G p0 = 2 ∧ (∃ q1, (gR G p0 2) = some q1 ∧ (gw_X2_checked E (fun r3 G2 => gMon G G2 → (∃ q4, r3 = some q4 ∧ (gC G2 q4 = 7 ∧ (post (some q4) G2)))) px q1 p1 G))
theorem hd_X2_kiln : yX2_kiln.cls = RX2 ∧ yX2_kiln.cls ≠ "java/lang/invoke/MethodHandle" ∧ yX2_kiln.cls ≠ "java/lang/invoke/VarHandle" ∧ (parseMethodDescriptor yX2_kiln.desc).map (fun d => d.parameters.length) = some 1 := by decide +kernel
theorem hdn_X2_kiln : yX2_kiln.cls ≠ "java/lang/invoke/MethodHandle" ∧ yX2_kiln.cls ≠ "java/lang/invoke/VarHandle" ∧ (parseMethodDescriptor yX2_kiln.desc).map (fun d => d.parameters.length) = some 1 := hd_X2_kiln.2
theorem hdu_X2_kiln : RX2 ≠ "java/lang/invoke/MethodHandle" ∧ RX2 ≠ "java/lang/invoke/VarHandle" ∧ (parseMethodDescriptor yX2_kiln.desc).map (fun d => d.parameters.length) = some 1 := by decide +kernel
theorem hds_X2_kiln : yX2_kiln.name ≠ "<init>" ∧ (parseMethodDescriptor yX2_kiln.desc).map (fun d => d.parameters.length) = some 1 := by decide +kernel
set_option maxHeartbeats 1000000 in
set_option maxRecDepth 100000 in
theorem gm_X2_kiln (l : Launch) (hlt : l.stackTraces = false) (E : gE) (p0 : Nat) (p1 : Int32) (post : Option Nat → Gh → Prop) (px : String → Nat → Gh → Prop) (G : Gh) (hw : gw_X2_kiln E post px p0 p1 G) : gX l E yX2_kiln (ws_ yX2_kiln cX2_kiln 2 (some (.object "WillowPrinters$Kiln"))) ({ frames := 10, cells := 1, slots := 6, locals := 161 } : Room) 1 6 [.ref p0, .int p1] G (gpr post) px := by
  refine xof (by decide) (Nat.le_of_ble_eq_true rfl) ?_
  intro p e s m below meth c A ls hx hb hr hlk hml hown hin hts hPF hA htab hG hl
  have hl : lv_has ls 2 [(0, .ref p0), (1, .int p1)] := hl
  unfold gw_X2_kiln at hw
  obtain ⟨G0, hG0⟩ : ∃ G0, G0 = G := ⟨_, rfl⟩
  have hG : gS E A G0 s.heap G s.heap [] := by rw [hG0]; exact hG
  rw [show gQ E A G (gpr post) = gQ E A G0 (gpr post) by rw [hG0]]
  rw [show gXC E A G px = gXC E A G0 px by rw [hG0]]
  have h0p0 := hw.1; rw [← hG0] at h0p0
  replace hw := hw.2
  refine lv_aload_n hx hb dX2_kiln_0 rfl (lv_at hl 0 rfl) ?_
  refine gg hx hb hts hown hPF hG 2 2 rfl in_X2 (by decide) (by decide) (by decide) q466 (fun _ h9 => h9) (gC_of (gK_mon hG.1.2 h0p0 (by decide)) (by decide)) (v := va_rf (gR G p0 2)) rfl dX2_kiln_1 ?_
  refine lv_iload_n hx hb dX2_kiln_4 rfl (lv_at hl 1 rfl) ?_
  obtain ⟨q1, hq1, hw⟩ := hw
  refine W.eq (g2 := F0 m 5 ls [.int p1, .ref q1]) (by rw [hq1]; rfl) ?_
  refine xc3r hA hG (vx_runS (As := [.ref q1, .int p1]) (rest := []) ⟨hx, hb, hml, hown, hts⟩ (gm_X2_checked l hlt E q1 p1 _ _ G hw _) (va_cwS 2 hts (lw_S q1091 q1092 q56 q1093) rfl rfl rfl hd_X2_checked ⟨Nat.le_of_ble_eq_true rfl, Nat.le_of_ble_eq_true rfl⟩) ⟨gblind, fun U hU hW => gpre hPF hA hG _ U hU hW⟩ rfl rfl hl.1 rfl (lv_room (Nat.le_of_ble_eq_true rfl)) dX2_kiln_5 ⟨(Nat.le_of_ble_eq_true rfl), (Nat.le_of_ble_eq_true rfl)⟩) (fun X ce q Gx H locs hw hmon hG hce hcv hcl => ?_) (fun r3 G2 H locs hw hmon hG => ?_)
  · exact gleave hlk hG (fun x hx9 => (htab x hx9).elim) hce hcv hcl hw (Nat.le_of_ble_eq_true rfl) (Nat.le_of_ble_eq_true rfl)
  · replace hw := hw hmon
    obtain ⟨q4, hq4, hw⟩ := hw
    refine W.eq (g2 := F0 m 8 ls [.ref q4]) (by rw [hq4]; rfl) ?_
    have hk5 := hw.1
    replace hw := hw.2
    refine va_castS hx hb hown (hts _ q888) (hPF.K.1 7 _ rfl).2 (grecv hPF hG hk5 (by decide) (by decide) rfl) dX2_kiln_8 ?_
    exact xretr (v := (some q4)) hx hb hr hlk hG (Or.inl ⟨_, rfl⟩) hw (Nat.le_of_ble_eq_true rfl) (Nat.le_of_ble_eq_true rfl) dX2_kiln_11
def gw_X2_crate (E : gE) (post : Option Nat → Gh → Prop) (px : String → Nat → Gh → Prop) (p0 : Nat) (p1 : Int32) (G : Gh) : Prop := gK G p0 = 2 ∧ (∃ q1, (gR G p0 3) = some q1 ∧ (gw_X2_checked E (fun r3 G2 => gMon G G2 → (∃ q4, r3 = some q4 ∧ (gC G2 q4 = 8 ∧ (post (some q4) G2)))) px q1 p1 G))
theorem hd_X2_crate : yX2_crate.cls = RX2 ∧ yX2_crate.cls ≠ "java/lang/invoke/MethodHandle" ∧ yX2_crate.cls ≠ "java/lang/invoke/VarHandle" ∧ (parseMethodDescriptor yX2_crate.desc).map (fun d => d.parameters.length) = some 1 := by decide +kernel
theorem hdn_X2_crate : yX2_crate.cls ≠ "java/lang/invoke/MethodHandle" ∧ yX2_crate.cls ≠ "java/lang/invoke/VarHandle" ∧ (parseMethodDescriptor yX2_crate.desc).map (fun d => d.parameters.length) = some 1 := hd_X2_crate.2
theorem hdu_X2_crate : RX2 ≠ "java/lang/invoke/MethodHandle" ∧ RX2 ≠ "java/lang/invoke/VarHandle" ∧ (parseMethodDescriptor yX2_crate.desc).map (fun d => d.parameters.length) = some 1 := by decide +kernel
theorem hds_X2_crate : yX2_crate.name ≠ "<init>" ∧ (parseMethodDescriptor yX2_crate.desc).map (fun d => d.parameters.length) = some 1 := by decide +kernel
set_option maxHeartbeats 1000000 in
set_option maxRecDepth 100000 in
theorem gm_X2_crate (l : Launch) (hlt : l.stackTraces = false) (E : gE) (p0 : Nat) (p1 : Int32) (post : Option Nat → Gh → Prop) (px : String → Nat → Gh → Prop) (G : Gh) (hw : gw_X2_crate E post px p0 p1 G) : gX l E yX2_crate (ws_ yX2_crate cX2_crate 2 (some (.object "WillowPrinters$Crate"))) ({ frames := 10, cells := 1, slots := 6, locals := 161 } : Room) 1 6 [.ref p0, .int p1] G (gpr post) px := by
  refine xof (by decide) (Nat.le_of_ble_eq_true rfl) ?_
  intro p e s m below meth c A ls hx hb hr hlk hml hown hin hts hPF hA htab hG hl
  have hl : lv_has ls 2 [(0, .ref p0), (1, .int p1)] := hl
  unfold gw_X2_crate at hw
  obtain ⟨G0, hG0⟩ : ∃ G0, G0 = G := ⟨_, rfl⟩
  have hG : gS E A G0 s.heap G s.heap [] := by rw [hG0]; exact hG
  rw [show gQ E A G (gpr post) = gQ E A G0 (gpr post) by rw [hG0]]
  rw [show gXC E A G px = gXC E A G0 px by rw [hG0]]
  have h0p0 := hw.1; rw [← hG0] at h0p0
  replace hw := hw.2
  refine lv_aload_n hx hb dX2_crate_0 rfl (lv_at hl 0 rfl) ?_
  refine gg hx hb hts hown hPF hG 2 3 rfl in_X2 (by decide) (by decide) (by decide) q468 (fun _ h9 => h9) (gC_of (gK_mon hG.1.2 h0p0 (by decide)) (by decide)) (v := va_rf (gR G p0 3)) rfl dX2_crate_1 ?_
  refine lv_iload_n hx hb dX2_crate_4 rfl (lv_at hl 1 rfl) ?_
  obtain ⟨q1, hq1, hw⟩ := hw
  refine W.eq (g2 := F0 m 5 ls [.int p1, .ref q1]) (by rw [hq1]; rfl) ?_
  refine xc3r hA hG (vx_runS (As := [.ref q1, .int p1]) (rest := []) ⟨hx, hb, hml, hown, hts⟩ (gm_X2_checked l hlt E q1 p1 _ _ G hw _) (va_cwS 2 hts (lw_S q1091 q1092 q56 q1093) rfl rfl rfl hd_X2_checked ⟨Nat.le_of_ble_eq_true rfl, Nat.le_of_ble_eq_true rfl⟩) ⟨gblind, fun U hU hW => gpre hPF hA hG _ U hU hW⟩ rfl rfl hl.1 rfl (lv_room (Nat.le_of_ble_eq_true rfl)) dX2_crate_5 ⟨(Nat.le_of_ble_eq_true rfl), (Nat.le_of_ble_eq_true rfl)⟩) (fun X ce q Gx H locs hw hmon hG hce hcv hcl => ?_) (fun r3 G2 H locs hw hmon hG => ?_)
  · exact gleave hlk hG (fun x hx9 => (htab x hx9).elim) hce hcv hcl hw (Nat.le_of_ble_eq_true rfl) (Nat.le_of_ble_eq_true rfl)
  · replace hw := hw hmon
    obtain ⟨q4, hq4, hw⟩ := hw
    refine W.eq (g2 := F0 m 8 ls [.ref q4]) (by rw [hq4]; rfl) ?_
    have hk5 := hw.1
    replace hw := hw.2
    refine va_castS hx hb hown (hts _ q910) (hPF.K.1 8 _ rfl).2 (grecv hPF hG hk5 (by decide) (by decide) rfl) dX2_crate_8 ?_
    exact xretr (v := (some q4)) hx hb hr hlk hG (Or.inl ⟨_, rfl⟩) hw (Nat.le_of_ble_eq_true rfl) (Nat.le_of_ble_eq_true rfl) dX2_crate_11
def gw_X5_isAheadOf (E : gE) (post : Int32 → Gh → Prop) (p0 : Nat) (p1 : Nat) (p2 : Int32) (G : Gh) : Prop := gK G p0 = 4 ∧ (gK G p1 = 4 ∧ (gw_X5_well E (fun r2 G1 => gMon G G1 → (gw_X5_well E (fun r4 G3 => gMon G1 G3 → ((r2 = r4 → (((gI G3 p0 2) = (gI G3 p1 2) → (((gI G3 p1 0) ≤ (gI G3 p0 0) → (post 0 G3)) ∧ (¬ (gI G3 p1 0) ≤ (gI G3 p0 0) → (post 1 G3)))) ∧ (¬ (gI G3 p0 2) = (gI G3 p1 2) → (((gI G3 p1 2) ≤ (gI G3 p0 2) → (post 0 G3)) ∧ (¬ (gI G3 p1 2) ≤ (gI G3 p0 2) → (post 1 G3)))))) ∧ (¬ r2 = r4 → (gw_X5_well E (fun r6 G5 => gMon G3 G5 → (gw_X5_well E (fun r8 G7 => gMon G5 G7 → ((r6 ≤ r8 → (post 0 G7)) ∧ (¬ r6 ≤ r8 → (post 1 G7)))) p1 p2 G5)) p0 p2 G3)))) p1 p2 G1)) p0 p2 G))
theorem hd_X5_isAheadOf : yX5_isAheadOf.cls = RX5 ∧ yX5_isAheadOf.cls ≠ "java/lang/invoke/MethodHandle" ∧ yX5_isAheadOf.cls ≠ "java/lang/invoke/VarHandle" ∧ (parseMethodDescriptor yX5_isAheadOf.desc).map (fun d => d.parameters.length) = some 2 := by decide +kernel
theorem hdn_X5_isAheadOf : yX5_isAheadOf.cls ≠ "java/lang/invoke/MethodHandle" ∧ yX5_isAheadOf.cls ≠ "java/lang/invoke/VarHandle" ∧ (parseMethodDescriptor yX5_isAheadOf.desc).map (fun d => d.parameters.length) = some 2 := hd_X5_isAheadOf.2
theorem hdu_X5_isAheadOf : RX5 ≠ "java/lang/invoke/MethodHandle" ∧ RX5 ≠ "java/lang/invoke/VarHandle" ∧ (parseMethodDescriptor yX5_isAheadOf.desc).map (fun d => d.parameters.length) = some 2 := by decide +kernel
theorem hds_X5_isAheadOf : yX5_isAheadOf.name ≠ "<init>" ∧ (parseMethodDescriptor yX5_isAheadOf.desc).map (fun d => d.parameters.length) = some 2 := by decide +kernel
set_option maxHeartbeats 1000000 in
set_option maxRecDepth 100000 in
theorem gm_X5_isAheadOf (l : Launch) (E : gE) (p0 : Nat) (p1 : Nat) (p2 : Int32) (post : Int32 → Gh → Prop) (G : Gh) (hw : gw_X5_isAheadOf E post p0 p1 p2 G) : gM l E yX5_isAheadOf (ws_ yX5_isAheadOf cX5_isAheadOf 3 (some .boolean)) ({ frames := 2, cells := 0, slots := 0, locals := 61 } : Room) 0 0 [.ref p0, .ref p1, .int p2] G (gpi post) := by
  refine gof (by decide) (Nat.le_of_ble_eq_true rfl) ?_
  intro p e s m below meth c A ls hx hb hr hlk hml hown hin hts hPF hA hG hl
  have hl : lv_has ls 3 [(0, .ref p0), (1, .ref p1), (2, .int p2)] := hl
  unfold gw_X5_isAheadOf at hw
  obtain ⟨G0, hG0⟩ : ∃ G0, G0 = G := ⟨_, rfl⟩
  have hG : gS E A G0 s.heap G s.heap [] := by rw [hG0]; exact hG
  rw [show gQ E A G (gpi post) = gQ E A G0 (gpi post) by rw [hG0]]
  have h0p0 := hw.1; rw [← hG0] at h0p0
  replace hw := hw.2
  have h0p1 := hw.1; rw [← hG0] at h0p1
  replace hw := hw.2
  refine lv_aload_n hx hb dX5_isAheadOf_0 rfl (lv_at hl 0 rfl) ?_
  refine lv_iload_n hx hb dX5_isAheadOf_1 rfl (lv_at hl 2 rfl) ?_
  refine gc3i hA hG (va_runV (As := [.int p2]) (rest := []) ⟨hx, hb, hml, hown, hts⟩ (gm_X5_well l E p0 p2 _ G hw _) (cwV 1 hts (lw_V q1157 q1114 q1115 q81 q1116) rfl rfl rfl hd_X5_well ⟨Nat.le_of_ble_eq_true rfl, Nat.le_of_ble_eq_true rfl⟩) ⟨gblind, grecv hPF hG (gC_of (gK_mon hG.1.2 h0p0 (by decide)) (by decide)) (by decide) (by decide) rfl, fun U hU hW => gpre hPF hA hG _ U hU hW⟩ rfl rfl hl.1 rfl (lv_room (Nat.le_of_ble_eq_true rfl)) dX5_isAheadOf_2 ⟨(Nat.le_of_ble_eq_true rfl), (Nat.le_of_ble_eq_true rfl)⟩) (fun r2 G1 H locs hw hmon hG => ?_)
  replace hw := hw hmon
  refine lv_aload_n hx hb dX5_isAheadOf_5 rfl (lv_at hl 1 rfl) ?_
  refine lv_iload_n hx hb dX5_isAheadOf_6 rfl (lv_at hl 2 rfl) ?_
  refine gc3i hA hG (va_runV (As := [.int p2]) (rest := [.int r2]) ⟨hx, hb, hml, hown, hts⟩ (gm_X5_well l E p1 p2 _ G1 hw _) (cwV 1 hts (lw_V q1157 q1114 q1115 q81 q1116) rfl rfl rfl hd_X5_well ⟨Nat.le_of_ble_eq_true rfl, Nat.le_of_ble_eq_true rfl⟩) ⟨gblind, grecv hPF hG (gC_of (gK_mon hG.1.2 h0p1 (by decide)) (by decide)) (by decide) (by decide) rfl, fun U hU hW => gpre hPF hA hG _ U hU hW⟩ rfl rfl hl.1 rfl (lv_room (Nat.le_of_ble_eq_true rfl)) dX5_isAheadOf_7 ⟨(Nat.le_of_ble_eq_true rfl), (Nat.le_of_ble_eq_true rfl)⟩) (fun r4 G3 H locs hw hmon hG => ?_)
  replace hw := hw hmon
  refine lv_icmp_eq (tgt := 32) hx hb dX5_isAheadOf_10 (by decide) (fun c_ => ?_) (fun c_ => ?_)
  · replace hw := hw.1 c_
    refine lv_aload_n hx hb dX5_isAheadOf_32 rfl (lv_at hl 0 rfl) ?_
    refine gg hx hb hts hown hPF hG 4 2 rfl in_X5 (by decide) (by decide) (by decide) q775 (fun _ h9 => h9) (gC_of (gK_mon hG.1.2 h0p0 (by decide)) (by decide)) (v := .int (gI G3 p0 2)) rfl dX5_isAheadOf_33 ?_
    refine lv_aload_n hx hb dX5_isAheadOf_36 rfl (lv_at hl 1 rfl) ?_
    refine gg hx hb hts hown hPF hG 4 2 rfl in_X5 (by decide) (by decide) (by decide) q775 (fun _ h9 => h9) (gC_of (gK_mon hG.1.2 h0p1 (by decide)) (by decide)) (v := .int (gI G3 p1 2)) rfl dX5_isAheadOf_37 ?_
    refine lv_icmp_eq (tgt := 62) hx hb dX5_isAheadOf_40 (by decide) (fun c_ => ?_) (fun c_ => ?_)
    · replace hw := hw.1 c_
      refine lv_aload_n hx hb dX5_isAheadOf_62 rfl (lv_at hl 0 rfl) ?_
      refine gg hx hb hts hown hPF hG 4 0 rfl in_X5 (by decide) (by decide) (by decide) q771 (fun _ h9 => h9) (gC_of (gK_mon hG.1.2 h0p0 (by decide)) (by decide)) (v := .int (gI G3 p0 0)) rfl dX5_isAheadOf_63 ?_
      refine lv_aload_n hx hb dX5_isAheadOf_66 rfl (lv_at hl 1 rfl) ?_
      refine gg hx hb hts hown hPF hG 4 0 rfl in_X5 (by decide) (by decide) (by decide) q771 (fun _ h9 => h9) (gC_of (gK_mon hG.1.2 h0p1 (by decide)) (by decide)) (v := .int (gI G3 p1 0)) rfl dX5_isAheadOf_67 ?_
      refine lv_icmp_ge (tgt := 77) hx hb dX5_isAheadOf_70 (by decide) (fun c_ => ?_) (fun c_ => ?_)
      · replace hw := hw.1 c_
        refine lv_iconst (v := 0) hx hb dX5_isAheadOf_77 (by decide) ?_
        exact greti hx hb hr hlk hG rfl hw (Nat.le_of_ble_eq_true rfl) (Nat.le_of_ble_eq_true rfl) dX5_isAheadOf_78
      · replace hw := hw.2 c_
        refine lv_iconst (v := 1) hx hb dX5_isAheadOf_73 (by decide) ?_
        refine lv_goto (tgt := 78) hx hb dX5_isAheadOf_74 (by decide) ?_
        exact greti hx hb hr hlk hG rfl hw (Nat.le_of_ble_eq_true rfl) (Nat.le_of_ble_eq_true rfl) dX5_isAheadOf_78
    · replace hw := hw.2 c_
      refine lv_aload_n hx hb dX5_isAheadOf_43 rfl (lv_at hl 0 rfl) ?_
      refine gg hx hb hts hown hPF hG 4 2 rfl in_X5 (by decide) (by decide) (by decide) q775 (fun _ h9 => h9) (gC_of (gK_mon hG.1.2 h0p0 (by decide)) (by decide)) (v := .int (gI G3 p0 2)) rfl dX5_isAheadOf_44 ?_
      refine lv_aload_n hx hb dX5_isAheadOf_47 rfl (lv_at hl 1 rfl) ?_
      refine gg hx hb hts hown hPF hG 4 2 rfl in_X5 (by decide) (by decide) (by decide) q775 (fun _ h9 => h9) (gC_of (gK_mon hG.1.2 h0p1 (by decide)) (by decide)) (v := .int (gI G3 p1 2)) rfl dX5_isAheadOf_48 ?_
      refine lv_icmp_ge (tgt := 58) hx hb dX5_isAheadOf_51 (by decide) (fun c_ => ?_) (fun c_ => ?_)
      · replace hw := hw.1 c_
        refine lv_iconst (v := 0) hx hb dX5_isAheadOf_58 (by decide) ?_
        refine lv_goto (tgt := 78) hx hb dX5_isAheadOf_59 (by decide) ?_
        exact greti hx hb hr hlk hG rfl hw (Nat.le_of_ble_eq_true rfl) (Nat.le_of_ble_eq_true rfl) dX5_isAheadOf_78
      · replace hw := hw.2 c_
        refine lv_iconst (v := 1) hx hb dX5_isAheadOf_54 (by decide) ?_
        refine lv_goto (tgt := 78) hx hb dX5_isAheadOf_55 (by decide) ?_
        exact greti hx hb hr hlk hG rfl hw (Nat.le_of_ble_eq_true rfl) (Nat.le_of_ble_eq_true rfl) dX5_isAheadOf_78
  · replace hw := hw.2 c_
    refine lv_aload_n hx hb dX5_isAheadOf_13 rfl (lv_at hl 0 rfl) ?_
    refine lv_iload_n hx hb dX5_isAheadOf_14 rfl (lv_at hl 2 rfl) ?_
    refine gc3i hA hG (va_runV (As := [.int p2]) (rest := []) ⟨hx, hb, hml, hown, hts⟩ (gm_X5_well l E p0 p2 _ G3 hw _) (cwV 1 hts (lw_V q1157 q1114 q1115 q81 q1116) rfl rfl rfl hd_X5_well ⟨Nat.le_of_ble_eq_true rfl, Nat.le_of_ble_eq_true rfl⟩) ⟨gblind, grecv hPF hG (gC_of (gK_mon hG.1.2 h0p0 (by decide)) (by decide)) (by decide) (by decide) rfl, fun U hU hW => gpre hPF hA hG _ U hU hW⟩ rfl rfl hl.1 rfl (lv_room (Nat.le_of_ble_eq_true rfl)) dX5_isAheadOf_15 ⟨(Nat.le_of_ble_eq_true rfl), (Nat.le_of_ble_eq_true rfl)⟩) (fun r6 G5 H locs hw hmon hG => ?_)
    replace hw := hw hmon
    refine lv_aload_n hx hb dX5_isAheadOf_18 rfl (lv_at hl 1 rfl) ?_
    refine lv_iload_n hx hb dX5_isAheadOf_19 rfl (lv_at hl 2 rfl) ?_
    refine gc3i hA hG (va_runV (As := [.int p2]) (rest := [.int r6]) ⟨hx, hb, hml, hown, hts⟩ (gm_X5_well l E p1 p2 _ G5 hw _) (cwV 1 hts (lw_V q1157 q1114 q1115 q81 q1116) rfl rfl rfl hd_X5_well ⟨Nat.le_of_ble_eq_true rfl, Nat.le_of_ble_eq_true rfl⟩) ⟨gblind, grecv hPF hG (gC_of (gK_mon hG.1.2 h0p1 (by decide)) (by decide)) (by decide) (by decide) rfl, fun U hU hW => gpre hPF hA hG _ U hU hW⟩ rfl rfl hl.1 rfl (lv_room (Nat.le_of_ble_eq_true rfl)) dX5_isAheadOf_20 ⟨(Nat.le_of_ble_eq_true rfl), (Nat.le_of_ble_eq_true rfl)⟩) (fun r8 G7 H locs hw hmon hG => ?_)
    replace hw := hw hmon
    refine lv_icmp_le (tgt := 30) hx hb dX5_isAheadOf_23 (by decide) (fun c_ => ?_) (fun c_ => ?_)
    · replace hw := hw.1 c_
      refine lv_iconst (v := 0) hx hb dX5_isAheadOf_30 (by decide) ?_
      exact greti hx hb hr hlk hG rfl hw (Nat.le_of_ble_eq_true rfl) (Nat.le_of_ble_eq_true rfl) dX5_isAheadOf_31
    · replace hw := hw.2 c_
      refine lv_iconst (v := 1) hx hb dX5_isAheadOf_26 (by decide) ?_
      refine lv_goto (tgt := 31) hx hb dX5_isAheadOf_27 (by decide) ?_
      exact greti hx hb hr hlk hG rfl hw (Nat.le_of_ble_eq_true rfl) (Nat.le_of_ble_eq_true rfl) dX5_isAheadOf_31
def gw_X2_bestCopper_L74 (E : gE) (p0 : Nat) (p1 : Nat) (post : Option Nat → Gh → Prop) (k10 : Option Nat → Option Nat → Gh → Prop) (x3 : Option Nat) (t0 : Option Nat) (G : Gh) : Prop := k10 t0 x3 G
def gw_X2_bestCopper_L61 (E : gE) (p0 : Nat) (p1 : Nat) (post : Option Nat → Gh → Prop) (k10 : Option Nat → Option Nat → Gh → Prop) (x2 : Option Nat) (x3 : Option Nat) (x4 : Nat) (t0 : Int32) (G : Gh) : Prop := (t0 = 0 → (gw_X2_bestCopper_L74 E p0 p1 post k10 x3 x2 G)) ∧ (¬ t0 = 0 → (gw_X2_bestCopper_L74 E p0 p1 post k10 x3 (some x4) G))
def gw_X2_bestCopper_L56 (E : gE) (p0 : Nat) (p1 : Nat) (post : Option Nat → Gh → Prop) (k10 : Option Nat → Option Nat → Gh → Prop) (x2 : Option Nat) (x3 : Option Nat) (x4 : Nat) (G : Gh) : Prop := gw_X2_bestCopper_L61 E p0 p1 post k10 x2 x3 x4 1 G
def gw_X2_bestCopper_L60 (E : gE) (p0 : Nat) (p1 : Nat) (post : Option Nat → Gh → Prop) (k10 : Option Nat → Option Nat → Gh → Prop) (x2 : Option Nat) (x3 : Option Nat) (x4 : Nat) (G : Gh) : Prop := gw_X2_bestCopper_L61 E p0 p1 post k10 x2 x3 x4 0 G
def gw_X2_bestCopper_L10 (E : gE) (p0 : Nat) (p1 : Nat) (post : Option Nat → Gh → Prop) : Nat → Option Nat → Option Nat → Gh → Prop
  | 0, _, _, _ => False
  | n + 1, x2, x3, G => ∃ q5, x3 = some q5 ∧ (gC G q5 = 15 ∧ (gw_J18_hasNext E (fun r8 G7 => gMon G G7 → ((r8 = 0 → (post x2 G7)) ∧ (¬ r8 = 0 → (gw_J18_next E (fun r10 G9 => gMon G7 G9 → (∃ q11, r10 = some q11 ∧ (gC G9 q11 = 4 ∧ (gw_X5_can E (fun r14 G13 => gMon G9 G13 → ((r14 = 0 → (gw_X2_bestCopper_L60 E p0 p1 post (fun x2' x3' G' => gw_X2_bestCopper_L10 E p0 p1 post  n x2' x3' G') x2 x3 q11 G13)) ∧ (¬ r14 = 0 → ((x2 = none → (gw_X2_bestCopper_L56 E p0 p1 post (fun x2' x3' G' => gw_X2_bestCopper_L10 E p0 p1 post  n x2' x3' G') x2 x3 q11 G13)) ∧ (∀ q15, x2 = some q15 → (gw_X5_isAheadOf E (fun r17 G16 => gMon G13 G16 → ((r17 = 0 → (gw_X2_bestCopper_L60 E p0 p1 post (fun x2' x3' G' => gw_X2_bestCopper_L10 E p0 p1 post  n x2' x3' G') x2 x3 q11 G16)) ∧ (¬ r17 = 0 → (gw_X2_bestCopper_L56 E p0 p1 post (fun x2' x3' G' => gw_X2_bestCopper_L10 E p0 p1 post  n x2' x3' G') x2 x3 q11 G16)))) q11 q15 (gI G13 p0 6) G13)))))) q11 p1 G9)))) q5 G7)))) q5 G))
def gw_X2_bestCopper (E : gE) (post : Option Nat → Gh → Prop) (p0 : Nat) (p1 : Nat) (G : Gh) : Prop := gK G p0 = 2 ∧ (gK G p1 = 5 ∧ (∃ q1, (gR G p0 0) = some q1 ∧ (gC G q1 = 14 ∧ (gw_J2_iterator E (fun r4 G3 => gMon G G3 → ((∃ n, gw_X2_bestCopper_L10 E p0 p1 post  n none r4 G3))) q1 G))))
theorem hd_X2_bestCopper : yX2_bestCopper.cls = RX2 ∧ yX2_bestCopper.cls ≠ "java/lang/invoke/MethodHandle" ∧ yX2_bestCopper.cls ≠ "java/lang/invoke/VarHandle" ∧ (parseMethodDescriptor yX2_bestCopper.desc).map (fun d => d.parameters.length) = some 1 := by decide +kernel
theorem hdn_X2_bestCopper : yX2_bestCopper.cls ≠ "java/lang/invoke/MethodHandle" ∧ yX2_bestCopper.cls ≠ "java/lang/invoke/VarHandle" ∧ (parseMethodDescriptor yX2_bestCopper.desc).map (fun d => d.parameters.length) = some 1 := hd_X2_bestCopper.2
theorem hdu_X2_bestCopper : RX2 ≠ "java/lang/invoke/MethodHandle" ∧ RX2 ≠ "java/lang/invoke/VarHandle" ∧ (parseMethodDescriptor yX2_bestCopper.desc).map (fun d => d.parameters.length) = some 1 := by decide +kernel
theorem hds_X2_bestCopper : yX2_bestCopper.name ≠ "<init>" ∧ (parseMethodDescriptor yX2_bestCopper.desc).map (fun d => d.parameters.length) = some 1 := by decide +kernel
set_option maxHeartbeats 1000000 in
set_option maxRecDepth 100000 in
theorem gm_X2_bestCopper (l : Launch) (E : gE) (p0 : Nat) (p1 : Nat) (post : Option Nat → Gh → Prop) (G : Gh) (hw : gw_X2_bestCopper E post p0 p1 G) : gM l E yX2_bestCopper (ws_ yX2_bestCopper cX2_bestCopper 6 (some (.object "WillowPrinters$Copper"))) ({ frames := 3, cells := 1, slots := 4, locals := 83 } : Room) 1 4 [.ref p0, .ref p1] G (gpr post) := by
  refine gof (by decide) (Nat.le_of_ble_eq_true rfl) ?_
  intro p e s m below meth c A ls hx hb hr hlk hml hown hin hts hPF hA hG hl
  have hl : lv_has ls 6 [(0, .ref p0), (1, .ref p1)] := hl
  unfold gw_X2_bestCopper at hw
  obtain ⟨G0, hG0⟩ : ∃ G0, G0 = G := ⟨_, rfl⟩
  have hG : gS E A G0 s.heap G s.heap [] := by rw [hG0]; exact hG
  rw [show gQ E A G (gpr post) = gQ E A G0 (gpr post) by rw [hG0]]
  have h0p0 := hw.1; rw [← hG0] at h0p0
  replace hw := hw.2
  have h0p1 := hw.1; rw [← hG0] at h0p1
  replace hw := hw.2
  have hL74 : ∀ (k10 : Option Nat → Option Nat → Gh → Prop) (hk10 : ∀ (x2 : Option Nat) (x3 : Option Nat) (G : Gh) (H : Heap) (locs : List Loc) (ls : Array Slot), gS E A G0 s.heap G H locs → lv_has ls 6 [(0, .ref p0), (1, .ref p1), (2, va_rf x2), (3, va_rf x3)] → k10 x2 x3 G → W p l e (headSpec (ws_ yX2_bestCopper cX2_bestCopper 6 (some (.object "WillowPrinters$Copper"))) ({ frames := 3, cells := 1, slots := 4, locals := 83 } : Room)).room s m ([.ref p0, .ref p1] : List Value).toArray below meth c H locs 1 4 (MQ below (gQ E A G0 (gpr post)) ([.ref p0, .ref p1] : List Value).toArray s 1 4 A) (F0 m 10 ls [])) (x3 : Option Nat) (t0 : Option Nat) (G : Gh) (H : Heap) (locs : List Loc) (ls : Array Slot), gS E A G0 s.heap G H locs → lv_has ls 6 [(0, .ref p0), (1, .ref p1), (3, va_rf x3)] → gw_X2_bestCopper_L74 E p0 p1 post k10 x3 t0 G → W p l e (headSpec (ws_ yX2_bestCopper cX2_bestCopper 6 (some (.object "WillowPrinters$Copper"))) ({ frames := 3, cells := 1, slots := 4, locals := 83 } : Room)).room s m ([.ref p0, .ref p1] : List Value).toArray below meth c H locs 1 4 (MQ below (gQ E A G0 (gpr post)) ([.ref p0, .ref p1] : List Value).toArray s 1 4 A) (F0 m 74 ls [va_rf t0]) := by
    intro k10 hk10 x3 t0 G H locs ls hG hl hw
    unfold gw_X2_bestCopper_L74 at hw
    refine gt_n (i := 2) (lv' := [(2, va_rf t0), (0, .ref p0), (1, .ref p1), (3, va_rf x3)]) hx hb dX2_bestCopper_74 rfl hl (by decide) (by first | rfl | simp [List.filter, va_rf_cat, gcat_i, gcat_r, gcat_l, gcat_d, gcat_f, gcat_n]) (fun ls hl => ?_)
    refine lv_goto (tgt := 10) hx hb dX2_bestCopper_75 (by decide) ?_
    refine W.widen (k := 1) (n := 4) (Nat.le_of_ble_eq_true rfl) (Nat.le_of_ble_eq_true rfl) ?_
    exact hk10 t0 x3 G _ _ ls hG (lv_sub hl [1, 2, 0, 3] rfl) hw
  have hL61 : ∀ (k10 : Option Nat → Option Nat → Gh → Prop) (hk10 : ∀ (x2 : Option Nat) (x3 : Option Nat) (G : Gh) (H : Heap) (locs : List Loc) (ls : Array Slot), gS E A G0 s.heap G H locs → lv_has ls 6 [(0, .ref p0), (1, .ref p1), (2, va_rf x2), (3, va_rf x3)] → k10 x2 x3 G → W p l e (headSpec (ws_ yX2_bestCopper cX2_bestCopper 6 (some (.object "WillowPrinters$Copper"))) ({ frames := 3, cells := 1, slots := 4, locals := 83 } : Room)).room s m ([.ref p0, .ref p1] : List Value).toArray below meth c H locs 1 4 (MQ below (gQ E A G0 (gpr post)) ([.ref p0, .ref p1] : List Value).toArray s 1 4 A) (F0 m 10 ls [])) (x2 : Option Nat) (x3 : Option Nat) (x4 : Nat) (t0 : Int32) (G : Gh) (H : Heap) (locs : List Loc) (ls : Array Slot), gS E A G0 s.heap G H locs → lv_has ls 6 [(0, .ref p0), (1, .ref p1), (2, va_rf x2), (3, va_rf x3), (4, .ref x4)] → gw_X2_bestCopper_L61 E p0 p1 post k10 x2 x3 x4 t0 G → W p l e (headSpec (ws_ yX2_bestCopper cX2_bestCopper 6 (some (.object "WillowPrinters$Copper"))) ({ frames := 3, cells := 1, slots := 4, locals := 83 } : Room)).room s m ([.ref p0, .ref p1] : List Value).toArray below meth c H locs 1 4 (MQ below (gQ E A G0 (gpr post)) ([.ref p0, .ref p1] : List Value).toArray s 1 4 A) (F0 m 61 ls [.int t0]) := by
    intro k10 hk10 x2 x3 x4 t0 G H locs ls hG hl hw
    unfold gw_X2_bestCopper_L61 at hw
    refine lv_istore (lv' := [(5, .int t0), (0, .ref p0), (1, .ref p1), (2, va_rf x2), (3, va_rf x3), (4, .ref x4)]) hx hb dX2_bestCopper_61 hl (by decide) (by first | rfl | simp [List.filter, va_rf_cat, gcat_i, gcat_r, gcat_l, gcat_d, gcat_f, gcat_n]) (fun ls hl => ?_)
    refine lv_iload hx hb dX2_bestCopper_63 (lv_at hl 0 rfl) ?_
    refine lv_if_eq (tgt := 73) hx hb dX2_bestCopper_65 (by decide) (fun c_ => ?_) (fun c_ => ?_)
    · replace hw := hw.1 c_
      refine ga_n hx hb dX2_bestCopper_73 rfl (lv_at hl 3 rfl) ?_
      refine W.widen (k := 1) (n := 4) (Nat.le_of_ble_eq_true rfl) (Nat.le_of_ble_eq_true rfl) ?_
      exact hL74 k10 hk10 x3 x2 G _ _ ls hG (lv_sub hl [1, 2, 4] rfl) hw
    · replace hw := hw.2 c_
      refine lv_aload hx hb dX2_bestCopper_68 (lv_at hl 5 rfl) ?_
      refine lv_goto (tgt := 74) hx hb dX2_bestCopper_70 (by decide) ?_
      refine W.widen (k := 1) (n := 4) (Nat.le_of_ble_eq_true rfl) (Nat.le_of_ble_eq_true rfl) ?_
      exact hL74 k10 hk10 x3 (some x4) G _ _ ls hG (lv_sub hl [1, 2, 4] rfl) hw
  have hL56 : ∀ (k10 : Option Nat → Option Nat → Gh → Prop) (hk10 : ∀ (x2 : Option Nat) (x3 : Option Nat) (G : Gh) (H : Heap) (locs : List Loc) (ls : Array Slot), gS E A G0 s.heap G H locs → lv_has ls 6 [(0, .ref p0), (1, .ref p1), (2, va_rf x2), (3, va_rf x3)] → k10 x2 x3 G → W p l e (headSpec (ws_ yX2_bestCopper cX2_bestCopper 6 (some (.object "WillowPrinters$Copper"))) ({ frames := 3, cells := 1, slots := 4, locals := 83 } : Room)).room s m ([.ref p0, .ref p1] : List Value).toArray below meth c H locs 1 4 (MQ below (gQ E A G0 (gpr post)) ([.ref p0, .ref p1] : List Value).toArray s 1 4 A) (F0 m 10 ls [])) (x2 : Option Nat) (x3 : Option Nat) (x4 : Nat) (G : Gh) (H : Heap) (locs : List Loc) (ls : Array Slot), gS E A G0 s.heap G H locs → lv_has ls 6 [(0, .ref p0), (1, .ref p1), (2, va_rf x2), (3, va_rf x3), (4, .ref x4)] → gw_X2_bestCopper_L56 E p0 p1 post k10 x2 x3 x4 G → W p l e (headSpec (ws_ yX2_bestCopper cX2_bestCopper 6 (some (.object "WillowPrinters$Copper"))) ({ frames := 3, cells := 1, slots := 4, locals := 83 } : Room)).room s m ([.ref p0, .ref p1] : List Value).toArray below meth c H locs 1 4 (MQ below (gQ E A G0 (gpr post)) ([.ref p0, .ref p1] : List Value).toArray s 1 4 A) (F0 m 56 ls []) := by
    intro k10 hk10 x2 x3 x4 G H locs ls hG hl hw
    unfold gw_X2_bestCopper_L56 at hw
    refine lv_iconst (v := 1) hx hb dX2_bestCopper_56 (by decide) ?_
    refine lv_goto (tgt := 61) hx hb dX2_bestCopper_57 (by decide) ?_
    refine W.widen (k := 1) (n := 4) (Nat.le_of_ble_eq_true rfl) (Nat.le_of_ble_eq_true rfl) ?_
    exact hL61 k10 hk10 x2 x3 x4 1 G _ _ ls hG (lv_sub hl [0, 1, 2, 3, 4] rfl) hw
  have hL60 : ∀ (k10 : Option Nat → Option Nat → Gh → Prop) (hk10 : ∀ (x2 : Option Nat) (x3 : Option Nat) (G : Gh) (H : Heap) (locs : List Loc) (ls : Array Slot), gS E A G0 s.heap G H locs → lv_has ls 6 [(0, .ref p0), (1, .ref p1), (2, va_rf x2), (3, va_rf x3)] → k10 x2 x3 G → W p l e (headSpec (ws_ yX2_bestCopper cX2_bestCopper 6 (some (.object "WillowPrinters$Copper"))) ({ frames := 3, cells := 1, slots := 4, locals := 83 } : Room)).room s m ([.ref p0, .ref p1] : List Value).toArray below meth c H locs 1 4 (MQ below (gQ E A G0 (gpr post)) ([.ref p0, .ref p1] : List Value).toArray s 1 4 A) (F0 m 10 ls [])) (x2 : Option Nat) (x3 : Option Nat) (x4 : Nat) (G : Gh) (H : Heap) (locs : List Loc) (ls : Array Slot), gS E A G0 s.heap G H locs → lv_has ls 6 [(0, .ref p0), (1, .ref p1), (2, va_rf x2), (3, va_rf x3), (4, .ref x4)] → gw_X2_bestCopper_L60 E p0 p1 post k10 x2 x3 x4 G → W p l e (headSpec (ws_ yX2_bestCopper cX2_bestCopper 6 (some (.object "WillowPrinters$Copper"))) ({ frames := 3, cells := 1, slots := 4, locals := 83 } : Room)).room s m ([.ref p0, .ref p1] : List Value).toArray below meth c H locs 1 4 (MQ below (gQ E A G0 (gpr post)) ([.ref p0, .ref p1] : List Value).toArray s 1 4 A) (F0 m 60 ls []) := by
    intro k10 hk10 x2 x3 x4 G H locs ls hG hl hw
    unfold gw_X2_bestCopper_L60 at hw
    refine lv_iconst (v := 0) hx hb dX2_bestCopper_60 (by decide) ?_
    refine W.widen (k := 1) (n := 4) (Nat.le_of_ble_eq_true rfl) (Nat.le_of_ble_eq_true rfl) ?_
    exact hL61 k10 hk10 x2 x3 x4 0 G _ _ ls hG (lv_sub hl [0, 1, 2, 3, 4] rfl) hw
  have hL10 : ∀ (n : Nat) (x2 : Option Nat) (x3 : Option Nat) (G : Gh) (H : Heap) (locs : List Loc) (ls : Array Slot), gS E A G0 s.heap G H locs → lv_has ls 6 [(0, .ref p0), (1, .ref p1), (2, va_rf x2), (3, va_rf x3)] → gw_X2_bestCopper_L10 E p0 p1 post n x2 x3 G → W p l e (headSpec (ws_ yX2_bestCopper cX2_bestCopper 6 (some (.object "WillowPrinters$Copper"))) ({ frames := 3, cells := 1, slots := 4, locals := 83 } : Room)).room s m ([.ref p0, .ref p1] : List Value).toArray below meth c H locs 1 4 (MQ below (gQ E A G0 (gpr post)) ([.ref p0, .ref p1] : List Value).toArray s 1 4 A) (F0 m 10 ls []) := by
    intro n
    induction n with
    | zero => exact fun _ _ _ _ _ _ _ _ hw => hw.elim
    | succ n ih =>
      intro x2 x3 G H locs ls hG hl hw
      unfold gw_X2_bestCopper_L10 at hw
      refine ga_n hx hb dX2_bestCopper_10 rfl (lv_at hl 3 rfl) ?_
      obtain ⟨q5, hq5, hw⟩ := hw
      refine W.eq (g2 := F0 m 11 ls [.ref q5]) (by rw [hq5]; rfl) ?_
      have hk6 := hw.1
      replace hw := hw.2
      refine gc5i hA hG (va_runF (hPF.K.1 15 _ rfl).2 (As := []) (rest := []) ⟨hx, hb, hml, hown, hts⟩ (gm_J18_hasNext l E q5 _ G hw _) (va_cwF 0 hts (lw_F q723 q727 q729 q79 q731) rfl rfl rfl (hPF.f 0 rfl) hdx_java_util_Iterator_hasNext ⟨Nat.le_of_ble_eq_true rfl, Nat.le_of_ble_eq_true rfl⟩) ⟨gblind, grecv hPF hG hk6 (by decide) (by decide) rfl, fun U hU hW => gpre hPF hA hG _ U hU hW⟩ rfl rfl hl.1 rfl (lv_room (Nat.le_of_ble_eq_true rfl)) dX2_bestCopper_11 ⟨(Nat.le_of_ble_eq_true rfl), (Nat.le_of_ble_eq_true rfl)⟩) (fun r8 G7 H locs hw hmon hG => ?_)
      replace hw := hw hmon
      have hk6 : gC G7 q5 = 15 := gC_mon hmon hk6 (by decide)
      refine lv_if_eq (tgt := 78) hx hb dX2_bestCopper_16 (by decide) (fun c_ => ?_) (fun c_ => ?_)
      · replace hw := hw.1 c_
        refine ga_n hx hb dX2_bestCopper_78 rfl (lv_at hl 2 rfl) ?_
        exact gretr (v := x2) hx hb hr hlk hG (Or.inl ⟨_, rfl⟩) hw (Nat.le_of_ble_eq_true rfl) (Nat.le_of_ble_eq_true rfl) dX2_bestCopper_79
      · replace hw := hw.2 c_
        refine ga_n hx hb dX2_bestCopper_19 rfl (lv_at hl 3 rfl) ?_
        refine W.eq (g2 := F0 m 20 ls [.ref q5]) (by rw [hq5]; rfl) ?_
        refine gc5r hA hG (va_runF (hPF.K.1 15 _ rfl).2 (As := []) (rest := []) ⟨hx, hb, hml, hown, hts⟩ (gm_J18_next l E q5 _ G7 hw _) (va_cwF 0 hts (lw_F q733 q736 q738 q79 q740) rfl rfl rfl (hPF.f 1 rfl) hdx_java_util_Iterator_next ⟨Nat.le_of_ble_eq_true rfl, Nat.le_of_ble_eq_true rfl⟩) ⟨gblind, grecv hPF hG hk6 (by decide) (by decide) rfl, fun U hU hW => gpre hPF hA hG _ U hU hW⟩ rfl rfl hl.1 rfl (lv_room (Nat.le_of_ble_eq_true rfl)) dX2_bestCopper_20 ⟨(Nat.le_of_ble_eq_true rfl), (Nat.le_of_ble_eq_true rfl)⟩) (fun r10 G9 H locs hw hmon hG => ?_)
        replace hw := hw hmon
        have hk6 : gC G9 q5 = 15 := gC_mon hmon hk6 (by decide)
        obtain ⟨q11, hq11, hw⟩ := hw
        refine W.eq (g2 := F0 m 25 ls [.ref q11]) (by rw [hq11]; rfl) ?_
        have hk12 := hw.1
        replace hw := hw.2
        refine va_castS hx hb hown (hts _ q760) (hPF.K.1 4 _ rfl).2 (grecv hPF hG hk12 (by decide) (by decide) rfl) dX2_bestCopper_25 ?_
        refine lv_astore (lv' := [(4, .ref q11), (0, .ref p0), (1, .ref p1), (2, va_rf x2), (3, va_rf x3)]) hx hb dX2_bestCopper_28 hl (by decide) (by first | rfl | simp [List.filter, va_rf_cat, gcat_i, gcat_r, gcat_l, gcat_d, gcat_f, gcat_n]) (fun ls hl => ?_)
        refine lv_aload hx hb dX2_bestCopper_30 (lv_at hl 0 rfl) ?_
        refine lv_aload_n hx hb dX2_bestCopper_32 rfl (lv_at hl 2 rfl) ?_
        refine gc3i hA hG (va_runV (As := [.ref p1]) (rest := []) ⟨hx, hb, hml, hown, hts⟩ (gm_X5_can l E q11 p1 _ G9 hw _) (cwV 1 hts (lw_V q1149 q1150 q1151 q81 q1152) rfl rfl rfl hd_X5_can ⟨Nat.le_of_ble_eq_true rfl, Nat.le_of_ble_eq_true rfl⟩) ⟨gblind, grecv hPF hG hk12 (by decide) (by decide) rfl, fun U hU hW => gpre hPF hA hG _ U hU hW⟩ rfl rfl hl.1 rfl (lv_room (Nat.le_of_ble_eq_true rfl)) dX2_bestCopper_33 ⟨(Nat.le_of_ble_eq_true rfl), (Nat.le_of_ble_eq_true rfl)⟩) (fun r14 G13 H locs hw hmon hG => ?_)
        replace hw := hw hmon
        have hk6 : gC G13 q5 = 15 := gC_mon hmon hk6 (by decide)
        have hk12 : gC G13 q11 = 4 := gC_mon hmon hk12 (by decide)
        refine lv_if_eq (tgt := 60) hx hb dX2_bestCopper_36 (by decide) (fun c_ => ?_) (fun c_ => ?_)
        · replace hw := hw.1 c_
          refine W.widen (k := 1) (n := 4) (Nat.le_of_ble_eq_true rfl) (Nat.le_of_ble_eq_true rfl) ?_
          exact hL60 (fun x2' x3' G' => gw_X2_bestCopper_L10 E p0 p1 post  n x2' x3' G') (fun x2' x3' G' H locs ls hG hl hw => ih x2' x3' G' H locs ls hG hl hw) x2 x3 q11 G13 _ _ ls hG (lv_sub hl [1, 2, 3, 4, 0] rfl) hw
        · replace hw := hw.2 c_
          refine ga_n hx hb dX2_bestCopper_39 rfl (lv_at hl 3 rfl) ?_
          refine gifnull (tgt := 56) hx hb dX2_bestCopper_40 (by decide) (fun c_ => ?_) (fun q15 hq15 => ?_)
          · replace hw := hw.1 c_
            refine W.widen (k := 1) (n := 4) (Nat.le_of_ble_eq_true rfl) (Nat.le_of_ble_eq_true rfl) ?_
            exact hL56 (fun x2' x3' G' => gw_X2_bestCopper_L10 E p0 p1 post  n x2' x3' G') (fun x2' x3' G' H locs ls hG hl hw => ih x2' x3' G' H locs ls hG hl hw) x2 x3 q11 G13 _ _ ls hG (lv_sub hl [1, 2, 3, 4, 0] rfl) hw
          · replace hw := hw.2 q15 hq15
            refine lv_aload hx hb dX2_bestCopper_43 (lv_at hl 0 rfl) ?_
            refine ga_n hx hb dX2_bestCopper_45 rfl (lv_at hl 3 rfl) ?_
            refine lv_aload_n hx hb dX2_bestCopper_46 rfl (lv_at hl 1 rfl) ?_
            refine gg hx hb hts hown hPF hG 2 6 rfl in_X2 (by decide) (by decide) (by decide) q474 (fun _ h9 => h9) (gC_of (gK_mon hG.1.2 h0p0 (by decide)) (by decide)) (v := .int (gI G13 p0 6)) rfl dX2_bestCopper_47 ?_
            refine W.eq (g2 := F0 m 50 ls [.int (gI G13 p0 6), .ref q15, .ref q11]) (by rw [hq15]; rfl) ?_
            refine gc3i hA hG (va_runV (As := [.ref q15, .int (gI G13 p0 6)]) (rest := []) ⟨hx, hb, hml, hown, hts⟩ (gm_X5_isAheadOf l E q11 q15 (gI G13 p0 6) _ G13 hw _) (cwV 2 hts (lw_V q1153 q1154 q1155 q81 q1156) rfl rfl rfl hd_X5_isAheadOf ⟨Nat.le_of_ble_eq_true rfl, Nat.le_of_ble_eq_true rfl⟩) ⟨gblind, grecv hPF hG hk12 (by decide) (by decide) rfl, fun U hU hW => gpre hPF hA hG _ U hU hW⟩ rfl rfl hl.1 rfl (lv_room (Nat.le_of_ble_eq_true rfl)) dX2_bestCopper_50 ⟨(Nat.le_of_ble_eq_true rfl), (Nat.le_of_ble_eq_true rfl)⟩) (fun r17 G16 H locs hw hmon hG => ?_)
            replace hw := hw hmon
            have hk6 : gC G16 q5 = 15 := gC_mon hmon hk6 (by decide)
            have hk12 : gC G16 q11 = 4 := gC_mon hmon hk12 (by decide)
            refine lv_if_eq (tgt := 60) hx hb dX2_bestCopper_53 (by decide) (fun c_ => ?_) (fun c_ => ?_)
            · replace hw := hw.1 c_
              refine W.widen (k := 1) (n := 4) (Nat.le_of_ble_eq_true rfl) (Nat.le_of_ble_eq_true rfl) ?_
              exact hL60 (fun x2' x3' G' => gw_X2_bestCopper_L10 E p0 p1 post  n x2' x3' G') (fun x2' x3' G' H locs ls hG hl hw => ih x2' x3' G' H locs ls hG hl hw) x2 x3 q11 G16 _ _ ls hG (lv_sub hl [1, 2, 3, 4, 0] rfl) hw
            · replace hw := hw.2 c_
              refine W.widen (k := 1) (n := 4) (Nat.le_of_ble_eq_true rfl) (Nat.le_of_ble_eq_true rfl) ?_
              exact hL56 (fun x2' x3' G' => gw_X2_bestCopper_L10 E p0 p1 post  n x2' x3' G') (fun x2' x3' G' H locs ls hG hl hw => ih x2' x3' G' H locs ls hG hl hw) x2 x3 q11 G16 _ _ ls hG (lv_sub hl [1, 2, 3, 4, 0] rfl) hw
  refine lv_null hx hb dX2_bestCopper_0 ?_
  refine lv_astore_nN (i := 2) (lv' := [(2, .null), (0, .ref p0), (1, .ref p1)]) hx hb dX2_bestCopper_1 rfl hl (by decide) rfl (fun ls hl => ?_)
  refine lv_aload_n hx hb dX2_bestCopper_2 rfl (lv_at hl 1 rfl) ?_
  refine gg hx hb hts hown hPF hG 2 0 rfl in_X2 (by decide) (by decide) (by decide) q462 (fun _ h9 => h9) (gC_of (gK_mon hG.1.2 h0p0 (by decide)) (by decide)) (v := va_rf (gR G p0 0)) rfl dX2_bestCopper_3 ?_
  obtain ⟨q1, hq1, hw⟩ := hw
  refine W.eq (g2 := F0 m 6 ls [.ref q1]) (by rw [hq1]; rfl) ?_
  have hk2 := hw.1
  replace hw := hw.2
  refine gc3r hA hG (va_runV (As := []) (rest := []) ⟨hx, hb, hml, hown, hts⟩ (gm_J2_iterator l E q1 _ G hw _) (cwV 0 hts (lw_V q699 q700 q701 q59 q702) rfl rfl rfl hd_J2_iterator ⟨Nat.le_of_ble_eq_true rfl, Nat.le_of_ble_eq_true rfl⟩) ⟨gblind, grecv hPF hG hk2 (by decide) (by decide) rfl, fun U hU hW => gpre hPF hA hG _ U hU hW⟩ rfl rfl hl.1 rfl (lv_room (Nat.le_of_ble_eq_true rfl)) dX2_bestCopper_6 ⟨(Nat.le_of_ble_eq_true rfl), (Nat.le_of_ble_eq_true rfl)⟩) (fun r4 G3 H locs hw hmon hG => ?_)
  replace hw := hw hmon
  have hk2 : gC G3 q1 = 14 := gC_mon hmon hk2 (by decide)
  refine gt_n (i := 3) (lv' := [(3, va_rf r4), (2, .null), (0, .ref p0), (1, .ref p1)]) hx hb dX2_bestCopper_9 rfl hl (by decide) rfl (fun ls hl => ?_)
  refine W.widen (k := 1) (n := 4) (Nat.le_of_ble_eq_true rfl) (Nat.le_of_ble_eq_true rfl) ?_
  obtain ⟨n0, hw⟩ := hw
  exact hL10  n0 none r4 G3 _ _ ls hG (lv_sub hl [2, 3, 1, 0] rfl) hw
def gw_X2_buyLot_L29 (E : gE) (p0 : Nat) (post : Int32 → Gh → Prop) (px : String → Nat → Gh → Prop) (x1 : Int32) (t0 : Int32) (G : Gh) : Prop := gw_X1_checkState E (fun G8 => gMon G G8 → (gw_X2_pay E (fun G9 => gMon G8 G9 → (∀ G10, G10 = gsI G9 p0 10 ((gI G9 p0 10) + x1) → (∀ q11, gK G10 q11 = 0 → ∀ G12, G12 = gN G10 q11 5 0 → (∃ q13, (gR G12 p0 1) = some q13 ∧ (gC G12 q13 = 14 ∧ (gw_J2_size E (fun r16 G15 => gMon G12 G15 → (gw_X6_init E (fun G17 => gMon G15 G17 → (∃ q18, (gR G10 p0 1) = some q18 ∧ (gw_X2_added E (fun r20 G19 => gMon G17 G19 → (post r20 G19)) q18 q11 G17))) q11 r16 x1 G15)) q13 G12)))))) px p0 ((x1 + 3) / 4) G8)) px t0 G
def gw_X2_buyLot (E : gE) (post : Int32 → Gh → Prop) (px : String → Nat → Gh → Prop) (p0 : Nat) (p1 : Int32) (G : Gh) : Prop := gK G p0 = 2 ∧ (gw_X1_inRange E (fun r2 G1 => gMon G G1 → (gw_X1_checkArgument E (fun G3 => gMon G1 G3 → (∃ q4, (gR G3 p0 1) = some q4 ∧ (gC G3 q4 = 14 ∧ (gw_J2_size E (fun r7 G6 => gMon G3 G6 → ((12 ≤ r7 → (gw_X2_buyLot_L29 E p0 post px  p1 0 G6)) ∧ (¬ 12 ≤ r7 → (gw_X2_buyLot_L29 E p0 post px  p1 1 G6)))) q4 G3)))) px r2 G1)) p1.toInt64 1 30 G)
theorem hd_X2_buyLot : yX2_buyLot.cls = RX2 ∧ yX2_buyLot.cls ≠ "java/lang/invoke/MethodHandle" ∧ yX2_buyLot.cls ≠ "java/lang/invoke/VarHandle" ∧ (parseMethodDescriptor yX2_buyLot.desc).map (fun d => d.parameters.length) = some 1 := by decide +kernel
theorem hdn_X2_buyLot : yX2_buyLot.cls ≠ "java/lang/invoke/MethodHandle" ∧ yX2_buyLot.cls ≠ "java/lang/invoke/VarHandle" ∧ (parseMethodDescriptor yX2_buyLot.desc).map (fun d => d.parameters.length) = some 1 := hd_X2_buyLot.2
theorem hdu_X2_buyLot : RX2 ≠ "java/lang/invoke/MethodHandle" ∧ RX2 ≠ "java/lang/invoke/VarHandle" ∧ (parseMethodDescriptor yX2_buyLot.desc).map (fun d => d.parameters.length) = some 1 := by decide +kernel
theorem hds_X2_buyLot : yX2_buyLot.name ≠ "<init>" ∧ (parseMethodDescriptor yX2_buyLot.desc).map (fun d => d.parameters.length) = some 1 := by decide +kernel
set_option maxHeartbeats 1000000 in
set_option maxRecDepth 100000 in
theorem gm_X2_buyLot (l : Launch) (hlt : l.stackTraces = false) (E : gE) (p0 : Nat) (p1 : Int32) (post : Int32 → Gh → Prop) (px : String → Nat → Gh → Prop) (G : Gh) (hw : gw_X2_buyLot E post px p0 p1 G) : gX l E yX2_buyLot (ws_ yX2_buyLot cX2_buyLot 2 (some .int)) ({ frames := 9, cells := 6, slots := 87, locals := 213 } : Room) 6 87 [.ref p0, .int p1] G (gpi post) px := by
  refine xof (by decide) (Nat.le_of_ble_eq_true rfl) ?_
  intro p e s m below meth c A ls hx hb hr hlk hml hown hin hts hPF hA htab hG hl
  have hl : lv_has ls 2 [(0, .ref p0), (1, .int p1)] := hl
  unfold gw_X2_buyLot at hw
  obtain ⟨G0, hG0⟩ : ∃ G0, G0 = G := ⟨_, rfl⟩
  have hG : gS E A G0 s.heap G s.heap [] := by rw [hG0]; exact hG
  rw [show gQ E A G (gpi post) = gQ E A G0 (gpi post) by rw [hG0]]
  rw [show gXC E A G px = gXC E A G0 px by rw [hG0]]
  have h0p0 := hw.1; rw [← hG0] at h0p0
  replace hw := hw.2
  have hL29 : ∀ (x1 : Int32) (t0 : Int32) (G : Gh) (H : Heap) (locs : List Loc) (ls : Array Slot), gS E A G0 s.heap G H locs → lv_has ls 2 [(0, .ref p0), (1, .int x1)] → gw_X2_buyLot_L29 E p0 post px x1 t0 G → W p l e (headSpec (ws_ yX2_buyLot cX2_buyLot 2 (some .int)) ({ frames := 9, cells := 6, slots := 87, locals := 213 } : Room)).room s m ([.ref p0, .int p1] : List Value).toArray below meth c H locs 1 6 (vx_MQ below (gQ E A G0 (gpi post)) (gXC E A G0 px) ([.ref p0, .int p1] : List Value).toArray s 6 87 A) (F0 m 29 ls [.int t0]) := by
    intro x1 t0 G H locs ls hG hl hw
    unfold gw_X2_buyLot_L29 at hw
    refine xc3v hA hG (vx_runSN (As := [.int t0]) (rest := []) ⟨hx, hb, hml, hown, hts⟩ (gm_X1_checkState l hlt E t0 _ _ G hw _) ⟨va_cnB 1 hts (lw_meth q1051) rfl rfl rfl (hPF.w q1049 rfl) (hts _ q55) hd_X1_checkState ⟨Nat.le_of_ble_eq_true rfl, Nat.le_of_ble_eq_true rfl⟩, hts _ q1050, trivial⟩ ⟨gblind, fun U hU hW => gpre hPF hA hG _ U hU hW⟩ rfl rfl hl.1 rfl (lv_room (Nat.le_of_ble_eq_true rfl)) dX2_buyLot_29 ⟨(Nat.le_of_ble_eq_true rfl), (Nat.le_of_ble_eq_true rfl)⟩) (fun X ce q Gx H locs hw hmon hG hce hcv hcl => ?_) (fun G8 H locs hw hmon hG => ?_)
    · exact gleave hlk hG (fun x hx9 => (htab x hx9).elim) hce hcv hcl hw (Nat.le_of_ble_eq_true rfl) (Nat.le_of_ble_eq_true rfl)
    · replace hw := hw hmon
      refine lv_aload_n hx hb dX2_buyLot_32 rfl (lv_at hl 0 rfl) ?_
      refine lv_iload_n hx hb dX2_buyLot_33 rfl (lv_at hl 1 rfl) ?_
      refine lv_iconst (v := 3) hx hb dX2_buyLot_34 (by decide) ?_
      refine lv_iadd hx hb dX2_buyLot_35 ?_
      refine lv_iconst (v := 4) hx hb dX2_buyLot_36 (by decide) ?_
      refine lv_idiv hx hb dX2_buyLot_37 (by decide) ?_
      refine xc3v hA hG (vx_runV (As := [.int ((x1 + 3) / 4)]) (rest := []) ⟨hx, hb, hml, hown, hts⟩ (gm_X2_pay l hlt E p0 ((x1 + 3) / 4) _ _ G8 hw _) (cwV 1 hts (lw_V q653 q655 qs1 q56 q656) rfl rfl rfl hd_X2_pay ⟨Nat.le_of_ble_eq_true rfl, Nat.le_of_ble_eq_true rfl⟩) ⟨gblind, grecv hPF hG (gC_of (gK_mon hG.1.2 h0p0 (by decide)) (by decide)) (by decide) (by decide) rfl, fun U hU hW => gpre hPF hA hG _ U hU hW⟩ rfl rfl hl.1 rfl (lv_room (Nat.le_of_ble_eq_true rfl)) dX2_buyLot_38 ⟨(Nat.le_of_ble_eq_true rfl), (Nat.le_of_ble_eq_true rfl)⟩) (fun X ce q Gx H locs hw hmon hG hce hcv hcl => ?_) (fun G9 H locs hw hmon hG => ?_)
      · exact gleave hlk hG (fun x hx9 => (htab x hx9).elim) hce hcv hcl hw (Nat.le_of_ble_eq_true rfl) (Nat.le_of_ble_eq_true rfl)
      · replace hw := hw hmon
        refine lv_aload_n hx hb dX2_buyLot_41 rfl (lv_at hl 0 rfl) ?_
        refine lv_dup hx hb dX2_buyLot_42 rfl ?_
        refine gg hx hb hts hown hPF hG 2 10 rfl in_X2 (by decide) (by decide) (by decide) q482 (fun _ h9 => h9) (gC_of (gK_mon hG.1.2 h0p0 (by decide)) (by decide)) (v := .int (gI G9 p0 10)) rfl dX2_buyLot_43 ?_
        refine lv_iload_n hx hb dX2_buyLot_46 rfl (lv_at hl 1 rfl) ?_
        refine lv_iadd hx hb dX2_buyLot_47 ?_
        refine gp hx hb hts hown hPF hG 2 10 rfl in_X2 tyX2 tyX2_ok nmX2 (by decide) (by decide) (by decide) q482 (fun _ h9 => h9) rfl (gK_mon hG.1.2 h0p0 (by decide)) (v := .int ((gI G9 p0 10) + x1)) rfl rfl (G' := gsI G9 p0 10 ((gI G9 p0 10) + x1)) rfl rfl grI_off (Nat.le_of_ble_eq_true rfl) (gFs_I 2 10 (fun _ _ _ => rfl)) dX2_buyLot_48 (fun H locs hG => ?_)
        obtain ⟨G10, eG10⟩ : ∃ z, z = gsI G9 p0 10 ((gI G9 p0 10) + x1) := ⟨_, rfl⟩
        rw [← eG10] at hG
        replace hw := hw G10 eG10
        refine lv_aload_n hx hb dX2_buyLot_51 rfl (lv_at hl 0 rfl) ?_
        refine gg hx hb hts hown hPF hG 2 1 rfl in_X2 (by decide) (by decide) (by decide) q464 (fun _ h9 => h9) (gC_of (gK_mon hG.1.2 h0p0 (by decide)) (by decide)) (v := va_rf (gR G10 p0 1)) rfl dX2_buyLot_52 ?_
        refine gnew (ci := 5) hx hb hts in_X6 tyX6 tyX6_ok hown q852 q858 q82 hPF hG hA rfl (by decide) (by decide) gborn_X6 (Nat.le_of_ble_eq_true rfl) (Nat.le_of_ble_eq_true rfl) dX2_buyLot_55 (fun q11 H h0q11 hG => ?_)
        replace hw := hw q11 h0q11
        obtain ⟨G12, eG12⟩ : ∃ z, z = gN G10 q11 5 0 := ⟨_, rfl⟩
        rw [← eG12] at hG
        replace hw := hw G12 eG12
        have hkq11 : gK G12 q11 = 5 := by rw [eG12]; exact gK_Nq
        refine lv_dup hx hb dX2_buyLot_58 rfl ?_
        refine lv_aload_n hx hb dX2_buyLot_59 rfl (lv_at hl 0 rfl) ?_
        refine gg hx hb hts hown hPF hG 2 1 rfl in_X2 (by decide) (by decide) (by decide) q464 (fun _ h9 => h9) (gC_of (gK_mon hG.1.2 h0p0 (by decide)) (by decide)) (v := va_rf (gR G12 p0 1)) rfl dX2_buyLot_60 ?_
        obtain ⟨q13, hq13, hw⟩ := hw
        refine W.eq (g2 := F0 m 63 ls [.ref q13, .ref q11, .ref q11, va_rf (gR G10 p0 1)]) (by rw [hq13]; rfl) ?_
        have hk14 := hw.1
        replace hw := hw.2
        refine gc3i hA hG (va_runV (As := []) (rest := [.ref q11, .ref q11, va_rf (gR G10 p0 1)]) ⟨hx, hb, hml, hown, hts⟩ (gm_J2_size l E q13 _ G12 hw _) (cwV 0 hts (lw_V q1048 q591 q592 q59 q593) rfl rfl rfl hd_J2_size ⟨Nat.le_of_ble_eq_true rfl, Nat.le_of_ble_eq_true rfl⟩) ⟨gblind, grecv hPF hG hk14 (by decide) (by decide) rfl, fun U hU hW => gpre hPF hA hG _ U hU hW⟩ rfl rfl hl.1 rfl (lv_room (by (try simp only [List.map, va_rf_cat, gcat_i, gcat_r, gcat_l, gcat_d, gcat_f, gcat_n]); exact Nat.le_of_ble_eq_true rfl)) dX2_buyLot_63 ⟨(Nat.le_of_ble_eq_true rfl), (Nat.le_of_ble_eq_true rfl)⟩) (fun r16 G15 H locs hw hmon hG => ?_)
        replace hw := hw hmon
        have hkq11 : gK G15 q11 = 5 := gK_mon hmon hkq11 (by decide)
        have hk14 : gC G15 q13 = 14 := gC_mon hmon hk14 (by decide)
        refine lv_iload_n hx hb dX2_buyLot_66 rfl (lv_at hl 1 rfl) ?_
        refine gc3v hA hG (va_runI (As := [.int r16, .int x1]) (rest := [.ref q11, va_rf (gR G10 p0 1)]) ⟨hx, hb, hml, hown, hts⟩ (gm_X6_init l E q11 r16 x1 _ G15 hw _) (cwI 2 hts (lw_meth q861) rfl rfl rfl (hts _ q82) (hts _ q1177) (hts _ q860) rfl hd_X6_init ⟨Nat.le_of_ble_eq_true rfl, Nat.le_of_ble_eq_true rfl⟩) ⟨gblind, fun U hU hW => gpre hPF hA hG _ U hU hW⟩ rfl rfl hl.1 rfl (lv_room (by (try simp only [List.map, va_rf_cat, gcat_i, gcat_r, gcat_l, gcat_d, gcat_f, gcat_n]); exact Nat.le_of_ble_eq_true rfl)) dX2_buyLot_67 ⟨(Nat.le_of_ble_eq_true rfl), (Nat.le_of_ble_eq_true rfl)⟩) (fun G17 H locs hw hmon hG => ?_)
        replace hw := hw hmon
        have hkq11 : gK G17 q11 = 5 := gK_mon hmon hkq11 (by decide)
        have hk14 : gC G17 q13 = 14 := gC_mon hmon hk14 (by decide)
        obtain ⟨q18, hq18, hw⟩ := hw
        refine W.eq (g2 := F0 m 70 ls [.ref q11, .ref q18]) (by rw [hq18]; rfl) ?_
        refine gc3i hA hG (va_runS (As := [.ref q18, .ref q11]) (rest := []) ⟨hx, hb, hml, hown, hts⟩ (gm_X2_added l E q18 q11 _ G17 hw _) (va_cwS 2 hts (lw_S q1058 q1059 q56 q1060) rfl rfl rfl hd_X2_added ⟨Nat.le_of_ble_eq_true rfl, Nat.le_of_ble_eq_true rfl⟩) ⟨gblind, fun U hU hW => gpre hPF hA hG _ U hU hW⟩ rfl rfl hl.1 rfl (lv_room (Nat.le_of_ble_eq_true rfl)) dX2_buyLot_70 ⟨(Nat.le_of_ble_eq_true rfl), (Nat.le_of_ble_eq_true rfl)⟩) (fun r20 G19 H locs hw hmon hG => ?_)
        replace hw := hw hmon
        have hkq11 : gK G19 q11 = 5 := gK_mon hmon hkq11 (by decide)
        have hk14 : gC G19 q13 = 14 := gC_mon hmon hk14 (by decide)
        exact xreti hx hb hr hlk hG rfl hw (Nat.le_of_ble_eq_true rfl) (Nat.le_of_ble_eq_true rfl) dX2_buyLot_73
  refine lv_iload_n hx hb dX2_buyLot_0 rfl (lv_at hl 1 rfl) ?_
  refine lv_i2l (v := p1.toInt64) hx hb dX2_buyLot_1 rfl ?_
  refine lv_lconst (v := 1) hx hb dX2_buyLot_2 (by decide) ?_
  refine lv_ldc2 (v := 30) hx hb hown (hts _ q1176) dX2_buyLot_3 ?_
  refine gc3i hA hG (va_runSN (As := [.long p1.toInt64, .long 1, .long 30]) (rest := []) ⟨hx, hb, hml, hown, hts⟩ (gm_X1_inRange l E p1.toInt64 1 30 _ G hw _) ⟨va_cnB 3 hts (lw_meth q638) rfl rfl rfl (hPF.w q636 rfl) (hts _ q55) hd_X1_inRange ⟨Nat.le_of_ble_eq_true rfl, Nat.le_of_ble_eq_true rfl⟩, hts _ q637, trivial⟩ ⟨gblind, fun U hU hW => gpre hPF hA hG _ U hU hW⟩ rfl rfl hl.1 rfl (lv_room (Nat.le_of_ble_eq_true rfl)) dX2_buyLot_6 ⟨(Nat.le_of_ble_eq_true rfl), (Nat.le_of_ble_eq_true rfl)⟩) (fun r2 G1 H locs hw hmon hG => ?_)
  replace hw := hw hmon
  refine xc3v hA hG (vx_runSN (As := [.int r2]) (rest := []) ⟨hx, hb, hml, hown, hts⟩ (gm_X1_checkArgument l hlt E r2 _ _ G1 hw _) ⟨va_cnB 1 hts (lw_meth q641) rfl rfl rfl (hPF.w q639 rfl) (hts _ q55) hd_X1_checkArgument ⟨Nat.le_of_ble_eq_true rfl, Nat.le_of_ble_eq_true rfl⟩, hts _ q640, trivial⟩ ⟨gblind, fun U hU hW => gpre hPF hA hG _ U hU hW⟩ rfl rfl hl.1 rfl (lv_room (Nat.le_of_ble_eq_true rfl)) dX2_buyLot_9 ⟨(Nat.le_of_ble_eq_true rfl), (Nat.le_of_ble_eq_true rfl)⟩) (fun X ce q Gx H locs hw hmon hG hce hcv hcl => ?_) (fun G3 H locs hw hmon hG => ?_)
  · exact gleave hlk hG (fun x hx9 => (htab x hx9).elim) hce hcv hcl hw (Nat.le_of_ble_eq_true rfl) (Nat.le_of_ble_eq_true rfl)
  · replace hw := hw hmon
    refine lv_aload_n hx hb dX2_buyLot_12 rfl (lv_at hl 0 rfl) ?_
    refine gg hx hb hts hown hPF hG 2 1 rfl in_X2 (by decide) (by decide) (by decide) q464 (fun _ h9 => h9) (gC_of (gK_mon hG.1.2 h0p0 (by decide)) (by decide)) (v := va_rf (gR G3 p0 1)) rfl dX2_buyLot_13 ?_
    obtain ⟨q4, hq4, hw⟩ := hw
    refine W.eq (g2 := F0 m 16 ls [.ref q4]) (by rw [hq4]; rfl) ?_
    have hk5 := hw.1
    replace hw := hw.2
    refine gc3i hA hG (va_runV (As := []) (rest := []) ⟨hx, hb, hml, hown, hts⟩ (gm_J2_size l E q4 _ G3 hw _) (cwV 0 hts (lw_V q1048 q591 q592 q59 q593) rfl rfl rfl hd_J2_size ⟨Nat.le_of_ble_eq_true rfl, Nat.le_of_ble_eq_true rfl⟩) ⟨gblind, grecv hPF hG hk5 (by decide) (by decide) rfl, fun U hU hW => gpre hPF hA hG _ U hU hW⟩ rfl rfl hl.1 rfl (lv_room (Nat.le_of_ble_eq_true rfl)) dX2_buyLot_16 ⟨(Nat.le_of_ble_eq_true rfl), (Nat.le_of_ble_eq_true rfl)⟩) (fun r7 G6 H locs hw hmon hG => ?_)
    replace hw := hw hmon
    have hk5 : gC G6 q4 = 14 := gC_mon hmon hk5 (by decide)
    refine lv_bipush (v := 12) hx hb dX2_buyLot_19 (by decide) ?_
    refine lv_icmp_ge (tgt := 28) hx hb dX2_buyLot_21 (by decide) (fun c_ => ?_) (fun c_ => ?_)
    · replace hw := hw.1 c_
      refine lv_iconst (v := 0) hx hb dX2_buyLot_28 (by decide) ?_
      refine W.widen (k := 1) (n := 6) (Nat.le_of_ble_eq_true rfl) (Nat.le_of_ble_eq_true rfl) ?_
      exact hL29  p1 0 G6 _ _ ls hG (lv_sub hl [0, 1] rfl) hw
    · replace hw := hw.2 c_
      refine lv_iconst (v := 1) hx hb dX2_buyLot_24 (by decide) ?_
      refine lv_goto (tgt := 29) hx hb dX2_buyLot_25 (by decide) ?_
      refine W.widen (k := 1) (n := 6) (Nat.le_of_ble_eq_true rfl) (Nat.le_of_ble_eq_true rfl) ?_
      exact hL29  p1 1 G6 _ _ ls hG (lv_sub hl [0, 1] rfl) hw
def gw_X2_print_L36 (E : gE) (p0 : Nat) (post : Int32 → Gh → Prop) (px : String → Nat → Gh → Prop) (x3 : Option Nat) (x4 : Option Nat) (t0 : Int32) (G : Gh) : Prop := ∃ q8, x3 = some q8 ∧ (gC G q8 = 5 ∧ (gw_X4_check E (fun G10 => gMon G G10 → (∃ q11, x4 = some q11 ∧ (gC G10 q11 = 4 ∧ (gw_X5_can E (fun r14 G13 => gMon G10 G13 → (gw_X4_check E (fun G15 => gMon G13 G15 → (gw_X5_well E (fun r17 G16 => gMon G15 G16 → (∀ G18, G18 = gsI G16 p0 5 ((gI G16 p0 5) - (gI G16 q8 1)) → (gK G18 q11 = 4 ∧ (∀ G20, G20 = gsI G18 q11 2 ((gI G18 q11 2) + (gI G18 q8 1)) → (∀ G21, G21 = gsI G20 q11 3 ((gI G20 q11 3) + 1) → (∀ q22, gK G21 q22 = 0 → ∀ G23, G23 = gN G21 q22 9 0 → (gw_X11_init E (fun G24 => gMon G23 G24 → (gK G24 q8 = 5 ∧ (∀ G26, G26 = gsR G24 q8 2 (some q22) → (post r17 G26)))) q22 r17 G23))))))) q11 (gI G15 p0 6) G15)) px r14 3 (gI G13 q11 2) G13)) q11 q8 G10)))) px t0 2 ((gI G q8 1) - (gI G p0 5)) G))
def gw_X2_print (E : gE) (post : Int32 → Gh → Prop) (px : String → Nat → Gh → Prop) (p0 : Nat) (p1 : Int32) (p2 : Int32) (G : Gh) : Prop := gK G p0 = 2 ∧ (gw_X2_lot E (fun r2 G1 => gMon G G1 → (gw_X2_copper E (fun r4 G3 => gMon G1 G3 → (∃ q5, r2 = some q5 ∧ (gw_X10_check E (fun G6 => gMon G3 G6 → (gC G6 q5 = 5 ∧ (((gI G6 p0 5) < (gI G6 q5 1) → (gw_X2_print_L36 E p0 post px  r2 r4 0 G6)) ∧ (¬ (gI G6 p0 5) < (gI G6 q5 1) → (gw_X2_print_L36 E p0 post px  r2 r4 1 G6))))) px (eZ E 0) q5 G3))) px p0 p2 G1)) px p0 p1 G)
theorem hd_X2_print : yX2_print.cls = RX2 ∧ yX2_print.cls ≠ "java/lang/invoke/MethodHandle" ∧ yX2_print.cls ≠ "java/lang/invoke/VarHandle" ∧ (parseMethodDescriptor yX2_print.desc).map (fun d => d.parameters.length) = some 2 := by decide +kernel
theorem hdn_X2_print : yX2_print.cls ≠ "java/lang/invoke/MethodHandle" ∧ yX2_print.cls ≠ "java/lang/invoke/VarHandle" ∧ (parseMethodDescriptor yX2_print.desc).map (fun d => d.parameters.length) = some 2 := hd_X2_print.2
theorem hdu_X2_print : RX2 ≠ "java/lang/invoke/MethodHandle" ∧ RX2 ≠ "java/lang/invoke/VarHandle" ∧ (parseMethodDescriptor yX2_print.desc).map (fun d => d.parameters.length) = some 2 := by decide +kernel
theorem hds_X2_print : yX2_print.name ≠ "<init>" ∧ (parseMethodDescriptor yX2_print.desc).map (fun d => d.parameters.length) = some 2 := by decide +kernel
set_option maxHeartbeats 1000000 in
set_option maxRecDepth 100000 in
theorem gm_X2_print (l : Launch) (hlt : l.stackTraces = false) (E : gE) (p0 : Nat) (p1 : Int32) (p2 : Int32) (post : Int32 → Gh → Prop) (px : String → Nat → Gh → Prop) (G : Gh) (hw : gw_X2_print E post px p0 p1 p2 G) : gX l E yX2_print (ws_ yX2_print cX2_print 6 (some .int)) ({ frames := 11, cells := 6, slots := 37, locals := 182 } : Room) 6 37 [.ref p0, .int p1, .int p2] G (gpi post) px := by
  refine xof (by decide) (Nat.le_of_ble_eq_true rfl) ?_
  intro p e s m below meth c A ls hx hb hr hlk hml hown hin hts hPF hA htab hG hl
  have hl : lv_has ls 6 [(0, .ref p0), (1, .int p1), (2, .int p2)] := hl
  unfold gw_X2_print at hw
  obtain ⟨G0, hG0⟩ : ∃ G0, G0 = G := ⟨_, rfl⟩
  have hG : gS E A G0 s.heap G s.heap [] := by rw [hG0]; exact hG
  rw [show gQ E A G (gpi post) = gQ E A G0 (gpi post) by rw [hG0]]
  rw [show gXC E A G px = gXC E A G0 px by rw [hG0]]
  have h0p0 := hw.1; rw [← hG0] at h0p0
  replace hw := hw.2
  have hL36 : ∀ (x3 : Option Nat) (x4 : Option Nat) (t0 : Int32) (G : Gh) (H : Heap) (locs : List Loc) (ls : Array Slot), gS E A G0 s.heap G H locs → lv_has ls 6 [(0, .ref p0), (3, va_rf x3), (4, va_rf x4)] → gw_X2_print_L36 E p0 post px x3 x4 t0 G → W p l e (headSpec (ws_ yX2_print cX2_print 6 (some .int)) ({ frames := 11, cells := 6, slots := 37, locals := 182 } : Room)).room s m ([.ref p0, .int p1, .int p2] : List Value).toArray below meth c H locs 3 20 (vx_MQ below (gQ E A G0 (gpi post)) (gXC E A G0 px) ([.ref p0, .int p1, .int p2] : List Value).toArray s 6 37 A) (F0 m 36 ls [.int t0]) := by
    intro x3 x4 t0 G H locs ls hG hl hw
    unfold gw_X2_print_L36 at hw
    refine lv_iconst (v := 2) hx hb dX2_print_36 (by decide) ?_
    refine ga_n hx hb dX2_print_37 rfl (lv_at hl 1 rfl) ?_
    obtain ⟨q8, hq8, hw⟩ := hw
    refine W.eq (g2 := F0 m 38 ls [.ref q8, .int 2, .int t0]) (by rw [hq8]; rfl) ?_
    have hk9 := hw.1
    replace hw := hw.2
    refine ggN hx hb hts hown hPF hG 5 1 rfl in_X6 (by decide) (by decide) (by decide) q875 (fun _ h9 => h9) hk9 (v := .int (gI G q8 1)) rfl dX2_print_38 ?_
    refine lv_aload_n hx hb dX2_print_41 rfl (lv_at hl 0 rfl) ?_
    refine gg hx hb hts hown hPF hG 2 5 rfl in_X2 (by decide) (by decide) (by decide) q472 (fun _ h9 => h9) (gC_of (gK_mon hG.1.2 h0p0 (by decide)) (by decide)) (v := .int (gI G p0 5)) rfl dX2_print_42 ?_
    refine lv_isub hx hb dX2_print_45 ?_
    refine xc3v hA hG (vx_runS (As := [.int t0, .int 2, .int ((gI G q8 1) - (gI G p0 5))]) (rest := []) ⟨hx, hb, hml, hown, hts⟩ (gm_X4_check l hlt E t0 2 ((gI G q8 1) - (gI G p0 5)) _ _ G hw _) (va_cwS 3 hts (lw_S q657 q658 q78 q659) rfl rfl rfl hd_X4_check ⟨Nat.le_of_ble_eq_true rfl, Nat.le_of_ble_eq_true rfl⟩) ⟨gblind, fun U hU hW => gpre hPF hA hG _ U hU hW⟩ rfl rfl hl.1 rfl (lv_room (Nat.le_of_ble_eq_true rfl)) dX2_print_46 ⟨(Nat.le_of_ble_eq_true rfl), (Nat.le_of_ble_eq_true rfl)⟩) (fun X ce q Gx H locs hw hmon hG hce hcv hcl => ?_) (fun G10 H locs hw hmon hG => ?_)
    · exact gleave hlk hG (fun x hx9 => (htab x hx9).elim) hce hcv hcl hw (Nat.le_of_ble_eq_true rfl) (Nat.le_of_ble_eq_true rfl)
    · replace hw := hw hmon
      have hk9 : gC G10 q8 = 5 := gC_mon hmon hk9 (by decide)
      refine ga_ hx hb dX2_print_49 (lv_at hl 2 rfl) ?_
      refine ga_n hx hb dX2_print_51 rfl (lv_at hl 1 rfl) ?_
      refine W.eq (g2 := F0 m 52 ls [.ref q8, va_rf x4]) (by rw [hq8]; rfl) ?_
      obtain ⟨q11, hq11, hw⟩ := hw
      refine W.eq (g2 := F0 m 52 ls [.ref q8, .ref q11]) (by rw [hq11]; rfl) ?_
      have hk12 := hw.1
      replace hw := hw.2
      refine gc3i hA hG (va_runV (As := [.ref q8]) (rest := []) ⟨hx, hb, hml, hown, hts⟩ (gm_X5_can l E q11 q8 _ G10 hw _) (cwV 1 hts (lw_V q1149 q1150 q1151 q81 q1152) rfl rfl rfl hd_X5_can ⟨Nat.le_of_ble_eq_true rfl, Nat.le_of_ble_eq_true rfl⟩) ⟨gblind, grecv hPF hG hk12 (by decide) (by decide) rfl, fun U hU hW => gpre hPF hA hG _ U hU hW⟩ rfl rfl hl.1 rfl (lv_room (Nat.le_of_ble_eq_true rfl)) dX2_print_52 ⟨(Nat.le_of_ble_eq_true rfl), (Nat.le_of_ble_eq_true rfl)⟩) (fun r14 G13 H locs hw hmon hG => ?_)
      replace hw := hw hmon
      have hk9 : gC G13 q8 = 5 := gC_mon hmon hk9 (by decide)
      have hk12 : gC G13 q11 = 4 := gC_mon hmon hk12 (by decide)
      refine lv_iconst (v := 3) hx hb dX2_print_55 (by decide) ?_
      refine ga_ hx hb dX2_print_56 (lv_at hl 2 rfl) ?_
      refine W.eq (g2 := F0 m 58 ls [.ref q11, .int 3, .int r14]) (by rw [hq11]; rfl) ?_
      refine ggN hx hb hts hown hPF hG 4 2 rfl in_X5 (by decide) (by decide) (by decide) q776 (fun _ h9 => h9) hk12 (v := .int (gI G13 q11 2)) rfl dX2_print_58 ?_
      refine xc3v hA hG (vx_runS (As := [.int r14, .int 3, .int (gI G13 q11 2)]) (rest := []) ⟨hx, hb, hml, hown, hts⟩ (gm_X4_check l hlt E r14 3 (gI G13 q11 2) _ _ G13 hw _) (va_cwS 3 hts (lw_S q657 q658 q78 q659) rfl rfl rfl hd_X4_check ⟨Nat.le_of_ble_eq_true rfl, Nat.le_of_ble_eq_true rfl⟩) ⟨gblind, fun U hU hW => gpre hPF hA hG _ U hU hW⟩ rfl rfl hl.1 rfl (lv_room (Nat.le_of_ble_eq_true rfl)) dX2_print_61 ⟨(Nat.le_of_ble_eq_true rfl), (Nat.le_of_ble_eq_true rfl)⟩) (fun X ce q Gx H locs hw hmon hG hce hcv hcl => ?_) (fun G15 H locs hw hmon hG => ?_)
      · exact gleave hlk hG (fun x hx9 => (htab x hx9).elim) hce hcv hcl hw (Nat.le_of_ble_eq_true rfl) (Nat.le_of_ble_eq_true rfl)
      · replace hw := hw hmon
        have hk9 : gC G15 q8 = 5 := gC_mon hmon hk9 (by decide)
        have hk12 : gC G15 q11 = 4 := gC_mon hmon hk12 (by decide)
        refine ga_ hx hb dX2_print_64 (lv_at hl 2 rfl) ?_
        refine lv_aload_n hx hb dX2_print_66 rfl (lv_at hl 0 rfl) ?_
        refine gg hx hb hts hown hPF hG 2 6 rfl in_X2 (by decide) (by decide) (by decide) q474 (fun _ h9 => h9) (gC_of (gK_mon hG.1.2 h0p0 (by decide)) (by decide)) (v := .int (gI G15 p0 6)) rfl dX2_print_67 ?_
        refine W.eq (g2 := F0 m 70 ls [.int (gI G15 p0 6), .ref q11]) (by rw [hq11]; rfl) ?_
        refine gc3i hA hG (va_runV (As := [.int (gI G15 p0 6)]) (rest := []) ⟨hx, hb, hml, hown, hts⟩ (gm_X5_well l E q11 (gI G15 p0 6) _ G15 hw _) (cwV 1 hts (lw_V q1295 q1114 q1115 q81 q1116) rfl rfl rfl hd_X5_well ⟨Nat.le_of_ble_eq_true rfl, Nat.le_of_ble_eq_true rfl⟩) ⟨gblind, grecv hPF hG hk12 (by decide) (by decide) rfl, fun U hU hW => gpre hPF hA hG _ U hU hW⟩ rfl rfl hl.1 rfl (lv_room (Nat.le_of_ble_eq_true rfl)) dX2_print_70 ⟨(Nat.le_of_ble_eq_true rfl), (Nat.le_of_ble_eq_true rfl)⟩) (fun r17 G16 H locs hw hmon hG => ?_)
        replace hw := hw hmon
        have hk9 : gC G16 q8 = 5 := gC_mon hmon hk9 (by decide)
        have hk12 : gC G16 q11 = 4 := gC_mon hmon hk12 (by decide)
        refine lv_istore (lv' := [(5, .int r17), (0, .ref p0), (3, va_rf x3), (4, va_rf x4)]) hx hb dX2_print_73 hl (by decide) (by first | rfl | simp [List.filter, va_rf_cat, gcat_i, gcat_r, gcat_l, gcat_d, gcat_f, gcat_n]) (fun ls hl => ?_)
        refine lv_aload_n hx hb dX2_print_75 rfl (lv_at hl 1 rfl) ?_
        refine lv_dup hx hb dX2_print_76 rfl ?_
        refine gg hx hb hts hown hPF hG 2 5 rfl in_X2 (by decide) (by decide) (by decide) q472 (fun _ h9 => h9) (gC_of (gK_mon hG.1.2 h0p0 (by decide)) (by decide)) (v := .int (gI G16 p0 5)) rfl dX2_print_77 ?_
        refine ga_n hx hb dX2_print_80 rfl (lv_at hl 2 rfl) ?_
        refine W.eq (g2 := F0 m 81 ls [.ref q8, .int (gI G16 p0 5), .ref p0]) (by rw [hq8]; rfl) ?_
        refine ggN hx hb hts hown hPF hG 5 1 rfl in_X6 (by decide) (by decide) (by decide) q875 (fun _ h9 => h9) hk9 (v := .int (gI G16 q8 1)) rfl dX2_print_81 ?_
        refine lv_isub hx hb dX2_print_84 ?_
        refine gp hx hb hts hown hPF hG 2 5 rfl in_X2 tyX2 tyX2_ok nmX2 (by decide) (by decide) (by decide) q472 (fun _ h9 => h9) rfl (gK_mon hG.1.2 h0p0 (by decide)) (v := .int ((gI G16 p0 5) - (gI G16 q8 1))) rfl rfl (G' := gsI G16 p0 5 ((gI G16 p0 5) - (gI G16 q8 1))) rfl rfl grI_off (Nat.le_of_ble_eq_true rfl) (gFs_I 2 5 (fun _ _ _ => rfl)) dX2_print_85 (fun H locs hG => ?_)
        obtain ⟨G18, eG18⟩ : ∃ z, z = gsI G16 p0 5 ((gI G16 p0 5) - (gI G16 q8 1)) := ⟨_, rfl⟩
        rw [← eG18] at hG
        replace hw := hw G18 eG18
        have hk9 : gC G18 q8 = 5 := by rw [eG18]; exact hk9
        have hk12 : gC G18 q11 = 4 := by rw [eG18]; exact hk12
        refine ga_ hx hb dX2_print_88 (lv_at hl 3 rfl) ?_
        refine lv_dup hx hb dX2_print_90 (va_rf_cat _) ?_
        refine W.eq (g2 := F0 m 91 ls [.ref q11, va_rf x4]) (by rw [hq11]; rfl) ?_
        refine ggN hx hb hts hown hPF hG 4 2 rfl in_X5 (by decide) (by decide) (by decide) q776 (fun _ h9 => h9) hk12 (v := .int (gI G18 q11 2)) rfl dX2_print_91 ?_
        refine ga_n hx hb dX2_print_94 rfl (lv_at hl 2 rfl) ?_
        refine W.eq (g2 := F0 m 95 ls [.ref q8, .int (gI G18 q11 2), va_rf x4]) (by rw [hq8]; rfl) ?_
        refine ggN hx hb hts hown hPF hG 5 1 rfl in_X6 (by decide) (by decide) (by decide) q875 (fun _ h9 => h9) hk9 (v := .int (gI G18 q8 1)) rfl dX2_print_95 ?_
        refine lv_iadd hx hb dX2_print_98 ?_
        refine W.eq (g2 := F0 m 99 ls [.int ((gI G18 q11 2) + (gI G18 q8 1)), .ref q11]) (by rw [hq11]; rfl) ?_
        have hk19 := hw.1
        replace hw := hw.2
        refine gpN hx hb hts hown hPF hG 4 2 rfl in_X5 tyX5 tyX5_ok nmX5 (by decide) (by decide) (by decide) q776 (fun _ h9 => h9) rfl hk19 (v := .int ((gI G18 q11 2) + (gI G18 q8 1))) rfl rfl (G' := gsI G18 q11 2 ((gI G18 q11 2) + (gI G18 q8 1))) rfl rfl grI_off (Nat.le_of_ble_eq_true rfl) (gFs_I 4 2 (fun _ _ _ => rfl)) dX2_print_99 (fun H locs hG => ?_)
        obtain ⟨G20, eG20⟩ : ∃ z, z = gsI G18 q11 2 ((gI G18 q11 2) + (gI G18 q8 1)) := ⟨_, rfl⟩
        rw [← eG20] at hG
        replace hw := hw G20 eG20
        have hk9 : gC G20 q8 = 5 := by rw [eG20]; exact hk9
        have hk12 : gC G20 q11 = 4 := by rw [eG20]; exact hk12
        have hk19 : gK G20 q11 = 4 := by rw [eG20]; exact hk19
        refine ga_ hx hb dX2_print_102 (lv_at hl 3 rfl) ?_
        refine lv_dup hx hb dX2_print_104 (va_rf_cat _) ?_
        refine W.eq (g2 := F0 m 105 ls [.ref q11, va_rf x4]) (by rw [hq11]; rfl) ?_
        refine ggN hx hb hts hown hPF hG 4 3 rfl in_X5 (by decide) (by decide) (by decide) q779 (fun _ h9 => h9) hk12 (v := .int (gI G20 q11 3)) rfl dX2_print_105 ?_
        refine lv_iconst (v := 1) hx hb dX2_print_108 (by decide) ?_
        refine lv_iadd hx hb dX2_print_109 ?_
        refine W.eq (g2 := F0 m 110 ls [.int ((gI G20 q11 3) + 1), .ref q11]) (by rw [hq11]; rfl) ?_
        refine gpN hx hb hts hown hPF hG 4 3 rfl in_X5 tyX5 tyX5_ok nmX5 (by decide) (by decide) (by decide) q779 (fun _ h9 => h9) rfl hk19 (v := .int ((gI G20 q11 3) + 1)) rfl rfl (G' := gsI G20 q11 3 ((gI G20 q11 3) + 1)) rfl rfl grI_off (Nat.le_of_ble_eq_true rfl) (gFs_I 4 3 (fun _ _ _ => rfl)) dX2_print_110 (fun H locs hG => ?_)
        obtain ⟨G21, eG21⟩ : ∃ z, z = gsI G20 q11 3 ((gI G20 q11 3) + 1) := ⟨_, rfl⟩
        rw [← eG21] at hG
        replace hw := hw G21 eG21
        have hk9 : gC G21 q8 = 5 := by rw [eG21]; exact hk9
        have hk12 : gC G21 q11 = 4 := by rw [eG21]; exact hk12
        have hk19 : gK G21 q11 = 4 := by rw [eG21]; exact hk19
        refine ga_n hx hb dX2_print_113 rfl (lv_at hl 2 rfl) ?_
        refine gnew (ci := 9) hx hb hts in_X11 tyX11 tyX11_ok hown q1296 q1297 q93 hPF hG hA rfl (by decide) (by decide) gborn_X11 (Nat.le_of_ble_eq_true rfl) (Nat.le_of_ble_eq_true rfl) dX2_print_114 (fun q22 H h0q22 hG => ?_)
        replace hw := hw q22 h0q22
        obtain ⟨G23, eG23⟩ : ∃ z, z = gN G21 q22 9 0 := ⟨_, rfl⟩
        rw [← eG23] at hG
        replace hw := hw G23 eG23
        have hk9 : gC G23 q8 = 5 := by rw [eG23]; exact gC_N hk9 (by decide) h0q22
        have hk12 : gC G23 q11 = 4 := by rw [eG23]; exact gC_N hk12 (by decide) h0q22
        have hk19 : gK G23 q11 = 4 := by rw [eG23]; exact gK_N hk19 (by decide) h0q22
        have hkq22 : gK G23 q22 = 9 := by rw [eG23]; exact gK_Nq
        refine lv_dup hx hb dX2_print_117 rfl ?_
        refine lv_iload hx hb dX2_print_118 (lv_at hl 0 rfl) ?_
        refine gc3v hA hG (va_runI (As := [.int r17]) (rest := [.ref q22, va_rf x3]) ⟨hx, hb, hml, hown, hts⟩ (gm_X11_init l E q22 r17 _ G23 hw _) (cwI 1 hts (lw_meth q1300) rfl rfl rfl (hts _ q93) (hts _ q1298) (hts _ q1299) rfl hd_X11_init ⟨Nat.le_of_ble_eq_true rfl, Nat.le_of_ble_eq_true rfl⟩) ⟨gblind, fun U hU hW => gpre hPF hA hG _ U hU hW⟩ rfl rfl hl.1 rfl (lv_room (by (try simp only [List.map, va_rf_cat, gcat_i, gcat_r, gcat_l, gcat_d, gcat_f, gcat_n]); exact Nat.le_of_ble_eq_true rfl)) dX2_print_120 ⟨(Nat.le_of_ble_eq_true rfl), (Nat.le_of_ble_eq_true rfl)⟩) (fun G24 H locs hw hmon hG => ?_)
        replace hw := hw hmon
        have hk9 : gC G24 q8 = 5 := gC_mon hmon hk9 (by decide)
        have hk12 : gC G24 q11 = 4 := gC_mon hmon hk12 (by decide)
        have hk19 : gK G24 q11 = 4 := gK_mon hmon hk19 (by decide)
        have hkq22 : gK G24 q22 = 9 := gK_mon hmon hkq22 (by decide)
        refine W.eq (g2 := F0 m 123 ls [.ref q22, .ref q8]) (by rw [hq8]; rfl) ?_
        have hk25 := hw.1
        replace hw := hw.2
        refine gpN hx hb hts hown hPF hG 5 2 rfl in_X6 tyX6 tyX6_ok nmX6 (by decide) (by decide) (by decide) q879 (fun _ h9 => h9) rfl hk25 (v := va_rf (some q22)) (narrow_rf _) (fits_rf _ (by decide)) (G' := gsR G24 q8 2 (some q22)) rfl rfl grR_off (Nat.le_of_ble_eq_true rfl) (gFs_R 5 2 (fun _ _ _ => rfl)) dX2_print_123 (fun H locs hG => ?_)
        obtain ⟨G26, eG26⟩ : ∃ z, z = gsR G24 q8 2 (some q22) := ⟨_, rfl⟩
        rw [← eG26] at hG
        replace hw := hw G26 eG26
        have hk9 : gC G26 q8 = 5 := by rw [eG26]; exact hk9
        have hk12 : gC G26 q11 = 4 := by rw [eG26]; exact hk12
        have hk19 : gK G26 q11 = 4 := by rw [eG26]; exact hk19
        have hkq22 : gK G26 q22 = 9 := by rw [eG26]; exact hkq22
        have hk25 : gK G26 q8 = 5 := by rw [eG26]; exact hk25
        refine lv_iload hx hb dX2_print_126 (lv_at hl 0 rfl) ?_
        exact xreti hx hb hr hlk hG rfl hw (Nat.le_of_ble_eq_true rfl) (Nat.le_of_ble_eq_true rfl) dX2_print_128
  refine lv_aload_n hx hb dX2_print_0 rfl (lv_at hl 0 rfl) ?_
  refine lv_iload_n hx hb dX2_print_1 rfl (lv_at hl 1 rfl) ?_
  refine xc3r hA hG (vx_runV (As := [.int p1]) (rest := []) ⟨hx, hb, hml, hown, hts⟩ (gm_X2_lot l hlt E p0 p1 _ _ G hw _) (cwV 1 hts (lw_V q1280 q1142 q1143 q56 q1144) rfl rfl rfl hd_X2_lot ⟨Nat.le_of_ble_eq_true rfl, Nat.le_of_ble_eq_true rfl⟩) ⟨gblind, grecv hPF hG (gC_of (gK_mon hG.1.2 h0p0 (by decide)) (by decide)) (by decide) (by decide) rfl, fun U hU hW => gpre hPF hA hG _ U hU hW⟩ rfl rfl hl.1 rfl (lv_room (Nat.le_of_ble_eq_true rfl)) dX2_print_2 ⟨(Nat.le_of_ble_eq_true rfl), (Nat.le_of_ble_eq_true rfl)⟩) (fun X ce q Gx H locs hw hmon hG hce hcv hcl => ?_) (fun r2 G1 H locs hw hmon hG => ?_)
  · exact gleave hlk hG (fun x hx9 => (htab x hx9).elim) hce hcv hcl hw (Nat.le_of_ble_eq_true rfl) (Nat.le_of_ble_eq_true rfl)
  · replace hw := hw hmon
    refine gt_n (i := 3) (lv' := [(3, va_rf r2), (0, .ref p0), (1, .int p1), (2, .int p2)]) hx hb dX2_print_5 rfl hl (by decide) rfl (fun ls hl => ?_)
    refine lv_aload_n hx hb dX2_print_6 rfl (lv_at hl 1 rfl) ?_
    refine lv_iload_n hx hb dX2_print_7 rfl (lv_at hl 3 rfl) ?_
    refine xc3r hA hG (vx_runV (As := [.int p2]) (rest := []) ⟨hx, hb, hml, hown, hts⟩ (gm_X2_copper l hlt E p0 p2 _ _ G1 hw _) (cwV 1 hts (lw_V q1281 q1088 q1089 q56 q1090) rfl rfl rfl hd_X2_copper ⟨Nat.le_of_ble_eq_true rfl, Nat.le_of_ble_eq_true rfl⟩) ⟨gblind, grecv hPF hG (gC_of (gK_mon hG.1.2 h0p0 (by decide)) (by decide)) (by decide) (by decide) rfl, fun U hU hW => gpre hPF hA hG _ U hU hW⟩ rfl rfl hl.1 rfl (lv_room (Nat.le_of_ble_eq_true rfl)) dX2_print_8 ⟨(Nat.le_of_ble_eq_true rfl), (Nat.le_of_ble_eq_true rfl)⟩) (fun X ce q Gx H locs hw hmon hG hce hcv hcl => ?_) (fun r4 G3 H locs hw hmon hG => ?_)
    · exact gleave hlk hG (fun x hx9 => (htab x hx9).elim) hce hcv hcl hw (Nat.le_of_ble_eq_true rfl) (Nat.le_of_ble_eq_true rfl)
    · replace hw := hw hmon
      refine gt_ (lv' := [(4, va_rf r4), (3, va_rf r2), (0, .ref p0), (1, .int p1), (2, .int p2)]) hx hb dX2_print_11 hl (by decide) (by first | rfl | simp [List.filter, va_rf_cat, gcat_i, gcat_r, gcat_l, gcat_d, gcat_f, gcat_n]) (fun ls hl => ?_)
      refine va_gets (v := .ref (eZ E 0)) hx hb (hPF.z 1 rfl) hG.2 hown (hts _ q1282) (fun _ h9 => h9) dX2_print_13 ?_
      refine ga_n hx hb dX2_print_16 rfl (lv_at hl 1 rfl) ?_
      obtain ⟨q5, hq5, hw⟩ := hw
      refine W.eq (g2 := F0 m 17 ls [.ref q5, .ref (eZ E 0)]) (by rw [hq5]; rfl) ?_
      refine xc3v hA hG (vx_runV (As := [.ref q5]) (rest := []) ⟨hx, hb, hml, hown, hts⟩ (gm_X10_check l hlt E (eZ E 0) q5 _ _ G3 hw _) (gcwP 1 hts (lw_meth q1290) rfl rfl rfl (hts _ q92) (hts _ q1283) (hts _ q1284) (hts _ q1286) hdn_X10_check ⟨Nat.le_of_ble_eq_true rfl, Nat.le_of_ble_eq_true rfl⟩) ⟨gblind, va_Orecv (hPF.e 0 (by decide)).1 hG.2, fun U hU hW => gpre hPF hA hG _ U hU hW⟩ rfl rfl hl.1 rfl (lv_room (Nat.le_of_ble_eq_true rfl)) dX2_print_17 ⟨(Nat.le_of_ble_eq_true rfl), (Nat.le_of_ble_eq_true rfl)⟩) (fun X ce q Gx H locs hw hmon hG hce hcv hcl => ?_) (fun G6 H locs hw hmon hG => ?_)
      · exact gleave hlk hG (fun x hx9 => (htab x hx9).elim) hce hcv hcl hw (Nat.le_of_ble_eq_true rfl) (Nat.le_of_ble_eq_true rfl)
      · replace hw := hw hmon
        refine lv_aload_n hx hb dX2_print_20 rfl (lv_at hl 2 rfl) ?_
        refine gg hx hb hts hown hPF hG 2 5 rfl in_X2 (by decide) (by decide) (by decide) q472 (fun _ h9 => h9) (gC_of (gK_mon hG.1.2 h0p0 (by decide)) (by decide)) (v := .int (gI G6 p0 5)) rfl dX2_print_21 ?_
        refine ga_n hx hb dX2_print_24 rfl (lv_at hl 1 rfl) ?_
        refine W.eq (g2 := F0 m 25 ls [.ref q5, .int (gI G6 p0 5)]) (by rw [hq5]; rfl) ?_
        have hk7 := hw.1
        replace hw := hw.2
        refine ggN hx hb hts hown hPF hG 5 1 rfl in_X6 (by decide) (by decide) (by decide) q875 (fun _ h9 => h9) hk7 (v := .int (gI G6 q5 1)) rfl dX2_print_25 ?_
        refine lv_icmp_lt (tgt := 35) hx hb dX2_print_28 (by decide) (fun c_ => ?_) (fun c_ => ?_)
        · replace hw := hw.1 c_
          refine lv_iconst (v := 0) hx hb dX2_print_35 (by decide) ?_
          refine W.widen (k := 3) (n := 20) (Nat.le_of_ble_eq_true rfl) (Nat.le_of_ble_eq_true rfl) ?_
          exact hL36  r2 r4 0 G6 _ _ ls hG (lv_sub hl [2, 1, 0] rfl) hw
        · replace hw := hw.2 c_
          refine lv_iconst (v := 1) hx hb dX2_print_31 (by decide) ?_
          refine lv_goto (tgt := 36) hx hb dX2_print_32 (by decide) ?_
          refine W.widen (k := 3) (n := 20) (Nat.le_of_ble_eq_true rfl) (Nat.le_of_ble_eq_true rfl) ?_
          exact hL36  r2 r4 1 G6 _ _ ls hG (lv_sub hl [2, 1, 0] rfl) hw
def gw_X2_addKiln_L30 (E : gE) (p0 : Nat) (post : Int32 → Gh → Prop) (px : String → Nat → Gh → Prop) (x1 : Int32) (t0 : Int32) (G : Gh) : Prop := gw_X1_checkState E (fun G8 => gMon G G8 → (∀ q9, gK G8 q9 = 0 → ∀ G10, G10 = gN G8 q9 7 0 → (gw_X8_init E (fun G11 => gMon G10 G11 → (∃ q12, (gR G8 p0 2) = some q12 ∧ (gw_X2_added E (fun r14 G13 => gMon G11 G13 → (post r14 G13)) q12 q9 G11))) q9 x1 G10))) px t0 G
def gw_X2_addKiln (E : gE) (post : Int32 → Gh → Prop) (px : String → Nat → Gh → Prop) (p0 : Nat) (p1 : Int32) (G : Gh) : Prop := gK G p0 = 2 ∧ (gw_X1_inRange E (fun r2 G1 => gMon G G1 → (gw_X1_checkArgument E (fun G3 => gMon G1 G3 → (∃ q4, (gR G3 p0 2) = some q4 ∧ (gC G3 q4 = 14 ∧ (gw_J2_size E (fun r7 G6 => gMon G3 G6 → ((3 ≤ r7 → (gw_X2_addKiln_L30 E p0 post px  p1 0 G6)) ∧ (¬ 3 ≤ r7 → (gw_X2_addKiln_L30 E p0 post px  p1 1 G6)))) q4 G3)))) px r2 G1)) p1.toInt64 4 40 G)
theorem hd_X2_addKiln : yX2_addKiln.cls = RX2 ∧ yX2_addKiln.cls ≠ "java/lang/invoke/MethodHandle" ∧ yX2_addKiln.cls ≠ "java/lang/invoke/VarHandle" ∧ (parseMethodDescriptor yX2_addKiln.desc).map (fun d => d.parameters.length) = some 1 := by decide +kernel
theorem hdn_X2_addKiln : yX2_addKiln.cls ≠ "java/lang/invoke/MethodHandle" ∧ yX2_addKiln.cls ≠ "java/lang/invoke/VarHandle" ∧ (parseMethodDescriptor yX2_addKiln.desc).map (fun d => d.parameters.length) = some 1 := hd_X2_addKiln.2
theorem hdu_X2_addKiln : RX2 ≠ "java/lang/invoke/MethodHandle" ∧ RX2 ≠ "java/lang/invoke/VarHandle" ∧ (parseMethodDescriptor yX2_addKiln.desc).map (fun d => d.parameters.length) = some 1 := by decide +kernel
theorem hds_X2_addKiln : yX2_addKiln.name ≠ "<init>" ∧ (parseMethodDescriptor yX2_addKiln.desc).map (fun d => d.parameters.length) = some 1 := by decide +kernel
set_option maxHeartbeats 1000000 in
set_option maxRecDepth 100000 in
theorem gm_X2_addKiln (l : Launch) (hlt : l.stackTraces = false) (E : gE) (p0 : Nat) (p1 : Int32) (post : Int32 → Gh → Prop) (px : String → Nat → Gh → Prop) (G : Gh) (hw : gw_X2_addKiln E post px p0 p1 G) : gX l E yX2_addKiln (ws_ yX2_addKiln cX2_addKiln 2 (some .int)) ({ frames := 9, cells := 4, slots := 78, locals := 213 } : Room) 4 78 [.ref p0, .int p1] G (gpi post) px := by
  refine xof (by decide) (Nat.le_of_ble_eq_true rfl) ?_
  intro p e s m below meth c A ls hx hb hr hlk hml hown hin hts hPF hA htab hG hl
  have hl : lv_has ls 2 [(0, .ref p0), (1, .int p1)] := hl
  unfold gw_X2_addKiln at hw
  obtain ⟨G0, hG0⟩ : ∃ G0, G0 = G := ⟨_, rfl⟩
  have hG : gS E A G0 s.heap G s.heap [] := by rw [hG0]; exact hG
  rw [show gQ E A G (gpi post) = gQ E A G0 (gpi post) by rw [hG0]]
  rw [show gXC E A G px = gXC E A G0 px by rw [hG0]]
  have h0p0 := hw.1; rw [← hG0] at h0p0
  replace hw := hw.2
  have hL30 : ∀ (x1 : Int32) (t0 : Int32) (G : Gh) (H : Heap) (locs : List Loc) (ls : Array Slot), gS E A G0 s.heap G H locs → lv_has ls 2 [(0, .ref p0), (1, .int x1)] → gw_X2_addKiln_L30 E p0 post px x1 t0 G → W p l e (headSpec (ws_ yX2_addKiln cX2_addKiln 2 (some .int)) ({ frames := 9, cells := 4, slots := 78, locals := 213 } : Room)).room s m ([.ref p0, .int p1] : List Value).toArray below meth c H locs 1 6 (vx_MQ below (gQ E A G0 (gpi post)) (gXC E A G0 px) ([.ref p0, .int p1] : List Value).toArray s 4 78 A) (F0 m 30 ls [.int t0]) := by
    intro x1 t0 G H locs ls hG hl hw
    unfold gw_X2_addKiln_L30 at hw
    refine xc3v hA hG (vx_runSN (As := [.int t0]) (rest := []) ⟨hx, hb, hml, hown, hts⟩ (gm_X1_checkState l hlt E t0 _ _ G hw _) ⟨va_cnB 1 hts (lw_meth q1051) rfl rfl rfl (hPF.w q1049 rfl) (hts _ q55) hd_X1_checkState ⟨Nat.le_of_ble_eq_true rfl, Nat.le_of_ble_eq_true rfl⟩, hts _ q1050, trivial⟩ ⟨gblind, fun U hU hW => gpre hPF hA hG _ U hU hW⟩ rfl rfl hl.1 rfl (lv_room (Nat.le_of_ble_eq_true rfl)) dX2_addKiln_30 ⟨(Nat.le_of_ble_eq_true rfl), (Nat.le_of_ble_eq_true rfl)⟩) (fun X ce q Gx H locs hw hmon hG hce hcv hcl => ?_) (fun G8 H locs hw hmon hG => ?_)
    · exact gleave hlk hG (fun x hx9 => (htab x hx9).elim) hce hcv hcl hw (Nat.le_of_ble_eq_true rfl) (Nat.le_of_ble_eq_true rfl)
    · replace hw := hw hmon
      refine lv_aload_n hx hb dX2_addKiln_33 rfl (lv_at hl 0 rfl) ?_
      refine gg hx hb hts hown hPF hG 2 2 rfl in_X2 (by decide) (by decide) (by decide) q466 (fun _ h9 => h9) (gC_of (gK_mon hG.1.2 h0p0 (by decide)) (by decide)) (v := va_rf (gR G8 p0 2)) rfl dX2_addKiln_34 ?_
      refine gnew (ci := 7) hx hb hts in_X8 tyX8 tyX8_ok hown q888 q894 q84 hPF hG hA rfl (by decide) (by decide) gborn_X8 (Nat.le_of_ble_eq_true rfl) (Nat.le_of_ble_eq_true rfl) dX2_addKiln_37 (fun q9 H h0q9 hG => ?_)
      replace hw := hw q9 h0q9
      obtain ⟨G10, eG10⟩ : ∃ z, z = gN G8 q9 7 0 := ⟨_, rfl⟩
      rw [← eG10] at hG
      replace hw := hw G10 eG10
      have hkq9 : gK G10 q9 = 7 := by rw [eG10]; exact gK_Nq
      refine lv_dup hx hb dX2_addKiln_40 rfl ?_
      refine lv_iload_n hx hb dX2_addKiln_41 rfl (lv_at hl 1 rfl) ?_
      refine gc3v hA hG (va_runI (As := [.int x1]) (rest := [.ref q9, va_rf (gR G8 p0 2)]) ⟨hx, hb, hml, hown, hts⟩ (gm_X8_init l E q9 x1 _ G10 hw _) (cwI 1 hts (lw_meth q897) rfl rfl rfl (hts _ q84) (hts _ q1321) (hts _ q896) rfl hd_X8_init ⟨Nat.le_of_ble_eq_true rfl, Nat.le_of_ble_eq_true rfl⟩) ⟨gblind, fun U hU hW => gpre hPF hA hG _ U hU hW⟩ rfl rfl hl.1 rfl (lv_room (by (try simp only [List.map, va_rf_cat, gcat_i, gcat_r, gcat_l, gcat_d, gcat_f, gcat_n]); exact Nat.le_of_ble_eq_true rfl)) dX2_addKiln_42 ⟨(Nat.le_of_ble_eq_true rfl), (Nat.le_of_ble_eq_true rfl)⟩) (fun G11 H locs hw hmon hG => ?_)
      replace hw := hw hmon
      have hkq9 : gK G11 q9 = 7 := gK_mon hmon hkq9 (by decide)
      obtain ⟨q12, hq12, hw⟩ := hw
      refine W.eq (g2 := F0 m 45 ls [.ref q9, .ref q12]) (by rw [hq12]; rfl) ?_
      refine gc3i hA hG (va_runS (As := [.ref q12, .ref q9]) (rest := []) ⟨hx, hb, hml, hown, hts⟩ (gm_X2_added l E q12 q9 _ G11 hw _) (va_cwS 2 hts (lw_S q1058 q1059 q56 q1060) rfl rfl rfl hd_X2_added ⟨Nat.le_of_ble_eq_true rfl, Nat.le_of_ble_eq_true rfl⟩) ⟨gblind, fun U hU hW => gpre hPF hA hG _ U hU hW⟩ rfl rfl hl.1 rfl (lv_room (Nat.le_of_ble_eq_true rfl)) dX2_addKiln_45 ⟨(Nat.le_of_ble_eq_true rfl), (Nat.le_of_ble_eq_true rfl)⟩) (fun r14 G13 H locs hw hmon hG => ?_)
      replace hw := hw hmon
      have hkq9 : gK G13 q9 = 7 := gK_mon hmon hkq9 (by decide)
      exact xreti hx hb hr hlk hG rfl hw (Nat.le_of_ble_eq_true rfl) (Nat.le_of_ble_eq_true rfl) dX2_addKiln_48
  refine lv_iload_n hx hb dX2_addKiln_0 rfl (lv_at hl 1 rfl) ?_
  refine lv_i2l (v := p1.toInt64) hx hb dX2_addKiln_1 rfl ?_
  refine lv_ldc2 (v := 4) hx hb hown (hts _ q1319) dX2_addKiln_2 ?_
  refine lv_ldc2 (v := 40) hx hb hown (hts _ q1320) dX2_addKiln_5 ?_
  refine gc3i hA hG (va_runSN (As := [.long p1.toInt64, .long 4, .long 40]) (rest := []) ⟨hx, hb, hml, hown, hts⟩ (gm_X1_inRange l E p1.toInt64 4 40 _ G hw _) ⟨va_cnB 3 hts (lw_meth q638) rfl rfl rfl (hPF.w q636 rfl) (hts _ q55) hd_X1_inRange ⟨Nat.le_of_ble_eq_true rfl, Nat.le_of_ble_eq_true rfl⟩, hts _ q637, trivial⟩ ⟨gblind, fun U hU hW => gpre hPF hA hG _ U hU hW⟩ rfl rfl hl.1 rfl (lv_room (Nat.le_of_ble_eq_true rfl)) dX2_addKiln_8 ⟨(Nat.le_of_ble_eq_true rfl), (Nat.le_of_ble_eq_true rfl)⟩) (fun r2 G1 H locs hw hmon hG => ?_)
  replace hw := hw hmon
  refine xc3v hA hG (vx_runSN (As := [.int r2]) (rest := []) ⟨hx, hb, hml, hown, hts⟩ (gm_X1_checkArgument l hlt E r2 _ _ G1 hw _) ⟨va_cnB 1 hts (lw_meth q641) rfl rfl rfl (hPF.w q639 rfl) (hts _ q55) hd_X1_checkArgument ⟨Nat.le_of_ble_eq_true rfl, Nat.le_of_ble_eq_true rfl⟩, hts _ q640, trivial⟩ ⟨gblind, fun U hU hW => gpre hPF hA hG _ U hU hW⟩ rfl rfl hl.1 rfl (lv_room (Nat.le_of_ble_eq_true rfl)) dX2_addKiln_11 ⟨(Nat.le_of_ble_eq_true rfl), (Nat.le_of_ble_eq_true rfl)⟩) (fun X ce q Gx H locs hw hmon hG hce hcv hcl => ?_) (fun G3 H locs hw hmon hG => ?_)
  · exact gleave hlk hG (fun x hx9 => (htab x hx9).elim) hce hcv hcl hw (Nat.le_of_ble_eq_true rfl) (Nat.le_of_ble_eq_true rfl)
  · replace hw := hw hmon
    refine lv_aload_n hx hb dX2_addKiln_14 rfl (lv_at hl 0 rfl) ?_
    refine gg hx hb hts hown hPF hG 2 2 rfl in_X2 (by decide) (by decide) (by decide) q466 (fun _ h9 => h9) (gC_of (gK_mon hG.1.2 h0p0 (by decide)) (by decide)) (v := va_rf (gR G3 p0 2)) rfl dX2_addKiln_15 ?_
    obtain ⟨q4, hq4, hw⟩ := hw
    refine W.eq (g2 := F0 m 18 ls [.ref q4]) (by rw [hq4]; rfl) ?_
    have hk5 := hw.1
    replace hw := hw.2
    refine gc3i hA hG (va_runV (As := []) (rest := []) ⟨hx, hb, hml, hown, hts⟩ (gm_J2_size l E q4 _ G3 hw _) (cwV 0 hts (lw_V q1048 q591 q592 q59 q593) rfl rfl rfl hd_J2_size ⟨Nat.le_of_ble_eq_true rfl, Nat.le_of_ble_eq_true rfl⟩) ⟨gblind, grecv hPF hG hk5 (by decide) (by decide) rfl, fun U hU hW => gpre hPF hA hG _ U hU hW⟩ rfl rfl hl.1 rfl (lv_room (Nat.le_of_ble_eq_true rfl)) dX2_addKiln_18 ⟨(Nat.le_of_ble_eq_true rfl), (Nat.le_of_ble_eq_true rfl)⟩) (fun r7 G6 H locs hw hmon hG => ?_)
    replace hw := hw hmon
    have hk5 : gC G6 q4 = 14 := gC_mon hmon hk5 (by decide)
    refine lv_iconst (v := 3) hx hb dX2_addKiln_21 (by decide) ?_
    refine lv_icmp_ge (tgt := 29) hx hb dX2_addKiln_22 (by decide) (fun c_ => ?_) (fun c_ => ?_)
    · replace hw := hw.1 c_
      refine lv_iconst (v := 0) hx hb dX2_addKiln_29 (by decide) ?_
      refine W.widen (k := 1) (n := 6) (Nat.le_of_ble_eq_true rfl) (Nat.le_of_ble_eq_true rfl) ?_
      exact hL30  p1 0 G6 _ _ ls hG (lv_sub hl [0, 1] rfl) hw
    · replace hw := hw.2 c_
      refine lv_iconst (v := 1) hx hb dX2_addKiln_25 (by decide) ?_
      refine lv_goto (tgt := 30) hx hb dX2_addKiln_26 (by decide) ?_
      refine W.widen (k := 1) (n := 6) (Nat.le_of_ble_eq_true rfl) (Nat.le_of_ble_eq_true rfl) ?_
      exact hL30  p1 1 G6 _ _ ls hG (lv_sub hl [0, 1] rfl) hw
def gw_X2_lotIn_L45 (E : gE) (p0 : Nat) (post : Option Nat → Gh → Prop) (k10 : Int32 → Option Nat → Option Nat → Gh → Prop) (x1 : Int32) (x3 : Option Nat) (t0 : Option Nat) (G : Gh) : Prop := k10 x1 t0 x3 G
def gw_X2_lotIn_L10 (E : gE) (p0 : Nat) (post : Option Nat → Gh → Prop) : Nat → Int32 → Option Nat → Option Nat → Gh → Prop
  | 0, _, _, _, _ => False
  | n + 1, x1, x2, x3, G => ∃ q5, x3 = some q5 ∧ (gC G q5 = 15 ∧ (gw_J18_hasNext E (fun r8 G7 => gMon G G7 → ((r8 = 0 → (post x2 G7)) ∧ (¬ r8 = 0 → (gw_J18_next E (fun r10 G9 => gMon G7 G9 → (∃ q11, r10 = some q11 ∧ (gC G9 q11 = 5 ∧ (gw_X6_kiln E (fun r14 G13 => gMon G9 G13 → ((¬ r14 = x1 → (gw_X2_lotIn_L45 E p0 post (fun x1' x2' x3' G' => gw_X2_lotIn_L10 E p0 post  n x1' x2' x3' G') x1 x3 x2 G13)) ∧ (r14 = x1 → (gw_X2_lotIn_L45 E p0 post (fun x1' x2' x3' G' => gw_X2_lotIn_L10 E p0 post  n x1' x2' x3' G') x1 x3 (some q11) G13)))) q11 G9)))) q5 G7)))) q5 G))
def gw_X2_lotIn (E : gE) (post : Option Nat → Gh → Prop) (p0 : Nat) (p1 : Int32) (G : Gh) : Prop := gK G p0 = 2 ∧ (∃ q1, (gR G p0 1) = some q1 ∧ (gC G q1 = 14 ∧ (gw_J2_iterator E (fun r4 G3 => gMon G G3 → ((∃ n, gw_X2_lotIn_L10 E p0 post  n p1 none r4 G3))) q1 G)))
theorem hd_X2_lotIn : yX2_lotIn.cls = RX2 ∧ yX2_lotIn.cls ≠ "java/lang/invoke/MethodHandle" ∧ yX2_lotIn.cls ≠ "java/lang/invoke/VarHandle" ∧ (parseMethodDescriptor yX2_lotIn.desc).map (fun d => d.parameters.length) = some 1 := by decide +kernel
theorem hdn_X2_lotIn : yX2_lotIn.cls ≠ "java/lang/invoke/MethodHandle" ∧ yX2_lotIn.cls ≠ "java/lang/invoke/VarHandle" ∧ (parseMethodDescriptor yX2_lotIn.desc).map (fun d => d.parameters.length) = some 1 := hd_X2_lotIn.2
theorem hdu_X2_lotIn : RX2 ≠ "java/lang/invoke/MethodHandle" ∧ RX2 ≠ "java/lang/invoke/VarHandle" ∧ (parseMethodDescriptor yX2_lotIn.desc).map (fun d => d.parameters.length) = some 1 := by decide +kernel
theorem hds_X2_lotIn : yX2_lotIn.name ≠ "<init>" ∧ (parseMethodDescriptor yX2_lotIn.desc).map (fun d => d.parameters.length) = some 1 := by decide +kernel
set_option maxHeartbeats 1000000 in
set_option maxRecDepth 100000 in
theorem gm_X2_lotIn (l : Launch) (E : gE) (p0 : Nat) (p1 : Int32) (post : Option Nat → Gh → Prop) (G : Gh) (hw : gw_X2_lotIn E post p0 p1 G) : gM l E yX2_lotIn (ws_ yX2_lotIn cX2_lotIn 5 (some (.object "WillowPrinters$Lot"))) ({ frames := 3, cells := 1, slots := 4, locals := 71 } : Room) 1 4 [.ref p0, .int p1] G (gpr post) := by
  refine gof (by decide) (Nat.le_of_ble_eq_true rfl) ?_
  intro p e s m below meth c A ls hx hb hr hlk hml hown hin hts hPF hA hG hl
  have hl : lv_has ls 5 [(0, .ref p0), (1, .int p1)] := hl
  unfold gw_X2_lotIn at hw
  obtain ⟨G0, hG0⟩ : ∃ G0, G0 = G := ⟨_, rfl⟩
  have hG : gS E A G0 s.heap G s.heap [] := by rw [hG0]; exact hG
  rw [show gQ E A G (gpr post) = gQ E A G0 (gpr post) by rw [hG0]]
  have h0p0 := hw.1; rw [← hG0] at h0p0
  replace hw := hw.2
  have hL45 : ∀ (k10 : Int32 → Option Nat → Option Nat → Gh → Prop) (hk10 : ∀ (x1 : Int32) (x2 : Option Nat) (x3 : Option Nat) (G : Gh) (H : Heap) (locs : List Loc) (ls : Array Slot), gS E A G0 s.heap G H locs → lv_has ls 5 [(1, .int x1), (2, va_rf x2), (3, va_rf x3)] → k10 x1 x2 x3 G → W p l e (headSpec (ws_ yX2_lotIn cX2_lotIn 5 (some (.object "WillowPrinters$Lot"))) ({ frames := 3, cells := 1, slots := 4, locals := 71 } : Room)).room s m ([.ref p0, .int p1] : List Value).toArray below meth c H locs 1 4 (MQ below (gQ E A G0 (gpr post)) ([.ref p0, .int p1] : List Value).toArray s 1 4 A) (F0 m 10 ls [])) (x1 : Int32) (x3 : Option Nat) (t0 : Option Nat) (G : Gh) (H : Heap) (locs : List Loc) (ls : Array Slot), gS E A G0 s.heap G H locs → lv_has ls 5 [(1, .int x1), (3, va_rf x3)] → gw_X2_lotIn_L45 E p0 post k10 x1 x3 t0 G → W p l e (headSpec (ws_ yX2_lotIn cX2_lotIn 5 (some (.object "WillowPrinters$Lot"))) ({ frames := 3, cells := 1, slots := 4, locals := 71 } : Room)).room s m ([.ref p0, .int p1] : List Value).toArray below meth c H locs 1 4 (MQ below (gQ E A G0 (gpr post)) ([.ref p0, .int p1] : List Value).toArray s 1 4 A) (F0 m 45 ls [va_rf t0]) := by
    intro k10 hk10 x1 x3 t0 G H locs ls hG hl hw
    unfold gw_X2_lotIn_L45 at hw
    refine gt_n (i := 2) (lv' := [(2, va_rf t0), (1, .int x1), (3, va_rf x3)]) hx hb dX2_lotIn_45 rfl hl (by decide) (by first | rfl | simp [List.filter, va_rf_cat, gcat_i, gcat_r, gcat_l, gcat_d, gcat_f, gcat_n]) (fun ls hl => ?_)
    refine lv_goto (tgt := 10) hx hb dX2_lotIn_46 (by decide) ?_
    refine W.widen (k := 1) (n := 4) (Nat.le_of_ble_eq_true rfl) (Nat.le_of_ble_eq_true rfl) ?_
    exact hk10 x1 t0 x3 G _ _ ls hG (lv_sub hl [1, 0, 2] rfl) hw
  have hL10 : ∀ (n : Nat) (x1 : Int32) (x2 : Option Nat) (x3 : Option Nat) (G : Gh) (H : Heap) (locs : List Loc) (ls : Array Slot), gS E A G0 s.heap G H locs → lv_has ls 5 [(1, .int x1), (2, va_rf x2), (3, va_rf x3)] → gw_X2_lotIn_L10 E p0 post n x1 x2 x3 G → W p l e (headSpec (ws_ yX2_lotIn cX2_lotIn 5 (some (.object "WillowPrinters$Lot"))) ({ frames := 3, cells := 1, slots := 4, locals := 71 } : Room)).room s m ([.ref p0, .int p1] : List Value).toArray below meth c H locs 1 4 (MQ below (gQ E A G0 (gpr post)) ([.ref p0, .int p1] : List Value).toArray s 1 4 A) (F0 m 10 ls []) := by
    intro n
    induction n with
    | zero => exact fun _ _ _ _ _ _ _ _ _ hw => hw.elim
    | succ n ih =>
      intro x1 x2 x3 G H locs ls hG hl hw
      unfold gw_X2_lotIn_L10 at hw
      refine ga_n hx hb dX2_lotIn_10 rfl (lv_at hl 2 rfl) ?_
      obtain ⟨q5, hq5, hw⟩ := hw
      refine W.eq (g2 := F0 m 11 ls [.ref q5]) (by rw [hq5]; rfl) ?_
      have hk6 := hw.1
      replace hw := hw.2
      refine gc5i hA hG (va_runF (hPF.K.1 15 _ rfl).2 (As := []) (rest := []) ⟨hx, hb, hml, hown, hts⟩ (gm_J18_hasNext l E q5 _ G hw _) (va_cwF 0 hts (lw_F q723 q727 q729 q79 q731) rfl rfl rfl (hPF.f 0 rfl) hdx_java_util_Iterator_hasNext ⟨Nat.le_of_ble_eq_true rfl, Nat.le_of_ble_eq_true rfl⟩) ⟨gblind, grecv hPF hG hk6 (by decide) (by decide) rfl, fun U hU hW => gpre hPF hA hG _ U hU hW⟩ rfl rfl hl.1 rfl (lv_room (Nat.le_of_ble_eq_true rfl)) dX2_lotIn_11 ⟨(Nat.le_of_ble_eq_true rfl), (Nat.le_of_ble_eq_true rfl)⟩) (fun r8 G7 H locs hw hmon hG => ?_)
      replace hw := hw hmon
      have hk6 : gC G7 q5 = 15 := gC_mon hmon hk6 (by decide)
      refine lv_if_eq (tgt := 49) hx hb dX2_lotIn_16 (by decide) (fun c_ => ?_) (fun c_ => ?_)
      · replace hw := hw.1 c_
        refine ga_n hx hb dX2_lotIn_49 rfl (lv_at hl 1 rfl) ?_
        exact gretr (v := x2) hx hb hr hlk hG (Or.inl ⟨_, rfl⟩) hw (Nat.le_of_ble_eq_true rfl) (Nat.le_of_ble_eq_true rfl) dX2_lotIn_50
      · replace hw := hw.2 c_
        refine ga_n hx hb dX2_lotIn_19 rfl (lv_at hl 2 rfl) ?_
        refine W.eq (g2 := F0 m 20 ls [.ref q5]) (by rw [hq5]; rfl) ?_
        refine gc5r hA hG (va_runF (hPF.K.1 15 _ rfl).2 (As := []) (rest := []) ⟨hx, hb, hml, hown, hts⟩ (gm_J18_next l E q5 _ G7 hw _) (va_cwF 0 hts (lw_F q733 q736 q738 q79 q740) rfl rfl rfl (hPF.f 1 rfl) hdx_java_util_Iterator_next ⟨Nat.le_of_ble_eq_true rfl, Nat.le_of_ble_eq_true rfl⟩) ⟨gblind, grecv hPF hG hk6 (by decide) (by decide) rfl, fun U hU hW => gpre hPF hA hG _ U hU hW⟩ rfl rfl hl.1 rfl (lv_room (Nat.le_of_ble_eq_true rfl)) dX2_lotIn_20 ⟨(Nat.le_of_ble_eq_true rfl), (Nat.le_of_ble_eq_true rfl)⟩) (fun r10 G9 H locs hw hmon hG => ?_)
        replace hw := hw hmon
        have hk6 : gC G9 q5 = 15 := gC_mon hmon hk6 (by decide)
        obtain ⟨q11, hq11, hw⟩ := hw
        refine W.eq (g2 := F0 m 25 ls [.ref q11]) (by rw [hq11]; rfl) ?_
        have hk12 := hw.1
        replace hw := hw.2
        refine va_castS hx hb hown (hts _ q852) (hPF.K.1 5 _ rfl).2 (grecv hPF hG hk12 (by decide) (by decide) rfl) dX2_lotIn_25 ?_
        refine lv_astore (lv' := [(4, .ref q11), (1, .int x1), (2, va_rf x2), (3, va_rf x3)]) hx hb dX2_lotIn_28 hl (by decide) (by first | rfl | simp [List.filter, va_rf_cat, gcat_i, gcat_r, gcat_l, gcat_d, gcat_f, gcat_n]) (fun ls hl => ?_)
        refine lv_aload hx hb dX2_lotIn_30 (lv_at hl 0 rfl) ?_
        refine gc3i hA hG (va_runV (As := []) (rest := []) ⟨hx, hb, hml, hown, hts⟩ (gm_X6_kiln l E q11 _ G9 hw _) (cwV 0 hts (lw_V q1337 q1254 q1255 q82 q1256) rfl rfl rfl hd_X6_kiln ⟨Nat.le_of_ble_eq_true rfl, Nat.le_of_ble_eq_true rfl⟩) ⟨gblind, grecv hPF hG hk12 (by decide) (by decide) rfl, fun U hU hW => gpre hPF hA hG _ U hU hW⟩ rfl rfl hl.1 rfl (lv_room (Nat.le_of_ble_eq_true rfl)) dX2_lotIn_32 ⟨(Nat.le_of_ble_eq_true rfl), (Nat.le_of_ble_eq_true rfl)⟩) (fun r14 G13 H locs hw hmon hG => ?_)
        replace hw := hw hmon
        have hk6 : gC G13 q5 = 15 := gC_mon hmon hk6 (by decide)
        have hk12 : gC G13 q11 = 5 := gC_mon hmon hk12 (by decide)
        refine lv_iload_n hx hb dX2_lotIn_35 rfl (lv_at hl 1 rfl) ?_
        refine lv_icmp_ne (tgt := 44) hx hb dX2_lotIn_36 (by decide) (fun c_ => ?_) (fun c_ => ?_)
        · replace hw := hw.1 c_
          refine ga_n hx hb dX2_lotIn_44 rfl (lv_at hl 2 rfl) ?_
          refine W.widen (k := 1) (n := 4) (Nat.le_of_ble_eq_true rfl) (Nat.le_of_ble_eq_true rfl) ?_
          exact hL45 (fun x1' x2' x3' G' => gw_X2_lotIn_L10 E p0 post  n x1' x2' x3' G') (fun x1' x2' x3' G' H locs ls hG hl hw => ih x1' x2' x3' G' H locs ls hG hl hw) x1 x3 x2 G13 _ _ ls hG (lv_sub hl [1, 3] rfl) hw
        · replace hw := hw.2 c_
          refine lv_aload hx hb dX2_lotIn_39 (lv_at hl 0 rfl) ?_
          refine lv_goto (tgt := 45) hx hb dX2_lotIn_41 (by decide) ?_
          refine W.widen (k := 1) (n := 4) (Nat.le_of_ble_eq_true rfl) (Nat.le_of_ble_eq_true rfl) ?_
          exact hL45 (fun x1' x2' x3' G' => gw_X2_lotIn_L10 E p0 post  n x1' x2' x3' G') (fun x1' x2' x3' G' H locs ls hG hl hw => ih x1' x2' x3' G' H locs ls hG hl hw) x1 x3 (some q11) G13 _ _ ls hG (lv_sub hl [1, 3] rfl) hw
  refine lv_null hx hb dX2_lotIn_0 ?_
  refine lv_astore_nN (i := 2) (lv' := [(2, .null), (0, .ref p0), (1, .int p1)]) hx hb dX2_lotIn_1 rfl hl (by decide) rfl (fun ls hl => ?_)
  refine lv_aload_n hx hb dX2_lotIn_2 rfl (lv_at hl 1 rfl) ?_
  refine gg hx hb hts hown hPF hG 2 1 rfl in_X2 (by decide) (by decide) (by decide) q464 (fun _ h9 => h9) (gC_of (gK_mon hG.1.2 h0p0 (by decide)) (by decide)) (v := va_rf (gR G p0 1)) rfl dX2_lotIn_3 ?_
  obtain ⟨q1, hq1, hw⟩ := hw
  refine W.eq (g2 := F0 m 6 ls [.ref q1]) (by rw [hq1]; rfl) ?_
  have hk2 := hw.1
  replace hw := hw.2
  refine gc3r hA hG (va_runV (As := []) (rest := []) ⟨hx, hb, hml, hown, hts⟩ (gm_J2_iterator l E q1 _ G hw _) (cwV 0 hts (lw_V q699 q700 q701 q59 q702) rfl rfl rfl hd_J2_iterator ⟨Nat.le_of_ble_eq_true rfl, Nat.le_of_ble_eq_true rfl⟩) ⟨gblind, grecv hPF hG hk2 (by decide) (by decide) rfl, fun U hU hW => gpre hPF hA hG _ U hU hW⟩ rfl rfl hl.1 rfl (lv_room (Nat.le_of_ble_eq_true rfl)) dX2_lotIn_6 ⟨(Nat.le_of_ble_eq_true rfl), (Nat.le_of_ble_eq_true rfl)⟩) (fun r4 G3 H locs hw hmon hG => ?_)
  replace hw := hw hmon
  have hk2 : gC G3 q1 = 14 := gC_mon hmon hk2 (by decide)
  refine gt_n (i := 3) (lv' := [(3, va_rf r4), (2, .null), (0, .ref p0), (1, .int p1)]) hx hb dX2_lotIn_9 rfl hl (by decide) rfl (fun ls hl => ?_)
  refine W.widen (k := 1) (n := 4) (Nat.le_of_ble_eq_true rfl) (Nat.le_of_ble_eq_true rfl) ?_
  obtain ⟨n0, hw⟩ := hw
  exact hL10  n0 p1 none r4 G3 _ _ ls hG (lv_sub hl [3, 1, 0] rfl) hw
def gw_X1_checkCone (E : gE) (post : Gh → Prop) (px : String → Nat → Gh → Prop) (p0 : Int32) (G : Gh) : Prop := gw_X1_inRange E (fun r2 G1 => gMon G G1 → (gw_X1_checkArgument E (fun G3 => gMon G1 G3 → (post G3)) px r2 G1)) p0.toInt64 0 9 G
theorem hd_X1_checkCone : yX1_checkCone.cls ≠ "java/lang/invoke/MethodHandle" ∧ yX1_checkCone.cls ≠ "java/lang/invoke/VarHandle" ∧ (parseMethodDescriptor yX1_checkCone.desc).map (fun d => d.parameters.length) = some 1 := by decide +kernel
set_option maxHeartbeats 1000000 in
set_option maxRecDepth 100000 in
theorem gm_X1_checkCone (l : Launch) (hlt : l.stackTraces = false) (E : gE) (p0 : Int32) (post : Gh → Prop) (px : String → Nat → Gh → Prop) (G : Gh) (hw : gw_X1_checkCone E post px p0 G) : gX l E yX1_checkCone (ws_ yX1_checkCone cX1_checkCone 1 none) ({ frames := 9, cells := 1, slots := 6, locals := 140 } : Room) 1 6 [.int p0] G (gpv post) px := by
  refine xof (by decide) (Nat.le_of_ble_eq_true rfl) ?_
  intro p e s m below meth c A ls hx hb hr hlk hml hown hin hts hPF hA htab hG hl
  have hl : lv_has ls 1 [(0, .int p0)] := hl
  unfold gw_X1_checkCone at hw
  obtain ⟨G0, hG0⟩ : ∃ G0, G0 = G := ⟨_, rfl⟩
  have hG : gS E A G0 s.heap G s.heap [] := by rw [hG0]; exact hG
  rw [show gQ E A G (gpv post) = gQ E A G0 (gpv post) by rw [hG0]]
  rw [show gXC E A G px = gXC E A G0 px by rw [hG0]]
  refine lv_iload_n hx hb dX1_checkCone_0 rfl (lv_at hl 0 rfl) ?_
  refine lv_i2l (v := p0.toInt64) hx hb dX1_checkCone_1 rfl ?_
  refine lv_lconst (v := 0) hx hb dX1_checkCone_2 (by decide) ?_
  refine lv_ldc2 (v := 9) hx hb hown (hts _ q1355) dX1_checkCone_3 ?_
  refine gc3i hA hG (va_runS (As := [.long p0.toInt64, .long 0, .long 9]) (rest := []) ⟨hx, hb, hml, hown, hts⟩ (gm_X1_inRange l E p0.toInt64 0 9 _ G hw _) (va_cwS 3 hts (lw_S q1356 q637 q55 q638) rfl rfl rfl hd_X1_inRange ⟨Nat.le_of_ble_eq_true rfl, Nat.le_of_ble_eq_true rfl⟩) ⟨gblind, fun U hU hW => gpre hPF hA hG _ U hU hW⟩ rfl rfl hl.1 rfl (lv_room (Nat.le_of_ble_eq_true rfl)) dX1_checkCone_6 ⟨(Nat.le_of_ble_eq_true rfl), (Nat.le_of_ble_eq_true rfl)⟩) (fun r2 G1 H locs hw hmon hG => ?_)
  replace hw := hw hmon
  refine xc3v hA hG (vx_runS (As := [.int r2]) (rest := []) ⟨hx, hb, hml, hown, hts⟩ (gm_X1_checkArgument l hlt E r2 _ _ G1 hw _) (va_cwS 1 hts (lw_S q1357 q640 q55 q641) rfl rfl rfl hd_X1_checkArgument ⟨Nat.le_of_ble_eq_true rfl, Nat.le_of_ble_eq_true rfl⟩) ⟨gblind, fun U hU hW => gpre hPF hA hG _ U hU hW⟩ rfl rfl hl.1 rfl (lv_room (Nat.le_of_ble_eq_true rfl)) dX1_checkCone_9 ⟨(Nat.le_of_ble_eq_true rfl), (Nat.le_of_ble_eq_true rfl)⟩) (fun X ce q Gx H locs hw hmon hG hce hcv hcl => ?_) (fun G3 H locs hw hmon hG => ?_)
  · exact gleave hlk hG (fun x hx9 => (htab x hx9).elim) hce hcv hcl hw (Nat.le_of_ble_eq_true rfl) (Nat.le_of_ble_eq_true rfl)
  · replace hw := hw hmon
    exact xretv hx hb hr hlk hG hw (Nat.le_of_ble_eq_true rfl) (Nat.le_of_ble_eq_true rfl) dX1_checkCone_12
def gw_X2_fire_L79 (E : gE) (p0 : Nat) (post : Int32 → Gh → Prop) (px : String → Nat → Gh → Prop) (x2 : Int32) (x3 : Int32) (x4 : Option Nat) (x5 : Option Nat) (t0 : Int32) (G : Gh) : Prop := ∃ q18, x5 = some q18 ∧ (gC G q18 = 7 ∧ (gw_X4_check E (fun G20 => gMon G G20 → (gw_X2_pay E (fun G21 => gMon G20 G21 → (∀ q22, gK G21 q22 = 0 → ∀ G23, G23 = gN G21 q22 10 0 → (∃ q24, x4 = some q24 ∧ (gC G23 q24 = 5 ∧ (∃ q26, (gR G23 q24 2) = some q26 ∧ (gSt G23 q26 ∧ (gw_X12_init E (fun G28 => gMon G23 G28 → (gK G28 q24 = 5 ∧ (∀ G30, G30 = gsR G28 q24 2 (some q22) → (post (8 + (2 * x3)) G30)))) q22 (gWel G23 q26) x2 x3 (8 + (2 * x3)) G23))))))) px p0 (x3 + 2) G20)) px t0 5 (gI G q18 0) G))
def gw_X2_fire_L58 (E : gE) (p0 : Nat) (post : Int32 → Gh → Prop) (px : String → Nat → Gh → Prop) (x2 : Int32) (x3 : Int32) (x4 : Option Nat) (x5 : Option Nat) (t0 : Int32) (t1 : Int32) (t2 : Int32) (G : Gh) : Prop := gw_X4_check E (fun G13 => gMon G G13 → (∃ q14, x5 = some q14 ∧ (gC G13 q14 = 7 ∧ (∃ q16, x4 = some q16 ∧ (gC G13 q16 = 5 ∧ (((gI G13 q14 0) < (gI G13 q16 1) → (gw_X2_fire_L79 E p0 post px  x2 x3 x4 x5 0 G13)) ∧ (¬ (gI G13 q14 0) < (gI G13 q16 1) → (gw_X2_fire_L79 E p0 post px  x2 x3 x4 x5 1 G13)))))))) px t2 t1 t0 G
def gw_X2_fire_L43 (E : gE) (p0 : Nat) (post : Int32 → Gh → Prop) (px : String → Nat → Gh → Prop) (x2 : Int32) (x3 : Int32) (x4 : Option Nat) (x5 : Option Nat) (x6 : Option Nat) (t0 : Int32) (G : Gh) : Prop := (x6 = none → (gw_X2_fire_L58 E p0 post px  x2 x3 x4 x5 (-1) 4 t0 G)) ∧ (∀ q11, x6 = some q11 → (gC G q11 = 5 ∧ (gw_X2_fire_L58 E p0 post px  x2 x3 x4 x5 (gI G q11 0) 4 t0 G)))
def gw_X2_fire (E : gE) (post : Int32 → Gh → Prop) (px : String → Nat → Gh → Prop) (p0 : Nat) (p1 : Int32) (p2 : Int32) (p3 : Int32) (G : Gh) : Prop := gK G p0 = 2 ∧ (gw_X2_lot E (fun r2 G1 => gMon G G1 → (gw_X2_kiln E (fun r4 G3 => gMon G1 G3 → (gw_X1_checkCone E (fun G5 => gMon G3 G5 → (∃ q6, r2 = some q6 ∧ (gw_X10_check E (fun G7 => gMon G5 G7 → (gw_X2_lotIn E (fun r9 G8 => gMon G7 G8 → ((r9 = none → (gw_X2_fire_L43 E p0 post px  p2 p3 r2 r4 r9 1 G8)) ∧ (∀ q10, r9 = some q10 → (gw_X2_fire_L43 E p0 post px  p2 p3 r2 r4 r9 0 G8)))) p0 p2 G7)) px (eZ E 1) q6 G5))) px p3 G3)) px p0 p2 G1)) px p0 p1 G)
theorem hd_X2_fire : yX2_fire.cls = RX2 ∧ yX2_fire.cls ≠ "java/lang/invoke/MethodHandle" ∧ yX2_fire.cls ≠ "java/lang/invoke/VarHandle" ∧ (parseMethodDescriptor yX2_fire.desc).map (fun d => d.parameters.length) = some 3 := by decide +kernel
theorem hdn_X2_fire : yX2_fire.cls ≠ "java/lang/invoke/MethodHandle" ∧ yX2_fire.cls ≠ "java/lang/invoke/VarHandle" ∧ (parseMethodDescriptor yX2_fire.desc).map (fun d => d.parameters.length) = some 3 := hd_X2_fire.2
theorem hdu_X2_fire : RX2 ≠ "java/lang/invoke/MethodHandle" ∧ RX2 ≠ "java/lang/invoke/VarHandle" ∧ (parseMethodDescriptor yX2_fire.desc).map (fun d => d.parameters.length) = some 3 := by decide +kernel
theorem hds_X2_fire : yX2_fire.name ≠ "<init>" ∧ (parseMethodDescriptor yX2_fire.desc).map (fun d => d.parameters.length) = some 3 := by decide +kernel
set_option maxHeartbeats 1000000 in
set_option maxRecDepth 100000 in
theorem gm_X2_fire (l : Launch) (hlt : l.stackTraces = false) (E : gE) (p0 : Nat) (p1 : Int32) (p2 : Int32) (p3 : Int32) (post : Int32 → Gh → Prop) (px : String → Nat → Gh → Prop) (G : Gh) (hw : gw_X2_fire E post px p0 p1 p2 p3 G) : gX l E yX2_fire (ws_ yX2_fire cX2_fire 8 (some .int)) ({ frames := 11, cells := 9, slots := 58, locals := 182 } : Room) 9 58 [.ref p0, .int p1, .int p2, .int p3] G (gpi post) px := by
  refine xof (by decide) (Nat.le_of_ble_eq_true rfl) ?_
  intro p e s m below meth c A ls hx hb hr hlk hml hown hin hts hPF hA htab hG hl
  have hl : lv_has ls 8 [(0, .ref p0), (1, .int p1), (2, .int p2), (3, .int p3)] := hl
  unfold gw_X2_fire at hw
  obtain ⟨G0, hG0⟩ : ∃ G0, G0 = G := ⟨_, rfl⟩
  have hG : gS E A G0 s.heap G s.heap [] := by rw [hG0]; exact hG
  rw [show gQ E A G (gpi post) = gQ E A G0 (gpi post) by rw [hG0]]
  rw [show gXC E A G px = gXC E A G0 px by rw [hG0]]
  have h0p0 := hw.1; rw [← hG0] at h0p0
  replace hw := hw.2
  have hL79 : ∀ (x2 : Int32) (x3 : Int32) (x4 : Option Nat) (x5 : Option Nat) (t0 : Int32) (G : Gh) (H : Heap) (locs : List Loc) (ls : Array Slot), gS E A G0 s.heap G H locs → lv_has ls 8 [(0, .ref p0), (2, .int x2), (3, .int x3), (4, va_rf x4), (5, va_rf x5)] → gw_X2_fire_L79 E p0 post px x2 x3 x4 x5 t0 G → W p l e (headSpec (ws_ yX2_fire cX2_fire 8 (some .int)) ({ frames := 11, cells := 9, slots := 58, locals := 182 } : Room)).room s m ([.ref p0, .int p1, .int p2, .int p3] : List Value).toArray below meth c H locs 6 38 (vx_MQ below (gQ E A G0 (gpi post)) (gXC E A G0 px) ([.ref p0, .int p1, .int p2, .int p3] : List Value).toArray s 9 58 A) (F0 m 79 ls [.int t0]) := by
    intro x2 x3 x4 x5 t0 G H locs ls hG hl hw
    unfold gw_X2_fire_L79 at hw
    refine lv_iconst (v := 5) hx hb dX2_fire_79 (by decide) ?_
    refine ga_ hx hb dX2_fire_80 (lv_at hl 4 rfl) ?_
    obtain ⟨q18, hq18, hw⟩ := hw
    refine W.eq (g2 := F0 m 82 ls [.ref q18, .int 5, .int t0]) (by rw [hq18]; rfl) ?_
    have hk19 := hw.1
    replace hw := hw.2
    refine ggN hx hb hts hown hPF hG 7 0 rfl in_X8 (by decide) (by decide) (by decide) q900 (fun _ h9 => h9) hk19 (v := .int (gI G q18 0)) rfl dX2_fire_82 ?_
    refine xc3v hA hG (vx_runS (As := [.int t0, .int 5, .int (gI G q18 0)]) (rest := []) ⟨hx, hb, hml, hown, hts⟩ (gm_X4_check l hlt E t0 5 (gI G q18 0) _ _ G hw _) (va_cwS 3 hts (lw_S q657 q658 q78 q659) rfl rfl rfl hd_X4_check ⟨Nat.le_of_ble_eq_true rfl, Nat.le_of_ble_eq_true rfl⟩) ⟨gblind, fun U hU hW => gpre hPF hA hG _ U hU hW⟩ rfl rfl hl.1 rfl (lv_room (Nat.le_of_ble_eq_true rfl)) dX2_fire_85 ⟨(Nat.le_of_ble_eq_true rfl), (Nat.le_of_ble_eq_true rfl)⟩) (fun X ce q Gx H locs hw hmon hG hce hcv hcl => ?_) (fun G20 H locs hw hmon hG => ?_)
    · exact gleave hlk hG (fun x hx9 => (htab x hx9).elim) hce hcv hcl hw (Nat.le_of_ble_eq_true rfl) (Nat.le_of_ble_eq_true rfl)
    · replace hw := hw hmon
      have hk19 : gC G20 q18 = 7 := gC_mon hmon hk19 (by decide)
      refine lv_aload_n hx hb dX2_fire_88 rfl (lv_at hl 0 rfl) ?_
      refine lv_iload_n hx hb dX2_fire_89 rfl (lv_at hl 2 rfl) ?_
      refine lv_iconst (v := 2) hx hb dX2_fire_90 (by decide) ?_
      refine lv_iadd hx hb dX2_fire_91 ?_
      refine xc3v hA hG (vx_runV (As := [.int (x3 + 2)]) (rest := []) ⟨hx, hb, hml, hown, hts⟩ (gm_X2_pay l hlt E p0 (x3 + 2) _ _ G20 hw _) (cwV 1 hts (lw_V q653 q655 qs1 q56 q656) rfl rfl rfl hd_X2_pay ⟨Nat.le_of_ble_eq_true rfl, Nat.le_of_ble_eq_true rfl⟩) ⟨gblind, grecv hPF hG (gC_of (gK_mon hG.1.2 h0p0 (by decide)) (by decide)) (by decide) (by decide) rfl, fun U hU hW => gpre hPF hA hG _ U hU hW⟩ rfl rfl hl.1 rfl (lv_room (Nat.le_of_ble_eq_true rfl)) dX2_fire_92 ⟨(Nat.le_of_ble_eq_true rfl), (Nat.le_of_ble_eq_true rfl)⟩) (fun X ce q Gx H locs hw hmon hG hce hcv hcl => ?_) (fun G21 H locs hw hmon hG => ?_)
      · exact gleave hlk hG (fun x hx9 => (htab x hx9).elim) hce hcv hcl hw (Nat.le_of_ble_eq_true rfl) (Nat.le_of_ble_eq_true rfl)
      · replace hw := hw hmon
        have hk19 : gC G21 q18 = 7 := gC_mon hmon hk19 (by decide)
        refine lv_bipush (v := 8) hx hb dX2_fire_95 (by decide) ?_
        refine lv_iconst (v := 2) hx hb dX2_fire_97 (by decide) ?_
        refine lv_iload_n hx hb dX2_fire_98 rfl (lv_at hl 2 rfl) ?_
        refine lv_imul hx hb dX2_fire_99 ?_
        refine lv_iadd hx hb dX2_fire_100 ?_
        refine lv_istore (lv' := [(7, .int (8 + (2 * x3))), (0, .ref p0), (2, .int x2), (3, .int x3), (4, va_rf x4), (5, va_rf x5)]) hx hb dX2_fire_101 hl (by decide) (by first | rfl | simp [List.filter, va_rf_cat, gcat_i, gcat_r, gcat_l, gcat_d, gcat_f, gcat_n]) (fun ls hl => ?_)
        refine ga_ hx hb dX2_fire_103 (lv_at hl 4 rfl) ?_
        refine gnew (ci := 10) hx hb hts in_X12 tyX12 tyX12_ok hown q1360 q1361 q94 hPF hG hA rfl (by decide) (by decide) gborn_X12 (Nat.le_of_ble_eq_true rfl) (Nat.le_of_ble_eq_true rfl) dX2_fire_105 (fun q22 H h0q22 hG => ?_)
        replace hw := hw q22 h0q22
        obtain ⟨G23, eG23⟩ : ∃ z, z = gN G21 q22 10 0 := ⟨_, rfl⟩
        rw [← eG23] at hG
        replace hw := hw G23 eG23
        have hk19 : gC G23 q18 = 7 := by rw [eG23]; exact gC_N hk19 (by decide) h0q22
        have hkq22 : gK G23 q22 = 10 := by rw [eG23]; exact gK_Nq
        refine lv_dup hx hb dX2_fire_108 rfl ?_
        refine ga_ hx hb dX2_fire_109 (lv_at hl 4 rfl) ?_
        obtain ⟨q24, hq24, hw⟩ := hw
        refine W.eq (g2 := F0 m 111 ls [.ref q24, .ref q22, .ref q22, va_rf x4]) (by rw [hq24]; rfl) ?_
        have hk25 := hw.1
        replace hw := hw.2
        refine ggN hx hb hts hown hPF hG 5 2 rfl in_X6 (by decide) (by decide) (by decide) q879 (fun _ h9 => h9) hk25 (v := va_rf (gR G23 q24 2)) rfl dX2_fire_111 ?_
        obtain ⟨q26, hq26, hw⟩ := hw
        refine W.eq (g2 := F0 m 114 ls [.ref q26, .ref q22, .ref q22, va_rf x4]) (by rw [hq26]; rfl) ?_
        have hS27 := hw.1
        replace hw := hw.2
        refine gdwell (rest := [.ref q22, .ref q22, va_rf x4]) hx hb hml hts hown q1363 hPF hA hG hS27 hl.1 (lv_room (by (try simp only [List.map, va_rf_cat, gcat_i, gcat_r, gcat_l, gcat_d, gcat_f, gcat_n]); exact Nat.le_of_ble_eq_true rfl)) (Nat.le_of_ble_eq_true rfl) (Nat.le_of_ble_eq_true rfl) (Nat.le_of_ble_eq_true rfl) (Nat.le_of_ble_eq_true rfl) dX2_fire_114 (fun H locs hG => ?_)
        refine lv_iload_n hx hb dX2_fire_119 rfl (lv_at hl 2 rfl) ?_
        refine lv_iload_n hx hb dX2_fire_120 rfl (lv_at hl 3 rfl) ?_
        refine lv_iload hx hb dX2_fire_121 (lv_at hl 0 rfl) ?_
        refine gc3v hA hG (va_runI (As := [.int (gWel G23 q26), .int x2, .int x3, .int (8 + (2 * x3))]) (rest := [.ref q22, va_rf x4]) ⟨hx, hb, hml, hown, hts⟩ (gm_X12_init l E q22 (gWel G23 q26) x2 x3 (8 + (2 * x3)) _ G23 hw _) (cwI 4 hts (lw_meth q1366) rfl rfl rfl (hts _ q94) (hts _ q1364) (hts _ q1365) rfl hd_X12_init ⟨Nat.le_of_ble_eq_true rfl, Nat.le_of_ble_eq_true rfl⟩) ⟨gblind, fun U hU hW => gpre hPF hA hG _ U hU hW⟩ rfl rfl hl.1 rfl (lv_room (by (try simp only [List.map, va_rf_cat, gcat_i, gcat_r, gcat_l, gcat_d, gcat_f, gcat_n]); exact Nat.le_of_ble_eq_true rfl)) dX2_fire_123 ⟨(Nat.le_of_ble_eq_true rfl), (Nat.le_of_ble_eq_true rfl)⟩) (fun G28 H locs hw hmon hG => ?_)
        replace hw := hw hmon
        have hk19 : gC G28 q18 = 7 := gC_mon hmon hk19 (by decide)
        have hkq22 : gK G28 q22 = 10 := gK_mon hmon hkq22 (by decide)
        have hk25 : gC G28 q24 = 5 := gC_mon hmon hk25 (by decide)
        refine W.eq (g2 := F0 m 126 ls [.ref q22, .ref q24]) (by rw [hq24]; rfl) ?_
        have hk29 := hw.1
        replace hw := hw.2
        refine gpN hx hb hts hown hPF hG 5 2 rfl in_X6 tyX6 tyX6_ok nmX6 (by decide) (by decide) (by decide) q879 (fun _ h9 => h9) rfl hk29 (v := va_rf (some q22)) (narrow_rf _) (fits_rf _ (by decide)) (G' := gsR G28 q24 2 (some q22)) rfl rfl grR_off (Nat.le_of_ble_eq_true rfl) (gFs_R 5 2 (fun _ _ _ => rfl)) dX2_fire_126 (fun H locs hG => ?_)
        obtain ⟨G30, eG30⟩ : ∃ z, z = gsR G28 q24 2 (some q22) := ⟨_, rfl⟩
        rw [← eG30] at hG
        replace hw := hw G30 eG30
        have hk19 : gC G30 q18 = 7 := by rw [eG30]; exact hk19
        have hkq22 : gK G30 q22 = 10 := by rw [eG30]; exact hkq22
        have hk25 : gC G30 q24 = 5 := by rw [eG30]; exact hk25
        have hk29 : gK G30 q24 = 5 := by rw [eG30]; exact hk29
        refine lv_iload hx hb dX2_fire_129 (lv_at hl 0 rfl) ?_
        exact xreti hx hb hr hlk hG rfl hw (Nat.le_of_ble_eq_true rfl) (Nat.le_of_ble_eq_true rfl) dX2_fire_131
  have hL58 : ∀ (x2 : Int32) (x3 : Int32) (x4 : Option Nat) (x5 : Option Nat) (t0 : Int32) (t1 : Int32) (t2 : Int32) (G : Gh) (H : Heap) (locs : List Loc) (ls : Array Slot), gS E A G0 s.heap G H locs → lv_has ls 8 [(0, .ref p0), (2, .int x2), (3, .int x3), (4, va_rf x4), (5, va_rf x5)] → gw_X2_fire_L58 E p0 post px x2 x3 x4 x5 t0 t1 t2 G → W p l e (headSpec (ws_ yX2_fire cX2_fire 8 (some .int)) ({ frames := 11, cells := 9, slots := 58, locals := 182 } : Room)).room s m ([.ref p0, .int p1, .int p2, .int p3] : List Value).toArray below meth c H locs 5 30 (vx_MQ below (gQ E A G0 (gpi post)) (gXC E A G0 px) ([.ref p0, .int p1, .int p2, .int p3] : List Value).toArray s 9 58 A) (F0 m 58 ls [.int t0, .int t1, .int t2]) := by
    intro x2 x3 x4 x5 t0 t1 t2 G H locs ls hG hl hw
    unfold gw_X2_fire_L58 at hw
    refine xc3v hA hG (vx_runS (As := [.int t2, .int t1, .int t0]) (rest := []) ⟨hx, hb, hml, hown, hts⟩ (gm_X4_check l hlt E t2 t1 t0 _ _ G hw _) (va_cwS 3 hts (lw_S q657 q658 q78 q659) rfl rfl rfl hd_X4_check ⟨Nat.le_of_ble_eq_true rfl, Nat.le_of_ble_eq_true rfl⟩) ⟨gblind, fun U hU hW => gpre hPF hA hG _ U hU hW⟩ rfl rfl hl.1 rfl (lv_room (Nat.le_of_ble_eq_true rfl)) dX2_fire_58 ⟨(Nat.le_of_ble_eq_true rfl), (Nat.le_of_ble_eq_true rfl)⟩) (fun X ce q Gx H locs hw hmon hG hce hcv hcl => ?_) (fun G13 H locs hw hmon hG => ?_)
    · exact gleave hlk hG (fun x hx9 => (htab x hx9).elim) hce hcv hcl hw (Nat.le_of_ble_eq_true rfl) (Nat.le_of_ble_eq_true rfl)
    · replace hw := hw hmon
      refine ga_ hx hb dX2_fire_61 (lv_at hl 4 rfl) ?_
      obtain ⟨q14, hq14, hw⟩ := hw
      refine W.eq (g2 := F0 m 63 ls [.ref q14]) (by rw [hq14]; rfl) ?_
      have hk15 := hw.1
      replace hw := hw.2
      refine ggN hx hb hts hown hPF hG 7 0 rfl in_X8 (by decide) (by decide) (by decide) q900 (fun _ h9 => h9) hk15 (v := .int (gI G13 q14 0)) rfl dX2_fire_63 ?_
      refine ga_ hx hb dX2_fire_66 (lv_at hl 3 rfl) ?_
      obtain ⟨q16, hq16, hw⟩ := hw
      refine W.eq (g2 := F0 m 68 ls [.ref q16, .int (gI G13 q14 0)]) (by rw [hq16]; rfl) ?_
      have hk17 := hw.1
      replace hw := hw.2
      refine ggN hx hb hts hown hPF hG 5 1 rfl in_X6 (by decide) (by decide) (by decide) q875 (fun _ h9 => h9) hk17 (v := .int (gI G13 q16 1)) rfl dX2_fire_68 ?_
      refine lv_icmp_lt (tgt := 78) hx hb dX2_fire_71 (by decide) (fun c_ => ?_) (fun c_ => ?_)
      · replace hw := hw.1 c_
        refine lv_iconst (v := 0) hx hb dX2_fire_78 (by decide) ?_
        refine W.widen (k := 6) (n := 38) (Nat.le_of_ble_eq_true rfl) (Nat.le_of_ble_eq_true rfl) ?_
        exact hL79  x2 x3 x4 x5 0 G13 _ _ ls hG (lv_sub hl [0, 1, 2, 3, 4] rfl) hw
      · replace hw := hw.2 c_
        refine lv_iconst (v := 1) hx hb dX2_fire_74 (by decide) ?_
        refine lv_goto (tgt := 79) hx hb dX2_fire_75 (by decide) ?_
        refine W.widen (k := 6) (n := 38) (Nat.le_of_ble_eq_true rfl) (Nat.le_of_ble_eq_true rfl) ?_
        exact hL79  x2 x3 x4 x5 1 G13 _ _ ls hG (lv_sub hl [0, 1, 2, 3, 4] rfl) hw
  have hL43 : ∀ (x2 : Int32) (x3 : Int32) (x4 : Option Nat) (x5 : Option Nat) (x6 : Option Nat) (t0 : Int32) (G : Gh) (H : Heap) (locs : List Loc) (ls : Array Slot), gS E A G0 s.heap G H locs → lv_has ls 8 [(0, .ref p0), (2, .int x2), (3, .int x3), (4, va_rf x4), (5, va_rf x5), (6, va_rf x6)] → gw_X2_fire_L43 E p0 post px x2 x3 x4 x5 x6 t0 G → W p l e (headSpec (ws_ yX2_fire cX2_fire 8 (some .int)) ({ frames := 11, cells := 9, slots := 58, locals := 182 } : Room)).room s m ([.ref p0, .int p1, .int p2, .int p3] : List Value).toArray below meth c H locs 5 30 (vx_MQ below (gQ E A G0 (gpi post)) (gXC E A G0 px) ([.ref p0, .int p1, .int p2, .int p3] : List Value).toArray s 9 58 A) (F0 m 43 ls [.int t0]) := by
    intro x2 x3 x4 x5 x6 t0 G H locs ls hG hl hw
    unfold gw_X2_fire_L43 at hw
    refine lv_iconst (v := 4) hx hb dX2_fire_43 (by decide) ?_
    refine ga_ hx hb dX2_fire_44 (lv_at hl 5 rfl) ?_
    refine gifnonnull (tgt := 53) hx hb dX2_fire_46 (by decide) (fun q11 hq11 => ?_) (fun c_ => ?_)
    · replace hw := hw.2 q11 hq11
      refine ga_ hx hb dX2_fire_53 (lv_at hl 5 rfl) ?_
      refine W.eq (g2 := F0 m 55 ls [.ref q11, .int 4, .int t0]) (by rw [hq11]; rfl) ?_
      have hk12 := hw.1
      replace hw := hw.2
      refine ggN hx hb hts hown hPF hG 5 0 rfl in_X6 (by decide) (by decide) (by decide) q871 (fun _ h9 => h9) hk12 (v := .int (gI G q11 0)) rfl dX2_fire_55 ?_
      refine W.widen (k := 5) (n := 30) (Nat.le_of_ble_eq_true rfl) (Nat.le_of_ble_eq_true rfl) ?_
      exact hL58  x2 x3 x4 x5 (gI G q11 0) 4 t0 G _ _ ls hG (lv_sub hl [0, 1, 2, 3, 4] rfl) hw
    · replace hw := hw.1 c_
      refine lv_iconst (v := (-1)) hx hb dX2_fire_49 (by decide) ?_
      refine lv_goto (tgt := 58) hx hb dX2_fire_50 (by decide) ?_
      refine W.widen (k := 5) (n := 30) (Nat.le_of_ble_eq_true rfl) (Nat.le_of_ble_eq_true rfl) ?_
      exact hL58  x2 x3 x4 x5 (-1) 4 t0 G _ _ ls hG (lv_sub hl [0, 1, 2, 3, 4] rfl) hw
  refine lv_aload_n hx hb dX2_fire_0 rfl (lv_at hl 0 rfl) ?_
  refine lv_iload_n hx hb dX2_fire_1 rfl (lv_at hl 1 rfl) ?_
  refine xc3r hA hG (vx_runV (As := [.int p1]) (rest := []) ⟨hx, hb, hml, hown, hts⟩ (gm_X2_lot l hlt E p0 p1 _ _ G hw _) (cwV 1 hts (lw_V q1280 q1142 q1143 q56 q1144) rfl rfl rfl hd_X2_lot ⟨Nat.le_of_ble_eq_true rfl, Nat.le_of_ble_eq_true rfl⟩) ⟨gblind, grecv hPF hG (gC_of (gK_mon hG.1.2 h0p0 (by decide)) (by decide)) (by decide) (by decide) rfl, fun U hU hW => gpre hPF hA hG _ U hU hW⟩ rfl rfl hl.1 rfl (lv_room (Nat.le_of_ble_eq_true rfl)) dX2_fire_2 ⟨(Nat.le_of_ble_eq_true rfl), (Nat.le_of_ble_eq_true rfl)⟩) (fun X ce q Gx H locs hw hmon hG hce hcv hcl => ?_) (fun r2 G1 H locs hw hmon hG => ?_)
  · exact gleave hlk hG (fun x hx9 => (htab x hx9).elim) hce hcv hcl hw (Nat.le_of_ble_eq_true rfl) (Nat.le_of_ble_eq_true rfl)
  · replace hw := hw hmon
    refine gt_ (lv' := [(4, va_rf r2), (0, .ref p0), (1, .int p1), (2, .int p2), (3, .int p3)]) hx hb dX2_fire_5 hl (by decide) rfl (fun ls hl => ?_)
    refine lv_aload_n hx hb dX2_fire_7 rfl (lv_at hl 1 rfl) ?_
    refine lv_iload_n hx hb dX2_fire_8 rfl (lv_at hl 3 rfl) ?_
    refine xc3r hA hG (vx_runV (As := [.int p2]) (rest := []) ⟨hx, hb, hml, hown, hts⟩ (gm_X2_kiln l hlt E p0 p2 _ _ G1 hw _) (cwV 1 hts (lw_V q1351 q1330 q1331 q56 q1332) rfl rfl rfl hd_X2_kiln ⟨Nat.le_of_ble_eq_true rfl, Nat.le_of_ble_eq_true rfl⟩) ⟨gblind, grecv hPF hG (gC_of (gK_mon hG.1.2 h0p0 (by decide)) (by decide)) (by decide) (by decide) rfl, fun U hU hW => gpre hPF hA hG _ U hU hW⟩ rfl rfl hl.1 rfl (lv_room (Nat.le_of_ble_eq_true rfl)) dX2_fire_9 ⟨(Nat.le_of_ble_eq_true rfl), (Nat.le_of_ble_eq_true rfl)⟩) (fun X ce q Gx H locs hw hmon hG hce hcv hcl => ?_) (fun r4 G3 H locs hw hmon hG => ?_)
    · exact gleave hlk hG (fun x hx9 => (htab x hx9).elim) hce hcv hcl hw (Nat.le_of_ble_eq_true rfl) (Nat.le_of_ble_eq_true rfl)
    · replace hw := hw hmon
      refine gt_ (lv' := [(5, va_rf r4), (4, va_rf r2), (0, .ref p0), (1, .int p1), (2, .int p2), (3, .int p3)]) hx hb dX2_fire_12 hl (by decide) (by first | rfl | simp [List.filter, va_rf_cat, gcat_i, gcat_r, gcat_l, gcat_d, gcat_f, gcat_n]) (fun ls hl => ?_)
      refine lv_iload_n hx hb dX2_fire_14 rfl (lv_at hl 5 rfl) ?_
      refine xc3v hA hG (vx_runSN (As := [.int p3]) (rest := []) ⟨hx, hb, hml, hown, hts⟩ (gm_X1_checkCone l hlt E p3 _ _ G3 hw _) ⟨va_cnB 1 hts (lw_meth q1354) rfl rfl rfl (hPF.w q1352 rfl) (hts _ q55) hd_X1_checkCone ⟨Nat.le_of_ble_eq_true rfl, Nat.le_of_ble_eq_true rfl⟩, hts _ q1353, trivial⟩ ⟨gblind, fun U hU hW => gpre hPF hA hG _ U hU hW⟩ rfl rfl hl.1 rfl (lv_room (Nat.le_of_ble_eq_true rfl)) dX2_fire_15 ⟨(Nat.le_of_ble_eq_true rfl), (Nat.le_of_ble_eq_true rfl)⟩) (fun X ce q Gx H locs hw hmon hG hce hcv hcl => ?_) (fun G5 H locs hw hmon hG => ?_)
      · exact gleave hlk hG (fun x hx9 => (htab x hx9).elim) hce hcv hcl hw (Nat.le_of_ble_eq_true rfl) (Nat.le_of_ble_eq_true rfl)
      · replace hw := hw hmon
        refine va_gets (v := .ref (eZ E 1)) hx hb (hPF.z 2 rfl) hG.2 hown (hts _ q1358) (fun _ h9 => h9) dX2_fire_18 ?_
        refine ga_ hx hb dX2_fire_21 (lv_at hl 1 rfl) ?_
        obtain ⟨q6, hq6, hw⟩ := hw
        refine W.eq (g2 := F0 m 23 ls [.ref q6, .ref (eZ E 1)]) (by rw [hq6]; rfl) ?_
        refine xc3v hA hG (vx_runV (As := [.ref q6]) (rest := []) ⟨hx, hb, hml, hown, hts⟩ (gm_X10_check l hlt E (eZ E 1) q6 _ _ G5 hw _) (gcwP 1 hts (lw_meth q1290) rfl rfl rfl (hts _ q92) (hts _ q1283) (hts _ q1284) (hts _ q1287) hdn_X10_check ⟨Nat.le_of_ble_eq_true rfl, Nat.le_of_ble_eq_true rfl⟩) ⟨gblind, va_Orecv (hPF.e 1 (by decide)).1 hG.2, fun U hU hW => gpre hPF hA hG _ U hU hW⟩ rfl rfl hl.1 rfl (lv_room (Nat.le_of_ble_eq_true rfl)) dX2_fire_23 ⟨(Nat.le_of_ble_eq_true rfl), (Nat.le_of_ble_eq_true rfl)⟩) (fun X ce q Gx H locs hw hmon hG hce hcv hcl => ?_) (fun G7 H locs hw hmon hG => ?_)
        · exact gleave hlk hG (fun x hx9 => (htab x hx9).elim) hce hcv hcl hw (Nat.le_of_ble_eq_true rfl) (Nat.le_of_ble_eq_true rfl)
        · replace hw := hw hmon
          refine lv_aload_n hx hb dX2_fire_26 rfl (lv_at hl 2 rfl) ?_
          refine lv_iload_n hx hb dX2_fire_27 rfl (lv_at hl 4 rfl) ?_
          refine gc3r hA hG (va_runV (As := [.int p2]) (rest := []) ⟨hx, hb, hml, hown, hts⟩ (gm_X2_lotIn l E p0 p2 _ G7 hw _) (cwV 1 hts (lw_V q1359 q1334 q1335 q56 q1336) rfl rfl rfl hd_X2_lotIn ⟨Nat.le_of_ble_eq_true rfl, Nat.le_of_ble_eq_true rfl⟩) ⟨gblind, grecv hPF hG (gC_of (gK_mon hG.1.2 h0p0 (by decide)) (by decide)) (by decide) (by decide) rfl, fun U hU hW => gpre hPF hA hG _ U hU hW⟩ rfl rfl hl.1 rfl (lv_room (Nat.le_of_ble_eq_true rfl)) dX2_fire_28 ⟨(Nat.le_of_ble_eq_true rfl), (Nat.le_of_ble_eq_true rfl)⟩) (fun r9 G8 H locs hw hmon hG => ?_)
          replace hw := hw hmon
          refine gt_ (lv' := [(6, va_rf r9), (5, va_rf r4), (4, va_rf r2), (0, .ref p0), (1, .int p1), (2, .int p2), (3, .int p3)]) hx hb dX2_fire_31 hl (by decide) (by first | rfl | simp [List.filter, va_rf_cat, gcat_i, gcat_r, gcat_l, gcat_d, gcat_f, gcat_n]) (fun ls hl => ?_)
          refine ga_ hx hb dX2_fire_33 (lv_at hl 0 rfl) ?_
          refine gifnonnull (tgt := 42) hx hb dX2_fire_35 (by decide) (fun q10 hq10 => ?_) (fun c_ => ?_)
          · replace hw := hw.2 q10 hq10
            refine lv_iconst (v := 0) hx hb dX2_fire_42 (by decide) ?_
            refine W.widen (k := 5) (n := 30) (Nat.le_of_ble_eq_true rfl) (Nat.le_of_ble_eq_true rfl) ?_
            exact hL43  p2 p3 r2 r4 r9 0 G8 _ _ ls hG (lv_sub hl [3, 5, 6, 2, 1, 0] rfl) hw
          · replace hw := hw.1 c_
            refine lv_iconst (v := 1) hx hb dX2_fire_38 (by decide) ?_
            refine lv_goto (tgt := 43) hx hb dX2_fire_39 (by decide) ?_
            refine W.widen (k := 5) (n := 30) (Nat.le_of_ble_eq_true rfl) (Nat.le_of_ble_eq_true rfl) ?_
            exact hL43  p2 p3 r2 r4 r9 1 G8 _ _ ls hG (lv_sub hl [3, 5, 6, 2, 1, 0] rfl) hw
def gw_X2_firstDone_L47 (E : gE) (p0 : Nat) (post : Int32 → Gh → Prop) (k7 : Int32 → Int32 → Int32 → Nat → Nat → Gh → Prop) (x1 : Int32) (x2 : Int32) (x3 : Int32) (cB : Nat) (zB : Nat) (G : Gh) : Prop := k7 x1 x2 (x3 + 1) cB zB G
def gw_X2_firstDone_L7 (E : gE) (p0 : Nat) (post : Int32 → Gh → Prop) : Nat → Int32 → Int32 → Int32 → Nat → Nat → Gh → Prop
  | 0, _, _, _, _, _, _ => False
  | n + 1, x1, x2, x3, cB, zB, G => ∃ q1, (gR G p0 2) = some q1 ∧ (gC G q1 = 14 ∧ ((cB + 0 ≤ 300 ∧ zB + 0 ≤ 8000) ∧ (gw_J2_size E (fun r5 G4 => gMon G G4 → ((r5 ≤ x3 → ((cB ≤ 300 ∧ zB ≤ 8000) ∧ (post x1 G4))) ∧ (¬ r5 ≤ x3 → ((cB + 1 ≤ 300 ∧ zB + 4 ≤ 8000) ∧ (gw_X2_lotIn E (fun r8 G7 => gMon G4 G7 → ((r8 = none → (gw_X2_firstDone_L47 E p0 post (fun x1' x2' x3' cB' zB' G' => gw_X2_firstDone_L7 E p0 post  n x1' x2' x3' cB' zB' G') x1 x2 x3 (cB + 1) (zB + 4) G7)) ∧ (∀ q9, r8 = some q9 → (gC G7 q9 = 5 ∧ ((cB + 1 ≤ 300 ∧ zB + 4 ≤ 8000) ∧ (gw_X6_hours E (fun r13 G12 => gMon G7 G12 → ((x2 ≤ r13 → (gw_X2_firstDone_L47 E p0 post (fun x1' x2' x3' cB' zB' G' => gw_X2_firstDone_L7 E p0 post  n x1' x2' x3' cB' zB' G') x1 x2 x3 (cB + 1) (zB + 4) G12)) ∧ (¬ x2 ≤ r13 → ((cB + 1 ≤ 300 ∧ zB + 4 ≤ 8000) ∧ (gw_X6_hours E (fun r16 G15 => gMon G12 G15 → (gw_X2_firstDone_L47 E p0 post (fun x1' x2' x3' cB' zB' G' => gw_X2_firstDone_L7 E p0 post  n x1' x2' x3' cB' zB' G') x3 r16 x3 (cB + 1) (zB + 4) G15)) q9 G12))))) q9 G7)))))) p0 x3 G4))))) q1 G)))
def gw_X2_firstDone (E : gE) (post : Int32 → Gh → Prop) (p0 : Nat) (G : Gh) : Prop := gK G p0 = 2 ∧ ((∃ n, gw_X2_firstDone_L7 E p0 post  n (-1) 2147483647 0 0 0 G))
theorem hd_X2_firstDone : yX2_firstDone.cls = RX2 ∧ yX2_firstDone.cls ≠ "java/lang/invoke/MethodHandle" ∧ yX2_firstDone.cls ≠ "java/lang/invoke/VarHandle" ∧ (parseMethodDescriptor yX2_firstDone.desc).map (fun d => d.parameters.length) = some 0 := by decide +kernel
theorem hdn_X2_firstDone : yX2_firstDone.cls ≠ "java/lang/invoke/MethodHandle" ∧ yX2_firstDone.cls ≠ "java/lang/invoke/VarHandle" ∧ (parseMethodDescriptor yX2_firstDone.desc).map (fun d => d.parameters.length) = some 0 := hd_X2_firstDone.2
theorem hdu_X2_firstDone : RX2 ≠ "java/lang/invoke/MethodHandle" ∧ RX2 ≠ "java/lang/invoke/VarHandle" ∧ (parseMethodDescriptor yX2_firstDone.desc).map (fun d => d.parameters.length) = some 0 := by decide +kernel
theorem hds_X2_firstDone : yX2_firstDone.name ≠ "<init>" ∧ (parseMethodDescriptor yX2_firstDone.desc).map (fun d => d.parameters.length) = some 0 := by decide +kernel
set_option maxHeartbeats 1000000 in
set_option maxRecDepth 100000 in
theorem gm_X2_firstDone (l : Launch) (E : gE) (p0 : Nat) (post : Int32 → Gh → Prop) (G : Gh) (hw : gw_X2_firstDone E post p0 G) : gM l E yX2_firstDone (ws_ yX2_firstDone cX2_firstDone 5 (some .int)) ({ frames := 4, cells := 300, slots := 8000, locals := 95 } : Room) 300 8000 [.ref p0] G (gpi post) := by
  refine gof (by decide) (Nat.le_of_ble_eq_true rfl) ?_
  intro p e s m below meth c A ls hx hb hr hlk hml hown hin hts hPF hA hG hl
  have hl : lv_has ls 5 [(0, .ref p0)] := hl
  unfold gw_X2_firstDone at hw
  obtain ⟨G0, hG0⟩ : ∃ G0, G0 = G := ⟨_, rfl⟩
  have hG : gS E A G0 s.heap G s.heap [] := by rw [hG0]; exact hG
  rw [show gQ E A G (gpi post) = gQ E A G0 (gpi post) by rw [hG0]]
  have h0p0 := hw.1; rw [← hG0] at h0p0
  replace hw := hw.2
  have hL47 : ∀ (k7 : Int32 → Int32 → Int32 → Nat → Nat → Gh → Prop) (hk7 : ∀ (x1 : Int32) (x2 : Int32) (x3 : Int32) (cB : Nat) (zB : Nat) (G : Gh) (H : Heap) (locs : List Loc) (ls : Array Slot), gS E A G0 s.heap G H locs → lv_has ls 5 [(0, .ref p0), (1, .int x1), (2, .int x2), (3, .int x3)] → k7 x1 x2 x3 cB zB G → W p l e (headSpec (ws_ yX2_firstDone cX2_firstDone 5 (some .int)) ({ frames := 4, cells := 300, slots := 8000, locals := 95 } : Room)).room s m ([.ref p0] : List Value).toArray below meth c H locs cB zB (MQ below (gQ E A G0 (gpi post)) ([.ref p0] : List Value).toArray s 300 8000 A) (F0 m 7 ls [])) (x1 : Int32) (x2 : Int32) (x3 : Int32) (cB : Nat) (zB : Nat) (G : Gh) (H : Heap) (locs : List Loc) (ls : Array Slot), gS E A G0 s.heap G H locs → lv_has ls 5 [(0, .ref p0), (1, .int x1), (2, .int x2), (3, .int x3)] → gw_X2_firstDone_L47 E p0 post k7 x1 x2 x3 cB zB G → W p l e (headSpec (ws_ yX2_firstDone cX2_firstDone 5 (some .int)) ({ frames := 4, cells := 300, slots := 8000, locals := 95 } : Room)).room s m ([.ref p0] : List Value).toArray below meth c H locs cB zB (MQ below (gQ E A G0 (gpi post)) ([.ref p0] : List Value).toArray s 300 8000 A) (F0 m 47 ls []) := by
    intro k7 hk7 x1 x2 x3 cB zB G H locs ls hG hl hw
    unfold gw_X2_firstDone_L47 at hw
    refine lv_iinc (v := x3 + 1) (lv' := [(3, .int (x3 + 1)), (0, .ref p0), (1, .int x1), (2, .int x2)]) hx hb dX2_firstDone_47 hl (k := 3) rfl rfl (by decide) rfl (fun ls hl => ?_)
    refine lv_goto (tgt := 7) hx hb dX2_firstDone_50 (by decide) ?_
    refine W.cs (cells' := cB) (slots' := zB) (by simp only [Nat.zero_add, Nat.add_zero, Nat.add_assoc]) (by simp only [Nat.zero_add, Nat.add_zero, Nat.add_assoc]) ?_
    exact hk7 x1 x2 (x3 + 1) cB zB G _ _ ls hG (lv_sub hl [1, 2, 3, 0] rfl) hw
  have hL7 : ∀ (n : Nat) (x1 : Int32) (x2 : Int32) (x3 : Int32) (cB : Nat) (zB : Nat) (G : Gh) (H : Heap) (locs : List Loc) (ls : Array Slot), gS E A G0 s.heap G H locs → lv_has ls 5 [(0, .ref p0), (1, .int x1), (2, .int x2), (3, .int x3)] → gw_X2_firstDone_L7 E p0 post n x1 x2 x3 cB zB G → W p l e (headSpec (ws_ yX2_firstDone cX2_firstDone 5 (some .int)) ({ frames := 4, cells := 300, slots := 8000, locals := 95 } : Room)).room s m ([.ref p0] : List Value).toArray below meth c H locs cB zB (MQ below (gQ E A G0 (gpi post)) ([.ref p0] : List Value).toArray s 300 8000 A) (F0 m 7 ls []) := by
    intro n
    induction n with
    | zero => exact fun _ _ _ _ _ _ _ _ _ _ _ hw => hw.elim
    | succ n ih =>
      intro x1 x2 x3 cB zB G H locs ls hG hl hw
      unfold gw_X2_firstDone_L7 at hw
      refine lv_iload_n hx hb dX2_firstDone_7 rfl (lv_at hl 3 rfl) ?_
      refine lv_aload_n hx hb dX2_firstDone_8 rfl (lv_at hl 0 rfl) ?_
      refine gg hx hb hts hown hPF hG 2 2 rfl in_X2 (by decide) (by decide) (by decide) q466 (fun _ h9 => h9) (gC_of (gK_mon hG.1.2 h0p0 (by decide)) (by decide)) (v := va_rf (gR G p0 2)) rfl dX2_firstDone_9 ?_
      obtain ⟨q1, hq1, hw⟩ := hw
      refine W.eq (g2 := F0 m 12 ls [.ref q1, .int x3]) (by rw [hq1]; rfl) ?_
      have hk2 := hw.1
      replace hw := hw.2
      have hb3 := hw.1
      replace hw := hw.2
      refine gc3i hA hG (va_runV (As := []) (rest := [.int x3]) ⟨hx, hb, hml, hown, hts⟩ (gm_J2_size l E q1 _ G hw _) (cwV 0 hts (lw_V q1048 q591 q592 q59 q593) rfl rfl rfl hd_J2_size ⟨Nat.le_of_ble_eq_true rfl, Nat.le_of_ble_eq_true rfl⟩) ⟨gblind, grecv hPF hG hk2 (by decide) (by decide) rfl, fun U hU hW => gpre hPF hA hG _ U hU hW⟩ rfl rfl hl.1 rfl (lv_room (Nat.le_of_ble_eq_true rfl)) dX2_firstDone_12 ⟨(Nat.le_trans (Nat.le_of_eq (by simp only [Nat.add_assoc, Nat.zero_add, Nat.add_zero])) hb3.1), (Nat.le_trans (Nat.le_of_eq (by simp only [Nat.add_assoc, Nat.zero_add, Nat.add_zero])) hb3.2)⟩) (fun r5 G4 H locs hw hmon hG => ?_)
      replace hw := hw hmon
      have hk2 : gC G4 q1 = 14 := gC_mon hmon hk2 (by decide)
      refine lv_icmp_ge (tgt := 53) hx hb dX2_firstDone_15 (by decide) (fun c_ => ?_) (fun c_ => ?_)
      · replace hw := hw.1 c_
        refine lv_iload_n hx hb dX2_firstDone_53 rfl (lv_at hl 1 rfl) ?_
        have hb_ := hw.1
        replace hw := hw.2
        exact greti hx hb hr hlk hG rfl hw (Nat.le_trans (Nat.le_of_eq (by simp only [Nat.add_assoc, Nat.add_zero])) hb_.1) (Nat.le_trans (Nat.le_of_eq (by simp only [Nat.add_assoc, Nat.add_zero])) hb_.2) dX2_firstDone_54
      · replace hw := hw.2 c_
        refine lv_aload_n hx hb dX2_firstDone_18 rfl (lv_at hl 0 rfl) ?_
        refine lv_iload_n hx hb dX2_firstDone_19 rfl (lv_at hl 3 rfl) ?_
        have hb6 := hw.1
        replace hw := hw.2
        refine gc3r hA hG (va_runV (As := [.int x3]) (rest := []) ⟨hx, hb, hml, hown, hts⟩ (gm_X2_lotIn l E p0 x3 _ G4 hw _) (cwV 1 hts (lw_V q1359 q1334 q1335 q56 q1336) rfl rfl rfl hd_X2_lotIn ⟨Nat.le_of_ble_eq_true rfl, Nat.le_of_ble_eq_true rfl⟩) ⟨gblind, grecv hPF hG (gC_of (gK_mon hG.1.2 h0p0 (by decide)) (by decide)) (by decide) (by decide) rfl, fun U hU hW => gpre hPF hA hG _ U hU hW⟩ rfl rfl hl.1 rfl (lv_room (Nat.le_of_ble_eq_true rfl)) dX2_firstDone_20 ⟨(Nat.le_trans (Nat.le_of_eq (by simp only [Nat.add_assoc, Nat.zero_add, Nat.add_zero])) hb6.1), (Nat.le_trans (Nat.le_of_eq (by simp only [Nat.add_assoc, Nat.zero_add, Nat.add_zero])) hb6.2)⟩) (fun r8 G7 H locs hw hmon hG => ?_)
        replace hw := hw hmon
        have hk2 : gC G7 q1 = 14 := gC_mon hmon hk2 (by decide)
        refine gt_ (lv' := [(4, va_rf r8), (0, .ref p0), (1, .int x1), (2, .int x2), (3, .int x3)]) hx hb dX2_firstDone_23 hl (by decide) rfl (fun ls hl => ?_)
        refine ga_ hx hb dX2_firstDone_25 (lv_at hl 0 rfl) ?_
        refine gifnull (tgt := 47) hx hb dX2_firstDone_27 (by decide) (fun c_ => ?_) (fun q9 hq9 => ?_)
        · replace hw := hw.1 c_
          refine W.cs (cells' := cB + 1) (slots' := zB + 4) (by simp only [Nat.zero_add, Nat.add_zero, Nat.add_assoc]) (by simp only [Nat.zero_add, Nat.add_zero, Nat.add_assoc]) ?_
          exact hL47 (fun x1' x2' x3' cB' zB' G' => gw_X2_firstDone_L7 E p0 post  n x1' x2' x3' cB' zB' G') (fun x1' x2' x3' cB' zB' G' H locs ls hG hl hw => ih x1' x2' x3' cB' zB' G' H locs ls hG hl hw) x1 x2 x3 (cB + 1) (zB + 4) G7 _ _ ls hG (lv_sub hl [1, 2, 3, 4] rfl) hw
        · replace hw := hw.2 q9 hq9
          refine ga_ hx hb dX2_firstDone_30 (lv_at hl 0 rfl) ?_
          refine W.eq (g2 := F0 m 32 ls [.ref q9]) (by rw [hq9]; rfl) ?_
          have hk10 := hw.1
          replace hw := hw.2
          have hb11 := hw.1
          replace hw := hw.2
          refine gc3i hA hG (va_runV (As := []) (rest := []) ⟨hx, hb, hml, hown, hts⟩ (gm_X6_hours l E q9 _ G7 hw _) (cwV 0 hts (lw_V q1410 q1264 q1265 q82 q1266) rfl rfl rfl hd_X6_hours ⟨Nat.le_of_ble_eq_true rfl, Nat.le_of_ble_eq_true rfl⟩) ⟨gblind, grecv hPF hG hk10 (by decide) (by decide) rfl, fun U hU hW => gpre hPF hA hG _ U hU hW⟩ rfl rfl hl.1 rfl (lv_room (Nat.le_of_ble_eq_true rfl)) dX2_firstDone_32 ⟨(Nat.le_trans (Nat.le_of_eq (by simp only [Nat.add_assoc, Nat.zero_add, Nat.add_zero])) hb11.1), (Nat.le_trans (Nat.le_of_eq (by simp only [Nat.add_assoc, Nat.zero_add, Nat.add_zero])) hb11.2)⟩) (fun r13 G12 H locs hw hmon hG => ?_)
          replace hw := hw hmon
          have hk2 : gC G12 q1 = 14 := gC_mon hmon hk2 (by decide)
          have hk10 : gC G12 q9 = 5 := gC_mon hmon hk10 (by decide)
          refine lv_iload_n hx hb dX2_firstDone_35 rfl (lv_at hl 3 rfl) ?_
          refine lv_icmp_ge (tgt := 47) hx hb dX2_firstDone_36 (by decide) (fun c_ => ?_) (fun c_ => ?_)
          · replace hw := hw.1 c_
            refine W.cs (cells' := cB + 1) (slots' := zB + 4) (by simp only [Nat.zero_add, Nat.add_zero, Nat.add_assoc]) (by simp only [Nat.zero_add, Nat.add_zero, Nat.add_assoc]) ?_
            exact hL47 (fun x1' x2' x3' cB' zB' G' => gw_X2_firstDone_L7 E p0 post  n x1' x2' x3' cB' zB' G') (fun x1' x2' x3' cB' zB' G' H locs ls hG hl hw => ih x1' x2' x3' cB' zB' G' H locs ls hG hl hw) x1 x2 x3 (cB + 1) (zB + 4) G12 _ _ ls hG (lv_sub hl [1, 2, 3, 4] rfl) hw
          · replace hw := hw.2 c_
            refine lv_iload_n hx hb dX2_firstDone_39 rfl (lv_at hl 4 rfl) ?_
            refine lv_istore_n (i := 1) (lv' := [(1, .int x3), (4, va_rf r8), (0, .ref p0), (2, .int x2), (3, .int x3)]) hx hb dX2_firstDone_40 rfl hl (by decide) (by first | rfl | simp [List.filter, va_rf_cat, gcat_i, gcat_r, gcat_l, gcat_d, gcat_f, gcat_n]) (fun ls hl => ?_)
            refine ga_ hx hb dX2_firstDone_41 (lv_at hl 1 rfl) ?_
            refine W.eq (g2 := F0 m 43 ls [.ref q9]) (by rw [hq9]; rfl) ?_
            have hb14 := hw.1
            replace hw := hw.2
            refine gc3i hA hG (va_runV (As := []) (rest := []) ⟨hx, hb, hml, hown, hts⟩ (gm_X6_hours l E q9 _ G12 hw _) (cwV 0 hts (lw_V q1410 q1264 q1265 q82 q1266) rfl rfl rfl hd_X6_hours ⟨Nat.le_of_ble_eq_true rfl, Nat.le_of_ble_eq_true rfl⟩) ⟨gblind, grecv hPF hG hk10 (by decide) (by decide) rfl, fun U hU hW => gpre hPF hA hG _ U hU hW⟩ rfl rfl hl.1 rfl (lv_room (Nat.le_of_ble_eq_true rfl)) dX2_firstDone_43 ⟨(Nat.le_trans (Nat.le_of_eq (by simp only [Nat.add_assoc, Nat.zero_add, Nat.add_zero])) hb14.1), (Nat.le_trans (Nat.le_of_eq (by simp only [Nat.add_assoc, Nat.zero_add, Nat.add_zero])) hb14.2)⟩) (fun r16 G15 H locs hw hmon hG => ?_)
            replace hw := hw hmon
            have hk2 : gC G15 q1 = 14 := gC_mon hmon hk2 (by decide)
            have hk10 : gC G15 q9 = 5 := gC_mon hmon hk10 (by decide)
            refine lv_istore_n (i := 2) (lv' := [(2, .int r16), (1, .int x3), (4, va_rf r8), (0, .ref p0), (3, .int x3)]) hx hb dX2_firstDone_46 rfl hl (by decide) (by first | rfl | simp [List.filter, va_rf_cat, gcat_i, gcat_r, gcat_l, gcat_d, gcat_f, gcat_n]) (fun ls hl => ?_)
            refine W.cs (cells' := cB + 1) (slots' := zB + 4) (by simp only [Nat.zero_add, Nat.add_zero, Nat.add_assoc]) (by simp only [Nat.zero_add, Nat.add_zero, Nat.add_assoc]) ?_
            exact hL47 (fun x1' x2' x3' cB' zB' G' => gw_X2_firstDone_L7 E p0 post  n x1' x2' x3' cB' zB' G') (fun x1' x2' x3' cB' zB' G' H locs ls hG hl hw => ih x1' x2' x3' cB' zB' G' H locs ls hG hl hw) x3 r16 x3 (cB + 1) (zB + 4) G15 _ _ ls hG (lv_sub hl [3, 1, 0, 4] rfl) hw
  refine lv_iconst (v := (-1)) hx hb dX2_firstDone_0 (by decide) ?_
  refine lv_istore_n (i := 1) (lv' := [(1, .int (-1)), (0, .ref p0)]) hx hb dX2_firstDone_1 rfl hl (by decide) rfl (fun ls hl => ?_)
  refine lv_ldc (v := 2147483647) hx hb hown (hts _ q1409) dX2_firstDone_2 ?_
  refine lv_istore_n (i := 2) (lv' := [(2, .int 2147483647), (1, .int (-1)), (0, .ref p0)]) hx hb dX2_firstDone_4 rfl hl (by decide) rfl (fun ls hl => ?_)
  refine lv_iconst (v := 0) hx hb dX2_firstDone_5 (by decide) ?_
  refine lv_istore_n (i := 3) (lv' := [(3, .int 0), (2, .int 2147483647), (1, .int (-1)), (0, .ref p0)]) hx hb dX2_firstDone_6 rfl hl (by decide) rfl (fun ls hl => ?_)
  refine W.cs (cells' := 0) (slots' := 0) (by simp only [Nat.zero_add, Nat.add_zero, Nat.add_assoc]) (by simp only [Nat.zero_add, Nat.add_zero, Nat.add_assoc]) ?_
  obtain ⟨n0, hw⟩ := hw
  exact hL7  n0 (-1) 2147483647 0 0 0 G _ _ ls hG (lv_sub hl [3, 2, 1, 0] rfl) hw
def gw_X2_addCrate_L31 (E : gE) (p0 : Nat) (post : Int32 → Gh → Prop) (px : String → Nat → Gh → Prop) (x1 : Int32) (t0 : Int32) (G : Gh) : Prop := gw_X1_checkState E (fun G8 => gMon G G8 → (∀ q9, gK G8 q9 = 0 → ∀ G10, G10 = gN G8 q9 8 0 → (gw_X9_init E (fun G11 => gMon G10 G11 → (∃ q12, (gR G8 p0 3) = some q12 ∧ (gw_X2_added E (fun r14 G13 => gMon G11 G13 → (post r14 G13)) q12 q9 G11))) q9 x1 G10))) px t0 G
def gw_X2_addCrate (E : gE) (post : Int32 → Gh → Prop) (px : String → Nat → Gh → Prop) (p0 : Nat) (p1 : Int32) (G : Gh) : Prop := gK G p0 = 2 ∧ (gw_X1_inRange E (fun r2 G1 => gMon G G1 → (gw_X1_checkArgument E (fun G3 => gMon G1 G3 → (∃ q4, (gR G3 p0 3) = some q4 ∧ (gC G3 q4 = 14 ∧ (gw_J2_size E (fun r7 G6 => gMon G3 G6 → ((6 ≤ r7 → (gw_X2_addCrate_L31 E p0 post px  p1 0 G6)) ∧ (¬ 6 ≤ r7 → (gw_X2_addCrate_L31 E p0 post px  p1 1 G6)))) q4 G3)))) px r2 G1)) p1.toInt64 4 24 G)
theorem hd_X2_addCrate : yX2_addCrate.cls = RX2 ∧ yX2_addCrate.cls ≠ "java/lang/invoke/MethodHandle" ∧ yX2_addCrate.cls ≠ "java/lang/invoke/VarHandle" ∧ (parseMethodDescriptor yX2_addCrate.desc).map (fun d => d.parameters.length) = some 1 := by decide +kernel
theorem hdn_X2_addCrate : yX2_addCrate.cls ≠ "java/lang/invoke/MethodHandle" ∧ yX2_addCrate.cls ≠ "java/lang/invoke/VarHandle" ∧ (parseMethodDescriptor yX2_addCrate.desc).map (fun d => d.parameters.length) = some 1 := hd_X2_addCrate.2
theorem hdu_X2_addCrate : RX2 ≠ "java/lang/invoke/MethodHandle" ∧ RX2 ≠ "java/lang/invoke/VarHandle" ∧ (parseMethodDescriptor yX2_addCrate.desc).map (fun d => d.parameters.length) = some 1 := by decide +kernel
theorem hds_X2_addCrate : yX2_addCrate.name ≠ "<init>" ∧ (parseMethodDescriptor yX2_addCrate.desc).map (fun d => d.parameters.length) = some 1 := by decide +kernel
set_option maxHeartbeats 1000000 in
set_option maxRecDepth 100000 in
theorem gm_X2_addCrate (l : Launch) (hlt : l.stackTraces = false) (E : gE) (p0 : Nat) (p1 : Int32) (post : Int32 → Gh → Prop) (px : String → Nat → Gh → Prop) (G : Gh) (hw : gw_X2_addCrate E post px p0 p1 G) : gX l E yX2_addCrate (ws_ yX2_addCrate cX2_addCrate 2 (some .int)) ({ frames := 9, cells := 4, slots := 80, locals := 213 } : Room) 4 80 [.ref p0, .int p1] G (gpi post) px := by
  refine xof (by decide) (Nat.le_of_ble_eq_true rfl) ?_
  intro p e s m below meth c A ls hx hb hr hlk hml hown hin hts hPF hA htab hG hl
  have hl : lv_has ls 2 [(0, .ref p0), (1, .int p1)] := hl
  unfold gw_X2_addCrate at hw
  obtain ⟨G0, hG0⟩ : ∃ G0, G0 = G := ⟨_, rfl⟩
  have hG : gS E A G0 s.heap G s.heap [] := by rw [hG0]; exact hG
  rw [show gQ E A G (gpi post) = gQ E A G0 (gpi post) by rw [hG0]]
  rw [show gXC E A G px = gXC E A G0 px by rw [hG0]]
  have h0p0 := hw.1; rw [← hG0] at h0p0
  replace hw := hw.2
  have hL31 : ∀ (x1 : Int32) (t0 : Int32) (G : Gh) (H : Heap) (locs : List Loc) (ls : Array Slot), gS E A G0 s.heap G H locs → lv_has ls 2 [(0, .ref p0), (1, .int x1)] → gw_X2_addCrate_L31 E p0 post px x1 t0 G → W p l e (headSpec (ws_ yX2_addCrate cX2_addCrate 2 (some .int)) ({ frames := 9, cells := 4, slots := 80, locals := 213 } : Room)).room s m ([.ref p0, .int p1] : List Value).toArray below meth c H locs 1 6 (vx_MQ below (gQ E A G0 (gpi post)) (gXC E A G0 px) ([.ref p0, .int p1] : List Value).toArray s 4 80 A) (F0 m 31 ls [.int t0]) := by
    intro x1 t0 G H locs ls hG hl hw
    unfold gw_X2_addCrate_L31 at hw
    refine xc3v hA hG (vx_runSN (As := [.int t0]) (rest := []) ⟨hx, hb, hml, hown, hts⟩ (gm_X1_checkState l hlt E t0 _ _ G hw _) ⟨va_cnB 1 hts (lw_meth q1051) rfl rfl rfl (hPF.w q1049 rfl) (hts _ q55) hd_X1_checkState ⟨Nat.le_of_ble_eq_true rfl, Nat.le_of_ble_eq_true rfl⟩, hts _ q1050, trivial⟩ ⟨gblind, fun U hU hW => gpre hPF hA hG _ U hU hW⟩ rfl rfl hl.1 rfl (lv_room (Nat.le_of_ble_eq_true rfl)) dX2_addCrate_31 ⟨(Nat.le_of_ble_eq_true rfl), (Nat.le_of_ble_eq_true rfl)⟩) (fun X ce q Gx H locs hw hmon hG hce hcv hcl => ?_) (fun G8 H locs hw hmon hG => ?_)
    · exact gleave hlk hG (fun x hx9 => (htab x hx9).elim) hce hcv hcl hw (Nat.le_of_ble_eq_true rfl) (Nat.le_of_ble_eq_true rfl)
    · replace hw := hw hmon
      refine lv_aload_n hx hb dX2_addCrate_34 rfl (lv_at hl 0 rfl) ?_
      refine gg hx hb hts hown hPF hG 2 3 rfl in_X2 (by decide) (by decide) (by decide) q468 (fun _ h9 => h9) (gC_of (gK_mon hG.1.2 h0p0 (by decide)) (by decide)) (v := va_rf (gR G8 p0 3)) rfl dX2_addCrate_35 ?_
      refine gnew (ci := 8) hx hb hts in_X9 tyX9 tyX9_ok hown q910 q916 q85 hPF hG hA rfl (by decide) (by decide) gborn_X9 (Nat.le_of_ble_eq_true rfl) (Nat.le_of_ble_eq_true rfl) dX2_addCrate_38 (fun q9 H h0q9 hG => ?_)
      replace hw := hw q9 h0q9
      obtain ⟨G10, eG10⟩ : ∃ z, z = gN G8 q9 8 0 := ⟨_, rfl⟩
      rw [← eG10] at hG
      replace hw := hw G10 eG10
      have hkq9 : gK G10 q9 = 8 := by rw [eG10]; exact gK_Nq
      refine lv_dup hx hb dX2_addCrate_41 rfl ?_
      refine lv_iload_n hx hb dX2_addCrate_42 rfl (lv_at hl 1 rfl) ?_
      refine gc3v hA hG (va_runI (As := [.int x1]) (rest := [.ref q9, va_rf (gR G8 p0 3)]) ⟨hx, hb, hml, hown, hts⟩ (gm_X9_init l E q9 x1 _ G10 hw _) (cwI 1 hts (lw_meth q919) rfl rfl rfl (hts _ q85) (hts _ q1425) (hts _ q918) rfl hd_X9_init ⟨Nat.le_of_ble_eq_true rfl, Nat.le_of_ble_eq_true rfl⟩) ⟨gblind, fun U hU hW => gpre hPF hA hG _ U hU hW⟩ rfl rfl hl.1 rfl (lv_room (by (try simp only [List.map, va_rf_cat, gcat_i, gcat_r, gcat_l, gcat_d, gcat_f, gcat_n]); exact Nat.le_of_ble_eq_true rfl)) dX2_addCrate_43 ⟨(Nat.le_of_ble_eq_true rfl), (Nat.le_of_ble_eq_true rfl)⟩) (fun G11 H locs hw hmon hG => ?_)
      replace hw := hw hmon
      have hkq9 : gK G11 q9 = 8 := gK_mon hmon hkq9 (by decide)
      obtain ⟨q12, hq12, hw⟩ := hw
      refine W.eq (g2 := F0 m 46 ls [.ref q9, .ref q12]) (by rw [hq12]; rfl) ?_
      refine gc3i hA hG (va_runS (As := [.ref q12, .ref q9]) (rest := []) ⟨hx, hb, hml, hown, hts⟩ (gm_X2_added l E q12 q9 _ G11 hw _) (va_cwS 2 hts (lw_S q1058 q1059 q56 q1060) rfl rfl rfl hd_X2_added ⟨Nat.le_of_ble_eq_true rfl, Nat.le_of_ble_eq_true rfl⟩) ⟨gblind, fun U hU hW => gpre hPF hA hG _ U hU hW⟩ rfl rfl hl.1 rfl (lv_room (Nat.le_of_ble_eq_true rfl)) dX2_addCrate_46 ⟨(Nat.le_of_ble_eq_true rfl), (Nat.le_of_ble_eq_true rfl)⟩) (fun r14 G13 H locs hw hmon hG => ?_)
      replace hw := hw hmon
      have hkq9 : gK G13 q9 = 8 := gK_mon hmon hkq9 (by decide)
      exact xreti hx hb hr hlk hG rfl hw (Nat.le_of_ble_eq_true rfl) (Nat.le_of_ble_eq_true rfl) dX2_addCrate_49
  refine lv_iload_n hx hb dX2_addCrate_0 rfl (lv_at hl 1 rfl) ?_
  refine lv_i2l (v := p1.toInt64) hx hb dX2_addCrate_1 rfl ?_
  refine lv_ldc2 (v := 4) hx hb hown (hts _ q1319) dX2_addCrate_2 ?_
  refine lv_ldc2 (v := 24) hx hb hown (hts _ q1424) dX2_addCrate_5 ?_
  refine gc3i hA hG (va_runSN (As := [.long p1.toInt64, .long 4, .long 24]) (rest := []) ⟨hx, hb, hml, hown, hts⟩ (gm_X1_inRange l E p1.toInt64 4 24 _ G hw _) ⟨va_cnB 3 hts (lw_meth q638) rfl rfl rfl (hPF.w q636 rfl) (hts _ q55) hd_X1_inRange ⟨Nat.le_of_ble_eq_true rfl, Nat.le_of_ble_eq_true rfl⟩, hts _ q637, trivial⟩ ⟨gblind, fun U hU hW => gpre hPF hA hG _ U hU hW⟩ rfl rfl hl.1 rfl (lv_room (Nat.le_of_ble_eq_true rfl)) dX2_addCrate_8 ⟨(Nat.le_of_ble_eq_true rfl), (Nat.le_of_ble_eq_true rfl)⟩) (fun r2 G1 H locs hw hmon hG => ?_)
  replace hw := hw hmon
  refine xc3v hA hG (vx_runSN (As := [.int r2]) (rest := []) ⟨hx, hb, hml, hown, hts⟩ (gm_X1_checkArgument l hlt E r2 _ _ G1 hw _) ⟨va_cnB 1 hts (lw_meth q641) rfl rfl rfl (hPF.w q639 rfl) (hts _ q55) hd_X1_checkArgument ⟨Nat.le_of_ble_eq_true rfl, Nat.le_of_ble_eq_true rfl⟩, hts _ q640, trivial⟩ ⟨gblind, fun U hU hW => gpre hPF hA hG _ U hU hW⟩ rfl rfl hl.1 rfl (lv_room (Nat.le_of_ble_eq_true rfl)) dX2_addCrate_11 ⟨(Nat.le_of_ble_eq_true rfl), (Nat.le_of_ble_eq_true rfl)⟩) (fun X ce q Gx H locs hw hmon hG hce hcv hcl => ?_) (fun G3 H locs hw hmon hG => ?_)
  · exact gleave hlk hG (fun x hx9 => (htab x hx9).elim) hce hcv hcl hw (Nat.le_of_ble_eq_true rfl) (Nat.le_of_ble_eq_true rfl)
  · replace hw := hw hmon
    refine lv_aload_n hx hb dX2_addCrate_14 rfl (lv_at hl 0 rfl) ?_
    refine gg hx hb hts hown hPF hG 2 3 rfl in_X2 (by decide) (by decide) (by decide) q468 (fun _ h9 => h9) (gC_of (gK_mon hG.1.2 h0p0 (by decide)) (by decide)) (v := va_rf (gR G3 p0 3)) rfl dX2_addCrate_15 ?_
    obtain ⟨q4, hq4, hw⟩ := hw
    refine W.eq (g2 := F0 m 18 ls [.ref q4]) (by rw [hq4]; rfl) ?_
    have hk5 := hw.1
    replace hw := hw.2
    refine gc3i hA hG (va_runV (As := []) (rest := []) ⟨hx, hb, hml, hown, hts⟩ (gm_J2_size l E q4 _ G3 hw _) (cwV 0 hts (lw_V q1048 q591 q592 q59 q593) rfl rfl rfl hd_J2_size ⟨Nat.le_of_ble_eq_true rfl, Nat.le_of_ble_eq_true rfl⟩) ⟨gblind, grecv hPF hG hk5 (by decide) (by decide) rfl, fun U hU hW => gpre hPF hA hG _ U hU hW⟩ rfl rfl hl.1 rfl (lv_room (Nat.le_of_ble_eq_true rfl)) dX2_addCrate_18 ⟨(Nat.le_of_ble_eq_true rfl), (Nat.le_of_ble_eq_true rfl)⟩) (fun r7 G6 H locs hw hmon hG => ?_)
    replace hw := hw hmon
    have hk5 : gC G6 q4 = 14 := gC_mon hmon hk5 (by decide)
    refine lv_bipush (v := 6) hx hb dX2_addCrate_21 (by decide) ?_
    refine lv_icmp_ge (tgt := 30) hx hb dX2_addCrate_23 (by decide) (fun c_ => ?_) (fun c_ => ?_)
    · replace hw := hw.1 c_
      refine lv_iconst (v := 0) hx hb dX2_addCrate_30 (by decide) ?_
      refine W.widen (k := 1) (n := 6) (Nat.le_of_ble_eq_true rfl) (Nat.le_of_ble_eq_true rfl) ?_
      exact hL31  p1 0 G6 _ _ ls hG (lv_sub hl [0, 1] rfl) hw
    · replace hw := hw.2 c_
      refine lv_iconst (v := 1) hx hb dX2_addCrate_26 (by decide) ?_
      refine lv_goto (tgt := 31) hx hb dX2_addCrate_27 (by decide) ?_
      refine W.widen (k := 1) (n := 6) (Nat.le_of_ble_eq_true rfl) (Nat.le_of_ble_eq_true rfl) ?_
      exact hL31  p1 1 G6 _ _ ls hG (lv_sub hl [0, 1] rfl) hw
def gw_X2_addStraw_L34 (E : gE) (p0 : Nat) (post : Int32 → Gh → Prop) (px : String → Nat → Gh → Prop) (x2 : Int32) (x3 : Option Nat) (t0 : Int32) (G : Gh) : Prop := ∃ q8, x3 = some q8 ∧ (gC G q8 = 8 ∧ (gw_X4_check E (fun G10 => gMon G G10 → (gK G10 q8 = 8 ∧ (∀ G12, G12 = gsI G10 q8 3 ((gI G10 q8 3) + x2) → (post (gI G12 q8 3) G12)))) px t0 11 (gI G q8 3) G))
def gw_X2_addStraw (E : gE) (post : Int32 → Gh → Prop) (px : String → Nat → Gh → Prop) (p0 : Nat) (p1 : Int32) (p2 : Int32) (G : Gh) : Prop := gK G p0 = 2 ∧ (gw_X2_crate E (fun r2 G1 => gMon G G1 → (gw_X1_inRange E (fun r4 G3 => gMon G1 G3 → (gw_X1_checkArgument E (fun G5 => gMon G3 G5 → (∃ q6, r2 = some q6 ∧ (gC G5 q6 = 8 ∧ ((9 < ((gI G5 q6 3) + p2) → (gw_X2_addStraw_L34 E p0 post px  p2 r2 0 G5)) ∧ (¬ 9 < ((gI G5 q6 3) + p2) → (gw_X2_addStraw_L34 E p0 post px  p2 r2 1 G5)))))) px r4 G3)) p2.toInt64 1 9 G1)) px p0 p1 G)
theorem hd_X2_addStraw : yX2_addStraw.cls = RX2 ∧ yX2_addStraw.cls ≠ "java/lang/invoke/MethodHandle" ∧ yX2_addStraw.cls ≠ "java/lang/invoke/VarHandle" ∧ (parseMethodDescriptor yX2_addStraw.desc).map (fun d => d.parameters.length) = some 2 := by decide +kernel
theorem hdn_X2_addStraw : yX2_addStraw.cls ≠ "java/lang/invoke/MethodHandle" ∧ yX2_addStraw.cls ≠ "java/lang/invoke/VarHandle" ∧ (parseMethodDescriptor yX2_addStraw.desc).map (fun d => d.parameters.length) = some 2 := hd_X2_addStraw.2
theorem hdu_X2_addStraw : RX2 ≠ "java/lang/invoke/MethodHandle" ∧ RX2 ≠ "java/lang/invoke/VarHandle" ∧ (parseMethodDescriptor yX2_addStraw.desc).map (fun d => d.parameters.length) = some 2 := by decide +kernel
theorem hds_X2_addStraw : yX2_addStraw.name ≠ "<init>" ∧ (parseMethodDescriptor yX2_addStraw.desc).map (fun d => d.parameters.length) = some 2 := by decide +kernel
set_option maxHeartbeats 1000000 in
set_option maxRecDepth 100000 in
theorem gm_X2_addStraw (l : Launch) (hlt : l.stackTraces = false) (E : gE) (p0 : Nat) (p1 : Int32) (p2 : Int32) (post : Int32 → Gh → Prop) (px : String → Nat → Gh → Prop) (G : Gh) (hw : gw_X2_addStraw E post px p0 p1 p2 G) : gX l E yX2_addStraw (ws_ yX2_addStraw cX2_addStraw 4 (some .int)) ({ frames := 11, cells := 3, slots := 20, locals := 182 } : Room) 3 20 [.ref p0, .int p1, .int p2] G (gpi post) px := by
  refine xof (by decide) (Nat.le_of_ble_eq_true rfl) ?_
  intro p e s m below meth c A ls hx hb hr hlk hml hown hin hts hPF hA htab hG hl
  have hl : lv_has ls 4 [(0, .ref p0), (1, .int p1), (2, .int p2)] := hl
  unfold gw_X2_addStraw at hw
  obtain ⟨G0, hG0⟩ : ∃ G0, G0 = G := ⟨_, rfl⟩
  have hG : gS E A G0 s.heap G s.heap [] := by rw [hG0]; exact hG
  rw [show gQ E A G (gpi post) = gQ E A G0 (gpi post) by rw [hG0]]
  rw [show gXC E A G px = gXC E A G0 px by rw [hG0]]
  have h0p0 := hw.1; rw [← hG0] at h0p0
  replace hw := hw.2
  have hL34 : ∀ (x2 : Int32) (x3 : Option Nat) (t0 : Int32) (G : Gh) (H : Heap) (locs : List Loc) (ls : Array Slot), gS E A G0 s.heap G H locs → lv_has ls 4 [(2, .int x2), (3, va_rf x3)] → gw_X2_addStraw_L34 E p0 post px x2 x3 t0 G → W p l e (headSpec (ws_ yX2_addStraw cX2_addStraw 4 (some .int)) ({ frames := 11, cells := 3, slots := 20, locals := 182 } : Room)).room s m ([.ref p0, .int p1, .int p2] : List Value).toArray below meth c H locs 2 12 (vx_MQ below (gQ E A G0 (gpi post)) (gXC E A G0 px) ([.ref p0, .int p1, .int p2] : List Value).toArray s 3 20 A) (F0 m 34 ls [.int t0]) := by
    intro x2 x3 t0 G H locs ls hG hl hw
    unfold gw_X2_addStraw_L34 at hw
    refine lv_bipush (v := 11) hx hb dX2_addStraw_34 (by decide) ?_
    refine ga_n hx hb dX2_addStraw_36 rfl (lv_at hl 1 rfl) ?_
    obtain ⟨q8, hq8, hw⟩ := hw
    refine W.eq (g2 := F0 m 37 ls [.ref q8, .int 11, .int t0]) (by rw [hq8]; rfl) ?_
    have hk9 := hw.1
    replace hw := hw.2
    refine ggN hx hb hts hown hPF hG 8 3 rfl in_X9 (by decide) (by decide) (by decide) q931 (fun _ h9 => h9) hk9 (v := .int (gI G q8 3)) rfl dX2_addStraw_37 ?_
    refine xc3v hA hG (vx_runS (As := [.int t0, .int 11, .int (gI G q8 3)]) (rest := []) ⟨hx, hb, hml, hown, hts⟩ (gm_X4_check l hlt E t0 11 (gI G q8 3) _ _ G hw _) (va_cwS 3 hts (lw_S q657 q658 q78 q659) rfl rfl rfl hd_X4_check ⟨Nat.le_of_ble_eq_true rfl, Nat.le_of_ble_eq_true rfl⟩) ⟨gblind, fun U hU hW => gpre hPF hA hG _ U hU hW⟩ rfl rfl hl.1 rfl (lv_room (Nat.le_of_ble_eq_true rfl)) dX2_addStraw_40 ⟨(Nat.le_of_ble_eq_true rfl), (Nat.le_of_ble_eq_true rfl)⟩) (fun X ce q Gx H locs hw hmon hG hce hcv hcl => ?_) (fun G10 H locs hw hmon hG => ?_)
    · exact gleave hlk hG (fun x hx9 => (htab x hx9).elim) hce hcv hcl hw (Nat.le_of_ble_eq_true rfl) (Nat.le_of_ble_eq_true rfl)
    · replace hw := hw hmon
      have hk9 : gC G10 q8 = 8 := gC_mon hmon hk9 (by decide)
      refine ga_n hx hb dX2_addStraw_43 rfl (lv_at hl 1 rfl) ?_
      refine lv_dup hx hb dX2_addStraw_44 (va_rf_cat _) ?_
      refine W.eq (g2 := F0 m 45 ls [.ref q8, va_rf x3]) (by rw [hq8]; rfl) ?_
      refine ggN hx hb hts hown hPF hG 8 3 rfl in_X9 (by decide) (by decide) (by decide) q931 (fun _ h9 => h9) hk9 (v := .int (gI G10 q8 3)) rfl dX2_addStraw_45 ?_
      refine lv_iload_n hx hb dX2_addStraw_48 rfl (lv_at hl 0 rfl) ?_
      refine lv_iadd hx hb dX2_addStraw_49 ?_
      refine W.eq (g2 := F0 m 50 ls [.int ((gI G10 q8 3) + x2), .ref q8]) (by rw [hq8]; rfl) ?_
      have hk11 := hw.1
      replace hw := hw.2
      refine gpN hx hb hts hown hPF hG 8 3 rfl in_X9 tyX9 tyX9_ok nmX9 (by decide) (by decide) (by decide) q931 (fun _ h9 => h9) rfl hk11 (v := .int ((gI G10 q8 3) + x2)) rfl rfl (G' := gsI G10 q8 3 ((gI G10 q8 3) + x2)) rfl rfl grI_off (Nat.le_of_ble_eq_true rfl) (gFs_I 8 3 (fun _ _ _ => rfl)) dX2_addStraw_50 (fun H locs hG => ?_)
      obtain ⟨G12, eG12⟩ : ∃ z, z = gsI G10 q8 3 ((gI G10 q8 3) + x2) := ⟨_, rfl⟩
      rw [← eG12] at hG
      replace hw := hw G12 eG12
      have hk9 : gC G12 q8 = 8 := by rw [eG12]; exact hk9
      have hk11 : gK G12 q8 = 8 := by rw [eG12]; exact hk11
      refine ga_n hx hb dX2_addStraw_53 rfl (lv_at hl 1 rfl) ?_
      refine W.eq (g2 := F0 m 54 ls [.ref q8]) (by rw [hq8]; rfl) ?_
      refine ggN hx hb hts hown hPF hG 8 3 rfl in_X9 (by decide) (by decide) (by decide) q931 (fun _ h9 => h9) hk9 (v := .int (gI G12 q8 3)) rfl dX2_addStraw_54 ?_
      exact xreti hx hb hr hlk hG rfl hw (Nat.le_of_ble_eq_true rfl) (Nat.le_of_ble_eq_true rfl) dX2_addStraw_57
  refine lv_aload_n hx hb dX2_addStraw_0 rfl (lv_at hl 0 rfl) ?_
  refine lv_iload_n hx hb dX2_addStraw_1 rfl (lv_at hl 1 rfl) ?_
  refine xc3r hA hG (vx_runV (As := [.int p1]) (rest := []) ⟨hx, hb, hml, hown, hts⟩ (gm_X2_crate l hlt E p0 p1 _ _ G hw _) (cwV 1 hts (lw_V q1460 q1434 q1435 q56 q1436) rfl rfl rfl hd_X2_crate ⟨Nat.le_of_ble_eq_true rfl, Nat.le_of_ble_eq_true rfl⟩) ⟨gblind, grecv hPF hG (gC_of (gK_mon hG.1.2 h0p0 (by decide)) (by decide)) (by decide) (by decide) rfl, fun U hU hW => gpre hPF hA hG _ U hU hW⟩ rfl rfl hl.1 rfl (lv_room (Nat.le_of_ble_eq_true rfl)) dX2_addStraw_2 ⟨(Nat.le_of_ble_eq_true rfl), (Nat.le_of_ble_eq_true rfl)⟩) (fun X ce q Gx H locs hw hmon hG hce hcv hcl => ?_) (fun r2 G1 H locs hw hmon hG => ?_)
  · exact gleave hlk hG (fun x hx9 => (htab x hx9).elim) hce hcv hcl hw (Nat.le_of_ble_eq_true rfl) (Nat.le_of_ble_eq_true rfl)
  · replace hw := hw hmon
    refine gt_n (i := 3) (lv' := [(3, va_rf r2), (0, .ref p0), (1, .int p1), (2, .int p2)]) hx hb dX2_addStraw_5 rfl hl (by decide) rfl (fun ls hl => ?_)
    refine lv_iload_n hx hb dX2_addStraw_6 rfl (lv_at hl 3 rfl) ?_
    refine lv_i2l (v := p2.toInt64) hx hb dX2_addStraw_7 rfl ?_
    refine lv_lconst (v := 1) hx hb dX2_addStraw_8 (by decide) ?_
    refine lv_ldc2 (v := 9) hx hb hown (hts _ q1033) dX2_addStraw_9 ?_
    refine gc3i hA hG (va_runSN (As := [.long p2.toInt64, .long 1, .long 9]) (rest := []) ⟨hx, hb, hml, hown, hts⟩ (gm_X1_inRange l E p2.toInt64 1 9 _ G1 hw _) ⟨va_cnB 3 hts (lw_meth q638) rfl rfl rfl (hPF.w q636 rfl) (hts _ q55) hd_X1_inRange ⟨Nat.le_of_ble_eq_true rfl, Nat.le_of_ble_eq_true rfl⟩, hts _ q637, trivial⟩ ⟨gblind, fun U hU hW => gpre hPF hA hG _ U hU hW⟩ rfl rfl hl.1 rfl (lv_room (Nat.le_of_ble_eq_true rfl)) dX2_addStraw_12 ⟨(Nat.le_of_ble_eq_true rfl), (Nat.le_of_ble_eq_true rfl)⟩) (fun r4 G3 H locs hw hmon hG => ?_)
    replace hw := hw hmon
    refine xc3v hA hG (vx_runSN (As := [.int r4]) (rest := []) ⟨hx, hb, hml, hown, hts⟩ (gm_X1_checkArgument l hlt E r4 _ _ G3 hw _) ⟨va_cnB 1 hts (lw_meth q641) rfl rfl rfl (hPF.w q639 rfl) (hts _ q55) hd_X1_checkArgument ⟨Nat.le_of_ble_eq_true rfl, Nat.le_of_ble_eq_true rfl⟩, hts _ q640, trivial⟩ ⟨gblind, fun U hU hW => gpre hPF hA hG _ U hU hW⟩ rfl rfl hl.1 rfl (lv_room (Nat.le_of_ble_eq_true rfl)) dX2_addStraw_15 ⟨(Nat.le_of_ble_eq_true rfl), (Nat.le_of_ble_eq_true rfl)⟩) (fun X ce q Gx H locs hw hmon hG hce hcv hcl => ?_) (fun G5 H locs hw hmon hG => ?_)
    · exact gleave hlk hG (fun x hx9 => (htab x hx9).elim) hce hcv hcl hw (Nat.le_of_ble_eq_true rfl) (Nat.le_of_ble_eq_true rfl)
    · replace hw := hw hmon
      refine ga_n hx hb dX2_addStraw_18 rfl (lv_at hl 0 rfl) ?_
      obtain ⟨q6, hq6, hw⟩ := hw
      refine W.eq (g2 := F0 m 19 ls [.ref q6]) (by rw [hq6]; rfl) ?_
      have hk7 := hw.1
      replace hw := hw.2
      refine ggN hx hb hts hown hPF hG 8 3 rfl in_X9 (by decide) (by decide) (by decide) q931 (fun _ h9 => h9) hk7 (v := .int (gI G5 q6 3)) rfl dX2_addStraw_19 ?_
      refine lv_iload_n hx hb dX2_addStraw_22 rfl (lv_at hl 3 rfl) ?_
      refine lv_iadd hx hb dX2_addStraw_23 ?_
      refine lv_bipush (v := 9) hx hb dX2_addStraw_24 (by decide) ?_
      refine lv_icmp_gt (tgt := 33) hx hb dX2_addStraw_26 (by decide) (fun c_ => ?_) (fun c_ => ?_)
      · replace hw := hw.1 c_
        refine lv_iconst (v := 0) hx hb dX2_addStraw_33 (by decide) ?_
        refine W.widen (k := 2) (n := 12) (Nat.le_of_ble_eq_true rfl) (Nat.le_of_ble_eq_true rfl) ?_
        exact hL34  p2 r2 0 G5 _ _ ls hG (lv_sub hl [3, 0] rfl) hw
      · replace hw := hw.2 c_
        refine lv_iconst (v := 1) hx hb dX2_addStraw_29 (by decide) ?_
        refine lv_goto (tgt := 34) hx hb dX2_addStraw_30 (by decide) ?_
        refine W.widen (k := 2) (n := 12) (Nat.le_of_ble_eq_true rfl) (Nat.le_of_ble_eq_true rfl) ?_
        exact hL34  p2 r2 1 G5 _ _ ls hG (lv_sub hl [3, 0] rfl) hw
def gw_X2_pack_L82 (E : gE) (p0 : Nat) (post : Int32 → Gh → Prop) (px : String → Nat → Gh → Prop) (x3 : Int32) (x4 : Option Nat) (x5 : Option Nat) (x6 : Int32) (t0 : Int32) (G : Gh) : Prop := gw_X4_check E (fun G16 => gMon G G16 → (∃ q17, x5 = some q17 ∧ (gC G16 q17 = 5 ∧ (gK G16 q17 = 5 ∧ (∀ G20, G20 = gsI G16 q17 1 ((gI G16 q17 1) - x3) → (∃ q21, x4 = some q21 ∧ (gC G20 q21 = 8 ∧ (gK G20 q21 = 8 ∧ (∀ G24, G24 = gsI G20 q21 1 ((gI G20 q21 1) + x3) → (∃ q25, (gR G24 q17 2) = some q25 ∧ (gSt G24 q25 ∧ (∀ G27, G27 = gsI G24 q21 2 ((gI G24 q21 2) + (x3 * (2 + (gWel G24 q25)))) → (post (gI G27 q21 1) G27))))))))))))) px t0 8 x6 G
def gw_X2_pack_L48 (E : gE) (p0 : Nat) (post : Int32 → Gh → Prop) (px : String → Nat → Gh → Prop) (x3 : Int32) (x4 : Option Nat) (x5 : Option Nat) (t0 : Int32) (G : Gh) : Prop := ∃ q11, x5 = some q11 ∧ (gC G q11 = 5 ∧ (gw_X4_check E (fun G13 => gMon G G13 → (∃ q14, x4 = some q14 ∧ (gC G13 q14 = 8 ∧ ((((gI G13 q14 0) - (gI G13 q14 1)) < x3 → (gw_X2_pack_L82 E p0 post px  x3 x4 x5 ((gI G13 q14 0) - (gI G13 q14 1)) 0 G13)) ∧ (¬ ((gI G13 q14 0) - (gI G13 q14 1)) < x3 → (gw_X2_pack_L82 E p0 post px  x3 x4 x5 ((gI G13 q14 0) - (gI G13 q14 1)) 1 G13)))))) px t0 7 (gI G q11 1) G))
def gw_X2_pack (E : gE) (post : Int32 → Gh → Prop) (px : String → Nat → Gh → Prop) (p0 : Nat) (p1 : Int32) (p2 : Int32) (p3 : Int32) (G : Gh) : Prop := gK G p0 = 2 ∧ (gw_X2_crate E (fun r2 G1 => gMon G G1 → (gw_X2_lot E (fun r4 G3 => gMon G1 G3 → (gw_X1_inRange E (fun r6 G5 => gMon G3 G5 → (gw_X1_checkArgument E (fun G7 => gMon G5 G7 → (∃ q8, r4 = some q8 ∧ (gw_X10_check E (fun G9 => gMon G7 G9 → (gC G9 q8 = 5 ∧ (((gI G9 q8 1) < p3 → (gw_X2_pack_L48 E p0 post px  p3 r2 r4 0 G9)) ∧ (¬ (gI G9 q8 1) < p3 → (gw_X2_pack_L48 E p0 post px  p3 r2 r4 1 G9))))) px (eZ E 3) q8 G7))) px r6 G5)) p3.toInt64 1 24 G3)) px p0 p2 G1)) px p0 p1 G)
theorem hd_X2_pack : yX2_pack.cls = RX2 ∧ yX2_pack.cls ≠ "java/lang/invoke/MethodHandle" ∧ yX2_pack.cls ≠ "java/lang/invoke/VarHandle" ∧ (parseMethodDescriptor yX2_pack.desc).map (fun d => d.parameters.length) = some 3 := by decide +kernel
theorem hdn_X2_pack : yX2_pack.cls ≠ "java/lang/invoke/MethodHandle" ∧ yX2_pack.cls ≠ "java/lang/invoke/VarHandle" ∧ (parseMethodDescriptor yX2_pack.desc).map (fun d => d.parameters.length) = some 3 := hd_X2_pack.2
theorem hdu_X2_pack : RX2 ≠ "java/lang/invoke/MethodHandle" ∧ RX2 ≠ "java/lang/invoke/VarHandle" ∧ (parseMethodDescriptor yX2_pack.desc).map (fun d => d.parameters.length) = some 3 := by decide +kernel
theorem hds_X2_pack : yX2_pack.name ≠ "<init>" ∧ (parseMethodDescriptor yX2_pack.desc).map (fun d => d.parameters.length) = some 3 := by decide +kernel
set_option maxHeartbeats 1000000 in
set_option maxRecDepth 100000 in
theorem gm_X2_pack (l : Launch) (hlt : l.stackTraces = false) (E : gE) (p0 : Nat) (p1 : Int32) (p2 : Int32) (p3 : Int32) (post : Int32 → Gh → Prop) (px : String → Nat → Gh → Prop) (G : Gh) (hw : gw_X2_pack E post px p0 p1 p2 p3 G) : gX l E yX2_pack (ws_ yX2_pack cX2_pack 7 (some .int)) ({ frames := 11, cells := 6, slots := 42, locals := 182 } : Room) 6 42 [.ref p0, .int p1, .int p2, .int p3] G (gpi post) px := by
  refine xof (by decide) (Nat.le_of_ble_eq_true rfl) ?_
  intro p e s m below meth c A ls hx hb hr hlk hml hown hin hts hPF hA htab hG hl
  have hl : lv_has ls 7 [(0, .ref p0), (1, .int p1), (2, .int p2), (3, .int p3)] := hl
  unfold gw_X2_pack at hw
  obtain ⟨G0, hG0⟩ : ∃ G0, G0 = G := ⟨_, rfl⟩
  have hG : gS E A G0 s.heap G s.heap [] := by rw [hG0]; exact hG
  rw [show gQ E A G (gpi post) = gQ E A G0 (gpi post) by rw [hG0]]
  rw [show gXC E A G px = gXC E A G0 px by rw [hG0]]
  have h0p0 := hw.1; rw [← hG0] at h0p0
  replace hw := hw.2
  have hL82 : ∀ (x3 : Int32) (x4 : Option Nat) (x5 : Option Nat) (x6 : Int32) (t0 : Int32) (G : Gh) (H : Heap) (locs : List Loc) (ls : Array Slot), gS E A G0 s.heap G H locs → lv_has ls 7 [(3, .int x3), (4, va_rf x4), (5, va_rf x5), (6, .int x6)] → gw_X2_pack_L82 E p0 post px x3 x4 x5 x6 t0 G → W p l e (headSpec (ws_ yX2_pack cX2_pack 7 (some .int)) ({ frames := 11, cells := 6, slots := 42, locals := 182 } : Room)).room s m ([.ref p0, .int p1, .int p2, .int p3] : List Value).toArray below meth c H locs 5 34 (vx_MQ below (gQ E A G0 (gpi post)) (gXC E A G0 px) ([.ref p0, .int p1, .int p2, .int p3] : List Value).toArray s 6 42 A) (F0 m 82 ls [.int t0]) := by
    intro x3 x4 x5 x6 t0 G H locs ls hG hl hw
    unfold gw_X2_pack_L82 at hw
    refine lv_bipush (v := 8) hx hb dX2_pack_82 (by decide) ?_
    refine lv_iload hx hb dX2_pack_84 (lv_at hl 3 rfl) ?_
    refine xc3v hA hG (vx_runS (As := [.int t0, .int 8, .int x6]) (rest := []) ⟨hx, hb, hml, hown, hts⟩ (gm_X4_check l hlt E t0 8 x6 _ _ G hw _) (va_cwS 3 hts (lw_S q657 q658 q78 q659) rfl rfl rfl hd_X4_check ⟨Nat.le_of_ble_eq_true rfl, Nat.le_of_ble_eq_true rfl⟩) ⟨gblind, fun U hU hW => gpre hPF hA hG _ U hU hW⟩ rfl rfl hl.1 rfl (lv_room (Nat.le_of_ble_eq_true rfl)) dX2_pack_86 ⟨(Nat.le_of_ble_eq_true rfl), (Nat.le_of_ble_eq_true rfl)⟩) (fun X ce q Gx H locs hw hmon hG hce hcv hcl => ?_) (fun G16 H locs hw hmon hG => ?_)
    · exact gleave hlk hG (fun x hx9 => (htab x hx9).elim) hce hcv hcl hw (Nat.le_of_ble_eq_true rfl) (Nat.le_of_ble_eq_true rfl)
    · replace hw := hw hmon
      refine ga_ hx hb dX2_pack_89 (lv_at hl 2 rfl) ?_
      refine lv_dup hx hb dX2_pack_91 (va_rf_cat _) ?_
      obtain ⟨q17, hq17, hw⟩ := hw
      refine W.eq (g2 := F0 m 92 ls [.ref q17, va_rf x5]) (by rw [hq17]; rfl) ?_
      have hk18 := hw.1
      replace hw := hw.2
      refine ggN hx hb hts hown hPF hG 5 1 rfl in_X6 (by decide) (by decide) (by decide) q875 (fun _ h9 => h9) hk18 (v := .int (gI G16 q17 1)) rfl dX2_pack_92 ?_
      refine lv_iload_n hx hb dX2_pack_95 rfl (lv_at hl 0 rfl) ?_
      refine lv_isub hx hb dX2_pack_96 ?_
      refine W.eq (g2 := F0 m 97 ls [.int ((gI G16 q17 1) - x3), .ref q17]) (by rw [hq17]; rfl) ?_
      have hk19 := hw.1
      replace hw := hw.2
      refine gpN hx hb hts hown hPF hG 5 1 rfl in_X6 tyX6 tyX6_ok nmX6 (by decide) (by decide) (by decide) q875 (fun _ h9 => h9) rfl hk19 (v := .int ((gI G16 q17 1) - x3)) rfl rfl (G' := gsI G16 q17 1 ((gI G16 q17 1) - x3)) rfl rfl grI_off (Nat.le_of_ble_eq_true rfl) (gFs_I 5 1 (fun _ _ _ => rfl)) dX2_pack_97 (fun H locs hG => ?_)
      obtain ⟨G20, eG20⟩ : ∃ z, z = gsI G16 q17 1 ((gI G16 q17 1) - x3) := ⟨_, rfl⟩
      rw [← eG20] at hG
      replace hw := hw G20 eG20
      have hk18 : gC G20 q17 = 5 := by rw [eG20]; exact hk18
      have hk19 : gK G20 q17 = 5 := by rw [eG20]; exact hk19
      refine ga_ hx hb dX2_pack_100 (lv_at hl 1 rfl) ?_
      refine lv_dup hx hb dX2_pack_102 (va_rf_cat _) ?_
      obtain ⟨q21, hq21, hw⟩ := hw
      refine W.eq (g2 := F0 m 103 ls [.ref q21, va_rf x4]) (by rw [hq21]; rfl) ?_
      have hk22 := hw.1
      replace hw := hw.2
      refine ggN hx hb hts hown hPF hG 8 1 rfl in_X9 (by decide) (by decide) (by decide) q925 (fun _ h9 => h9) hk22 (v := .int (gI G20 q21 1)) rfl dX2_pack_103 ?_
      refine lv_iload_n hx hb dX2_pack_106 rfl (lv_at hl 0 rfl) ?_
      refine lv_iadd hx hb dX2_pack_107 ?_
      refine W.eq (g2 := F0 m 108 ls [.int ((gI G20 q21 1) + x3), .ref q21]) (by rw [hq21]; rfl) ?_
      have hk23 := hw.1
      replace hw := hw.2
      refine gpN hx hb hts hown hPF hG 8 1 rfl in_X9 tyX9 tyX9_ok nmX9 (by decide) (by decide) (by decide) q925 (fun _ h9 => h9) rfl hk23 (v := .int ((gI G20 q21 1) + x3)) rfl rfl (G' := gsI G20 q21 1 ((gI G20 q21 1) + x3)) rfl rfl grI_off (Nat.le_of_ble_eq_true rfl) (gFs_I 8 1 (fun _ _ _ => rfl)) dX2_pack_108 (fun H locs hG => ?_)
      obtain ⟨G24, eG24⟩ : ∃ z, z = gsI G20 q21 1 ((gI G20 q21 1) + x3) := ⟨_, rfl⟩
      rw [← eG24] at hG
      replace hw := hw G24 eG24
      have hk18 : gC G24 q17 = 5 := by rw [eG24]; exact hk18
      have hk19 : gK G24 q17 = 5 := by rw [eG24]; exact hk19
      have hk22 : gC G24 q21 = 8 := by rw [eG24]; exact hk22
      have hk23 : gK G24 q21 = 8 := by rw [eG24]; exact hk23
      refine ga_ hx hb dX2_pack_111 (lv_at hl 1 rfl) ?_
      refine lv_dup hx hb dX2_pack_113 (va_rf_cat _) ?_
      refine W.eq (g2 := F0 m 114 ls [.ref q21, va_rf x4]) (by rw [hq21]; rfl) ?_
      refine ggN hx hb hts hown hPF hG 8 2 rfl in_X9 (by decide) (by decide) (by decide) q928 (fun _ h9 => h9) hk22 (v := .int (gI G24 q21 2)) rfl dX2_pack_114 ?_
      refine lv_iload_n hx hb dX2_pack_117 rfl (lv_at hl 0 rfl) ?_
      refine lv_iconst (v := 2) hx hb dX2_pack_118 (by decide) ?_
      refine ga_ hx hb dX2_pack_119 (lv_at hl 2 rfl) ?_
      refine W.eq (g2 := F0 m 121 ls [.ref q17, .int 2, .int x3, .int (gI G24 q21 2), va_rf x4]) (by rw [hq17]; rfl) ?_
      refine ggN hx hb hts hown hPF hG 5 2 rfl in_X6 (by decide) (by decide) (by decide) q879 (fun _ h9 => h9) hk18 (v := va_rf (gR G24 q17 2)) rfl dX2_pack_121 ?_
      obtain ⟨q25, hq25, hw⟩ := hw
      refine W.eq (g2 := F0 m 124 ls [.ref q25, .int 2, .int x3, .int (gI G24 q21 2), va_rf x4]) (by rw [hq25]; rfl) ?_
      have hS26 := hw.1
      replace hw := hw.2
      refine gdwell (rest := [.int 2, .int x3, .int (gI G24 q21 2), va_rf x4]) hx hb hml hts hown q1363 hPF hA hG hS26 hl.1 (lv_room (by (try simp only [List.map, va_rf_cat, gcat_i, gcat_r, gcat_l, gcat_d, gcat_f, gcat_n]); exact Nat.le_of_ble_eq_true rfl)) (Nat.le_of_ble_eq_true rfl) (Nat.le_of_ble_eq_true rfl) (Nat.le_of_ble_eq_true rfl) (Nat.le_of_ble_eq_true rfl) dX2_pack_124 (fun H locs hG => ?_)
      refine lv_iadd hx hb dX2_pack_129 ?_
      refine lv_imul hx hb dX2_pack_130 ?_
      refine lv_iadd hx hb dX2_pack_131 ?_
      refine W.eq (g2 := F0 m 132 ls [.int ((gI G24 q21 2) + (x3 * (2 + (gWel G24 q25)))), .ref q21]) (by rw [hq21]; rfl) ?_
      refine gpN hx hb hts hown hPF hG 8 2 rfl in_X9 tyX9 tyX9_ok nmX9 (by decide) (by decide) (by decide) q928 (fun _ h9 => h9) rfl hk23 (v := .int ((gI G24 q21 2) + (x3 * (2 + (gWel G24 q25))))) rfl rfl (G' := gsI G24 q21 2 ((gI G24 q21 2) + (x3 * (2 + (gWel G24 q25))))) rfl rfl grI_off (Nat.le_of_ble_eq_true rfl) (gFs_I 8 2 (fun _ _ _ => rfl)) dX2_pack_132 (fun H locs hG => ?_)
      obtain ⟨G27, eG27⟩ : ∃ z, z = gsI G24 q21 2 ((gI G24 q21 2) + (x3 * (2 + (gWel G24 q25)))) := ⟨_, rfl⟩
      rw [← eG27] at hG
      replace hw := hw G27 eG27
      have hk18 : gC G27 q17 = 5 := by rw [eG27]; exact hk18
      have hk19 : gK G27 q17 = 5 := by rw [eG27]; exact hk19
      have hk22 : gC G27 q21 = 8 := by rw [eG27]; exact hk22
      have hk23 : gK G27 q21 = 8 := by rw [eG27]; exact hk23
      refine ga_ hx hb dX2_pack_135 (lv_at hl 1 rfl) ?_
      refine W.eq (g2 := F0 m 137 ls [.ref q21]) (by rw [hq21]; rfl) ?_
      refine ggN hx hb hts hown hPF hG 8 1 rfl in_X9 (by decide) (by decide) (by decide) q925 (fun _ h9 => h9) hk22 (v := .int (gI G27 q21 1)) rfl dX2_pack_137 ?_
      exact xreti hx hb hr hlk hG rfl hw (Nat.le_of_ble_eq_true rfl) (Nat.le_of_ble_eq_true rfl) dX2_pack_140
  have hL48 : ∀ (x3 : Int32) (x4 : Option Nat) (x5 : Option Nat) (t0 : Int32) (G : Gh) (H : Heap) (locs : List Loc) (ls : Array Slot), gS E A G0 s.heap G H locs → lv_has ls 7 [(3, .int x3), (4, va_rf x4), (5, va_rf x5)] → gw_X2_pack_L48 E p0 post px x3 x4 x5 t0 G → W p l e (headSpec (ws_ yX2_pack cX2_pack 7 (some .int)) ({ frames := 11, cells := 6, slots := 42, locals := 182 } : Room)).room s m ([.ref p0, .int p1, .int p2, .int p3] : List Value).toArray below meth c H locs 4 26 (vx_MQ below (gQ E A G0 (gpi post)) (gXC E A G0 px) ([.ref p0, .int p1, .int p2, .int p3] : List Value).toArray s 6 42 A) (F0 m 48 ls [.int t0]) := by
    intro x3 x4 x5 t0 G H locs ls hG hl hw
    unfold gw_X2_pack_L48 at hw
    refine lv_bipush (v := 7) hx hb dX2_pack_48 (by decide) ?_
    refine ga_ hx hb dX2_pack_50 (lv_at hl 2 rfl) ?_
    obtain ⟨q11, hq11, hw⟩ := hw
    refine W.eq (g2 := F0 m 52 ls [.ref q11, .int 7, .int t0]) (by rw [hq11]; rfl) ?_
    have hk12 := hw.1
    replace hw := hw.2
    refine ggN hx hb hts hown hPF hG 5 1 rfl in_X6 (by decide) (by decide) (by decide) q875 (fun _ h9 => h9) hk12 (v := .int (gI G q11 1)) rfl dX2_pack_52 ?_
    refine xc3v hA hG (vx_runS (As := [.int t0, .int 7, .int (gI G q11 1)]) (rest := []) ⟨hx, hb, hml, hown, hts⟩ (gm_X4_check l hlt E t0 7 (gI G q11 1) _ _ G hw _) (va_cwS 3 hts (lw_S q657 q658 q78 q659) rfl rfl rfl hd_X4_check ⟨Nat.le_of_ble_eq_true rfl, Nat.le_of_ble_eq_true rfl⟩) ⟨gblind, fun U hU hW => gpre hPF hA hG _ U hU hW⟩ rfl rfl hl.1 rfl (lv_room (Nat.le_of_ble_eq_true rfl)) dX2_pack_55 ⟨(Nat.le_of_ble_eq_true rfl), (Nat.le_of_ble_eq_true rfl)⟩) (fun X ce q Gx H locs hw hmon hG hce hcv hcl => ?_) (fun G13 H locs hw hmon hG => ?_)
    · exact gleave hlk hG (fun x hx9 => (htab x hx9).elim) hce hcv hcl hw (Nat.le_of_ble_eq_true rfl) (Nat.le_of_ble_eq_true rfl)
    · replace hw := hw hmon
      have hk12 : gC G13 q11 = 5 := gC_mon hmon hk12 (by decide)
      refine ga_ hx hb dX2_pack_58 (lv_at hl 1 rfl) ?_
      obtain ⟨q14, hq14, hw⟩ := hw
      refine W.eq (g2 := F0 m 60 ls [.ref q14]) (by rw [hq14]; rfl) ?_
      have hk15 := hw.1
      replace hw := hw.2
      refine ggN hx hb hts hown hPF hG 8 0 rfl in_X9 (by decide) (by decide) (by decide) q922 (fun _ h9 => h9) hk15 (v := .int (gI G13 q14 0)) rfl dX2_pack_60 ?_
      refine ga_ hx hb dX2_pack_63 (lv_at hl 1 rfl) ?_
      refine W.eq (g2 := F0 m 65 ls [.ref q14, .int (gI G13 q14 0)]) (by rw [hq14]; rfl) ?_
      refine ggN hx hb hts hown hPF hG 8 1 rfl in_X9 (by decide) (by decide) (by decide) q925 (fun _ h9 => h9) hk15 (v := .int (gI G13 q14 1)) rfl dX2_pack_65 ?_
      refine lv_isub hx hb dX2_pack_68 ?_
      refine lv_istore (lv' := [(6, .int ((gI G13 q14 0) - (gI G13 q14 1))), (3, .int x3), (4, va_rf x4), (5, va_rf x5)]) hx hb dX2_pack_69 hl (by decide) (by first | rfl | simp [List.filter, va_rf_cat, gcat_i, gcat_r, gcat_l, gcat_d, gcat_f, gcat_n]) (fun ls hl => ?_)
      refine lv_iload_n hx hb dX2_pack_71 rfl (lv_at hl 1 rfl) ?_
      refine lv_iload hx hb dX2_pack_72 (lv_at hl 0 rfl) ?_
      refine lv_icmp_gt (tgt := 81) hx hb dX2_pack_74 (by decide) (fun c_ => ?_) (fun c_ => ?_)
      · replace hw := hw.1 c_
        refine lv_iconst (v := 0) hx hb dX2_pack_81 (by decide) ?_
        refine W.widen (k := 5) (n := 34) (Nat.le_of_ble_eq_true rfl) (Nat.le_of_ble_eq_true rfl) ?_
        exact hL82  x3 x4 x5 ((gI G13 q14 0) - (gI G13 q14 1)) 0 G13 _ _ ls hG (lv_sub hl [1, 2, 3, 0] rfl) hw
      · replace hw := hw.2 c_
        refine lv_iconst (v := 1) hx hb dX2_pack_77 (by decide) ?_
        refine lv_goto (tgt := 82) hx hb dX2_pack_78 (by decide) ?_
        refine W.widen (k := 5) (n := 34) (Nat.le_of_ble_eq_true rfl) (Nat.le_of_ble_eq_true rfl) ?_
        exact hL82  x3 x4 x5 ((gI G13 q14 0) - (gI G13 q14 1)) 1 G13 _ _ ls hG (lv_sub hl [1, 2, 3, 0] rfl) hw
  refine lv_aload_n hx hb dX2_pack_0 rfl (lv_at hl 0 rfl) ?_
  refine lv_iload_n hx hb dX2_pack_1 rfl (lv_at hl 1 rfl) ?_
  refine xc3r hA hG (vx_runV (As := [.int p1]) (rest := []) ⟨hx, hb, hml, hown, hts⟩ (gm_X2_crate l hlt E p0 p1 _ _ G hw _) (cwV 1 hts (lw_V q1460 q1434 q1435 q56 q1436) rfl rfl rfl hd_X2_crate ⟨Nat.le_of_ble_eq_true rfl, Nat.le_of_ble_eq_true rfl⟩) ⟨gblind, grecv hPF hG (gC_of (gK_mon hG.1.2 h0p0 (by decide)) (by decide)) (by decide) (by decide) rfl, fun U hU hW => gpre hPF hA hG _ U hU hW⟩ rfl rfl hl.1 rfl (lv_room (Nat.le_of_ble_eq_true rfl)) dX2_pack_2 ⟨(Nat.le_of_ble_eq_true rfl), (Nat.le_of_ble_eq_true rfl)⟩) (fun X ce q Gx H locs hw hmon hG hce hcv hcl => ?_) (fun r2 G1 H locs hw hmon hG => ?_)
  · exact gleave hlk hG (fun x hx9 => (htab x hx9).elim) hce hcv hcl hw (Nat.le_of_ble_eq_true rfl) (Nat.le_of_ble_eq_true rfl)
  · replace hw := hw hmon
    refine gt_ (lv' := [(4, va_rf r2), (0, .ref p0), (1, .int p1), (2, .int p2), (3, .int p3)]) hx hb dX2_pack_5 hl (by decide) rfl (fun ls hl => ?_)
    refine lv_aload_n hx hb dX2_pack_7 rfl (lv_at hl 1 rfl) ?_
    refine lv_iload_n hx hb dX2_pack_8 rfl (lv_at hl 3 rfl) ?_
    refine xc3r hA hG (vx_runV (As := [.int p2]) (rest := []) ⟨hx, hb, hml, hown, hts⟩ (gm_X2_lot l hlt E p0 p2 _ _ G1 hw _) (cwV 1 hts (lw_V q1280 q1142 q1143 q56 q1144) rfl rfl rfl hd_X2_lot ⟨Nat.le_of_ble_eq_true rfl, Nat.le_of_ble_eq_true rfl⟩) ⟨gblind, grecv hPF hG (gC_of (gK_mon hG.1.2 h0p0 (by decide)) (by decide)) (by decide) (by decide) rfl, fun U hU hW => gpre hPF hA hG _ U hU hW⟩ rfl rfl hl.1 rfl (lv_room (Nat.le_of_ble_eq_true rfl)) dX2_pack_9 ⟨(Nat.le_of_ble_eq_true rfl), (Nat.le_of_ble_eq_true rfl)⟩) (fun X ce q Gx H locs hw hmon hG hce hcv hcl => ?_) (fun r4 G3 H locs hw hmon hG => ?_)
    · exact gleave hlk hG (fun x hx9 => (htab x hx9).elim) hce hcv hcl hw (Nat.le_of_ble_eq_true rfl) (Nat.le_of_ble_eq_true rfl)
    · replace hw := hw hmon
      refine gt_ (lv' := [(5, va_rf r4), (4, va_rf r2), (0, .ref p0), (1, .int p1), (2, .int p2), (3, .int p3)]) hx hb dX2_pack_12 hl (by decide) (by first | rfl | simp [List.filter, va_rf_cat, gcat_i, gcat_r, gcat_l, gcat_d, gcat_f, gcat_n]) (fun ls hl => ?_)
      refine lv_iload_n hx hb dX2_pack_14 rfl (lv_at hl 5 rfl) ?_
      refine lv_i2l (v := p3.toInt64) hx hb dX2_pack_15 rfl ?_
      refine lv_lconst (v := 1) hx hb dX2_pack_16 (by decide) ?_
      refine lv_ldc2 (v := 24) hx hb hown (hts _ q1424) dX2_pack_17 ?_
      refine gc3i hA hG (va_runSN (As := [.long p3.toInt64, .long 1, .long 24]) (rest := []) ⟨hx, hb, hml, hown, hts⟩ (gm_X1_inRange l E p3.toInt64 1 24 _ G3 hw _) ⟨va_cnB 3 hts (lw_meth q638) rfl rfl rfl (hPF.w q636 rfl) (hts _ q55) hd_X1_inRange ⟨Nat.le_of_ble_eq_true rfl, Nat.le_of_ble_eq_true rfl⟩, hts _ q637, trivial⟩ ⟨gblind, fun U hU hW => gpre hPF hA hG _ U hU hW⟩ rfl rfl hl.1 rfl (lv_room (Nat.le_of_ble_eq_true rfl)) dX2_pack_20 ⟨(Nat.le_of_ble_eq_true rfl), (Nat.le_of_ble_eq_true rfl)⟩) (fun r6 G5 H locs hw hmon hG => ?_)
      replace hw := hw hmon
      refine xc3v hA hG (vx_runSN (As := [.int r6]) (rest := []) ⟨hx, hb, hml, hown, hts⟩ (gm_X1_checkArgument l hlt E r6 _ _ G5 hw _) ⟨va_cnB 1 hts (lw_meth q641) rfl rfl rfl (hPF.w q639 rfl) (hts _ q55) hd_X1_checkArgument ⟨Nat.le_of_ble_eq_true rfl, Nat.le_of_ble_eq_true rfl⟩, hts _ q640, trivial⟩ ⟨gblind, fun U hU hW => gpre hPF hA hG _ U hU hW⟩ rfl rfl hl.1 rfl (lv_room (Nat.le_of_ble_eq_true rfl)) dX2_pack_23 ⟨(Nat.le_of_ble_eq_true rfl), (Nat.le_of_ble_eq_true rfl)⟩) (fun X ce q Gx H locs hw hmon hG hce hcv hcl => ?_) (fun G7 H locs hw hmon hG => ?_)
      · exact gleave hlk hG (fun x hx9 => (htab x hx9).elim) hce hcv hcl hw (Nat.le_of_ble_eq_true rfl) (Nat.le_of_ble_eq_true rfl)
      · replace hw := hw hmon
        refine va_gets (v := .ref (eZ E 3)) hx hb (hPF.z 4 rfl) hG.2 hown (hts _ q1474) (fun _ h9 => h9) dX2_pack_26 ?_
        refine ga_ hx hb dX2_pack_29 (lv_at hl 0 rfl) ?_
        obtain ⟨q8, hq8, hw⟩ := hw
        refine W.eq (g2 := F0 m 31 ls [.ref q8, .ref (eZ E 3)]) (by rw [hq8]; rfl) ?_
        refine xc3v hA hG (vx_runV (As := [.ref q8]) (rest := []) ⟨hx, hb, hml, hown, hts⟩ (gm_X10_check l hlt E (eZ E 3) q8 _ _ G7 hw _) (gcwP 1 hts (lw_meth q1290) rfl rfl rfl (hts _ q92) (hts _ q1283) (hts _ q1284) (hts _ q1289) hdn_X10_check ⟨Nat.le_of_ble_eq_true rfl, Nat.le_of_ble_eq_true rfl⟩) ⟨gblind, va_Orecv (hPF.e 3 (by decide)).1 hG.2, fun U hU hW => gpre hPF hA hG _ U hU hW⟩ rfl rfl hl.1 rfl (lv_room (Nat.le_of_ble_eq_true rfl)) dX2_pack_31 ⟨(Nat.le_of_ble_eq_true rfl), (Nat.le_of_ble_eq_true rfl)⟩) (fun X ce q Gx H locs hw hmon hG hce hcv hcl => ?_) (fun G9 H locs hw hmon hG => ?_)
        · exact gleave hlk hG (fun x hx9 => (htab x hx9).elim) hce hcv hcl hw (Nat.le_of_ble_eq_true rfl) (Nat.le_of_ble_eq_true rfl)
        · replace hw := hw hmon
          refine ga_ hx hb dX2_pack_34 (lv_at hl 0 rfl) ?_
          refine W.eq (g2 := F0 m 36 ls [.ref q8]) (by rw [hq8]; rfl) ?_
          have hk10 := hw.1
          replace hw := hw.2
          refine ggN hx hb hts hown hPF hG 5 1 rfl in_X6 (by decide) (by decide) (by decide) q875 (fun _ h9 => h9) hk10 (v := .int (gI G9 q8 1)) rfl dX2_pack_36 ?_
          refine lv_iload_n hx hb dX2_pack_39 rfl (lv_at hl 5 rfl) ?_
          refine lv_icmp_lt (tgt := 47) hx hb dX2_pack_40 (by decide) (fun c_ => ?_) (fun c_ => ?_)
          · replace hw := hw.1 c_
            refine lv_iconst (v := 0) hx hb dX2_pack_47 (by decide) ?_
            refine W.widen (k := 4) (n := 26) (Nat.le_of_ble_eq_true rfl) (Nat.le_of_ble_eq_true rfl) ?_
            exact hL48  p3 r2 r4 0 G9 _ _ ls hG (lv_sub hl [5, 1, 0] rfl) hw
          · replace hw := hw.2 c_
            refine lv_iconst (v := 1) hx hb dX2_pack_43 (by decide) ?_
            refine lv_goto (tgt := 48) hx hb dX2_pack_44 (by decide) ?_
            refine W.widen (k := 4) (n := 26) (Nat.le_of_ble_eq_true rfl) (Nat.le_of_ble_eq_true rfl) ?_
            exact hL48  p3 r2 r4 1 G9 _ _ ls hG (lv_sub hl [5, 1, 0] rfl) hw
def gw_X2_earn (E : gE) (post : Int32 → Gh → Prop) (p0 : Nat) (p1 : Int32) (G : Gh) : Prop := gK G p0 = 2 ∧ (∀ G1, G1 = gsI G p0 7 ((gI G p0 7) + p1) → (∀ G2, G2 = gsI G1 p0 8 ((gI G1 p0 8) + p1) → (post p1 G2)))
theorem hd_X2_earn : yX2_earn.cls = RX2 ∧ yX2_earn.cls ≠ "java/lang/invoke/MethodHandle" ∧ yX2_earn.cls ≠ "java/lang/invoke/VarHandle" ∧ (parseMethodDescriptor yX2_earn.desc).map (fun d => d.parameters.length) = some 1 := by decide +kernel
theorem hdn_X2_earn : yX2_earn.cls ≠ "java/lang/invoke/MethodHandle" ∧ yX2_earn.cls ≠ "java/lang/invoke/VarHandle" ∧ (parseMethodDescriptor yX2_earn.desc).map (fun d => d.parameters.length) = some 1 := hd_X2_earn.2
theorem hdu_X2_earn : RX2 ≠ "java/lang/invoke/MethodHandle" ∧ RX2 ≠ "java/lang/invoke/VarHandle" ∧ (parseMethodDescriptor yX2_earn.desc).map (fun d => d.parameters.length) = some 1 := by decide +kernel
theorem hds_X2_earn : yX2_earn.name ≠ "<init>" ∧ (parseMethodDescriptor yX2_earn.desc).map (fun d => d.parameters.length) = some 1 := by decide +kernel
set_option maxHeartbeats 1000000 in
set_option maxRecDepth 100000 in
theorem gm_X2_earn (l : Launch) (E : gE) (p0 : Nat) (p1 : Int32) (post : Int32 → Gh → Prop) (G : Gh) (hw : gw_X2_earn E post p0 p1 G) : gM l E yX2_earn (ws_ yX2_earn cX2_earn 2 (some .int)) ({ frames := 0, cells := 0, slots := 0, locals := 0 } : Room) 0 0 [.ref p0, .int p1] G (gpi post) := by
  refine gof (by decide) (Nat.le_of_ble_eq_true rfl) ?_
  intro p e s m below meth c A ls hx hb hr hlk hml hown hin hts hPF hA hG hl
  have hl : lv_has ls 2 [(0, .ref p0), (1, .int p1)] := hl
  unfold gw_X2_earn at hw
  obtain ⟨G0, hG0⟩ : ∃ G0, G0 = G := ⟨_, rfl⟩
  have hG : gS E A G0 s.heap G s.heap [] := by rw [hG0]; exact hG
  rw [show gQ E A G (gpi post) = gQ E A G0 (gpi post) by rw [hG0]]
  have h0p0 := hw.1; rw [← hG0] at h0p0
  replace hw := hw.2
  refine lv_aload_n hx hb dX2_earn_0 rfl (lv_at hl 0 rfl) ?_
  refine lv_dup hx hb dX2_earn_1 rfl ?_
  refine gg hx hb hts hown hPF hG 2 7 rfl in_X2 (by decide) (by decide) (by decide) q476 (fun _ h9 => h9) (gC_of (gK_mon hG.1.2 h0p0 (by decide)) (by decide)) (v := .int (gI G p0 7)) rfl dX2_earn_2 ?_
  refine lv_iload_n hx hb dX2_earn_5 rfl (lv_at hl 1 rfl) ?_
  refine lv_iadd hx hb dX2_earn_6 ?_
  refine gp hx hb hts hown hPF hG 2 7 rfl in_X2 tyX2 tyX2_ok nmX2 (by decide) (by decide) (by decide) q476 (fun _ h9 => h9) rfl (gK_mon hG.1.2 h0p0 (by decide)) (v := .int ((gI G p0 7) + p1)) rfl rfl (G' := gsI G p0 7 ((gI G p0 7) + p1)) rfl rfl grI_off (Nat.le_of_ble_eq_true rfl) (gFs_I 2 7 (fun _ _ _ => rfl)) dX2_earn_7 (fun H locs hG => ?_)
  obtain ⟨G1, eG1⟩ : ∃ z, z = gsI G p0 7 ((gI G p0 7) + p1) := ⟨_, rfl⟩
  rw [← eG1] at hG
  replace hw := hw G1 eG1
  refine lv_aload_n hx hb dX2_earn_10 rfl (lv_at hl 0 rfl) ?_
  refine lv_dup hx hb dX2_earn_11 rfl ?_
  refine gg hx hb hts hown hPF hG 2 8 rfl in_X2 (by decide) (by decide) (by decide) q478 (fun _ h9 => h9) (gC_of (gK_mon hG.1.2 h0p0 (by decide)) (by decide)) (v := .int (gI G1 p0 8)) rfl dX2_earn_12 ?_
  refine lv_iload_n hx hb dX2_earn_15 rfl (lv_at hl 1 rfl) ?_
  refine lv_iadd hx hb dX2_earn_16 ?_
  refine gp hx hb hts hown hPF hG 2 8 rfl in_X2 tyX2 tyX2_ok nmX2 (by decide) (by decide) (by decide) q478 (fun _ h9 => h9) rfl (gK_mon hG.1.2 h0p0 (by decide)) (v := .int ((gI G1 p0 8) + p1)) rfl rfl (G' := gsI G1 p0 8 ((gI G1 p0 8) + p1)) rfl rfl grI_off (Nat.le_of_ble_eq_true rfl) (gFs_I 2 8 (fun _ _ _ => rfl)) dX2_earn_17 (fun H locs hG => ?_)
  obtain ⟨G2, eG2⟩ : ∃ z, z = gsI G1 p0 8 ((gI G1 p0 8) + p1) := ⟨_, rfl⟩
  rw [← eG2] at hG
  replace hw := hw G2 eG2
  refine lv_iload_n hx hb dX2_earn_20 rfl (lv_at hl 1 rfl) ?_
  exact greti hx hb hr hlk hG rfl hw (Nat.le_of_ble_eq_true rfl) (Nat.le_of_ble_eq_true rfl) dX2_earn_21
def gw_X2_carry_L18 (E : gE) (p0 : Nat) (post : Int32 → Gh → Prop) (px : String → Nat → Gh → Prop) (x1 : Int32) (x2 : Option Nat) (t0 : Int32) (G : Gh) : Prop := gw_X4_check E (fun G5 => gMon G G5 → (∃ q6, x2 = some q6 ∧ (gC G5 q6 = 8 ∧ (gw_X9_coins E (fun r9 G8 => gMon G5 G8 → (gw_X2_earn E (fun r11 G10 => gMon G8 G10 → (gw_X9_chips E (fun r13 G12 => gMon G10 G12 → (∀ G14, G14 = gsI G12 p0 12 ((gI G10 p0 12) + r13) → (gw_X9_chips E (fun r16 G15 => gMon G14 G15 → (∀ G17, G17 = gsI G15 p0 11 ((gI G14 p0 11) + ((gI G14 q6 1) - r16)) → (gK G17 q6 = 8 ∧ (∀ G19, G19 = gsI G17 q6 1 0 → (∀ G20, G20 = gsI G19 q6 2 0 → (∀ G21, G21 = gsI G20 q6 3 0 → (post r11 G21))))))) q6 G14))) q6 G10)) p0 r9 G8)) q6 G5)))) px t0 9 x1 G
def gw_X2_carry (E : gE) (post : Int32 → Gh → Prop) (px : String → Nat → Gh → Prop) (p0 : Nat) (p1 : Int32) (G : Gh) : Prop := gK G p0 = 2 ∧ (gw_X2_crate E (fun r2 G1 => gMon G G1 → (∃ q3, r2 = some q3 ∧ (gC G1 q3 = 8 ∧ (((gI G1 q3 1) ≤ 0 → (gw_X2_carry_L18 E p0 post px  p1 r2 0 G1)) ∧ (¬ (gI G1 q3 1) ≤ 0 → (gw_X2_carry_L18 E p0 post px  p1 r2 1 G1)))))) px p0 p1 G)
theorem hd_X2_carry : yX2_carry.cls = RX2 ∧ yX2_carry.cls ≠ "java/lang/invoke/MethodHandle" ∧ yX2_carry.cls ≠ "java/lang/invoke/VarHandle" ∧ (parseMethodDescriptor yX2_carry.desc).map (fun d => d.parameters.length) = some 1 := by decide +kernel
theorem hdn_X2_carry : yX2_carry.cls ≠ "java/lang/invoke/MethodHandle" ∧ yX2_carry.cls ≠ "java/lang/invoke/VarHandle" ∧ (parseMethodDescriptor yX2_carry.desc).map (fun d => d.parameters.length) = some 1 := hd_X2_carry.2
theorem hdu_X2_carry : RX2 ≠ "java/lang/invoke/MethodHandle" ∧ RX2 ≠ "java/lang/invoke/VarHandle" ∧ (parseMethodDescriptor yX2_carry.desc).map (fun d => d.parameters.length) = some 1 := by decide +kernel
theorem hds_X2_carry : yX2_carry.name ≠ "<init>" ∧ (parseMethodDescriptor yX2_carry.desc).map (fun d => d.parameters.length) = some 1 := by decide +kernel
set_option maxHeartbeats 1000000 in
set_option maxRecDepth 100000 in
theorem gm_X2_carry (l : Launch) (hlt : l.stackTraces = false) (E : gE) (p0 : Nat) (p1 : Int32) (post : Int32 → Gh → Prop) (px : String → Nat → Gh → Prop) (G : Gh) (hw : gw_X2_carry E post px p0 p1 G) : gX l E yX2_carry (ws_ yX2_carry cX2_carry 4 (some .int)) ({ frames := 11, cells := 2, slots := 14, locals := 182 } : Room) 2 14 [.ref p0, .int p1] G (gpi post) px := by
  refine xof (by decide) (Nat.le_of_ble_eq_true rfl) ?_
  intro p e s m below meth c A ls hx hb hr hlk hml hown hin hts hPF hA htab hG hl
  have hl : lv_has ls 4 [(0, .ref p0), (1, .int p1)] := hl
  unfold gw_X2_carry at hw
  obtain ⟨G0, hG0⟩ : ∃ G0, G0 = G := ⟨_, rfl⟩
  have hG : gS E A G0 s.heap G s.heap [] := by rw [hG0]; exact hG
  rw [show gQ E A G (gpi post) = gQ E A G0 (gpi post) by rw [hG0]]
  rw [show gXC E A G px = gXC E A G0 px by rw [hG0]]
  have h0p0 := hw.1; rw [← hG0] at h0p0
  replace hw := hw.2
  have hL18 : ∀ (x1 : Int32) (x2 : Option Nat) (t0 : Int32) (G : Gh) (H : Heap) (locs : List Loc) (ls : Array Slot), gS E A G0 s.heap G H locs → lv_has ls 4 [(0, .ref p0), (1, .int x1), (2, va_rf x2)] → gw_X2_carry_L18 E p0 post px x1 x2 t0 G → W p l e (headSpec (ws_ yX2_carry cX2_carry 4 (some .int)) ({ frames := 11, cells := 2, slots := 14, locals := 182 } : Room)).room s m ([.ref p0, .int p1] : List Value).toArray below meth c H locs 1 6 (vx_MQ below (gQ E A G0 (gpi post)) (gXC E A G0 px) ([.ref p0, .int p1] : List Value).toArray s 2 14 A) (F0 m 18 ls [.int t0]) := by
    intro x1 x2 t0 G H locs ls hG hl hw
    unfold gw_X2_carry_L18 at hw
    refine lv_bipush (v := 9) hx hb dX2_carry_18 (by decide) ?_
    refine lv_iload_n hx hb dX2_carry_20 rfl (lv_at hl 1 rfl) ?_
    refine xc3v hA hG (vx_runS (As := [.int t0, .int 9, .int x1]) (rest := []) ⟨hx, hb, hml, hown, hts⟩ (gm_X4_check l hlt E t0 9 x1 _ _ G hw _) (va_cwS 3 hts (lw_S q657 q658 q78 q659) rfl rfl rfl hd_X4_check ⟨Nat.le_of_ble_eq_true rfl, Nat.le_of_ble_eq_true rfl⟩) ⟨gblind, fun U hU hW => gpre hPF hA hG _ U hU hW⟩ rfl rfl hl.1 rfl (lv_room (Nat.le_of_ble_eq_true rfl)) dX2_carry_21 ⟨(Nat.le_of_ble_eq_true rfl), (Nat.le_of_ble_eq_true rfl)⟩) (fun X ce q Gx H locs hw hmon hG hce hcv hcl => ?_) (fun G5 H locs hw hmon hG => ?_)
    · exact gleave hlk hG (fun x hx9 => (htab x hx9).elim) hce hcv hcl hw (Nat.le_of_ble_eq_true rfl) (Nat.le_of_ble_eq_true rfl)
    · replace hw := hw hmon
      refine lv_aload_n hx hb dX2_carry_24 rfl (lv_at hl 0 rfl) ?_
      refine ga_n hx hb dX2_carry_25 rfl (lv_at hl 2 rfl) ?_
      obtain ⟨q6, hq6, hw⟩ := hw
      refine W.eq (g2 := F0 m 26 ls [.ref q6, .ref p0]) (by rw [hq6]; rfl) ?_
      have hk7 := hw.1
      replace hw := hw.2
      refine gc3i hA hG (va_runV (As := []) (rest := [.ref p0]) ⟨hx, hb, hml, hown, hts⟩ (gm_X9_coins l E q6 _ G5 hw _) (cwV 0 hts (lw_V q1488 q1438 q1439 q85 q1440) rfl rfl rfl hd_X9_coins ⟨Nat.le_of_ble_eq_true rfl, Nat.le_of_ble_eq_true rfl⟩) ⟨gblind, grecv hPF hG hk7 (by decide) (by decide) rfl, fun U hU hW => gpre hPF hA hG _ U hU hW⟩ rfl rfl hl.1 rfl (lv_room (Nat.le_of_ble_eq_true rfl)) dX2_carry_26 ⟨(Nat.le_of_ble_eq_true rfl), (Nat.le_of_ble_eq_true rfl)⟩) (fun r9 G8 H locs hw hmon hG => ?_)
      replace hw := hw hmon
      have hk7 : gC G8 q6 = 8 := gC_mon hmon hk7 (by decide)
      refine gc3i hA hG (va_runV (As := [.int r9]) (rest := []) ⟨hx, hb, hml, hown, hts⟩ (gm_X2_earn l E p0 r9 _ G8 hw _) (cwV 1 hts (lw_V q1489 q1491 qs9 q56 q1492) rfl rfl rfl hd_X2_earn ⟨Nat.le_of_ble_eq_true rfl, Nat.le_of_ble_eq_true rfl⟩) ⟨gblind, grecv hPF hG (gC_of (gK_mon hG.1.2 h0p0 (by decide)) (by decide)) (by decide) (by decide) rfl, fun U hU hW => gpre hPF hA hG _ U hU hW⟩ rfl rfl hl.1 rfl (lv_room (Nat.le_of_ble_eq_true rfl)) dX2_carry_29 ⟨(Nat.le_of_ble_eq_true rfl), (Nat.le_of_ble_eq_true rfl)⟩) (fun r11 G10 H locs hw hmon hG => ?_)
      replace hw := hw hmon
      have hk7 : gC G10 q6 = 8 := gC_mon hmon hk7 (by decide)
      refine lv_istore_n (i := 3) (lv' := [(3, .int r11), (0, .ref p0), (1, .int x1), (2, va_rf x2)]) hx hb dX2_carry_32 rfl hl (by decide) (by first | rfl | simp [List.filter, va_rf_cat, gcat_i, gcat_r, gcat_l, gcat_d, gcat_f, gcat_n]) (fun ls hl => ?_)
      refine lv_aload_n hx hb dX2_carry_33 rfl (lv_at hl 1 rfl) ?_
      refine lv_dup hx hb dX2_carry_34 rfl ?_
      refine gg hx hb hts hown hPF hG 2 12 rfl in_X2 (by decide) (by decide) (by decide) q486 (fun _ h9 => h9) (gC_of (gK_mon hG.1.2 h0p0 (by decide)) (by decide)) (v := .int (gI G10 p0 12)) rfl dX2_carry_35 ?_
      refine ga_n hx hb dX2_carry_38 rfl (lv_at hl 3 rfl) ?_
      refine W.eq (g2 := F0 m 39 ls [.ref q6, .int (gI G10 p0 12), .ref p0]) (by rw [hq6]; rfl) ?_
      refine gc3i hA hG (va_runV (As := []) (rest := [.int (gI G10 p0 12), .ref p0]) ⟨hx, hb, hml, hown, hts⟩ (gm_X9_chips l E q6 _ G10 hw _) (cwV 0 hts (lw_V q1493 q1442 q1443 q85 q1444) rfl rfl rfl hd_X9_chips ⟨Nat.le_of_ble_eq_true rfl, Nat.le_of_ble_eq_true rfl⟩) ⟨gblind, grecv hPF hG hk7 (by decide) (by decide) rfl, fun U hU hW => gpre hPF hA hG _ U hU hW⟩ rfl rfl hl.1 rfl (lv_room (Nat.le_of_ble_eq_true rfl)) dX2_carry_39 ⟨(Nat.le_of_ble_eq_true rfl), (Nat.le_of_ble_eq_true rfl)⟩) (fun r13 G12 H locs hw hmon hG => ?_)
      replace hw := hw hmon
      have hk7 : gC G12 q6 = 8 := gC_mon hmon hk7 (by decide)
      refine lv_iadd hx hb dX2_carry_42 ?_
      refine gp hx hb hts hown hPF hG 2 12 rfl in_X2 tyX2 tyX2_ok nmX2 (by decide) (by decide) (by decide) q486 (fun _ h9 => h9) rfl (gK_mon hG.1.2 h0p0 (by decide)) (v := .int ((gI G10 p0 12) + r13)) rfl rfl (G' := gsI G12 p0 12 ((gI G10 p0 12) + r13)) rfl rfl grI_off (Nat.le_of_ble_eq_true rfl) (gFs_I 2 12 (fun _ _ _ => rfl)) dX2_carry_43 (fun H locs hG => ?_)
      obtain ⟨G14, eG14⟩ : ∃ z, z = gsI G12 p0 12 ((gI G10 p0 12) + r13) := ⟨_, rfl⟩
      rw [← eG14] at hG
      replace hw := hw G14 eG14
      have hk7 : gC G14 q6 = 8 := by rw [eG14]; exact hk7
      refine lv_aload_n hx hb dX2_carry_46 rfl (lv_at hl 1 rfl) ?_
      refine lv_dup hx hb dX2_carry_47 rfl ?_
      refine gg hx hb hts hown hPF hG 2 11 rfl in_X2 (by decide) (by decide) (by decide) q484 (fun _ h9 => h9) (gC_of (gK_mon hG.1.2 h0p0 (by decide)) (by decide)) (v := .int (gI G14 p0 11)) rfl dX2_carry_48 ?_
      refine ga_n hx hb dX2_carry_51 rfl (lv_at hl 3 rfl) ?_
      refine W.eq (g2 := F0 m 52 ls [.ref q6, .int (gI G14 p0 11), .ref p0]) (by rw [hq6]; rfl) ?_
      refine ggN hx hb hts hown hPF hG 8 1 rfl in_X9 (by decide) (by decide) (by decide) q925 (fun _ h9 => h9) hk7 (v := .int (gI G14 q6 1)) rfl dX2_carry_52 ?_
      refine ga_n hx hb dX2_carry_55 rfl (lv_at hl 3 rfl) ?_
      refine W.eq (g2 := F0 m 56 ls [.ref q6, .int (gI G14 q6 1), .int (gI G14 p0 11), .ref p0]) (by rw [hq6]; rfl) ?_
      refine gc3i hA hG (va_runV (As := []) (rest := [.int (gI G14 q6 1), .int (gI G14 p0 11), .ref p0]) ⟨hx, hb, hml, hown, hts⟩ (gm_X9_chips l E q6 _ G14 hw _) (cwV 0 hts (lw_V q1493 q1442 q1443 q85 q1444) rfl rfl rfl hd_X9_chips ⟨Nat.le_of_ble_eq_true rfl, Nat.le_of_ble_eq_true rfl⟩) ⟨gblind, grecv hPF hG hk7 (by decide) (by decide) rfl, fun U hU hW => gpre hPF hA hG _ U hU hW⟩ rfl rfl hl.1 rfl (lv_room (Nat.le_of_ble_eq_true rfl)) dX2_carry_56 ⟨(Nat.le_of_ble_eq_true rfl), (Nat.le_of_ble_eq_true rfl)⟩) (fun r16 G15 H locs hw hmon hG => ?_)
      replace hw := hw hmon
      have hk7 : gC G15 q6 = 8 := gC_mon hmon hk7 (by decide)
      refine lv_isub hx hb dX2_carry_59 ?_
      refine lv_iadd hx hb dX2_carry_60 ?_
      refine gp hx hb hts hown hPF hG 2 11 rfl in_X2 tyX2 tyX2_ok nmX2 (by decide) (by decide) (by decide) q484 (fun _ h9 => h9) rfl (gK_mon hG.1.2 h0p0 (by decide)) (v := .int ((gI G14 p0 11) + ((gI G14 q6 1) - r16))) rfl rfl (G' := gsI G15 p0 11 ((gI G14 p0 11) + ((gI G14 q6 1) - r16))) rfl rfl grI_off (Nat.le_of_ble_eq_true rfl) (gFs_I 2 11 (fun _ _ _ => rfl)) dX2_carry_61 (fun H locs hG => ?_)
      obtain ⟨G17, eG17⟩ : ∃ z, z = gsI G15 p0 11 ((gI G14 p0 11) + ((gI G14 q6 1) - r16)) := ⟨_, rfl⟩
      rw [← eG17] at hG
      replace hw := hw G17 eG17
      have hk7 : gC G17 q6 = 8 := by rw [eG17]; exact hk7
      refine ga_n hx hb dX2_carry_64 rfl (lv_at hl 3 rfl) ?_
      refine lv_iconst (v := 0) hx hb dX2_carry_65 (by decide) ?_
      refine W.eq (g2 := F0 m 66 ls [.int 0, .ref q6]) (by rw [hq6]; rfl) ?_
      have hk18 := hw.1
      replace hw := hw.2
      refine gpN hx hb hts hown hPF hG 8 1 rfl in_X9 tyX9 tyX9_ok nmX9 (by decide) (by decide) (by decide) q925 (fun _ h9 => h9) rfl hk18 (v := .int 0) rfl rfl (G' := gsI G17 q6 1 0) rfl rfl grI_off (Nat.le_of_ble_eq_true rfl) (gFs_I 8 1 (fun _ _ _ => rfl)) dX2_carry_66 (fun H locs hG => ?_)
      obtain ⟨G19, eG19⟩ : ∃ z, z = gsI G17 q6 1 0 := ⟨_, rfl⟩
      rw [← eG19] at hG
      replace hw := hw G19 eG19
      have hk7 : gC G19 q6 = 8 := by rw [eG19]; exact hk7
      have hk18 : gK G19 q6 = 8 := by rw [eG19]; exact hk18
      refine ga_n hx hb dX2_carry_69 rfl (lv_at hl 3 rfl) ?_
      refine lv_iconst (v := 0) hx hb dX2_carry_70 (by decide) ?_
      refine W.eq (g2 := F0 m 71 ls [.int 0, .ref q6]) (by rw [hq6]; rfl) ?_
      refine gpN hx hb hts hown hPF hG 8 2 rfl in_X9 tyX9 tyX9_ok nmX9 (by decide) (by decide) (by decide) q928 (fun _ h9 => h9) rfl hk18 (v := .int 0) rfl rfl (G' := gsI G19 q6 2 0) rfl rfl grI_off (Nat.le_of_ble_eq_true rfl) (gFs_I 8 2 (fun _ _ _ => rfl)) dX2_carry_71 (fun H locs hG => ?_)
      obtain ⟨G20, eG20⟩ : ∃ z, z = gsI G19 q6 2 0 := ⟨_, rfl⟩
      rw [← eG20] at hG
      replace hw := hw G20 eG20
      have hk7 : gC G20 q6 = 8 := by rw [eG20]; exact hk7
      have hk18 : gK G20 q6 = 8 := by rw [eG20]; exact hk18
      refine ga_n hx hb dX2_carry_74 rfl (lv_at hl 3 rfl) ?_
      refine lv_iconst (v := 0) hx hb dX2_carry_75 (by decide) ?_
      refine W.eq (g2 := F0 m 76 ls [.int 0, .ref q6]) (by rw [hq6]; rfl) ?_
      refine gpN hx hb hts hown hPF hG 8 3 rfl in_X9 tyX9 tyX9_ok nmX9 (by decide) (by decide) (by decide) q931 (fun _ h9 => h9) rfl hk18 (v := .int 0) rfl rfl (G' := gsI G20 q6 3 0) rfl rfl grI_off (Nat.le_of_ble_eq_true rfl) (gFs_I 8 3 (fun _ _ _ => rfl)) dX2_carry_76 (fun H locs hG => ?_)
      obtain ⟨G21, eG21⟩ : ∃ z, z = gsI G20 q6 3 0 := ⟨_, rfl⟩
      rw [← eG21] at hG
      replace hw := hw G21 eG21
      have hk7 : gC G21 q6 = 8 := by rw [eG21]; exact hk7
      have hk18 : gK G21 q6 = 8 := by rw [eG21]; exact hk18
      refine lv_iload_n hx hb dX2_carry_79 rfl (lv_at hl 0 rfl) ?_
      exact xreti hx hb hr hlk hG rfl hw (Nat.le_of_ble_eq_true rfl) (Nat.le_of_ble_eq_true rfl) dX2_carry_80
  refine lv_aload_n hx hb dX2_carry_0 rfl (lv_at hl 0 rfl) ?_
  refine lv_iload_n hx hb dX2_carry_1 rfl (lv_at hl 1 rfl) ?_
  refine xc3r hA hG (vx_runV (As := [.int p1]) (rest := []) ⟨hx, hb, hml, hown, hts⟩ (gm_X2_crate l hlt E p0 p1 _ _ G hw _) (cwV 1 hts (lw_V q1460 q1434 q1435 q56 q1436) rfl rfl rfl hd_X2_crate ⟨Nat.le_of_ble_eq_true rfl, Nat.le_of_ble_eq_true rfl⟩) ⟨gblind, grecv hPF hG (gC_of (gK_mon hG.1.2 h0p0 (by decide)) (by decide)) (by decide) (by decide) rfl, fun U hU hW => gpre hPF hA hG _ U hU hW⟩ rfl rfl hl.1 rfl (lv_room (Nat.le_of_ble_eq_true rfl)) dX2_carry_2 ⟨(Nat.le_of_ble_eq_true rfl), (Nat.le_of_ble_eq_true rfl)⟩) (fun X ce q Gx H locs hw hmon hG hce hcv hcl => ?_) (fun r2 G1 H locs hw hmon hG => ?_)
  · exact gleave hlk hG (fun x hx9 => (htab x hx9).elim) hce hcv hcl hw (Nat.le_of_ble_eq_true rfl) (Nat.le_of_ble_eq_true rfl)
  · replace hw := hw hmon
    refine gt_n (i := 2) (lv' := [(2, va_rf r2), (0, .ref p0), (1, .int p1)]) hx hb dX2_carry_5 rfl hl (by decide) rfl (fun ls hl => ?_)
    refine ga_n hx hb dX2_carry_6 rfl (lv_at hl 0 rfl) ?_
    obtain ⟨q3, hq3, hw⟩ := hw
    refine W.eq (g2 := F0 m 7 ls [.ref q3]) (by rw [hq3]; rfl) ?_
    have hk4 := hw.1
    replace hw := hw.2
    refine ggN hx hb hts hown hPF hG 8 1 rfl in_X9 (by decide) (by decide) (by decide) q925 (fun _ h9 => h9) hk4 (v := .int (gI G1 q3 1)) rfl dX2_carry_7 ?_
    refine lv_if_le (tgt := 17) hx hb dX2_carry_10 (by decide) (fun c_ => ?_) (fun c_ => ?_)
    · replace hw := hw.1 c_
      refine lv_iconst (v := 0) hx hb dX2_carry_17 (by decide) ?_
      refine W.widen (k := 1) (n := 6) (Nat.le_of_ble_eq_true rfl) (Nat.le_of_ble_eq_true rfl) ?_
      exact hL18  p1 r2 0 G1 _ _ ls hG (lv_sub hl [1, 2, 0] rfl) hw
    · replace hw := hw.2 c_
      refine lv_iconst (v := 1) hx hb dX2_carry_13 (by decide) ?_
      refine lv_goto (tgt := 18) hx hb dX2_carry_14 (by decide) ?_
      refine W.widen (k := 1) (n := 6) (Nat.le_of_ble_eq_true rfl) (Nat.le_of_ble_eq_true rfl) ?_
      exact hL18  p1 r2 1 G1 _ _ ls hG (lv_sub hl [1, 2, 0] rfl) hw
def gw_X2_sell_L12 (E : gE) (p0 : Nat) (post : Int32 → Gh → Prop) (px : String → Nat → Gh → Prop) (t0 : Int32) (G : Gh) : Prop := gw_X4_check E (fun G1 => gMon G G1 → (gw_X2_earn E (fun r3 G2 => gMon G1 G2 → (∀ G4, G4 = gsI G2 p0 13 ((gI G2 p0 13) + (gI G2 p0 12)) → (∀ G5, G5 = gsI G4 p0 12 0 → (post r3 G5)))) p0 (((gI G1 p0 12) + 1) / 2) G1)) px t0 10 (gI G p0 13) G
def gw_X2_sell (E : gE) (post : Int32 → Gh → Prop) (px : String → Nat → Gh → Prop) (p0 : Nat) (G : Gh) : Prop := gK G p0 = 2 ∧ (((gI G p0 12) ≤ 0 → (gw_X2_sell_L12 E p0 post px  0 G)) ∧ (¬ (gI G p0 12) ≤ 0 → (gw_X2_sell_L12 E p0 post px  1 G)))
theorem hd_X2_sell : yX2_sell.cls = RX2 ∧ yX2_sell.cls ≠ "java/lang/invoke/MethodHandle" ∧ yX2_sell.cls ≠ "java/lang/invoke/VarHandle" ∧ (parseMethodDescriptor yX2_sell.desc).map (fun d => d.parameters.length) = some 0 := by decide +kernel
theorem hdn_X2_sell : yX2_sell.cls ≠ "java/lang/invoke/MethodHandle" ∧ yX2_sell.cls ≠ "java/lang/invoke/VarHandle" ∧ (parseMethodDescriptor yX2_sell.desc).map (fun d => d.parameters.length) = some 0 := hd_X2_sell.2
theorem hdu_X2_sell : RX2 ≠ "java/lang/invoke/MethodHandle" ∧ RX2 ≠ "java/lang/invoke/VarHandle" ∧ (parseMethodDescriptor yX2_sell.desc).map (fun d => d.parameters.length) = some 0 := by decide +kernel
theorem hds_X2_sell : yX2_sell.name ≠ "<init>" ∧ (parseMethodDescriptor yX2_sell.desc).map (fun d => d.parameters.length) = some 0 := by decide +kernel
set_option maxHeartbeats 1000000 in
set_option maxRecDepth 100000 in
theorem gm_X2_sell (l : Launch) (hlt : l.stackTraces = false) (E : gE) (p0 : Nat) (post : Int32 → Gh → Prop) (px : String → Nat → Gh → Prop) (G : Gh) (hw : gw_X2_sell E post px p0 G) : gX l E yX2_sell (ws_ yX2_sell cX2_sell 2 (some .int)) ({ frames := 5, cells := 1, slots := 8, locals := 122 } : Room) 1 8 [.ref p0] G (gpi post) px := by
  refine xof (by decide) (Nat.le_of_ble_eq_true rfl) ?_
  intro p e s m below meth c A ls hx hb hr hlk hml hown hin hts hPF hA htab hG hl
  have hl : lv_has ls 2 [(0, .ref p0)] := hl
  unfold gw_X2_sell at hw
  obtain ⟨G0, hG0⟩ : ∃ G0, G0 = G := ⟨_, rfl⟩
  have hG : gS E A G0 s.heap G s.heap [] := by rw [hG0]; exact hG
  rw [show gQ E A G (gpi post) = gQ E A G0 (gpi post) by rw [hG0]]
  rw [show gXC E A G px = gXC E A G0 px by rw [hG0]]
  have h0p0 := hw.1; rw [← hG0] at h0p0
  replace hw := hw.2
  have hL12 : ∀ (t0 : Int32) (G : Gh) (H : Heap) (locs : List Loc) (ls : Array Slot), gS E A G0 s.heap G H locs → lv_has ls 2 [(0, .ref p0)] → gw_X2_sell_L12 E p0 post px t0 G → W p l e (headSpec (ws_ yX2_sell cX2_sell 2 (some .int)) ({ frames := 5, cells := 1, slots := 8, locals := 122 } : Room)).room s m ([.ref p0] : List Value).toArray below meth c H locs 0 0 (vx_MQ below (gQ E A G0 (gpi post)) (gXC E A G0 px) ([.ref p0] : List Value).toArray s 1 8 A) (F0 m 12 ls [.int t0]) := by
    intro t0 G H locs ls hG hl hw
    unfold gw_X2_sell_L12 at hw
    refine lv_bipush (v := 10) hx hb dX2_sell_12 (by decide) ?_
    refine lv_aload_n hx hb dX2_sell_14 rfl (lv_at hl 0 rfl) ?_
    refine gg hx hb hts hown hPF hG 2 13 rfl in_X2 (by decide) (by decide) (by decide) q488 (fun _ h9 => h9) (gC_of (gK_mon hG.1.2 h0p0 (by decide)) (by decide)) (v := .int (gI G p0 13)) rfl dX2_sell_15 ?_
    refine xc3v hA hG (vx_runS (As := [.int t0, .int 10, .int (gI G p0 13)]) (rest := []) ⟨hx, hb, hml, hown, hts⟩ (gm_X4_check l hlt E t0 10 (gI G p0 13) _ _ G hw _) (va_cwS 3 hts (lw_S q657 q658 q78 q659) rfl rfl rfl hd_X4_check ⟨Nat.le_of_ble_eq_true rfl, Nat.le_of_ble_eq_true rfl⟩) ⟨gblind, fun U hU hW => gpre hPF hA hG _ U hU hW⟩ rfl rfl hl.1 rfl (lv_room (Nat.le_of_ble_eq_true rfl)) dX2_sell_18 ⟨(Nat.le_of_ble_eq_true rfl), (Nat.le_of_ble_eq_true rfl)⟩) (fun X ce q Gx H locs hw hmon hG hce hcv hcl => ?_) (fun G1 H locs hw hmon hG => ?_)
    · exact gleave hlk hG (fun x hx9 => (htab x hx9).elim) hce hcv hcl hw (Nat.le_of_ble_eq_true rfl) (Nat.le_of_ble_eq_true rfl)
    · replace hw := hw hmon
      refine lv_aload_n hx hb dX2_sell_21 rfl (lv_at hl 0 rfl) ?_
      refine lv_aload_n hx hb dX2_sell_22 rfl (lv_at hl 0 rfl) ?_
      refine gg hx hb hts hown hPF hG 2 12 rfl in_X2 (by decide) (by decide) (by decide) q486 (fun _ h9 => h9) (gC_of (gK_mon hG.1.2 h0p0 (by decide)) (by decide)) (v := .int (gI G1 p0 12)) rfl dX2_sell_23 ?_
      refine lv_iconst (v := 1) hx hb dX2_sell_26 (by decide) ?_
      refine lv_iadd hx hb dX2_sell_27 ?_
      refine lv_iconst (v := 2) hx hb dX2_sell_28 (by decide) ?_
      refine lv_idiv hx hb dX2_sell_29 (by decide) ?_
      refine gc3i hA hG (va_runV (As := [.int (((gI G1 p0 12) + 1) / 2)]) (rest := []) ⟨hx, hb, hml, hown, hts⟩ (gm_X2_earn l E p0 (((gI G1 p0 12) + 1) / 2) _ G1 hw _) (cwV 1 hts (lw_V q1489 q1491 qs9 q56 q1492) rfl rfl rfl hd_X2_earn ⟨Nat.le_of_ble_eq_true rfl, Nat.le_of_ble_eq_true rfl⟩) ⟨gblind, grecv hPF hG (gC_of (gK_mon hG.1.2 h0p0 (by decide)) (by decide)) (by decide) (by decide) rfl, fun U hU hW => gpre hPF hA hG _ U hU hW⟩ rfl rfl hl.1 rfl (lv_room (Nat.le_of_ble_eq_true rfl)) dX2_sell_30 ⟨(Nat.le_of_ble_eq_true rfl), (Nat.le_of_ble_eq_true rfl)⟩) (fun r3 G2 H locs hw hmon hG => ?_)
      replace hw := hw hmon
      refine lv_istore_n (i := 1) (lv' := [(1, .int r3), (0, .ref p0)]) hx hb dX2_sell_33 rfl hl (by decide) rfl (fun ls hl => ?_)
      refine lv_aload_n hx hb dX2_sell_34 rfl (lv_at hl 1 rfl) ?_
      refine lv_dup hx hb dX2_sell_35 rfl ?_
      refine gg hx hb hts hown hPF hG 2 13 rfl in_X2 (by decide) (by decide) (by decide) q488 (fun _ h9 => h9) (gC_of (gK_mon hG.1.2 h0p0 (by decide)) (by decide)) (v := .int (gI G2 p0 13)) rfl dX2_sell_36 ?_
      refine lv_aload_n hx hb dX2_sell_39 rfl (lv_at hl 1 rfl) ?_
      refine gg hx hb hts hown hPF hG 2 12 rfl in_X2 (by decide) (by decide) (by decide) q486 (fun _ h9 => h9) (gC_of (gK_mon hG.1.2 h0p0 (by decide)) (by decide)) (v := .int (gI G2 p0 12)) rfl dX2_sell_40 ?_
      refine lv_iadd hx hb dX2_sell_43 ?_
      refine gp hx hb hts hown hPF hG 2 13 rfl in_X2 tyX2 tyX2_ok nmX2 (by decide) (by decide) (by decide) q488 (fun _ h9 => h9) rfl (gK_mon hG.1.2 h0p0 (by decide)) (v := .int ((gI G2 p0 13) + (gI G2 p0 12))) rfl rfl (G' := gsI G2 p0 13 ((gI G2 p0 13) + (gI G2 p0 12))) rfl rfl grI_off (Nat.le_of_ble_eq_true rfl) (gFs_I 2 13 (fun _ _ _ => rfl)) dX2_sell_44 (fun H locs hG => ?_)
      obtain ⟨G4, eG4⟩ : ∃ z, z = gsI G2 p0 13 ((gI G2 p0 13) + (gI G2 p0 12)) := ⟨_, rfl⟩
      rw [← eG4] at hG
      replace hw := hw G4 eG4
      refine lv_aload_n hx hb dX2_sell_47 rfl (lv_at hl 1 rfl) ?_
      refine lv_iconst (v := 0) hx hb dX2_sell_48 (by decide) ?_
      refine gp hx hb hts hown hPF hG 2 12 rfl in_X2 tyX2 tyX2_ok nmX2 (by decide) (by decide) (by decide) q486 (fun _ h9 => h9) rfl (gK_mon hG.1.2 h0p0 (by decide)) (v := .int 0) rfl rfl (G' := gsI G4 p0 12 0) rfl rfl grI_off (Nat.le_of_ble_eq_true rfl) (gFs_I 2 12 (fun _ _ _ => rfl)) dX2_sell_49 (fun H locs hG => ?_)
      obtain ⟨G5, eG5⟩ : ∃ z, z = gsI G4 p0 12 0 := ⟨_, rfl⟩
      rw [← eG5] at hG
      replace hw := hw G5 eG5
      refine lv_iload_n hx hb dX2_sell_52 rfl (lv_at hl 0 rfl) ?_
      exact xreti hx hb hr hlk hG rfl hw (Nat.le_of_ble_eq_true rfl) (Nat.le_of_ble_eq_true rfl) dX2_sell_53
  refine lv_aload_n hx hb dX2_sell_0 rfl (lv_at hl 0 rfl) ?_
  refine gg hx hb hts hown hPF hG 2 12 rfl in_X2 (by decide) (by decide) (by decide) q486 (fun _ h9 => h9) (gC_of (gK_mon hG.1.2 h0p0 (by decide)) (by decide)) (v := .int (gI G p0 12)) rfl dX2_sell_1 ?_
  refine lv_if_le (tgt := 11) hx hb dX2_sell_4 (by decide) (fun c_ => ?_) (fun c_ => ?_)
  · replace hw := hw.1 c_
    refine lv_iconst (v := 0) hx hb dX2_sell_11 (by decide) ?_
    refine W.widen (k := 0) (n := 0) (Nat.le_of_ble_eq_true rfl) (Nat.le_of_ble_eq_true rfl) ?_
    exact hL12  0 G _ _ ls hG (lv_sub hl [0] rfl) hw
  · replace hw := hw.2 c_
    refine lv_iconst (v := 1) hx hb dX2_sell_7 (by decide) ?_
    refine lv_goto (tgt := 12) hx hb dX2_sell_8 (by decide) ?_
    refine W.widen (k := 0) (n := 0) (Nat.le_of_ble_eq_true rfl) (Nat.le_of_ble_eq_true rfl) ?_
    exact hL12  1 G _ _ ls hG (lv_sub hl [0] rfl) hw
def gw_X2_burn (E : gE) (post : Int32 → Gh → Prop) (p0 : Nat) (p1 : Nat) (G : Gh) : Prop := gK G p0 = 2 ∧ (gK G p1 = 5 ∧ (gw_X6_kiln E (fun r2 G1 => gMon G G1 → (gw_X6_burn E (fun r4 G3 => gMon G1 G3 → ((¬ r4 = (-1) → (∀ G5, G5 = gsI G3 p0 12 ((gI G3 p0 12) + r4) → (∃ q6, (gR G5 p0 2) = some q6 ∧ (gC G5 q6 = 14 ∧ (gw_J2_get E (fun r9 G8 => gMon G5 G8 → (∃ q10, r9 = some q10 ∧ (gC G8 q10 = 7 ∧ (gK G8 q10 = 7 ∧ (∀ G13, G13 = gsI G8 q10 1 ((gI G8 q10 1) + 1) → (post 1 G13)))))) q6 r2 G5))))) ∧ (r4 = (-1) → (post 0 G3)))) p1 G1)) p1 G))
theorem hd_X2_burn : yX2_burn.cls = RX2 ∧ yX2_burn.cls ≠ "java/lang/invoke/MethodHandle" ∧ yX2_burn.cls ≠ "java/lang/invoke/VarHandle" ∧ (parseMethodDescriptor yX2_burn.desc).map (fun d => d.parameters.length) = some 1 := by decide +kernel
theorem hdn_X2_burn : yX2_burn.cls ≠ "java/lang/invoke/MethodHandle" ∧ yX2_burn.cls ≠ "java/lang/invoke/VarHandle" ∧ (parseMethodDescriptor yX2_burn.desc).map (fun d => d.parameters.length) = some 1 := hd_X2_burn.2
theorem hdu_X2_burn : RX2 ≠ "java/lang/invoke/MethodHandle" ∧ RX2 ≠ "java/lang/invoke/VarHandle" ∧ (parseMethodDescriptor yX2_burn.desc).map (fun d => d.parameters.length) = some 1 := by decide +kernel
theorem hds_X2_burn : yX2_burn.name ≠ "<init>" ∧ (parseMethodDescriptor yX2_burn.desc).map (fun d => d.parameters.length) = some 1 := by decide +kernel
set_option maxHeartbeats 1000000 in
set_option maxRecDepth 100000 in
theorem gm_X2_burn (l : Launch) (E : gE) (p0 : Nat) (p1 : Nat) (post : Int32 → Gh → Prop) (G : Gh) (hw : gw_X2_burn E post p0 p1 G) : gM l E yX2_burn (ws_ yX2_burn cX2_burn 4 (some .int)) ({ frames := 4, cells := 1, slots := 4, locals := 97 } : Room) 1 4 [.ref p0, .ref p1] G (gpi post) := by
  refine gof (by decide) (Nat.le_of_ble_eq_true rfl) ?_
  intro p e s m below meth c A ls hx hb hr hlk hml hown hin hts hPF hA hG hl
  have hl : lv_has ls 4 [(0, .ref p0), (1, .ref p1)] := hl
  unfold gw_X2_burn at hw
  obtain ⟨G0, hG0⟩ : ∃ G0, G0 = G := ⟨_, rfl⟩
  have hG : gS E A G0 s.heap G s.heap [] := by rw [hG0]; exact hG
  rw [show gQ E A G (gpi post) = gQ E A G0 (gpi post) by rw [hG0]]
  have h0p0 := hw.1; rw [← hG0] at h0p0
  replace hw := hw.2
  have h0p1 := hw.1; rw [← hG0] at h0p1
  replace hw := hw.2
  refine lv_aload_n hx hb dX2_burn_0 rfl (lv_at hl 1 rfl) ?_
  refine gc3i hA hG (va_runV (As := []) (rest := []) ⟨hx, hb, hml, hown, hts⟩ (gm_X6_kiln l E p1 _ G hw _) (cwV 0 hts (lw_V q1337 q1254 q1255 q82 q1256) rfl rfl rfl hd_X6_kiln ⟨Nat.le_of_ble_eq_true rfl, Nat.le_of_ble_eq_true rfl⟩) ⟨gblind, grecv hPF hG (gC_of (gK_mon hG.1.2 h0p1 (by decide)) (by decide)) (by decide) (by decide) rfl, fun U hU hW => gpre hPF hA hG _ U hU hW⟩ rfl rfl hl.1 rfl (lv_room (Nat.le_of_ble_eq_true rfl)) dX2_burn_1 ⟨(Nat.le_of_ble_eq_true rfl), (Nat.le_of_ble_eq_true rfl)⟩) (fun r2 G1 H locs hw hmon hG => ?_)
  replace hw := hw hmon
  refine lv_istore_n (i := 2) (lv' := [(2, .int r2), (0, .ref p0), (1, .ref p1)]) hx hb dX2_burn_4 rfl hl (by decide) rfl (fun ls hl => ?_)
  refine lv_aload_n hx hb dX2_burn_5 rfl (lv_at hl 2 rfl) ?_
  refine gc3i hA hG (va_runV (As := []) (rest := []) ⟨hx, hb, hml, hown, hts⟩ (gm_X6_burn l E p1 _ G1 hw _) (cwV 0 hts (lw_V q1526 q1527 q1528 q82 q1529) rfl rfl rfl hd_X6_burn ⟨Nat.le_of_ble_eq_true rfl, Nat.le_of_ble_eq_true rfl⟩) ⟨gblind, grecv hPF hG (gC_of (gK_mon hG.1.2 h0p1 (by decide)) (by decide)) (by decide) (by decide) rfl, fun U hU hW => gpre hPF hA hG _ U hU hW⟩ rfl rfl hl.1 rfl (lv_room (Nat.le_of_ble_eq_true rfl)) dX2_burn_6 ⟨(Nat.le_of_ble_eq_true rfl), (Nat.le_of_ble_eq_true rfl)⟩) (fun r4 G3 H locs hw hmon hG => ?_)
  replace hw := hw hmon
  refine lv_istore_n (i := 3) (lv' := [(3, .int r4), (2, .int r2), (0, .ref p0), (1, .ref p1)]) hx hb dX2_burn_9 rfl hl (by decide) rfl (fun ls hl => ?_)
  refine lv_iload_n hx hb dX2_burn_10 rfl (lv_at hl 0 rfl) ?_
  refine lv_iconst (v := (-1)) hx hb dX2_burn_11 (by decide) ?_
  refine lv_icmp_ne (tgt := 17) hx hb dX2_burn_12 (by decide) (fun c_ => ?_) (fun c_ => ?_)
  · replace hw := hw.1 c_
    refine lv_aload_n hx hb dX2_burn_17 rfl (lv_at hl 2 rfl) ?_
    refine lv_dup hx hb dX2_burn_18 rfl ?_
    refine gg hx hb hts hown hPF hG 2 12 rfl in_X2 (by decide) (by decide) (by decide) q486 (fun _ h9 => h9) (gC_of (gK_mon hG.1.2 h0p0 (by decide)) (by decide)) (v := .int (gI G3 p0 12)) rfl dX2_burn_19 ?_
    refine lv_iload_n hx hb dX2_burn_22 rfl (lv_at hl 0 rfl) ?_
    refine lv_iadd hx hb dX2_burn_23 ?_
    refine gp hx hb hts hown hPF hG 2 12 rfl in_X2 tyX2 tyX2_ok nmX2 (by decide) (by decide) (by decide) q486 (fun _ h9 => h9) rfl (gK_mon hG.1.2 h0p0 (by decide)) (v := .int ((gI G3 p0 12) + r4)) rfl rfl (G' := gsI G3 p0 12 ((gI G3 p0 12) + r4)) rfl rfl grI_off (Nat.le_of_ble_eq_true rfl) (gFs_I 2 12 (fun _ _ _ => rfl)) dX2_burn_24 (fun H locs hG => ?_)
    obtain ⟨G5, eG5⟩ : ∃ z, z = gsI G3 p0 12 ((gI G3 p0 12) + r4) := ⟨_, rfl⟩
    rw [← eG5] at hG
    replace hw := hw G5 eG5
    refine lv_aload_n hx hb dX2_burn_27 rfl (lv_at hl 2 rfl) ?_
    refine gg hx hb hts hown hPF hG 2 2 rfl in_X2 (by decide) (by decide) (by decide) q466 (fun _ h9 => h9) (gC_of (gK_mon hG.1.2 h0p0 (by decide)) (by decide)) (v := va_rf (gR G5 p0 2)) rfl dX2_burn_28 ?_
    refine lv_iload_n hx hb dX2_burn_31 rfl (lv_at hl 1 rfl) ?_
    obtain ⟨q6, hq6, hw⟩ := hw
    refine W.eq (g2 := F0 m 32 ls [.int r2, .ref q6]) (by rw [hq6]; rfl) ?_
    have hk7 := hw.1
    replace hw := hw.2
    refine gc3r hA hG (va_runV (As := [.int r2]) (rest := []) ⟨hx, hb, hml, hown, hts⟩ (gm_J2_get l E q6 r2 _ G5 hw _) (cwV 1 hts (lw_V q1112 q595 q596 q59 q597) rfl rfl rfl hd_J2_get ⟨Nat.le_of_ble_eq_true rfl, Nat.le_of_ble_eq_true rfl⟩) ⟨gblind, grecv hPF hG hk7 (by decide) (by decide) rfl, fun U hU hW => gpre hPF hA hG _ U hU hW⟩ rfl rfl hl.1 rfl (lv_room (Nat.le_of_ble_eq_true rfl)) dX2_burn_32 ⟨(Nat.le_of_ble_eq_true rfl), (Nat.le_of_ble_eq_true rfl)⟩) (fun r9 G8 H locs hw hmon hG => ?_)
    replace hw := hw hmon
    have hk7 : gC G8 q6 = 14 := gC_mon hmon hk7 (by decide)
    obtain ⟨q10, hq10, hw⟩ := hw
    refine W.eq (g2 := F0 m 35 ls [.ref q10]) (by rw [hq10]; rfl) ?_
    have hk11 := hw.1
    replace hw := hw.2
    refine va_castS hx hb hown (hts _ q888) (hPF.K.1 7 _ rfl).2 (grecv hPF hG hk11 (by decide) (by decide) rfl) dX2_burn_35 ?_
    refine lv_dup hx hb dX2_burn_38 rfl ?_
    refine ggN hx hb hts hown hPF hG 7 1 rfl in_X8 (by decide) (by decide) (by decide) q904 (fun _ h9 => h9) hk11 (v := .int (gI G8 q10 1)) rfl dX2_burn_39 ?_
    refine lv_iconst (v := 1) hx hb dX2_burn_42 (by decide) ?_
    refine lv_iadd hx hb dX2_burn_43 ?_
    have hk12 := hw.1
    replace hw := hw.2
    refine gpN hx hb hts hown hPF hG 7 1 rfl in_X8 tyX8 tyX8_ok nmX8 (by decide) (by decide) (by decide) q904 (fun _ h9 => h9) rfl hk12 (v := .int ((gI G8 q10 1) + 1)) rfl rfl (G' := gsI G8 q10 1 ((gI G8 q10 1) + 1)) rfl rfl grI_off (Nat.le_of_ble_eq_true rfl) (gFs_I 7 1 (fun _ _ _ => rfl)) dX2_burn_44 (fun H locs hG => ?_)
    obtain ⟨G13, eG13⟩ : ∃ z, z = gsI G8 q10 1 ((gI G8 q10 1) + 1) := ⟨_, rfl⟩
    rw [← eG13] at hG
    replace hw := hw G13 eG13
    have hk7 : gC G13 q6 = 14 := by rw [eG13]; exact hk7
    have hk11 : gC G13 q10 = 7 := by rw [eG13]; exact hk11
    have hk12 : gK G13 q10 = 7 := by rw [eG13]; exact hk12
    refine lv_iconst (v := 1) hx hb dX2_burn_47 (by decide) ?_
    exact greti hx hb hr hlk hG rfl hw (Nat.le_of_ble_eq_true rfl) (Nat.le_of_ble_eq_true rfl) dX2_burn_48
  · replace hw := hw.2 c_
    refine lv_iconst (v := 0) hx hb dX2_burn_15 (by decide) ?_
    exact greti hx hb hr hlk hG rfl hw (Nat.le_of_ble_eq_true rfl) (Nat.le_of_ble_eq_true rfl) dX2_burn_16
def gw_X2_pass_L60 (E : gE) (p0 : Nat) (post : Int32 → Gh → Prop) (px : String → Nat → Gh → Prop) (k16 : Int32 → Int32 → Int32 → Nat → Nat → Gh → Prop) : Nat → Int32 → Int32 → Int32 → Option Nat → Nat → Nat → Gh → Prop
  | 0, _, _, _, _, _, _, _ => False
  | n + 1, x1, x2, x3, x4, cB, zB, G => ∃ q11, x4 = some q11 ∧ (gC G q11 = 15 ∧ ((cB + 0 ≤ 640 ∧ zB + 0 ≤ 2600) ∧ (gw_J18_hasNext E (fun r15 G14 => gMon G G14 → ((r15 = 0 → (∀ G16, G16 = gsI G14 p0 4 ((gI G14 p0 4) + 1) → (k16 x1 x2 (x3 + 1) cB zB G16))) ∧ (¬ r15 = 0 → ((cB + 0 ≤ 640 ∧ zB + 0 ≤ 2600) ∧ (gw_J18_next E (fun r19 G18 => gMon G14 G18 → (∃ q20, r19 = some q20 ∧ (gC G18 q20 = 5 ∧ ((cB + 1 ≤ 640 ∧ zB + 4 ≤ 2600) ∧ (gw_X2_burn E (fun r24 G23 => gMon G18 G23 → (gw_X2_pass_L60 E p0 post px k16 n x1 (x2 + r24) x3 x4 (cB + 1) (zB + 4) G23)) p0 q20 G18))))) q11 G14))))) q11 G)))
def gw_X2_pass_L48 (E : gE) (p0 : Nat) (post : Int32 → Gh → Prop) (px : String → Nat → Gh → Prop) (k16 : Int32 → Int32 → Int32 → Nat → Nat → Gh → Prop) (x1 : Int32) (x2 : Int32) (x3 : Int32) (t0 : Int32) (cB : Nat) (zB : Nat) (G : Gh) : Prop := ∀ G5, G5 = gsI G p0 6 t0 → (∃ q6, (gR G5 p0 1) = some q6 ∧ (gC G5 q6 = 14 ∧ ((cB + 1 ≤ 640 ∧ zB + 4 ≤ 2600) ∧ (gw_J2_iterator E (fun r10 G9 => gMon G5 G9 → ((∃ n, gw_X2_pass_L60 E p0 post px k16 n x1 x2 x3 r10 (cB + 1) (zB + 4) G9))) q6 G5))))
def gw_X2_pass_L16 (E : gE) (p0 : Nat) (post : Int32 → Gh → Prop) (px : String → Nat → Gh → Prop) : Nat → Int32 → Int32 → Int32 → Nat → Nat → Gh → Prop
  | 0, _, _, _, _, _, _ => False
  | n + 1, x1, x2, x3, cB, zB, G => (x1 ≤ x3 → ((cB ≤ 640 ∧ zB ≤ 2600) ∧ (post x2 G))) ∧ (¬ x1 ≤ x3 → ((¬ ((gI G p0 4) - (gI G p0 4) / 3 * 3) = 0 → (gw_X2_pass_L48 E p0 post px (fun x1' x2' x3' cB' zB' G' => gw_X2_pass_L16 E p0 post px  n x1' x2' x3' cB' zB' G') x1 x2 x3 (gI G p0 6) cB zB G)) ∧ (((gI G p0 4) - (gI G p0 4) / 3 * 3) = 0 → ((cB + 0 ≤ 640 ∧ zB + 0 ≤ 2600) ∧ (gw_X2_pass_L48 E p0 post px (fun x1' x2' x3' cB' zB' G' => gw_X2_pass_L16 E p0 post px  n x1' x2' x3' cB' zB' G') x1 x2 x3 (if (0 : Int32) < ((gI G p0 6) - 1) then ((gI G p0 6) - 1) else (0 : Int32)) cB zB G)))))
def gw_X2_pass (E : gE) (post : Int32 → Gh → Prop) (px : String → Nat → Gh → Prop) (p0 : Nat) (p1 : Int32) (G : Gh) : Prop := gK G p0 = 2 ∧ (gw_X1_inRange E (fun r2 G1 => gMon G G1 → (gw_X1_checkArgument E (fun G3 => gMon G1 G3 → ((∃ n, gw_X2_pass_L16 E p0 post px  n p1 0 0 1 6 G3))) px r2 G1)) p1.toInt64 1 48 G)
theorem hd_X2_pass : yX2_pass.cls = RX2 ∧ yX2_pass.cls ≠ "java/lang/invoke/MethodHandle" ∧ yX2_pass.cls ≠ "java/lang/invoke/VarHandle" ∧ (parseMethodDescriptor yX2_pass.desc).map (fun d => d.parameters.length) = some 1 := by decide +kernel
theorem hdn_X2_pass : yX2_pass.cls ≠ "java/lang/invoke/MethodHandle" ∧ yX2_pass.cls ≠ "java/lang/invoke/VarHandle" ∧ (parseMethodDescriptor yX2_pass.desc).map (fun d => d.parameters.length) = some 1 := hd_X2_pass.2
theorem hdu_X2_pass : RX2 ≠ "java/lang/invoke/MethodHandle" ∧ RX2 ≠ "java/lang/invoke/VarHandle" ∧ (parseMethodDescriptor yX2_pass.desc).map (fun d => d.parameters.length) = some 1 := by decide +kernel
theorem hds_X2_pass : yX2_pass.name ≠ "<init>" ∧ (parseMethodDescriptor yX2_pass.desc).map (fun d => d.parameters.length) = some 1 := by decide +kernel
set_option maxHeartbeats 1000000 in
set_option maxRecDepth 100000 in
theorem gm_X2_pass (l : Launch) (hlt : l.stackTraces = false) (E : gE) (p0 : Nat) (p1 : Int32) (post : Int32 → Gh → Prop) (px : String → Nat → Gh → Prop) (G : Gh) (hw : gw_X2_pass E post px p0 p1 G) : gX l E yX2_pass (ws_ yX2_pass cX2_pass 6 (some .int)) ({ frames := 9, cells := 640, slots := 2600, locals := 140 } : Room) 640 2600 [.ref p0, .int p1] G (gpi post) px := by
  refine xof (by decide) (Nat.le_of_ble_eq_true rfl) ?_
  intro p e s m below meth c A ls hx hb hr hlk hml hown hin hts hPF hA htab hG hl
  have hl : lv_has ls 6 [(0, .ref p0), (1, .int p1)] := hl
  unfold gw_X2_pass at hw
  obtain ⟨G0, hG0⟩ : ∃ G0, G0 = G := ⟨_, rfl⟩
  have hG : gS E A G0 s.heap G s.heap [] := by rw [hG0]; exact hG
  rw [show gQ E A G (gpi post) = gQ E A G0 (gpi post) by rw [hG0]]
  rw [show gXC E A G px = gXC E A G0 px by rw [hG0]]
  have h0p0 := hw.1; rw [← hG0] at h0p0
  replace hw := hw.2
  have hL60 : ∀ (k16 : Int32 → Int32 → Int32 → Nat → Nat → Gh → Prop) (hk16 : ∀ (x1 : Int32) (x2 : Int32) (x3 : Int32) (cB : Nat) (zB : Nat) (G : Gh) (H : Heap) (locs : List Loc) (ls : Array Slot), gS E A G0 s.heap G H locs → lv_has ls 6 [(0, .ref p0), (1, .int x1), (2, .int x2), (3, .int x3)] → k16 x1 x2 x3 cB zB G → W p l e (headSpec (ws_ yX2_pass cX2_pass 6 (some .int)) ({ frames := 9, cells := 640, slots := 2600, locals := 140 } : Room)).room s m ([.ref p0, .int p1] : List Value).toArray below meth c H locs cB zB (vx_MQ below (gQ E A G0 (gpi post)) (gXC E A G0 px) ([.ref p0, .int p1] : List Value).toArray s 640 2600 A) (F0 m 16 ls [])) (n : Nat) (x1 : Int32) (x2 : Int32) (x3 : Int32) (x4 : Option Nat) (cB : Nat) (zB : Nat) (G : Gh) (H : Heap) (locs : List Loc) (ls : Array Slot), gS E A G0 s.heap G H locs → lv_has ls 6 [(0, .ref p0), (1, .int x1), (2, .int x2), (3, .int x3), (4, va_rf x4)] → gw_X2_pass_L60 E p0 post px k16 n x1 x2 x3 x4 cB zB G → W p l e (headSpec (ws_ yX2_pass cX2_pass 6 (some .int)) ({ frames := 9, cells := 640, slots := 2600, locals := 140 } : Room)).room s m ([.ref p0, .int p1] : List Value).toArray below meth c H locs cB zB (vx_MQ below (gQ E A G0 (gpi post)) (gXC E A G0 px) ([.ref p0, .int p1] : List Value).toArray s 640 2600 A) (F0 m 60 ls []) := by
    intro k16 hk16 n
    induction n with
    | zero => exact fun _ _ _ _ _ _ _ _ _ _ _ _ hw => hw.elim
    | succ n ih =>
      intro x1 x2 x3 x4 cB zB G H locs ls hG hl hw
      unfold gw_X2_pass_L60 at hw
      refine ga_ hx hb dX2_pass_60 (lv_at hl 4 rfl) ?_
      obtain ⟨q11, hq11, hw⟩ := hw
      refine W.eq (g2 := F0 m 62 ls [.ref q11]) (by rw [hq11]; rfl) ?_
      have hk12 := hw.1
      replace hw := hw.2
      have hb13 := hw.1
      replace hw := hw.2
      refine gc5i hA hG (va_runF (hPF.K.1 15 _ rfl).2 (As := []) (rest := []) ⟨hx, hb, hml, hown, hts⟩ (gm_J18_hasNext l E q11 _ G hw _) (va_cwF 0 hts (lw_F q723 q727 q729 q79 q731) rfl rfl rfl (hPF.f 0 rfl) hdx_java_util_Iterator_hasNext ⟨Nat.le_of_ble_eq_true rfl, Nat.le_of_ble_eq_true rfl⟩) ⟨gblind, grecv hPF hG hk12 (by decide) (by decide) rfl, fun U hU hW => gpre hPF hA hG _ U hU hW⟩ rfl rfl hl.1 rfl (lv_room (Nat.le_of_ble_eq_true rfl)) dX2_pass_62 ⟨(Nat.le_trans (Nat.le_of_eq (by simp only [Nat.add_assoc, Nat.zero_add, Nat.add_zero])) hb13.1), (Nat.le_trans (Nat.le_of_eq (by simp only [Nat.add_assoc, Nat.zero_add, Nat.add_zero])) hb13.2)⟩) (fun r15 G14 H locs hw hmon hG => ?_)
      replace hw := hw hmon
      have hk12 : gC G14 q11 = 15 := gC_mon hmon hk12 (by decide)
      refine lv_if_eq (tgt := 94) hx hb dX2_pass_67 (by decide) (fun c_ => ?_) (fun c_ => ?_)
      · replace hw := hw.1 c_
        refine lv_aload_n hx hb dX2_pass_94 rfl (lv_at hl 0 rfl) ?_
        refine lv_dup hx hb dX2_pass_95 rfl ?_
        refine gg hx hb hts hown hPF hG 2 4 rfl in_X2 (by decide) (by decide) (by decide) q470 (fun _ h9 => h9) (gC_of (gK_mon hG.1.2 h0p0 (by decide)) (by decide)) (v := .int (gI G14 p0 4)) rfl dX2_pass_96 ?_
        refine lv_iconst (v := 1) hx hb dX2_pass_99 (by decide) ?_
        refine lv_iadd hx hb dX2_pass_100 ?_
        refine gp hx hb hts hown hPF hG 2 4 rfl in_X2 tyX2 tyX2_ok nmX2 (by decide) (by decide) (by decide) q470 (fun _ h9 => h9) rfl (gK_mon hG.1.2 h0p0 (by decide)) (v := .int ((gI G14 p0 4) + 1)) rfl rfl (G' := gsI G14 p0 4 ((gI G14 p0 4) + 1)) rfl rfl grI_off (Nat.le_of_ble_eq_true rfl) (gFs_I 2 4 (fun _ _ _ => rfl)) dX2_pass_101 (fun H locs hG => ?_)
        obtain ⟨G16, eG16⟩ : ∃ z, z = gsI G14 p0 4 ((gI G14 p0 4) + 1) := ⟨_, rfl⟩
        rw [← eG16] at hG
        replace hw := hw G16 eG16
        have hk12 : gC G16 q11 = 15 := by rw [eG16]; exact hk12
        refine lv_iinc (v := x3 + 1) (lv' := [(3, .int (x3 + 1)), (0, .ref p0), (1, .int x1), (2, .int x2), (4, va_rf x4)]) hx hb dX2_pass_104 hl (k := 3) rfl rfl (by decide) (by first | rfl | simp [List.filter, va_rf_cat, gcat_i, gcat_r, gcat_l, gcat_d, gcat_f, gcat_n]) (fun ls hl => ?_)
        refine lv_goto (tgt := 16) hx hb dX2_pass_107 (by decide) ?_
        refine W.cs (cells' := cB) (slots' := zB) (by simp only [Nat.zero_add, Nat.add_zero, Nat.add_assoc]) (by simp only [Nat.zero_add, Nat.add_zero, Nat.add_assoc]) ?_
        exact hk16 x1 x2 (x3 + 1) cB zB G16 _ _ ls hG (lv_sub hl [1, 2, 3, 0] rfl) hw
      · replace hw := hw.2 c_
        refine ga_ hx hb dX2_pass_70 (lv_at hl 4 rfl) ?_
        refine W.eq (g2 := F0 m 72 ls [.ref q11]) (by rw [hq11]; rfl) ?_
        have hb17 := hw.1
        replace hw := hw.2
        refine gc5r hA hG (va_runF (hPF.K.1 15 _ rfl).2 (As := []) (rest := []) ⟨hx, hb, hml, hown, hts⟩ (gm_J18_next l E q11 _ G14 hw _) (va_cwF 0 hts (lw_F q733 q736 q738 q79 q740) rfl rfl rfl (hPF.f 1 rfl) hdx_java_util_Iterator_next ⟨Nat.le_of_ble_eq_true rfl, Nat.le_of_ble_eq_true rfl⟩) ⟨gblind, grecv hPF hG hk12 (by decide) (by decide) rfl, fun U hU hW => gpre hPF hA hG _ U hU hW⟩ rfl rfl hl.1 rfl (lv_room (Nat.le_of_ble_eq_true rfl)) dX2_pass_72 ⟨(Nat.le_trans (Nat.le_of_eq (by simp only [Nat.add_assoc, Nat.zero_add, Nat.add_zero])) hb17.1), (Nat.le_trans (Nat.le_of_eq (by simp only [Nat.add_assoc, Nat.zero_add, Nat.add_zero])) hb17.2)⟩) (fun r19 G18 H locs hw hmon hG => ?_)
        replace hw := hw hmon
        have hk12 : gC G18 q11 = 15 := gC_mon hmon hk12 (by decide)
        obtain ⟨q20, hq20, hw⟩ := hw
        refine W.eq (g2 := F0 m 77 ls [.ref q20]) (by rw [hq20]; rfl) ?_
        have hk21 := hw.1
        replace hw := hw.2
        refine va_castS hx hb hown (hts _ q852) (hPF.K.1 5 _ rfl).2 (grecv hPF hG hk21 (by decide) (by decide) rfl) dX2_pass_77 ?_
        refine lv_astore (lv' := [(5, .ref q20), (0, .ref p0), (1, .int x1), (2, .int x2), (3, .int x3), (4, va_rf x4)]) hx hb dX2_pass_80 hl (by decide) (by first | rfl | simp [List.filter, va_rf_cat, gcat_i, gcat_r, gcat_l, gcat_d, gcat_f, gcat_n]) (fun ls hl => ?_)
        refine lv_iload_n hx hb dX2_pass_82 rfl (lv_at hl 3 rfl) ?_
        refine lv_aload_n hx hb dX2_pass_83 rfl (lv_at hl 1 rfl) ?_
        refine lv_aload hx hb dX2_pass_84 (lv_at hl 0 rfl) ?_
        have hb22 := hw.1
        replace hw := hw.2
        refine gc3i hA hG (va_runV (As := [.ref q20]) (rest := [.int x2]) ⟨hx, hb, hml, hown, hts⟩ (gm_X2_burn l E p0 q20 _ G18 hw _) (cwV 1 hts (lw_V q1522 q1524 qs10 q56 q1525) rfl rfl rfl hd_X2_burn ⟨Nat.le_of_ble_eq_true rfl, Nat.le_of_ble_eq_true rfl⟩) ⟨gblind, grecv hPF hG (gC_of (gK_mon hG.1.2 h0p0 (by decide)) (by decide)) (by decide) (by decide) rfl, fun U hU hW => gpre hPF hA hG _ U hU hW⟩ rfl rfl hl.1 rfl (lv_room (Nat.le_of_ble_eq_true rfl)) dX2_pass_86 ⟨(Nat.le_trans (Nat.le_of_eq (by simp only [Nat.add_assoc, Nat.zero_add, Nat.add_zero])) hb22.1), (Nat.le_trans (Nat.le_of_eq (by simp only [Nat.add_assoc, Nat.zero_add, Nat.add_zero])) hb22.2)⟩) (fun r24 G23 H locs hw hmon hG => ?_)
        replace hw := hw hmon
        have hk12 : gC G23 q11 = 15 := gC_mon hmon hk12 (by decide)
        have hk21 : gC G23 q20 = 5 := gC_mon hmon hk21 (by decide)
        refine lv_iadd hx hb dX2_pass_89 ?_
        refine lv_istore_n (i := 2) (lv' := [(2, .int (x2 + r24)), (5, .ref q20), (0, .ref p0), (1, .int x1), (3, .int x3), (4, va_rf x4)]) hx hb dX2_pass_90 rfl hl (by decide) (by first | rfl | simp [List.filter, va_rf_cat, gcat_i, gcat_r, gcat_l, gcat_d, gcat_f, gcat_n]) (fun ls hl => ?_)
        refine lv_goto (tgt := 60) hx hb dX2_pass_91 (by decide) ?_
        refine W.cs (cells' := cB + 1) (slots' := zB + 4) (by simp only [Nat.zero_add, Nat.add_zero, Nat.add_assoc]) (by simp only [Nat.zero_add, Nat.add_zero, Nat.add_assoc]) ?_
        exact ih x1 (x2 + r24) x3 x4 (cB + 1) (zB + 4) G23 _ _ ls hG (lv_sub hl [2, 3, 0, 4, 5] rfl) hw
  have hL48 : ∀ (k16 : Int32 → Int32 → Int32 → Nat → Nat → Gh → Prop) (hk16 : ∀ (x1 : Int32) (x2 : Int32) (x3 : Int32) (cB : Nat) (zB : Nat) (G : Gh) (H : Heap) (locs : List Loc) (ls : Array Slot), gS E A G0 s.heap G H locs → lv_has ls 6 [(0, .ref p0), (1, .int x1), (2, .int x2), (3, .int x3)] → k16 x1 x2 x3 cB zB G → W p l e (headSpec (ws_ yX2_pass cX2_pass 6 (some .int)) ({ frames := 9, cells := 640, slots := 2600, locals := 140 } : Room)).room s m ([.ref p0, .int p1] : List Value).toArray below meth c H locs cB zB (vx_MQ below (gQ E A G0 (gpi post)) (gXC E A G0 px) ([.ref p0, .int p1] : List Value).toArray s 640 2600 A) (F0 m 16 ls [])) (x1 : Int32) (x2 : Int32) (x3 : Int32) (t0 : Int32) (cB : Nat) (zB : Nat) (G : Gh) (H : Heap) (locs : List Loc) (ls : Array Slot), gS E A G0 s.heap G H locs → lv_has ls 6 [(0, .ref p0), (1, .int x1), (2, .int x2), (3, .int x3)] → gw_X2_pass_L48 E p0 post px k16 x1 x2 x3 t0 cB zB G → W p l e (headSpec (ws_ yX2_pass cX2_pass 6 (some .int)) ({ frames := 9, cells := 640, slots := 2600, locals := 140 } : Room)).room s m ([.ref p0, .int p1] : List Value).toArray below meth c H locs cB zB (vx_MQ below (gQ E A G0 (gpi post)) (gXC E A G0 px) ([.ref p0, .int p1] : List Value).toArray s 640 2600 A) (F0 m 48 ls [.int t0, .ref p0]) := by
    intro k16 hk16 x1 x2 x3 t0 cB zB G H locs ls hG hl hw
    unfold gw_X2_pass_L48 at hw
    refine gp hx hb hts hown hPF hG 2 6 rfl in_X2 tyX2 tyX2_ok nmX2 (by decide) (by decide) (by decide) q474 (fun _ h9 => h9) rfl (gK_mon hG.1.2 h0p0 (by decide)) (v := .int t0) rfl rfl (G' := gsI G p0 6 t0) rfl rfl grI_off (Nat.le_of_ble_eq_true rfl) (gFs_I 2 6 (fun _ _ _ => rfl)) dX2_pass_48 (fun H locs hG => ?_)
    obtain ⟨G5, eG5⟩ : ∃ z, z = gsI G p0 6 t0 := ⟨_, rfl⟩
    rw [← eG5] at hG
    replace hw := hw G5 eG5
    refine lv_aload_n hx hb dX2_pass_51 rfl (lv_at hl 0 rfl) ?_
    refine gg hx hb hts hown hPF hG 2 1 rfl in_X2 (by decide) (by decide) (by decide) q464 (fun _ h9 => h9) (gC_of (gK_mon hG.1.2 h0p0 (by decide)) (by decide)) (v := va_rf (gR G5 p0 1)) rfl dX2_pass_52 ?_
    obtain ⟨q6, hq6, hw⟩ := hw
    refine W.eq (g2 := F0 m 55 ls [.ref q6]) (by rw [hq6]; rfl) ?_
    have hk7 := hw.1
    replace hw := hw.2
    have hb8 := hw.1
    replace hw := hw.2
    refine gc3r hA hG (va_runV (As := []) (rest := []) ⟨hx, hb, hml, hown, hts⟩ (gm_J2_iterator l E q6 _ G5 hw _) (cwV 0 hts (lw_V q699 q700 q701 q59 q702) rfl rfl rfl hd_J2_iterator ⟨Nat.le_of_ble_eq_true rfl, Nat.le_of_ble_eq_true rfl⟩) ⟨gblind, grecv hPF hG hk7 (by decide) (by decide) rfl, fun U hU hW => gpre hPF hA hG _ U hU hW⟩ rfl rfl hl.1 rfl (lv_room (Nat.le_of_ble_eq_true rfl)) dX2_pass_55 ⟨(Nat.le_trans (Nat.le_of_eq (by simp only [Nat.add_assoc, Nat.zero_add, Nat.add_zero])) hb8.1), (Nat.le_trans (Nat.le_of_eq (by simp only [Nat.add_assoc, Nat.zero_add, Nat.add_zero])) hb8.2)⟩) (fun r10 G9 H locs hw hmon hG => ?_)
    replace hw := hw hmon
    have hk7 : gC G9 q6 = 14 := gC_mon hmon hk7 (by decide)
    refine gt_ (lv' := [(4, va_rf r10), (0, .ref p0), (1, .int x1), (2, .int x2), (3, .int x3)]) hx hb dX2_pass_58 hl (by decide) rfl (fun ls hl => ?_)
    refine W.cs (cells' := cB + 1) (slots' := zB + 4) (by simp only [Nat.zero_add, Nat.add_zero, Nat.add_assoc]) (by simp only [Nat.zero_add, Nat.add_zero, Nat.add_assoc]) ?_
    obtain ⟨n0, hw⟩ := hw
    exact hL60 k16 hk16 n0 x1 x2 x3 r10 (cB + 1) (zB + 4) G9 _ _ ls hG (lv_sub hl [1, 2, 3, 4, 0] rfl) hw
  have hL16 : ∀ (n : Nat) (x1 : Int32) (x2 : Int32) (x3 : Int32) (cB : Nat) (zB : Nat) (G : Gh) (H : Heap) (locs : List Loc) (ls : Array Slot), gS E A G0 s.heap G H locs → lv_has ls 6 [(0, .ref p0), (1, .int x1), (2, .int x2), (3, .int x3)] → gw_X2_pass_L16 E p0 post px n x1 x2 x3 cB zB G → W p l e (headSpec (ws_ yX2_pass cX2_pass 6 (some .int)) ({ frames := 9, cells := 640, slots := 2600, locals := 140 } : Room)).room s m ([.ref p0, .int p1] : List Value).toArray below meth c H locs cB zB (vx_MQ below (gQ E A G0 (gpi post)) (gXC E A G0 px) ([.ref p0, .int p1] : List Value).toArray s 640 2600 A) (F0 m 16 ls []) := by
    intro n
    induction n with
    | zero => exact fun _ _ _ _ _ _ _ _ _ _ _ hw => hw.elim
    | succ n ih =>
      intro x1 x2 x3 cB zB G H locs ls hG hl hw
      unfold gw_X2_pass_L16 at hw
      refine lv_iload_n hx hb dX2_pass_16 rfl (lv_at hl 3 rfl) ?_
      refine lv_iload_n hx hb dX2_pass_17 rfl (lv_at hl 1 rfl) ?_
      refine lv_icmp_ge (tgt := 110) hx hb dX2_pass_18 (by decide) (fun c_ => ?_) (fun c_ => ?_)
      · replace hw := hw.1 c_
        refine lv_iload_n hx hb dX2_pass_110 rfl (lv_at hl 2 rfl) ?_
        have hb_ := hw.1
        replace hw := hw.2
        exact xreti hx hb hr hlk hG rfl hw (Nat.le_trans (Nat.le_of_eq (by simp only [Nat.add_assoc, Nat.add_zero])) hb_.1) (Nat.le_trans (Nat.le_of_eq (by simp only [Nat.add_assoc, Nat.add_zero])) hb_.2) dX2_pass_111
      · replace hw := hw.2 c_
        refine lv_aload_n hx hb dX2_pass_21 rfl (lv_at hl 0 rfl) ?_
        refine lv_aload_n hx hb dX2_pass_22 rfl (lv_at hl 0 rfl) ?_
        refine gg hx hb hts hown hPF hG 2 4 rfl in_X2 (by decide) (by decide) (by decide) q470 (fun _ h9 => h9) (gC_of (gK_mon hG.1.2 h0p0 (by decide)) (by decide)) (v := .int (gI G p0 4)) rfl dX2_pass_23 ?_
        refine lv_iconst (v := 3) hx hb dX2_pass_26 (by decide) ?_
        refine lv_irem hx hb dX2_pass_27 (by decide) ?_
        refine lv_if_ne (tgt := 44) hx hb dX2_pass_28 (by decide) (fun c_ => ?_) (fun c_ => ?_)
        · replace hw := hw.1 c_
          refine lv_aload_n hx hb dX2_pass_44 rfl (lv_at hl 0 rfl) ?_
          refine gg hx hb hts hown hPF hG 2 6 rfl in_X2 (by decide) (by decide) (by decide) q474 (fun _ h9 => h9) (gC_of (gK_mon hG.1.2 h0p0 (by decide)) (by decide)) (v := .int (gI G p0 6)) rfl dX2_pass_45 ?_
          refine W.cs (cells' := cB) (slots' := zB) (by simp only [Nat.zero_add, Nat.add_zero, Nat.add_assoc]) (by simp only [Nat.zero_add, Nat.add_zero, Nat.add_assoc]) ?_
          exact hL48 (fun x1' x2' x3' cB' zB' G' => gw_X2_pass_L16 E p0 post px  n x1' x2' x3' cB' zB' G') (fun x1' x2' x3' cB' zB' G' H locs ls hG hl hw => ih x1' x2' x3' cB' zB' G' H locs ls hG hl hw) x1 x2 x3 (gI G p0 6) cB zB G _ _ ls hG (lv_sub hl [0, 1, 2, 3] rfl) hw
        · replace hw := hw.2 c_
          refine lv_iconst (v := 0) hx hb dX2_pass_31 (by decide) ?_
          refine lv_aload_n hx hb dX2_pass_32 rfl (lv_at hl 0 rfl) ?_
          refine gg hx hb hts hown hPF hG 2 6 rfl in_X2 (by decide) (by decide) (by decide) q474 (fun _ h9 => h9) (gC_of (gK_mon hG.1.2 h0p0 (by decide)) (by decide)) (v := .int (gI G p0 6)) rfl dX2_pass_33 ?_
          refine lv_iconst (v := 1) hx hb dX2_pass_36 (by decide) ?_
          refine lv_isub hx hb dX2_pass_37 ?_
          have hb4 := hw.1
          replace hw := hw.2
          refine va_mmax (rest := [.ref p0]) hx hb (hml.trans hl.1.symm) hown (hts _ q1521) (hts _ q232) (hts _ q69) (hts _ q233) (Nat.le_of_ble_eq_true rfl) (by (try simp only [List.map, va_rf_cat, gcat_i, gcat_r, gcat_l, gcat_d, gcat_f, gcat_n]); exact Nat.le_of_ble_eq_true rfl) (Nat.le_trans (Nat.le_of_eq (by simp only [Nat.add_assoc, Nat.zero_add, Nat.add_zero])) hb4.1) (Nat.le_trans (Nat.le_of_eq (by simp only [Nat.add_assoc, Nat.zero_add, Nat.add_zero])) hb4.2) dX2_pass_38 ?_
          refine lv_goto (tgt := 48) hx hb dX2_pass_41 (by decide) ?_
          refine W.cs (cells' := cB) (slots' := zB) (by simp only [Nat.zero_add, Nat.add_zero, Nat.add_assoc]) (by simp only [Nat.zero_add, Nat.add_zero, Nat.add_assoc]) ?_
          exact hL48 (fun x1' x2' x3' cB' zB' G' => gw_X2_pass_L16 E p0 post px  n x1' x2' x3' cB' zB' G') (fun x1' x2' x3' cB' zB' G' H locs ls hG hl hw => ih x1' x2' x3' cB' zB' G' H locs ls hG hl hw) x1 x2 x3 (if (0 : Int32) < ((gI G p0 6) - 1) then ((gI G p0 6) - 1) else (0 : Int32)) cB zB G _ _ ls hG (lv_sub hl [0, 1, 2, 3] rfl) hw
  refine lv_iload_n hx hb dX2_pass_0 rfl (lv_at hl 1 rfl) ?_
  refine lv_i2l (v := p1.toInt64) hx hb dX2_pass_1 rfl ?_
  refine lv_lconst (v := 1) hx hb dX2_pass_2 (by decide) ?_
  refine lv_ldc2 (v := 48) hx hb hown (hts _ q1520) dX2_pass_3 ?_
  refine gc3i hA hG (va_runSN (As := [.long p1.toInt64, .long 1, .long 48]) (rest := []) ⟨hx, hb, hml, hown, hts⟩ (gm_X1_inRange l E p1.toInt64 1 48 _ G hw _) ⟨va_cnB 3 hts (lw_meth q638) rfl rfl rfl (hPF.w q636 rfl) (hts _ q55) hd_X1_inRange ⟨Nat.le_of_ble_eq_true rfl, Nat.le_of_ble_eq_true rfl⟩, hts _ q637, trivial⟩ ⟨gblind, fun U hU hW => gpre hPF hA hG _ U hU hW⟩ rfl rfl hl.1 rfl (lv_room (Nat.le_of_ble_eq_true rfl)) dX2_pass_6 ⟨(Nat.le_of_ble_eq_true rfl), (Nat.le_of_ble_eq_true rfl)⟩) (fun r2 G1 H locs hw hmon hG => ?_)
  replace hw := hw hmon
  refine xc3v hA hG (vx_runSN (As := [.int r2]) (rest := []) ⟨hx, hb, hml, hown, hts⟩ (gm_X1_checkArgument l hlt E r2 _ _ G1 hw _) ⟨va_cnB 1 hts (lw_meth q641) rfl rfl rfl (hPF.w q639 rfl) (hts _ q55) hd_X1_checkArgument ⟨Nat.le_of_ble_eq_true rfl, Nat.le_of_ble_eq_true rfl⟩, hts _ q640, trivial⟩ ⟨gblind, fun U hU hW => gpre hPF hA hG _ U hU hW⟩ rfl rfl hl.1 rfl (lv_room (Nat.le_of_ble_eq_true rfl)) dX2_pass_9 ⟨(Nat.le_of_ble_eq_true rfl), (Nat.le_of_ble_eq_true rfl)⟩) (fun X ce q Gx H locs hw hmon hG hce hcv hcl => ?_) (fun G3 H locs hw hmon hG => ?_)
  · exact gleave hlk hG (fun x hx9 => (htab x hx9).elim) hce hcv hcl hw (Nat.le_of_ble_eq_true rfl) (Nat.le_of_ble_eq_true rfl)
  · replace hw := hw hmon
    refine lv_iconst (v := 0) hx hb dX2_pass_12 (by decide) ?_
    refine lv_istore_n (i := 2) (lv' := [(2, .int 0), (0, .ref p0), (1, .int p1)]) hx hb dX2_pass_13 rfl hl (by decide) rfl (fun ls hl => ?_)
    refine lv_iconst (v := 0) hx hb dX2_pass_14 (by decide) ?_
    refine lv_istore_n (i := 3) (lv' := [(3, .int 0), (2, .int 0), (0, .ref p0), (1, .int p1)]) hx hb dX2_pass_15 rfl hl (by decide) rfl (fun ls hl => ?_)
    refine W.cs (cells' := 1) (slots' := 6) (by simp only [Nat.zero_add, Nat.add_zero, Nat.add_assoc]) (by simp only [Nat.zero_add, Nat.add_zero, Nat.add_assoc]) ?_
    obtain ⟨n0, hw⟩ := hw
    exact hL16  n0 p1 0 0 1 6 G3 _ _ ls hG (lv_sub hl [2, 3, 1, 0] rfl) hw
