/-! walks over the ghost heap: walkY -/
set_option maxRecDepth 100000
def gw_X6_told_L67 (E : gE) (p0 : Nat) (post : Option Nat → Gh → Prop) (x1 : Nat) (t0 : Option Nat) (G : Gh) : Prop := ∃ q24, (gR G p0 2) = some q24 ∧ (gSt G q24 ∧ ((gK G q24 = 10 → (gC G x1 = 16 ∧ (gw_J8_append E (fun r29 G28 => gMon G G28 → (∃ q30, r29 = some q30 ∧ (gC G28 q30 = 16 ∧ (gw_J8_append_2 E (fun r33 G32 => gMon G28 G32 → (∃ q34, r33 = some q34 ∧ (gC G32 q34 = 16 ∧ (gw_J8_append E (fun r37 G36 => gMon G32 G36 → (∃ q38, r37 = some q38 ∧ (gC G36 q38 = 16 ∧ (gw_J8_append_2 E (fun r41 G40 => gMon G36 G40 → (∃ q42, r41 = some q42 ∧ (gC G40 q42 = 16 ∧ (gw_J8_toString E (fun r45 G44 => gMon G40 G44 → (post r45 G44)) q42 G40)))) q38 (gI G36 q24 3) G36)))) q34 (eZ E 12) G32)))) q30 (gI G28 q24 1) G28)))) x1 (eZ E 11) G))) ∧ (¬ gK G q24 = 10 → (∃ q46, t0 = some q46 ∧ (gC G q46 = 16 ∧ (gw_J8_toString E (fun r49 G48 => gMon G G48 → (post r49 G48)) q46 G))))))
def gw_X6_told (E : gE) (post : Option Nat → Gh → Prop) (p0 : Nat) (G : Gh) : Prop := gK G p0 = 5 ∧ (∀ q1, gK G q1 = 0 → ∀ G2, G2 = gN G q1 16 0 → (gw_J8_init E (fun G3 => gMon G2 G3 → (gw_J8_append_2 E (fun r5 G4 => gMon G3 G4 → (∃ q6, r5 = some q6 ∧ (gC G4 q6 = 16 ∧ (gw_J8_append_3 E (fun r9 G8 => gMon G4 G8 → (∃ q10, (gR G8 p0 2) = some q10 ∧ (gSt G8 q10 ∧ (∃ k12, k12 < 4 ∧ (eZ E (gStg G8 q10)) = eZ E k12 ∧ (∃ q15, r9 = some q15 ∧ (gC G8 q15 = 16 ∧ (gw_J8_append E (fun r18 G17 => gMon G8 G17 → (∃ q19, (gR G17 p0 2) = some q19 ∧ (gSt G17 q19 ∧ ((¬ (gWel G17 q19) = (-1) → (gSt G17 q19 ∧ (gw_J8_append_2 E (fun r23 G22 => gMon G17 G22 → (gw_X6_told_L67 E p0 post  q1 r23 G22)) q1 (gWel G17 q19) G17))) ∧ ((gWel G17 q19) = (-1) → (gw_X6_told_L67 E p0 post  q1 r18 G17)))))) q15 (eZ E (13 + k12)) G8))))))) q6 32 G4)))) q1 (gI G3 p0 1) G3)) q1 G2))
theorem hd_X6_told : yX6_told.cls = RX6 ∧ yX6_told.cls ≠ "java/lang/invoke/MethodHandle" ∧ yX6_told.cls ≠ "java/lang/invoke/VarHandle" ∧ (parseMethodDescriptor yX6_told.desc).map (fun d => d.parameters.length) = some 0 := by decide +kernel
theorem hdn_X6_told : yX6_told.cls ≠ "java/lang/invoke/MethodHandle" ∧ yX6_told.cls ≠ "java/lang/invoke/VarHandle" ∧ (parseMethodDescriptor yX6_told.desc).map (fun d => d.parameters.length) = some 0 := hd_X6_told.2
theorem hdu_X6_told : RX6 ≠ "java/lang/invoke/MethodHandle" ∧ RX6 ≠ "java/lang/invoke/VarHandle" ∧ (parseMethodDescriptor yX6_told.desc).map (fun d => d.parameters.length) = some 0 := by decide +kernel
theorem hds_X6_told : yX6_told.name ≠ "<init>" ∧ (parseMethodDescriptor yX6_told.desc).map (fun d => d.parameters.length) = some 0 := by decide +kernel
set_option maxHeartbeats 1000000 in
set_option maxRecDepth 100000 in
theorem gm_X6_told (l : Launch) (E : gE) (p0 : Nat) (post : Option Nat → Gh → Prop) (G : Gh) (hw : gw_X6_told E post p0 G) : gM l E yX6_told (ws_ yX6_told cX6_told 5 (some (.object "java/lang/String"))) ({ frames := 6, cells := 11, slots := 1808, locals := 154 } : Room) 11 1808 [.ref p0] G (gpr post) := by
  refine gof (by decide) (Nat.le_of_ble_eq_true rfl) ?_
  intro p e s m below meth c A ls hx hb hr hlk hml hown hin hts hPF hA hG hl
  have hl : lv_has ls 5 [(0, .ref p0)] := hl
  unfold gw_X6_told at hw
  obtain ⟨G0, hG0⟩ : ∃ G0, G0 = G := ⟨_, rfl⟩
  have hG : gS E A G0 s.heap G s.heap [] := by rw [hG0]; exact hG
  rw [show gQ E A G (gpr post) = gQ E A G0 (gpr post) by rw [hG0]]
  have h0p0 := hw.1; rw [← hG0] at h0p0
  replace hw := hw.2
  have hL67 : ∀ (x1 : Nat) (t0 : Option Nat) (G : Gh) (H : Heap) (locs : List Loc) (ls : Array Slot), gS E A G0 s.heap G H locs → lv_has ls 5 [(0, .ref p0), (1, .ref x1)] → gw_X6_told_L67 E p0 post x1 t0 G → W p l e (headSpec (ws_ yX6_told cX6_told 5 (some (.object "java/lang/String"))) ({ frames := 6, cells := 11, slots := 1808, locals := 154 } : Room)).room s m ([.ref p0] : List Value).toArray below meth c H locs 6 1004 (MQ below (gQ E A G0 (gpr post)) ([.ref p0] : List Value).toArray s 11 1808 A) (F0 m 67 ls [va_rf t0]) := by
    intro x1 t0 G H locs ls hG hl hw
    unfold gw_X6_told_L67 at hw
    refine gt_n (i := 2) (lv' := [(2, va_rf t0), (0, .ref p0), (1, .ref x1)]) hx hb dX6_told_67 rfl hl (by decide) rfl (fun ls hl => ?_)
    refine lv_aload_n hx hb dX6_told_68 rfl (lv_at hl 1 rfl) ?_
    refine gg hx hb hts hown hPF hG 5 2 rfl in_X6 (by decide) (by decide) (by decide) q877 (fun _ h9 => h9) (gC_of (gK_mon hG.1.2 h0p0 (by decide)) (by decide)) (v := va_rf (gR G p0 2)) rfl dX6_told_69 ?_
    refine gt_ (lv' := [(4, va_rf (gR G p0 2)), (2, va_rf t0), (0, .ref p0), (1, .ref x1)]) hx hb dX6_told_72 hl (by decide) (by first | rfl | simp [List.filter, va_rf_cat, gcat_i, gcat_r, gcat_l, gcat_d, gcat_f, gcat_n]) (fun ls hl => ?_)
    refine ga_ hx hb dX6_told_74 (lv_at hl 0 rfl) ?_
    obtain ⟨q24, hq24, hw⟩ := hw
    refine W.eq (g2 := F0 m 76 ls [.ref q24]) (by rw [hq24]; rfl) ?_
    have hS25 := hw.1
    replace hw := hw.2
    refine ginst10 hx hb hts hown q1257 hPF hG hS25 dX6_told_76 (fun hk26 => ?_) (fun hk26 => ?_)
    · replace hw := hw.1 hk26
      refine lv_if_eq (tgt := 114) hx hb dX6_told_79 (by decide) (fun c_ => absurd c_ (by decide)) (fun c_ => ?_)
      refine ga_ hx hb dX6_told_82 (lv_at hl 0 rfl) ?_
      refine W.eq (g2 := F0 m 84 ls [.ref q24]) (by rw [hq24]; rfl) ?_
      refine va_castS hx hb hown (hts _ q1257) (hPF.K.1 10 _ rfl).2 (grecv hPF hG (gC_of hk26 (by decide)) (by decide) (by decide) rfl) dX6_told_84 ?_
      refine lv_astore_n (i := 3) (lv' := [(3, .ref q24), (4, va_rf (gR G p0 2)), (2, va_rf t0), (0, .ref p0), (1, .ref x1)]) hx hb dX6_told_87 rfl hl (by decide) (by first | rfl | simp [List.filter, va_rf_cat, gcat_i, gcat_r, gcat_l, gcat_d, gcat_f, gcat_n]) (fun ls hl => ?_)
      refine lv_aload_n hx hb dX6_told_88 rfl (lv_at hl 4 rfl) ?_
      refine va_ldcS hx hb hown (hPF.t 1 rfl) dX6_told_89 ?_
      have hk27 := hw.1
      replace hw := hw.2
      refine gc3r hA hG (va_runV (As := [.ref (eZ E 11)]) (rest := []) ⟨hx, hb, hml, hown, hts⟩ (gm_J8_append l E x1 (eZ E 11) _ G hw _) (cwV 1 hts (lw_V q1606 q210 q211 q65 q212) rfl rfl rfl hd_J8_append ⟨Nat.le_of_ble_eq_true rfl, Nat.le_of_ble_eq_true rfl⟩) ⟨gblind, grecv hPF hG hk27 (by decide) (by decide) rfl, fun U hU hW => gpre hPF hA hG _ U hU hW⟩ rfl rfl hl.1 rfl (lv_room (Nat.le_of_ble_eq_true rfl)) dX6_told_91 ⟨(Nat.le_of_ble_eq_true rfl), (Nat.le_of_ble_eq_true rfl)⟩) (fun r29 G28 H locs hw hmon hG => ?_)
      replace hw := hw hmon
      have hk26 : gK G28 q24 = 10 := gK_mon hmon hk26 (by decide)
      have hk27 : gC G28 x1 = 16 := gC_mon hmon hk27 (by decide)
      refine lv_aload_n hx hb dX6_told_94 rfl (lv_at hl 0 rfl) ?_
      refine ggN hx hb hts hown hPF hG 10 1 rfl in_X12 (by decide) (by decide) (by decide) q1370 (fun _ h9 => h9) (gC_of hk26 (by decide)) (v := .int (gI G28 q24 1)) rfl dX6_told_95 ?_
      obtain ⟨q30, hq30, hw⟩ := hw
      refine W.eq (g2 := F0 m 98 ls [.int (gI G28 q24 1), .ref q30]) (by rw [hq30]; rfl) ?_
      have hk31 := hw.1
      replace hw := hw.2
      refine gc3r hA hG (va_runV (As := [.int (gI G28 q24 1)]) (rest := []) ⟨hx, hb, hml, hown, hts⟩ (gm_J8_append_2 l E q30 (gI G28 q24 1) _ G28 hw _) (cwV 1 hts (lw_V q1564 q330 q331 q65 q332) rfl rfl rfl hd_J8_append_2 ⟨Nat.le_of_ble_eq_true rfl, Nat.le_of_ble_eq_true rfl⟩) ⟨gblind, grecv hPF hG hk31 (by decide) (by decide) rfl, fun U hU hW => gpre hPF hA hG _ U hU hW⟩ rfl rfl hl.1 rfl (lv_room (Nat.le_of_ble_eq_true rfl)) dX6_told_98 ⟨(Nat.le_of_ble_eq_true rfl), (Nat.le_of_ble_eq_true rfl)⟩) (fun r33 G32 H locs hw hmon hG => ?_)
      replace hw := hw hmon
      have hk26 : gK G32 q24 = 10 := gK_mon hmon hk26 (by decide)
      have hk27 : gC G32 x1 = 16 := gC_mon hmon hk27 (by decide)
      have hk31 : gC G32 q30 = 16 := gC_mon hmon hk31 (by decide)
      refine va_ldcS hx hb hown (hPF.t 2 rfl) dX6_told_101 ?_
      obtain ⟨q34, hq34, hw⟩ := hw
      refine W.eq (g2 := F0 m 103 ls [.ref (eZ E 12), .ref q34]) (by rw [hq34]; rfl) ?_
      have hk35 := hw.1
      replace hw := hw.2
      refine gc3r hA hG (va_runV (As := [.ref (eZ E 12)]) (rest := []) ⟨hx, hb, hml, hown, hts⟩ (gm_J8_append l E q34 (eZ E 12) _ G32 hw _) (cwV 1 hts (lw_V q1606 q210 q211 q65 q212) rfl rfl rfl hd_J8_append ⟨Nat.le_of_ble_eq_true rfl, Nat.le_of_ble_eq_true rfl⟩) ⟨gblind, grecv hPF hG hk35 (by decide) (by decide) rfl, fun U hU hW => gpre hPF hA hG _ U hU hW⟩ rfl rfl hl.1 rfl (lv_room (Nat.le_of_ble_eq_true rfl)) dX6_told_103 ⟨(Nat.le_of_ble_eq_true rfl), (Nat.le_of_ble_eq_true rfl)⟩) (fun r37 G36 H locs hw hmon hG => ?_)
      replace hw := hw hmon
      have hk26 : gK G36 q24 = 10 := gK_mon hmon hk26 (by decide)
      have hk27 : gC G36 x1 = 16 := gC_mon hmon hk27 (by decide)
      have hk31 : gC G36 q30 = 16 := gC_mon hmon hk31 (by decide)
      have hk35 : gC G36 q34 = 16 := gC_mon hmon hk35 (by decide)
      refine lv_aload_n hx hb dX6_told_106 rfl (lv_at hl 0 rfl) ?_
      refine ggN hx hb hts hown hPF hG 10 3 rfl in_X12 (by decide) (by decide) (by decide) q1374 (fun _ h9 => h9) (gC_of hk26 (by decide)) (v := .int (gI G36 q24 3)) rfl dX6_told_107 ?_
      obtain ⟨q38, hq38, hw⟩ := hw
      refine W.eq (g2 := F0 m 110 ls [.int (gI G36 q24 3), .ref q38]) (by rw [hq38]; rfl) ?_
      have hk39 := hw.1
      replace hw := hw.2
      refine gc3r hA hG (va_runV (As := [.int (gI G36 q24 3)]) (rest := []) ⟨hx, hb, hml, hown, hts⟩ (gm_J8_append_2 l E q38 (gI G36 q24 3) _ G36 hw _) (cwV 1 hts (lw_V q1564 q330 q331 q65 q332) rfl rfl rfl hd_J8_append_2 ⟨Nat.le_of_ble_eq_true rfl, Nat.le_of_ble_eq_true rfl⟩) ⟨gblind, grecv hPF hG hk39 (by decide) (by decide) rfl, fun U hU hW => gpre hPF hA hG _ U hU hW⟩ rfl rfl hl.1 rfl (lv_room (Nat.le_of_ble_eq_true rfl)) dX6_told_110 ⟨(Nat.le_of_ble_eq_true rfl), (Nat.le_of_ble_eq_true rfl)⟩) (fun r41 G40 H locs hw hmon hG => ?_)
      replace hw := hw hmon
      have hk26 : gK G40 q24 = 10 := gK_mon hmon hk26 (by decide)
      have hk27 : gC G40 x1 = 16 := gC_mon hmon hk27 (by decide)
      have hk31 : gC G40 q30 = 16 := gC_mon hmon hk31 (by decide)
      have hk35 : gC G40 q34 = 16 := gC_mon hmon hk35 (by decide)
      have hk39 : gC G40 q38 = 16 := gC_mon hmon hk39 (by decide)
      refine gt_n (i := 2) (lv' := [(2, va_rf r41), (3, .ref q24), (4, va_rf (gR G p0 2)), (0, .ref p0), (1, .ref x1)]) hx hb dX6_told_113 rfl hl (by decide) (by first | rfl | simp [List.filter, va_rf_cat, gcat_i, gcat_r, gcat_l, gcat_d, gcat_f, gcat_n]) (fun ls hl => ?_)
      refine ga_n hx hb dX6_told_114 rfl (lv_at hl 0 rfl) ?_
      obtain ⟨q42, hq42, hw⟩ := hw
      refine W.eq (g2 := F0 m 115 ls [.ref q42]) (by rw [hq42]; rfl) ?_
      have hk43 := hw.1
      replace hw := hw.2
      refine gc3r hA hG (va_runV (As := []) (rest := []) ⟨hx, hb, hml, hown, hts⟩ (gm_J8_toString l E q42 _ G40 hw _) (cwV 0 hts (lw_V q1611 q355 q356 q65 q357) rfl rfl rfl hd_J8_toString ⟨Nat.le_of_ble_eq_true rfl, Nat.le_of_ble_eq_true rfl⟩) ⟨gblind, grecv hPF hG hk43 (by decide) (by decide) rfl, fun U hU hW => gpre hPF hA hG _ U hU hW⟩ rfl rfl hl.1 rfl (lv_room (Nat.le_of_ble_eq_true rfl)) dX6_told_115 ⟨(Nat.le_of_ble_eq_true rfl), (Nat.le_of_ble_eq_true rfl)⟩) (fun r45 G44 H locs hw hmon hG => ?_)
      replace hw := hw hmon
      have hk26 : gK G44 q24 = 10 := gK_mon hmon hk26 (by decide)
      have hk27 : gC G44 x1 = 16 := gC_mon hmon hk27 (by decide)
      have hk31 : gC G44 q30 = 16 := gC_mon hmon hk31 (by decide)
      have hk35 : gC G44 q34 = 16 := gC_mon hmon hk35 (by decide)
      have hk39 : gC G44 q38 = 16 := gC_mon hmon hk39 (by decide)
      have hk43 : gC G44 q42 = 16 := gC_mon hmon hk43 (by decide)
      exact gretr (v := r45) hx hb hr hlk hG (Or.inl ⟨_, rfl⟩) hw (Nat.le_of_ble_eq_true rfl) (Nat.le_of_ble_eq_true rfl) dX6_told_118
    · replace hw := hw.2 hk26
      refine lv_if_eq (tgt := 114) hx hb dX6_told_79 (by decide) (fun c_ => ?_) (fun c_ => absurd c_ (by decide))
      refine ga_n hx hb dX6_told_114 rfl (lv_at hl 1 rfl) ?_
      obtain ⟨q46, hq46, hw⟩ := hw
      refine W.eq (g2 := F0 m 115 ls [.ref q46]) (by rw [hq46]; rfl) ?_
      have hk47 := hw.1
      replace hw := hw.2
      refine gc3r hA hG (va_runV (As := []) (rest := []) ⟨hx, hb, hml, hown, hts⟩ (gm_J8_toString l E q46 _ G hw _) (cwV 0 hts (lw_V q1611 q355 q356 q65 q357) rfl rfl rfl hd_J8_toString ⟨Nat.le_of_ble_eq_true rfl, Nat.le_of_ble_eq_true rfl⟩) ⟨gblind, grecv hPF hG hk47 (by decide) (by decide) rfl, fun U hU hW => gpre hPF hA hG _ U hU hW⟩ rfl rfl hl.1 rfl (lv_room (Nat.le_of_ble_eq_true rfl)) dX6_told_115 ⟨(Nat.le_of_ble_eq_true rfl), (Nat.le_of_ble_eq_true rfl)⟩) (fun r49 G48 H locs hw hmon hG => ?_)
      replace hw := hw hmon
      have hk47 : gC G48 q46 = 16 := gC_mon hmon hk47 (by decide)
      exact gretr (v := r49) hx hb hr hlk hG (Or.inl ⟨_, rfl⟩) hw (Nat.le_of_ble_eq_true rfl) (Nat.le_of_ble_eq_true rfl) dX6_told_118
  refine gnew (ci := 16) hx hb hts in_J8 tyJ8 tyJ8_ok hown q1562 q177 q65 hPF hG hA rfl (by decide) (by decide) gborn_J8 (Nat.le_of_ble_eq_true rfl) (Nat.le_of_ble_eq_true rfl) dX6_told_0 (fun q1 H h0q1 hG => ?_)
  replace hw := hw q1 h0q1
  obtain ⟨G2, eG2⟩ : ∃ z, z = gN G q1 16 0 := ⟨_, rfl⟩
  rw [← eG2] at hG
  replace hw := hw G2 eG2
  have hkq1 : gK G2 q1 = 16 := by rw [eG2]; exact gK_Nq
  refine lv_dup hx hb dX6_told_3 rfl ?_
  refine gc3v hA hG (va_runI (As := []) (rest := [.ref q1]) ⟨hx, hb, hml, hown, hts⟩ (gm_J8_init l E q1 _ G2 hw _) (cwI 0 hts (lw_meth q180) rfl rfl rfl (hts _ q65) (hts _ q1563) (hts _ q179) rfl hd_J8_init ⟨Nat.le_of_ble_eq_true rfl, Nat.le_of_ble_eq_true rfl⟩) ⟨gblind, fun U hU hW => gpre hPF hA hG _ U hU hW⟩ rfl rfl hl.1 rfl (lv_room (Nat.le_of_ble_eq_true rfl)) dX6_told_4 ⟨(Nat.le_of_ble_eq_true rfl), (Nat.le_of_ble_eq_true rfl)⟩) (fun G3 H locs hw hmon hG => ?_)
  replace hw := hw hmon
  have hkq1 : gK G3 q1 = 16 := gK_mon hmon hkq1 (by decide)
  refine lv_astore_n (i := 1) (lv' := [(1, .ref q1), (0, .ref p0)]) hx hb dX6_told_7 rfl hl (by decide) rfl (fun ls hl => ?_)
  refine lv_aload_n hx hb dX6_told_8 rfl (lv_at hl 0 rfl) ?_
  refine lv_aload_n hx hb dX6_told_9 rfl (lv_at hl 1 rfl) ?_
  refine gg hx hb hts hown hPF hG 5 1 rfl in_X6 (by decide) (by decide) (by decide) q873 (fun _ h9 => h9) (gC_of (gK_mon hG.1.2 h0p0 (by decide)) (by decide)) (v := .int (gI G3 p0 1)) rfl dX6_told_10 ?_
  refine gc3r hA hG (va_runV (As := [.int (gI G3 p0 1)]) (rest := []) ⟨hx, hb, hml, hown, hts⟩ (gm_J8_append_2 l E q1 (gI G3 p0 1) _ G3 hw _) (cwV 1 hts (lw_V q1564 q330 q331 q65 q332) rfl rfl rfl hd_J8_append_2 ⟨Nat.le_of_ble_eq_true rfl, Nat.le_of_ble_eq_true rfl⟩) ⟨gblind, grecv hPF hG (gC_of hkq1 (by decide)) (by decide) (by decide) rfl, fun U hU hW => gpre hPF hA hG _ U hU hW⟩ rfl rfl hl.1 rfl (lv_room (Nat.le_of_ble_eq_true rfl)) dX6_told_13 ⟨(Nat.le_of_ble_eq_true rfl), (Nat.le_of_ble_eq_true rfl)⟩) (fun r5 G4 H locs hw hmon hG => ?_)
  replace hw := hw hmon
  have hkq1 : gK G4 q1 = 16 := gK_mon hmon hkq1 (by decide)
  refine lv_bipush (v := 32) hx hb dX6_told_16 (by decide) ?_
  obtain ⟨q6, hq6, hw⟩ := hw
  refine W.eq (g2 := F0 m 18 ls [.int 32, .ref q6]) (by rw [hq6]; rfl) ?_
  have hk7 := hw.1
  replace hw := hw.2
  refine gc3r hA hG (va_runV (As := [.int 32]) (rest := []) ⟨hx, hb, hml, hown, hts⟩ (gm_J8_append_3 l E q6 32 _ G4 hw _) (cwV 1 hts (lw_V q1565 q1566 q1567 q65 q1568) rfl rfl rfl hd_J8_append_3 ⟨Nat.le_of_ble_eq_true rfl, Nat.le_of_ble_eq_true rfl⟩) ⟨gblind, grecv hPF hG hk7 (by decide) (by decide) rfl, fun U hU hW => gpre hPF hA hG _ U hU hW⟩ rfl rfl hl.1 rfl (lv_room (Nat.le_of_ble_eq_true rfl)) dX6_told_18 ⟨(Nat.le_of_ble_eq_true rfl), (Nat.le_of_ble_eq_true rfl)⟩) (fun r9 G8 H locs hw hmon hG => ?_)
  replace hw := hw hmon
  have hkq1 : gK G8 q1 = 16 := gK_mon hmon hkq1 (by decide)
  have hk7 : gC G8 q6 = 16 := gC_mon hmon hk7 (by decide)
  refine lv_aload_n hx hb dX6_told_21 rfl (lv_at hl 1 rfl) ?_
  refine gg hx hb hts hown hPF hG 5 2 rfl in_X6 (by decide) (by decide) (by decide) q877 (fun _ h9 => h9) (gC_of (gK_mon hG.1.2 h0p0 (by decide)) (by decide)) (v := va_rf (gR G8 p0 2)) rfl dX6_told_22 ?_
  obtain ⟨q10, hq10, hw⟩ := hw
  refine W.eq (g2 := F0 m 25 ls [.ref q10, va_rf r9]) (by rw [hq10]; rfl) ?_
  have hS11 := hw.1
  replace hw := hw.2
  refine gdstage (rest := [va_rf r9]) hx hb hml hts hown q1586 hPF hA hG hS11 hl.1 (lv_room (by (try simp only [List.map, va_rf_cat, gcat_i, gcat_r, gcat_l, gcat_d, gcat_f, gcat_n]); exact Nat.le_of_ble_eq_true rfl)) (Nat.le_of_ble_eq_true rfl) (Nat.le_of_ble_eq_true rfl) (Nat.le_of_ble_eq_true rfl) (Nat.le_of_ble_eq_true rfl) dX6_told_25 (fun H locs hG => ?_)
  obtain ⟨k12, hk13, he14, hw⟩ := hw
  refine W.eq (g2 := F0 m 30 ls (.ref (eZ E k12) :: [va_rf r9])) (by rw [he14]) ?_
  refine gtold (rest := [va_rf r9]) hx hb hml hts hown q1587 hPF hA hG hk13 hl.1 (lv_room (by (try simp only [List.map, va_rf_cat, gcat_i, gcat_r, gcat_l, gcat_d, gcat_f, gcat_n]); exact Nat.le_of_ble_eq_true rfl)) (Nat.le_of_ble_eq_true rfl) (Nat.le_of_ble_eq_true rfl) (Nat.le_of_ble_eq_true rfl) (Nat.le_of_ble_eq_true rfl) dX6_told_30 (fun H locs hG => ?_)
  obtain ⟨q15, hq15, hw⟩ := hw
  refine W.eq (g2 := F0 m 33 ls [.ref (eZ E (13 + k12)), .ref q15]) (by rw [hq15]; rfl) ?_
  have hk16 := hw.1
  replace hw := hw.2
  refine gc3r hA hG (va_runV (As := [.ref (eZ E (13 + k12))]) (rest := []) ⟨hx, hb, hml, hown, hts⟩ (gm_J8_append l E q15 (eZ E (13 + k12)) _ G8 hw _) (cwV 1 hts (lw_V q1606 q210 q211 q65 q212) rfl rfl rfl hd_J8_append ⟨Nat.le_of_ble_eq_true rfl, Nat.le_of_ble_eq_true rfl⟩) ⟨gblind, grecv hPF hG hk16 (by decide) (by decide) rfl, fun U hU hW => gpre hPF hA hG _ U hU hW⟩ rfl rfl hl.1 rfl (lv_room (Nat.le_of_ble_eq_true rfl)) dX6_told_33 ⟨(Nat.le_of_ble_eq_true rfl), (Nat.le_of_ble_eq_true rfl)⟩) (fun r18 G17 H locs hw hmon hG => ?_)
  replace hw := hw hmon
  have hkq1 : gK G17 q1 = 16 := gK_mon hmon hkq1 (by decide)
  have hk7 : gC G17 q6 = 16 := gC_mon hmon hk7 (by decide)
  have hk16 : gC G17 q15 = 16 := gC_mon hmon hk16 (by decide)
  refine gt_n (i := 2) (lv' := [(2, va_rf r18), (1, .ref q1), (0, .ref p0)]) hx hb dX6_told_36 rfl hl (by decide) rfl (fun ls hl => ?_)
  refine lv_aload_n hx hb dX6_told_37 rfl (lv_at hl 2 rfl) ?_
  refine gg hx hb hts hown hPF hG 5 2 rfl in_X6 (by decide) (by decide) (by decide) q877 (fun _ h9 => h9) (gC_of (gK_mon hG.1.2 h0p0 (by decide)) (by decide)) (v := va_rf (gR G17 p0 2)) rfl dX6_told_38 ?_
  obtain ⟨q19, hq19, hw⟩ := hw
  refine W.eq (g2 := F0 m 41 ls [.ref q19]) (by rw [hq19]; rfl) ?_
  have hS20 := hw.1
  replace hw := hw.2
  refine gdwell (rest := []) hx hb hml hts hown q1608 hPF hA hG hS20 hl.1 (lv_room (by (try simp only [List.map, va_rf_cat, gcat_i, gcat_r, gcat_l, gcat_d, gcat_f, gcat_n]); exact Nat.le_of_ble_eq_true rfl)) (Nat.le_of_ble_eq_true rfl) (Nat.le_of_ble_eq_true rfl) (Nat.le_of_ble_eq_true rfl) (Nat.le_of_ble_eq_true rfl) dX6_told_41 (fun H locs hG => ?_)
  refine lv_iconst (v := (-1)) hx hb dX6_told_46 (by decide) ?_
  refine lv_icmp_ne (tgt := 54) hx hb dX6_told_47 (by decide) (fun c_ => ?_) (fun c_ => ?_)
  · replace hw := hw.1 c_
    refine lv_aload_n hx hb dX6_told_54 rfl (lv_at hl 1 rfl) ?_
    refine lv_aload_n hx hb dX6_told_55 rfl (lv_at hl 2 rfl) ?_
    refine gg hx hb hts hown hPF hG 5 2 rfl in_X6 (by decide) (by decide) (by decide) q877 (fun _ h9 => h9) (gC_of (gK_mon hG.1.2 h0p0 (by decide)) (by decide)) (v := va_rf (gR G17 p0 2)) rfl dX6_told_56 ?_
    refine W.eq (g2 := F0 m 59 ls [.ref q19, .ref q1]) (by rw [hq19]; rfl) ?_
    have hS21 := hw.1
    replace hw := hw.2
    refine gdwell (rest := [.ref q1]) hx hb hml hts hown q1608 hPF hA hG hS21 hl.1 (lv_room (by (try simp only [List.map, va_rf_cat, gcat_i, gcat_r, gcat_l, gcat_d, gcat_f, gcat_n]); exact Nat.le_of_ble_eq_true rfl)) (Nat.le_of_ble_eq_true rfl) (Nat.le_of_ble_eq_true rfl) (Nat.le_of_ble_eq_true rfl) (Nat.le_of_ble_eq_true rfl) dX6_told_59 (fun H locs hG => ?_)
    refine gc3r hA hG (va_runV (As := [.int (gWel G17 q19)]) (rest := []) ⟨hx, hb, hml, hown, hts⟩ (gm_J8_append_2 l E q1 (gWel G17 q19) _ G17 hw _) (cwV 1 hts (lw_V q1564 q330 q331 q65 q332) rfl rfl rfl hd_J8_append_2 ⟨Nat.le_of_ble_eq_true rfl, Nat.le_of_ble_eq_true rfl⟩) ⟨gblind, grecv hPF hG (gC_of hkq1 (by decide)) (by decide) (by decide) rfl, fun U hU hW => gpre hPF hA hG _ U hU hW⟩ rfl rfl hl.1 rfl (lv_room (Nat.le_of_ble_eq_true rfl)) dX6_told_64 ⟨(Nat.le_of_ble_eq_true rfl), (Nat.le_of_ble_eq_true rfl)⟩) (fun r23 G22 H locs hw hmon hG => ?_)
    replace hw := hw hmon
    have hkq1 : gK G22 q1 = 16 := gK_mon hmon hkq1 (by decide)
    have hk7 : gC G22 q6 = 16 := gC_mon hmon hk7 (by decide)
    have hk16 : gC G22 q15 = 16 := gC_mon hmon hk16 (by decide)
    refine W.widen (k := 6) (n := 1004) (Nat.le_of_ble_eq_true rfl) (Nat.le_of_ble_eq_true rfl) ?_
    exact hL67  q1 r23 G22 _ _ ls hG (lv_sub hl [2, 1] rfl) hw
  · replace hw := hw.2 c_
    refine ga_n hx hb dX6_told_50 rfl (lv_at hl 0 rfl) ?_
    refine lv_goto (tgt := 67) hx hb dX6_told_51 (by decide) ?_
    refine W.widen (k := 6) (n := 1004) (Nat.le_of_ble_eq_true rfl) (Nat.le_of_ble_eq_true rfl) ?_
    exact hL67  q1 r18 G17 _ _ ls hG (lv_sub hl [2, 1] rfl) hw
def gw_X1_line (E : gE) (post : Int32 → Gh → Prop) (px : String → Nat → Gh → Prop) (p0 : Nat) (p1 : Int32) (G : Gh) : Prop := gK G p0 = 1 ∧ (∃ q1, (gR G p0 0) = some q1 ∧ (gC G q1 = 2 ∧ (gw_X2_lot E (fun r4 G3 => gMon G G3 → (∃ q5, r4 = some q5 ∧ (gC G3 q5 = 5 ∧ (gw_X6_told E (fun r8 G7 => gMon G3 G7 → (∀ G9, G9 = gsR G7 p0 4 r8 → (∃ q10, (gR G9 p0 4) = some q10 ∧ (gC G9 q10 = 17 ∧ (gw_J9_length E (fun r13 G12 => gMon G9 G12 → (post r13 G12)) q10 G9))))) q5 G3)))) px q1 p1 G)))
theorem hd_X1_line : yX1_line.cls = RX1 ∧ yX1_line.cls ≠ "java/lang/invoke/MethodHandle" ∧ yX1_line.cls ≠ "java/lang/invoke/VarHandle" ∧ (parseMethodDescriptor yX1_line.desc).map (fun d => d.parameters.length) = some 1 := by decide +kernel
theorem hdn_X1_line : yX1_line.cls ≠ "java/lang/invoke/MethodHandle" ∧ yX1_line.cls ≠ "java/lang/invoke/VarHandle" ∧ (parseMethodDescriptor yX1_line.desc).map (fun d => d.parameters.length) = some 1 := hd_X1_line.2
theorem hdu_X1_line : RX1 ≠ "java/lang/invoke/MethodHandle" ∧ RX1 ≠ "java/lang/invoke/VarHandle" ∧ (parseMethodDescriptor yX1_line.desc).map (fun d => d.parameters.length) = some 1 := by decide +kernel
theorem hds_X1_line : yX1_line.name ≠ "<init>" ∧ (parseMethodDescriptor yX1_line.desc).map (fun d => d.parameters.length) = some 1 := by decide +kernel
set_option maxHeartbeats 1000000 in
set_option maxRecDepth 100000 in
theorem gm_X1_line (l : Launch) (hlt : l.stackTraces = false) (E : gE) (p0 : Nat) (p1 : Int32) (post : Int32 → Gh → Prop) (px : String → Nat → Gh → Prop) (G : Gh) (hw : gw_X1_line E post px p0 p1 G) : gX l E yX1_line (ws_ yX1_line cX1_line 2 (some .int)) ({ frames := 11, cells := 12, slots := 1814, locals := 182 } : Room) 12 1814 [.ref p0, .int p1] G (gpi post) px := by
  refine xof (by decide) (Nat.le_of_ble_eq_true rfl) ?_
  intro p e s m below meth c A ls hx hb hr hlk hml hown hin hts hPF hA htab hG hl
  have hl : lv_has ls 2 [(0, .ref p0), (1, .int p1)] := hl
  unfold gw_X1_line at hw
  obtain ⟨G0, hG0⟩ : ∃ G0, G0 = G := ⟨_, rfl⟩
  have hG : gS E A G0 s.heap G s.heap [] := by rw [hG0]; exact hG
  rw [show gQ E A G (gpi post) = gQ E A G0 (gpi post) by rw [hG0]]
  rw [show gXC E A G px = gXC E A G0 px by rw [hG0]]
  have h0p0 := hw.1; rw [← hG0] at h0p0
  replace hw := hw.2
  refine lv_aload_n hx hb dX1_line_0 rfl (lv_at hl 0 rfl) ?_
  refine lv_aload_n hx hb dX1_line_1 rfl (lv_at hl 0 rfl) ?_
  refine gg hx hb hts hown hPF hG 1 0 rfl in_X1 (by decide) (by decide) (by decide) q539 (fun _ h9 => h9) (gC_of (gK_mon hG.1.2 h0p0 (by decide)) (by decide)) (v := va_rf (gR G p0 0)) rfl dX1_line_2 ?_
  refine lv_iload_n hx hb dX1_line_5 rfl (lv_at hl 1 rfl) ?_
  obtain ⟨q1, hq1, hw⟩ := hw
  refine W.eq (g2 := F0 m 6 ls [.int p1, .ref q1, .ref p0]) (by rw [hq1]; rfl) ?_
  have hk2 := hw.1
  replace hw := hw.2
  refine xc3r hA hG (vx_runV (As := [.int p1]) (rest := [.ref p0]) ⟨hx, hb, hml, hown, hts⟩ (gm_X2_lot l hlt E q1 p1 _ _ G hw _) (cwV 1 hts (lw_V q1141 q1142 q1143 q56 q1144) rfl rfl rfl hd_X2_lot ⟨Nat.le_of_ble_eq_true rfl, Nat.le_of_ble_eq_true rfl⟩) ⟨gblind, grecv hPF hG hk2 (by decide) (by decide) rfl, fun U hU hW => gpre hPF hA hG _ U hU hW⟩ rfl rfl hl.1 rfl (lv_room (Nat.le_of_ble_eq_true rfl)) dX1_line_6 ⟨(Nat.le_of_ble_eq_true rfl), (Nat.le_of_ble_eq_true rfl)⟩) (fun X ce q Gx H locs hw hmon hG hce hcv hcl => ?_) (fun r4 G3 H locs hw hmon hG => ?_)
  · exact gleave hlk hG (fun x hx9 => (htab x hx9).elim) hce hcv hcl hw (Nat.le_of_ble_eq_true rfl) (Nat.le_of_ble_eq_true rfl)
  · replace hw := hw hmon
    have hk2 : gC G3 q1 = 2 := gC_mon hmon hk2 (by decide)
    obtain ⟨q5, hq5, hw⟩ := hw
    refine W.eq (g2 := F0 m 9 ls [.ref q5, .ref p0]) (by rw [hq5]; rfl) ?_
    have hk6 := hw.1
    replace hw := hw.2
    refine gc3r hA hG (va_runV (As := []) (rest := [.ref p0]) ⟨hx, hb, hml, hown, hts⟩ (gm_X6_told l E q5 _ G3 hw _) (cwV 0 hts (lw_V q1558 q1559 q1560 q82 q1561) rfl rfl rfl hd_X6_told ⟨Nat.le_of_ble_eq_true rfl, Nat.le_of_ble_eq_true rfl⟩) ⟨gblind, grecv hPF hG hk6 (by decide) (by decide) rfl, fun U hU hW => gpre hPF hA hG _ U hU hW⟩ rfl rfl hl.1 rfl (lv_room (Nat.le_of_ble_eq_true rfl)) dX1_line_9 ⟨(Nat.le_of_ble_eq_true rfl), (Nat.le_of_ble_eq_true rfl)⟩) (fun r8 G7 H locs hw hmon hG => ?_)
    replace hw := hw hmon
    have hk2 : gC G7 q1 = 2 := gC_mon hmon hk2 (by decide)
    have hk6 : gC G7 q5 = 5 := gC_mon hmon hk6 (by decide)
    refine gp hx hb hts hown hPF hG 1 4 rfl in_X1 tyX1 tyX1_ok nmX1 (by decide) (by decide) (by decide) q543 (fun _ h9 => h9) rfl (gK_mon hG.1.2 h0p0 (by decide)) (v := va_rf r8) (narrow_rf _) (fits_rf _ (by decide)) (G' := gsR G7 p0 4 r8) rfl rfl grR_off (Nat.le_of_ble_eq_true rfl) (gFs_R 1 4 (fun _ _ _ => rfl)) dX1_line_12 (fun H locs hG => ?_)
    obtain ⟨G9, eG9⟩ : ∃ z, z = gsR G7 p0 4 r8 := ⟨_, rfl⟩
    rw [← eG9] at hG
    replace hw := hw G9 eG9
    have hk2 : gC G9 q1 = 2 := by rw [eG9]; exact hk2
    have hk6 : gC G9 q5 = 5 := by rw [eG9]; exact hk6
    refine lv_aload_n hx hb dX1_line_15 rfl (lv_at hl 0 rfl) ?_
    refine gg hx hb hts hown hPF hG 1 4 rfl in_X1 (by decide) (by decide) (by decide) q543 (fun _ h9 => h9) (gC_of (gK_mon hG.1.2 h0p0 (by decide)) (by decide)) (v := va_rf (gR G9 p0 4)) rfl dX1_line_16 ?_
    obtain ⟨q10, hq10, hw⟩ := hw
    refine W.eq (g2 := F0 m 19 ls [.ref q10]) (by rw [hq10]; rfl) ?_
    have hk11 := hw.1
    replace hw := hw.2
    refine gc3i hA hG (va_runV (As := []) (rest := []) ⟨hx, hb, hml, hown, hts⟩ (gm_J9_length l E q10 _ G9 hw _) (cwV 0 hts (lw_V q1612 q287 q288 q66 q289) rfl rfl rfl hd_J9_length ⟨Nat.le_of_ble_eq_true rfl, Nat.le_of_ble_eq_true rfl⟩) ⟨gblind, grecv hPF hG hk11 (by decide) (by decide) rfl, fun U hU hW => gpre hPF hA hG _ U hU hW⟩ rfl rfl hl.1 rfl (lv_room (Nat.le_of_ble_eq_true rfl)) dX1_line_19 ⟨(Nat.le_of_ble_eq_true rfl), (Nat.le_of_ble_eq_true rfl)⟩) (fun r13 G12 H locs hw hmon hG => ?_)
    replace hw := hw hmon
    have hk2 : gC G12 q1 = 2 := gC_mon hmon hk2 (by decide)
    have hk6 : gC G12 q5 = 5 := gC_mon hmon hk6 (by decide)
    have hk11 : gC G12 q10 = 17 := gC_mon hmon hk11 (by decide)
    exact xreti hx hb hr hlk hG rfl hw (Nat.le_of_ble_eq_true rfl) (Nat.le_of_ble_eq_true rfl) dX1_line_22
def gw_X9_told_L36 (E : gE) (p0 : Nat) (post : Option Nat → Gh → Prop) (k12 : Nat → Option Nat → Int32 → Nat → Nat → Gh → Prop) (x1 : Nat) (x3 : Int32) (t0 : Int32) (t1 : Nat) (cB : Nat) (zB : Nat) (G : Gh) : Prop := gC G t1 = 16 ∧ ((cB + 1 ≤ 300 ∧ zB + 200 ≤ 8000) ∧ (gw_J8_append_3 E (fun r16 G15 => gMon G G15 → (k12 x1 r16 (x3 + 1) (cB + 1) (zB + 200) G15)) t1 t0 G))
def gw_X9_told_L48 (E : gE) (p0 : Nat) (post : Option Nat → Gh → Prop) : Nat → Nat → Option Nat → Int32 → Nat → Nat → Gh → Prop
  | 0, _, _, _, _, _, _ => False
  | n + 1, x1, x2, x3, cB, zB, G => ((gI G p0 3) ≤ x3 → (∃ q4, x2 = some q4 ∧ (gC G q4 = 16 ∧ ((cB + 1 ≤ 300 ∧ zB + 4 ≤ 8000) ∧ (gw_J8_toString E (fun r8 G7 => gMon G G7 → ((cB + 1 ≤ 300 ∧ zB + 4 ≤ 8000) ∧ (post r8 G7))) q4 G))))) ∧ (¬ (gI G p0 3) ≤ x3 → (gC G x1 = 16 ∧ ((cB + 1 ≤ 300 ∧ zB + 200 ≤ 8000) ∧ (gw_J8_append_3 E (fun r12 G11 => gMon G G11 → (gw_X9_told_L48 E p0 post  n x1 r12 (x3 + 1) (cB + 1) (zB + 200) G11)) x1 58 G))))
def gw_X9_told_L12 (E : gE) (p0 : Nat) (post : Option Nat → Gh → Prop) : Nat → Nat → Option Nat → Int32 → Nat → Nat → Gh → Prop
  | 0, _, _, _, _, _, _ => False
  | n + 1, x1, x2, x3, cB, zB, G => ((gI G p0 0) ≤ x3 → ((∃ n, gw_X9_told_L48 E p0 post  n x1 x2 0 cB zB G))) ∧ (¬ (gI G p0 0) ≤ x3 → (((gI G p0 1) ≤ x3 → (gw_X9_told_L36 E p0 post (fun x1' x2' x3' cB' zB' G' => gw_X9_told_L12 E p0 post  n x1' x2' x3' cB' zB' G') x1 x3 46 x1 cB zB G)) ∧ (¬ (gI G p0 1) ≤ x3 → (gw_X9_told_L36 E p0 post (fun x1' x2' x3' cB' zB' G' => gw_X9_told_L12 E p0 post  n x1' x2' x3' cB' zB' G') x1 x3 35 x1 cB zB G))))
def gw_X9_told (E : gE) (post : Option Nat → Gh → Prop) (p0 : Nat) (G : Gh) : Prop := gK G p0 = 8 ∧ (∀ q1, gK G q1 = 0 → ∀ G2, G2 = gN G q1 16 0 → (gw_J8_init E (fun G3 => gMon G2 G3 → ((∃ n, gw_X9_told_L12 E p0 post  n q1 (some q1) 0 2 204 G3))) q1 G2))
theorem hd_X9_told : yX9_told.cls = RX9 ∧ yX9_told.cls ≠ "java/lang/invoke/MethodHandle" ∧ yX9_told.cls ≠ "java/lang/invoke/VarHandle" ∧ (parseMethodDescriptor yX9_told.desc).map (fun d => d.parameters.length) = some 0 := by decide +kernel
theorem hdn_X9_told : yX9_told.cls ≠ "java/lang/invoke/MethodHandle" ∧ yX9_told.cls ≠ "java/lang/invoke/VarHandle" ∧ (parseMethodDescriptor yX9_told.desc).map (fun d => d.parameters.length) = some 0 := hd_X9_told.2
theorem hdu_X9_told : RX9 ≠ "java/lang/invoke/MethodHandle" ∧ RX9 ≠ "java/lang/invoke/VarHandle" ∧ (parseMethodDescriptor yX9_told.desc).map (fun d => d.parameters.length) = some 0 := by decide +kernel
theorem hds_X9_told : yX9_told.name ≠ "<init>" ∧ (parseMethodDescriptor yX9_told.desc).map (fun d => d.parameters.length) = some 0 := by decide +kernel
set_option maxHeartbeats 1000000 in
set_option maxRecDepth 100000 in
theorem gm_X9_told (l : Launch) (E : gE) (p0 : Nat) (post : Option Nat → Gh → Prop) (G : Gh) (hw : gw_X9_told E post p0 G) : gM l E yX9_told (ws_ yX9_told cX9_told 4 (some (.object "java/lang/String"))) ({ frames := 6, cells := 300, slots := 8000, locals := 152 } : Room) 300 8000 [.ref p0] G (gpr post) := by
  refine gof (by decide) (Nat.le_of_ble_eq_true rfl) ?_
  intro p e s m below meth c A ls hx hb hr hlk hml hown hin hts hPF hA hG hl
  have hl : lv_has ls 4 [(0, .ref p0)] := hl
  unfold gw_X9_told at hw
  obtain ⟨G0, hG0⟩ : ∃ G0, G0 = G := ⟨_, rfl⟩
  have hG : gS E A G0 s.heap G s.heap [] := by rw [hG0]; exact hG
  rw [show gQ E A G (gpr post) = gQ E A G0 (gpr post) by rw [hG0]]
  have h0p0 := hw.1; rw [← hG0] at h0p0
  replace hw := hw.2
  have hL36 : ∀ (k12 : Nat → Option Nat → Int32 → Nat → Nat → Gh → Prop) (hk12 : ∀ (x1 : Nat) (x2 : Option Nat) (x3 : Int32) (cB : Nat) (zB : Nat) (G : Gh) (H : Heap) (locs : List Loc) (ls : Array Slot), gS E A G0 s.heap G H locs → lv_has ls 4 [(0, .ref p0), (1, .ref x1), (2, va_rf x2), (3, .int x3)] → k12 x1 x2 x3 cB zB G → W p l e (headSpec (ws_ yX9_told cX9_told 4 (some (.object "java/lang/String"))) ({ frames := 6, cells := 300, slots := 8000, locals := 152 } : Room)).room s m ([.ref p0] : List Value).toArray below meth c H locs cB zB (MQ below (gQ E A G0 (gpr post)) ([.ref p0] : List Value).toArray s 300 8000 A) (F0 m 12 ls [])) (x1 : Nat) (x3 : Int32) (t0 : Int32) (t1 : Nat) (cB : Nat) (zB : Nat) (G : Gh) (H : Heap) (locs : List Loc) (ls : Array Slot), gS E A G0 s.heap G H locs → lv_has ls 4 [(0, .ref p0), (1, .ref x1), (3, .int x3)] → gw_X9_told_L36 E p0 post k12 x1 x3 t0 t1 cB zB G → W p l e (headSpec (ws_ yX9_told cX9_told 4 (some (.object "java/lang/String"))) ({ frames := 6, cells := 300, slots := 8000, locals := 152 } : Room)).room s m ([.ref p0] : List Value).toArray below meth c H locs cB zB (MQ below (gQ E A G0 (gpr post)) ([.ref p0] : List Value).toArray s 300 8000 A) (F0 m 36 ls [.int t0, .ref t1]) := by
    intro k12 hk12 x1 x3 t0 t1 cB zB G H locs ls hG hl hw
    unfold gw_X9_told_L36 at hw
    have hk13 := hw.1
    replace hw := hw.2
    have hb14 := hw.1
    replace hw := hw.2
    refine gc3r hA hG (va_runV (As := [.int t0]) (rest := []) ⟨hx, hb, hml, hown, hts⟩ (gm_J8_append_3 l E t1 t0 _ G hw _) (cwV 1 hts (lw_V q1626 q1566 q1567 q65 q1568) rfl rfl rfl hd_J8_append_3 ⟨Nat.le_of_ble_eq_true rfl, Nat.le_of_ble_eq_true rfl⟩) ⟨gblind, grecv hPF hG hk13 (by decide) (by decide) rfl, fun U hU hW => gpre hPF hA hG _ U hU hW⟩ rfl rfl hl.1 rfl (lv_room (Nat.le_of_ble_eq_true rfl)) dX9_told_36 ⟨(Nat.le_trans (Nat.le_of_eq (by simp only [Nat.add_assoc, Nat.zero_add, Nat.add_zero])) hb14.1), (Nat.le_trans (Nat.le_of_eq (by simp only [Nat.add_assoc, Nat.zero_add, Nat.add_zero])) hb14.2)⟩) (fun r16 G15 H locs hw hmon hG => ?_)
    replace hw := hw hmon
    have hk13 : gC G15 t1 = 16 := gC_mon hmon hk13 (by decide)
    refine gt_n (i := 2) (lv' := [(2, va_rf r16), (0, .ref p0), (1, .ref x1), (3, .int x3)]) hx hb dX9_told_39 rfl hl (by decide) rfl (fun ls hl => ?_)
    refine lv_iinc (v := x3 + 1) (lv' := [(3, .int (x3 + 1)), (2, va_rf r16), (0, .ref p0), (1, .ref x1)]) hx hb dX9_told_40 hl (k := 3) rfl rfl (by decide) (by first | rfl | simp [List.filter, va_rf_cat, gcat_i, gcat_r, gcat_l, gcat_d, gcat_f, gcat_n]) (fun ls hl => ?_)
    refine lv_goto (tgt := 12) hx hb dX9_told_43 (by decide) ?_
    refine W.cs (cells' := cB + 1) (slots' := zB + 200) (by simp only [Nat.zero_add, Nat.add_zero, Nat.add_assoc]) (by simp only [Nat.zero_add, Nat.add_zero, Nat.add_assoc]) ?_
    exact hk12 x1 r16 (x3 + 1) (cB + 1) (zB + 200) G15 _ _ ls hG (lv_sub hl [2, 3, 1, 0] rfl) hw
  have hL48 : ∀ (n : Nat) (x1 : Nat) (x2 : Option Nat) (x3 : Int32) (cB : Nat) (zB : Nat) (G : Gh) (H : Heap) (locs : List Loc) (ls : Array Slot), gS E A G0 s.heap G H locs → lv_has ls 4 [(0, .ref p0), (1, .ref x1), (2, va_rf x2), (3, .int x3)] → gw_X9_told_L48 E p0 post n x1 x2 x3 cB zB G → W p l e (headSpec (ws_ yX9_told cX9_told 4 (some (.object "java/lang/String"))) ({ frames := 6, cells := 300, slots := 8000, locals := 152 } : Room)).room s m ([.ref p0] : List Value).toArray below meth c H locs cB zB (MQ below (gQ E A G0 (gpr post)) ([.ref p0] : List Value).toArray s 300 8000 A) (F0 m 48 ls []) := by
    intro n
    induction n with
    | zero => exact fun _ _ _ _ _ _ _ _ _ _ _ hw => hw.elim
    | succ n ih =>
      intro x1 x2 x3 cB zB G H locs ls hG hl hw
      unfold gw_X9_told_L48 at hw
      refine lv_iload_n hx hb dX9_told_48 rfl (lv_at hl 3 rfl) ?_
      refine lv_aload_n hx hb dX9_told_49 rfl (lv_at hl 0 rfl) ?_
      refine gg hx hb hts hown hPF hG 8 3 rfl in_X9 (by decide) (by decide) (by decide) q930 (fun _ h9 => h9) (gC_of (gK_mon hG.1.2 h0p0 (by decide)) (by decide)) (v := .int (gI G p0 3)) rfl dX9_told_50 ?_
      refine lv_icmp_ge (tgt := 69) hx hb dX9_told_53 (by decide) (fun c_ => ?_) (fun c_ => ?_)
      · replace hw := hw.1 c_
        refine ga_n hx hb dX9_told_69 rfl (lv_at hl 2 rfl) ?_
        obtain ⟨q4, hq4, hw⟩ := hw
        refine W.eq (g2 := F0 m 70 ls [.ref q4]) (by rw [hq4]; rfl) ?_
        have hk5 := hw.1
        replace hw := hw.2
        have hb6 := hw.1
        replace hw := hw.2
        refine gc3r hA hG (va_runV (As := []) (rest := []) ⟨hx, hb, hml, hown, hts⟩ (gm_J8_toString l E q4 _ G hw _) (cwV 0 hts (lw_V q1627 q355 q356 q65 q357) rfl rfl rfl hd_J8_toString ⟨Nat.le_of_ble_eq_true rfl, Nat.le_of_ble_eq_true rfl⟩) ⟨gblind, grecv hPF hG hk5 (by decide) (by decide) rfl, fun U hU hW => gpre hPF hA hG _ U hU hW⟩ rfl rfl hl.1 rfl (lv_room (Nat.le_of_ble_eq_true rfl)) dX9_told_70 ⟨(Nat.le_trans (Nat.le_of_eq (by simp only [Nat.add_assoc, Nat.zero_add, Nat.add_zero])) hb6.1), (Nat.le_trans (Nat.le_of_eq (by simp only [Nat.add_assoc, Nat.zero_add, Nat.add_zero])) hb6.2)⟩) (fun r8 G7 H locs hw hmon hG => ?_)
        replace hw := hw hmon
        have hk5 : gC G7 q4 = 16 := gC_mon hmon hk5 (by decide)
        have hb_ := hw.1
        replace hw := hw.2
        exact gretr (v := r8) hx hb hr hlk hG (Or.inl ⟨_, rfl⟩) hw (Nat.le_trans (Nat.le_of_eq (by simp only [Nat.add_assoc, Nat.add_zero])) hb_.1) (Nat.le_trans (Nat.le_of_eq (by simp only [Nat.add_assoc, Nat.add_zero])) hb_.2) dX9_told_73
      · replace hw := hw.2 c_
        refine lv_aload_n hx hb dX9_told_56 rfl (lv_at hl 1 rfl) ?_
        refine lv_bipush (v := 58) hx hb dX9_told_57 (by decide) ?_
        have hk9 := hw.1
        replace hw := hw.2
        have hb10 := hw.1
        replace hw := hw.2
        refine gc3r hA hG (va_runV (As := [.int 58]) (rest := []) ⟨hx, hb, hml, hown, hts⟩ (gm_J8_append_3 l E x1 58 _ G hw _) (cwV 1 hts (lw_V q1626 q1566 q1567 q65 q1568) rfl rfl rfl hd_J8_append_3 ⟨Nat.le_of_ble_eq_true rfl, Nat.le_of_ble_eq_true rfl⟩) ⟨gblind, grecv hPF hG hk9 (by decide) (by decide) rfl, fun U hU hW => gpre hPF hA hG _ U hU hW⟩ rfl rfl hl.1 rfl (lv_room (Nat.le_of_ble_eq_true rfl)) dX9_told_59 ⟨(Nat.le_trans (Nat.le_of_eq (by simp only [Nat.add_assoc, Nat.zero_add, Nat.add_zero])) hb10.1), (Nat.le_trans (Nat.le_of_eq (by simp only [Nat.add_assoc, Nat.zero_add, Nat.add_zero])) hb10.2)⟩) (fun r12 G11 H locs hw hmon hG => ?_)
        replace hw := hw hmon
        have hk9 : gC G11 x1 = 16 := gC_mon hmon hk9 (by decide)
        refine gt_n (i := 2) (lv' := [(2, va_rf r12), (0, .ref p0), (1, .ref x1), (3, .int x3)]) hx hb dX9_told_62 rfl hl (by decide) (by first | rfl | simp [List.filter, va_rf_cat, gcat_i, gcat_r, gcat_l, gcat_d, gcat_f, gcat_n]) (fun ls hl => ?_)
        refine lv_iinc (v := x3 + 1) (lv' := [(3, .int (x3 + 1)), (2, va_rf r12), (0, .ref p0), (1, .ref x1)]) hx hb dX9_told_63 hl (k := 3) rfl rfl (by decide) (by first | rfl | simp [List.filter, va_rf_cat, gcat_i, gcat_r, gcat_l, gcat_d, gcat_f, gcat_n]) (fun ls hl => ?_)
        refine lv_goto (tgt := 48) hx hb dX9_told_66 (by decide) ?_
        refine W.cs (cells' := cB + 1) (slots' := zB + 200) (by simp only [Nat.zero_add, Nat.add_zero, Nat.add_assoc]) (by simp only [Nat.zero_add, Nat.add_zero, Nat.add_assoc]) ?_
        exact ih x1 r12 (x3 + 1) (cB + 1) (zB + 200) G11 _ _ ls hG (lv_sub hl [2, 3, 1, 0] rfl) hw
  have hL12 : ∀ (n : Nat) (x1 : Nat) (x2 : Option Nat) (x3 : Int32) (cB : Nat) (zB : Nat) (G : Gh) (H : Heap) (locs : List Loc) (ls : Array Slot), gS E A G0 s.heap G H locs → lv_has ls 4 [(0, .ref p0), (1, .ref x1), (2, va_rf x2), (3, .int x3)] → gw_X9_told_L12 E p0 post n x1 x2 x3 cB zB G → W p l e (headSpec (ws_ yX9_told cX9_told 4 (some (.object "java/lang/String"))) ({ frames := 6, cells := 300, slots := 8000, locals := 152 } : Room)).room s m ([.ref p0] : List Value).toArray below meth c H locs cB zB (MQ below (gQ E A G0 (gpr post)) ([.ref p0] : List Value).toArray s 300 8000 A) (F0 m 12 ls []) := by
    intro n
    induction n with
    | zero => exact fun _ _ _ _ _ _ _ _ _ _ _ hw => hw.elim
    | succ n ih =>
      intro x1 x2 x3 cB zB G H locs ls hG hl hw
      unfold gw_X9_told_L12 at hw
      refine lv_iload_n hx hb dX9_told_12 rfl (lv_at hl 3 rfl) ?_
      refine lv_aload_n hx hb dX9_told_13 rfl (lv_at hl 0 rfl) ?_
      refine gg hx hb hts hown hPF hG 8 0 rfl in_X9 (by decide) (by decide) (by decide) q921 (fun _ h9 => h9) (gC_of (gK_mon hG.1.2 h0p0 (by decide)) (by decide)) (v := .int (gI G p0 0)) rfl dX9_told_14 ?_
      refine lv_icmp_ge (tgt := 46) hx hb dX9_told_17 (by decide) (fun c_ => ?_) (fun c_ => ?_)
      · replace hw := hw.1 c_
        refine lv_iconst (v := 0) hx hb dX9_told_46 (by decide) ?_
        refine lv_istore_n (i := 3) (lv' := [(3, .int 0), (0, .ref p0), (1, .ref x1), (2, va_rf x2)]) hx hb dX9_told_47 rfl hl (by decide) (by first | rfl | simp [List.filter, va_rf_cat, gcat_i, gcat_r, gcat_l, gcat_d, gcat_f, gcat_n]) (fun ls hl => ?_)
        refine W.cs (cells' := cB) (slots' := zB) (by simp only [Nat.zero_add, Nat.add_zero, Nat.add_assoc]) (by simp only [Nat.zero_add, Nat.add_zero, Nat.add_assoc]) ?_
        obtain ⟨n0, hw⟩ := hw
        exact hL48  n0 x1 x2 0 cB zB G _ _ ls hG (lv_sub hl [1, 2, 3, 0] rfl) hw
      · replace hw := hw.2 c_
        refine lv_aload_n hx hb dX9_told_20 rfl (lv_at hl 1 rfl) ?_
        refine lv_iload_n hx hb dX9_told_21 rfl (lv_at hl 3 rfl) ?_
        refine lv_aload_n hx hb dX9_told_22 rfl (lv_at hl 0 rfl) ?_
        refine gg hx hb hts hown hPF hG 8 1 rfl in_X9 (by decide) (by decide) (by decide) q924 (fun _ h9 => h9) (gC_of (gK_mon hG.1.2 h0p0 (by decide)) (by decide)) (v := .int (gI G p0 1)) rfl dX9_told_23 ?_
        refine lv_icmp_ge (tgt := 34) hx hb dX9_told_26 (by decide) (fun c_ => ?_) (fun c_ => ?_)
        · replace hw := hw.1 c_
          refine lv_bipush (v := 46) hx hb dX9_told_34 (by decide) ?_
          refine W.cs (cells' := cB) (slots' := zB) (by simp only [Nat.zero_add, Nat.add_zero, Nat.add_assoc]) (by simp only [Nat.zero_add, Nat.add_zero, Nat.add_assoc]) ?_
          exact hL36 (fun x1' x2' x3' cB' zB' G' => gw_X9_told_L12 E p0 post  n x1' x2' x3' cB' zB' G') (fun x1' x2' x3' cB' zB' G' H locs ls hG hl hw => ih x1' x2' x3' cB' zB' G' H locs ls hG hl hw) x1 x3 46 x1 cB zB G _ _ ls hG (lv_sub hl [0, 1, 3] rfl) hw
        · replace hw := hw.2 c_
          refine lv_bipush (v := 35) hx hb dX9_told_29 (by decide) ?_
          refine lv_goto (tgt := 36) hx hb dX9_told_31 (by decide) ?_
          refine W.cs (cells' := cB) (slots' := zB) (by simp only [Nat.zero_add, Nat.add_zero, Nat.add_assoc]) (by simp only [Nat.zero_add, Nat.add_zero, Nat.add_assoc]) ?_
          exact hL36 (fun x1' x2' x3' cB' zB' G' => gw_X9_told_L12 E p0 post  n x1' x2' x3' cB' zB' G') (fun x1' x2' x3' cB' zB' G' H locs ls hG hl hw => ih x1' x2' x3' cB' zB' G' H locs ls hG hl hw) x1 x3 35 x1 cB zB G _ _ ls hG (lv_sub hl [0, 1, 3] rfl) hw
  refine gnew (ci := 16) hx hb hts in_J8 tyJ8 tyJ8_ok hown q1624 q177 q65 hPF hG hA rfl (by decide) (by decide) gborn_J8 (Nat.le_of_ble_eq_true rfl) (Nat.le_of_ble_eq_true rfl) dX9_told_0 (fun q1 H h0q1 hG => ?_)
  replace hw := hw q1 h0q1
  obtain ⟨G2, eG2⟩ : ∃ z, z = gN G q1 16 0 := ⟨_, rfl⟩
  rw [← eG2] at hG
  replace hw := hw G2 eG2
  have hkq1 : gK G2 q1 = 16 := by rw [eG2]; exact gK_Nq
  refine lv_dup hx hb dX9_told_3 rfl ?_
  refine gc3v hA hG (va_runI (As := []) (rest := [.ref q1]) ⟨hx, hb, hml, hown, hts⟩ (gm_J8_init l E q1 _ G2 hw _) (cwI 0 hts (lw_meth q180) rfl rfl rfl (hts _ q65) (hts _ q1625) (hts _ q179) rfl hd_J8_init ⟨Nat.le_of_ble_eq_true rfl, Nat.le_of_ble_eq_true rfl⟩) ⟨gblind, fun U hU hW => gpre hPF hA hG _ U hU hW⟩ rfl rfl hl.1 rfl (lv_room (Nat.le_of_ble_eq_true rfl)) dX9_told_4 ⟨(Nat.le_of_ble_eq_true rfl), (Nat.le_of_ble_eq_true rfl)⟩) (fun G3 H locs hw hmon hG => ?_)
  replace hw := hw hmon
  have hkq1 : gK G3 q1 = 16 := gK_mon hmon hkq1 (by decide)
  refine lv_astore_n (i := 1) (lv' := [(1, .ref q1), (0, .ref p0)]) hx hb dX9_told_7 rfl hl (by decide) rfl (fun ls hl => ?_)
  refine lv_aload_n hx hb dX9_told_8 rfl (lv_at hl 0 rfl) ?_
  refine lv_astore_n (i := 2) (lv' := [(2, .ref q1), (1, .ref q1), (0, .ref p0)]) hx hb dX9_told_9 rfl hl (by decide) rfl (fun ls hl => ?_)
  refine lv_iconst (v := 0) hx hb dX9_told_10 (by decide) ?_
  refine lv_istore_n (i := 3) (lv' := [(3, .int 0), (2, .ref q1), (1, .ref q1), (0, .ref p0)]) hx hb dX9_told_11 rfl hl (by decide) rfl (fun ls hl => ?_)
  refine W.cs (cells' := 2) (slots' := 204) (by simp only [Nat.zero_add, Nat.add_zero, Nat.add_assoc]) (by simp only [Nat.zero_add, Nat.add_zero, Nat.add_assoc]) ?_
  obtain ⟨n0, hw⟩ := hw
  exact hL12  n0 q1 (some q1) 0 2 204 G3 _ _ ls hG (lv_sub hl [3, 2, 1, 0] rfl) hw
def gw_X1_crateLine (E : gE) (post : Int32 → Gh → Prop) (px : String → Nat → Gh → Prop) (p0 : Nat) (p1 : Int32) (G : Gh) : Prop := gK G p0 = 1 ∧ (∃ q1, (gR G p0 0) = some q1 ∧ (gC G q1 = 2 ∧ (gw_X2_crate E (fun r4 G3 => gMon G G3 → (∃ q5, r4 = some q5 ∧ (gC G3 q5 = 8 ∧ (gw_X9_told E (fun r8 G7 => gMon G3 G7 → (∀ G9, G9 = gsR G7 p0 4 r8 → (∃ q10, (gR G9 p0 4) = some q10 ∧ (gC G9 q10 = 17 ∧ (gw_J9_length E (fun r13 G12 => gMon G9 G12 → (post r13 G12)) q10 G9))))) q5 G3)))) px q1 p1 G)))
theorem hd_X1_crateLine : yX1_crateLine.cls = RX1 ∧ yX1_crateLine.cls ≠ "java/lang/invoke/MethodHandle" ∧ yX1_crateLine.cls ≠ "java/lang/invoke/VarHandle" ∧ (parseMethodDescriptor yX1_crateLine.desc).map (fun d => d.parameters.length) = some 1 := by decide +kernel
theorem hdn_X1_crateLine : yX1_crateLine.cls ≠ "java/lang/invoke/MethodHandle" ∧ yX1_crateLine.cls ≠ "java/lang/invoke/VarHandle" ∧ (parseMethodDescriptor yX1_crateLine.desc).map (fun d => d.parameters.length) = some 1 := hd_X1_crateLine.2
theorem hdu_X1_crateLine : RX1 ≠ "java/lang/invoke/MethodHandle" ∧ RX1 ≠ "java/lang/invoke/VarHandle" ∧ (parseMethodDescriptor yX1_crateLine.desc).map (fun d => d.parameters.length) = some 1 := by decide +kernel
theorem hds_X1_crateLine : yX1_crateLine.name ≠ "<init>" ∧ (parseMethodDescriptor yX1_crateLine.desc).map (fun d => d.parameters.length) = some 1 := by decide +kernel
set_option maxHeartbeats 1000000 in
set_option maxRecDepth 100000 in
theorem gm_X1_crateLine (l : Launch) (hlt : l.stackTraces = false) (E : gE) (p0 : Nat) (p1 : Int32) (post : Int32 → Gh → Prop) (px : String → Nat → Gh → Prop) (G : Gh) (hw : gw_X1_crateLine E post px p0 p1 G) : gX l E yX1_crateLine (ws_ yX1_crateLine cX1_crateLine 2 (some .int)) ({ frames := 11, cells := 301, slots := 8006, locals := 182 } : Room) 301 8006 [.ref p0, .int p1] G (gpi post) px := by
  refine xof (by decide) (Nat.le_of_ble_eq_true rfl) ?_
  intro p e s m below meth c A ls hx hb hr hlk hml hown hin hts hPF hA htab hG hl
  have hl : lv_has ls 2 [(0, .ref p0), (1, .int p1)] := hl
  unfold gw_X1_crateLine at hw
  obtain ⟨G0, hG0⟩ : ∃ G0, G0 = G := ⟨_, rfl⟩
  have hG : gS E A G0 s.heap G s.heap [] := by rw [hG0]; exact hG
  rw [show gQ E A G (gpi post) = gQ E A G0 (gpi post) by rw [hG0]]
  rw [show gXC E A G px = gXC E A G0 px by rw [hG0]]
  have h0p0 := hw.1; rw [← hG0] at h0p0
  replace hw := hw.2
  refine lv_aload_n hx hb dX1_crateLine_0 rfl (lv_at hl 0 rfl) ?_
  refine lv_aload_n hx hb dX1_crateLine_1 rfl (lv_at hl 0 rfl) ?_
  refine gg hx hb hts hown hPF hG 1 0 rfl in_X1 (by decide) (by decide) (by decide) q539 (fun _ h9 => h9) (gC_of (gK_mon hG.1.2 h0p0 (by decide)) (by decide)) (v := va_rf (gR G p0 0)) rfl dX1_crateLine_2 ?_
  refine lv_iload_n hx hb dX1_crateLine_5 rfl (lv_at hl 1 rfl) ?_
  obtain ⟨q1, hq1, hw⟩ := hw
  refine W.eq (g2 := F0 m 6 ls [.int p1, .ref q1, .ref p0]) (by rw [hq1]; rfl) ?_
  have hk2 := hw.1
  replace hw := hw.2
  refine xc3r hA hG (vx_runV (As := [.int p1]) (rest := [.ref p0]) ⟨hx, hb, hml, hown, hts⟩ (gm_X2_crate l hlt E q1 p1 _ _ G hw _) (cwV 1 hts (lw_V q1433 q1434 q1435 q56 q1436) rfl rfl rfl hd_X2_crate ⟨Nat.le_of_ble_eq_true rfl, Nat.le_of_ble_eq_true rfl⟩) ⟨gblind, grecv hPF hG hk2 (by decide) (by decide) rfl, fun U hU hW => gpre hPF hA hG _ U hU hW⟩ rfl rfl hl.1 rfl (lv_room (Nat.le_of_ble_eq_true rfl)) dX1_crateLine_6 ⟨(Nat.le_of_ble_eq_true rfl), (Nat.le_of_ble_eq_true rfl)⟩) (fun X ce q Gx H locs hw hmon hG hce hcv hcl => ?_) (fun r4 G3 H locs hw hmon hG => ?_)
  · exact gleave hlk hG (fun x hx9 => (htab x hx9).elim) hce hcv hcl hw (Nat.le_of_ble_eq_true rfl) (Nat.le_of_ble_eq_true rfl)
  · replace hw := hw hmon
    have hk2 : gC G3 q1 = 2 := gC_mon hmon hk2 (by decide)
    obtain ⟨q5, hq5, hw⟩ := hw
    refine W.eq (g2 := F0 m 9 ls [.ref q5, .ref p0]) (by rw [hq5]; rfl) ?_
    have hk6 := hw.1
    replace hw := hw.2
    refine gc3r hA hG (va_runV (As := []) (rest := [.ref p0]) ⟨hx, hb, hml, hown, hts⟩ (gm_X9_told l E q5 _ G3 hw _) (cwV 0 hts (lw_V q1620 q1621 q1622 q85 q1623) rfl rfl rfl hd_X9_told ⟨Nat.le_of_ble_eq_true rfl, Nat.le_of_ble_eq_true rfl⟩) ⟨gblind, grecv hPF hG hk6 (by decide) (by decide) rfl, fun U hU hW => gpre hPF hA hG _ U hU hW⟩ rfl rfl hl.1 rfl (lv_room (Nat.le_of_ble_eq_true rfl)) dX1_crateLine_9 ⟨(Nat.le_of_ble_eq_true rfl), (Nat.le_of_ble_eq_true rfl)⟩) (fun r8 G7 H locs hw hmon hG => ?_)
    replace hw := hw hmon
    have hk2 : gC G7 q1 = 2 := gC_mon hmon hk2 (by decide)
    have hk6 : gC G7 q5 = 8 := gC_mon hmon hk6 (by decide)
    refine gp hx hb hts hown hPF hG 1 4 rfl in_X1 tyX1 tyX1_ok nmX1 (by decide) (by decide) (by decide) q543 (fun _ h9 => h9) rfl (gK_mon hG.1.2 h0p0 (by decide)) (v := va_rf r8) (narrow_rf _) (fits_rf _ (by decide)) (G' := gsR G7 p0 4 r8) rfl rfl grR_off (Nat.le_of_ble_eq_true rfl) (gFs_R 1 4 (fun _ _ _ => rfl)) dX1_crateLine_12 (fun H locs hG => ?_)
    obtain ⟨G9, eG9⟩ : ∃ z, z = gsR G7 p0 4 r8 := ⟨_, rfl⟩
    rw [← eG9] at hG
    replace hw := hw G9 eG9
    have hk2 : gC G9 q1 = 2 := by rw [eG9]; exact hk2
    have hk6 : gC G9 q5 = 8 := by rw [eG9]; exact hk6
    refine lv_aload_n hx hb dX1_crateLine_15 rfl (lv_at hl 0 rfl) ?_
    refine gg hx hb hts hown hPF hG 1 4 rfl in_X1 (by decide) (by decide) (by decide) q543 (fun _ h9 => h9) (gC_of (gK_mon hG.1.2 h0p0 (by decide)) (by decide)) (v := va_rf (gR G9 p0 4)) rfl dX1_crateLine_16 ?_
    obtain ⟨q10, hq10, hw⟩ := hw
    refine W.eq (g2 := F0 m 19 ls [.ref q10]) (by rw [hq10]; rfl) ?_
    have hk11 := hw.1
    replace hw := hw.2
    refine gc3i hA hG (va_runV (As := []) (rest := []) ⟨hx, hb, hml, hown, hts⟩ (gm_J9_length l E q10 _ G9 hw _) (cwV 0 hts (lw_V q1612 q287 q288 q66 q289) rfl rfl rfl hd_J9_length ⟨Nat.le_of_ble_eq_true rfl, Nat.le_of_ble_eq_true rfl⟩) ⟨gblind, grecv hPF hG hk11 (by decide) (by decide) rfl, fun U hU hW => gpre hPF hA hG _ U hU hW⟩ rfl rfl hl.1 rfl (lv_room (Nat.le_of_ble_eq_true rfl)) dX1_crateLine_19 ⟨(Nat.le_of_ble_eq_true rfl), (Nat.le_of_ble_eq_true rfl)⟩) (fun r13 G12 H locs hw hmon hG => ?_)
    replace hw := hw hmon
    have hk2 : gC G12 q1 = 2 := gC_mon hmon hk2 (by decide)
    have hk6 : gC G12 q5 = 8 := gC_mon hmon hk6 (by decide)
    have hk11 : gC G12 q10 = 17 := gC_mon hmon hk11 (by decide)
    exact xreti hx hb hr hlk hG rfl hw (Nat.le_of_ble_eq_true rfl) (Nat.le_of_ble_eq_true rfl) dX1_crateLine_22
def gw_X1_character (E : gE) (post : Int32 → Gh → Prop) (px : String → Nat → Gh → Prop) (p0 : Nat) (p1 : Int32) (G : Gh) : Prop := gK G p0 = 1 ∧ (∃ q1, (gR G p0 4) = some q1 ∧ (gC G q1 = 17 ∧ (gw_J9_length E (fun r4 G3 => gMon G G3 → (gw_X1_inRange E (fun r6 G5 => gMon G3 G5 → (gw_X1_checkIndex E (fun G7 => gMon G5 G7 → (∃ q8, (gR G7 p0 4) = some q8 ∧ (gC G7 q8 = 17 ∧ (gw_J9_charAt E (fun r11 G10 => gMon G7 G10 → (narrow .char (.int r11) = .int r11 ∧ (post r11 G10))) q8 p1 G7)))) px r6 G5)) p1.toInt64 0 ((r4 - 1).toInt64) G3)) q1 G)))
theorem hd_X1_character : yX1_character.cls = RX1 ∧ yX1_character.cls ≠ "java/lang/invoke/MethodHandle" ∧ yX1_character.cls ≠ "java/lang/invoke/VarHandle" ∧ (parseMethodDescriptor yX1_character.desc).map (fun d => d.parameters.length) = some 1 := by decide +kernel
theorem hdn_X1_character : yX1_character.cls ≠ "java/lang/invoke/MethodHandle" ∧ yX1_character.cls ≠ "java/lang/invoke/VarHandle" ∧ (parseMethodDescriptor yX1_character.desc).map (fun d => d.parameters.length) = some 1 := hd_X1_character.2
theorem hdu_X1_character : RX1 ≠ "java/lang/invoke/MethodHandle" ∧ RX1 ≠ "java/lang/invoke/VarHandle" ∧ (parseMethodDescriptor yX1_character.desc).map (fun d => d.parameters.length) = some 1 := by decide +kernel
theorem hds_X1_character : yX1_character.name ≠ "<init>" ∧ (parseMethodDescriptor yX1_character.desc).map (fun d => d.parameters.length) = some 1 := by decide +kernel
set_option maxHeartbeats 1000000 in
set_option maxRecDepth 100000 in
theorem gm_X1_character (l : Launch) (hlt : l.stackTraces = false) (E : gE) (p0 : Nat) (p1 : Int32) (post : Int32 → Gh → Prop) (px : String → Nat → Gh → Prop) (G : Gh) (hw : gw_X1_character E post px p0 p1 G) : gX l E yX1_character (ws_ yX1_character cX1_character 2 (some .char)) ({ frames := 9, cells := 1, slots := 6, locals := 140 } : Room) 1 6 [.ref p0, .int p1] G (gpi post) px := by
  refine xof (by decide) (Nat.le_of_ble_eq_true rfl) ?_
  intro p e s m below meth c A ls hx hb hr hlk hml hown hin hts hPF hA htab hG hl
  have hl : lv_has ls 2 [(0, .ref p0), (1, .int p1)] := hl
  unfold gw_X1_character at hw
  obtain ⟨G0, hG0⟩ : ∃ G0, G0 = G := ⟨_, rfl⟩
  have hG : gS E A G0 s.heap G s.heap [] := by rw [hG0]; exact hG
  rw [show gQ E A G (gpi post) = gQ E A G0 (gpi post) by rw [hG0]]
  rw [show gXC E A G px = gXC E A G0 px by rw [hG0]]
  have h0p0 := hw.1; rw [← hG0] at h0p0
  replace hw := hw.2
  refine lv_iload_n hx hb dX1_character_0 rfl (lv_at hl 1 rfl) ?_
  refine lv_i2l (v := p1.toInt64) hx hb dX1_character_1 rfl ?_
  refine lv_lconst (v := 0) hx hb dX1_character_2 (by decide) ?_
  refine lv_aload_n hx hb dX1_character_3 rfl (lv_at hl 0 rfl) ?_
  refine gg hx hb hts hown hPF hG 1 4 rfl in_X1 (by decide) (by decide) (by decide) q543 (fun _ h9 => h9) (gC_of (gK_mon hG.1.2 h0p0 (by decide)) (by decide)) (v := va_rf (gR G p0 4)) rfl dX1_character_4 ?_
  obtain ⟨q1, hq1, hw⟩ := hw
  refine W.eq (g2 := F0 m 7 ls [.ref q1, .long 0, .long p1.toInt64]) (by rw [hq1]; rfl) ?_
  have hk2 := hw.1
  replace hw := hw.2
  refine gc3i hA hG (va_runV (As := []) (rest := [.long 0, .long p1.toInt64]) ⟨hx, hb, hml, hown, hts⟩ (gm_J9_length l E q1 _ G hw _) (cwV 0 hts (lw_V q1612 q287 q288 q66 q289) rfl rfl rfl hd_J9_length ⟨Nat.le_of_ble_eq_true rfl, Nat.le_of_ble_eq_true rfl⟩) ⟨gblind, grecv hPF hG hk2 (by decide) (by decide) rfl, fun U hU hW => gpre hPF hA hG _ U hU hW⟩ rfl rfl hl.1 rfl (lv_room (Nat.le_of_ble_eq_true rfl)) dX1_character_7 ⟨(Nat.le_of_ble_eq_true rfl), (Nat.le_of_ble_eq_true rfl)⟩) (fun r4 G3 H locs hw hmon hG => ?_)
  replace hw := hw hmon
  have hk2 : gC G3 q1 = 17 := gC_mon hmon hk2 (by decide)
  refine lv_iconst (v := 1) hx hb dX1_character_10 (by decide) ?_
  refine lv_isub hx hb dX1_character_11 ?_
  refine lv_i2l (v := (r4 - 1).toInt64) hx hb dX1_character_12 rfl ?_
  refine gc3i hA hG (va_runS (As := [.long p1.toInt64, .long 0, .long ((r4 - 1).toInt64)]) (rest := []) ⟨hx, hb, hml, hown, hts⟩ (gm_X1_inRange l E p1.toInt64 0 ((r4 - 1).toInt64) _ G3 hw _) (va_cwS 3 hts (lw_S q1356 q637 q55 q638) rfl rfl rfl hd_X1_inRange ⟨Nat.le_of_ble_eq_true rfl, Nat.le_of_ble_eq_true rfl⟩) ⟨gblind, fun U hU hW => gpre hPF hA hG _ U hU hW⟩ rfl rfl hl.1 rfl (lv_room (Nat.le_of_ble_eq_true rfl)) dX1_character_13 ⟨(Nat.le_of_ble_eq_true rfl), (Nat.le_of_ble_eq_true rfl)⟩) (fun r6 G5 H locs hw hmon hG => ?_)
  replace hw := hw hmon
  have hk2 : gC G5 q1 = 17 := gC_mon hmon hk2 (by decide)
  refine xc3v hA hG (vx_runS (As := [.int r6]) (rest := []) ⟨hx, hb, hml, hown, hts⟩ (gm_X1_checkIndex l hlt E r6 _ _ G5 hw _) (va_cwS 1 hts (lw_S q1635 q1095 q55 q1096) rfl rfl rfl hd_X1_checkIndex ⟨Nat.le_of_ble_eq_true rfl, Nat.le_of_ble_eq_true rfl⟩) ⟨gblind, fun U hU hW => gpre hPF hA hG _ U hU hW⟩ rfl rfl hl.1 rfl (lv_room (Nat.le_of_ble_eq_true rfl)) dX1_character_16 ⟨(Nat.le_of_ble_eq_true rfl), (Nat.le_of_ble_eq_true rfl)⟩) (fun X ce q Gx H locs hw hmon hG hce hcv hcl => ?_) (fun G7 H locs hw hmon hG => ?_)
  · exact gleave hlk hG (fun x hx9 => (htab x hx9).elim) hce hcv hcl hw (Nat.le_of_ble_eq_true rfl) (Nat.le_of_ble_eq_true rfl)
  · replace hw := hw hmon
    have hk2 : gC G7 q1 = 17 := gC_mon hmon hk2 (by decide)
    refine lv_aload_n hx hb dX1_character_19 rfl (lv_at hl 0 rfl) ?_
    refine gg hx hb hts hown hPF hG 1 4 rfl in_X1 (by decide) (by decide) (by decide) q543 (fun _ h9 => h9) (gC_of (gK_mon hG.1.2 h0p0 (by decide)) (by decide)) (v := va_rf (gR G7 p0 4)) rfl dX1_character_20 ?_
    refine lv_iload_n hx hb dX1_character_23 rfl (lv_at hl 1 rfl) ?_
    obtain ⟨q8, hq8, hw⟩ := hw
    refine W.eq (g2 := F0 m 24 ls [.int p1, .ref q8]) (by rw [hq8]; rfl) ?_
    have hk9 := hw.1
    replace hw := hw.2
    refine gc3i hA hG (va_runV (As := [.int p1]) (rest := []) ⟨hx, hb, hml, hown, hts⟩ (gm_J9_charAt l E q8 p1 _ G7 hw _) (cwV 1 hts (lw_V q1636 q1637 q1638 q66 q1639) rfl rfl rfl hd_J9_charAt ⟨Nat.le_of_ble_eq_true rfl, Nat.le_of_ble_eq_true rfl⟩) ⟨gblind, grecv hPF hG hk9 (by decide) (by decide) rfl, fun U hU hW => gpre hPF hA hG _ U hU hW⟩ rfl rfl hl.1 rfl (lv_room (Nat.le_of_ble_eq_true rfl)) dX1_character_24 ⟨(Nat.le_of_ble_eq_true rfl), (Nat.le_of_ble_eq_true rfl)⟩) (fun r11 G10 H locs hw hmon hG => ?_)
    replace hw := hw hmon
    have hk2 : gC G10 q1 = 17 := gC_mon hmon hk2 (by decide)
    have hk9 : gC G10 q8 = 17 := gC_mon hmon hk9 (by decide)
    have hn_ := hw.1
    replace hw := hw.2
    exact xreti hx hb hr hlk hG hn_ hw (Nat.le_of_ble_eq_true rfl) (Nat.le_of_ble_eq_true rfl) dX1_character_27
def gw_X1_refusal_L12 (E : gE) (p0 : Nat) (post : Int32 → Gh → Prop) (px : String → Nat → Gh → Prop) (x1 : Int32) (t0 : Int32) (G : Gh) : Prop := gw_X1_checkState E (fun G2 => gMon G G2 → ((x1 = 0 → (∃ q3, (gR G2 p0 7) = some q3 ∧ (gC G2 q3 = 3 ∧ (post (gI G2 q3 6) G2)))) ∧ (¬ x1 = 0 → (∃ q5, (gR G2 p0 7) = some q5 ∧ (gC G2 q5 = 3 ∧ (post (gI G2 q5 7) G2)))))) px t0 G
def gw_X1_refusal (E : gE) (post : Int32 → Gh → Prop) (px : String → Nat → Gh → Prop) (p0 : Nat) (p1 : Int32) (G : Gh) : Prop := gK G p0 = 1 ∧ (((gR G p0 7) = none → (gw_X1_refusal_L12 E p0 post px  p1 0 G)) ∧ (∀ q1, (gR G p0 7) = some q1 → (gw_X1_refusal_L12 E p0 post px  p1 1 G)))
theorem hd_X1_refusal : yX1_refusal.cls = RX1 ∧ yX1_refusal.cls ≠ "java/lang/invoke/MethodHandle" ∧ yX1_refusal.cls ≠ "java/lang/invoke/VarHandle" ∧ (parseMethodDescriptor yX1_refusal.desc).map (fun d => d.parameters.length) = some 1 := by decide +kernel
theorem hdn_X1_refusal : yX1_refusal.cls ≠ "java/lang/invoke/MethodHandle" ∧ yX1_refusal.cls ≠ "java/lang/invoke/VarHandle" ∧ (parseMethodDescriptor yX1_refusal.desc).map (fun d => d.parameters.length) = some 1 := hd_X1_refusal.2
theorem hdu_X1_refusal : RX1 ≠ "java/lang/invoke/MethodHandle" ∧ RX1 ≠ "java/lang/invoke/VarHandle" ∧ (parseMethodDescriptor yX1_refusal.desc).map (fun d => d.parameters.length) = some 1 := by decide +kernel
theorem hds_X1_refusal : yX1_refusal.name ≠ "<init>" ∧ (parseMethodDescriptor yX1_refusal.desc).map (fun d => d.parameters.length) = some 1 := by decide +kernel
set_option maxHeartbeats 1000000 in
set_option maxRecDepth 100000 in
theorem gm_X1_refusal (l : Launch) (hlt : l.stackTraces = false) (E : gE) (p0 : Nat) (p1 : Int32) (post : Int32 → Gh → Prop) (px : String → Nat → Gh → Prop) (G : Gh) (hw : gw_X1_refusal E post px p0 p1 G) : gX l E yX1_refusal (ws_ yX1_refusal cX1_refusal 2 (some .int)) ({ frames := 9, cells := 1, slots := 6, locals := 140 } : Room) 1 6 [.ref p0, .int p1] G (gpi post) px := by
  refine xof (by decide) (Nat.le_of_ble_eq_true rfl) ?_
  intro p e s m below meth c A ls hx hb hr hlk hml hown hin hts hPF hA htab hG hl
  have hl : lv_has ls 2 [(0, .ref p0), (1, .int p1)] := hl
  unfold gw_X1_refusal at hw
  obtain ⟨G0, hG0⟩ : ∃ G0, G0 = G := ⟨_, rfl⟩
  have hG : gS E A G0 s.heap G s.heap [] := by rw [hG0]; exact hG
  rw [show gQ E A G (gpi post) = gQ E A G0 (gpi post) by rw [hG0]]
  rw [show gXC E A G px = gXC E A G0 px by rw [hG0]]
  have h0p0 := hw.1; rw [← hG0] at h0p0
  replace hw := hw.2
  have hL12 : ∀ (x1 : Int32) (t0 : Int32) (G : Gh) (H : Heap) (locs : List Loc) (ls : Array Slot), gS E A G0 s.heap G H locs → lv_has ls 2 [(0, .ref p0), (1, .int x1)] → gw_X1_refusal_L12 E p0 post px x1 t0 G → W p l e (headSpec (ws_ yX1_refusal cX1_refusal 2 (some .int)) ({ frames := 9, cells := 1, slots := 6, locals := 140 } : Room)).room s m ([.ref p0, .int p1] : List Value).toArray below meth c H locs 0 0 (vx_MQ below (gQ E A G0 (gpi post)) (gXC E A G0 px) ([.ref p0, .int p1] : List Value).toArray s 1 6 A) (F0 m 12 ls [.int t0]) := by
    intro x1 t0 G H locs ls hG hl hw
    unfold gw_X1_refusal_L12 at hw
    refine xc3v hA hG (vx_runS (As := [.int t0]) (rest := []) ⟨hx, hb, hml, hown, hts⟩ (gm_X1_checkState l hlt E t0 _ _ G hw _) (va_cwS 1 hts (lw_S q1658 q1050 q55 q1051) rfl rfl rfl hd_X1_checkState ⟨Nat.le_of_ble_eq_true rfl, Nat.le_of_ble_eq_true rfl⟩) ⟨gblind, fun U hU hW => gpre hPF hA hG _ U hU hW⟩ rfl rfl hl.1 rfl (lv_room (Nat.le_of_ble_eq_true rfl)) dX1_refusal_12 ⟨(Nat.le_of_ble_eq_true rfl), (Nat.le_of_ble_eq_true rfl)⟩) (fun X ce q Gx H locs hw hmon hG hce hcv hcl => ?_) (fun G2 H locs hw hmon hG => ?_)
    · exact gleave hlk hG (fun x hx9 => (htab x hx9).elim) hce hcv hcl hw (Nat.le_of_ble_eq_true rfl) (Nat.le_of_ble_eq_true rfl)
    · replace hw := hw hmon
      refine lv_iload_n hx hb dX1_refusal_15 rfl (lv_at hl 1 rfl) ?_
      refine lv_if_eq (tgt := 29) hx hb dX1_refusal_16 (by decide) (fun c_ => ?_) (fun c_ => ?_)
      · replace hw := hw.1 c_
        refine lv_aload_n hx hb dX1_refusal_29 rfl (lv_at hl 0 rfl) ?_
        refine gg hx hb hts hown hPF hG 1 7 rfl in_X1 (by decide) (by decide) (by decide) q546 (fun _ h9 => h9) (gC_of (gK_mon hG.1.2 h0p0 (by decide)) (by decide)) (v := va_rf (gR G2 p0 7)) rfl dX1_refusal_30 ?_
        obtain ⟨q3, hq3, hw⟩ := hw
        refine W.eq (g2 := F0 m 33 ls [.ref q3]) (by rw [hq3]; rfl) ?_
        have hk4 := hw.1
        replace hw := hw.2
        refine ggN hx hb hts hown hPF hG 3 6 rfl in_X4 (by decide) (by decide) (by decide) q679 (fun _ h9 => h9) hk4 (v := .int (gI G2 q3 6)) rfl dX1_refusal_33 ?_
        exact xreti hx hb hr hlk hG rfl hw (Nat.le_of_ble_eq_true rfl) (Nat.le_of_ble_eq_true rfl) dX1_refusal_36
      · replace hw := hw.2 c_
        refine lv_aload_n hx hb dX1_refusal_19 rfl (lv_at hl 0 rfl) ?_
        refine gg hx hb hts hown hPF hG 1 7 rfl in_X1 (by decide) (by decide) (by decide) q546 (fun _ h9 => h9) (gC_of (gK_mon hG.1.2 h0p0 (by decide)) (by decide)) (v := va_rf (gR G2 p0 7)) rfl dX1_refusal_20 ?_
        obtain ⟨q5, hq5, hw⟩ := hw
        refine W.eq (g2 := F0 m 23 ls [.ref q5]) (by rw [hq5]; rfl) ?_
        have hk6 := hw.1
        replace hw := hw.2
        refine ggN hx hb hts hown hPF hG 3 7 rfl in_X4 (by decide) (by decide) (by decide) q681 (fun _ h9 => h9) hk6 (v := .int (gI G2 q5 7)) rfl dX1_refusal_23 ?_
        refine lv_goto (tgt := 36) hx hb dX1_refusal_26 (by decide) ?_
        exact xreti hx hb hr hlk hG rfl hw (Nat.le_of_ble_eq_true rfl) (Nat.le_of_ble_eq_true rfl) dX1_refusal_36
  refine lv_aload_n hx hb dX1_refusal_0 rfl (lv_at hl 0 rfl) ?_
  refine gg hx hb hts hown hPF hG 1 7 rfl in_X1 (by decide) (by decide) (by decide) q546 (fun _ h9 => h9) (gC_of (gK_mon hG.1.2 h0p0 (by decide)) (by decide)) (v := va_rf (gR G p0 7)) rfl dX1_refusal_1 ?_
  refine gifnull (tgt := 11) hx hb dX1_refusal_4 (by decide) (fun c_ => ?_) (fun q1 hq1 => ?_)
  · replace hw := hw.1 c_
    refine lv_iconst (v := 0) hx hb dX1_refusal_11 (by decide) ?_
    refine W.widen (k := 0) (n := 0) (Nat.le_of_ble_eq_true rfl) (Nat.le_of_ble_eq_true rfl) ?_
    exact hL12  p1 0 G _ _ ls hG (lv_sub hl [0, 1] rfl) hw
  · replace hw := hw.2 q1 hq1
    refine lv_iconst (v := 1) hx hb dX1_refusal_7 (by decide) ?_
    refine lv_goto (tgt := 12) hx hb dX1_refusal_8 (by decide) ?_
    refine W.widen (k := 0) (n := 0) (Nat.le_of_ble_eq_true rfl) (Nat.le_of_ble_eq_true rfl) ?_
    exact hL12  p1 1 G _ _ ls hG (lv_sub hl [0, 1] rfl) hw
def gw_X2_platesOf (E : gE) (post : Int32 → Gh → Prop) (p0 : Nat) (p1 : Nat) (G : Gh) : Prop := gK G p0 = 2 ∧ (∃ q1, (gR G p0 1) = some q1 ∧ (gw_X1_sum E (fun r3 G2 => gMon G G2 → (post r3 G2)) q1 p1 (eZ E 46) G))
theorem hd_X2_platesOf : yX2_platesOf.cls = RX2 ∧ yX2_platesOf.cls ≠ "java/lang/invoke/MethodHandle" ∧ yX2_platesOf.cls ≠ "java/lang/invoke/VarHandle" ∧ (parseMethodDescriptor yX2_platesOf.desc).map (fun d => d.parameters.length) = some 1 := by decide +kernel
theorem hdn_X2_platesOf : yX2_platesOf.cls ≠ "java/lang/invoke/MethodHandle" ∧ yX2_platesOf.cls ≠ "java/lang/invoke/VarHandle" ∧ (parseMethodDescriptor yX2_platesOf.desc).map (fun d => d.parameters.length) = some 1 := hd_X2_platesOf.2
theorem hdu_X2_platesOf : RX2 ≠ "java/lang/invoke/MethodHandle" ∧ RX2 ≠ "java/lang/invoke/VarHandle" ∧ (parseMethodDescriptor yX2_platesOf.desc).map (fun d => d.parameters.length) = some 1 := by decide +kernel
theorem hds_X2_platesOf : yX2_platesOf.name ≠ "<init>" ∧ (parseMethodDescriptor yX2_platesOf.desc).map (fun d => d.parameters.length) = some 1 := by decide +kernel
set_option maxHeartbeats 1000000 in
set_option maxRecDepth 100000 in
theorem gm_X2_platesOf (l : Launch) (E : gE) (p0 : Nat) (p1 : Nat) (post : Int32 → Gh → Prop) (G : Gh) (hw : gw_X2_platesOf E post p0 p1 G) : gM l E yX2_platesOf (ws_ yX2_platesOf cX2_platesOf 2 (some .int)) ({ frames := 4, cells := 0, slots := 0, locals := 3200 } : Room) 0 0 [.ref p0, .ref p1] G (gpi post) := by
  refine gof (by decide) (Nat.le_of_ble_eq_true rfl) ?_
  intro p e s m below meth c A ls hx hb hr hlk hml hown hin hts hPF hA hG hl
  have hl : lv_has ls 2 [(0, .ref p0), (1, .ref p1)] := hl
  unfold gw_X2_platesOf at hw
  obtain ⟨G0, hG0⟩ : ∃ G0, G0 = G := ⟨_, rfl⟩
  have hG : gS E A G0 s.heap G s.heap [] := by rw [hG0]; exact hG
  rw [show gQ E A G (gpi post) = gQ E A G0 (gpi post) by rw [hG0]]
  have h0p0 := hw.1; rw [← hG0] at h0p0
  replace hw := hw.2
  refine lv_aload_n hx hb dX2_platesOf_0 rfl (lv_at hl 0 rfl) ?_
  refine gg hx hb hts hown hPF hG 2 1 rfl in_X2 (by decide) (by decide) (by decide) q464 (fun _ h9 => h9) (gC_of (gK_mon hG.1.2 h0p0 (by decide)) (by decide)) (v := va_rf (gR G p0 1)) rfl dX2_platesOf_1 ?_
  refine lv_aload_n hx hb dX2_platesOf_4 rfl (lv_at hl 1 rfl) ?_
  refine glct (rest := [.ref p1, va_rf (gR G p0 1)]) hx hb hml hl.1 16 rfl rfl hin.1 hPF (by (try simp only [List.map, va_rf_cat, gcat_i, gcat_r, gcat_l, gcat_d, gcat_f, gcat_n]); exact Nat.le_of_ble_eq_true rfl) dX2_platesOf_5 ?_
  obtain ⟨q1, hq1, hw⟩ := hw
  refine W.eq (g2 := F0 m 10 ls [.ref (eZ E 46), .ref p1, .ref q1]) (by rw [hq1]; rfl) ?_
  refine gc3i hA hG (va_runSN (As := [.ref q1, .ref p1, .ref (eZ E 46)]) (rest := []) ⟨hx, hb, hml, hown, hts⟩ (gm_X1_sum l E q1 p1 (eZ E 46) _ G hw _) ⟨va_cnB 3 hts (lw_meth q589) rfl rfl rfl (hPF.w q587 rfl) (hts _ q55) hd_X1_sum ⟨Nat.le_of_ble_eq_true rfl, Nat.le_of_ble_eq_true rfl⟩, hts _ q588, trivial⟩ ⟨gblind, fun U hU hW => gpre hPF hA hG _ U hU hW⟩ rfl rfl hl.1 rfl (lv_room (Nat.le_of_ble_eq_true rfl)) dX2_platesOf_10 ⟨(Nat.le_of_ble_eq_true rfl), (Nat.le_of_ble_eq_true rfl)⟩) (fun r3 G2 H locs hw hmon hG => ?_)
  replace hw := hw hmon
  exact greti hx hb hr hlk hG rfl hw (Nat.le_of_ble_eq_true rfl) (Nat.le_of_ble_eq_true rfl) dX2_platesOf_13
def gw_X1_count (E : gE) (post : Int32 → Gh → Prop) (p0 : Nat) (p1 : Nat) (G : Gh) : Prop := gK G p0 = 14 ∧ (gw_X1_sum E (fun r2 G1 => gMon G G1 → (post r2 G1)) p0 p1 (eZ E 49) G)
theorem hd_X1_count : yX1_count.cls ≠ "java/lang/invoke/MethodHandle" ∧ yX1_count.cls ≠ "java/lang/invoke/VarHandle" ∧ (parseMethodDescriptor yX1_count.desc).map (fun d => d.parameters.length) = some 2 := by decide +kernel
set_option maxHeartbeats 1000000 in
set_option maxRecDepth 100000 in
theorem gm_X1_count (l : Launch) (E : gE) (p0 : Nat) (p1 : Nat) (post : Int32 → Gh → Prop) (G : Gh) (hw : gw_X1_count E post p0 p1 G) : gM l E yX1_count (ws_ yX1_count cX1_count 2 (some .int)) ({ frames := 4, cells := 0, slots := 0, locals := 3200 } : Room) 0 0 [.ref p0, .ref p1] G (gpi post) := by
  refine gof (by decide) (Nat.le_of_ble_eq_true rfl) ?_
  intro p e s m below meth c A ls hx hb hr hlk hml hown hin hts hPF hA hG hl
  have hl : lv_has ls 2 [(0, .ref p0), (1, .ref p1)] := hl
  unfold gw_X1_count at hw
  obtain ⟨G0, hG0⟩ : ∃ G0, G0 = G := ⟨_, rfl⟩
  have hG : gS E A G0 s.heap G s.heap [] := by rw [hG0]; exact hG
  rw [show gQ E A G (gpi post) = gQ E A G0 (gpi post) by rw [hG0]]
  have h0p0 := hw.1; rw [← hG0] at h0p0
  replace hw := hw.2
  refine lv_aload_n hx hb dX1_count_0 rfl (lv_at hl 0 rfl) ?_
  refine lv_aload_n hx hb dX1_count_1 rfl (lv_at hl 1 rfl) ?_
  refine glct (rest := [.ref p1, .ref p0]) hx hb hml hl.1 19 rfl rfl hin.1 hPF (by (try simp only [List.map, va_rf_cat, gcat_i, gcat_r, gcat_l, gcat_d, gcat_f, gcat_n]); exact Nat.le_of_ble_eq_true rfl) dX1_count_2 ?_
  refine gc3i hA hG (va_runS (As := [.ref p0, .ref p1, .ref (eZ E 49)]) (rest := []) ⟨hx, hb, hml, hown, hts⟩ (gm_X1_sum l E p0 p1 (eZ E 49) _ G hw _) (va_cwS 3 hts (lw_S q1688 q588 q55 q589) rfl rfl rfl hd_X1_sum ⟨Nat.le_of_ble_eq_true rfl, Nat.le_of_ble_eq_true rfl⟩) ⟨gblind, fun U hU hW => gpre hPF hA hG _ U hU hW⟩ rfl rfl hl.1 rfl (lv_room (Nat.le_of_ble_eq_true rfl)) dX1_count_7 ⟨(Nat.le_of_ble_eq_true rfl), (Nat.le_of_ble_eq_true rfl)⟩) (fun r2 G1 H locs hw hmon hG => ?_)
  replace hw := hw hmon
  exact greti hx hb hr hlk hG rfl hw (Nat.le_of_ble_eq_true rfl) (Nat.le_of_ble_eq_true rfl) dX1_count_10
def gw_X2_burning (E : gE) (post : Int32 → Gh → Prop) (p0 : Nat) (G : Gh) : Prop := gK G p0 = 2 ∧ (∃ q1, (gR G p0 1) = some q1 ∧ (gw_X1_count E (fun r3 G2 => gMon G G2 → (post r3 G2)) q1 (eZ E 48) G))
theorem hd_X2_burning : yX2_burning.cls = RX2 ∧ yX2_burning.cls ≠ "java/lang/invoke/MethodHandle" ∧ yX2_burning.cls ≠ "java/lang/invoke/VarHandle" ∧ (parseMethodDescriptor yX2_burning.desc).map (fun d => d.parameters.length) = some 0 := by decide +kernel
theorem hdn_X2_burning : yX2_burning.cls ≠ "java/lang/invoke/MethodHandle" ∧ yX2_burning.cls ≠ "java/lang/invoke/VarHandle" ∧ (parseMethodDescriptor yX2_burning.desc).map (fun d => d.parameters.length) = some 0 := hd_X2_burning.2
theorem hdu_X2_burning : RX2 ≠ "java/lang/invoke/MethodHandle" ∧ RX2 ≠ "java/lang/invoke/VarHandle" ∧ (parseMethodDescriptor yX2_burning.desc).map (fun d => d.parameters.length) = some 0 := by decide +kernel
theorem hds_X2_burning : yX2_burning.name ≠ "<init>" ∧ (parseMethodDescriptor yX2_burning.desc).map (fun d => d.parameters.length) = some 0 := by decide +kernel
set_option maxHeartbeats 1000000 in
set_option maxRecDepth 100000 in
theorem gm_X2_burning (l : Launch) (E : gE) (p0 : Nat) (post : Int32 → Gh → Prop) (G : Gh) (hw : gw_X2_burning E post p0 G) : gM l E yX2_burning (ws_ yX2_burning cX2_burning 1 (some .int)) ({ frames := 5, cells := 0, slots := 0, locals := 3221 } : Room) 0 0 [.ref p0] G (gpi post) := by
  refine gof (by decide) (Nat.le_of_ble_eq_true rfl) ?_
  intro p e s m below meth c A ls hx hb hr hlk hml hown hin hts hPF hA hG hl
  have hl : lv_has ls 1 [(0, .ref p0)] := hl
  unfold gw_X2_burning at hw
  obtain ⟨G0, hG0⟩ : ∃ G0, G0 = G := ⟨_, rfl⟩
  have hG : gS E A G0 s.heap G s.heap [] := by rw [hG0]; exact hG
  rw [show gQ E A G (gpi post) = gQ E A G0 (gpi post) by rw [hG0]]
  have h0p0 := hw.1; rw [← hG0] at h0p0
  replace hw := hw.2
  refine lv_aload_n hx hb dX2_burning_0 rfl (lv_at hl 0 rfl) ?_
  refine gg hx hb hts hown hPF hG 2 1 rfl in_X2 (by decide) (by decide) (by decide) q464 (fun _ h9 => h9) (gC_of (gK_mon hG.1.2 h0p0 (by decide)) (by decide)) (v := va_rf (gR G p0 1)) rfl dX2_burning_1 ?_
  refine glct (rest := [va_rf (gR G p0 1)]) hx hb hml hl.1 18 rfl rfl hin.1 hPF (by (try simp only [List.map, va_rf_cat, gcat_i, gcat_r, gcat_l, gcat_d, gcat_f, gcat_n]); exact Nat.le_of_ble_eq_true rfl) dX2_burning_4 ?_
  obtain ⟨q1, hq1, hw⟩ := hw
  refine W.eq (g2 := F0 m 9 ls [.ref (eZ E 48), .ref q1]) (by rw [hq1]; rfl) ?_
  refine gc3i hA hG (va_runSN (As := [.ref q1, .ref (eZ E 48)]) (rest := []) ⟨hx, hb, hml, hown, hts⟩ (gm_X1_count l E q1 (eZ E 48) _ G hw _) ⟨va_cnB 2 hts (lw_meth q1685) rfl rfl rfl (hPF.w q1683 rfl) (hts _ q55) hd_X1_count ⟨Nat.le_of_ble_eq_true rfl, Nat.le_of_ble_eq_true rfl⟩, hts _ q1684, trivial⟩ ⟨gblind, fun U hU hW => gpre hPF hA hG _ U hU hW⟩ rfl rfl hl.1 rfl (lv_room (Nat.le_of_ble_eq_true rfl)) dX2_burning_9 ⟨(Nat.le_of_ble_eq_true rfl), (Nat.le_of_ble_eq_true rfl)⟩) (fun r3 G2 H locs hw hmon hG => ?_)
  replace hw := hw hmon
  exact greti hx hb hr hlk hG rfl hw (Nat.le_of_ble_eq_true rfl) (Nat.le_of_ble_eq_true rfl) dX2_burning_12
def gw_X1_account (E : gE) (post : Int32 → Gh → Prop) (px : String → Nat → Gh → Prop) (p0 : Nat) (p1 : Int32) (G : Gh) : Prop := gK G p0 = 1 ∧ ((p1 = 0 → (∃ q1, (gR G p0 0) = some q1 ∧ (gC G q1 = 2 ∧ (post (gI G q1 4) G)))) ∧ (p1 = 1 → (∃ q3, (gR G p0 0) = some q3 ∧ (gC G q3 = 2 ∧ (post (gI G q3 6) G)))) ∧ (p1 = 2 → (∃ q5, (gR G p0 0) = some q5 ∧ (gC G q5 = 2 ∧ (post (gI G q5 5) G)))) ∧ (p1 = 3 → (∃ q7, (gR G p0 0) = some q7 ∧ (gC G q7 = 2 ∧ (post (gI G q7 7) G)))) ∧ (p1 = 4 → (∃ q9, (gR G p0 0) = some q9 ∧ (gC G q9 = 2 ∧ (∃ q11, (gR G q9 0) = some q11 ∧ (gC G q11 = 14 ∧ (gw_J2_size E (fun r14 G13 => gMon G G13 → (post r14 G13)) q11 G)))))) ∧ (p1 = 5 → (∃ q15, (gR G p0 0) = some q15 ∧ (gC G q15 = 2 ∧ (∃ q17, (gR G q15 1) = some q17 ∧ (gC G q17 = 14 ∧ (gw_J2_size E (fun r20 G19 => gMon G G19 → (post r20 G19)) q17 G)))))) ∧ (p1 = 6 → (∃ q21, (gR G p0 0) = some q21 ∧ (gC G q21 = 2 ∧ (post (gI G q21 10) G)))) ∧ (p1 = 7 → (∃ q23, (gR G p0 0) = some q23 ∧ (gC G q23 = 2 ∧ (gw_X2_platesOf E (fun r26 G25 => gMon G G25 → (post r26 G25)) q23 (eZ E 45) G)))) ∧ (p1 = 8 → (∃ q27, (gR G p0 0) = some q27 ∧ (gC G q27 = 2 ∧ (gw_X2_platesOf E (fun r30 G29 => gMon G G29 → (post r30 G29)) q27 (eZ E 47) G)))) ∧ (p1 = 9 → (∃ q31, (gR G p0 0) = some q31 ∧ (gC G q31 = 2 ∧ (gw_X2_inCrates E (fun r34 G33 => gMon G G33 → (post r34 G33)) q31 G)))) ∧ (p1 = 10 → (∃ q35, (gR G p0 0) = some q35 ∧ (gC G q35 = 2 ∧ (post (gI G q35 11) G)))) ∧ (p1 = 11 → (∃ q37, (gR G p0 0) = some q37 ∧ (gC G q37 = 2 ∧ (post (gI G q37 12) G)))) ∧ (p1 = 12 → (∃ q39, (gR G p0 0) = some q39 ∧ (gC G q39 = 2 ∧ (post (gI G q39 13) G)))) ∧ (p1 = 13 → (∃ q41, (gR G p0 0) = some q41 ∧ (gC G q41 = 2 ∧ (∃ q43, (gR G q41 2) = some q43 ∧ (gC G q43 = 14 ∧ (gw_J2_size E (fun r46 G45 => gMon G G45 → (post r46 G45)) q43 G)))))) ∧ (p1 = 14 → (∃ q47, (gR G p0 0) = some q47 ∧ (gC G q47 = 2 ∧ (gw_X2_burning E (fun r50 G49 => gMon G G49 → (post r50 G49)) q47 G)))) ∧ (p1 = 15 → (∃ q51, (gR G p0 0) = some q51 ∧ (gC G q51 = 2 ∧ (∃ q53, (gR G q51 3) = some q53 ∧ (gC G q53 = 14 ∧ (gw_J2_size E (fun r56 G55 => gMon G G55 → (post r56 G55)) q53 G)))))) ∧ (p1 = 16 → (∃ q57, (gR G p0 0) = some q57 ∧ (gC G q57 = 2 ∧ (post (gI G q57 8) G)))) ∧ (p1 = 17 → (∃ q59, (gR G p0 0) = some q59 ∧ (gC G q59 = 2 ∧ (post (gI G q59 9) G)))) ∧ (p1 = 18 → (∃ q61, (gR G p0 3) = some q61 ∧ (gC G q61 = 16 ∧ (gw_J8_length E (fun r64 G63 => gMon G G63 → (post r64 G63)) q61 G)))) ∧ (p1 = 19 → (∃ q65, (gR G p0 1) = some q65 ∧ (gC G q65 = 18 ∧ (gw_J17_size E (fun r68 G67 => gMon G G67 → (post r68 G67)) q65 G)))) ∧ (p1.toInt < 0 ∨ 19 < p1.toInt → (∀ q, gK G q = 0 → px "java/lang/IllegalArgumentException" q G)))
theorem hd_X1_account : yX1_account.cls = RX1 ∧ yX1_account.cls ≠ "java/lang/invoke/MethodHandle" ∧ yX1_account.cls ≠ "java/lang/invoke/VarHandle" ∧ (parseMethodDescriptor yX1_account.desc).map (fun d => d.parameters.length) = some 1 := by decide +kernel
theorem hdn_X1_account : yX1_account.cls ≠ "java/lang/invoke/MethodHandle" ∧ yX1_account.cls ≠ "java/lang/invoke/VarHandle" ∧ (parseMethodDescriptor yX1_account.desc).map (fun d => d.parameters.length) = some 1 := hd_X1_account.2
theorem hdu_X1_account : RX1 ≠ "java/lang/invoke/MethodHandle" ∧ RX1 ≠ "java/lang/invoke/VarHandle" ∧ (parseMethodDescriptor yX1_account.desc).map (fun d => d.parameters.length) = some 1 := by decide +kernel
theorem hds_X1_account : yX1_account.name ≠ "<init>" ∧ (parseMethodDescriptor yX1_account.desc).map (fun d => d.parameters.length) = some 1 := by decide +kernel
set_option maxHeartbeats 1000000 in
set_option maxRecDepth 100000 in
theorem gm_X1_account (l : Launch) (hlt : l.stackTraces = false) (E : gE) (p0 : Nat) (p1 : Int32) (post : Int32 → Gh → Prop) (px : String → Nat → Gh → Prop) (G : Gh) (hw : gw_X1_account E post px p0 p1 G) : gX l E yX1_account (ws_ yX1_account cX1_account 2 (some .int)) ({ frames := 8, cells := 1, slots := 6, locals := 3241 } : Room) 1 6 [.ref p0, .int p1] G (gpi post) px := by
  refine xof (by decide) (Nat.le_of_ble_eq_true rfl) ?_
  intro p e s m below meth c A ls hx hb hr hlk hml hown hin hts hPF hA htab hG hl
  have hl : lv_has ls 2 [(0, .ref p0), (1, .int p1)] := hl
  unfold gw_X1_account at hw
  obtain ⟨G0, hG0⟩ : ∃ G0, G0 = G := ⟨_, rfl⟩
  have hG : gS E A G0 s.heap G s.heap [] := by rw [hG0]; exact hG
  rw [show gQ E A G (gpi post) = gQ E A G0 (gpi post) by rw [hG0]]
  rw [show gXC E A G px = gXC E A G0 px by rw [hG0]]
  have h0p0 := hw.1; rw [← hG0] at h0p0
  replace hw := hw.2
  refine lv_iload_n hx hb dX1_account_0 rfl (lv_at hl 1 rfl) ?_
  by_cases ho_ : p1.toInt < 0 ∨ 19 < p1.toInt
  · refine lv_tableOut (tgt := 278) hx hb dX1_account_1 ho_ (by decide) ?_
    replace hw := hw.2.2.2.2.2.2.2.2.2.2.2.2.2.2.2.2.2.2.2.2 ho_
    exact vx_throw0 (cls := "java/lang/IllegalArgumentException") (names := excNames) (A := A) hx hb hlt hown (by decide +kernel) (by decide +kernel) (hts _ q642) (hts _ q63) (tw_hat hts hPF tw_X1_3_IllegalArgumentException) (tw_ot (by decide +kernel)) hPF.u.1 hPF.u.2 hG.2 (hl.1.trans hml.symm) dX1_account_278 dX1_account_281 dX1_account_282 dX1_account_285 (fun x hx9 => (htab x hx9).elim) (Nat.le_of_ble_eq_true rfl) (by (try simp only [List.map, va_rf_cat, gcat_i, gcat_r, gcat_l, gcat_d, gcat_f, gcat_n]); exact Nat.le_of_ble_eq_true rfl) (Nat.le_of_ble_eq_true rfl) (Nat.le_of_ble_eq_true rfl) hlk (fun q t hq hW hz hk => gthrown hG (hw q (Classical.byContradiction fun h => Nat.lt_irrefl _ (Nat.lt_of_lt_of_le (gat_lt (hG.1.1 q h).1) hq))) hz hk) hG.2.2.2 (Nat.le_of_ble_eq_true rfl) (Nat.le_of_ble_eq_true rfl)
  · have hi_ : p1.toInt = 0 ∨ p1.toInt = 1 ∨ p1.toInt = 2 ∨ p1.toInt = 3 ∨ p1.toInt = 4 ∨ p1.toInt = 5 ∨ p1.toInt = 6 ∨ p1.toInt = 7 ∨ p1.toInt = 8 ∨ p1.toInt = 9 ∨ p1.toInt = 10 ∨ p1.toInt = 11 ∨ p1.toInt = 12 ∨ p1.toInt = 13 ∨ p1.toInt = 14 ∨ p1.toInt = 15 ∨ p1.toInt = 16 ∨ p1.toInt = 17 ∨ p1.toInt = 18 ∨ p1.toInt = 19 := by omega
    rcases hi_ with hi_ | hi_ | hi_ | hi_ | hi_ | hi_ | hi_ | hi_ | hi_ | hi_ | hi_ | hi_ | hi_ | hi_ | hi_ | hi_ | hi_ | hi_ | hi_ | hi_
    · have hk_ : p1 = (0 : Int32) := Int32.toInt_inj.mp (by rw [hi_]; rfl)
      refine lv_tableIn (off := 95) (tgt := 96) hx hb dX1_account_1 (by rw [hk_]; decide) (by rw [hk_]; decide) (by rw [hk_]; rfl) (by decide) ?_
      replace hw := hw.1 hk_
      refine lv_aload_n hx hb dX1_account_96 rfl (lv_at hl 0 rfl) ?_
      refine gg hx hb hts hown hPF hG 1 0 rfl in_X1 (by decide) (by decide) (by decide) q539 (fun _ h9 => h9) (gC_of (gK_mon hG.1.2 h0p0 (by decide)) (by decide)) (v := va_rf (gR G p0 0)) rfl dX1_account_97 ?_
      obtain ⟨q1, hq1, hw⟩ := hw
      refine W.eq (g2 := F0 m 100 ls [.ref q1]) (by rw [hq1]; rfl) ?_
      have hk2 := hw.1
      replace hw := hw.2
      refine ggN hx hb hts hown hPF hG 2 4 rfl in_X2 (by decide) (by decide) (by decide) q471 (fun _ h9 => h9) hk2 (v := .int (gI G q1 4)) rfl dX1_account_100 ?_
      exact xreti hx hb hr hlk hG rfl hw (Nat.le_of_ble_eq_true rfl) (Nat.le_of_ble_eq_true rfl) dX1_account_103
    · have hk_ : p1 = (1 : Int32) := Int32.toInt_inj.mp (by rw [hi_]; rfl)
      refine lv_tableIn (off := 103) (tgt := 104) hx hb dX1_account_1 (by rw [hk_]; decide) (by rw [hk_]; decide) (by rw [hk_]; rfl) (by decide) ?_
      replace hw := hw.2.1 hk_
      refine lv_aload_n hx hb dX1_account_104 rfl (lv_at hl 0 rfl) ?_
      refine gg hx hb hts hown hPF hG 1 0 rfl in_X1 (by decide) (by decide) (by decide) q539 (fun _ h9 => h9) (gC_of (gK_mon hG.1.2 h0p0 (by decide)) (by decide)) (v := va_rf (gR G p0 0)) rfl dX1_account_105 ?_
      obtain ⟨q3, hq3, hw⟩ := hw
      refine W.eq (g2 := F0 m 108 ls [.ref q3]) (by rw [hq3]; rfl) ?_
      have hk4 := hw.1
      replace hw := hw.2
      refine ggN hx hb hts hown hPF hG 2 6 rfl in_X2 (by decide) (by decide) (by decide) q475 (fun _ h9 => h9) hk4 (v := .int (gI G q3 6)) rfl dX1_account_108 ?_
      exact xreti hx hb hr hlk hG rfl hw (Nat.le_of_ble_eq_true rfl) (Nat.le_of_ble_eq_true rfl) dX1_account_111
    · have hk_ : p1 = (2 : Int32) := Int32.toInt_inj.mp (by rw [hi_]; rfl)
      refine lv_tableIn (off := 111) (tgt := 112) hx hb dX1_account_1 (by rw [hk_]; decide) (by rw [hk_]; decide) (by rw [hk_]; rfl) (by decide) ?_
      replace hw := hw.2.2.1 hk_
      refine lv_aload_n hx hb dX1_account_112 rfl (lv_at hl 0 rfl) ?_
      refine gg hx hb hts hown hPF hG 1 0 rfl in_X1 (by decide) (by decide) (by decide) q539 (fun _ h9 => h9) (gC_of (gK_mon hG.1.2 h0p0 (by decide)) (by decide)) (v := va_rf (gR G p0 0)) rfl dX1_account_113 ?_
      obtain ⟨q5, hq5, hw⟩ := hw
      refine W.eq (g2 := F0 m 116 ls [.ref q5]) (by rw [hq5]; rfl) ?_
      have hk6 := hw.1
      replace hw := hw.2
      refine ggN hx hb hts hown hPF hG 2 5 rfl in_X2 (by decide) (by decide) (by decide) q473 (fun _ h9 => h9) hk6 (v := .int (gI G q5 5)) rfl dX1_account_116 ?_
      exact xreti hx hb hr hlk hG rfl hw (Nat.le_of_ble_eq_true rfl) (Nat.le_of_ble_eq_true rfl) dX1_account_119
    · have hk_ : p1 = (3 : Int32) := Int32.toInt_inj.mp (by rw [hi_]; rfl)
      refine lv_tableIn (off := 119) (tgt := 120) hx hb dX1_account_1 (by rw [hk_]; decide) (by rw [hk_]; decide) (by rw [hk_]; rfl) (by decide) ?_
      replace hw := hw.2.2.2.1 hk_
      refine lv_aload_n hx hb dX1_account_120 rfl (lv_at hl 0 rfl) ?_
      refine gg hx hb hts hown hPF hG 1 0 rfl in_X1 (by decide) (by decide) (by decide) q539 (fun _ h9 => h9) (gC_of (gK_mon hG.1.2 h0p0 (by decide)) (by decide)) (v := va_rf (gR G p0 0)) rfl dX1_account_121 ?_
      obtain ⟨q7, hq7, hw⟩ := hw
      refine W.eq (g2 := F0 m 124 ls [.ref q7]) (by rw [hq7]; rfl) ?_
      have hk8 := hw.1
      replace hw := hw.2
      refine ggN hx hb hts hown hPF hG 2 7 rfl in_X2 (by decide) (by decide) (by decide) q477 (fun _ h9 => h9) hk8 (v := .int (gI G q7 7)) rfl dX1_account_124 ?_
      exact xreti hx hb hr hlk hG rfl hw (Nat.le_of_ble_eq_true rfl) (Nat.le_of_ble_eq_true rfl) dX1_account_127
    · have hk_ : p1 = (4 : Int32) := Int32.toInt_inj.mp (by rw [hi_]; rfl)
      refine lv_tableIn (off := 127) (tgt := 128) hx hb dX1_account_1 (by rw [hk_]; decide) (by rw [hk_]; decide) (by rw [hk_]; rfl) (by decide) ?_
      replace hw := hw.2.2.2.2.1 hk_
      refine lv_aload_n hx hb dX1_account_128 rfl (lv_at hl 0 rfl) ?_
      refine gg hx hb hts hown hPF hG 1 0 rfl in_X1 (by decide) (by decide) (by decide) q539 (fun _ h9 => h9) (gC_of (gK_mon hG.1.2 h0p0 (by decide)) (by decide)) (v := va_rf (gR G p0 0)) rfl dX1_account_129 ?_
      obtain ⟨q9, hq9, hw⟩ := hw
      refine W.eq (g2 := F0 m 132 ls [.ref q9]) (by rw [hq9]; rfl) ?_
      have hk10 := hw.1
      replace hw := hw.2
      refine ggN hx hb hts hown hPF hG 2 0 rfl in_X2 (by decide) (by decide) (by decide) q463 (fun _ h9 => h9) hk10 (v := va_rf (gR G q9 0)) rfl dX1_account_132 ?_
      obtain ⟨q11, hq11, hw⟩ := hw
      refine W.eq (g2 := F0 m 135 ls [.ref q11]) (by rw [hq11]; rfl) ?_
      have hk12 := hw.1
      replace hw := hw.2
      refine gc3i hA hG (va_runV (As := []) (rest := []) ⟨hx, hb, hml, hown, hts⟩ (gm_J2_size l E q11 _ G hw _) (cwV 0 hts (lw_V q590 q591 q592 q59 q593) rfl rfl rfl hd_J2_size ⟨Nat.le_of_ble_eq_true rfl, Nat.le_of_ble_eq_true rfl⟩) ⟨gblind, grecv hPF hG hk12 (by decide) (by decide) rfl, fun U hU hW => gpre hPF hA hG _ U hU hW⟩ rfl rfl hl.1 rfl (lv_room (Nat.le_of_ble_eq_true rfl)) dX1_account_135 ⟨(Nat.le_of_ble_eq_true rfl), (Nat.le_of_ble_eq_true rfl)⟩) (fun r14 G13 H locs hw hmon hG => ?_)
      replace hw := hw hmon
      have hk10 : gC G13 q9 = 2 := gC_mon hmon hk10 (by decide)
      have hk12 : gC G13 q11 = 14 := gC_mon hmon hk12 (by decide)
      exact xreti hx hb hr hlk hG rfl hw (Nat.le_of_ble_eq_true rfl) (Nat.le_of_ble_eq_true rfl) dX1_account_138
    · have hk_ : p1 = (5 : Int32) := Int32.toInt_inj.mp (by rw [hi_]; rfl)
      refine lv_tableIn (off := 138) (tgt := 139) hx hb dX1_account_1 (by rw [hk_]; decide) (by rw [hk_]; decide) (by rw [hk_]; rfl) (by decide) ?_
      replace hw := hw.2.2.2.2.2.1 hk_
      refine lv_aload_n hx hb dX1_account_139 rfl (lv_at hl 0 rfl) ?_
      refine gg hx hb hts hown hPF hG 1 0 rfl in_X1 (by decide) (by decide) (by decide) q539 (fun _ h9 => h9) (gC_of (gK_mon hG.1.2 h0p0 (by decide)) (by decide)) (v := va_rf (gR G p0 0)) rfl dX1_account_140 ?_
      obtain ⟨q15, hq15, hw⟩ := hw
      refine W.eq (g2 := F0 m 143 ls [.ref q15]) (by rw [hq15]; rfl) ?_
      have hk16 := hw.1
      replace hw := hw.2
      refine ggN hx hb hts hown hPF hG 2 1 rfl in_X2 (by decide) (by decide) (by decide) q465 (fun _ h9 => h9) hk16 (v := va_rf (gR G q15 1)) rfl dX1_account_143 ?_
      obtain ⟨q17, hq17, hw⟩ := hw
      refine W.eq (g2 := F0 m 146 ls [.ref q17]) (by rw [hq17]; rfl) ?_
      have hk18 := hw.1
      replace hw := hw.2
      refine gc3i hA hG (va_runV (As := []) (rest := []) ⟨hx, hb, hml, hown, hts⟩ (gm_J2_size l E q17 _ G hw _) (cwV 0 hts (lw_V q590 q591 q592 q59 q593) rfl rfl rfl hd_J2_size ⟨Nat.le_of_ble_eq_true rfl, Nat.le_of_ble_eq_true rfl⟩) ⟨gblind, grecv hPF hG hk18 (by decide) (by decide) rfl, fun U hU hW => gpre hPF hA hG _ U hU hW⟩ rfl rfl hl.1 rfl (lv_room (Nat.le_of_ble_eq_true rfl)) dX1_account_146 ⟨(Nat.le_of_ble_eq_true rfl), (Nat.le_of_ble_eq_true rfl)⟩) (fun r20 G19 H locs hw hmon hG => ?_)
      replace hw := hw hmon
      have hk16 : gC G19 q15 = 2 := gC_mon hmon hk16 (by decide)
      have hk18 : gC G19 q17 = 14 := gC_mon hmon hk18 (by decide)
      exact xreti hx hb hr hlk hG rfl hw (Nat.le_of_ble_eq_true rfl) (Nat.le_of_ble_eq_true rfl) dX1_account_149
    · have hk_ : p1 = (6 : Int32) := Int32.toInt_inj.mp (by rw [hi_]; rfl)
      refine lv_tableIn (off := 149) (tgt := 150) hx hb dX1_account_1 (by rw [hk_]; decide) (by rw [hk_]; decide) (by rw [hk_]; rfl) (by decide) ?_
      replace hw := hw.2.2.2.2.2.2.1 hk_
      refine lv_aload_n hx hb dX1_account_150 rfl (lv_at hl 0 rfl) ?_
      refine gg hx hb hts hown hPF hG 1 0 rfl in_X1 (by decide) (by decide) (by decide) q539 (fun _ h9 => h9) (gC_of (gK_mon hG.1.2 h0p0 (by decide)) (by decide)) (v := va_rf (gR G p0 0)) rfl dX1_account_151 ?_
      obtain ⟨q21, hq21, hw⟩ := hw
      refine W.eq (g2 := F0 m 154 ls [.ref q21]) (by rw [hq21]; rfl) ?_
      have hk22 := hw.1
      replace hw := hw.2
      refine ggN hx hb hts hown hPF hG 2 10 rfl in_X2 (by decide) (by decide) (by decide) q483 (fun _ h9 => h9) hk22 (v := .int (gI G q21 10)) rfl dX1_account_154 ?_
      exact xreti hx hb hr hlk hG rfl hw (Nat.le_of_ble_eq_true rfl) (Nat.le_of_ble_eq_true rfl) dX1_account_157
    · have hk_ : p1 = (7 : Int32) := Int32.toInt_inj.mp (by rw [hi_]; rfl)
      refine lv_tableIn (off := 157) (tgt := 158) hx hb dX1_account_1 (by rw [hk_]; decide) (by rw [hk_]; decide) (by rw [hk_]; rfl) (by decide) ?_
      replace hw := hw.2.2.2.2.2.2.2.1 hk_
      refine lv_aload_n hx hb dX1_account_158 rfl (lv_at hl 0 rfl) ?_
      refine gg hx hb hts hown hPF hG 1 0 rfl in_X1 (by decide) (by decide) (by decide) q539 (fun _ h9 => h9) (gC_of (gK_mon hG.1.2 h0p0 (by decide)) (by decide)) (v := va_rf (gR G p0 0)) rfl dX1_account_159 ?_
      refine glct (rest := [va_rf (gR G p0 0)]) hx hb hml hl.1 15 rfl rfl hin.1 hPF (by (try simp only [List.map, va_rf_cat, gcat_i, gcat_r, gcat_l, gcat_d, gcat_f, gcat_n]); exact Nat.le_of_ble_eq_true rfl) dX1_account_162 ?_
      obtain ⟨q23, hq23, hw⟩ := hw
      refine W.eq (g2 := F0 m 167 ls [.ref (eZ E 45), .ref q23]) (by rw [hq23]; rfl) ?_
      have hk24 := hw.1
      replace hw := hw.2
      refine gc3i hA hG (va_runV (As := [.ref (eZ E 45)]) (rest := []) ⟨hx, hb, hml, hown, hts⟩ (gm_X2_platesOf l E q23 (eZ E 45) _ G hw _) (cwV 1 hts (lw_V q1668 q1669 q1670 q56 q1671) rfl rfl rfl hd_X2_platesOf ⟨Nat.le_of_ble_eq_true rfl, Nat.le_of_ble_eq_true rfl⟩) ⟨gblind, grecv hPF hG hk24 (by decide) (by decide) rfl, fun U hU hW => gpre hPF hA hG _ U hU hW⟩ rfl rfl hl.1 rfl (lv_room (Nat.le_of_ble_eq_true rfl)) dX1_account_167 ⟨(Nat.le_of_ble_eq_true rfl), (Nat.le_of_ble_eq_true rfl)⟩) (fun r26 G25 H locs hw hmon hG => ?_)
      replace hw := hw hmon
      have hk24 : gC G25 q23 = 2 := gC_mon hmon hk24 (by decide)
      exact xreti hx hb hr hlk hG rfl hw (Nat.le_of_ble_eq_true rfl) (Nat.le_of_ble_eq_true rfl) dX1_account_170
    · have hk_ : p1 = (8 : Int32) := Int32.toInt_inj.mp (by rw [hi_]; rfl)
      refine lv_tableIn (off := 170) (tgt := 171) hx hb dX1_account_1 (by rw [hk_]; decide) (by rw [hk_]; decide) (by rw [hk_]; rfl) (by decide) ?_
      replace hw := hw.2.2.2.2.2.2.2.2.1 hk_
      refine lv_aload_n hx hb dX1_account_171 rfl (lv_at hl 0 rfl) ?_
      refine gg hx hb hts hown hPF hG 1 0 rfl in_X1 (by decide) (by decide) (by decide) q539 (fun _ h9 => h9) (gC_of (gK_mon hG.1.2 h0p0 (by decide)) (by decide)) (v := va_rf (gR G p0 0)) rfl dX1_account_172 ?_
      refine glct (rest := [va_rf (gR G p0 0)]) hx hb hml hl.1 17 rfl rfl hin.1 hPF (by (try simp only [List.map, va_rf_cat, gcat_i, gcat_r, gcat_l, gcat_d, gcat_f, gcat_n]); exact Nat.le_of_ble_eq_true rfl) dX1_account_175 ?_
      obtain ⟨q27, hq27, hw⟩ := hw
      refine W.eq (g2 := F0 m 180 ls [.ref (eZ E 47), .ref q27]) (by rw [hq27]; rfl) ?_
      have hk28 := hw.1
      replace hw := hw.2
      refine gc3i hA hG (va_runV (As := [.ref (eZ E 47)]) (rest := []) ⟨hx, hb, hml, hown, hts⟩ (gm_X2_platesOf l E q27 (eZ E 47) _ G hw _) (cwV 1 hts (lw_V q1668 q1669 q1670 q56 q1671) rfl rfl rfl hd_X2_platesOf ⟨Nat.le_of_ble_eq_true rfl, Nat.le_of_ble_eq_true rfl⟩) ⟨gblind, grecv hPF hG hk28 (by decide) (by decide) rfl, fun U hU hW => gpre hPF hA hG _ U hU hW⟩ rfl rfl hl.1 rfl (lv_room (Nat.le_of_ble_eq_true rfl)) dX1_account_180 ⟨(Nat.le_of_ble_eq_true rfl), (Nat.le_of_ble_eq_true rfl)⟩) (fun r30 G29 H locs hw hmon hG => ?_)
      replace hw := hw hmon
      have hk28 : gC G29 q27 = 2 := gC_mon hmon hk28 (by decide)
      exact xreti hx hb hr hlk hG rfl hw (Nat.le_of_ble_eq_true rfl) (Nat.le_of_ble_eq_true rfl) dX1_account_183
    · have hk_ : p1 = (9 : Int32) := Int32.toInt_inj.mp (by rw [hi_]; rfl)
      refine lv_tableIn (off := 183) (tgt := 184) hx hb dX1_account_1 (by rw [hk_]; decide) (by rw [hk_]; decide) (by rw [hk_]; rfl) (by decide) ?_
      replace hw := hw.2.2.2.2.2.2.2.2.2.1 hk_
      refine lv_aload_n hx hb dX1_account_184 rfl (lv_at hl 0 rfl) ?_
      refine gg hx hb hts hown hPF hG 1 0 rfl in_X1 (by decide) (by decide) (by decide) q539 (fun _ h9 => h9) (gC_of (gK_mon hG.1.2 h0p0 (by decide)) (by decide)) (v := va_rf (gR G p0 0)) rfl dX1_account_185 ?_
      obtain ⟨q31, hq31, hw⟩ := hw
      refine W.eq (g2 := F0 m 188 ls [.ref q31]) (by rw [hq31]; rfl) ?_
      have hk32 := hw.1
      replace hw := hw.2
      refine gc3i hA hG (va_runV (As := []) (rest := []) ⟨hx, hb, hml, hown, hts⟩ (gm_X2_inCrates l E q31 _ G hw _) (cwV 0 hts (lw_V q579 q580 q581 q56 q582) rfl rfl rfl hd_X2_inCrates ⟨Nat.le_of_ble_eq_true rfl, Nat.le_of_ble_eq_true rfl⟩) ⟨gblind, grecv hPF hG hk32 (by decide) (by decide) rfl, fun U hU hW => gpre hPF hA hG _ U hU hW⟩ rfl rfl hl.1 rfl (lv_room (Nat.le_of_ble_eq_true rfl)) dX1_account_188 ⟨(Nat.le_of_ble_eq_true rfl), (Nat.le_of_ble_eq_true rfl)⟩) (fun r34 G33 H locs hw hmon hG => ?_)
      replace hw := hw hmon
      have hk32 : gC G33 q31 = 2 := gC_mon hmon hk32 (by decide)
      exact xreti hx hb hr hlk hG rfl hw (Nat.le_of_ble_eq_true rfl) (Nat.le_of_ble_eq_true rfl) dX1_account_191
    · have hk_ : p1 = (10 : Int32) := Int32.toInt_inj.mp (by rw [hi_]; rfl)
      refine lv_tableIn (off := 191) (tgt := 192) hx hb dX1_account_1 (by rw [hk_]; decide) (by rw [hk_]; decide) (by rw [hk_]; rfl) (by decide) ?_
      replace hw := hw.2.2.2.2.2.2.2.2.2.2.1 hk_
      refine lv_aload_n hx hb dX1_account_192 rfl (lv_at hl 0 rfl) ?_
      refine gg hx hb hts hown hPF hG 1 0 rfl in_X1 (by decide) (by decide) (by decide) q539 (fun _ h9 => h9) (gC_of (gK_mon hG.1.2 h0p0 (by decide)) (by decide)) (v := va_rf (gR G p0 0)) rfl dX1_account_193 ?_
      obtain ⟨q35, hq35, hw⟩ := hw
      refine W.eq (g2 := F0 m 196 ls [.ref q35]) (by rw [hq35]; rfl) ?_
      have hk36 := hw.1
      replace hw := hw.2
      refine ggN hx hb hts hown hPF hG 2 11 rfl in_X2 (by decide) (by decide) (by decide) q485 (fun _ h9 => h9) hk36 (v := .int (gI G q35 11)) rfl dX1_account_196 ?_
      exact xreti hx hb hr hlk hG rfl hw (Nat.le_of_ble_eq_true rfl) (Nat.le_of_ble_eq_true rfl) dX1_account_199
    · have hk_ : p1 = (11 : Int32) := Int32.toInt_inj.mp (by rw [hi_]; rfl)
      refine lv_tableIn (off := 199) (tgt := 200) hx hb dX1_account_1 (by rw [hk_]; decide) (by rw [hk_]; decide) (by rw [hk_]; rfl) (by decide) ?_
      replace hw := hw.2.2.2.2.2.2.2.2.2.2.2.1 hk_
      refine lv_aload_n hx hb dX1_account_200 rfl (lv_at hl 0 rfl) ?_
      refine gg hx hb hts hown hPF hG 1 0 rfl in_X1 (by decide) (by decide) (by decide) q539 (fun _ h9 => h9) (gC_of (gK_mon hG.1.2 h0p0 (by decide)) (by decide)) (v := va_rf (gR G p0 0)) rfl dX1_account_201 ?_
      obtain ⟨q37, hq37, hw⟩ := hw
      refine W.eq (g2 := F0 m 204 ls [.ref q37]) (by rw [hq37]; rfl) ?_
      have hk38 := hw.1
      replace hw := hw.2
      refine ggN hx hb hts hown hPF hG 2 12 rfl in_X2 (by decide) (by decide) (by decide) q487 (fun _ h9 => h9) hk38 (v := .int (gI G q37 12)) rfl dX1_account_204 ?_
      exact xreti hx hb hr hlk hG rfl hw (Nat.le_of_ble_eq_true rfl) (Nat.le_of_ble_eq_true rfl) dX1_account_207
    · have hk_ : p1 = (12 : Int32) := Int32.toInt_inj.mp (by rw [hi_]; rfl)
      refine lv_tableIn (off := 207) (tgt := 208) hx hb dX1_account_1 (by rw [hk_]; decide) (by rw [hk_]; decide) (by rw [hk_]; rfl) (by decide) ?_
      replace hw := hw.2.2.2.2.2.2.2.2.2.2.2.2.1 hk_
      refine lv_aload_n hx hb dX1_account_208 rfl (lv_at hl 0 rfl) ?_
      refine gg hx hb hts hown hPF hG 1 0 rfl in_X1 (by decide) (by decide) (by decide) q539 (fun _ h9 => h9) (gC_of (gK_mon hG.1.2 h0p0 (by decide)) (by decide)) (v := va_rf (gR G p0 0)) rfl dX1_account_209 ?_
      obtain ⟨q39, hq39, hw⟩ := hw
      refine W.eq (g2 := F0 m 212 ls [.ref q39]) (by rw [hq39]; rfl) ?_
      have hk40 := hw.1
      replace hw := hw.2
      refine ggN hx hb hts hown hPF hG 2 13 rfl in_X2 (by decide) (by decide) (by decide) q489 (fun _ h9 => h9) hk40 (v := .int (gI G q39 13)) rfl dX1_account_212 ?_
      exact xreti hx hb hr hlk hG rfl hw (Nat.le_of_ble_eq_true rfl) (Nat.le_of_ble_eq_true rfl) dX1_account_215
    · have hk_ : p1 = (13 : Int32) := Int32.toInt_inj.mp (by rw [hi_]; rfl)
      refine lv_tableIn (off := 215) (tgt := 216) hx hb dX1_account_1 (by rw [hk_]; decide) (by rw [hk_]; decide) (by rw [hk_]; rfl) (by decide) ?_
      replace hw := hw.2.2.2.2.2.2.2.2.2.2.2.2.2.1 hk_
      refine lv_aload_n hx hb dX1_account_216 rfl (lv_at hl 0 rfl) ?_
      refine gg hx hb hts hown hPF hG 1 0 rfl in_X1 (by decide) (by decide) (by decide) q539 (fun _ h9 => h9) (gC_of (gK_mon hG.1.2 h0p0 (by decide)) (by decide)) (v := va_rf (gR G p0 0)) rfl dX1_account_217 ?_
      obtain ⟨q41, hq41, hw⟩ := hw
      refine W.eq (g2 := F0 m 220 ls [.ref q41]) (by rw [hq41]; rfl) ?_
      have hk42 := hw.1
      replace hw := hw.2
      refine ggN hx hb hts hown hPF hG 2 2 rfl in_X2 (by decide) (by decide) (by decide) q467 (fun _ h9 => h9) hk42 (v := va_rf (gR G q41 2)) rfl dX1_account_220 ?_
      obtain ⟨q43, hq43, hw⟩ := hw
      refine W.eq (g2 := F0 m 223 ls [.ref q43]) (by rw [hq43]; rfl) ?_
      have hk44 := hw.1
      replace hw := hw.2
      refine gc3i hA hG (va_runV (As := []) (rest := []) ⟨hx, hb, hml, hown, hts⟩ (gm_J2_size l E q43 _ G hw _) (cwV 0 hts (lw_V q590 q591 q592 q59 q593) rfl rfl rfl hd_J2_size ⟨Nat.le_of_ble_eq_true rfl, Nat.le_of_ble_eq_true rfl⟩) ⟨gblind, grecv hPF hG hk44 (by decide) (by decide) rfl, fun U hU hW => gpre hPF hA hG _ U hU hW⟩ rfl rfl hl.1 rfl (lv_room (Nat.le_of_ble_eq_true rfl)) dX1_account_223 ⟨(Nat.le_of_ble_eq_true rfl), (Nat.le_of_ble_eq_true rfl)⟩) (fun r46 G45 H locs hw hmon hG => ?_)
      replace hw := hw hmon
      have hk42 : gC G45 q41 = 2 := gC_mon hmon hk42 (by decide)
      have hk44 : gC G45 q43 = 14 := gC_mon hmon hk44 (by decide)
      exact xreti hx hb hr hlk hG rfl hw (Nat.le_of_ble_eq_true rfl) (Nat.le_of_ble_eq_true rfl) dX1_account_226
    · have hk_ : p1 = (14 : Int32) := Int32.toInt_inj.mp (by rw [hi_]; rfl)
      refine lv_tableIn (off := 226) (tgt := 227) hx hb dX1_account_1 (by rw [hk_]; decide) (by rw [hk_]; decide) (by rw [hk_]; rfl) (by decide) ?_
      replace hw := hw.2.2.2.2.2.2.2.2.2.2.2.2.2.2.1 hk_
      refine lv_aload_n hx hb dX1_account_227 rfl (lv_at hl 0 rfl) ?_
      refine gg hx hb hts hown hPF hG 1 0 rfl in_X1 (by decide) (by decide) (by decide) q539 (fun _ h9 => h9) (gC_of (gK_mon hG.1.2 h0p0 (by decide)) (by decide)) (v := va_rf (gR G p0 0)) rfl dX1_account_228 ?_
      obtain ⟨q47, hq47, hw⟩ := hw
      refine W.eq (g2 := F0 m 231 ls [.ref q47]) (by rw [hq47]; rfl) ?_
      have hk48 := hw.1
      replace hw := hw.2
      refine gc3i hA hG (va_runV (As := []) (rest := []) ⟨hx, hb, hml, hown, hts⟩ (gm_X2_burning l E q47 _ G hw _) (cwV 0 hts (lw_V q1677 q1678 q1679 q56 q1680) rfl rfl rfl hd_X2_burning ⟨Nat.le_of_ble_eq_true rfl, Nat.le_of_ble_eq_true rfl⟩) ⟨gblind, grecv hPF hG hk48 (by decide) (by decide) rfl, fun U hU hW => gpre hPF hA hG _ U hU hW⟩ rfl rfl hl.1 rfl (lv_room (Nat.le_of_ble_eq_true rfl)) dX1_account_231 ⟨(Nat.le_of_ble_eq_true rfl), (Nat.le_of_ble_eq_true rfl)⟩) (fun r50 G49 H locs hw hmon hG => ?_)
      replace hw := hw hmon
      have hk48 : gC G49 q47 = 2 := gC_mon hmon hk48 (by decide)
      exact xreti hx hb hr hlk hG rfl hw (Nat.le_of_ble_eq_true rfl) (Nat.le_of_ble_eq_true rfl) dX1_account_234
    · have hk_ : p1 = (15 : Int32) := Int32.toInt_inj.mp (by rw [hi_]; rfl)
      refine lv_tableIn (off := 234) (tgt := 235) hx hb dX1_account_1 (by rw [hk_]; decide) (by rw [hk_]; decide) (by rw [hk_]; rfl) (by decide) ?_
      replace hw := hw.2.2.2.2.2.2.2.2.2.2.2.2.2.2.2.1 hk_
      refine lv_aload_n hx hb dX1_account_235 rfl (lv_at hl 0 rfl) ?_
      refine gg hx hb hts hown hPF hG 1 0 rfl in_X1 (by decide) (by decide) (by decide) q539 (fun _ h9 => h9) (gC_of (gK_mon hG.1.2 h0p0 (by decide)) (by decide)) (v := va_rf (gR G p0 0)) rfl dX1_account_236 ?_
      obtain ⟨q51, hq51, hw⟩ := hw
      refine W.eq (g2 := F0 m 239 ls [.ref q51]) (by rw [hq51]; rfl) ?_
      have hk52 := hw.1
      replace hw := hw.2
      refine ggN hx hb hts hown hPF hG 2 3 rfl in_X2 (by decide) (by decide) (by decide) q469 (fun _ h9 => h9) hk52 (v := va_rf (gR G q51 3)) rfl dX1_account_239 ?_
      obtain ⟨q53, hq53, hw⟩ := hw
      refine W.eq (g2 := F0 m 242 ls [.ref q53]) (by rw [hq53]; rfl) ?_
      have hk54 := hw.1
      replace hw := hw.2
      refine gc3i hA hG (va_runV (As := []) (rest := []) ⟨hx, hb, hml, hown, hts⟩ (gm_J2_size l E q53 _ G hw _) (cwV 0 hts (lw_V q590 q591 q592 q59 q593) rfl rfl rfl hd_J2_size ⟨Nat.le_of_ble_eq_true rfl, Nat.le_of_ble_eq_true rfl⟩) ⟨gblind, grecv hPF hG hk54 (by decide) (by decide) rfl, fun U hU hW => gpre hPF hA hG _ U hU hW⟩ rfl rfl hl.1 rfl (lv_room (Nat.le_of_ble_eq_true rfl)) dX1_account_242 ⟨(Nat.le_of_ble_eq_true rfl), (Nat.le_of_ble_eq_true rfl)⟩) (fun r56 G55 H locs hw hmon hG => ?_)
      replace hw := hw hmon
      have hk52 : gC G55 q51 = 2 := gC_mon hmon hk52 (by decide)
      have hk54 : gC G55 q53 = 14 := gC_mon hmon hk54 (by decide)
      exact xreti hx hb hr hlk hG rfl hw (Nat.le_of_ble_eq_true rfl) (Nat.le_of_ble_eq_true rfl) dX1_account_245
    · have hk_ : p1 = (16 : Int32) := Int32.toInt_inj.mp (by rw [hi_]; rfl)
      refine lv_tableIn (off := 245) (tgt := 246) hx hb dX1_account_1 (by rw [hk_]; decide) (by rw [hk_]; decide) (by rw [hk_]; rfl) (by decide) ?_
      replace hw := hw.2.2.2.2.2.2.2.2.2.2.2.2.2.2.2.2.1 hk_
      refine lv_aload_n hx hb dX1_account_246 rfl (lv_at hl 0 rfl) ?_
      refine gg hx hb hts hown hPF hG 1 0 rfl in_X1 (by decide) (by decide) (by decide) q539 (fun _ h9 => h9) (gC_of (gK_mon hG.1.2 h0p0 (by decide)) (by decide)) (v := va_rf (gR G p0 0)) rfl dX1_account_247 ?_
      obtain ⟨q57, hq57, hw⟩ := hw
      refine W.eq (g2 := F0 m 250 ls [.ref q57]) (by rw [hq57]; rfl) ?_
      have hk58 := hw.1
      replace hw := hw.2
      refine ggN hx hb hts hown hPF hG 2 8 rfl in_X2 (by decide) (by decide) (by decide) q479 (fun _ h9 => h9) hk58 (v := .int (gI G q57 8)) rfl dX1_account_250 ?_
      exact xreti hx hb hr hlk hG rfl hw (Nat.le_of_ble_eq_true rfl) (Nat.le_of_ble_eq_true rfl) dX1_account_253
    · have hk_ : p1 = (17 : Int32) := Int32.toInt_inj.mp (by rw [hi_]; rfl)
      refine lv_tableIn (off := 253) (tgt := 254) hx hb dX1_account_1 (by rw [hk_]; decide) (by rw [hk_]; decide) (by rw [hk_]; rfl) (by decide) ?_
      replace hw := hw.2.2.2.2.2.2.2.2.2.2.2.2.2.2.2.2.2.1 hk_
      refine lv_aload_n hx hb dX1_account_254 rfl (lv_at hl 0 rfl) ?_
      refine gg hx hb hts hown hPF hG 1 0 rfl in_X1 (by decide) (by decide) (by decide) q539 (fun _ h9 => h9) (gC_of (gK_mon hG.1.2 h0p0 (by decide)) (by decide)) (v := va_rf (gR G p0 0)) rfl dX1_account_255 ?_
      obtain ⟨q59, hq59, hw⟩ := hw
      refine W.eq (g2 := F0 m 258 ls [.ref q59]) (by rw [hq59]; rfl) ?_
      have hk60 := hw.1
      replace hw := hw.2
      refine ggN hx hb hts hown hPF hG 2 9 rfl in_X2 (by decide) (by decide) (by decide) q481 (fun _ h9 => h9) hk60 (v := .int (gI G q59 9)) rfl dX1_account_258 ?_
      exact xreti hx hb hr hlk hG rfl hw (Nat.le_of_ble_eq_true rfl) (Nat.le_of_ble_eq_true rfl) dX1_account_261
    · have hk_ : p1 = (18 : Int32) := Int32.toInt_inj.mp (by rw [hi_]; rfl)
      refine lv_tableIn (off := 261) (tgt := 262) hx hb dX1_account_1 (by rw [hk_]; decide) (by rw [hk_]; decide) (by rw [hk_]; rfl) (by decide) ?_
      replace hw := hw.2.2.2.2.2.2.2.2.2.2.2.2.2.2.2.2.2.2.1 hk_
      refine lv_aload_n hx hb dX1_account_262 rfl (lv_at hl 0 rfl) ?_
      refine gg hx hb hts hown hPF hG 1 3 rfl in_X1 (by decide) (by decide) (by decide) q542 (fun _ h9 => h9) (gC_of (gK_mon hG.1.2 h0p0 (by decide)) (by decide)) (v := va_rf (gR G p0 3)) rfl dX1_account_263 ?_
      obtain ⟨q61, hq61, hw⟩ := hw
      refine W.eq (g2 := F0 m 266 ls [.ref q61]) (by rw [hq61]; rfl) ?_
      have hk62 := hw.1
      replace hw := hw.2
      refine gc3i hA hG (va_runV (As := []) (rest := []) ⟨hx, hb, hml, hown, hts⟩ (gm_J8_length l E q61 _ G hw _) (cwV 0 hts (lw_V q1689 q376 q2325 q65 q377) rfl rfl rfl hd_J8_length ⟨Nat.le_of_ble_eq_true rfl, Nat.le_of_ble_eq_true rfl⟩) ⟨gblind, grecv hPF hG hk62 (by decide) (by decide) rfl, fun U hU hW => gpre hPF hA hG _ U hU hW⟩ rfl rfl hl.1 rfl (lv_room (Nat.le_of_ble_eq_true rfl)) dX1_account_266 ⟨(Nat.le_of_ble_eq_true rfl), (Nat.le_of_ble_eq_true rfl)⟩) (fun r64 G63 H locs hw hmon hG => ?_)
      replace hw := hw hmon
      have hk62 : gC G63 q61 = 16 := gC_mon hmon hk62 (by decide)
      exact xreti hx hb hr hlk hG rfl hw (Nat.le_of_ble_eq_true rfl) (Nat.le_of_ble_eq_true rfl) dX1_account_269
    · have hk_ : p1 = (19 : Int32) := Int32.toInt_inj.mp (by rw [hi_]; rfl)
      refine lv_tableIn (off := 269) (tgt := 270) hx hb dX1_account_1 (by rw [hk_]; decide) (by rw [hk_]; decide) (by rw [hk_]; rfl) (by decide) ?_
      replace hw := hw.2.2.2.2.2.2.2.2.2.2.2.2.2.2.2.2.2.2.2.1 hk_
      refine lv_aload_n hx hb dX1_account_270 rfl (lv_at hl 0 rfl) ?_
      refine gg hx hb hts hown hPF hG 1 1 rfl in_X1 (by decide) (by decide) (by decide) q540 (fun _ h9 => h9) (gC_of (gK_mon hG.1.2 h0p0 (by decide)) (by decide)) (v := va_rf (gR G p0 1)) rfl dX1_account_271 ?_
      obtain ⟨q65, hq65, hw⟩ := hw
      refine W.eq (g2 := F0 m 274 ls [.ref q65]) (by rw [hq65]; rfl) ?_
      have hk66 := hw.1
      replace hw := hw.2
      refine gc3i hA hG (va_runV (As := []) (rest := []) ⟨hx, hb, hml, hown, hts⟩ (gm_J17_size l E q65 _ G hw _) (cwV 0 hts (lw_V q965 q966 q967 q76 q968) rfl rfl rfl hd_J17_size ⟨Nat.le_of_ble_eq_true rfl, Nat.le_of_ble_eq_true rfl⟩) ⟨gblind, grecv hPF hG hk66 (by decide) (by decide) rfl, fun U hU hW => gpre hPF hA hG _ U hU hW⟩ rfl rfl hl.1 rfl (lv_room (Nat.le_of_ble_eq_true rfl)) dX1_account_274 ⟨(Nat.le_of_ble_eq_true rfl), (Nat.le_of_ble_eq_true rfl)⟩) (fun r68 G67 H locs hw hmon hG => ?_)
      replace hw := hw hmon
      have hk66 : gC G67 q65 = 18 := gC_mon hmon hk66 (by decide)
      exact xreti hx hb hr hlk hG rfl hw (Nat.le_of_ble_eq_true rfl) (Nat.le_of_ble_eq_true rfl) dX1_account_277
def gw_X1_checkNumbers (E : gE) (post : Gh → Prop) (px : String → Nat → Gh → Prop) (p0 : Int32) (G : Gh) : Prop := (¬ p0 = 0 → (post G)) ∧ (p0 = 0 → (∀ q, gK G q = 0 → px "java/lang/ArithmeticException" q G))
theorem hd_X1_checkNumbers : yX1_checkNumbers.cls ≠ "java/lang/invoke/MethodHandle" ∧ yX1_checkNumbers.cls ≠ "java/lang/invoke/VarHandle" ∧ (parseMethodDescriptor yX1_checkNumbers.desc).map (fun d => d.parameters.length) = some 1 := by decide +kernel
set_option maxHeartbeats 1000000 in
set_option maxRecDepth 100000 in
theorem gm_X1_checkNumbers (l : Launch) (hlt : l.stackTraces = false) (E : gE) (p0 : Int32) (post : Gh → Prop) (px : String → Nat → Gh → Prop) (G : Gh) (hw : gw_X1_checkNumbers E post px p0 G) : gX l E yX1_checkNumbers (ws_ yX1_checkNumbers cX1_checkNumbers 1 none) ({ frames := 8, cells := 1, slots := 6, locals := 120 } : Room) 1 6 [.int p0] G (gpv post) px := by
  refine xof (by decide) (Nat.le_of_ble_eq_true rfl) ?_
  intro p e s m below meth c A ls hx hb hr hlk hml hown hin hts hPF hA htab hG hl
  have hl : lv_has ls 1 [(0, .int p0)] := hl
  unfold gw_X1_checkNumbers at hw
  obtain ⟨G0, hG0⟩ : ∃ G0, G0 = G := ⟨_, rfl⟩
  have hG : gS E A G0 s.heap G s.heap [] := by rw [hG0]; exact hG
  rw [show gQ E A G (gpv post) = gQ E A G0 (gpv post) by rw [hG0]]
  rw [show gXC E A G px = gXC E A G0 px by rw [hG0]]
  refine lv_iload_n hx hb dX1_checkNumbers_0 rfl (lv_at hl 0 rfl) ?_
  refine lv_if_ne (tgt := 12) hx hb dX1_checkNumbers_1 (by decide) (fun c_ => ?_) (fun c_ => ?_)
  · replace hw := hw.1 c_
    exact xretv hx hb hr hlk hG hw (Nat.le_of_ble_eq_true rfl) (Nat.le_of_ble_eq_true rfl) dX1_checkNumbers_12
  · replace hw := hw.2 c_
    exact vx_throw0 (cls := "java/lang/ArithmeticException") (names := excNames) (A := A) hx hb hlt hown (by decide +kernel) (by decide +kernel) (hts _ q1718) (hts _ q96) (tw_hat hts hPF tw_X1_18_ArithmeticException) (tw_ot (by decide +kernel)) hPF.u.1 hPF.u.2 hG.2 (hl.1.trans hml.symm) dX1_checkNumbers_4 dX1_checkNumbers_7 dX1_checkNumbers_8 dX1_checkNumbers_11 (fun x hx9 => (htab x hx9).elim) (Nat.le_of_ble_eq_true rfl) (by (try simp only [List.map, va_rf_cat, gcat_i, gcat_r, gcat_l, gcat_d, gcat_f, gcat_n]); exact Nat.le_of_ble_eq_true rfl) (Nat.le_of_ble_eq_true rfl) (Nat.le_of_ble_eq_true rfl) hlk (fun q t hq hW hz hk => gthrown hG (hw q (Classical.byContradiction fun h => Nat.lt_irrefl _ (Nat.lt_of_lt_of_le (gat_lt (hG.1.1 q h).1) hq))) hz hk) hG.2.2.2 (Nat.le_of_ble_eq_true rfl) (Nat.le_of_ble_eq_true rfl)
def gw_X1_meanWell_L27 (E : gE) (p0 : Nat) (post : UInt64 → Gh → Prop) (px : String → Nat → Gh → Prop) (x2 : Int32) (t0 : Int32) (G : Gh) : Prop := gw_X1_checkNumbers E (fun G6 => gMon G G6 → (∃ q7, (gR G6 p0 0) = some q7 ∧ (gC G6 q7 = 2 ∧ (∃ q9, (gR G6 q7 1) = some q9 ∧ (gw_X1_sum E (fun r11 G10 => gMon G6 G10 → (vf_n64 (FP.ddiv (FP.i2d r11) (FP.i2d x2)) ∧ (post (FP.ddiv (FP.i2d r11) (FP.i2d x2)) G10))) q9 (eZ E 50) (eZ E 51) G6))))) px t0 G
def gw_X1_meanWell (E : gE) (post : UInt64 → Gh → Prop) (px : String → Nat → Gh → Prop) (p0 : Nat) (G : Gh) : Prop := gK G p0 = 1 ∧ (∃ q1, (gR G p0 0) = some q1 ∧ (gC G q1 = 2 ∧ (∃ q3, (gR G q1 1) = some q3 ∧ (gw_X1_count E (fun r5 G4 => gMon G G4 → ((r5 ≤ 0 → (gw_X1_meanWell_L27 E p0 post px  r5 0 G4)) ∧ (¬ r5 ≤ 0 → (gw_X1_meanWell_L27 E p0 post px  r5 1 G4)))) q3 (eZ E 50) G))))
theorem hd_X1_meanWell : yX1_meanWell.cls = RX1 ∧ yX1_meanWell.cls ≠ "java/lang/invoke/MethodHandle" ∧ yX1_meanWell.cls ≠ "java/lang/invoke/VarHandle" ∧ (parseMethodDescriptor yX1_meanWell.desc).map (fun d => d.parameters.length) = some 0 := by decide +kernel
theorem hdn_X1_meanWell : yX1_meanWell.cls ≠ "java/lang/invoke/MethodHandle" ∧ yX1_meanWell.cls ≠ "java/lang/invoke/VarHandle" ∧ (parseMethodDescriptor yX1_meanWell.desc).map (fun d => d.parameters.length) = some 0 := hd_X1_meanWell.2
theorem hdu_X1_meanWell : RX1 ≠ "java/lang/invoke/MethodHandle" ∧ RX1 ≠ "java/lang/invoke/VarHandle" ∧ (parseMethodDescriptor yX1_meanWell.desc).map (fun d => d.parameters.length) = some 0 := by decide +kernel
theorem hds_X1_meanWell : yX1_meanWell.name ≠ "<init>" ∧ (parseMethodDescriptor yX1_meanWell.desc).map (fun d => d.parameters.length) = some 0 := by decide +kernel
set_option maxHeartbeats 1000000 in
set_option maxRecDepth 100000 in
theorem gm_X1_meanWell (l : Launch) (hlt : l.stackTraces = false) (E : gE) (p0 : Nat) (post : UInt64 → Gh → Prop) (px : String → Nat → Gh → Prop) (G : Gh) (hw : gw_X1_meanWell E post px p0 G) : gX l E yX1_meanWell (ws_ yX1_meanWell cX1_meanWell 3 (some .double)) ({ frames := 9, cells := 1, slots := 6, locals := 3221 } : Room) 1 6 [.ref p0] G (gpd post) px := by
  refine xof (by decide) (Nat.le_of_ble_eq_true rfl) ?_
  intro p e s m below meth c A ls hx hb hr hlk hml hown hin hts hPF hA htab hG hl
  have hl : lv_has ls 3 [(0, .ref p0)] := hl
  unfold gw_X1_meanWell at hw
  obtain ⟨G0, hG0⟩ : ∃ G0, G0 = G := ⟨_, rfl⟩
  have hG : gS E A G0 s.heap G s.heap [] := by rw [hG0]; exact hG
  rw [show gQ E A G (gpd post) = gQ E A G0 (gpd post) by rw [hG0]]
  rw [show gXC E A G px = gXC E A G0 px by rw [hG0]]
  have h0p0 := hw.1; rw [← hG0] at h0p0
  replace hw := hw.2
  have hL27 : ∀ (x2 : Int32) (t0 : Int32) (G : Gh) (H : Heap) (locs : List Loc) (ls : Array Slot), gS E A G0 s.heap G H locs → lv_has ls 3 [(0, .ref p0), (1, .ref (eZ E 50)), (2, .int x2)] → gw_X1_meanWell_L27 E p0 post px x2 t0 G → W p l e (headSpec (ws_ yX1_meanWell cX1_meanWell 3 (some .double)) ({ frames := 9, cells := 1, slots := 6, locals := 3221 } : Room)).room s m ([.ref p0] : List Value).toArray below meth c H locs 0 0 (vx_MQ below (gQ E A G0 (gpd post)) (gXC E A G0 px) ([.ref p0] : List Value).toArray s 1 6 A) (F0 m 27 ls [.int t0]) := by
    intro x2 t0 G H locs ls hG hl hw
    unfold gw_X1_meanWell_L27 at hw
    refine xc3v hA hG (vx_runS (As := [.int t0]) (rest := []) ⟨hx, hb, hml, hown, hts⟩ (gm_X1_checkNumbers l hlt E t0 _ _ G hw _) (va_cwS 1 hts (lw_S q1715 q1716 q55 q1717) rfl rfl rfl hd_X1_checkNumbers ⟨Nat.le_of_ble_eq_true rfl, Nat.le_of_ble_eq_true rfl⟩) ⟨gblind, fun U hU hW => gpre hPF hA hG _ U hU hW⟩ rfl rfl hl.1 rfl (lv_room (Nat.le_of_ble_eq_true rfl)) dX1_meanWell_27 ⟨(Nat.le_of_ble_eq_true rfl), (Nat.le_of_ble_eq_true rfl)⟩) (fun X ce q Gx H locs hw hmon hG hce hcv hcl => ?_) (fun G6 H locs hw hmon hG => ?_)
    · exact gleave hlk hG (fun x hx9 => (htab x hx9).elim) hce hcv hcl hw (Nat.le_of_ble_eq_true rfl) (Nat.le_of_ble_eq_true rfl)
    · replace hw := hw hmon
      refine lv_aload_n hx hb dX1_meanWell_30 rfl (lv_at hl 0 rfl) ?_
      refine gg hx hb hts hown hPF hG 1 0 rfl in_X1 (by decide) (by decide) (by decide) q539 (fun _ h9 => h9) (gC_of (gK_mon hG.1.2 h0p0 (by decide)) (by decide)) (v := va_rf (gR G6 p0 0)) rfl dX1_meanWell_31 ?_
      obtain ⟨q7, hq7, hw⟩ := hw
      refine W.eq (g2 := F0 m 34 ls [.ref q7]) (by rw [hq7]; rfl) ?_
      have hk8 := hw.1
      replace hw := hw.2
      refine ggN hx hb hts hown hPF hG 2 1 rfl in_X2 (by decide) (by decide) (by decide) q465 (fun _ h9 => h9) hk8 (v := va_rf (gR G6 q7 1)) rfl dX1_meanWell_34 ?_
      refine lv_aload_n hx hb dX1_meanWell_37 rfl (lv_at hl 1 rfl) ?_
      refine glct (rest := [.ref (eZ E 50), va_rf (gR G6 q7 1)]) hx hb hml hl.1 21 rfl rfl hin.1 hPF (by (try simp only [List.map, va_rf_cat, gcat_i, gcat_r, gcat_l, gcat_d, gcat_f, gcat_n]); exact Nat.le_of_ble_eq_true rfl) dX1_meanWell_38 ?_
      obtain ⟨q9, hq9, hw⟩ := hw
      refine W.eq (g2 := F0 m 43 ls [.ref (eZ E 51), .ref (eZ E 50), .ref q9]) (by rw [hq9]; rfl) ?_
      refine gc3i hA hG (va_runS (As := [.ref q9, .ref (eZ E 50), .ref (eZ E 51)]) (rest := []) ⟨hx, hb, hml, hown, hts⟩ (gm_X1_sum l E q9 (eZ E 50) (eZ E 51) _ G6 hw _) (va_cwS 3 hts (lw_S q1688 q588 q55 q589) rfl rfl rfl hd_X1_sum ⟨Nat.le_of_ble_eq_true rfl, Nat.le_of_ble_eq_true rfl⟩) ⟨gblind, fun U hU hW => gpre hPF hA hG _ U hU hW⟩ rfl rfl hl.1 rfl (lv_room (Nat.le_of_ble_eq_true rfl)) dX1_meanWell_43 ⟨(Nat.le_of_ble_eq_true rfl), (Nat.le_of_ble_eq_true rfl)⟩) (fun r11 G10 H locs hw hmon hG => ?_)
      replace hw := hw hmon
      have hk8 : gC G10 q7 = 2 := gC_mon hmon hk8 (by decide)
      refine lv_i2d hx hb dX1_meanWell_46 ?_
      refine lv_iload_n hx hb dX1_meanWell_47 rfl (lv_at hl 2 rfl) ?_
      refine lv_i2d hx hb dX1_meanWell_48 ?_
      refine lv_ddiv hx hb dX1_meanWell_49 hw.1 ?_
      replace hw := hw.2
      exact xretd hx hb hr hlk hG hw (Nat.le_of_ble_eq_true rfl) (Nat.le_of_ble_eq_true rfl) dX1_meanWell_50
  refine glct (rest := []) hx hb hml hl.1 20 rfl rfl hin.1 hPF (by (try simp only [List.map, va_rf_cat, gcat_i, gcat_r, gcat_l, gcat_d, gcat_f, gcat_n]); exact Nat.le_of_ble_eq_true rfl) dX1_meanWell_0 ?_
  refine lv_astore_n (i := 1) (lv' := [(1, .ref (eZ E 50)), (0, .ref p0)]) hx hb dX1_meanWell_5 rfl hl (by decide) rfl (fun ls hl => ?_)
  refine lv_aload_n hx hb dX1_meanWell_6 rfl (lv_at hl 1 rfl) ?_
  refine gg hx hb hts hown hPF hG 1 0 rfl in_X1 (by decide) (by decide) (by decide) q539 (fun _ h9 => h9) (gC_of (gK_mon hG.1.2 h0p0 (by decide)) (by decide)) (v := va_rf (gR G p0 0)) rfl dX1_meanWell_7 ?_
  obtain ⟨q1, hq1, hw⟩ := hw
  refine W.eq (g2 := F0 m 10 ls [.ref q1]) (by rw [hq1]; rfl) ?_
  have hk2 := hw.1
  replace hw := hw.2
  refine ggN hx hb hts hown hPF hG 2 1 rfl in_X2 (by decide) (by decide) (by decide) q465 (fun _ h9 => h9) hk2 (v := va_rf (gR G q1 1)) rfl dX1_meanWell_10 ?_
  refine lv_aload_n hx hb dX1_meanWell_13 rfl (lv_at hl 0 rfl) ?_
  obtain ⟨q3, hq3, hw⟩ := hw
  refine W.eq (g2 := F0 m 14 ls [.ref (eZ E 50), .ref q3]) (by rw [hq3]; rfl) ?_
  refine gc3i hA hG (va_runS (As := [.ref q3, .ref (eZ E 50)]) (rest := []) ⟨hx, hb, hml, hown, hts⟩ (gm_X1_count l E q3 (eZ E 50) _ G hw _) (va_cwS 2 hts (lw_S q1714 q1684 q55 q1685) rfl rfl rfl hd_X1_count ⟨Nat.le_of_ble_eq_true rfl, Nat.le_of_ble_eq_true rfl⟩) ⟨gblind, fun U hU hW => gpre hPF hA hG _ U hU hW⟩ rfl rfl hl.1 rfl (lv_room (Nat.le_of_ble_eq_true rfl)) dX1_meanWell_14 ⟨(Nat.le_of_ble_eq_true rfl), (Nat.le_of_ble_eq_true rfl)⟩) (fun r5 G4 H locs hw hmon hG => ?_)
  replace hw := hw hmon
  have hk2 : gC G4 q1 = 2 := gC_mon hmon hk2 (by decide)
  refine lv_istore_n (i := 2) (lv' := [(2, .int r5), (1, .ref (eZ E 50)), (0, .ref p0)]) hx hb dX1_meanWell_17 rfl hl (by decide) rfl (fun ls hl => ?_)
  refine lv_iload_n hx hb dX1_meanWell_18 rfl (lv_at hl 0 rfl) ?_
  refine lv_if_le (tgt := 26) hx hb dX1_meanWell_19 (by decide) (fun c_ => ?_) (fun c_ => ?_)
  · replace hw := hw.1 c_
    refine lv_iconst (v := 0) hx hb dX1_meanWell_26 (by decide) ?_
    refine W.widen (k := 0) (n := 0) (Nat.le_of_ble_eq_true rfl) (Nat.le_of_ble_eq_true rfl) ?_
    exact hL27  r5 0 G4 _ _ ls hG (lv_sub hl [2, 1, 0] rfl) hw
  · replace hw := hw.2 c_
    refine lv_iconst (v := 1) hx hb dX1_meanWell_22 (by decide) ?_
    refine lv_goto (tgt := 27) hx hb dX1_meanWell_23 (by decide) ?_
    refine W.widen (k := 0) (n := 0) (Nat.le_of_ble_eq_true rfl) (Nat.le_of_ble_eq_true rfl) ?_
    exact hL27  r5 1 G4 _ _ ls hG (lv_sub hl [2, 1, 0] rfl) hw
def gw_X1_secondShare_L15 (E : gE) (p0 : Nat) (post : UInt32 → Gh → Prop) (px : String → Nat → Gh → Prop) (t0 : Int32) (G : Gh) : Prop := gw_X1_checkNumbers E (fun G3 => gMon G G3 → (∃ q4, (gR G3 p0 0) = some q4 ∧ (gC G3 q4 = 2 ∧ (vf_n32 (FP.fdiv (FP.i2f ((gI G3 q4 12) + (gI G3 q4 13))) (FP.i2f (gI G3 q4 10))) ∧ (post (FP.fdiv (FP.i2f ((gI G3 q4 12) + (gI G3 q4 13))) (FP.i2f (gI G3 q4 10))) G3))))) px t0 G
def gw_X1_secondShare (E : gE) (post : UInt32 → Gh → Prop) (px : String → Nat → Gh → Prop) (p0 : Nat) (G : Gh) : Prop := gK G p0 = 1 ∧ (∃ q1, (gR G p0 0) = some q1 ∧ (gC G q1 = 2 ∧ (((gI G q1 10) ≤ 0 → (gw_X1_secondShare_L15 E p0 post px  0 G)) ∧ (¬ (gI G q1 10) ≤ 0 → (gw_X1_secondShare_L15 E p0 post px  1 G)))))
theorem hd_X1_secondShare : yX1_secondShare.cls = RX1 ∧ yX1_secondShare.cls ≠ "java/lang/invoke/MethodHandle" ∧ yX1_secondShare.cls ≠ "java/lang/invoke/VarHandle" ∧ (parseMethodDescriptor yX1_secondShare.desc).map (fun d => d.parameters.length) = some 0 := by decide +kernel
theorem hdn_X1_secondShare : yX1_secondShare.cls ≠ "java/lang/invoke/MethodHandle" ∧ yX1_secondShare.cls ≠ "java/lang/invoke/VarHandle" ∧ (parseMethodDescriptor yX1_secondShare.desc).map (fun d => d.parameters.length) = some 0 := hd_X1_secondShare.2
theorem hdu_X1_secondShare : RX1 ≠ "java/lang/invoke/MethodHandle" ∧ RX1 ≠ "java/lang/invoke/VarHandle" ∧ (parseMethodDescriptor yX1_secondShare.desc).map (fun d => d.parameters.length) = some 0 := by decide +kernel
theorem hds_X1_secondShare : yX1_secondShare.name ≠ "<init>" ∧ (parseMethodDescriptor yX1_secondShare.desc).map (fun d => d.parameters.length) = some 0 := by decide +kernel
set_option maxHeartbeats 1000000 in
set_option maxRecDepth 100000 in
theorem gm_X1_secondShare (l : Launch) (hlt : l.stackTraces = false) (E : gE) (p0 : Nat) (post : UInt32 → Gh → Prop) (px : String → Nat → Gh → Prop) (G : Gh) (hw : gw_X1_secondShare E post px p0 G) : gX l E yX1_secondShare (ws_ yX1_secondShare cX1_secondShare 1 (some .float)) ({ frames := 9, cells := 1, slots := 6, locals := 140 } : Room) 1 6 [.ref p0] G (gpf post) px := by
  refine xof (by decide) (Nat.le_of_ble_eq_true rfl) ?_
  intro p e s m below meth c A ls hx hb hr hlk hml hown hin hts hPF hA htab hG hl
  have hl : lv_has ls 1 [(0, .ref p0)] := hl
  unfold gw_X1_secondShare at hw
  obtain ⟨G0, hG0⟩ : ∃ G0, G0 = G := ⟨_, rfl⟩
  have hG : gS E A G0 s.heap G s.heap [] := by rw [hG0]; exact hG
  rw [show gQ E A G (gpf post) = gQ E A G0 (gpf post) by rw [hG0]]
  rw [show gXC E A G px = gXC E A G0 px by rw [hG0]]
  have h0p0 := hw.1; rw [← hG0] at h0p0
  replace hw := hw.2
  have hL15 : ∀ (t0 : Int32) (G : Gh) (H : Heap) (locs : List Loc) (ls : Array Slot), gS E A G0 s.heap G H locs → lv_has ls 1 [(0, .ref p0)] → gw_X1_secondShare_L15 E p0 post px t0 G → W p l e (headSpec (ws_ yX1_secondShare cX1_secondShare 1 (some .float)) ({ frames := 9, cells := 1, slots := 6, locals := 140 } : Room)).room s m ([.ref p0] : List Value).toArray below meth c H locs 0 0 (vx_MQ below (gQ E A G0 (gpf post)) (gXC E A G0 px) ([.ref p0] : List Value).toArray s 1 6 A) (F0 m 15 ls [.int t0]) := by
    intro t0 G H locs ls hG hl hw
    unfold gw_X1_secondShare_L15 at hw
    refine xc3v hA hG (vx_runS (As := [.int t0]) (rest := []) ⟨hx, hb, hml, hown, hts⟩ (gm_X1_checkNumbers l hlt E t0 _ _ G hw _) (va_cwS 1 hts (lw_S q1715 q1716 q55 q1717) rfl rfl rfl hd_X1_checkNumbers ⟨Nat.le_of_ble_eq_true rfl, Nat.le_of_ble_eq_true rfl⟩) ⟨gblind, fun U hU hW => gpre hPF hA hG _ U hU hW⟩ rfl rfl hl.1 rfl (lv_room (Nat.le_of_ble_eq_true rfl)) dX1_secondShare_15 ⟨(Nat.le_of_ble_eq_true rfl), (Nat.le_of_ble_eq_true rfl)⟩) (fun X ce q Gx H locs hw hmon hG hce hcv hcl => ?_) (fun G3 H locs hw hmon hG => ?_)
    · exact gleave hlk hG (fun x hx9 => (htab x hx9).elim) hce hcv hcl hw (Nat.le_of_ble_eq_true rfl) (Nat.le_of_ble_eq_true rfl)
    · replace hw := hw hmon
      refine lv_aload_n hx hb dX1_secondShare_18 rfl (lv_at hl 0 rfl) ?_
      refine gg hx hb hts hown hPF hG 1 0 rfl in_X1 (by decide) (by decide) (by decide) q539 (fun _ h9 => h9) (gC_of (gK_mon hG.1.2 h0p0 (by decide)) (by decide)) (v := va_rf (gR G3 p0 0)) rfl dX1_secondShare_19 ?_
      obtain ⟨q4, hq4, hw⟩ := hw
      refine W.eq (g2 := F0 m 22 ls [.ref q4]) (by rw [hq4]; rfl) ?_
      have hk5 := hw.1
      replace hw := hw.2
      refine ggN hx hb hts hown hPF hG 2 12 rfl in_X2 (by decide) (by decide) (by decide) q487 (fun _ h9 => h9) hk5 (v := .int (gI G3 q4 12)) rfl dX1_secondShare_22 ?_
      refine lv_aload_n hx hb dX1_secondShare_25 rfl (lv_at hl 0 rfl) ?_
      refine gg hx hb hts hown hPF hG 1 0 rfl in_X1 (by decide) (by decide) (by decide) q539 (fun _ h9 => h9) (gC_of (gK_mon hG.1.2 h0p0 (by decide)) (by decide)) (v := va_rf (gR G3 p0 0)) rfl dX1_secondShare_26 ?_
      refine W.eq (g2 := F0 m 29 ls [.ref q4, .int (gI G3 q4 12)]) (by rw [hq4]; rfl) ?_
      refine ggN hx hb hts hown hPF hG 2 13 rfl in_X2 (by decide) (by decide) (by decide) q489 (fun _ h9 => h9) hk5 (v := .int (gI G3 q4 13)) rfl dX1_secondShare_29 ?_
      refine lv_iadd hx hb dX1_secondShare_32 ?_
      refine lv_i2f hx hb dX1_secondShare_33 ?_
      refine lv_aload_n hx hb dX1_secondShare_34 rfl (lv_at hl 0 rfl) ?_
      refine gg hx hb hts hown hPF hG 1 0 rfl in_X1 (by decide) (by decide) (by decide) q539 (fun _ h9 => h9) (gC_of (gK_mon hG.1.2 h0p0 (by decide)) (by decide)) (v := va_rf (gR G3 p0 0)) rfl dX1_secondShare_35 ?_
      refine W.eq (g2 := F0 m 38 ls [.ref q4, .float (FP.i2f ((gI G3 q4 12) + (gI G3 q4 13)))]) (by rw [hq4]; rfl) ?_
      refine ggN hx hb hts hown hPF hG 2 10 rfl in_X2 (by decide) (by decide) (by decide) q483 (fun _ h9 => h9) hk5 (v := .int (gI G3 q4 10)) rfl dX1_secondShare_38 ?_
      refine lv_i2f hx hb dX1_secondShare_41 ?_
      refine lv_fdiv hx hb dX1_secondShare_42 hw.1 ?_
      replace hw := hw.2
      exact xretf hx hb hr hlk hG hw (Nat.le_of_ble_eq_true rfl) (Nat.le_of_ble_eq_true rfl) dX1_secondShare_43
  refine lv_aload_n hx hb dX1_secondShare_0 rfl (lv_at hl 0 rfl) ?_
  refine gg hx hb hts hown hPF hG 1 0 rfl in_X1 (by decide) (by decide) (by decide) q539 (fun _ h9 => h9) (gC_of (gK_mon hG.1.2 h0p0 (by decide)) (by decide)) (v := va_rf (gR G p0 0)) rfl dX1_secondShare_1 ?_
  obtain ⟨q1, hq1, hw⟩ := hw
  refine W.eq (g2 := F0 m 4 ls [.ref q1]) (by rw [hq1]; rfl) ?_
  have hk2 := hw.1
  replace hw := hw.2
  refine ggN hx hb hts hown hPF hG 2 10 rfl in_X2 (by decide) (by decide) (by decide) q483 (fun _ h9 => h9) hk2 (v := .int (gI G q1 10)) rfl dX1_secondShare_4 ?_
  refine lv_if_le (tgt := 14) hx hb dX1_secondShare_7 (by decide) (fun c_ => ?_) (fun c_ => ?_)
  · replace hw := hw.1 c_
    refine lv_iconst (v := 0) hx hb dX1_secondShare_14 (by decide) ?_
    refine W.widen (k := 0) (n := 0) (Nat.le_of_ble_eq_true rfl) (Nat.le_of_ble_eq_true rfl) ?_
    exact hL15  0 G _ _ ls hG (lv_sub hl [0] rfl) hw
  · replace hw := hw.2 c_
    refine lv_iconst (v := 1) hx hb dX1_secondShare_10 (by decide) ?_
    refine lv_goto (tgt := 15) hx hb dX1_secondShare_11 (by decide) ?_
    refine W.widen (k := 0) (n := 0) (Nat.le_of_ble_eq_true rfl) (Nat.le_of_ble_eq_true rfl) ?_
    exact hL15  1 G _ _ ls hG (lv_sub hl [0] rfl) hw
def gw_X1_append_L57 (E : gE) (p0 : Nat) (post : Int32 → Gh → Prop) (px : String → Nat → Gh → Prop) (k5 : Int32 → Int32 → Int32 → Nat → Nat → Gh → Prop) (x1 : Int32) (x3 : Int32) (t0 : Int32) (t1 : Int32) (cB : Nat) (zB : Nat) (G : Gh) : Prop := k5 x1 (t1 + t0) (x3 + (-8)) cB zB G
def gw_X1_append_L43 (E : gE) (p0 : Nat) (post : Int32 → Gh → Prop) (px : String → Nat → Gh → Prop) (k5 : Int32 → Int32 → Int32 → Nat → Nat → Gh → Prop) (x1 : Int32) (x2 : Int32) (x3 : Int32) (x4 : Int32) (t0 : Int32) (cB : Nat) (zB : Nat) (G : Gh) : Prop := (cB + 1 ≤ 300 ∧ zB + 6 ≤ 8000) ∧ (gw_X1_checkArgument E (fun G12 => gMon G G12 → ((¬ x4 = 0 → (gw_X1_append_L57 E p0 post px k5 x1 x3 1 x2 (cB + 1) (zB + 6) G12)) ∧ (x4 = 0 → (gw_X1_append_L57 E p0 post px k5 x1 x3 0 x2 (cB + 1) (zB + 6) G12)))) px t0 G)
def gw_X1_append_L38 (E : gE) (p0 : Nat) (post : Int32 → Gh → Prop) (px : String → Nat → Gh → Prop) (k5 : Int32 → Int32 → Int32 → Nat → Nat → Gh → Prop) (x1 : Int32) (x2 : Int32) (x3 : Int32) (x4 : Int32) (cB : Nat) (zB : Nat) (G : Gh) : Prop := gw_X1_append_L43 E p0 post px k5 x1 x2 x3 x4 1 cB zB G
def gw_X1_append_L119 (E : gE) (p0 : Nat) (post : Int32 → Gh → Prop) (px : String → Nat → Gh → Prop) (k90 : Int32 → Int32 → Nat → Nat → Gh → Prop) (x1 : Int32) (x3 : Int32) (cB : Nat) (zB : Nat) (G : Gh) : Prop := k90 x1 (x3 + (-8)) cB zB G
def gw_X1_append_L90 (E : gE) (p0 : Nat) (post : Int32 → Gh → Prop) (px : String → Nat → Gh → Prop) : Nat → Int32 → Int32 → Nat → Nat → Gh → Prop
  | 0, _, _, _, _, _ => False
  | n + 1, x1, x3, cB, zB, G => (x3 < 0 → (∃ q13, (gR G p0 3) = some q13 ∧ (gC G q13 = 16 ∧ ((cB + 0 ≤ 300 ∧ zB + 0 ≤ 8000) ∧ (gw_J8_length E (fun r17 G16 => gMon G G16 → ((cB ≤ 300 ∧ zB ≤ 8000) ∧ (post r17 G16))) q13 G))))) ∧ (¬ x3 < 0 → (((((x1.toUInt32 >>> (x3.toUInt32 &&& Int32.toUInt32 31)).toInt32) &&& 255) = 0 → (gw_X1_append_L119 E p0 post px (fun x1' x3' cB' zB' G' => gw_X1_append_L90 E p0 post px  n x1' x3' cB' zB' G') x1 x3 cB zB G)) ∧ (¬ (((x1.toUInt32 >>> (x3.toUInt32 &&& Int32.toUInt32 31)).toInt32) &&& 255) = 0 → (∃ q18, (gR G p0 3) = some q18 ∧ (gC G q18 = 16 ∧ ((cB + 1 ≤ 300 ∧ zB + 200 ≤ 8000) ∧ (gw_J8_append_3 E (fun r22 G21 => gMon G G21 → (gw_X1_append_L119 E p0 post px (fun x1' x3' cB' zB' G' => gw_X1_append_L90 E p0 post px  n x1' x3' cB' zB' G') x1 x3 (cB + 1) (zB + 200) G21)) q18 (((((x1.toUInt32 >>> (x3.toUInt32 &&& Int32.toUInt32 31)).toInt32) &&& 255).toUInt32 % 65536).toInt32) G)))))))
def gw_X1_append_L84 (E : gE) (p0 : Nat) (post : Int32 → Gh → Prop) (px : String → Nat → Gh → Prop) (x1 : Int32) (t0 : Int32) (cB : Nat) (zB : Nat) (G : Gh) : Prop := (cB + 1 ≤ 300 ∧ zB + 6 ≤ 8000) ∧ (gw_X1_checkState E (fun G10 => gMon G G10 → ((∃ n, gw_X1_append_L90 E p0 post px  n x1 24 (cB + 1) (zB + 6) G10))) px t0 G)
def gw_X1_append_L5 (E : gE) (p0 : Nat) (post : Int32 → Gh → Prop) (px : String → Nat → Gh → Prop) : Nat → Int32 → Int32 → Int32 → Nat → Nat → Gh → Prop
  | 0, _, _, _, _, _, _ => False
  | n + 1, x1, x2, x3, cB, zB, G => (x3 < 0 → (∃ q1, (gR G p0 3) = some q1 ∧ (gC G q1 = 16 ∧ ((cB + 0 ≤ 300 ∧ zB + 0 ≤ 8000) ∧ (gw_J8_length E (fun r5 G4 => gMon G G4 → ((60 < (r5 + x2) → (gw_X1_append_L84 E p0 post px  x1 0 cB zB G4)) ∧ (¬ 60 < (r5 + x2) → (gw_X1_append_L84 E p0 post px  x1 1 cB zB G4)))) q1 G))))) ∧ (¬ x3 < 0 → (((((x1.toUInt32 >>> (x3.toUInt32 &&& Int32.toUInt32 31)).toInt32) &&& 255) = 0 → (gw_X1_append_L38 E p0 post px (fun x1' x2' x3' cB' zB' G' => gw_X1_append_L5 E p0 post px  n x1' x2' x3' cB' zB' G') x1 x2 x3 (((x1.toUInt32 >>> (x3.toUInt32 &&& Int32.toUInt32 31)).toInt32) &&& 255) cB zB G)) ∧ (¬ (((x1.toUInt32 >>> (x3.toUInt32 &&& Int32.toUInt32 31)).toInt32) &&& 255) = 0 → ((cB + 0 ≤ 300 ∧ zB + 0 ≤ 8000) ∧ (gw_X1_inRange E (fun r8 G7 => gMon G G7 → ((r8 = 0 → (gw_X1_append_L43 E p0 post px (fun x1' x2' x3' cB' zB' G' => gw_X1_append_L5 E p0 post px  n x1' x2' x3' cB' zB' G') x1 x2 x3 (((x1.toUInt32 >>> (x3.toUInt32 &&& Int32.toUInt32 31)).toInt32) &&& 255) 0 cB zB G7)) ∧ (¬ r8 = 0 → (gw_X1_append_L38 E p0 post px (fun x1' x2' x3' cB' zB' G' => gw_X1_append_L5 E p0 post px  n x1' x2' x3' cB' zB' G') x1 x2 x3 (((x1.toUInt32 >>> (x3.toUInt32 &&& Int32.toUInt32 31)).toInt32) &&& 255) cB zB G7)))) ((((x1.toUInt32 >>> (x3.toUInt32 &&& Int32.toUInt32 31)).toInt32) &&& 255).toInt64) 32 126 G)))))
def gw_X1_append (E : gE) (post : Int32 → Gh → Prop) (px : String → Nat → Gh → Prop) (p0 : Nat) (p1 : Int32) (G : Gh) : Prop := gK G p0 = 1 ∧ ((∃ n, gw_X1_append_L5 E p0 post px  n p1 0 24 0 0 G))
theorem hd_X1_append : yX1_append.cls = RX1 ∧ yX1_append.cls ≠ "java/lang/invoke/MethodHandle" ∧ yX1_append.cls ≠ "java/lang/invoke/VarHandle" ∧ (parseMethodDescriptor yX1_append.desc).map (fun d => d.parameters.length) = some 1 := by decide +kernel
theorem hdn_X1_append : yX1_append.cls ≠ "java/lang/invoke/MethodHandle" ∧ yX1_append.cls ≠ "java/lang/invoke/VarHandle" ∧ (parseMethodDescriptor yX1_append.desc).map (fun d => d.parameters.length) = some 1 := hd_X1_append.2
theorem hdu_X1_append : RX1 ≠ "java/lang/invoke/MethodHandle" ∧ RX1 ≠ "java/lang/invoke/VarHandle" ∧ (parseMethodDescriptor yX1_append.desc).map (fun d => d.parameters.length) = some 1 := by decide +kernel
theorem hds_X1_append : yX1_append.name ≠ "<init>" ∧ (parseMethodDescriptor yX1_append.desc).map (fun d => d.parameters.length) = some 1 := by decide +kernel
set_option maxHeartbeats 1000000 in
set_option maxRecDepth 100000 in
theorem gm_X1_append (l : Launch) (hlt : l.stackTraces = false) (E : gE) (p0 : Nat) (p1 : Int32) (post : Int32 → Gh → Prop) (px : String → Nat → Gh → Prop) (G : Gh) (hw : gw_X1_append E post px p0 p1 G) : gX l E yX1_append (ws_ yX1_append cX1_append 5 (some .int)) ({ frames := 9, cells := 300, slots := 8000, locals := 152 } : Room) 300 8000 [.ref p0, .int p1] G (gpi post) px := by
  refine xof (by decide) (Nat.le_of_ble_eq_true rfl) ?_
  intro p e s m below meth c A ls hx hb hr hlk hml hown hin hts hPF hA htab hG hl
  have hl : lv_has ls 5 [(0, .ref p0), (1, .int p1)] := hl
  unfold gw_X1_append at hw
  obtain ⟨G0, hG0⟩ : ∃ G0, G0 = G := ⟨_, rfl⟩
  have hG : gS E A G0 s.heap G s.heap [] := by rw [hG0]; exact hG
  rw [show gQ E A G (gpi post) = gQ E A G0 (gpi post) by rw [hG0]]
  rw [show gXC E A G px = gXC E A G0 px by rw [hG0]]
  have h0p0 := hw.1; rw [← hG0] at h0p0
  replace hw := hw.2
  have hL57 : ∀ (k5 : Int32 → Int32 → Int32 → Nat → Nat → Gh → Prop) (hk5 : ∀ (x1 : Int32) (x2 : Int32) (x3 : Int32) (cB : Nat) (zB : Nat) (G : Gh) (H : Heap) (locs : List Loc) (ls : Array Slot), gS E A G0 s.heap G H locs → lv_has ls 5 [(0, .ref p0), (1, .int x1), (2, .int x2), (3, .int x3)] → k5 x1 x2 x3 cB zB G → W p l e (headSpec (ws_ yX1_append cX1_append 5 (some .int)) ({ frames := 9, cells := 300, slots := 8000, locals := 152 } : Room)).room s m ([.ref p0, .int p1] : List Value).toArray below meth c H locs cB zB (vx_MQ below (gQ E A G0 (gpi post)) (gXC E A G0 px) ([.ref p0, .int p1] : List Value).toArray s 300 8000 A) (F0 m 5 ls [])) (x1 : Int32) (x3 : Int32) (t0 : Int32) (t1 : Int32) (cB : Nat) (zB : Nat) (G : Gh) (H : Heap) (locs : List Loc) (ls : Array Slot), gS E A G0 s.heap G H locs → lv_has ls 5 [(0, .ref p0), (1, .int x1), (3, .int x3)] → gw_X1_append_L57 E p0 post px k5 x1 x3 t0 t1 cB zB G → W p l e (headSpec (ws_ yX1_append cX1_append 5 (some .int)) ({ frames := 9, cells := 300, slots := 8000, locals := 152 } : Room)).room s m ([.ref p0, .int p1] : List Value).toArray below meth c H locs cB zB (vx_MQ below (gQ E A G0 (gpi post)) (gXC E A G0 px) ([.ref p0, .int p1] : List Value).toArray s 300 8000 A) (F0 m 57 ls [.int t0, .int t1]) := by
    intro k5 hk5 x1 x3 t0 t1 cB zB G H locs ls hG hl hw
    unfold gw_X1_append_L57 at hw
    refine lv_iadd hx hb dX1_append_57 ?_
    refine lv_istore_n (i := 2) (lv' := [(2, .int (t1 + t0)), (0, .ref p0), (1, .int x1), (3, .int x3)]) hx hb dX1_append_58 rfl hl (by decide) rfl (fun ls hl => ?_)
    refine lv_iinc (v := x3 + (-8)) (lv' := [(3, .int (x3 + (-8))), (2, .int (t1 + t0)), (0, .ref p0), (1, .int x1)]) hx hb dX1_append_59 hl (k := 3) rfl rfl (by decide) rfl (fun ls hl => ?_)
    refine lv_goto (tgt := 5) hx hb dX1_append_62 (by decide) ?_
    refine W.cs (cells' := cB) (slots' := zB) (by simp only [Nat.zero_add, Nat.add_zero, Nat.add_assoc]) (by simp only [Nat.zero_add, Nat.add_zero, Nat.add_assoc]) ?_
    exact hk5 x1 (t1 + t0) (x3 + (-8)) cB zB G _ _ ls hG (lv_sub hl [2, 3, 1, 0] rfl) hw
  have hL43 : ∀ (k5 : Int32 → Int32 → Int32 → Nat → Nat → Gh → Prop) (hk5 : ∀ (x1 : Int32) (x2 : Int32) (x3 : Int32) (cB : Nat) (zB : Nat) (G : Gh) (H : Heap) (locs : List Loc) (ls : Array Slot), gS E A G0 s.heap G H locs → lv_has ls 5 [(0, .ref p0), (1, .int x1), (2, .int x2), (3, .int x3)] → k5 x1 x2 x3 cB zB G → W p l e (headSpec (ws_ yX1_append cX1_append 5 (some .int)) ({ frames := 9, cells := 300, slots := 8000, locals := 152 } : Room)).room s m ([.ref p0, .int p1] : List Value).toArray below meth c H locs cB zB (vx_MQ below (gQ E A G0 (gpi post)) (gXC E A G0 px) ([.ref p0, .int p1] : List Value).toArray s 300 8000 A) (F0 m 5 ls [])) (x1 : Int32) (x2 : Int32) (x3 : Int32) (x4 : Int32) (t0 : Int32) (cB : Nat) (zB : Nat) (G : Gh) (H : Heap) (locs : List Loc) (ls : Array Slot), gS E A G0 s.heap G H locs → lv_has ls 5 [(0, .ref p0), (1, .int x1), (2, .int x2), (3, .int x3), (4, .int x4)] → gw_X1_append_L43 E p0 post px k5 x1 x2 x3 x4 t0 cB zB G → W p l e (headSpec (ws_ yX1_append cX1_append 5 (some .int)) ({ frames := 9, cells := 300, slots := 8000, locals := 152 } : Room)).room s m ([.ref p0, .int p1] : List Value).toArray below meth c H locs cB zB (vx_MQ below (gQ E A G0 (gpi post)) (gXC E A G0 px) ([.ref p0, .int p1] : List Value).toArray s 300 8000 A) (F0 m 43 ls [.int t0]) := by
    intro k5 hk5 x1 x2 x3 x4 t0 cB zB G H locs ls hG hl hw
    unfold gw_X1_append_L43 at hw
    have hb11 := hw.1
    replace hw := hw.2
    refine xc3v hA hG (vx_runS (As := [.int t0]) (rest := []) ⟨hx, hb, hml, hown, hts⟩ (gm_X1_checkArgument l hlt E t0 _ _ G hw _) (va_cwS 1 hts (lw_S q1357 q640 q55 q641) rfl rfl rfl hd_X1_checkArgument ⟨Nat.le_of_ble_eq_true rfl, Nat.le_of_ble_eq_true rfl⟩) ⟨gblind, fun U hU hW => gpre hPF hA hG _ U hU hW⟩ rfl rfl hl.1 rfl (lv_room (Nat.le_of_ble_eq_true rfl)) dX1_append_43 ⟨(Nat.le_trans (Nat.le_of_eq (by simp only [Nat.add_assoc, Nat.zero_add, Nat.add_zero])) hb11.1), (Nat.le_trans (Nat.le_of_eq (by simp only [Nat.add_assoc, Nat.zero_add, Nat.add_zero])) hb11.2)⟩) (fun X ce q Gx H locs hw hmon hG hce hcv hcl => ?_) (fun G12 H locs hw hmon hG => ?_)
    · exact gleave hlk hG (fun x hx9 => (htab x hx9).elim) hce hcv hcl hw (Nat.le_trans (Nat.le_of_eq (by simp only [Nat.add_assoc, Nat.zero_add, Nat.add_zero])) hb11.1) (Nat.le_trans (Nat.le_of_eq (by simp only [Nat.add_assoc, Nat.zero_add, Nat.add_zero])) hb11.2)
    · replace hw := hw hmon
      refine lv_iload_n hx hb dX1_append_46 rfl (lv_at hl 2 rfl) ?_
      refine lv_iload hx hb dX1_append_47 (lv_at hl 4 rfl) ?_
      refine lv_if_ne (tgt := 56) hx hb dX1_append_49 (by decide) (fun c_ => ?_) (fun c_ => ?_)
      · replace hw := hw.1 c_
        refine lv_iconst (v := 1) hx hb dX1_append_56 (by decide) ?_
        refine W.cs (cells' := cB + 1) (slots' := zB + 6) (by simp only [Nat.zero_add, Nat.add_zero, Nat.add_assoc]) (by simp only [Nat.zero_add, Nat.add_zero, Nat.add_assoc]) ?_
        exact hL57 k5 hk5 x1 x3 1 x2 (cB + 1) (zB + 6) G12 _ _ ls hG (lv_sub hl [0, 1, 3] rfl) hw
      · replace hw := hw.2 c_
        refine lv_iconst (v := 0) hx hb dX1_append_52 (by decide) ?_
        refine lv_goto (tgt := 57) hx hb dX1_append_53 (by decide) ?_
        refine W.cs (cells' := cB + 1) (slots' := zB + 6) (by simp only [Nat.zero_add, Nat.add_zero, Nat.add_assoc]) (by simp only [Nat.zero_add, Nat.add_zero, Nat.add_assoc]) ?_
        exact hL57 k5 hk5 x1 x3 0 x2 (cB + 1) (zB + 6) G12 _ _ ls hG (lv_sub hl [0, 1, 3] rfl) hw
  have hL38 : ∀ (k5 : Int32 → Int32 → Int32 → Nat → Nat → Gh → Prop) (hk5 : ∀ (x1 : Int32) (x2 : Int32) (x3 : Int32) (cB : Nat) (zB : Nat) (G : Gh) (H : Heap) (locs : List Loc) (ls : Array Slot), gS E A G0 s.heap G H locs → lv_has ls 5 [(0, .ref p0), (1, .int x1), (2, .int x2), (3, .int x3)] → k5 x1 x2 x3 cB zB G → W p l e (headSpec (ws_ yX1_append cX1_append 5 (some .int)) ({ frames := 9, cells := 300, slots := 8000, locals := 152 } : Room)).room s m ([.ref p0, .int p1] : List Value).toArray below meth c H locs cB zB (vx_MQ below (gQ E A G0 (gpi post)) (gXC E A G0 px) ([.ref p0, .int p1] : List Value).toArray s 300 8000 A) (F0 m 5 ls [])) (x1 : Int32) (x2 : Int32) (x3 : Int32) (x4 : Int32) (cB : Nat) (zB : Nat) (G : Gh) (H : Heap) (locs : List Loc) (ls : Array Slot), gS E A G0 s.heap G H locs → lv_has ls 5 [(0, .ref p0), (1, .int x1), (2, .int x2), (3, .int x3), (4, .int x4)] → gw_X1_append_L38 E p0 post px k5 x1 x2 x3 x4 cB zB G → W p l e (headSpec (ws_ yX1_append cX1_append 5 (some .int)) ({ frames := 9, cells := 300, slots := 8000, locals := 152 } : Room)).room s m ([.ref p0, .int p1] : List Value).toArray below meth c H locs cB zB (vx_MQ below (gQ E A G0 (gpi post)) (gXC E A G0 px) ([.ref p0, .int p1] : List Value).toArray s 300 8000 A) (F0 m 38 ls []) := by
    intro k5 hk5 x1 x2 x3 x4 cB zB G H locs ls hG hl hw
    unfold gw_X1_append_L38 at hw
    refine lv_iconst (v := 1) hx hb dX1_append_38 (by decide) ?_
    refine lv_goto (tgt := 43) hx hb dX1_append_39 (by decide) ?_
    refine W.cs (cells' := cB) (slots' := zB) (by simp only [Nat.zero_add, Nat.add_zero, Nat.add_assoc]) (by simp only [Nat.zero_add, Nat.add_zero, Nat.add_assoc]) ?_
    exact hL43 k5 hk5 x1 x2 x3 x4 1 cB zB G _ _ ls hG (lv_sub hl [0, 1, 2, 3, 4] rfl) hw
  have hL119 : ∀ (k90 : Int32 → Int32 → Nat → Nat → Gh → Prop) (hk90 : ∀ (x1 : Int32) (x3 : Int32) (cB : Nat) (zB : Nat) (G : Gh) (H : Heap) (locs : List Loc) (ls : Array Slot), gS E A G0 s.heap G H locs → lv_has ls 5 [(0, .ref p0), (1, .int x1), (3, .int x3)] → k90 x1 x3 cB zB G → W p l e (headSpec (ws_ yX1_append cX1_append 5 (some .int)) ({ frames := 9, cells := 300, slots := 8000, locals := 152 } : Room)).room s m ([.ref p0, .int p1] : List Value).toArray below meth c H locs cB zB (vx_MQ below (gQ E A G0 (gpi post)) (gXC E A G0 px) ([.ref p0, .int p1] : List Value).toArray s 300 8000 A) (F0 m 90 ls [])) (x1 : Int32) (x3 : Int32) (cB : Nat) (zB : Nat) (G : Gh) (H : Heap) (locs : List Loc) (ls : Array Slot), gS E A G0 s.heap G H locs → lv_has ls 5 [(0, .ref p0), (1, .int x1), (3, .int x3)] → gw_X1_append_L119 E p0 post px k90 x1 x3 cB zB G → W p l e (headSpec (ws_ yX1_append cX1_append 5 (some .int)) ({ frames := 9, cells := 300, slots := 8000, locals := 152 } : Room)).room s m ([.ref p0, .int p1] : List Value).toArray below meth c H locs cB zB (vx_MQ below (gQ E A G0 (gpi post)) (gXC E A G0 px) ([.ref p0, .int p1] : List Value).toArray s 300 8000 A) (F0 m 119 ls []) := by
    intro k90 hk90 x1 x3 cB zB G H locs ls hG hl hw
    unfold gw_X1_append_L119 at hw
    refine lv_iinc (v := x3 + (-8)) (lv' := [(3, .int (x3 + (-8))), (0, .ref p0), (1, .int x1)]) hx hb dX1_append_119 hl (k := 2) rfl rfl (by decide) rfl (fun ls hl => ?_)
    refine lv_goto (tgt := 90) hx hb dX1_append_122 (by decide) ?_
    refine W.cs (cells' := cB) (slots' := zB) (by simp only [Nat.zero_add, Nat.add_zero, Nat.add_assoc]) (by simp only [Nat.zero_add, Nat.add_zero, Nat.add_assoc]) ?_
    exact hk90 x1 (x3 + (-8)) cB zB G _ _ ls hG (lv_sub hl [1, 2, 0] rfl) hw
  have hL90 : ∀ (n : Nat) (x1 : Int32) (x3 : Int32) (cB : Nat) (zB : Nat) (G : Gh) (H : Heap) (locs : List Loc) (ls : Array Slot), gS E A G0 s.heap G H locs → lv_has ls 5 [(0, .ref p0), (1, .int x1), (3, .int x3)] → gw_X1_append_L90 E p0 post px n x1 x3 cB zB G → W p l e (headSpec (ws_ yX1_append cX1_append 5 (some .int)) ({ frames := 9, cells := 300, slots := 8000, locals := 152 } : Room)).room s m ([.ref p0, .int p1] : List Value).toArray below meth c H locs cB zB (vx_MQ below (gQ E A G0 (gpi post)) (gXC E A G0 px) ([.ref p0, .int p1] : List Value).toArray s 300 8000 A) (F0 m 90 ls []) := by
    intro n
    induction n with
    | zero => exact fun _ _ _ _ _ _ _ _ _ _ hw => hw.elim
    | succ n ih =>
      intro x1 x3 cB zB G H locs ls hG hl hw
      unfold gw_X1_append_L90 at hw
      refine lv_iload_n hx hb dX1_append_90 rfl (lv_at hl 2 rfl) ?_
      refine lv_if_lt (tgt := 125) hx hb dX1_append_91 (by decide) (fun c_ => ?_) (fun c_ => ?_)
      · replace hw := hw.1 c_
        refine lv_aload_n hx hb dX1_append_125 rfl (lv_at hl 0 rfl) ?_
        refine gg hx hb hts hown hPF hG 1 3 rfl in_X1 (by decide) (by decide) (by decide) q542 (fun _ h9 => h9) (gC_of (gK_mon hG.1.2 h0p0 (by decide)) (by decide)) (v := va_rf (gR G p0 3)) rfl dX1_append_126 ?_
        obtain ⟨q13, hq13, hw⟩ := hw
        refine W.eq (g2 := F0 m 129 ls [.ref q13]) (by rw [hq13]; rfl) ?_
        have hk14 := hw.1
        replace hw := hw.2
        have hb15 := hw.1
        replace hw := hw.2
        refine gc3i hA hG (va_runV (As := []) (rest := []) ⟨hx, hb, hml, hown, hts⟩ (gm_J8_length l E q13 _ G hw _) (cwV 0 hts (lw_V q1689 q376 q2325 q65 q377) rfl rfl rfl hd_J8_length ⟨Nat.le_of_ble_eq_true rfl, Nat.le_of_ble_eq_true rfl⟩) ⟨gblind, grecv hPF hG hk14 (by decide) (by decide) rfl, fun U hU hW => gpre hPF hA hG _ U hU hW⟩ rfl rfl hl.1 rfl (lv_room (Nat.le_of_ble_eq_true rfl)) dX1_append_129 ⟨(Nat.le_trans (Nat.le_of_eq (by simp only [Nat.add_assoc, Nat.zero_add, Nat.add_zero])) hb15.1), (Nat.le_trans (Nat.le_of_eq (by simp only [Nat.add_assoc, Nat.zero_add, Nat.add_zero])) hb15.2)⟩) (fun r17 G16 H locs hw hmon hG => ?_)
        replace hw := hw hmon
        have hk14 : gC G16 q13 = 16 := gC_mon hmon hk14 (by decide)
        have hb_ := hw.1
        replace hw := hw.2
        exact xreti hx hb hr hlk hG rfl hw (Nat.le_trans (Nat.le_of_eq (by simp only [Nat.add_assoc, Nat.add_zero])) hb_.1) (Nat.le_trans (Nat.le_of_eq (by simp only [Nat.add_assoc, Nat.add_zero])) hb_.2) dX1_append_132
      · replace hw := hw.2 c_
        refine lv_iload_n hx hb dX1_append_94 rfl (lv_at hl 1 rfl) ?_
        refine lv_iload_n hx hb dX1_append_95 rfl (lv_at hl 2 rfl) ?_
        refine lv_iushr (v := (x1.toUInt32 >>> (x3.toUInt32 &&& Int32.toUInt32 31)).toInt32) hx hb dX1_append_96 rfl ?_
        refine lv_sipush (v := 255) hx hb dX1_append_97 (by decide) ?_
        refine lv_iand hx hb dX1_append_100 ?_
        refine lv_istore (lv' := [(4, .int (((x1.toUInt32 >>> (x3.toUInt32 &&& Int32.toUInt32 31)).toInt32) &&& 255)), (0, .ref p0), (1, .int x1), (3, .int x3)]) hx hb dX1_append_101 hl (by decide) rfl (fun ls hl => ?_)
        refine lv_iload hx hb dX1_append_103 (lv_at hl 0 rfl) ?_
        refine lv_if_eq (tgt := 119) hx hb dX1_append_105 (by decide) (fun c_ => ?_) (fun c_ => ?_)
        · replace hw := hw.1 c_
          refine W.cs (cells' := cB) (slots' := zB) (by simp only [Nat.zero_add, Nat.add_zero, Nat.add_assoc]) (by simp only [Nat.zero_add, Nat.add_zero, Nat.add_assoc]) ?_
          exact hL119 (fun x1' x3' cB' zB' G' => gw_X1_append_L90 E p0 post px  n x1' x3' cB' zB' G') (fun x1' x3' cB' zB' G' H locs ls hG hl hw => ih x1' x3' cB' zB' G' H locs ls hG hl hw) x1 x3 cB zB G _ _ ls hG (lv_sub hl [1, 2, 3] rfl) hw
        · replace hw := hw.2 c_
          refine lv_aload_n hx hb dX1_append_108 rfl (lv_at hl 1 rfl) ?_
          refine gg hx hb hts hown hPF hG 1 3 rfl in_X1 (by decide) (by decide) (by decide) q542 (fun _ h9 => h9) (gC_of (gK_mon hG.1.2 h0p0 (by decide)) (by decide)) (v := va_rf (gR G p0 3)) rfl dX1_append_109 ?_
          refine lv_iload hx hb dX1_append_112 (lv_at hl 0 rfl) ?_
          refine lv_i2c (v := ((((x1.toUInt32 >>> (x3.toUInt32 &&& Int32.toUInt32 31)).toInt32) &&& 255).toUInt32 % 65536).toInt32) hx hb dX1_append_114 rfl ?_
          obtain ⟨q18, hq18, hw⟩ := hw
          refine W.eq (g2 := F0 m 115 ls [.int (((((x1.toUInt32 >>> (x3.toUInt32 &&& Int32.toUInt32 31)).toInt32) &&& 255).toUInt32 % 65536).toInt32), .ref q18]) (by rw [hq18]; rfl) ?_
          have hk19 := hw.1
          replace hw := hw.2
          have hb20 := hw.1
          replace hw := hw.2
          refine gc3r hA hG (va_runV (As := [.int (((((x1.toUInt32 >>> (x3.toUInt32 &&& Int32.toUInt32 31)).toInt32) &&& 255).toUInt32 % 65536).toInt32)]) (rest := []) ⟨hx, hb, hml, hown, hts⟩ (gm_J8_append_3 l E q18 (((((x1.toUInt32 >>> (x3.toUInt32 &&& Int32.toUInt32 31)).toInt32) &&& 255).toUInt32 % 65536).toInt32) _ G hw _) (cwV 1 hts (lw_V q1741 q1566 q1567 q65 q1568) rfl rfl rfl hd_J8_append_3 ⟨Nat.le_of_ble_eq_true rfl, Nat.le_of_ble_eq_true rfl⟩) ⟨gblind, grecv hPF hG hk19 (by decide) (by decide) rfl, fun U hU hW => gpre hPF hA hG _ U hU hW⟩ rfl rfl hl.1 rfl (lv_room (Nat.le_of_ble_eq_true rfl)) dX1_append_115 ⟨(Nat.le_trans (Nat.le_of_eq (by simp only [Nat.add_assoc, Nat.zero_add, Nat.add_zero])) hb20.1), (Nat.le_trans (Nat.le_of_eq (by simp only [Nat.add_assoc, Nat.zero_add, Nat.add_zero])) hb20.2)⟩) (fun r22 G21 H locs hw hmon hG => ?_)
          replace hw := hw hmon
          have hk19 : gC G21 q18 = 16 := gC_mon hmon hk19 (by decide)
          refine lv_pop hx hb dX1_append_118 (va_rf_cat _) ?_
          refine W.cs (cells' := cB + 1) (slots' := zB + 200) (by simp only [Nat.zero_add, Nat.add_zero, Nat.add_assoc]) (by simp only [Nat.zero_add, Nat.add_zero, Nat.add_assoc]) ?_
          exact hL119 (fun x1' x3' cB' zB' G' => gw_X1_append_L90 E p0 post px  n x1' x3' cB' zB' G') (fun x1' x3' cB' zB' G' H locs ls hG hl hw => ih x1' x3' cB' zB' G' H locs ls hG hl hw) x1 x3 (cB + 1) (zB + 200) G21 _ _ ls hG (lv_sub hl [1, 2, 3] rfl) hw
  have hL84 : ∀ (x1 : Int32) (t0 : Int32) (cB : Nat) (zB : Nat) (G : Gh) (H : Heap) (locs : List Loc) (ls : Array Slot), gS E A G0 s.heap G H locs → lv_has ls 5 [(0, .ref p0), (1, .int x1)] → gw_X1_append_L84 E p0 post px x1 t0 cB zB G → W p l e (headSpec (ws_ yX1_append cX1_append 5 (some .int)) ({ frames := 9, cells := 300, slots := 8000, locals := 152 } : Room)).room s m ([.ref p0, .int p1] : List Value).toArray below meth c H locs cB zB (vx_MQ below (gQ E A G0 (gpi post)) (gXC E A G0 px) ([.ref p0, .int p1] : List Value).toArray s 300 8000 A) (F0 m 84 ls [.int t0]) := by
    intro x1 t0 cB zB G H locs ls hG hl hw
    unfold gw_X1_append_L84 at hw
    have hb9 := hw.1
    replace hw := hw.2
    refine xc3v hA hG (vx_runS (As := [.int t0]) (rest := []) ⟨hx, hb, hml, hown, hts⟩ (gm_X1_checkState l hlt E t0 _ _ G hw _) (va_cwS 1 hts (lw_S q1658 q1050 q55 q1051) rfl rfl rfl hd_X1_checkState ⟨Nat.le_of_ble_eq_true rfl, Nat.le_of_ble_eq_true rfl⟩) ⟨gblind, fun U hU hW => gpre hPF hA hG _ U hU hW⟩ rfl rfl hl.1 rfl (lv_room (Nat.le_of_ble_eq_true rfl)) dX1_append_84 ⟨(Nat.le_trans (Nat.le_of_eq (by simp only [Nat.add_assoc, Nat.zero_add, Nat.add_zero])) hb9.1), (Nat.le_trans (Nat.le_of_eq (by simp only [Nat.add_assoc, Nat.zero_add, Nat.add_zero])) hb9.2)⟩) (fun X ce q Gx H locs hw hmon hG hce hcv hcl => ?_) (fun G10 H locs hw hmon hG => ?_)
    · exact gleave hlk hG (fun x hx9 => (htab x hx9).elim) hce hcv hcl hw (Nat.le_trans (Nat.le_of_eq (by simp only [Nat.add_assoc, Nat.zero_add, Nat.add_zero])) hb9.1) (Nat.le_trans (Nat.le_of_eq (by simp only [Nat.add_assoc, Nat.zero_add, Nat.add_zero])) hb9.2)
    · replace hw := hw hmon
      refine lv_bipush (v := 24) hx hb dX1_append_87 (by decide) ?_
      refine lv_istore_n (i := 3) (lv' := [(3, .int 24), (0, .ref p0), (1, .int x1)]) hx hb dX1_append_89 rfl hl (by decide) rfl (fun ls hl => ?_)
      refine W.cs (cells' := cB + 1) (slots' := zB + 6) (by simp only [Nat.zero_add, Nat.add_zero, Nat.add_assoc]) (by simp only [Nat.zero_add, Nat.add_zero, Nat.add_assoc]) ?_
      obtain ⟨n0, hw⟩ := hw
      exact hL90  n0 x1 24 (cB + 1) (zB + 6) G10 _ _ ls hG (lv_sub hl [1, 2, 0] rfl) hw
  have hL5 : ∀ (n : Nat) (x1 : Int32) (x2 : Int32) (x3 : Int32) (cB : Nat) (zB : Nat) (G : Gh) (H : Heap) (locs : List Loc) (ls : Array Slot), gS E A G0 s.heap G H locs → lv_has ls 5 [(0, .ref p0), (1, .int x1), (2, .int x2), (3, .int x3)] → gw_X1_append_L5 E p0 post px n x1 x2 x3 cB zB G → W p l e (headSpec (ws_ yX1_append cX1_append 5 (some .int)) ({ frames := 9, cells := 300, slots := 8000, locals := 152 } : Room)).room s m ([.ref p0, .int p1] : List Value).toArray below meth c H locs cB zB (vx_MQ below (gQ E A G0 (gpi post)) (gXC E A G0 px) ([.ref p0, .int p1] : List Value).toArray s 300 8000 A) (F0 m 5 ls []) := by
    intro n
    induction n with
    | zero => exact fun _ _ _ _ _ _ _ _ _ _ _ hw => hw.elim
    | succ n ih =>
      intro x1 x2 x3 cB zB G H locs ls hG hl hw
      unfold gw_X1_append_L5 at hw
      refine lv_iload_n hx hb dX1_append_5 rfl (lv_at hl 3 rfl) ?_
      refine lv_if_lt (tgt := 65) hx hb dX1_append_6 (by decide) (fun c_ => ?_) (fun c_ => ?_)
      · replace hw := hw.1 c_
        refine lv_aload_n hx hb dX1_append_65 rfl (lv_at hl 0 rfl) ?_
        refine gg hx hb hts hown hPF hG 1 3 rfl in_X1 (by decide) (by decide) (by decide) q542 (fun _ h9 => h9) (gC_of (gK_mon hG.1.2 h0p0 (by decide)) (by decide)) (v := va_rf (gR G p0 3)) rfl dX1_append_66 ?_
        obtain ⟨q1, hq1, hw⟩ := hw
        refine W.eq (g2 := F0 m 69 ls [.ref q1]) (by rw [hq1]; rfl) ?_
        have hk2 := hw.1
        replace hw := hw.2
        have hb3 := hw.1
        replace hw := hw.2
        refine gc3i hA hG (va_runV (As := []) (rest := []) ⟨hx, hb, hml, hown, hts⟩ (gm_J8_length l E q1 _ G hw _) (cwV 0 hts (lw_V q1689 q376 q2325 q65 q377) rfl rfl rfl hd_J8_length ⟨Nat.le_of_ble_eq_true rfl, Nat.le_of_ble_eq_true rfl⟩) ⟨gblind, grecv hPF hG hk2 (by decide) (by decide) rfl, fun U hU hW => gpre hPF hA hG _ U hU hW⟩ rfl rfl hl.1 rfl (lv_room (Nat.le_of_ble_eq_true rfl)) dX1_append_69 ⟨(Nat.le_trans (Nat.le_of_eq (by simp only [Nat.add_assoc, Nat.zero_add, Nat.add_zero])) hb3.1), (Nat.le_trans (Nat.le_of_eq (by simp only [Nat.add_assoc, Nat.zero_add, Nat.add_zero])) hb3.2)⟩) (fun r5 G4 H locs hw hmon hG => ?_)
        replace hw := hw hmon
        have hk2 : gC G4 q1 = 16 := gC_mon hmon hk2 (by decide)
        refine lv_iload_n hx hb dX1_append_72 rfl (lv_at hl 2 rfl) ?_
        refine lv_iadd hx hb dX1_append_73 ?_
        refine lv_bipush (v := 60) hx hb dX1_append_74 (by decide) ?_
        refine lv_icmp_gt (tgt := 83) hx hb dX1_append_76 (by decide) (fun c_ => ?_) (fun c_ => ?_)
        · replace hw := hw.1 c_
          refine lv_iconst (v := 0) hx hb dX1_append_83 (by decide) ?_
          refine W.cs (cells' := cB) (slots' := zB) (by simp only [Nat.zero_add, Nat.add_zero, Nat.add_assoc]) (by simp only [Nat.zero_add, Nat.add_zero, Nat.add_assoc]) ?_
          exact hL84  x1 0 cB zB G4 _ _ ls hG (lv_sub hl [0, 1] rfl) hw
        · replace hw := hw.2 c_
          refine lv_iconst (v := 1) hx hb dX1_append_79 (by decide) ?_
          refine lv_goto (tgt := 84) hx hb dX1_append_80 (by decide) ?_
          refine W.cs (cells' := cB) (slots' := zB) (by simp only [Nat.zero_add, Nat.add_zero, Nat.add_assoc]) (by simp only [Nat.zero_add, Nat.add_zero, Nat.add_assoc]) ?_
          exact hL84  x1 1 cB zB G4 _ _ ls hG (lv_sub hl [0, 1] rfl) hw
      · replace hw := hw.2 c_
        refine lv_iload_n hx hb dX1_append_9 rfl (lv_at hl 1 rfl) ?_
        refine lv_iload_n hx hb dX1_append_10 rfl (lv_at hl 3 rfl) ?_
        refine lv_iushr (v := (x1.toUInt32 >>> (x3.toUInt32 &&& Int32.toUInt32 31)).toInt32) hx hb dX1_append_11 rfl ?_
        refine lv_sipush (v := 255) hx hb dX1_append_12 (by decide) ?_
        refine lv_iand hx hb dX1_append_15 ?_
        refine lv_istore (lv' := [(4, .int (((x1.toUInt32 >>> (x3.toUInt32 &&& Int32.toUInt32 31)).toInt32) &&& 255)), (0, .ref p0), (1, .int x1), (2, .int x2), (3, .int x3)]) hx hb dX1_append_16 hl (by decide) rfl (fun ls hl => ?_)
        refine lv_iload hx hb dX1_append_18 (lv_at hl 0 rfl) ?_
        refine lv_if_eq (tgt := 38) hx hb dX1_append_20 (by decide) (fun c_ => ?_) (fun c_ => ?_)
        · replace hw := hw.1 c_
          refine W.cs (cells' := cB) (slots' := zB) (by simp only [Nat.zero_add, Nat.add_zero, Nat.add_assoc]) (by simp only [Nat.zero_add, Nat.add_zero, Nat.add_assoc]) ?_
          exact hL38 (fun x1' x2' x3' cB' zB' G' => gw_X1_append_L5 E p0 post px  n x1' x2' x3' cB' zB' G') (fun x1' x2' x3' cB' zB' G' H locs ls hG hl hw => ih x1' x2' x3' cB' zB' G' H locs ls hG hl hw) x1 x2 x3 (((x1.toUInt32 >>> (x3.toUInt32 &&& Int32.toUInt32 31)).toInt32) &&& 255) cB zB G _ _ ls hG (lv_sub hl [1, 2, 3, 4, 0] rfl) hw
        · replace hw := hw.2 c_
          refine lv_iload hx hb dX1_append_23 (lv_at hl 0 rfl) ?_
          refine lv_i2l (v := (((x1.toUInt32 >>> (x3.toUInt32 &&& Int32.toUInt32 31)).toInt32) &&& 255).toInt64) hx hb dX1_append_25 rfl ?_
          refine lv_ldc2 (v := 32) hx hb hown (hts _ q1739) dX1_append_26 ?_
          refine lv_ldc2 (v := 126) hx hb hown (hts _ q1740) dX1_append_29 ?_
          have hb6 := hw.1
          replace hw := hw.2
          refine gc3i hA hG (va_runS (As := [.long ((((x1.toUInt32 >>> (x3.toUInt32 &&& Int32.toUInt32 31)).toInt32) &&& 255).toInt64), .long 32, .long 126]) (rest := []) ⟨hx, hb, hml, hown, hts⟩ (gm_X1_inRange l E ((((x1.toUInt32 >>> (x3.toUInt32 &&& Int32.toUInt32 31)).toInt32) &&& 255).toInt64) 32 126 _ G hw _) (va_cwS 3 hts (lw_S q1356 q637 q55 q638) rfl rfl rfl hd_X1_inRange ⟨Nat.le_of_ble_eq_true rfl, Nat.le_of_ble_eq_true rfl⟩) ⟨gblind, fun U hU hW => gpre hPF hA hG _ U hU hW⟩ rfl rfl hl.1 rfl (lv_room (Nat.le_of_ble_eq_true rfl)) dX1_append_32 ⟨(Nat.le_trans (Nat.le_of_eq (by simp only [Nat.add_assoc, Nat.zero_add, Nat.add_zero])) hb6.1), (Nat.le_trans (Nat.le_of_eq (by simp only [Nat.add_assoc, Nat.zero_add, Nat.add_zero])) hb6.2)⟩) (fun r8 G7 H locs hw hmon hG => ?_)
          replace hw := hw hmon
          refine lv_if_eq (tgt := 42) hx hb dX1_append_35 (by decide) (fun c_ => ?_) (fun c_ => ?_)
          · replace hw := hw.1 c_
            refine lv_iconst (v := 0) hx hb dX1_append_42 (by decide) ?_
            refine W.cs (cells' := cB) (slots' := zB) (by simp only [Nat.zero_add, Nat.add_zero, Nat.add_assoc]) (by simp only [Nat.zero_add, Nat.add_zero, Nat.add_assoc]) ?_
            exact hL43 (fun x1' x2' x3' cB' zB' G' => gw_X1_append_L5 E p0 post px  n x1' x2' x3' cB' zB' G') (fun x1' x2' x3' cB' zB' G' H locs ls hG hl hw => ih x1' x2' x3' cB' zB' G' H locs ls hG hl hw) x1 x2 x3 (((x1.toUInt32 >>> (x3.toUInt32 &&& Int32.toUInt32 31)).toInt32) &&& 255) 0 cB zB G7 _ _ ls hG (lv_sub hl [1, 2, 3, 4, 0] rfl) hw
          · replace hw := hw.2 c_
            refine W.cs (cells' := cB) (slots' := zB) (by simp only [Nat.zero_add, Nat.add_zero, Nat.add_assoc]) (by simp only [Nat.zero_add, Nat.add_zero, Nat.add_assoc]) ?_
            exact hL38 (fun x1' x2' x3' cB' zB' G' => gw_X1_append_L5 E p0 post px  n x1' x2' x3' cB' zB' G') (fun x1' x2' x3' cB' zB' G' H locs ls hG hl hw => ih x1' x2' x3' cB' zB' G' H locs ls hG hl hw) x1 x2 x3 (((x1.toUInt32 >>> (x3.toUInt32 &&& Int32.toUInt32 31)).toInt32) &&& 255) cB zB G7 _ _ ls hG (lv_sub hl [1, 2, 3, 4, 0] rfl) hw
  refine lv_iconst (v := 0) hx hb dX1_append_0 (by decide) ?_
  refine lv_istore_n (i := 2) (lv' := [(2, .int 0), (0, .ref p0), (1, .int p1)]) hx hb dX1_append_1 rfl hl (by decide) rfl (fun ls hl => ?_)
  refine lv_bipush (v := 24) hx hb dX1_append_2 (by decide) ?_
  refine lv_istore_n (i := 3) (lv' := [(3, .int 24), (2, .int 0), (0, .ref p0), (1, .int p1)]) hx hb dX1_append_4 rfl hl (by decide) rfl (fun ls hl => ?_)
  refine W.cs (cells' := 0) (slots' := 0) (by simp only [Nat.zero_add, Nat.add_zero, Nat.add_assoc]) (by simp only [Nat.zero_add, Nat.add_zero, Nat.add_assoc]) ?_
  obtain ⟨n0, hw⟩ := hw
  exact hL5  n0 p1 0 24 0 0 G _ _ ls hG (lv_sub hl [2, 3, 1, 0] rfl) hw
def gw_X1_errorPosition (E : gE) (post : Int32 → Gh → Prop) (px : String → Nat → Gh → Prop) (p0 : Nat) (G : Gh) : Prop := gK G p0 = 1 ∧ (((gR G p0 5) = none → (gw_X1_checkElement E (fun G2 => gMon G G2 → (∃ q3, (gR G2 p0 5) = some q3 ∧ (gC G2 q3 = 13 ∧ (post (gI G2 q3 6) G2)))) px 0 G)) ∧ (∀ q1, (gR G p0 5) = some q1 → (gw_X1_checkElement E (fun G5 => gMon G G5 → (∃ q6, (gR G5 p0 5) = some q6 ∧ (gC G5 q6 = 13 ∧ (post (gI G5 q6 6) G5)))) px 1 G)))
theorem hd_X1_errorPosition : yX1_errorPosition.cls = RX1 ∧ yX1_errorPosition.cls ≠ "java/lang/invoke/MethodHandle" ∧ yX1_errorPosition.cls ≠ "java/lang/invoke/VarHandle" ∧ (parseMethodDescriptor yX1_errorPosition.desc).map (fun d => d.parameters.length) = some 0 := by decide +kernel
theorem hdn_X1_errorPosition : yX1_errorPosition.cls ≠ "java/lang/invoke/MethodHandle" ∧ yX1_errorPosition.cls ≠ "java/lang/invoke/VarHandle" ∧ (parseMethodDescriptor yX1_errorPosition.desc).map (fun d => d.parameters.length) = some 0 := hd_X1_errorPosition.2
theorem hdu_X1_errorPosition : RX1 ≠ "java/lang/invoke/MethodHandle" ∧ RX1 ≠ "java/lang/invoke/VarHandle" ∧ (parseMethodDescriptor yX1_errorPosition.desc).map (fun d => d.parameters.length) = some 0 := by decide +kernel
theorem hds_X1_errorPosition : yX1_errorPosition.name ≠ "<init>" ∧ (parseMethodDescriptor yX1_errorPosition.desc).map (fun d => d.parameters.length) = some 0 := by decide +kernel
set_option maxHeartbeats 1000000 in
set_option maxRecDepth 100000 in
theorem gm_X1_errorPosition (l : Launch) (hlt : l.stackTraces = false) (E : gE) (p0 : Nat) (post : Int32 → Gh → Prop) (px : String → Nat → Gh → Prop) (G : Gh) (hw : gw_X1_errorPosition E post px p0 G) : gX l E yX1_errorPosition (ws_ yX1_errorPosition cX1_errorPosition 1 (some .int)) ({ frames := 9, cells := 1, slots := 6, locals := 140 } : Room) 1 6 [.ref p0] G (gpi post) px := by
  refine xof (by decide) (Nat.le_of_ble_eq_true rfl) ?_
  intro p e s m below meth c A ls hx hb hr hlk hml hown hin hts hPF hA htab hG hl
  have hl : lv_has ls 1 [(0, .ref p0)] := hl
  unfold gw_X1_errorPosition at hw
  obtain ⟨G0, hG0⟩ : ∃ G0, G0 = G := ⟨_, rfl⟩
  have hG : gS E A G0 s.heap G s.heap [] := by rw [hG0]; exact hG
  rw [show gQ E A G (gpi post) = gQ E A G0 (gpi post) by rw [hG0]]
  rw [show gXC E A G px = gXC E A G0 px by rw [hG0]]
  have h0p0 := hw.1; rw [← hG0] at h0p0
  replace hw := hw.2
  refine lv_aload_n hx hb dX1_errorPosition_0 rfl (lv_at hl 0 rfl) ?_
  refine gg hx hb hts hown hPF hG 1 5 rfl in_X1 (by decide) (by decide) (by decide) q544 (fun _ h9 => h9) (gC_of (gK_mon hG.1.2 h0p0 (by decide)) (by decide)) (v := va_rf (gR G p0 5)) rfl dX1_errorPosition_1 ?_
  refine gifnull (tgt := 11) hx hb dX1_errorPosition_4 (by decide) (fun c_ => ?_) (fun q1 hq1 => ?_)
  · replace hw := hw.1 c_
    refine lv_iconst (v := 0) hx hb dX1_errorPosition_11 (by decide) ?_
    refine xc3v hA hG (vx_runS (As := [.int 0]) (rest := []) ⟨hx, hb, hml, hown, hts⟩ (gm_X1_checkElement l hlt E 0 _ _ G hw _) (va_cwS 1 hts (lw_S q1158 q1159 q55 q1160) rfl rfl rfl hd_X1_checkElement ⟨Nat.le_of_ble_eq_true rfl, Nat.le_of_ble_eq_true rfl⟩) ⟨gblind, fun U hU hW => gpre hPF hA hG _ U hU hW⟩ rfl rfl hl.1 rfl (lv_room (Nat.le_of_ble_eq_true rfl)) dX1_errorPosition_12 ⟨(Nat.le_of_ble_eq_true rfl), (Nat.le_of_ble_eq_true rfl)⟩) (fun X ce q Gx H locs hw hmon hG hce hcv hcl => ?_) (fun G2 H locs hw hmon hG => ?_)
    · exact gleave hlk hG (fun x hx9 => (htab x hx9).elim) hce hcv hcl hw (Nat.le_of_ble_eq_true rfl) (Nat.le_of_ble_eq_true rfl)
    · replace hw := hw hmon
      refine lv_aload_n hx hb dX1_errorPosition_15 rfl (lv_at hl 0 rfl) ?_
      refine gg hx hb hts hown hPF hG 1 5 rfl in_X1 (by decide) (by decide) (by decide) q544 (fun _ h9 => h9) (gC_of (gK_mon hG.1.2 h0p0 (by decide)) (by decide)) (v := va_rf (gR G2 p0 5)) rfl dX1_errorPosition_16 ?_
      obtain ⟨q3, hq3, hw⟩ := hw
      refine W.eq (g2 := F0 m 19 ls [.ref q3]) (by rw [hq3]; rfl) ?_
      have hk4 := hw.1
      replace hw := hw.2
      refine ggN hx hb hts hown hPF hG 13 6 rfl in_X15 (by decide) (by decide) (by decide) q1832 (fun _ h9 => h9) hk4 (v := .int (gI G2 q3 6)) rfl dX1_errorPosition_19 ?_
      exact xreti hx hb hr hlk hG rfl hw (Nat.le_of_ble_eq_true rfl) (Nat.le_of_ble_eq_true rfl) dX1_errorPosition_22
  · replace hw := hw.2 q1 hq1
    refine lv_iconst (v := 1) hx hb dX1_errorPosition_7 (by decide) ?_
    refine lv_goto (tgt := 12) hx hb dX1_errorPosition_8 (by decide) ?_
    refine xc3v hA hG (vx_runS (As := [.int 1]) (rest := []) ⟨hx, hb, hml, hown, hts⟩ (gm_X1_checkElement l hlt E 1 _ _ G hw _) (va_cwS 1 hts (lw_S q1158 q1159 q55 q1160) rfl rfl rfl hd_X1_checkElement ⟨Nat.le_of_ble_eq_true rfl, Nat.le_of_ble_eq_true rfl⟩) ⟨gblind, fun U hU hW => gpre hPF hA hG _ U hU hW⟩ rfl rfl hl.1 rfl (lv_room (Nat.le_of_ble_eq_true rfl)) dX1_errorPosition_12 ⟨(Nat.le_of_ble_eq_true rfl), (Nat.le_of_ble_eq_true rfl)⟩) (fun X ce q Gx H locs hw hmon hG hce hcv hcl => ?_) (fun G5 H locs hw hmon hG => ?_)
    · exact gleave hlk hG (fun x hx9 => (htab x hx9).elim) hce hcv hcl hw (Nat.le_of_ble_eq_true rfl) (Nat.le_of_ble_eq_true rfl)
    · replace hw := hw hmon
      refine lv_aload_n hx hb dX1_errorPosition_15 rfl (lv_at hl 0 rfl) ?_
      refine gg hx hb hts hown hPF hG 1 5 rfl in_X1 (by decide) (by decide) (by decide) q544 (fun _ h9 => h9) (gC_of (gK_mon hG.1.2 h0p0 (by decide)) (by decide)) (v := va_rf (gR G5 p0 5)) rfl dX1_errorPosition_16 ?_
      obtain ⟨q6, hq6, hw⟩ := hw
      refine W.eq (g2 := F0 m 19 ls [.ref q6]) (by rw [hq6]; rfl) ?_
      have hk7 := hw.1
      replace hw := hw.2
      refine ggN hx hb hts hown hPF hG 13 6 rfl in_X15 (by decide) (by decide) (by decide) q1832 (fun _ h9 => h9) hk7 (v := .int (gI G5 q6 6)) rfl dX1_errorPosition_19 ?_
      exact xreti hx hb hr hlk hG rfl hw (Nat.le_of_ble_eq_true rfl) (Nat.le_of_ble_eq_true rfl) dX1_errorPosition_22
def gw_X1_refusedItem (E : gE) (post : Int32 → Gh → Prop) (px : String → Nat → Gh → Prop) (p0 : Nat) (G : Gh) : Prop := gK G p0 = 1 ∧ (((gI G p0 6) = (-1) → (gw_X1_checkElement E (fun G1 => gMon G G1 → (post (gI G1 p0 6) G1)) px 0 G)) ∧ (¬ (gI G p0 6) = (-1) → (gw_X1_checkElement E (fun G2 => gMon G G2 → (post (gI G2 p0 6) G2)) px 1 G)))
theorem hd_X1_refusedItem : yX1_refusedItem.cls = RX1 ∧ yX1_refusedItem.cls ≠ "java/lang/invoke/MethodHandle" ∧ yX1_refusedItem.cls ≠ "java/lang/invoke/VarHandle" ∧ (parseMethodDescriptor yX1_refusedItem.desc).map (fun d => d.parameters.length) = some 0 := by decide +kernel
theorem hdn_X1_refusedItem : yX1_refusedItem.cls ≠ "java/lang/invoke/MethodHandle" ∧ yX1_refusedItem.cls ≠ "java/lang/invoke/VarHandle" ∧ (parseMethodDescriptor yX1_refusedItem.desc).map (fun d => d.parameters.length) = some 0 := hd_X1_refusedItem.2
theorem hdu_X1_refusedItem : RX1 ≠ "java/lang/invoke/MethodHandle" ∧ RX1 ≠ "java/lang/invoke/VarHandle" ∧ (parseMethodDescriptor yX1_refusedItem.desc).map (fun d => d.parameters.length) = some 0 := by decide +kernel
theorem hds_X1_refusedItem : yX1_refusedItem.name ≠ "<init>" ∧ (parseMethodDescriptor yX1_refusedItem.desc).map (fun d => d.parameters.length) = some 0 := by decide +kernel
set_option maxHeartbeats 1000000 in
set_option maxRecDepth 100000 in
theorem gm_X1_refusedItem (l : Launch) (hlt : l.stackTraces = false) (E : gE) (p0 : Nat) (post : Int32 → Gh → Prop) (px : String → Nat → Gh → Prop) (G : Gh) (hw : gw_X1_refusedItem E post px p0 G) : gX l E yX1_refusedItem (ws_ yX1_refusedItem cX1_refusedItem 1 (some .int)) ({ frames := 9, cells := 1, slots := 6, locals := 140 } : Room) 1 6 [.ref p0] G (gpi post) px := by
  refine xof (by decide) (Nat.le_of_ble_eq_true rfl) ?_
  intro p e s m below meth c A ls hx hb hr hlk hml hown hin hts hPF hA htab hG hl
  have hl : lv_has ls 1 [(0, .ref p0)] := hl
  unfold gw_X1_refusedItem at hw
  obtain ⟨G0, hG0⟩ : ∃ G0, G0 = G := ⟨_, rfl⟩
  have hG : gS E A G0 s.heap G s.heap [] := by rw [hG0]; exact hG
  rw [show gQ E A G (gpi post) = gQ E A G0 (gpi post) by rw [hG0]]
  rw [show gXC E A G px = gXC E A G0 px by rw [hG0]]
  have h0p0 := hw.1; rw [← hG0] at h0p0
  replace hw := hw.2
  refine lv_aload_n hx hb dX1_refusedItem_0 rfl (lv_at hl 0 rfl) ?_
  refine gg hx hb hts hown hPF hG 1 6 rfl in_X1 (by decide) (by decide) (by decide) q545 (fun _ h9 => h9) (gC_of (gK_mon hG.1.2 h0p0 (by decide)) (by decide)) (v := .int (gI G p0 6)) rfl dX1_refusedItem_1 ?_
  refine lv_iconst (v := (-1)) hx hb dX1_refusedItem_4 (by decide) ?_
  refine lv_icmp_eq (tgt := 12) hx hb dX1_refusedItem_5 (by decide) (fun c_ => ?_) (fun c_ => ?_)
  · replace hw := hw.1 c_
    refine lv_iconst (v := 0) hx hb dX1_refusedItem_12 (by decide) ?_
    refine xc3v hA hG (vx_runS (As := [.int 0]) (rest := []) ⟨hx, hb, hml, hown, hts⟩ (gm_X1_checkElement l hlt E 0 _ _ G hw _) (va_cwS 1 hts (lw_S q1158 q1159 q55 q1160) rfl rfl rfl hd_X1_checkElement ⟨Nat.le_of_ble_eq_true rfl, Nat.le_of_ble_eq_true rfl⟩) ⟨gblind, fun U hU hW => gpre hPF hA hG _ U hU hW⟩ rfl rfl hl.1 rfl (lv_room (Nat.le_of_ble_eq_true rfl)) dX1_refusedItem_13 ⟨(Nat.le_of_ble_eq_true rfl), (Nat.le_of_ble_eq_true rfl)⟩) (fun X ce q Gx H locs hw hmon hG hce hcv hcl => ?_) (fun G1 H locs hw hmon hG => ?_)
    · exact gleave hlk hG (fun x hx9 => (htab x hx9).elim) hce hcv hcl hw (Nat.le_of_ble_eq_true rfl) (Nat.le_of_ble_eq_true rfl)
    · replace hw := hw hmon
      refine lv_aload_n hx hb dX1_refusedItem_16 rfl (lv_at hl 0 rfl) ?_
      refine gg hx hb hts hown hPF hG 1 6 rfl in_X1 (by decide) (by decide) (by decide) q545 (fun _ h9 => h9) (gC_of (gK_mon hG.1.2 h0p0 (by decide)) (by decide)) (v := .int (gI G1 p0 6)) rfl dX1_refusedItem_17 ?_
      exact xreti hx hb hr hlk hG rfl hw (Nat.le_of_ble_eq_true rfl) (Nat.le_of_ble_eq_true rfl) dX1_refusedItem_20
  · replace hw := hw.2 c_
    refine lv_iconst (v := 1) hx hb dX1_refusedItem_8 (by decide) ?_
    refine lv_goto (tgt := 13) hx hb dX1_refusedItem_9 (by decide) ?_
    refine xc3v hA hG (vx_runS (As := [.int 1]) (rest := []) ⟨hx, hb, hml, hown, hts⟩ (gm_X1_checkElement l hlt E 1 _ _ G hw _) (va_cwS 1 hts (lw_S q1158 q1159 q55 q1160) rfl rfl rfl hd_X1_checkElement ⟨Nat.le_of_ble_eq_true rfl, Nat.le_of_ble_eq_true rfl⟩) ⟨gblind, fun U hU hW => gpre hPF hA hG _ U hU hW⟩ rfl rfl hl.1 rfl (lv_room (Nat.le_of_ble_eq_true rfl)) dX1_refusedItem_13 ⟨(Nat.le_of_ble_eq_true rfl), (Nat.le_of_ble_eq_true rfl)⟩) (fun X ce q Gx H locs hw hmon hG hce hcv hcl => ?_) (fun G2 H locs hw hmon hG => ?_)
    · exact gleave hlk hG (fun x hx9 => (htab x hx9).elim) hce hcv hcl hw (Nat.le_of_ble_eq_true rfl) (Nat.le_of_ble_eq_true rfl)
    · replace hw := hw hmon
      refine lv_aload_n hx hb dX1_refusedItem_16 rfl (lv_at hl 0 rfl) ?_
      refine gg hx hb hts hown hPF hG 1 6 rfl in_X1 (by decide) (by decide) (by decide) q545 (fun _ h9 => h9) (gC_of (gK_mon hG.1.2 h0p0 (by decide)) (by decide)) (v := .int (gI G2 p0 6)) rfl dX1_refusedItem_17 ?_
      exact xreti hx hb hr hlk hG rfl hw (Nat.le_of_ble_eq_true rfl) (Nat.le_of_ble_eq_true rfl) dX1_refusedItem_20
def gw_X1_undo_L15 (E : gE) (p0 : Nat) (post : Int32 → Gh → Prop) (px : String → Nat → Gh → Prop) (t0 : Int32) (G : Gh) : Prop := gw_X1_checkState E (fun G5 => gMon G G5 → (∃ q6, (gR G5 p0 1) = some q6 ∧ (gC G5 q6 = 18 ∧ (gw_J17_removeLast E (fun r9 G8 => gMon G5 G8 → (∃ q10, r9 = some q10 ∧ (gC G8 q10 = 2 ∧ (∀ G12, G12 = gsR G8 p0 0 (some q10) → (∃ q13, (gR G12 p0 1) = some q13 ∧ (gC G12 q13 = 18 ∧ (gw_J17_size E (fun r16 G15 => gMon G12 G15 → (post r16 G15)) q13 G12))))))) q6 G5)))) px t0 G
def gw_X1_undo (E : gE) (post : Int32 → Gh → Prop) (px : String → Nat → Gh → Prop) (p0 : Nat) (G : Gh) : Prop := gK G p0 = 1 ∧ (∃ q1, (gR G p0 1) = some q1 ∧ (gC G q1 = 18 ∧ (gw_J17_isEmpty E (fun r4 G3 => gMon G G3 → ((¬ r4 = 0 → (gw_X1_undo_L15 E p0 post px  0 G3)) ∧ (r4 = 0 → (gw_X1_undo_L15 E p0 post px  1 G3)))) q1 G)))
theorem hd_X1_undo : yX1_undo.cls = RX1 ∧ yX1_undo.cls ≠ "java/lang/invoke/MethodHandle" ∧ yX1_undo.cls ≠ "java/lang/invoke/VarHandle" ∧ (parseMethodDescriptor yX1_undo.desc).map (fun d => d.parameters.length) = some 0 := by decide +kernel
theorem hdn_X1_undo : yX1_undo.cls ≠ "java/lang/invoke/MethodHandle" ∧ yX1_undo.cls ≠ "java/lang/invoke/VarHandle" ∧ (parseMethodDescriptor yX1_undo.desc).map (fun d => d.parameters.length) = some 0 := hd_X1_undo.2
theorem hdu_X1_undo : RX1 ≠ "java/lang/invoke/MethodHandle" ∧ RX1 ≠ "java/lang/invoke/VarHandle" ∧ (parseMethodDescriptor yX1_undo.desc).map (fun d => d.parameters.length) = some 0 := by decide +kernel
theorem hds_X1_undo : yX1_undo.name ≠ "<init>" ∧ (parseMethodDescriptor yX1_undo.desc).map (fun d => d.parameters.length) = some 0 := by decide +kernel
set_option maxHeartbeats 1000000 in
set_option maxRecDepth 100000 in
theorem gm_X1_undo (l : Launch) (hlt : l.stackTraces = false) (E : gE) (p0 : Nat) (post : Int32 → Gh → Prop) (px : String → Nat → Gh → Prop) (G : Gh) (hw : gw_X1_undo E post px p0 G) : gX l E yX1_undo (ws_ yX1_undo cX1_undo 1 (some .int)) ({ frames := 9, cells := 1, slots := 6, locals := 140 } : Room) 1 6 [.ref p0] G (gpi post) px := by
  refine xof (by decide) (Nat.le_of_ble_eq_true rfl) ?_
  intro p e s m below meth c A ls hx hb hr hlk hml hown hin hts hPF hA htab hG hl
  have hl : lv_has ls 1 [(0, .ref p0)] := hl
  unfold gw_X1_undo at hw
  obtain ⟨G0, hG0⟩ : ∃ G0, G0 = G := ⟨_, rfl⟩
  have hG : gS E A G0 s.heap G s.heap [] := by rw [hG0]; exact hG
  rw [show gQ E A G (gpi post) = gQ E A G0 (gpi post) by rw [hG0]]
  rw [show gXC E A G px = gXC E A G0 px by rw [hG0]]
  have h0p0 := hw.1; rw [← hG0] at h0p0
  replace hw := hw.2
  have hL15 : ∀ (t0 : Int32) (G : Gh) (H : Heap) (locs : List Loc) (ls : Array Slot), gS E A G0 s.heap G H locs → lv_has ls 1 [(0, .ref p0)] → gw_X1_undo_L15 E p0 post px t0 G → W p l e (headSpec (ws_ yX1_undo cX1_undo 1 (some .int)) ({ frames := 9, cells := 1, slots := 6, locals := 140 } : Room)).room s m ([.ref p0] : List Value).toArray below meth c H locs 0 0 (vx_MQ below (gQ E A G0 (gpi post)) (gXC E A G0 px) ([.ref p0] : List Value).toArray s 1 6 A) (F0 m 15 ls [.int t0]) := by
    intro t0 G H locs ls hG hl hw
    unfold gw_X1_undo_L15 at hw
    refine xc3v hA hG (vx_runS (As := [.int t0]) (rest := []) ⟨hx, hb, hml, hown, hts⟩ (gm_X1_checkState l hlt E t0 _ _ G hw _) (va_cwS 1 hts (lw_S q1658 q1050 q55 q1051) rfl rfl rfl hd_X1_checkState ⟨Nat.le_of_ble_eq_true rfl, Nat.le_of_ble_eq_true rfl⟩) ⟨gblind, fun U hU hW => gpre hPF hA hG _ U hU hW⟩ rfl rfl hl.1 rfl (lv_room (Nat.le_of_ble_eq_true rfl)) dX1_undo_15 ⟨(Nat.le_of_ble_eq_true rfl), (Nat.le_of_ble_eq_true rfl)⟩) (fun X ce q Gx H locs hw hmon hG hce hcv hcl => ?_) (fun G5 H locs hw hmon hG => ?_)
    · exact gleave hlk hG (fun x hx9 => (htab x hx9).elim) hce hcv hcl hw (Nat.le_of_ble_eq_true rfl) (Nat.le_of_ble_eq_true rfl)
    · replace hw := hw hmon
      refine lv_aload_n hx hb dX1_undo_18 rfl (lv_at hl 0 rfl) ?_
      refine lv_aload_n hx hb dX1_undo_19 rfl (lv_at hl 0 rfl) ?_
      refine gg hx hb hts hown hPF hG 1 1 rfl in_X1 (by decide) (by decide) (by decide) q540 (fun _ h9 => h9) (gC_of (gK_mon hG.1.2 h0p0 (by decide)) (by decide)) (v := va_rf (gR G5 p0 1)) rfl dX1_undo_20 ?_
      obtain ⟨q6, hq6, hw⟩ := hw
      refine W.eq (g2 := F0 m 23 ls [.ref q6, .ref p0]) (by rw [hq6]; rfl) ?_
      have hk7 := hw.1
      replace hw := hw.2
      refine gc3r hA hG (va_runV (As := []) (rest := [.ref p0]) ⟨hx, hb, hml, hown, hts⟩ (gm_J17_removeLast l E q6 _ G5 hw _) (cwV 0 hts (lw_V q1905 q1906 q1907 q76 q1908) rfl rfl rfl hd_J17_removeLast ⟨Nat.le_of_ble_eq_true rfl, Nat.le_of_ble_eq_true rfl⟩) ⟨gblind, grecv hPF hG hk7 (by decide) (by decide) rfl, fun U hU hW => gpre hPF hA hG _ U hU hW⟩ rfl rfl hl.1 rfl (lv_room (Nat.le_of_ble_eq_true rfl)) dX1_undo_23 ⟨(Nat.le_of_ble_eq_true rfl), (Nat.le_of_ble_eq_true rfl)⟩) (fun r9 G8 H locs hw hmon hG => ?_)
      replace hw := hw hmon
      have hk7 : gC G8 q6 = 18 := gC_mon hmon hk7 (by decide)
      obtain ⟨q10, hq10, hw⟩ := hw
      refine W.eq (g2 := F0 m 26 ls [.ref q10, .ref p0]) (by rw [hq10]; rfl) ?_
      have hk11 := hw.1
      replace hw := hw.2
      refine va_castS hx hb hown (hts _ q107) (hPF.K.1 2 _ rfl).2 (grecv hPF hG hk11 (by decide) (by decide) rfl) dX1_undo_26 ?_
      refine gp hx hb hts hown hPF hG 1 0 rfl in_X1 tyX1 tyX1_ok nmX1 (by decide) (by decide) (by decide) q539 (fun _ h9 => h9) rfl (gK_mon hG.1.2 h0p0 (by decide)) (v := va_rf (some q10)) (narrow_rf _) (fits_rf _ (by decide)) (G' := gsR G8 p0 0 (some q10)) rfl rfl grR_off (Nat.le_of_ble_eq_true rfl) (gFs_R 1 0 (fun _ _ _ => rfl)) dX1_undo_29 (fun H locs hG => ?_)
      obtain ⟨G12, eG12⟩ : ∃ z, z = gsR G8 p0 0 (some q10) := ⟨_, rfl⟩
      rw [← eG12] at hG
      replace hw := hw G12 eG12
      have hk7 : gC G12 q6 = 18 := by rw [eG12]; exact hk7
      have hk11 : gC G12 q10 = 2 := by rw [eG12]; exact hk11
      refine lv_aload_n hx hb dX1_undo_32 rfl (lv_at hl 0 rfl) ?_
      refine gg hx hb hts hown hPF hG 1 1 rfl in_X1 (by decide) (by decide) (by decide) q540 (fun _ h9 => h9) (gC_of (gK_mon hG.1.2 h0p0 (by decide)) (by decide)) (v := va_rf (gR G12 p0 1)) rfl dX1_undo_33 ?_
      obtain ⟨q13, hq13, hw⟩ := hw
      refine W.eq (g2 := F0 m 36 ls [.ref q13]) (by rw [hq13]; rfl) ?_
      have hk14 := hw.1
      replace hw := hw.2
      refine gc3i hA hG (va_runV (As := []) (rest := []) ⟨hx, hb, hml, hown, hts⟩ (gm_J17_size l E q13 _ G12 hw _) (cwV 0 hts (lw_V q965 q966 q967 q76 q968) rfl rfl rfl hd_J17_size ⟨Nat.le_of_ble_eq_true rfl, Nat.le_of_ble_eq_true rfl⟩) ⟨gblind, grecv hPF hG hk14 (by decide) (by decide) rfl, fun U hU hW => gpre hPF hA hG _ U hU hW⟩ rfl rfl hl.1 rfl (lv_room (Nat.le_of_ble_eq_true rfl)) dX1_undo_36 ⟨(Nat.le_of_ble_eq_true rfl), (Nat.le_of_ble_eq_true rfl)⟩) (fun r16 G15 H locs hw hmon hG => ?_)
      replace hw := hw hmon
      have hk7 : gC G15 q6 = 18 := gC_mon hmon hk7 (by decide)
      have hk11 : gC G15 q10 = 2 := gC_mon hmon hk11 (by decide)
      have hk14 : gC G15 q13 = 18 := gC_mon hmon hk14 (by decide)
      exact xreti hx hb hr hlk hG rfl hw (Nat.le_of_ble_eq_true rfl) (Nat.le_of_ble_eq_true rfl) dX1_undo_39
  refine lv_aload_n hx hb dX1_undo_0 rfl (lv_at hl 0 rfl) ?_
  refine gg hx hb hts hown hPF hG 1 1 rfl in_X1 (by decide) (by decide) (by decide) q540 (fun _ h9 => h9) (gC_of (gK_mon hG.1.2 h0p0 (by decide)) (by decide)) (v := va_rf (gR G p0 1)) rfl dX1_undo_1 ?_
  obtain ⟨q1, hq1, hw⟩ := hw
  refine W.eq (g2 := F0 m 4 ls [.ref q1]) (by rw [hq1]; rfl) ?_
  have hk2 := hw.1
  replace hw := hw.2
  refine gc3i hA hG (va_runV (As := []) (rest := []) ⟨hx, hb, hml, hown, hts⟩ (gm_J17_isEmpty l E q1 _ G hw _) (cwV 0 hts (lw_V q1901 q1902 q1903 q76 q1904) rfl rfl rfl hd_J17_isEmpty ⟨Nat.le_of_ble_eq_true rfl, Nat.le_of_ble_eq_true rfl⟩) ⟨gblind, grecv hPF hG hk2 (by decide) (by decide) rfl, fun U hU hW => gpre hPF hA hG _ U hU hW⟩ rfl rfl hl.1 rfl (lv_room (Nat.le_of_ble_eq_true rfl)) dX1_undo_4 ⟨(Nat.le_of_ble_eq_true rfl), (Nat.le_of_ble_eq_true rfl)⟩) (fun r4 G3 H locs hw hmon hG => ?_)
  replace hw := hw hmon
  have hk2 : gC G3 q1 = 18 := gC_mon hmon hk2 (by decide)
  refine lv_if_ne (tgt := 14) hx hb dX1_undo_7 (by decide) (fun c_ => ?_) (fun c_ => ?_)
  · replace hw := hw.1 c_
    refine lv_iconst (v := 0) hx hb dX1_undo_14 (by decide) ?_
    refine W.widen (k := 0) (n := 0) (Nat.le_of_ble_eq_true rfl) (Nat.le_of_ble_eq_true rfl) ?_
    exact hL15  0 G3 _ _ ls hG (lv_sub hl [0] rfl) hw
  · replace hw := hw.2 c_
    refine lv_iconst (v := 1) hx hb dX1_undo_10 (by decide) ?_
    refine lv_goto (tgt := 15) hx hb dX1_undo_11 (by decide) ?_
    refine W.widen (k := 0) (n := 0) (Nat.le_of_ble_eq_true rfl) (Nat.le_of_ble_eq_true rfl) ?_
    exact hL15  1 G3 _ _ ls hG (lv_sub hl [0] rfl) hw
def gw_X1_restore_L12 (E : gE) (p0 : Nat) (post : Int32 → Gh → Prop) (px : String → Nat → Gh → Prop) (t0 : Int32) (G : Gh) : Prop := gw_X1_checkState E (fun G2 => gMon G G2 → (∀ G3, G3 = gsR G2 p0 0 (gR G2 p0 2) → (∃ q4, (gR G3 p0 1) = some q4 ∧ (gC G3 q4 = 18 ∧ (gw_J17_clear E (fun G6 => gMon G3 G6 → (∃ q7, (gR G6 p0 0) = some q7 ∧ (gC G6 q7 = 2 ∧ (post (gI G6 q7 4) G6)))) q4 G3))))) px t0 G
def gw_X1_restore (E : gE) (post : Int32 → Gh → Prop) (px : String → Nat → Gh → Prop) (p0 : Nat) (G : Gh) : Prop := gK G p0 = 1 ∧ (((gR G p0 2) = none → (gw_X1_restore_L12 E p0 post px  0 G)) ∧ (∀ q1, (gR G p0 2) = some q1 → (gw_X1_restore_L12 E p0 post px  1 G)))
theorem hd_X1_restore : yX1_restore.cls = RX1 ∧ yX1_restore.cls ≠ "java/lang/invoke/MethodHandle" ∧ yX1_restore.cls ≠ "java/lang/invoke/VarHandle" ∧ (parseMethodDescriptor yX1_restore.desc).map (fun d => d.parameters.length) = some 0 := by decide +kernel
theorem hdn_X1_restore : yX1_restore.cls ≠ "java/lang/invoke/MethodHandle" ∧ yX1_restore.cls ≠ "java/lang/invoke/VarHandle" ∧ (parseMethodDescriptor yX1_restore.desc).map (fun d => d.parameters.length) = some 0 := hd_X1_restore.2
theorem hdu_X1_restore : RX1 ≠ "java/lang/invoke/MethodHandle" ∧ RX1 ≠ "java/lang/invoke/VarHandle" ∧ (parseMethodDescriptor yX1_restore.desc).map (fun d => d.parameters.length) = some 0 := by decide +kernel
theorem hds_X1_restore : yX1_restore.name ≠ "<init>" ∧ (parseMethodDescriptor yX1_restore.desc).map (fun d => d.parameters.length) = some 0 := by decide +kernel
set_option maxHeartbeats 1000000 in
set_option maxRecDepth 100000 in
theorem gm_X1_restore (l : Launch) (hlt : l.stackTraces = false) (E : gE) (p0 : Nat) (post : Int32 → Gh → Prop) (px : String → Nat → Gh → Prop) (G : Gh) (hw : gw_X1_restore E post px p0 G) : gX l E yX1_restore (ws_ yX1_restore cX1_restore 1 (some .int)) ({ frames := 9, cells := 1, slots := 6, locals := 140 } : Room) 1 6 [.ref p0] G (gpi post) px := by
  refine xof (by decide) (Nat.le_of_ble_eq_true rfl) ?_
  intro p e s m below meth c A ls hx hb hr hlk hml hown hin hts hPF hA htab hG hl
  have hl : lv_has ls 1 [(0, .ref p0)] := hl
  unfold gw_X1_restore at hw
  obtain ⟨G0, hG0⟩ : ∃ G0, G0 = G := ⟨_, rfl⟩
  have hG : gS E A G0 s.heap G s.heap [] := by rw [hG0]; exact hG
  rw [show gQ E A G (gpi post) = gQ E A G0 (gpi post) by rw [hG0]]
  rw [show gXC E A G px = gXC E A G0 px by rw [hG0]]
  have h0p0 := hw.1; rw [← hG0] at h0p0
  replace hw := hw.2
  have hL12 : ∀ (t0 : Int32) (G : Gh) (H : Heap) (locs : List Loc) (ls : Array Slot), gS E A G0 s.heap G H locs → lv_has ls 1 [(0, .ref p0)] → gw_X1_restore_L12 E p0 post px t0 G → W p l e (headSpec (ws_ yX1_restore cX1_restore 1 (some .int)) ({ frames := 9, cells := 1, slots := 6, locals := 140 } : Room)).room s m ([.ref p0] : List Value).toArray below meth c H locs 0 0 (vx_MQ below (gQ E A G0 (gpi post)) (gXC E A G0 px) ([.ref p0] : List Value).toArray s 1 6 A) (F0 m 12 ls [.int t0]) := by
    intro t0 G H locs ls hG hl hw
    unfold gw_X1_restore_L12 at hw
    refine xc3v hA hG (vx_runS (As := [.int t0]) (rest := []) ⟨hx, hb, hml, hown, hts⟩ (gm_X1_checkState l hlt E t0 _ _ G hw _) (va_cwS 1 hts (lw_S q1658 q1050 q55 q1051) rfl rfl rfl hd_X1_checkState ⟨Nat.le_of_ble_eq_true rfl, Nat.le_of_ble_eq_true rfl⟩) ⟨gblind, fun U hU hW => gpre hPF hA hG _ U hU hW⟩ rfl rfl hl.1 rfl (lv_room (Nat.le_of_ble_eq_true rfl)) dX1_restore_12 ⟨(Nat.le_of_ble_eq_true rfl), (Nat.le_of_ble_eq_true rfl)⟩) (fun X ce q Gx H locs hw hmon hG hce hcv hcl => ?_) (fun G2 H locs hw hmon hG => ?_)
    · exact gleave hlk hG (fun x hx9 => (htab x hx9).elim) hce hcv hcl hw (Nat.le_of_ble_eq_true rfl) (Nat.le_of_ble_eq_true rfl)
    · replace hw := hw hmon
      refine lv_aload_n hx hb dX1_restore_15 rfl (lv_at hl 0 rfl) ?_
      refine lv_aload_n hx hb dX1_restore_16 rfl (lv_at hl 0 rfl) ?_
      refine gg hx hb hts hown hPF hG 1 2 rfl in_X1 (by decide) (by decide) (by decide) q541 (fun _ h9 => h9) (gC_of (gK_mon hG.1.2 h0p0 (by decide)) (by decide)) (v := va_rf (gR G2 p0 2)) rfl dX1_restore_17 ?_
      refine gp hx hb hts hown hPF hG 1 0 rfl in_X1 tyX1 tyX1_ok nmX1 (by decide) (by decide) (by decide) q539 (fun _ h9 => h9) rfl (gK_mon hG.1.2 h0p0 (by decide)) (v := va_rf (gR G2 p0 2)) (narrow_rf _) (fits_rf _ (by decide)) (G' := gsR G2 p0 0 (gR G2 p0 2)) rfl rfl grR_off (Nat.le_of_ble_eq_true rfl) (gFs_R 1 0 (fun _ _ _ => rfl)) dX1_restore_20 (fun H locs hG => ?_)
      obtain ⟨G3, eG3⟩ : ∃ z, z = gsR G2 p0 0 (gR G2 p0 2) := ⟨_, rfl⟩
      rw [← eG3] at hG
      replace hw := hw G3 eG3
      refine lv_aload_n hx hb dX1_restore_23 rfl (lv_at hl 0 rfl) ?_
      refine gg hx hb hts hown hPF hG 1 1 rfl in_X1 (by decide) (by decide) (by decide) q540 (fun _ h9 => h9) (gC_of (gK_mon hG.1.2 h0p0 (by decide)) (by decide)) (v := va_rf (gR G3 p0 1)) rfl dX1_restore_24 ?_
      obtain ⟨q4, hq4, hw⟩ := hw
      refine W.eq (g2 := F0 m 27 ls [.ref q4]) (by rw [hq4]; rfl) ?_
      have hk5 := hw.1
      replace hw := hw.2
      refine gc3v hA hG (va_runV (As := []) (rest := []) ⟨hx, hb, hml, hown, hts⟩ (gm_J17_clear l E q4 _ G3 hw _) (cwV 0 hts (lw_V q568 q569 q570 q76 q571) rfl rfl rfl hd_J17_clear ⟨Nat.le_of_ble_eq_true rfl, Nat.le_of_ble_eq_true rfl⟩) ⟨gblind, grecv hPF hG hk5 (by decide) (by decide) rfl, fun U hU hW => gpre hPF hA hG _ U hU hW⟩ rfl rfl hl.1 rfl (lv_room (Nat.le_of_ble_eq_true rfl)) dX1_restore_27 ⟨(Nat.le_of_ble_eq_true rfl), (Nat.le_of_ble_eq_true rfl)⟩) (fun G6 H locs hw hmon hG => ?_)
      replace hw := hw hmon
      have hk5 : gC G6 q4 = 18 := gC_mon hmon hk5 (by decide)
      refine lv_aload_n hx hb dX1_restore_30 rfl (lv_at hl 0 rfl) ?_
      refine gg hx hb hts hown hPF hG 1 0 rfl in_X1 (by decide) (by decide) (by decide) q539 (fun _ h9 => h9) (gC_of (gK_mon hG.1.2 h0p0 (by decide)) (by decide)) (v := va_rf (gR G6 p0 0)) rfl dX1_restore_31 ?_
      obtain ⟨q7, hq7, hw⟩ := hw
      refine W.eq (g2 := F0 m 34 ls [.ref q7]) (by rw [hq7]; rfl) ?_
      have hk8 := hw.1
      replace hw := hw.2
      refine ggN hx hb hts hown hPF hG 2 4 rfl in_X2 (by decide) (by decide) (by decide) q471 (fun _ h9 => h9) hk8 (v := .int (gI G6 q7 4)) rfl dX1_restore_34 ?_
      exact xreti hx hb hr hlk hG rfl hw (Nat.le_of_ble_eq_true rfl) (Nat.le_of_ble_eq_true rfl) dX1_restore_37
  refine lv_aload_n hx hb dX1_restore_0 rfl (lv_at hl 0 rfl) ?_
  refine gg hx hb hts hown hPF hG 1 2 rfl in_X1 (by decide) (by decide) (by decide) q541 (fun _ h9 => h9) (gC_of (gK_mon hG.1.2 h0p0 (by decide)) (by decide)) (v := va_rf (gR G p0 2)) rfl dX1_restore_1 ?_
  refine gifnull (tgt := 11) hx hb dX1_restore_4 (by decide) (fun c_ => ?_) (fun q1 hq1 => ?_)
  · replace hw := hw.1 c_
    refine lv_iconst (v := 0) hx hb dX1_restore_11 (by decide) ?_
    refine W.widen (k := 0) (n := 0) (Nat.le_of_ble_eq_true rfl) (Nat.le_of_ble_eq_true rfl) ?_
    exact hL12  0 G _ _ ls hG (lv_sub hl [0] rfl) hw
  · replace hw := hw.2 q1 hq1
    refine lv_iconst (v := 1) hx hb dX1_restore_7 (by decide) ?_
    refine lv_goto (tgt := 12) hx hb dX1_restore_8 (by decide) ?_
    refine W.widen (k := 0) (n := 0) (Nat.le_of_ble_eq_true rfl) (Nat.le_of_ble_eq_true rfl) ?_
    exact hL12  1 G _ _ ls hG (lv_sub hl [0] rfl) hw
