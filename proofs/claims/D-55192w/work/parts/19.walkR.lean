/-! walks over the ghost heap: walkR -/
set_option maxRecDepth 100000
def gw_J3_init_3_k3 (E : gE) (post : Gh → Prop) (p0 : Nat) (p1 : Option Nat) (p2 : Option Nat) (p3 : Int32) (p4 : Int32) (G : Gh) : Prop := gK G p0 = 3 ∧ (∀ G1, G1 = gsR G p0 0 (some p0) → (∀ G2, G2 = gsR G1 p0 1 (eQ E 0) → (∀ G3, G3 = gsR G2 p0 2 (eQ E 1) → ((p4 = 0 → (∀ G4, G4 = gsR G3 p0 1 none → (∀ G5, G5 = gsR G4 p0 3 p1 → (∀ G6, G6 = gsR G5 p0 0 p2 → ((¬ p3 = 0 → (post G6)) ∧ (p3 = 0 → (∀ G7, G7 = gsR G6 p0 2 none → (post G7)))))))) ∧ (¬ p4 = 0 → (False))))))
theorem hd_J3_init_3 : yJ3_init_3.cls ≠ "java/lang/invoke/MethodHandle" ∧ yJ3_init_3.cls ≠ "java/lang/invoke/VarHandle" ∧ (parseMethodDescriptor yJ3_init_3.desc).map (fun d => d.parameters.length) = some 4 := by decide +kernel
set_option maxHeartbeats 1000000 in
set_option maxRecDepth 100000 in
theorem gm_J3_init_3_k3 (l : Launch) (E : gE) (p0 : Nat) (p1 : Option Nat) (p2 : Option Nat) (p3 : Int32) (p4 : Int32) (post : Gh → Prop) (G : Gh) (hw : gw_J3_init_3_k3 E post p0 p1 p2 p3 p4 G) : gM l E yJ3_init_3 (ws_ yJ3_init_3 cJ3_init_3 5 none) ({ frames := 1, cells := 0, slots := 0, locals := 30 } : Room) 0 0 [.ref p0, va_rf p1, va_rf p2, .int p3, .int p4] G (gpv post) := by
  refine gof (by decide) (by simp [lg_sl, va_rf_cat, gcat_i, gcat_r, gcat_l, gcat_d, gcat_f, gcat_n]) ?_
  intro p e s m below meth c A ls hx hb hr hlk hml hown hin hts hPF hA hG hl
  have hl : lv_has ls 5 [(0, .ref p0), (1, va_rf p1), (2, va_rf p2), (3, .int p3), (4, .int p4)] := by simpa [lv_args, va_rf_cat, gcat_i, gcat_r, gcat_l, gcat_d, gcat_f, gcat_n] using hl
  unfold gw_J3_init_3_k3 at hw
  obtain ⟨G0, hG0⟩ : ∃ G0, G0 = G := ⟨_, rfl⟩
  have hG : gS E A G0 s.heap G s.heap [] := by rw [hG0]; exact hG
  rw [show gQ E A G (gpv post) = gQ E A G0 (gpv post) by rw [hG0]]
  have h0p0 := hw.1; rw [← hG0] at h0p0
  replace hw := hw.2
  refine lv_aload_n hx hb dJ3_init_3_0 rfl (lv_at hl 0 rfl) ?_
  refine W.objInit hx hb hown (hts _ q154) (hts _ q105) (hts _ q106) (g := F0 m 1 ls (.ref p0 :: [])) rfl (hl.1.trans hml.symm) rfl dJ3_init_3_1 (Nat.le_of_ble_eq_true rfl) (by (try simp only [List.map, va_rf_cat, gcat_i, gcat_r, gcat_l, gcat_d, gcat_f, gcat_n]); exact Nat.le_of_ble_eq_true rfl) ?_
  refine W.eq (g2 := F0 m 4 ls []) rfl ?_
  refine lv_aload_n hx hb dJ3_init_3_4 rfl (lv_at hl 0 rfl) ?_
  refine lv_aload_n hx hb dJ3_init_3_5 rfl (lv_at hl 0 rfl) ?_
  refine gp hx hb hts hown hPF hG 3 0 rfl in_X4 tyX4 tyX4_ok nmX4 (by decide) (by decide) (by decide) q411 (fun _ h9 => h9) rfl (gK_mon hG.1.2 h0p0 (by decide)) (v := va_rf (some p0)) (narrow_rf _) (fits_rf _ (by decide)) (G' := gsR G p0 0 (some p0)) rfl rfl grR_off (Nat.le_of_ble_eq_true rfl) (gFs_R 3 0 (fun _ _ _ => rfl)) dJ3_init_3_6 (fun H locs hG => ?_)
  obtain ⟨G1, eG1⟩ : ∃ z, z = gsR G p0 0 (some p0) := ⟨_, rfl⟩
  rw [← eG1] at hG
  replace hw := hw G1 eG1
  refine lv_aload_n hx hb dJ3_init_3_9 rfl (lv_at hl 0 rfl) ?_
  refine va_gets (v := va_rf (eQ E 0)) hx hb (hPF.z 9 rfl) hG.2 hown (hts _ q155) (fun _ h9 => h9) dJ3_init_3_10 ?_
  refine gp hx hb hts hown hPF hG 3 1 rfl in_X4 tyX4 tyX4_ok nmX4 (by decide) (by decide) (by decide) q412 (fun _ h9 => h9) rfl (gK_mon hG.1.2 h0p0 (by decide)) (v := va_rf (eQ E 0)) (narrow_rf _) (fits_rf _ (by decide)) (G' := gsR G1 p0 1 (eQ E 0)) rfl rfl grR_off (Nat.le_of_ble_eq_true rfl) (gFs_R 3 1 (fun _ _ _ => rfl)) dJ3_init_3_13 (fun H locs hG => ?_)
  obtain ⟨G2, eG2⟩ : ∃ z, z = gsR G1 p0 1 (eQ E 0) := ⟨_, rfl⟩
  rw [← eG2] at hG
  replace hw := hw G2 eG2
  refine lv_aload_n hx hb dJ3_init_3_16 rfl (lv_at hl 0 rfl) ?_
  refine va_gets (v := va_rf (eQ E 1)) hx hb (hPF.z 10 rfl) hG.2 hown (hts _ q157) (fun _ h9 => h9) dJ3_init_3_17 ?_
  refine gp hx hb hts hown hPF hG 3 2 rfl in_X4 tyX4 tyX4_ok nmX4 (by decide) (by decide) (by decide) q413 (fun _ h9 => h9) rfl (gK_mon hG.1.2 h0p0 (by decide)) (v := va_rf (eQ E 1)) (narrow_rf _) (fits_rf _ (by decide)) (G' := gsR G2 p0 2 (eQ E 1)) rfl rfl grR_off (Nat.le_of_ble_eq_true rfl) (gFs_R 3 2 (fun _ _ _ => rfl)) dJ3_init_3_20 (fun H locs hG => ?_)
  obtain ⟨G3, eG3⟩ : ∃ z, z = gsR G2 p0 2 (eQ E 1) := ⟨_, rfl⟩
  rw [← eG3] at hG
  replace hw := hw G3 eG3
  refine lv_iload hx hb dJ3_init_3_23 (lv_at hl 4 rfl) ?_
  refine lv_if_eq (tgt := 36) hx hb dJ3_init_3_25 (by decide) (fun c_ => ?_) (fun c_ => ?_)
  · replace hw := hw.1 c_
    refine lv_aload_n hx hb dJ3_init_3_36 rfl (lv_at hl 0 rfl) ?_
    refine lv_null hx hb dJ3_init_3_37 ?_
    refine gp hx hb hts hown hPF hG 3 1 rfl in_X4 tyX4 tyX4_ok nmX4 (by decide) (by decide) (by decide) q412 (fun _ h9 => h9) rfl (gK_mon hG.1.2 h0p0 (by decide)) (v := va_rf none) (narrow_rf _) (fits_rf _ (by decide)) (G' := gsR G3 p0 1 none) rfl rfl grR_off (Nat.le_of_ble_eq_true rfl) (gFs_R 3 1 (fun _ _ _ => rfl)) dJ3_init_3_38 (fun H locs hG => ?_)
    obtain ⟨G4, eG4⟩ : ∃ z, z = gsR G3 p0 1 none := ⟨_, rfl⟩
    rw [← eG4] at hG
    replace hw := hw G4 eG4
    refine lv_aload_n hx hb dJ3_init_3_41 rfl (lv_at hl 0 rfl) ?_
    refine ga_n hx hb dJ3_init_3_42 rfl (lv_at hl 1 rfl) ?_
    refine gp hx hb hts hown hPF hG 3 3 rfl in_X4 tyX4 tyX4_ok nmX4 (by decide) (by decide) (by decide) q410 (fun _ h9 => h9) rfl (gK_mon hG.1.2 h0p0 (by decide)) (v := va_rf p1) (narrow_rf _) (fits_rf _ (by decide)) (G' := gsR G4 p0 3 p1) rfl rfl grR_off (Nat.le_of_ble_eq_true rfl) (gFs_R 3 3 (fun _ _ _ => rfl)) dJ3_init_3_43 (fun H locs hG => ?_)
    obtain ⟨G5, eG5⟩ : ∃ z, z = gsR G4 p0 3 p1 := ⟨_, rfl⟩
    rw [← eG5] at hG
    replace hw := hw G5 eG5
    refine lv_aload_n hx hb dJ3_init_3_46 rfl (lv_at hl 0 rfl) ?_
    refine ga_n hx hb dJ3_init_3_47 rfl (lv_at hl 2 rfl) ?_
    refine gp hx hb hts hown hPF hG 3 0 rfl in_X4 tyX4 tyX4_ok nmX4 (by decide) (by decide) (by decide) q411 (fun _ h9 => h9) rfl (gK_mon hG.1.2 h0p0 (by decide)) (v := va_rf p2) (narrow_rf _) (fits_rf _ (by decide)) (G' := gsR G5 p0 0 p2) rfl rfl grR_off (Nat.le_of_ble_eq_true rfl) (gFs_R 3 0 (fun _ _ _ => rfl)) dJ3_init_3_48 (fun H locs hG => ?_)
    obtain ⟨G6, eG6⟩ : ∃ z, z = gsR G5 p0 0 p2 := ⟨_, rfl⟩
    rw [← eG6] at hG
    replace hw := hw G6 eG6
    refine lv_iload_n hx hb dJ3_init_3_51 rfl (lv_at hl 3 rfl) ?_
    refine lv_if_ne (tgt := 60) hx hb dJ3_init_3_52 (by decide) (fun c_ => ?_) (fun c_ => ?_)
    · replace hw := hw.1 c_
      exact gretv hx hb hr hlk hG hw (Nat.le_of_ble_eq_true rfl) (Nat.le_of_ble_eq_true rfl) dJ3_init_3_60
    · replace hw := hw.2 c_
      refine lv_aload_n hx hb dJ3_init_3_55 rfl (lv_at hl 0 rfl) ?_
      refine lv_null hx hb dJ3_init_3_56 ?_
      refine gp hx hb hts hown hPF hG 3 2 rfl in_X4 tyX4 tyX4_ok nmX4 (by decide) (by decide) (by decide) q413 (fun _ h9 => h9) rfl (gK_mon hG.1.2 h0p0 (by decide)) (v := va_rf none) (narrow_rf _) (fits_rf _ (by decide)) (G' := gsR G6 p0 2 none) rfl rfl grR_off (Nat.le_of_ble_eq_true rfl) (gFs_R 3 2 (fun _ _ _ => rfl)) dJ3_init_3_57 (fun H locs hG => ?_)
      obtain ⟨G7, eG7⟩ : ∃ z, z = gsR G6 p0 2 none := ⟨_, rfl⟩
      rw [← eG7] at hG
      replace hw := hw G7 eG7
      exact gretv hx hb hr hlk hG hw (Nat.le_of_ble_eq_true rfl) (Nat.le_of_ble_eq_true rfl) dJ3_init_3_60
  · replace hw := hw.2 c_
    refine lv_aload_n hx hb dJ3_init_3_28 rfl (lv_at hl 0 rfl) ?_
    exact hw.elim
def gw_J4_init_3_k3 (E : gE) (post : Gh → Prop) (p0 : Nat) (p1 : Option Nat) (p2 : Option Nat) (p3 : Int32) (p4 : Int32) (G : Gh) : Prop := gK G p0 = 3 ∧ (gw_J3_init_3_k3 E (fun G1 => gMon G G1 → (post G1)) p0 p1 p2 p3 p4 G)
theorem hd_J4_init_3 : yJ4_init_3.cls ≠ "java/lang/invoke/MethodHandle" ∧ yJ4_init_3.cls ≠ "java/lang/invoke/VarHandle" ∧ (parseMethodDescriptor yJ4_init_3.desc).map (fun d => d.parameters.length) = some 4 := by decide +kernel
set_option maxHeartbeats 1000000 in
set_option maxRecDepth 100000 in
theorem gm_J4_init_3_k3 (l : Launch) (E : gE) (p0 : Nat) (p1 : Option Nat) (p2 : Option Nat) (p3 : Int32) (p4 : Int32) (post : Gh → Prop) (G : Gh) (hw : gw_J4_init_3_k3 E post p0 p1 p2 p3 p4 G) : gM l E yJ4_init_3 (ws_ yJ4_init_3 cJ4_init_3 5 none) ({ frames := 2, cells := 0, slots := 0, locals := 54 } : Room) 0 0 [.ref p0, va_rf p1, va_rf p2, .int p3, .int p4] G (gpv post) := by
  refine gof (by decide) (by simp [lg_sl, va_rf_cat, gcat_i, gcat_r, gcat_l, gcat_d, gcat_f, gcat_n]) ?_
  intro p e s m below meth c A ls hx hb hr hlk hml hown hin hts hPF hA hG hl
  have hl : lv_has ls 5 [(0, .ref p0), (1, va_rf p1), (2, va_rf p2), (3, .int p3), (4, .int p4)] := by simpa [lv_args, va_rf_cat, gcat_i, gcat_r, gcat_l, gcat_d, gcat_f, gcat_n] using hl
  unfold gw_J4_init_3_k3 at hw
  obtain ⟨G0, hG0⟩ : ∃ G0, G0 = G := ⟨_, rfl⟩
  have hG : gS E A G0 s.heap G s.heap [] := by rw [hG0]; exact hG
  rw [show gQ E A G (gpv post) = gQ E A G0 (gpv post) by rw [hG0]]
  have h0p0 := hw.1; rw [← hG0] at h0p0
  replace hw := hw.2
  refine lv_aload_n hx hb dJ4_init_3_0 rfl (lv_at hl 0 rfl) ?_
  refine ga_n hx hb dJ4_init_3_1 rfl (lv_at hl 1 rfl) ?_
  refine ga_n hx hb dJ4_init_3_2 rfl (lv_at hl 2 rfl) ?_
  refine lv_iload_n hx hb dJ4_init_3_3 rfl (lv_at hl 3 rfl) ?_
  refine lv_iload hx hb dJ4_init_3_4 (lv_at hl 4 rfl) ?_
  refine gc3v hA hG (va_runI (As := [va_rf p1, va_rf p2, .int p3, .int p4]) (rest := []) ⟨hx, hb, hml, hown, hts⟩ (gm_J3_init_3_k3 l E p0 p1 p2 p3 p4 _ G hw _) (cwI 4 hts (lw_meth q677) rfl rfl rfl (hts _ q60) (hts _ q675) (hts _ q676) rfl hd_J3_init_3 ⟨Nat.le_of_ble_eq_true rfl, Nat.le_of_ble_eq_true rfl⟩) ⟨gblind, fun U hU hW => gpre hPF hA hG _ U hU hW⟩ rfl rfl hl.1 rfl (lv_room (Nat.le_of_ble_eq_true rfl)) dJ4_init_3_6 ⟨(Nat.le_of_ble_eq_true rfl), (Nat.le_of_ble_eq_true rfl)⟩) (fun G1 H locs hw hmon hG => ?_)
  replace hw := hw hmon
  exact gretv hx hb hr hlk hG hw (Nat.le_of_ble_eq_true rfl) (Nat.le_of_ble_eq_true rfl) dJ4_init_3_9
def gw_X4_init (E : gE) (post : Gh → Prop) (p0 : Nat) (p1 : Int32) (p2 : Int32) (G : Gh) : Prop := gK G p0 = 3 ∧ (gw_J4_init_3_k3 E (fun G1 => gMon G G1 → (∀ G2, G2 = gsI G1 p0 6 p1 → (∀ G3, G3 = gsI G2 p0 7 p2 → (post G3)))) p0 none none 0 0 G)
theorem hd_X4_init : yX4_init.cls ≠ "java/lang/invoke/MethodHandle" ∧ yX4_init.cls ≠ "java/lang/invoke/VarHandle" ∧ (parseMethodDescriptor yX4_init.desc).map (fun d => d.parameters.length) = some 2 := by decide +kernel
set_option maxHeartbeats 1000000 in
set_option maxRecDepth 100000 in
theorem gm_X4_init (l : Launch) (E : gE) (p0 : Nat) (p1 : Int32) (p2 : Int32) (post : Gh → Prop) (G : Gh) (hw : gw_X4_init E post p0 p1 p2 G) : gM l E yX4_init (ws_ yX4_init cX4_init 3 none) ({ frames := 3, cells := 0, slots := 0, locals := 78 } : Room) 0 0 [.ref p0, .int p1, .int p2] G (gpv post) := by
  refine gof (by decide) (Nat.le_of_ble_eq_true rfl) ?_
  intro p e s m below meth c A ls hx hb hr hlk hml hown hin hts hPF hA hG hl
  have hl : lv_has ls 3 [(0, .ref p0), (1, .int p1), (2, .int p2)] := hl
  unfold gw_X4_init at hw
  obtain ⟨G0, hG0⟩ : ∃ G0, G0 = G := ⟨_, rfl⟩
  have hG : gS E A G0 s.heap G s.heap [] := by rw [hG0]; exact hG
  rw [show gQ E A G (gpv post) = gQ E A G0 (gpv post) by rw [hG0]]
  have h0p0 := hw.1; rw [← hG0] at h0p0
  replace hw := hw.2
  refine lv_aload_n hx hb dX4_init_0 rfl (lv_at hl 0 rfl) ?_
  refine lv_null hx hb dX4_init_1 ?_
  refine lv_null hx hb dX4_init_2 ?_
  refine lv_iconst (v := 0) hx hb dX4_init_3 (by decide) ?_
  refine lv_iconst (v := 0) hx hb dX4_init_4 (by decide) ?_
  refine gc3v hA hG (va_runI (As := [va_rf none, va_rf none, .int 0, .int 0]) (rest := []) ⟨hx, hb, hml, hown, hts⟩ (gm_J4_init_3_k3 l E p0 none none 0 0 _ G hw _) (cwI 4 hts (lw_meth q674) rfl rfl rfl (hts _ q61) (hts _ q672) (hts _ q673) rfl hd_J4_init_3 ⟨Nat.le_of_ble_eq_true rfl, Nat.le_of_ble_eq_true rfl⟩) ⟨gblind, fun U hU hW => gpre hPF hA hG _ U hU hW⟩ rfl rfl hl.1 rfl (lv_room (Nat.le_of_ble_eq_true rfl)) dX4_init_5 ⟨(Nat.le_of_ble_eq_true rfl), (Nat.le_of_ble_eq_true rfl)⟩) (fun G1 H locs hw hmon hG => ?_)
  replace hw := hw hmon
  refine lv_aload_n hx hb dX4_init_8 rfl (lv_at hl 0 rfl) ?_
  refine lv_iload_n hx hb dX4_init_9 rfl (lv_at hl 1 rfl) ?_
  refine gpF hx hb hts hown hPF hG 3 6 rfl in_X4 tyX4 tyX4_ok nmX4 (by decide) (by decide) (by decide) q678 (fun _ h9 => h9) rfl hin.2 rfl (gK_mon hG.1.2 h0p0 (by decide)) (v := .int p1) rfl rfl (G' := gsI G1 p0 6 p1) rfl rfl grI_off (Nat.le_of_ble_eq_true rfl) (gFs_I 3 6 (fun _ _ _ => rfl)) dX4_init_10 (fun H locs hG => ?_)
  obtain ⟨G2, eG2⟩ : ∃ z, z = gsI G1 p0 6 p1 := ⟨_, rfl⟩
  rw [← eG2] at hG
  replace hw := hw G2 eG2
  refine lv_aload_n hx hb dX4_init_13 rfl (lv_at hl 0 rfl) ?_
  refine lv_iload_n hx hb dX4_init_14 rfl (lv_at hl 2 rfl) ?_
  refine gpF hx hb hts hown hPF hG 3 7 rfl in_X4 tyX4 tyX4_ok nmX4 (by decide) (by decide) (by decide) q680 (fun _ h9 => h9) rfl hin.2 rfl (gK_mon hG.1.2 h0p0 (by decide)) (v := .int p2) rfl rfl (G' := gsI G2 p0 7 p2) rfl rfl grI_off (Nat.le_of_ble_eq_true rfl) (gFs_I 3 7 (fun _ _ _ => rfl)) dX4_init_15 (fun H locs hG => ?_)
  obtain ⟨G3, eG3⟩ : ∃ z, z = gsI G2 p0 7 p2 := ⟨_, rfl⟩
  rw [← eG3] at hG
  replace hw := hw G3 eG3
  exact gretv hx hb hr hlk hG hw (Nat.le_of_ble_eq_true rfl) (Nat.le_of_ble_eq_true rfl) dX4_init_18
def gw_X4_check (E : gE) (post : Gh → Prop) (px : String → Nat → Gh → Prop) (p0 : Int32) (p1 : Int32) (p2 : Int32) (G : Gh) : Prop := (¬ p0 = 0 → (post G)) ∧ (p0 = 0 → (∀ q1, gK G q1 = 0 → ∀ G2, G2 = gN G q1 3 0 → (gw_X4_init E (fun G3 => gMon G2 G3 → (px "WillowPrinters$Refused" q1 G3)) q1 p1 p2 G2)))
theorem hd_X4_check : yX4_check.cls ≠ "java/lang/invoke/MethodHandle" ∧ yX4_check.cls ≠ "java/lang/invoke/VarHandle" ∧ (parseMethodDescriptor yX4_check.desc).map (fun d => d.parameters.length) = some 3 := by decide +kernel
set_option maxHeartbeats 1000000 in
set_option maxRecDepth 100000 in
theorem gm_X4_check (l : Launch) (hlt : l.stackTraces = false) (E : gE) (p0 : Int32) (p1 : Int32) (p2 : Int32) (post : Gh → Prop) (px : String → Nat → Gh → Prop) (G : Gh) (hw : gw_X4_check E post px p0 p1 p2 G) : gX l E yX4_check (ws_ yX4_check cX4_check 3 none) ({ frames := 4, cells := 1, slots := 8, locals := 100 } : Room) 1 8 [.int p0, .int p1, .int p2] G (gpv post) px := by
  refine xof (by decide) (Nat.le_of_ble_eq_true rfl) ?_
  intro p e s m below meth c A ls hx hb hr hlk hml hown hin hts hPF hA htab hG hl
  have hl : lv_has ls 3 [(0, .int p0), (1, .int p1), (2, .int p2)] := hl
  unfold gw_X4_check at hw
  obtain ⟨G0, hG0⟩ : ∃ G0, G0 = G := ⟨_, rfl⟩
  have hG : gS E A G0 s.heap G s.heap [] := by rw [hG0]; exact hG
  rw [show gQ E A G (gpv post) = gQ E A G0 (gpv post) by rw [hG0]]
  rw [show gXC E A G px = gXC E A G0 px by rw [hG0]]
  refine lv_iload_n hx hb dX4_check_0 rfl (lv_at hl 0 rfl) ?_
  refine lv_if_ne (tgt := 14) hx hb dX4_check_1 (by decide) (fun c_ => ?_) (fun c_ => ?_)
  · replace hw := hw.1 c_
    exact xretv hx hb hr hlk hG hw (Nat.le_of_ble_eq_true rfl) (Nat.le_of_ble_eq_true rfl) dX4_check_14
  · replace hw := hw.2 c_
    refine gnew (ci := 3) hx hb hts in_X4 tyX4 tyX4_ok hown q660 q661 q78 hPF hG hA rfl (by decide) (by decide) gborn_X4 (Nat.le_of_ble_eq_true rfl) (Nat.le_of_ble_eq_true rfl) dX4_check_4 (fun q1 H h0q1 hG => ?_)
    replace hw := hw q1 h0q1
    obtain ⟨G2, eG2⟩ : ∃ z, z = gN G q1 3 0 := ⟨_, rfl⟩
    rw [← eG2] at hG
    replace hw := hw G2 eG2
    have hkq1 : gK G2 q1 = 3 := by rw [eG2]; exact gK_Nq
    refine lv_dup hx hb dX4_check_7 rfl ?_
    refine lv_iload_n hx hb dX4_check_8 rfl (lv_at hl 1 rfl) ?_
    refine lv_iload_n hx hb dX4_check_9 rfl (lv_at hl 2 rfl) ?_
    refine gc3v hA hG (va_runI (As := [.int p1, .int p2]) (rest := [.ref q1]) ⟨hx, hb, hml, hown, hts⟩ (gm_X4_init l E q1 p1 p2 _ G2 hw _) (cwI 2 hts (lw_meth q671) rfl rfl rfl (hts _ q78) (hts _ q669) (hts _ q670) rfl hd_X4_init ⟨Nat.le_of_ble_eq_true rfl, Nat.le_of_ble_eq_true rfl⟩) ⟨gblind, fun U hU hW => gpre hPF hA hG _ U hU hW⟩ rfl rfl hl.1 rfl (lv_room (Nat.le_of_ble_eq_true rfl)) dX4_check_10 ⟨(Nat.le_of_ble_eq_true rfl), (Nat.le_of_ble_eq_true rfl)⟩) (fun G3 H locs hw hmon hG => ?_)
    replace hw := hw hmon
    have hkq1 : gK G3 q1 = 3 := gK_mon hmon hkq1 (by decide)
    obtain ⟨ce, hce, hcv, hcl⟩ := gthr hPF hG (gC_of hkq1 (by decide)) (by decide) (by decide) rfl
    exact vx_athrow hx hb dX4_check_13 (gleave hlk hG (fun x hx9 => (htab x hx9).elim) hce hcv hcl hw (Nat.le_of_ble_eq_true rfl) (Nat.le_of_ble_eq_true rfl))
def gw_J3_init_3_k13 (E : gE) (post : Gh → Prop) (p0 : Nat) (p1 : Option Nat) (p2 : Option Nat) (p3 : Int32) (p4 : Int32) (G : Gh) : Prop := gK G p0 = 13 ∧ (∀ G1, G1 = gsR G p0 0 (some p0) → (∀ G2, G2 = gsR G1 p0 1 (eQ E 0) → (∀ G3, G3 = gsR G2 p0 2 (eQ E 1) → ((p4 = 0 → (∀ G4, G4 = gsR G3 p0 1 none → (∀ G5, G5 = gsR G4 p0 3 p1 → (∀ G6, G6 = gsR G5 p0 0 p2 → ((¬ p3 = 0 → (post G6)) ∧ (p3 = 0 → (∀ G7, G7 = gsR G6 p0 2 none → (post G7)))))))) ∧ (¬ p4 = 0 → (False))))))
set_option maxHeartbeats 1000000 in
set_option maxRecDepth 100000 in
theorem gm_J3_init_3_k13 (l : Launch) (E : gE) (p0 : Nat) (p1 : Option Nat) (p2 : Option Nat) (p3 : Int32) (p4 : Int32) (post : Gh → Prop) (G : Gh) (hw : gw_J3_init_3_k13 E post p0 p1 p2 p3 p4 G) : gM l E yJ3_init_3 (ws_ yJ3_init_3 cJ3_init_3 5 none) ({ frames := 1, cells := 0, slots := 0, locals := 30 } : Room) 0 0 [.ref p0, va_rf p1, va_rf p2, .int p3, .int p4] G (gpv post) := by
  refine gof (by decide) (by simp [lg_sl, va_rf_cat, gcat_i, gcat_r, gcat_l, gcat_d, gcat_f, gcat_n]) ?_
  intro p e s m below meth c A ls hx hb hr hlk hml hown hin hts hPF hA hG hl
  have hl : lv_has ls 5 [(0, .ref p0), (1, va_rf p1), (2, va_rf p2), (3, .int p3), (4, .int p4)] := by simpa [lv_args, va_rf_cat, gcat_i, gcat_r, gcat_l, gcat_d, gcat_f, gcat_n] using hl
  unfold gw_J3_init_3_k13 at hw
  obtain ⟨G0, hG0⟩ : ∃ G0, G0 = G := ⟨_, rfl⟩
  have hG : gS E A G0 s.heap G s.heap [] := by rw [hG0]; exact hG
  rw [show gQ E A G (gpv post) = gQ E A G0 (gpv post) by rw [hG0]]
  have h0p0 := hw.1; rw [← hG0] at h0p0
  replace hw := hw.2
  refine lv_aload_n hx hb dJ3_init_3_0 rfl (lv_at hl 0 rfl) ?_
  refine W.objInit hx hb hown (hts _ q154) (hts _ q105) (hts _ q106) (g := F0 m 1 ls (.ref p0 :: [])) rfl (hl.1.trans hml.symm) rfl dJ3_init_3_1 (Nat.le_of_ble_eq_true rfl) (by (try simp only [List.map, va_rf_cat, gcat_i, gcat_r, gcat_l, gcat_d, gcat_f, gcat_n]); exact Nat.le_of_ble_eq_true rfl) ?_
  refine W.eq (g2 := F0 m 4 ls []) rfl ?_
  refine lv_aload_n hx hb dJ3_init_3_4 rfl (lv_at hl 0 rfl) ?_
  refine lv_aload_n hx hb dJ3_init_3_5 rfl (lv_at hl 0 rfl) ?_
  refine gp hx hb hts hown hPF hG 13 0 rfl in_X15 tyX15 tyX15_ok nmX15 (by decide) (by decide) (by decide) q411 (fun _ h9 => h9) rfl (gK_mon hG.1.2 h0p0 (by decide)) (v := va_rf (some p0)) (narrow_rf _) (fits_rf _ (by decide)) (G' := gsR G p0 0 (some p0)) rfl rfl grR_off (Nat.le_of_ble_eq_true rfl) (gFs_R 13 0 (fun _ _ _ => rfl)) dJ3_init_3_6 (fun H locs hG => ?_)
  obtain ⟨G1, eG1⟩ : ∃ z, z = gsR G p0 0 (some p0) := ⟨_, rfl⟩
  rw [← eG1] at hG
  replace hw := hw G1 eG1
  refine lv_aload_n hx hb dJ3_init_3_9 rfl (lv_at hl 0 rfl) ?_
  refine va_gets (v := va_rf (eQ E 0)) hx hb (hPF.z 9 rfl) hG.2 hown (hts _ q155) (fun _ h9 => h9) dJ3_init_3_10 ?_
  refine gp hx hb hts hown hPF hG 13 1 rfl in_X15 tyX15 tyX15_ok nmX15 (by decide) (by decide) (by decide) q412 (fun _ h9 => h9) rfl (gK_mon hG.1.2 h0p0 (by decide)) (v := va_rf (eQ E 0)) (narrow_rf _) (fits_rf _ (by decide)) (G' := gsR G1 p0 1 (eQ E 0)) rfl rfl grR_off (Nat.le_of_ble_eq_true rfl) (gFs_R 13 1 (fun _ _ _ => rfl)) dJ3_init_3_13 (fun H locs hG => ?_)
  obtain ⟨G2, eG2⟩ : ∃ z, z = gsR G1 p0 1 (eQ E 0) := ⟨_, rfl⟩
  rw [← eG2] at hG
  replace hw := hw G2 eG2
  refine lv_aload_n hx hb dJ3_init_3_16 rfl (lv_at hl 0 rfl) ?_
  refine va_gets (v := va_rf (eQ E 1)) hx hb (hPF.z 10 rfl) hG.2 hown (hts _ q157) (fun _ h9 => h9) dJ3_init_3_17 ?_
  refine gp hx hb hts hown hPF hG 13 2 rfl in_X15 tyX15 tyX15_ok nmX15 (by decide) (by decide) (by decide) q413 (fun _ h9 => h9) rfl (gK_mon hG.1.2 h0p0 (by decide)) (v := va_rf (eQ E 1)) (narrow_rf _) (fits_rf _ (by decide)) (G' := gsR G2 p0 2 (eQ E 1)) rfl rfl grR_off (Nat.le_of_ble_eq_true rfl) (gFs_R 13 2 (fun _ _ _ => rfl)) dJ3_init_3_20 (fun H locs hG => ?_)
  obtain ⟨G3, eG3⟩ : ∃ z, z = gsR G2 p0 2 (eQ E 1) := ⟨_, rfl⟩
  rw [← eG3] at hG
  replace hw := hw G3 eG3
  refine lv_iload hx hb dJ3_init_3_23 (lv_at hl 4 rfl) ?_
  refine lv_if_eq (tgt := 36) hx hb dJ3_init_3_25 (by decide) (fun c_ => ?_) (fun c_ => ?_)
  · replace hw := hw.1 c_
    refine lv_aload_n hx hb dJ3_init_3_36 rfl (lv_at hl 0 rfl) ?_
    refine lv_null hx hb dJ3_init_3_37 ?_
    refine gp hx hb hts hown hPF hG 13 1 rfl in_X15 tyX15 tyX15_ok nmX15 (by decide) (by decide) (by decide) q412 (fun _ h9 => h9) rfl (gK_mon hG.1.2 h0p0 (by decide)) (v := va_rf none) (narrow_rf _) (fits_rf _ (by decide)) (G' := gsR G3 p0 1 none) rfl rfl grR_off (Nat.le_of_ble_eq_true rfl) (gFs_R 13 1 (fun _ _ _ => rfl)) dJ3_init_3_38 (fun H locs hG => ?_)
    obtain ⟨G4, eG4⟩ : ∃ z, z = gsR G3 p0 1 none := ⟨_, rfl⟩
    rw [← eG4] at hG
    replace hw := hw G4 eG4
    refine lv_aload_n hx hb dJ3_init_3_41 rfl (lv_at hl 0 rfl) ?_
    refine ga_n hx hb dJ3_init_3_42 rfl (lv_at hl 1 rfl) ?_
    refine gp hx hb hts hown hPF hG 13 3 rfl in_X15 tyX15 tyX15_ok nmX15 (by decide) (by decide) (by decide) q410 (fun _ h9 => h9) rfl (gK_mon hG.1.2 h0p0 (by decide)) (v := va_rf p1) (narrow_rf _) (fits_rf _ (by decide)) (G' := gsR G4 p0 3 p1) rfl rfl grR_off (Nat.le_of_ble_eq_true rfl) (gFs_R 13 3 (fun _ _ _ => rfl)) dJ3_init_3_43 (fun H locs hG => ?_)
    obtain ⟨G5, eG5⟩ : ∃ z, z = gsR G4 p0 3 p1 := ⟨_, rfl⟩
    rw [← eG5] at hG
    replace hw := hw G5 eG5
    refine lv_aload_n hx hb dJ3_init_3_46 rfl (lv_at hl 0 rfl) ?_
    refine ga_n hx hb dJ3_init_3_47 rfl (lv_at hl 2 rfl) ?_
    refine gp hx hb hts hown hPF hG 13 0 rfl in_X15 tyX15 tyX15_ok nmX15 (by decide) (by decide) (by decide) q411 (fun _ h9 => h9) rfl (gK_mon hG.1.2 h0p0 (by decide)) (v := va_rf p2) (narrow_rf _) (fits_rf _ (by decide)) (G' := gsR G5 p0 0 p2) rfl rfl grR_off (Nat.le_of_ble_eq_true rfl) (gFs_R 13 0 (fun _ _ _ => rfl)) dJ3_init_3_48 (fun H locs hG => ?_)
    obtain ⟨G6, eG6⟩ : ∃ z, z = gsR G5 p0 0 p2 := ⟨_, rfl⟩
    rw [← eG6] at hG
    replace hw := hw G6 eG6
    refine lv_iload_n hx hb dJ3_init_3_51 rfl (lv_at hl 3 rfl) ?_
    refine lv_if_ne (tgt := 60) hx hb dJ3_init_3_52 (by decide) (fun c_ => ?_) (fun c_ => ?_)
    · replace hw := hw.1 c_
      exact gretv hx hb hr hlk hG hw (Nat.le_of_ble_eq_true rfl) (Nat.le_of_ble_eq_true rfl) dJ3_init_3_60
    · replace hw := hw.2 c_
      refine lv_aload_n hx hb dJ3_init_3_55 rfl (lv_at hl 0 rfl) ?_
      refine lv_null hx hb dJ3_init_3_56 ?_
      refine gp hx hb hts hown hPF hG 13 2 rfl in_X15 tyX15 tyX15_ok nmX15 (by decide) (by decide) (by decide) q413 (fun _ h9 => h9) rfl (gK_mon hG.1.2 h0p0 (by decide)) (v := va_rf none) (narrow_rf _) (fits_rf _ (by decide)) (G' := gsR G6 p0 2 none) rfl rfl grR_off (Nat.le_of_ble_eq_true rfl) (gFs_R 13 2 (fun _ _ _ => rfl)) dJ3_init_3_57 (fun H locs hG => ?_)
      obtain ⟨G7, eG7⟩ : ∃ z, z = gsR G6 p0 2 none := ⟨_, rfl⟩
      rw [← eG7] at hG
      replace hw := hw G7 eG7
      exact gretv hx hb hr hlk hG hw (Nat.le_of_ble_eq_true rfl) (Nat.le_of_ble_eq_true rfl) dJ3_init_3_60
  · replace hw := hw.2 c_
    refine lv_aload_n hx hb dJ3_init_3_28 rfl (lv_at hl 0 rfl) ?_
    exact hw.elim
def gw_J4_init_3_k13 (E : gE) (post : Gh → Prop) (p0 : Nat) (p1 : Option Nat) (p2 : Option Nat) (p3 : Int32) (p4 : Int32) (G : Gh) : Prop := gK G p0 = 13 ∧ (gw_J3_init_3_k13 E (fun G1 => gMon G G1 → (post G1)) p0 p1 p2 p3 p4 G)
set_option maxHeartbeats 1000000 in
set_option maxRecDepth 100000 in
theorem gm_J4_init_3_k13 (l : Launch) (E : gE) (p0 : Nat) (p1 : Option Nat) (p2 : Option Nat) (p3 : Int32) (p4 : Int32) (post : Gh → Prop) (G : Gh) (hw : gw_J4_init_3_k13 E post p0 p1 p2 p3 p4 G) : gM l E yJ4_init_3 (ws_ yJ4_init_3 cJ4_init_3 5 none) ({ frames := 2, cells := 0, slots := 0, locals := 54 } : Room) 0 0 [.ref p0, va_rf p1, va_rf p2, .int p3, .int p4] G (gpv post) := by
  refine gof (by decide) (by simp [lg_sl, va_rf_cat, gcat_i, gcat_r, gcat_l, gcat_d, gcat_f, gcat_n]) ?_
  intro p e s m below meth c A ls hx hb hr hlk hml hown hin hts hPF hA hG hl
  have hl : lv_has ls 5 [(0, .ref p0), (1, va_rf p1), (2, va_rf p2), (3, .int p3), (4, .int p4)] := by simpa [lv_args, va_rf_cat, gcat_i, gcat_r, gcat_l, gcat_d, gcat_f, gcat_n] using hl
  unfold gw_J4_init_3_k13 at hw
  obtain ⟨G0, hG0⟩ : ∃ G0, G0 = G := ⟨_, rfl⟩
  have hG : gS E A G0 s.heap G s.heap [] := by rw [hG0]; exact hG
  rw [show gQ E A G (gpv post) = gQ E A G0 (gpv post) by rw [hG0]]
  have h0p0 := hw.1; rw [← hG0] at h0p0
  replace hw := hw.2
  refine lv_aload_n hx hb dJ4_init_3_0 rfl (lv_at hl 0 rfl) ?_
  refine ga_n hx hb dJ4_init_3_1 rfl (lv_at hl 1 rfl) ?_
  refine ga_n hx hb dJ4_init_3_2 rfl (lv_at hl 2 rfl) ?_
  refine lv_iload_n hx hb dJ4_init_3_3 rfl (lv_at hl 3 rfl) ?_
  refine lv_iload hx hb dJ4_init_3_4 (lv_at hl 4 rfl) ?_
  refine gc3v hA hG (va_runI (As := [va_rf p1, va_rf p2, .int p3, .int p4]) (rest := []) ⟨hx, hb, hml, hown, hts⟩ (gm_J3_init_3_k13 l E p0 p1 p2 p3 p4 _ G hw _) (cwI 4 hts (lw_meth q677) rfl rfl rfl (hts _ q60) (hts _ q675) (hts _ q676) rfl hd_J3_init_3 ⟨Nat.le_of_ble_eq_true rfl, Nat.le_of_ble_eq_true rfl⟩) ⟨gblind, fun U hU hW => gpre hPF hA hG _ U hU hW⟩ rfl rfl hl.1 rfl (lv_room (Nat.le_of_ble_eq_true rfl)) dJ4_init_3_6 ⟨(Nat.le_of_ble_eq_true rfl), (Nat.le_of_ble_eq_true rfl)⟩) (fun G1 H locs hw hmon hG => ?_)
  replace hw := hw hmon
  exact gretv hx hb hr hlk hG hw (Nat.le_of_ble_eq_true rfl) (Nat.le_of_ble_eq_true rfl) dJ4_init_3_9
def gw_X15_init (E : gE) (post : Gh → Prop) (p0 : Nat) (p1 : Int32) (G : Gh) : Prop := gK G p0 = 13 ∧ (gw_J4_init_3_k13 E (fun G1 => gMon G G1 → (∀ G2, G2 = gsI G1 p0 6 p1 → (post G2))) p0 none none 0 0 G)
theorem hd_X15_init : yX15_init.cls ≠ "java/lang/invoke/MethodHandle" ∧ yX15_init.cls ≠ "java/lang/invoke/VarHandle" ∧ (parseMethodDescriptor yX15_init.desc).map (fun d => d.parameters.length) = some 1 := by decide +kernel
set_option maxHeartbeats 1000000 in
set_option maxRecDepth 100000 in
theorem gm_X15_init (l : Launch) (E : gE) (p0 : Nat) (p1 : Int32) (post : Gh → Prop) (G : Gh) (hw : gw_X15_init E post p0 p1 G) : gM l E yX15_init (ws_ yX15_init cX15_init 2 none) ({ frames := 3, cells := 0, slots := 0, locals := 78 } : Room) 0 0 [.ref p0, .int p1] G (gpv post) := by
  refine gof (by decide) (Nat.le_of_ble_eq_true rfl) ?_
  intro p e s m below meth c A ls hx hb hr hlk hml hown hin hts hPF hA hG hl
  have hl : lv_has ls 2 [(0, .ref p0), (1, .int p1)] := hl
  unfold gw_X15_init at hw
  obtain ⟨G0, hG0⟩ : ∃ G0, G0 = G := ⟨_, rfl⟩
  have hG : gS E A G0 s.heap G s.heap [] := by rw [hG0]; exact hG
  rw [show gQ E A G (gpv post) = gQ E A G0 (gpv post) by rw [hG0]]
  have h0p0 := hw.1; rw [← hG0] at h0p0
  replace hw := hw.2
  refine lv_aload_n hx hb dX15_init_0 rfl (lv_at hl 0 rfl) ?_
  refine lv_null hx hb dX15_init_1 ?_
  refine lv_null hx hb dX15_init_2 ?_
  refine lv_iconst (v := 0) hx hb dX15_init_3 (by decide) ?_
  refine lv_iconst (v := 0) hx hb dX15_init_4 (by decide) ?_
  refine gc3v hA hG (va_runI (As := [va_rf none, va_rf none, .int 0, .int 0]) (rest := []) ⟨hx, hb, hml, hown, hts⟩ (gm_J4_init_3_k13 l E p0 none none 0 0 _ G hw _) (cwI 4 hts (lw_meth q674) rfl rfl rfl (hts _ q61) (hts _ q1830) (hts _ q673) rfl hd_J4_init_3 ⟨Nat.le_of_ble_eq_true rfl, Nat.le_of_ble_eq_true rfl⟩) ⟨gblind, fun U hU hW => gpre hPF hA hG _ U hU hW⟩ rfl rfl hl.1 rfl (lv_room (Nat.le_of_ble_eq_true rfl)) dX15_init_5 ⟨(Nat.le_of_ble_eq_true rfl), (Nat.le_of_ble_eq_true rfl)⟩) (fun G1 H locs hw hmon hG => ?_)
  replace hw := hw hmon
  refine lv_aload_n hx hb dX15_init_8 rfl (lv_at hl 0 rfl) ?_
  refine lv_iload_n hx hb dX15_init_9 rfl (lv_at hl 1 rfl) ?_
  refine gpF hx hb hts hown hPF hG 13 6 rfl in_X15 tyX15 tyX15_ok nmX15 (by decide) (by decide) (by decide) q1831 (fun _ h9 => h9) rfl hin.2 rfl (gK_mon hG.1.2 h0p0 (by decide)) (v := .int p1) rfl rfl (G' := gsI G1 p0 6 p1) rfl rfl grI_off (Nat.le_of_ble_eq_true rfl) (gFs_I 13 6 (fun _ _ _ => rfl)) dX15_init_10 (fun H locs hG => ?_)
  obtain ⟨G2, eG2⟩ : ∃ z, z = gsI G1 p0 6 p1 := ⟨_, rfl⟩
  rw [← eG2] at hG
  replace hw := hw G2 eG2
  exact gretv hx hb hr hlk hG hw (Nat.le_of_ble_eq_true rfl) (Nat.le_of_ble_eq_true rfl) dX15_init_13
