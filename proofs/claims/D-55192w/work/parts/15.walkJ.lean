/-! walks over the ghost heap: walkJ -/
set_option maxRecDepth 100000
def gw_J2_size (E : gE) (post : Int32 → Gh → Prop) (p0 : Nat) (G : Gh) : Prop := gK G p0 = 14 ∧ (post (gI G p0 2) G)
theorem hd_J2_size : yJ2_size.cls = RJ2 ∧ yJ2_size.cls ≠ "java/lang/invoke/MethodHandle" ∧ yJ2_size.cls ≠ "java/lang/invoke/VarHandle" ∧ (parseMethodDescriptor yJ2_size.desc).map (fun d => d.parameters.length) = some 0 := by decide +kernel
theorem hdn_J2_size : yJ2_size.cls ≠ "java/lang/invoke/MethodHandle" ∧ yJ2_size.cls ≠ "java/lang/invoke/VarHandle" ∧ (parseMethodDescriptor yJ2_size.desc).map (fun d => d.parameters.length) = some 0 := hd_J2_size.2
theorem hdu_J2_size : RJ2 ≠ "java/lang/invoke/MethodHandle" ∧ RJ2 ≠ "java/lang/invoke/VarHandle" ∧ (parseMethodDescriptor yJ2_size.desc).map (fun d => d.parameters.length) = some 0 := by decide +kernel
theorem hds_J2_size : yJ2_size.name ≠ "<init>" ∧ (parseMethodDescriptor yJ2_size.desc).map (fun d => d.parameters.length) = some 0 := by decide +kernel
set_option maxHeartbeats 1000000 in
set_option maxRecDepth 100000 in
theorem gm_J2_size (l : Launch) (E : gE) (p0 : Nat) (post : Int32 → Gh → Prop) (G : Gh) (hw : gw_J2_size E post p0 G) : gM l E yJ2_size (ws_ yJ2_size cJ2_size 1 (some .int)) ({ frames := 0, cells := 0, slots := 0, locals := 0 } : Room) 0 0 [.ref p0] G (gpi post) := by
  refine gof (by decide) (Nat.le_of_ble_eq_true rfl) ?_
  intro p e s m below meth c A ls hx hb hr hlk hml hown hin hts hPF hA hG hl
  have hl : lv_has ls 1 [(0, .ref p0)] := hl
  unfold gw_J2_size at hw
  obtain ⟨G0, hG0⟩ : ∃ G0, G0 = G := ⟨_, rfl⟩
  have hG : gS E A G0 s.heap G s.heap [] := by rw [hG0]; exact hG
  rw [show gQ E A G (gpi post) = gQ E A G0 (gpi post) by rw [hG0]]
  have h0p0 := hw.1; rw [← hG0] at h0p0
  replace hw := hw.2
  refine lv_aload_n hx hb dJ2_size_0 rfl (lv_at hl 0 rfl) ?_
  refine gg hx hb hts hown hPF hG 14 2 rfl in_J2 (by decide) (by decide) (by decide) q450 (fun _ h9 => h9) (gC_of (gK_mon hG.1.2 h0p0 (by decide)) (by decide)) (v := .int (gI G p0 2)) rfl dJ2_size_1 ?_
  exact greti hx hb hr hlk hG rfl hw (Nat.le_of_ble_eq_true rfl) (Nat.le_of_ble_eq_true rfl) dJ2_size_4
def gw_J14_checkIndex (E : gE) (post : Int32 → Gh → Prop) (p0 : Int32) (p1 : Int32) (p2 : Nat) (G : Gh) : Prop := (p0 < 0 → (False)) ∧ (¬ p0 < 0 → ((p0 < p1 → (post p0 G)) ∧ (¬ p0 < p1 → (False))))
theorem hd_J14_checkIndex : yJ14_checkIndex.cls ≠ "java/lang/invoke/MethodHandle" ∧ yJ14_checkIndex.cls ≠ "java/lang/invoke/VarHandle" ∧ (parseMethodDescriptor yJ14_checkIndex.desc).map (fun d => d.parameters.length) = some 3 := by decide +kernel
set_option maxHeartbeats 1000000 in
set_option maxRecDepth 100000 in
theorem gm_J14_checkIndex (l : Launch) (E : gE) (p0 : Int32) (p1 : Int32) (p2 : Nat) (post : Int32 → Gh → Prop) (G : Gh) (hw : gw_J14_checkIndex E post p0 p1 p2 G) : gM l E yJ14_checkIndex (ws_ yJ14_checkIndex cJ14_checkIndex 3 (some .int)) ({ frames := 0, cells := 0, slots := 0, locals := 0 } : Room) 0 0 [.int p0, .int p1, .ref p2] G (gpi post) := by
  refine gof (by decide) (Nat.le_of_ble_eq_true rfl) ?_
  intro p e s m below meth c A ls hx hb hr hlk hml hown hin hts hPF hA hG hl
  have hl : lv_has ls 3 [(0, .int p0), (1, .int p1), (2, .ref p2)] := hl
  unfold gw_J14_checkIndex at hw
  obtain ⟨G0, hG0⟩ : ∃ G0, G0 = G := ⟨_, rfl⟩
  have hG : gS E A G0 s.heap G s.heap [] := by rw [hG0]; exact hG
  rw [show gQ E A G (gpi post) = gQ E A G0 (gpi post) by rw [hG0]]
  refine lv_iload_n hx hb dJ14_checkIndex_0 rfl (lv_at hl 0 rfl) ?_
  refine lv_if_lt (tgt := 9) hx hb dJ14_checkIndex_1 (by decide) (fun c_ => ?_) (fun c_ => ?_)
  · replace hw := hw.1 c_
    refine lv_aload_n hx hb dJ14_checkIndex_9 rfl (lv_at hl 2 rfl) ?_
    refine lv_iload_n hx hb dJ14_checkIndex_10 rfl (lv_at hl 0 rfl) ?_
    refine lv_iload_n hx hb dJ14_checkIndex_11 rfl (lv_at hl 1 rfl) ?_
    exact hw.elim
  · replace hw := hw.2 c_
    refine lv_iload_n hx hb dJ14_checkIndex_4 rfl (lv_at hl 0 rfl) ?_
    refine lv_iload_n hx hb dJ14_checkIndex_5 rfl (lv_at hl 1 rfl) ?_
    refine lv_icmp_lt (tgt := 16) hx hb dJ14_checkIndex_6 (by decide) (fun c_ => ?_) (fun c_ => ?_)
    · replace hw := hw.1 c_
      refine lv_iload_n hx hb dJ14_checkIndex_16 rfl (lv_at hl 0 rfl) ?_
      exact greti hx hb hr hlk hG rfl hw (Nat.le_of_ble_eq_true rfl) (Nat.le_of_ble_eq_true rfl) dJ14_checkIndex_17
    · replace hw := hw.2 c_
      refine lv_aload_n hx hb dJ14_checkIndex_9 rfl (lv_at hl 2 rfl) ?_
      refine lv_iload_n hx hb dJ14_checkIndex_10 rfl (lv_at hl 0 rfl) ?_
      refine lv_iload_n hx hb dJ14_checkIndex_11 rfl (lv_at hl 1 rfl) ?_
      exact hw.elim
def gw_J24_checkIndex (E : gE) (post : Int32 → Gh → Prop) (p0 : Int32) (p1 : Int32) (G : Gh) : Prop := False
theorem hd_J24_checkIndex : yJ24_checkIndex.cls ≠ "java/lang/invoke/MethodHandle" ∧ yJ24_checkIndex.cls ≠ "java/lang/invoke/VarHandle" ∧ (parseMethodDescriptor yJ24_checkIndex.desc).map (fun d => d.parameters.length) = some 2 := by decide +kernel
set_option maxHeartbeats 1000000 in
set_option maxRecDepth 100000 in
theorem gm_J24_checkIndex (l : Launch) (E : gE) (p0 : Int32) (p1 : Int32) (post : Int32 → Gh → Prop) (G : Gh) (hw : gw_J24_checkIndex E post p0 p1 G) : gM l E yJ24_checkIndex (ws_ yJ24_checkIndex cJ24_checkIndex 2 (some .int)) ({ frames := 0, cells := 0, slots := 0, locals := 0 } : Room) 0 0 [.int p0, .int p1] G (gpi post) := by
  refine gof (by decide) (Nat.le_of_ble_eq_true rfl) ?_
  intro p e s m below meth c A ls hx hb hr hlk hml hown hin hts hPF hA hG hl
  have hl : lv_has ls 2 [(0, .int p0), (1, .int p1)] := hl
  unfold gw_J24_checkIndex at hw
  obtain ⟨G0, hG0⟩ : ∃ G0, G0 = G := ⟨_, rfl⟩
  have hG : gS E A G0 s.heap G s.heap [] := by rw [hG0]; exact hG
  rw [show gQ E A G (gpi post) = gQ E A G0 (gpi post) by rw [hG0]]
  refine lv_iload_n hx hb dJ24_checkIndex_0 rfl (lv_at hl 0 rfl) ?_
  refine lv_iload_n hx hb dJ24_checkIndex_1 rfl (lv_at hl 1 rfl) ?_
  refine lv_null hx hb dJ24_checkIndex_2 ?_
  exact hw.elim
def gw_J2_elementData (E : gE) (post : Option Nat → Gh → Prop) (p0 : Nat) (p1 : Int32) (G : Gh) : Prop := gK G p0 = 14 ∧ (∃ q1, (gR G p0 1) = some q1 ∧ (gC G q1 = 35 ∧ (vp_in p1 (gL G q1) ∧ (post (gR G q1 p1.toNatClampNeg) G))))
theorem hd_J2_elementData : yJ2_elementData.cls = RJ2 ∧ yJ2_elementData.cls ≠ "java/lang/invoke/MethodHandle" ∧ yJ2_elementData.cls ≠ "java/lang/invoke/VarHandle" ∧ (parseMethodDescriptor yJ2_elementData.desc).map (fun d => d.parameters.length) = some 1 := by decide +kernel
theorem hdn_J2_elementData : yJ2_elementData.cls ≠ "java/lang/invoke/MethodHandle" ∧ yJ2_elementData.cls ≠ "java/lang/invoke/VarHandle" ∧ (parseMethodDescriptor yJ2_elementData.desc).map (fun d => d.parameters.length) = some 1 := hd_J2_elementData.2
theorem hdu_J2_elementData : RJ2 ≠ "java/lang/invoke/MethodHandle" ∧ RJ2 ≠ "java/lang/invoke/VarHandle" ∧ (parseMethodDescriptor yJ2_elementData.desc).map (fun d => d.parameters.length) = some 1 := by decide +kernel
theorem hds_J2_elementData : yJ2_elementData.name ≠ "<init>" ∧ (parseMethodDescriptor yJ2_elementData.desc).map (fun d => d.parameters.length) = some 1 := by decide +kernel
set_option maxHeartbeats 1000000 in
set_option maxRecDepth 100000 in
theorem gm_J2_elementData (l : Launch) (E : gE) (p0 : Nat) (p1 : Int32) (post : Option Nat → Gh → Prop) (G : Gh) (hw : gw_J2_elementData E post p0 p1 G) : gM l E yJ2_elementData (ws_ yJ2_elementData cJ2_elementData 2 (some (.object "java/lang/Object"))) ({ frames := 0, cells := 0, slots := 0, locals := 0 } : Room) 0 0 [.ref p0, .int p1] G (gpr post) := by
  refine gof (by decide) (Nat.le_of_ble_eq_true rfl) ?_
  intro p e s m below meth c A ls hx hb hr hlk hml hown hin hts hPF hA hG hl
  have hl : lv_has ls 2 [(0, .ref p0), (1, .int p1)] := hl
  unfold gw_J2_elementData at hw
  obtain ⟨G0, hG0⟩ : ∃ G0, G0 = G := ⟨_, rfl⟩
  have hG : gS E A G0 s.heap G s.heap [] := by rw [hG0]; exact hG
  rw [show gQ E A G (gpr post) = gQ E A G0 (gpr post) by rw [hG0]]
  have h0p0 := hw.1; rw [← hG0] at h0p0
  replace hw := hw.2
  refine lv_aload_n hx hb dJ2_elementData_0 rfl (lv_at hl 0 rfl) ?_
  refine gg hx hb hts hown hPF hG 14 1 rfl in_J2 (by decide) (by decide) (by decide) q447 (fun _ h9 => h9) (gC_of (gK_mon hG.1.2 h0p0 (by decide)) (by decide)) (v := va_rf (gR G p0 1)) rfl dJ2_elementData_1 ?_
  refine lv_iload_n hx hb dJ2_elementData_4 rfl (lv_at hl 1 rfl) ?_
  obtain ⟨q1, hq1, hw⟩ := hw
  refine W.eq (g2 := F0 m 5 ls [.int p1, .ref q1]) (by rw [hq1]; rfl) ?_
  have hk2 := hw.1
  replace hw := hw.2
  have hi3 := hw.1
  replace hw := hw.2
  refine glq hx hb hPF hG hk2 hi3 rfl dJ2_elementData_5 ?_
  exact gretr (v := (gR G q1 p1.toNatClampNeg)) hx hb hr hlk hG (Or.inl ⟨_, rfl⟩) hw (Nat.le_of_ble_eq_true rfl) (Nat.le_of_ble_eq_true rfl) dJ2_elementData_6
def gw_J2_get (E : gE) (post : Option Nat → Gh → Prop) (p0 : Nat) (p1 : Int32) (G : Gh) : Prop := gK G p0 = 14 ∧ (gw_J24_checkIndex E (fun r2 G1 => gMon G G1 → (gw_J2_elementData E (fun r4 G3 => gMon G1 G3 → (post r4 G3)) p0 p1 G1)) p1 (gI G p0 2) G)
theorem hd_J2_get : yJ2_get.cls = RJ2 ∧ yJ2_get.cls ≠ "java/lang/invoke/MethodHandle" ∧ yJ2_get.cls ≠ "java/lang/invoke/VarHandle" ∧ (parseMethodDescriptor yJ2_get.desc).map (fun d => d.parameters.length) = some 1 := by decide +kernel
theorem hdn_J2_get : yJ2_get.cls ≠ "java/lang/invoke/MethodHandle" ∧ yJ2_get.cls ≠ "java/lang/invoke/VarHandle" ∧ (parseMethodDescriptor yJ2_get.desc).map (fun d => d.parameters.length) = some 1 := hd_J2_get.2
theorem hdu_J2_get : RJ2 ≠ "java/lang/invoke/MethodHandle" ∧ RJ2 ≠ "java/lang/invoke/VarHandle" ∧ (parseMethodDescriptor yJ2_get.desc).map (fun d => d.parameters.length) = some 1 := by decide +kernel
theorem hds_J2_get : yJ2_get.name ≠ "<init>" ∧ (parseMethodDescriptor yJ2_get.desc).map (fun d => d.parameters.length) = some 1 := by decide +kernel
set_option maxHeartbeats 1000000 in
set_option maxRecDepth 100000 in
theorem gm_J2_get (l : Launch) (E : gE) (p0 : Nat) (p1 : Int32) (post : Option Nat → Gh → Prop) (G : Gh) (hw : gw_J2_get E post p0 p1 G) : gM l E yJ2_get (ws_ yJ2_get cJ2_get 2 (some (.object "java/lang/Object"))) ({ frames := 1, cells := 0, slots := 0, locals := 21 } : Room) 0 0 [.ref p0, .int p1] G (gpr post) := by
  refine gof (by decide) (Nat.le_of_ble_eq_true rfl) ?_
  intro p e s m below meth c A ls hx hb hr hlk hml hown hin hts hPF hA hG hl
  have hl : lv_has ls 2 [(0, .ref p0), (1, .int p1)] := hl
  unfold gw_J2_get at hw
  obtain ⟨G0, hG0⟩ : ∃ G0, G0 = G := ⟨_, rfl⟩
  have hG : gS E A G0 s.heap G s.heap [] := by rw [hG0]; exact hG
  rw [show gQ E A G (gpr post) = gQ E A G0 (gpr post) by rw [hG0]]
  have h0p0 := hw.1; rw [← hG0] at h0p0
  replace hw := hw.2
  refine lv_iload_n hx hb dJ2_get_0 rfl (lv_at hl 1 rfl) ?_
  refine lv_aload_n hx hb dJ2_get_1 rfl (lv_at hl 0 rfl) ?_
  refine gg hx hb hts hown hPF hG 14 2 rfl in_J2 (by decide) (by decide) (by decide) q450 (fun _ h9 => h9) (gC_of (gK_mon hG.1.2 h0p0 (by decide)) (by decide)) (v := .int (gI G p0 2)) rfl dJ2_get_2 ?_
  refine gc3i hA hG (va_runS (As := [.int p1, .int (gI G p0 2)]) (rest := []) ⟨hx, hb, hml, hown, hts⟩ (gm_J24_checkIndex l E p1 (gI G p0 2) _ G hw _) (va_cwS 2 hts (lw_S q598 q599 q90 q600) rfl rfl rfl hd_J24_checkIndex ⟨Nat.le_of_ble_eq_true rfl, Nat.le_of_ble_eq_true rfl⟩) ⟨gblind, fun U hU hW => gpre hPF hA hG _ U hU hW⟩ rfl rfl hl.1 rfl (lv_room (Nat.le_of_ble_eq_true rfl)) dJ2_get_5 ⟨(Nat.le_of_ble_eq_true rfl), (Nat.le_of_ble_eq_true rfl)⟩) (fun r2 G1 H locs hw hmon hG => ?_)
  replace hw := hw hmon
  refine lv_pop hx hb dJ2_get_8 rfl ?_
  refine lv_aload_n hx hb dJ2_get_9 rfl (lv_at hl 0 rfl) ?_
  refine lv_iload_n hx hb dJ2_get_10 rfl (lv_at hl 1 rfl) ?_
  refine gc3r hA hG (va_runV (As := [.int p1]) (rest := []) ⟨hx, hb, hml, hown, hts⟩ (gm_J2_elementData l E p0 p1 _ G1 hw _) (cwV 1 hts (lw_V q604 q605 q606 q59 q607) rfl rfl rfl hd_J2_elementData ⟨Nat.le_of_ble_eq_true rfl, Nat.le_of_ble_eq_true rfl⟩) ⟨gblind, grecv hPF hG (gC_of (gK_mon hG.1.2 h0p0 (by decide)) (by decide)) (by decide) (by decide) rfl, fun U hU hW => gpre hPF hA hG _ U hU hW⟩ rfl rfl hl.1 rfl (lv_room (Nat.le_of_ble_eq_true rfl)) dJ2_get_11 ⟨(Nat.le_of_ble_eq_true rfl), (Nat.le_of_ble_eq_true rfl)⟩) (fun r4 G3 H locs hw hmon hG => ?_)
  replace hw := hw hmon
  exact gretr (v := r4) hx hb hr hlk hG (Or.inl ⟨_, rfl⟩) hw (Nat.le_of_ble_eq_true rfl) (Nat.le_of_ble_eq_true rfl) dJ2_get_14
def gw_J18_init (E : gE) (post : Gh → Prop) (p0 : Nat) (p1 : Nat) (G : Gh) : Prop := gK G p0 = 15 ∧ (gK G p1 = 14 ∧ (∀ G1, G1 = gsR G p0 3 (some p1) → (∀ G2, G2 = gsI G1 p0 1 (-1) → (∃ q3, (gR G2 p0 3) = some q3 ∧ (gC G2 q3 = 14 ∧ (∀ G5, G5 = gsI G2 p0 2 (gI G2 q3 0) → (post G5)))))))
theorem hd_J18_init : yJ18_init.cls ≠ "java/lang/invoke/MethodHandle" ∧ yJ18_init.cls ≠ "java/lang/invoke/VarHandle" ∧ (parseMethodDescriptor yJ18_init.desc).map (fun d => d.parameters.length) = some 1 := by decide +kernel
set_option maxHeartbeats 1000000 in
set_option maxRecDepth 100000 in
theorem gm_J18_init (l : Launch) (E : gE) (p0 : Nat) (p1 : Nat) (post : Gh → Prop) (G : Gh) (hw : gw_J18_init E post p0 p1 G) : gM l E yJ18_init (ws_ yJ18_init cJ18_init 2 none) ({ frames := 1, cells := 0, slots := 0, locals := 30 } : Room) 0 0 [.ref p0, .ref p1] G (gpv post) := by
  refine gof (by decide) (Nat.le_of_ble_eq_true rfl) ?_
  intro p e s m below meth c A ls hx hb hr hlk hml hown hin hts hPF hA hG hl
  have hl : lv_has ls 2 [(0, .ref p0), (1, .ref p1)] := hl
  unfold gw_J18_init at hw
  obtain ⟨G0, hG0⟩ : ∃ G0, G0 = G := ⟨_, rfl⟩
  have hG : gS E A G0 s.heap G s.heap [] := by rw [hG0]; exact hG
  rw [show gQ E A G (gpv post) = gQ E A G0 (gpv post) by rw [hG0]]
  have h0p0 := hw.1; rw [← hG0] at h0p0
  replace hw := hw.2
  have h0p1 := hw.1; rw [← hG0] at h0p1
  replace hw := hw.2
  refine lv_aload_n hx hb dJ18_init_0 rfl (lv_at hl 0 rfl) ?_
  refine lv_aload_n hx hb dJ18_init_1 rfl (lv_at hl 1 rfl) ?_
  refine gpF hx hb hts hown hPF hG 15 3 rfl in_J18 tyJ18 tyJ18_ok nmJ18 (by decide) (by decide) (by decide) q712 (fun _ h9 => h9) rfl hin.2 rfl (gK_mon hG.1.2 h0p0 (by decide)) (v := va_rf (some p1)) (narrow_rf _) (fits_rf _ (by decide)) (G' := gsR G p0 3 (some p1)) rfl rfl grR_off (Nat.le_of_ble_eq_true rfl) (gFs_R 15 3 (fun _ _ _ => rfl)) dJ18_init_2 (fun H locs hG => ?_)
  obtain ⟨G1, eG1⟩ : ∃ z, z = gsR G p0 3 (some p1) := ⟨_, rfl⟩
  rw [← eG1] at hG
  replace hw := hw G1 eG1
  refine lv_aload_n hx hb dJ18_init_5 rfl (lv_at hl 0 rfl) ?_
  refine W.objInit hx hb hown (hts _ q708) (hts _ q105) (hts _ q106) (g := F0 m 6 ls (.ref p0 :: [])) rfl (hl.1.trans hml.symm) rfl dJ18_init_6 (Nat.le_of_ble_eq_true rfl) (by (try simp only [List.map, va_rf_cat, gcat_i, gcat_r, gcat_l, gcat_d, gcat_f, gcat_n]); exact Nat.le_of_ble_eq_true rfl) ?_
  refine W.eq (g2 := F0 m 9 ls []) rfl ?_
  refine lv_aload_n hx hb dJ18_init_9 rfl (lv_at hl 0 rfl) ?_
  refine lv_iconst (v := (-1)) hx hb dJ18_init_10 (by decide) ?_
  refine gp hx hb hts hown hPF hG 15 1 rfl in_J18 tyJ18 tyJ18_ok nmJ18 (by decide) (by decide) (by decide) q710 (fun _ h9 => h9) rfl (gK_mon hG.1.2 h0p0 (by decide)) (v := .int (-1)) rfl rfl (G' := gsI G1 p0 1 (-1)) rfl rfl grI_off (Nat.le_of_ble_eq_true rfl) (gFs_I 15 1 (fun _ _ _ => rfl)) dJ18_init_11 (fun H locs hG => ?_)
  obtain ⟨G2, eG2⟩ : ∃ z, z = gsI G1 p0 1 (-1) := ⟨_, rfl⟩
  rw [← eG2] at hG
  replace hw := hw G2 eG2
  refine lv_aload_n hx hb dJ18_init_14 rfl (lv_at hl 0 rfl) ?_
  refine lv_aload_n hx hb dJ18_init_15 rfl (lv_at hl 0 rfl) ?_
  refine gg hx hb hts hown hPF hG 15 3 rfl in_J18 (by decide) (by decide) (by decide) q712 (fun _ h9 => h9) (gC_of (gK_mon hG.1.2 h0p0 (by decide)) (by decide)) (v := va_rf (gR G2 p0 3)) rfl dJ18_init_16 ?_
  obtain ⟨q3, hq3, hw⟩ := hw
  refine W.eq (g2 := F0 m 19 ls [.ref q3, .ref p0]) (by rw [hq3]; rfl) ?_
  have hk4 := hw.1
  replace hw := hw.2
  refine gg hx hb hts hown hPF hG 14 0 rfl in_J2 (by decide) (by decide) (by decide) q452 (u_same (hts _ q453)) hk4 (v := .int (gI G2 q3 0)) rfl dJ18_init_19 ?_
  refine gp hx hb hts hown hPF hG 15 2 rfl in_J18 tyJ18 tyJ18_ok nmJ18 (by decide) (by decide) (by decide) q711 (fun _ h9 => h9) rfl (gK_mon hG.1.2 h0p0 (by decide)) (v := .int (gI G2 q3 0)) rfl rfl (G' := gsI G2 p0 2 (gI G2 q3 0)) rfl rfl grI_off (Nat.le_of_ble_eq_true rfl) (gFs_I 15 2 (fun _ _ _ => rfl)) dJ18_init_22 (fun H locs hG => ?_)
  obtain ⟨G5, eG5⟩ : ∃ z, z = gsI G2 p0 2 (gI G2 q3 0) := ⟨_, rfl⟩
  rw [← eG5] at hG
  replace hw := hw G5 eG5
  have hk4 : gC G5 q3 = 14 := by rw [eG5]; exact hk4
  exact gretv hx hb hr hlk hG hw (Nat.le_of_ble_eq_true rfl) (Nat.le_of_ble_eq_true rfl) dJ18_init_25
def gw_J2_iterator (E : gE) (post : Option Nat → Gh → Prop) (p0 : Nat) (G : Gh) : Prop := gK G p0 = 14 ∧ (∀ q1, gK G q1 = 0 → ∀ G2, G2 = gN G q1 15 0 → (gw_J18_init E (fun G3 => gMon G2 G3 → (post (some q1) G3)) q1 p0 G2))
theorem hd_J2_iterator : yJ2_iterator.cls = RJ2 ∧ yJ2_iterator.cls ≠ "java/lang/invoke/MethodHandle" ∧ yJ2_iterator.cls ≠ "java/lang/invoke/VarHandle" ∧ (parseMethodDescriptor yJ2_iterator.desc).map (fun d => d.parameters.length) = some 0 := by decide +kernel
theorem hdn_J2_iterator : yJ2_iterator.cls ≠ "java/lang/invoke/MethodHandle" ∧ yJ2_iterator.cls ≠ "java/lang/invoke/VarHandle" ∧ (parseMethodDescriptor yJ2_iterator.desc).map (fun d => d.parameters.length) = some 0 := hd_J2_iterator.2
theorem hdu_J2_iterator : RJ2 ≠ "java/lang/invoke/MethodHandle" ∧ RJ2 ≠ "java/lang/invoke/VarHandle" ∧ (parseMethodDescriptor yJ2_iterator.desc).map (fun d => d.parameters.length) = some 0 := by decide +kernel
theorem hds_J2_iterator : yJ2_iterator.name ≠ "<init>" ∧ (parseMethodDescriptor yJ2_iterator.desc).map (fun d => d.parameters.length) = some 0 := by decide +kernel
set_option maxHeartbeats 1000000 in
set_option maxRecDepth 100000 in
theorem gm_J2_iterator (l : Launch) (E : gE) (p0 : Nat) (post : Option Nat → Gh → Prop) (G : Gh) (hw : gw_J2_iterator E post p0 G) : gM l E yJ2_iterator (ws_ yJ2_iterator cJ2_iterator 1 (some (.object "java/util/Iterator"))) ({ frames := 2, cells := 1, slots := 4, locals := 51 } : Room) 1 4 [.ref p0] G (gpr post) := by
  refine gof (by decide) (Nat.le_of_ble_eq_true rfl) ?_
  intro p e s m below meth c A ls hx hb hr hlk hml hown hin hts hPF hA hG hl
  have hl : lv_has ls 1 [(0, .ref p0)] := hl
  unfold gw_J2_iterator at hw
  obtain ⟨G0, hG0⟩ : ∃ G0, G0 = G := ⟨_, rfl⟩
  have hG : gS E A G0 s.heap G s.heap [] := by rw [hG0]; exact hG
  rw [show gQ E A G (gpr post) = gQ E A G0 (gpr post) by rw [hG0]]
  have h0p0 := hw.1; rw [← hG0] at h0p0
  replace hw := hw.2
  refine gnew (ci := 15) hx hb hts in_J18 tyJ18 tyJ18_ok hown q703 q704 q79 hPF hG hA rfl (by decide) (by decide) gborn_J18 (Nat.le_of_ble_eq_true rfl) (Nat.le_of_ble_eq_true rfl) dJ2_iterator_0 (fun q1 H h0q1 hG => ?_)
  replace hw := hw q1 h0q1
  obtain ⟨G2, eG2⟩ : ∃ z, z = gN G q1 15 0 := ⟨_, rfl⟩
  rw [← eG2] at hG
  replace hw := hw G2 eG2
  have hkq1 : gK G2 q1 = 15 := by rw [eG2]; exact gK_Nq
  refine lv_dup hx hb dJ2_iterator_3 rfl ?_
  refine lv_aload_n hx hb dJ2_iterator_4 rfl (lv_at hl 0 rfl) ?_
  refine gc3v hA hG (va_runI (As := [.ref p0]) (rest := [.ref q1]) ⟨hx, hb, hml, hown, hts⟩ (gm_J18_init l E q1 p0 _ G2 hw _) (cwI 1 hts (lw_meth q707) rfl rfl rfl (hts _ q79) (hts _ q705) (hts _ q706) rfl hd_J18_init ⟨Nat.le_of_ble_eq_true rfl, Nat.le_of_ble_eq_true rfl⟩) ⟨gblind, fun U hU hW => gpre hPF hA hG _ U hU hW⟩ rfl rfl hl.1 rfl (lv_room (Nat.le_of_ble_eq_true rfl)) dJ2_iterator_5 ⟨(Nat.le_of_ble_eq_true rfl), (Nat.le_of_ble_eq_true rfl)⟩) (fun G3 H locs hw hmon hG => ?_)
  replace hw := hw hmon
  have hkq1 : gK G3 q1 = 15 := gK_mon hmon hkq1 (by decide)
  exact gretr (v := (some q1)) hx hb hr hlk hG (Or.inl ⟨_, rfl⟩) hw (Nat.le_of_ble_eq_true rfl) (Nat.le_of_ble_eq_true rfl) dJ2_iterator_8
def gw_J18_hasNext (E : gE) (post : Int32 → Gh → Prop) (p0 : Nat) (G : Gh) : Prop := gK G p0 = 15 ∧ (∃ q1, (gR G p0 3) = some q1 ∧ (gC G q1 = 14 ∧ (((gI G p0 0) = (gI G q1 2) → (post 0 G)) ∧ (¬ (gI G p0 0) = (gI G q1 2) → (post 1 G)))))
theorem hd_J18_hasNext : yJ18_hasNext.cls = RJ18 ∧ yJ18_hasNext.cls ≠ "java/lang/invoke/MethodHandle" ∧ yJ18_hasNext.cls ≠ "java/lang/invoke/VarHandle" ∧ (parseMethodDescriptor yJ18_hasNext.desc).map (fun d => d.parameters.length) = some 0 := by decide +kernel
theorem hdn_J18_hasNext : yJ18_hasNext.cls ≠ "java/lang/invoke/MethodHandle" ∧ yJ18_hasNext.cls ≠ "java/lang/invoke/VarHandle" ∧ (parseMethodDescriptor yJ18_hasNext.desc).map (fun d => d.parameters.length) = some 0 := hd_J18_hasNext.2
theorem hdu_J18_hasNext : RJ18 ≠ "java/lang/invoke/MethodHandle" ∧ RJ18 ≠ "java/lang/invoke/VarHandle" ∧ (parseMethodDescriptor yJ18_hasNext.desc).map (fun d => d.parameters.length) = some 0 := by decide +kernel
theorem hds_J18_hasNext : yJ18_hasNext.name ≠ "<init>" ∧ (parseMethodDescriptor yJ18_hasNext.desc).map (fun d => d.parameters.length) = some 0 := by decide +kernel
set_option maxHeartbeats 1000000 in
set_option maxRecDepth 100000 in
theorem gm_J18_hasNext (l : Launch) (E : gE) (p0 : Nat) (post : Int32 → Gh → Prop) (G : Gh) (hw : gw_J18_hasNext E post p0 G) : gM l E yJ18_hasNext (ws_ yJ18_hasNext cJ18_hasNext 1 (some .boolean)) ({ frames := 0, cells := 0, slots := 0, locals := 0 } : Room) 0 0 [.ref p0] G (gpi post) := by
  refine gof (by decide) (Nat.le_of_ble_eq_true rfl) ?_
  intro p e s m below meth c A ls hx hb hr hlk hml hown hin hts hPF hA hG hl
  have hl : lv_has ls 1 [(0, .ref p0)] := hl
  unfold gw_J18_hasNext at hw
  obtain ⟨G0, hG0⟩ : ∃ G0, G0 = G := ⟨_, rfl⟩
  have hG : gS E A G0 s.heap G s.heap [] := by rw [hG0]; exact hG
  rw [show gQ E A G (gpi post) = gQ E A G0 (gpi post) by rw [hG0]]
  have h0p0 := hw.1; rw [← hG0] at h0p0
  replace hw := hw.2
  refine lv_aload_n hx hb dJ18_hasNext_0 rfl (lv_at hl 0 rfl) ?_
  refine gg hx hb hts hown hPF hG 15 0 rfl in_J18 (by decide) (by decide) (by decide) q709 (fun _ h9 => h9) (gC_of (gK_mon hG.1.2 h0p0 (by decide)) (by decide)) (v := .int (gI G p0 0)) rfl dJ18_hasNext_1 ?_
  refine lv_aload_n hx hb dJ18_hasNext_4 rfl (lv_at hl 0 rfl) ?_
  refine gg hx hb hts hown hPF hG 15 3 rfl in_J18 (by decide) (by decide) (by decide) q712 (fun _ h9 => h9) (gC_of (gK_mon hG.1.2 h0p0 (by decide)) (by decide)) (v := va_rf (gR G p0 3)) rfl dJ18_hasNext_5 ?_
  obtain ⟨q1, hq1, hw⟩ := hw
  refine W.eq (g2 := F0 m 8 ls [.ref q1, .int (gI G p0 0)]) (by rw [hq1]; rfl) ?_
  have hk2 := hw.1
  replace hw := hw.2
  refine ggN hx hb hts hown hPF hG 14 2 rfl in_J2 (by decide) (by decide) (by decide) q449 (fun _ h9 => h9) hk2 (v := .int (gI G q1 2)) rfl dJ18_hasNext_8 ?_
  refine lv_icmp_eq (tgt := 18) hx hb dJ18_hasNext_11 (by decide) (fun c_ => ?_) (fun c_ => ?_)
  · replace hw := hw.1 c_
    refine lv_iconst (v := 0) hx hb dJ18_hasNext_18 (by decide) ?_
    exact greti hx hb hr hlk hG rfl hw (Nat.le_of_ble_eq_true rfl) (Nat.le_of_ble_eq_true rfl) dJ18_hasNext_19
  · replace hw := hw.2 c_
    refine lv_iconst (v := 1) hx hb dJ18_hasNext_14 (by decide) ?_
    refine lv_goto (tgt := 19) hx hb dJ18_hasNext_15 (by decide) ?_
    exact greti hx hb hr hlk hG rfl hw (Nat.le_of_ble_eq_true rfl) (Nat.le_of_ble_eq_true rfl) dJ18_hasNext_19
def gw_J18_checkForComodification (E : gE) (post : Gh → Prop) (p0 : Nat) (G : Gh) : Prop := gK G p0 = 15 ∧ (∃ q1, (gR G p0 3) = some q1 ∧ (gC G q1 = 14 ∧ (((gI G q1 0) = (gI G p0 2) → (post G)) ∧ (¬ (gI G q1 0) = (gI G p0 2) → (False)))))
theorem hd_J18_checkForComodification : yJ18_checkForComodification.cls = RJ18 ∧ yJ18_checkForComodification.cls ≠ "java/lang/invoke/MethodHandle" ∧ yJ18_checkForComodification.cls ≠ "java/lang/invoke/VarHandle" ∧ (parseMethodDescriptor yJ18_checkForComodification.desc).map (fun d => d.parameters.length) = some 0 := by decide +kernel
theorem hdn_J18_checkForComodification : yJ18_checkForComodification.cls ≠ "java/lang/invoke/MethodHandle" ∧ yJ18_checkForComodification.cls ≠ "java/lang/invoke/VarHandle" ∧ (parseMethodDescriptor yJ18_checkForComodification.desc).map (fun d => d.parameters.length) = some 0 := hd_J18_checkForComodification.2
theorem hdu_J18_checkForComodification : RJ18 ≠ "java/lang/invoke/MethodHandle" ∧ RJ18 ≠ "java/lang/invoke/VarHandle" ∧ (parseMethodDescriptor yJ18_checkForComodification.desc).map (fun d => d.parameters.length) = some 0 := by decide +kernel
theorem hds_J18_checkForComodification : yJ18_checkForComodification.name ≠ "<init>" ∧ (parseMethodDescriptor yJ18_checkForComodification.desc).map (fun d => d.parameters.length) = some 0 := by decide +kernel
set_option maxHeartbeats 1000000 in
set_option maxRecDepth 100000 in
theorem gm_J18_checkForComodification (l : Launch) (E : gE) (p0 : Nat) (post : Gh → Prop) (G : Gh) (hw : gw_J18_checkForComodification E post p0 G) : gM l E yJ18_checkForComodification (ws_ yJ18_checkForComodification cJ18_checkForComodification 1 none) ({ frames := 0, cells := 0, slots := 0, locals := 0 } : Room) 0 0 [.ref p0] G (gpv post) := by
  refine gof (by decide) (Nat.le_of_ble_eq_true rfl) ?_
  intro p e s m below meth c A ls hx hb hr hlk hml hown hin hts hPF hA hG hl
  have hl : lv_has ls 1 [(0, .ref p0)] := hl
  unfold gw_J18_checkForComodification at hw
  obtain ⟨G0, hG0⟩ : ∃ G0, G0 = G := ⟨_, rfl⟩
  have hG : gS E A G0 s.heap G s.heap [] := by rw [hG0]; exact hG
  rw [show gQ E A G (gpv post) = gQ E A G0 (gpv post) by rw [hG0]]
  have h0p0 := hw.1; rw [← hG0] at h0p0
  replace hw := hw.2
  refine lv_aload_n hx hb dJ18_checkForComodification_0 rfl (lv_at hl 0 rfl) ?_
  refine gg hx hb hts hown hPF hG 15 3 rfl in_J18 (by decide) (by decide) (by decide) q712 (fun _ h9 => h9) (gC_of (gK_mon hG.1.2 h0p0 (by decide)) (by decide)) (v := va_rf (gR G p0 3)) rfl dJ18_checkForComodification_1 ?_
  obtain ⟨q1, hq1, hw⟩ := hw
  refine W.eq (g2 := F0 m 4 ls [.ref q1]) (by rw [hq1]; rfl) ?_
  have hk2 := hw.1
  replace hw := hw.2
  refine gg hx hb hts hown hPF hG 14 0 rfl in_J2 (by decide) (by decide) (by decide) q452 (u_same (hts _ q453)) hk2 (v := .int (gI G q1 0)) rfl dJ18_checkForComodification_4 ?_
  refine lv_aload_n hx hb dJ18_checkForComodification_7 rfl (lv_at hl 0 rfl) ?_
  refine gg hx hb hts hown hPF hG 15 2 rfl in_J18 (by decide) (by decide) (by decide) q711 (fun _ h9 => h9) (gC_of (gK_mon hG.1.2 h0p0 (by decide)) (by decide)) (v := .int (gI G p0 2)) rfl dJ18_checkForComodification_8 ?_
  refine lv_icmp_eq (tgt := 22) hx hb dJ18_checkForComodification_11 (by decide) (fun c_ => ?_) (fun c_ => ?_)
  · replace hw := hw.1 c_
    exact gretv hx hb hr hlk hG hw (Nat.le_of_ble_eq_true rfl) (Nat.le_of_ble_eq_true rfl) dJ18_checkForComodification_22
  · replace hw := hw.2 c_
    exact hw.elim
def gw_J18_next (E : gE) (post : Option Nat → Gh → Prop) (p0 : Nat) (G : Gh) : Prop := gK G p0 = 15 ∧ (gw_J18_checkForComodification E (fun G1 => gMon G G1 → (∃ q2, (gR G1 p0 3) = some q2 ∧ (gC G1 q2 = 14 ∧ (((gI G1 p0 0) < (gI G1 q2 2) → (∃ q4, (gR G1 q2 1) = some q4 ∧ (gC G1 q4 = 35 ∧ (((gI G1 p0 0) < (nI (gL G1 q4)) → (∀ G6, G6 = gsI G1 p0 0 ((gI G1 p0 0) + 1) → (∀ G7, G7 = gsI G6 p0 1 (gI G1 p0 0) → (vp_in (gI G1 p0 0) (gL G7 q4) ∧ (post (gR G7 q4 (gI G1 p0 0).toNatClampNeg) G7))))) ∧ (¬ (gI G1 p0 0) < (nI (gL G1 q4)) → (False)))))) ∧ (¬ (gI G1 p0 0) < (gI G1 q2 2) → (False)))))) p0 G)
theorem hd_J18_next : yJ18_next.cls = RJ18 ∧ yJ18_next.cls ≠ "java/lang/invoke/MethodHandle" ∧ yJ18_next.cls ≠ "java/lang/invoke/VarHandle" ∧ (parseMethodDescriptor yJ18_next.desc).map (fun d => d.parameters.length) = some 0 := by decide +kernel
theorem hdn_J18_next : yJ18_next.cls ≠ "java/lang/invoke/MethodHandle" ∧ yJ18_next.cls ≠ "java/lang/invoke/VarHandle" ∧ (parseMethodDescriptor yJ18_next.desc).map (fun d => d.parameters.length) = some 0 := hd_J18_next.2
theorem hdu_J18_next : RJ18 ≠ "java/lang/invoke/MethodHandle" ∧ RJ18 ≠ "java/lang/invoke/VarHandle" ∧ (parseMethodDescriptor yJ18_next.desc).map (fun d => d.parameters.length) = some 0 := by decide +kernel
theorem hds_J18_next : yJ18_next.name ≠ "<init>" ∧ (parseMethodDescriptor yJ18_next.desc).map (fun d => d.parameters.length) = some 0 := by decide +kernel
set_option maxHeartbeats 1000000 in
set_option maxRecDepth 100000 in
theorem gm_J18_next (l : Launch) (E : gE) (p0 : Nat) (post : Option Nat → Gh → Prop) (G : Gh) (hw : gw_J18_next E post p0 G) : gM l E yJ18_next (ws_ yJ18_next cJ18_next 3 (some (.object "java/lang/Object"))) ({ frames := 1, cells := 0, slots := 0, locals := 20 } : Room) 0 0 [.ref p0] G (gpr post) := by
  refine gof (by decide) (Nat.le_of_ble_eq_true rfl) ?_
  intro p e s m below meth c A ls hx hb hr hlk hml hown hin hts hPF hA hG hl
  have hl : lv_has ls 3 [(0, .ref p0)] := hl
  unfold gw_J18_next at hw
  obtain ⟨G0, hG0⟩ : ∃ G0, G0 = G := ⟨_, rfl⟩
  have hG : gS E A G0 s.heap G s.heap [] := by rw [hG0]; exact hG
  rw [show gQ E A G (gpr post) = gQ E A G0 (gpr post) by rw [hG0]]
  have h0p0 := hw.1; rw [← hG0] at h0p0
  replace hw := hw.2
  refine lv_aload_n hx hb dJ18_next_0 rfl (lv_at hl 0 rfl) ?_
  refine gc3v hA hG (va_runV (As := []) (rest := []) ⟨hx, hb, hml, hown, hts⟩ (gm_J18_checkForComodification l E p0 _ G hw _) (cwV 0 hts (lw_V q741 q742 q743 q79 q744) rfl rfl rfl hd_J18_checkForComodification ⟨Nat.le_of_ble_eq_true rfl, Nat.le_of_ble_eq_true rfl⟩) ⟨gblind, grecv hPF hG (gC_of (gK_mon hG.1.2 h0p0 (by decide)) (by decide)) (by decide) (by decide) rfl, fun U hU hW => gpre hPF hA hG _ U hU hW⟩ rfl rfl hl.1 rfl (lv_room (Nat.le_of_ble_eq_true rfl)) dJ18_next_1 ⟨(Nat.le_of_ble_eq_true rfl), (Nat.le_of_ble_eq_true rfl)⟩) (fun G1 H locs hw hmon hG => ?_)
  replace hw := hw hmon
  refine lv_aload_n hx hb dJ18_next_4 rfl (lv_at hl 0 rfl) ?_
  refine gg hx hb hts hown hPF hG 15 0 rfl in_J18 (by decide) (by decide) (by decide) q709 (fun _ h9 => h9) (gC_of (gK_mon hG.1.2 h0p0 (by decide)) (by decide)) (v := .int (gI G1 p0 0)) rfl dJ18_next_5 ?_
  refine lv_istore_n (i := 1) (lv' := [(1, .int (gI G1 p0 0)), (0, .ref p0)]) hx hb dJ18_next_8 rfl hl (by decide) rfl (fun ls hl => ?_)
  refine lv_iload_n hx hb dJ18_next_9 rfl (lv_at hl 0 rfl) ?_
  refine lv_aload_n hx hb dJ18_next_10 rfl (lv_at hl 1 rfl) ?_
  refine gg hx hb hts hown hPF hG 15 3 rfl in_J18 (by decide) (by decide) (by decide) q712 (fun _ h9 => h9) (gC_of (gK_mon hG.1.2 h0p0 (by decide)) (by decide)) (v := va_rf (gR G1 p0 3)) rfl dJ18_next_11 ?_
  obtain ⟨q2, hq2, hw⟩ := hw
  refine W.eq (g2 := F0 m 14 ls [.ref q2, .int (gI G1 p0 0)]) (by rw [hq2]; rfl) ?_
  have hk3 := hw.1
  replace hw := hw.2
  refine ggN hx hb hts hown hPF hG 14 2 rfl in_J2 (by decide) (by decide) (by decide) q449 (fun _ h9 => h9) hk3 (v := .int (gI G1 q2 2)) rfl dJ18_next_14 ?_
  refine lv_icmp_lt (tgt := 28) hx hb dJ18_next_17 (by decide) (fun c_ => ?_) (fun c_ => ?_)
  · replace hw := hw.1 c_
    refine lv_aload_n hx hb dJ18_next_28 rfl (lv_at hl 1 rfl) ?_
    refine gg hx hb hts hown hPF hG 15 3 rfl in_J18 (by decide) (by decide) (by decide) q712 (fun _ h9 => h9) (gC_of (gK_mon hG.1.2 h0p0 (by decide)) (by decide)) (v := va_rf (gR G1 p0 3)) rfl dJ18_next_29 ?_
    refine W.eq (g2 := F0 m 32 ls [.ref q2]) (by rw [hq2]; rfl) ?_
    refine gg hx hb hts hown hPF hG 14 1 rfl in_J2 (by decide) (by decide) (by decide) q448 (fun _ h9 => h9) hk3 (v := va_rf (gR G1 q2 1)) rfl dJ18_next_32 ?_
    refine gt_n (i := 2) (lv' := [(2, va_rf (gR G1 q2 1)), (1, .int (gI G1 p0 0)), (0, .ref p0)]) hx hb dJ18_next_35 rfl hl (by decide) rfl (fun ls hl => ?_)
    refine lv_iload_n hx hb dJ18_next_36 rfl (lv_at hl 1 rfl) ?_
    refine ga_n hx hb dJ18_next_37 rfl (lv_at hl 0 rfl) ?_
    obtain ⟨q4, hq4, hw⟩ := hw
    refine W.eq (g2 := F0 m 38 ls [.ref q4, .int (gI G1 p0 0)]) (by rw [hq4]; rfl) ?_
    have hk5 := hw.1
    replace hw := hw.2
    refine galen hx hb hPF hG hk5 (by decide) (by decide) dJ18_next_38 ?_
    refine lv_icmp_lt (tgt := 50) hx hb dJ18_next_39 (by decide) (fun c_ => ?_) (fun c_ => ?_)
    · replace hw := hw.1 c_
      refine lv_aload_n hx hb dJ18_next_50 rfl (lv_at hl 2 rfl) ?_
      refine lv_iload_n hx hb dJ18_next_51 rfl (lv_at hl 1 rfl) ?_
      refine lv_iconst (v := 1) hx hb dJ18_next_52 (by decide) ?_
      refine lv_iadd hx hb dJ18_next_53 ?_
      refine gp hx hb hts hown hPF hG 15 0 rfl in_J18 tyJ18 tyJ18_ok nmJ18 (by decide) (by decide) (by decide) q709 (fun _ h9 => h9) rfl (gK_mon hG.1.2 h0p0 (by decide)) (v := .int ((gI G1 p0 0) + 1)) rfl rfl (G' := gsI G1 p0 0 ((gI G1 p0 0) + 1)) rfl rfl grI_off (Nat.le_of_ble_eq_true rfl) (gFs_I 15 0 (fun _ _ _ => rfl)) dJ18_next_54 (fun H locs hG => ?_)
      obtain ⟨G6, eG6⟩ : ∃ z, z = gsI G1 p0 0 ((gI G1 p0 0) + 1) := ⟨_, rfl⟩
      rw [← eG6] at hG
      replace hw := hw G6 eG6
      have hk3 : gC G6 q2 = 14 := by rw [eG6]; exact hk3
      have hk5 : gC G6 q4 = 35 := by rw [eG6]; exact hk5
      refine ga_n hx hb dJ18_next_57 rfl (lv_at hl 0 rfl) ?_
      refine lv_aload_n hx hb dJ18_next_58 rfl (lv_at hl 2 rfl) ?_
      refine lv_iload_n hx hb dJ18_next_59 rfl (lv_at hl 1 rfl) ?_
      refine lv_dup_x1 hx hb dJ18_next_60 rfl rfl ?_
      refine gp hx hb hts hown hPF hG 15 1 rfl in_J18 tyJ18 tyJ18_ok nmJ18 (by decide) (by decide) (by decide) q710 (fun _ h9 => h9) rfl (gK_mon hG.1.2 h0p0 (by decide)) (v := .int (gI G1 p0 0)) rfl rfl (G' := gsI G6 p0 1 (gI G1 p0 0)) rfl rfl grI_off (Nat.le_of_ble_eq_true rfl) (gFs_I 15 1 (fun _ _ _ => rfl)) dJ18_next_61 (fun H locs hG => ?_)
      obtain ⟨G7, eG7⟩ : ∃ z, z = gsI G6 p0 1 (gI G1 p0 0) := ⟨_, rfl⟩
      rw [← eG7] at hG
      replace hw := hw G7 eG7
      have hk3 : gC G7 q2 = 14 := by rw [eG7]; exact hk3
      have hk5 : gC G7 q4 = 35 := by rw [eG7]; exact hk5
      refine W.eq (g2 := F0 m 64 ls [.int (gI G1 p0 0), .ref q4]) (by rw [hq4]; rfl) ?_
      have hi8 := hw.1
      replace hw := hw.2
      refine glq hx hb hPF hG hk5 hi8 rfl dJ18_next_64 ?_
      exact gretr (v := (gR G7 q4 (gI G1 p0 0).toNatClampNeg)) hx hb hr hlk hG (Or.inl ⟨_, rfl⟩) hw (Nat.le_of_ble_eq_true rfl) (Nat.le_of_ble_eq_true rfl) dJ18_next_65
    · replace hw := hw.2 c_
      exact hw.elim
  · replace hw := hw.2 c_
    exact hw.elim
def gw_J0_init (E : gE) (post : Gh → Prop) (p0 : Nat) (G : Gh) : Prop := post G
theorem hd_J0_init : yJ0_init.cls ≠ "java/lang/invoke/MethodHandle" ∧ yJ0_init.cls ≠ "java/lang/invoke/VarHandle" ∧ (parseMethodDescriptor yJ0_init.desc).map (fun d => d.parameters.length) = some 0 := by decide +kernel
set_option maxHeartbeats 1000000 in
set_option maxRecDepth 100000 in
theorem gm_J0_init (l : Launch) (E : gE) (p0 : Nat) (post : Gh → Prop) (G : Gh) (hw : gw_J0_init E post p0 G) : gM l E yJ0_init (ws_ yJ0_init cJ0_init 1 none) ({ frames := 1, cells := 0, slots := 0, locals := 30 } : Room) 0 0 [.ref p0] G (gpv post) := by
  refine gof (by decide) (Nat.le_of_ble_eq_true rfl) ?_
  intro p e s m below meth c A ls hx hb hr hlk hml hown hin hts hPF hA hG hl
  have hl : lv_has ls 1 [(0, .ref p0)] := hl
  unfold gw_J0_init at hw
  obtain ⟨G0, hG0⟩ : ∃ G0, G0 = G := ⟨_, rfl⟩
  have hG : gS E A G0 s.heap G s.heap [] := by rw [hG0]; exact hG
  rw [show gQ E A G (gpv post) = gQ E A G0 (gpv post) by rw [hG0]]
  refine lv_aload_n hx hb dJ0_init_0 rfl (lv_at hl 0 rfl) ?_
  refine W.objInit hx hb hown (hts _ q124) (hts _ q105) (hts _ q106) (g := F0 m 1 ls (.ref p0 :: [])) rfl (hl.1.trans hml.symm) rfl dJ0_init_1 (Nat.le_of_ble_eq_true rfl) (by (try simp only [List.map, va_rf_cat, gcat_i, gcat_r, gcat_l, gcat_d, gcat_f, gcat_n]); exact Nat.le_of_ble_eq_true rfl) ?_
  refine W.eq (g2 := F0 m 4 ls []) rfl ?_
  exact gretv hx hb hr hlk hG hw (Nat.le_of_ble_eq_true rfl) (Nat.le_of_ble_eq_true rfl) dJ0_init_4
def gw_J1_init (E : gE) (post : Gh → Prop) (p0 : Nat) (G : Gh) : Prop := gK G p0 = 14 ∧ (gw_J0_init E (fun G1 => gMon G G1 → (∀ G2, G2 = gsI G1 p0 0 0 → (post G2))) p0 G)
theorem hd_J1_init : yJ1_init.cls ≠ "java/lang/invoke/MethodHandle" ∧ yJ1_init.cls ≠ "java/lang/invoke/VarHandle" ∧ (parseMethodDescriptor yJ1_init.desc).map (fun d => d.parameters.length) = some 0 := by decide +kernel
set_option maxHeartbeats 1000000 in
set_option maxRecDepth 100000 in
theorem gm_J1_init (l : Launch) (E : gE) (p0 : Nat) (post : Gh → Prop) (G : Gh) (hw : gw_J1_init E post p0 G) : gM l E yJ1_init (ws_ yJ1_init cJ1_init 1 none) ({ frames := 2, cells := 0, slots := 0, locals := 50 } : Room) 0 0 [.ref p0] G (gpv post) := by
  refine gof (by decide) (Nat.le_of_ble_eq_true rfl) ?_
  intro p e s m below meth c A ls hx hb hr hlk hml hown hin hts hPF hA hG hl
  have hl : lv_has ls 1 [(0, .ref p0)] := hl
  unfold gw_J1_init at hw
  obtain ⟨G0, hG0⟩ : ∃ G0, G0 = G := ⟨_, rfl⟩
  have hG : gS E A G0 s.heap G s.heap [] := by rw [hG0]; exact hG
  rw [show gQ E A G (gpv post) = gQ E A G0 (gpv post) by rw [hG0]]
  have h0p0 := hw.1; rw [← hG0] at h0p0
  replace hw := hw.2
  refine lv_aload_n hx hb dJ1_init_0 rfl (lv_at hl 0 rfl) ?_
  refine gc3v hA hG (va_runI (As := []) (rest := []) ⟨hx, hb, hml, hown, hts⟩ (gm_J0_init l E p0 _ G hw _) (cwI 0 hts (lw_meth q123) rfl rfl rfl (hts _ q57) (hts _ q121) (hts _ q122) rfl hd_J0_init ⟨Nat.le_of_ble_eq_true rfl, Nat.le_of_ble_eq_true rfl⟩) ⟨gblind, fun U hU hW => gpre hPF hA hG _ U hU hW⟩ rfl rfl hl.1 rfl (lv_room (Nat.le_of_ble_eq_true rfl)) dJ1_init_1 ⟨(Nat.le_of_ble_eq_true rfl), (Nat.le_of_ble_eq_true rfl)⟩) (fun G1 H locs hw hmon hG => ?_)
  replace hw := hw hmon
  refine lv_aload_n hx hb dJ1_init_4 rfl (lv_at hl 0 rfl) ?_
  refine lv_iconst (v := 0) hx hb dJ1_init_5 (by decide) ?_
  refine gp hx hb hts hown hPF hG 14 0 rfl in_J2 tyJ2 tyJ2_ok nmJ2 (by decide) (by decide) (by decide) q451 (fun _ h9 => h9) rfl (gK_mon hG.1.2 h0p0 (by decide)) (v := .int 0) rfl rfl (G' := gsI G1 p0 0 0) rfl rfl grI_off (Nat.le_of_ble_eq_true rfl) (gFs_I 14 0 (fun _ _ _ => rfl)) dJ1_init_6 (fun H locs hG => ?_)
  obtain ⟨G2, eG2⟩ : ∃ z, z = gsI G1 p0 0 0 := ⟨_, rfl⟩
  rw [← eG2] at hG
  replace hw := hw G2 eG2
  exact gretv hx hb hr hlk hG hw (Nat.le_of_ble_eq_true rfl) (Nat.le_of_ble_eq_true rfl) dJ1_init_9
def gw_J2_init_2 (E : gE) (post : Gh → Prop) (p0 : Nat) (G : Gh) : Prop := gK G p0 = 14 ∧ (gw_J1_init E (fun G1 => gMon G G1 → (∀ G2, G2 = gsR G1 p0 1 (some (eZ E 5)) → (post G2))) p0 G)
theorem hd_J2_init_2 : yJ2_init_2.cls ≠ "java/lang/invoke/MethodHandle" ∧ yJ2_init_2.cls ≠ "java/lang/invoke/VarHandle" ∧ (parseMethodDescriptor yJ2_init_2.desc).map (fun d => d.parameters.length) = some 0 := by decide +kernel
set_option maxHeartbeats 1000000 in
set_option maxRecDepth 100000 in
theorem gm_J2_init_2 (l : Launch) (E : gE) (p0 : Nat) (post : Gh → Prop) (G : Gh) (hw : gw_J2_init_2 E post p0 G) : gM l E yJ2_init_2 (ws_ yJ2_init_2 cJ2_init_2 1 none) ({ frames := 3, cells := 0, slots := 0, locals := 70 } : Room) 0 0 [.ref p0] G (gpv post) := by
  refine gof (by decide) (Nat.le_of_ble_eq_true rfl) ?_
  intro p e s m below meth c A ls hx hb hr hlk hml hown hin hts hPF hA hG hl
  have hl : lv_has ls 1 [(0, .ref p0)] := hl
  unfold gw_J2_init_2 at hw
  obtain ⟨G0, hG0⟩ : ∃ G0, G0 = G := ⟨_, rfl⟩
  have hG : gS E A G0 s.heap G s.heap [] := by rw [hG0]; exact hG
  rw [show gQ E A G (gpv post) = gQ E A G0 (gpv post) by rw [hG0]]
  have h0p0 := hw.1; rw [← hG0] at h0p0
  replace hw := hw.2
  refine lv_aload_n hx hb dJ2_init_2_0 rfl (lv_at hl 0 rfl) ?_
  refine gc3v hA hG (va_runI (As := []) (rest := []) ⟨hx, hb, hml, hown, hts⟩ (gm_J1_init l E p0 _ G hw _) (cwI 0 hts (lw_meth q120) rfl rfl rfl (hts _ q58) (hts _ q118) (hts _ q119) rfl hd_J1_init ⟨Nat.le_of_ble_eq_true rfl, Nat.le_of_ble_eq_true rfl⟩) ⟨gblind, fun U hU hW => gpre hPF hA hG _ U hU hW⟩ rfl rfl hl.1 rfl (lv_room (Nat.le_of_ble_eq_true rfl)) dJ2_init_2_1 ⟨(Nat.le_of_ble_eq_true rfl), (Nat.le_of_ble_eq_true rfl)⟩) (fun G1 H locs hw hmon hG => ?_)
  replace hw := hw hmon
  refine lv_aload_n hx hb dJ2_init_2_4 rfl (lv_at hl 0 rfl) ?_
  refine va_gets (v := .ref (eZ E 5)) hx hb (hPF.z 6 rfl) hG.2 hown (hts _ q806) (fun _ h9 => h9) dJ2_init_2_5 ?_
  refine gp hx hb hts hown hPF hG 14 1 rfl in_J2 tyJ2 tyJ2_ok nmJ2 (by decide) (by decide) (by decide) q447 (fun _ h9 => h9) rfl (gK_mon hG.1.2 h0p0 (by decide)) (v := va_rf (some (eZ E 5))) (narrow_rf _) (fits_rf _ (by decide)) (G' := gsR G1 p0 1 (some (eZ E 5))) rfl rfl grR_off (Nat.le_of_ble_eq_true rfl) (gFs_R 14 1 (fun _ _ _ => rfl)) dJ2_init_2_8 (fun H locs hG => ?_)
  obtain ⟨G2, eG2⟩ : ∃ z, z = gsR G1 p0 1 (some (eZ E 5)) := ⟨_, rfl⟩
  rw [← eG2] at hG
  replace hw := hw G2 eG2
  exact gretv hx hb hr hlk hG hw (Nat.le_of_ble_eq_true rfl) (Nat.le_of_ble_eq_true rfl) dJ2_init_2_11
def gw_J2_init (E : gE) (post : Gh → Prop) (p0 : Nat) (p1 : Int32) (G : Gh) : Prop := gK G p0 = 14 ∧ (gw_J1_init E (fun G1 => gMon G G1 → ((p1 ≤ 0 → ((¬ p1 = 0 → (False)) ∧ (p1 = 0 → (∀ G2, G2 = gsR G1 p0 1 (some (eZ E 4)) → (post G2))))) ∧ (¬ p1 ≤ 0 → ((¬ p1 < 0 ∧ p1.toNatClampNeg ≤ 64) ∧ (∀ q3, gK G1 q3 = 0 → ∀ G5, G5 = gN G1 q3 35 (p1.toNatClampNeg) → (∀ G6, G6 = gsR G5 p0 1 (some q3) → (post G6))))))) p0 G)
theorem hd_J2_init : yJ2_init.cls ≠ "java/lang/invoke/MethodHandle" ∧ yJ2_init.cls ≠ "java/lang/invoke/VarHandle" ∧ (parseMethodDescriptor yJ2_init.desc).map (fun d => d.parameters.length) = some 1 := by decide +kernel
set_option maxHeartbeats 1000000 in
set_option maxRecDepth 100000 in
theorem gm_J2_init (l : Launch) (E : gE) (p0 : Nat) (p1 : Int32) (post : Gh → Prop) (G : Gh) (hw : gw_J2_init E post p0 p1 G) : gM l E yJ2_init (ws_ yJ2_init cJ2_init 2 none) ({ frames := 3, cells := 1, slots := 64, locals := 70 } : Room) 1 64 [.ref p0, .int p1] G (gpv post) := by
  refine gof (by decide) (Nat.le_of_ble_eq_true rfl) ?_
  intro p e s m below meth c A ls hx hb hr hlk hml hown hin hts hPF hA hG hl
  have hl : lv_has ls 2 [(0, .ref p0), (1, .int p1)] := hl
  unfold gw_J2_init at hw
  obtain ⟨G0, hG0⟩ : ∃ G0, G0 = G := ⟨_, rfl⟩
  have hG : gS E A G0 s.heap G s.heap [] := by rw [hG0]; exact hG
  rw [show gQ E A G (gpv post) = gQ E A G0 (gpv post) by rw [hG0]]
  have h0p0 := hw.1; rw [← hG0] at h0p0
  replace hw := hw.2
  refine lv_aload_n hx hb dJ2_init_0 rfl (lv_at hl 0 rfl) ?_
  refine gc3v hA hG (va_runI (As := []) (rest := []) ⟨hx, hb, hml, hown, hts⟩ (gm_J1_init l E p0 _ G hw _) (cwI 0 hts (lw_meth q120) rfl rfl rfl (hts _ q58) (hts _ q118) (hts _ q119) rfl hd_J1_init ⟨Nat.le_of_ble_eq_true rfl, Nat.le_of_ble_eq_true rfl⟩) ⟨gblind, fun U hU hW => gpre hPF hA hG _ U hU hW⟩ rfl rfl hl.1 rfl (lv_room (Nat.le_of_ble_eq_true rfl)) dJ2_init_1 ⟨(Nat.le_of_ble_eq_true rfl), (Nat.le_of_ble_eq_true rfl)⟩) (fun G1 H locs hw hmon hG => ?_)
  replace hw := hw hmon
  refine lv_iload_n hx hb dJ2_init_4 rfl (lv_at hl 1 rfl) ?_
  refine lv_if_le (tgt := 19) hx hb dJ2_init_5 (by decide) (fun c_ => ?_) (fun c_ => ?_)
  · replace hw := hw.1 c_
    refine lv_iload_n hx hb dJ2_init_19 rfl (lv_at hl 1 rfl) ?_
    refine lv_if_ne (tgt := 33) hx hb dJ2_init_20 (by decide) (fun c_ => ?_) (fun c_ => ?_)
    · replace hw := hw.1 c_
      exact hw.elim
    · replace hw := hw.2 c_
      refine lv_aload_n hx hb dJ2_init_23 rfl (lv_at hl 0 rfl) ?_
      refine va_gets (v := .ref (eZ E 4)) hx hb (hPF.z 5 rfl) hG.2 hown (hts _ q127) (fun _ h9 => h9) dJ2_init_24 ?_
      refine gp hx hb hts hown hPF hG 14 1 rfl in_J2 tyJ2 tyJ2_ok nmJ2 (by decide) (by decide) (by decide) q447 (fun _ h9 => h9) rfl (gK_mon hG.1.2 h0p0 (by decide)) (v := va_rf (some (eZ E 4))) (narrow_rf _) (fits_rf _ (by decide)) (G' := gsR G1 p0 1 (some (eZ E 4))) rfl rfl grR_off (Nat.le_of_ble_eq_true rfl) (gFs_R 14 1 (fun _ _ _ => rfl)) dJ2_init_27 (fun H locs hG => ?_)
      obtain ⟨G2, eG2⟩ : ∃ z, z = gsR G1 p0 1 (some (eZ E 4)) := ⟨_, rfl⟩
      rw [← eG2] at hG
      replace hw := hw G2 eG2
      refine lv_goto (tgt := 60) hx hb dJ2_init_30 (by decide) ?_
      exact gretv hx hb hr hlk hG hw (Nat.le_of_ble_eq_true rfl) (Nat.le_of_ble_eq_true rfl) dJ2_init_60
  · replace hw := hw.2 c_
    refine lv_aload_n hx hb dJ2_init_8 rfl (lv_at hl 0 rfl) ?_
    refine lv_iload_n hx hb dJ2_init_9 rfl (lv_at hl 1 rfl) ?_
    have hn4 := hw.1
    replace hw := hw.2
    refine gnaq hx hb hts hown q125 hPF hG hA hn4.1 rfl 64 hn4.2 (by decide) (Nat.le_of_ble_eq_true rfl) (Nat.le_of_ble_eq_true rfl) dJ2_init_10 (fun q3 H h0q3 hG => ?_)
    replace hw := hw q3 h0q3
    obtain ⟨G5, eG5⟩ : ∃ z, z = gN G1 q3 35 (p1.toNatClampNeg) := ⟨_, rfl⟩
    rw [← eG5] at hG
    replace hw := hw G5 eG5
    have hkq3 : gK G5 q3 = 35 := by rw [eG5]; exact gK_Nq
    refine gp hx hb hts hown hPF hG 14 1 rfl in_J2 tyJ2 tyJ2_ok nmJ2 (by decide) (by decide) (by decide) q447 (fun _ h9 => h9) rfl (gK_mon hG.1.2 h0p0 (by decide)) (v := va_rf (some q3)) (narrow_rf _) (fits_rf _ (by decide)) (G' := gsR G5 p0 1 (some q3)) rfl rfl grR_off (Nat.le_of_ble_eq_true rfl) (gFs_R 14 1 (fun _ _ _ => rfl)) dJ2_init_13 (fun H locs hG => ?_)
    obtain ⟨G6, eG6⟩ : ∃ z, z = gsR G5 p0 1 (some q3) := ⟨_, rfl⟩
    rw [← eG6] at hG
    replace hw := hw G6 eG6
    have hkq3 : gK G6 q3 = 35 := by rw [eG6]; exact hkq3
    refine lv_goto (tgt := 60) hx hb dJ2_init_16 (by decide) ?_
    exact gretv hx hb hr hlk hG hw (Nat.le_of_ble_eq_true rfl) (Nat.le_of_ble_eq_true rfl) dJ2_init_60
def gw_J11_newLength (E : gE) (post : Int32 → Gh → Prop) (p0 : Int32) (p1 : Int32) (p2 : Int32) (G : Gh) : Prop := ((p0 + (if p1 < p2 then p2 else p1)) ≤ (0 : Int32) → (False)) ∧ (¬ (p0 + (if p1 < p2 then p2 else p1)) ≤ (0 : Int32) → ((2147483639 < (p0 + (if p1 < p2 then p2 else p1)) → (False)) ∧ (¬ 2147483639 < (p0 + (if p1 < p2 then p2 else p1)) → (post (p0 + (if p1 < p2 then p2 else p1)) G))))
theorem hd_J11_newLength : yJ11_newLength.cls ≠ "java/lang/invoke/MethodHandle" ∧ yJ11_newLength.cls ≠ "java/lang/invoke/VarHandle" ∧ (parseMethodDescriptor yJ11_newLength.desc).map (fun d => d.parameters.length) = some 3 := by decide +kernel
set_option maxHeartbeats 1000000 in
set_option maxRecDepth 100000 in
theorem gm_J11_newLength (l : Launch) (E : gE) (p0 : Int32) (p1 : Int32) (p2 : Int32) (post : Int32 → Gh → Prop) (G : Gh) (hw : gw_J11_newLength E post p0 p1 p2 G) : gM l E yJ11_newLength (ws_ yJ11_newLength cJ11_newLength 4 (some .int)) ({ frames := 1, cells := 0, slots := 0, locals := 40 } : Room) 0 0 [.int p0, .int p1, .int p2] G (gpi post) := by
  refine gof (by decide) (Nat.le_of_ble_eq_true rfl) ?_
  intro p e s m below meth c A ls hx hb hr hlk hml hown hin hts hPF hA hG hl
  have hl : lv_has ls 4 [(0, .int p0), (1, .int p1), (2, .int p2)] := hl
  unfold gw_J11_newLength at hw
  obtain ⟨G0, hG0⟩ : ∃ G0, G0 = G := ⟨_, rfl⟩
  have hG : gS E A G0 s.heap G s.heap [] := by rw [hG0]; exact hG
  rw [show gQ E A G (gpi post) = gQ E A G0 (gpi post) by rw [hG0]]
  refine lv_iload_n hx hb dJ11_newLength_0 rfl (lv_at hl 0 rfl) ?_
  refine lv_iload_n hx hb dJ11_newLength_1 rfl (lv_at hl 1 rfl) ?_
  refine lv_iload_n hx hb dJ11_newLength_2 rfl (lv_at hl 2 rfl) ?_
  refine va_mmax (rest := [.int p0]) hx hb (hml.trans hl.1.symm) hown (hts _ q231) (hts _ q232) (hts _ q69) (hts _ q233) (Nat.le_of_ble_eq_true rfl) (by (try simp only [List.map, va_rf_cat, gcat_i, gcat_r, gcat_l, gcat_d, gcat_f, gcat_n]); exact Nat.le_of_ble_eq_true rfl) (Nat.le_of_ble_eq_true rfl) (Nat.le_of_ble_eq_true rfl) dJ11_newLength_3 ?_
  refine lv_iadd hx hb dJ11_newLength_6 ?_
  refine lv_istore_n (i := 3) (lv' := [(3, .int (p0 + (if p1 < p2 then p2 else p1))), (0, .int p0), (1, .int p1), (2, .int p2)]) hx hb dJ11_newLength_7 rfl hl (by decide) rfl (fun ls hl => ?_)
  refine lv_iconst (v := 0) hx hb dJ11_newLength_8 (by decide) ?_
  refine lv_iload_n hx hb dJ11_newLength_9 rfl (lv_at hl 0 rfl) ?_
  refine lv_icmp_ge (tgt := 21) hx hb dJ11_newLength_10 (by decide) (fun c_ => ?_) (fun c_ => ?_)
  · replace hw := hw.1 c_
    refine lv_iload_n hx hb dJ11_newLength_21 rfl (lv_at hl 1 rfl) ?_
    refine lv_iload_n hx hb dJ11_newLength_22 rfl (lv_at hl 2 rfl) ?_
    exact hw.elim
  · replace hw := hw.2 c_
    refine lv_iload_n hx hb dJ11_newLength_13 rfl (lv_at hl 0 rfl) ?_
    refine lv_ldc (v := 2147483639) hx hb hown (hts _ q234) dJ11_newLength_14 ?_
    refine lv_icmp_gt (tgt := 21) hx hb dJ11_newLength_16 (by decide) (fun c_ => ?_) (fun c_ => ?_)
    · replace hw := hw.1 c_
      refine lv_iload_n hx hb dJ11_newLength_21 rfl (lv_at hl 1 rfl) ?_
      refine lv_iload_n hx hb dJ11_newLength_22 rfl (lv_at hl 2 rfl) ?_
      exact hw.elim
    · replace hw := hw.2 c_
      refine lv_iload_n hx hb dJ11_newLength_19 rfl (lv_at hl 0 rfl) ?_
      exact greti hx hb hr hlk hG rfl hw (Nat.le_of_ble_eq_true rfl) (Nat.le_of_ble_eq_true rfl) dJ11_newLength_20
def gw_J13_copyOf_3_L24 (E : gE) (p0 : Nat) (p2 : Nat) (post : Option Nat → Gh → Prop) (x1 : Int32) (t0 : Nat) (G : Gh) : Prop := gK G t0 = 35 ∧ ((¬ (0 : Int32) < 0 ∧ ¬ (0 : Int32) < 0 ∧ ¬ (if x1 < (nI (gL G p0)) then x1 else (nI (gL G p0))) < 0 ∧ (0 : Int32).toNatClampNeg + (if x1 < (nI (gL G p0)) then x1 else (nI (gL G p0))).toNatClampNeg ≤ gL G p0 ∧ (0 : Int32).toNatClampNeg + (if x1 < (nI (gL G p0)) then x1 else (nI (gL G p0))).toNatClampNeg ≤ gL G t0) ∧ ((∀ i, i < (if x1 < (nI (gL G p0)) then x1 else (nI (gL G p0))).toNatClampNeg → ∀ y, gR G p0 ((0 : Int32).toNatClampNeg + i) = some y → gOk G y) ∧ (∀ G7, G7 = grR G t0 (va_cpy (gR G p0) (gR G t0) (0 : Int32).toNatClampNeg (0 : Int32).toNatClampNeg (if x1 < (nI (gL G p0)) then x1 else (nI (gL G p0))).toNatClampNeg) → (post (some t0) G7))))
def gw_J13_copyOf_3 (E : gE) (post : Option Nat → Gh → Prop) (p0 : Nat) (p1 : Int32) (p2 : Nat) (G : Gh) : Prop := gC G p0 = 35 ∧ ((¬ (some p2) = (some (eZ E 8)) → (False)) ∧ ((some p2) = (some (eZ E 8)) → ((¬ p1 < 0 ∧ p1.toNatClampNeg ≤ 64) ∧ (∀ q1, gK G q1 = 0 → ∀ G3, G3 = gN G q1 35 (p1.toNatClampNeg) → (gw_J13_copyOf_3_L24 E p0 p2 post  p1 q1 G3)))))
theorem hd_J13_copyOf_3 : yJ13_copyOf_3.cls ≠ "java/lang/invoke/MethodHandle" ∧ yJ13_copyOf_3.cls ≠ "java/lang/invoke/VarHandle" ∧ (parseMethodDescriptor yJ13_copyOf_3.desc).map (fun d => d.parameters.length) = some 3 := by decide +kernel
set_option maxHeartbeats 1000000 in
set_option maxRecDepth 100000 in
theorem gm_J13_copyOf_3 (l : Launch) (E : gE) (p0 : Nat) (p1 : Int32) (p2 : Nat) (post : Option Nat → Gh → Prop) (G : Gh) (hw : gw_J13_copyOf_3 E post p0 p1 p2 G) : gM l E yJ13_copyOf_3 (ws_ yJ13_copyOf_3 cJ13_copyOf_3 4 (some (.array (.object "java/lang/Object")))) ({ frames := 1, cells := 1, slots := 64, locals := 60 } : Room) 1 64 [.ref p0, .int p1, .ref p2] G (gpr post) := by
  refine gof (by decide) (Nat.le_of_ble_eq_true rfl) ?_
  intro p e s m below meth c A ls hx hb hr hlk hml hown hin hts hPF hA hG hl
  have hl : lv_has ls 4 [(0, .ref p0), (1, .int p1), (2, .ref p2)] := hl
  unfold gw_J13_copyOf_3 at hw
  obtain ⟨G0, hG0⟩ : ∃ G0, G0 = G := ⟨_, rfl⟩
  have hG : gS E A G0 s.heap G s.heap [] := by rw [hG0]; exact hG
  rw [show gQ E A G (gpr post) = gQ E A G0 (gpr post) by rw [hG0]]
  have h0p0 := hw.1; rw [← hG0] at h0p0
  replace hw := hw.2
  have hL24 : ∀ (x1 : Int32) (t0 : Nat) (G : Gh) (H : Heap) (locs : List Loc) (ls : Array Slot), gS E A G0 s.heap G H locs → lv_has ls 4 [(0, .ref p0), (1, .int x1)] → gw_J13_copyOf_3_L24 E p0 p2 post x1 t0 G → W p l e (headSpec (ws_ yJ13_copyOf_3 cJ13_copyOf_3 4 (some (.array (.object "java/lang/Object")))) ({ frames := 1, cells := 1, slots := 64, locals := 60 } : Room)).room s m ([.ref p0, .int p1, .ref p2] : List Value).toArray below meth c H locs 1 64 (MQ below (gQ E A G0 (gpr post)) ([.ref p0, .int p1, .ref p2] : List Value).toArray s 1 64 A) (F0 m 24 ls [.ref t0]) := by
    intro x1 t0 G H locs ls hG hl hw
    unfold gw_J13_copyOf_3_L24 at hw
    refine lv_astore_n (i := 3) (lv' := [(3, .ref t0), (0, .ref p0), (1, .int x1)]) hx hb dJ13_copyOf_3_24 rfl hl (by decide) rfl (fun ls hl => ?_)
    refine lv_aload_n hx hb dJ13_copyOf_3_25 rfl (lv_at hl 1 rfl) ?_
    refine lv_iconst (v := 0) hx hb dJ13_copyOf_3_26 (by decide) ?_
    refine lv_aload_n hx hb dJ13_copyOf_3_27 rfl (lv_at hl 0 rfl) ?_
    refine lv_iconst (v := 0) hx hb dJ13_copyOf_3_28 (by decide) ?_
    refine lv_aload_n hx hb dJ13_copyOf_3_29 rfl (lv_at hl 1 rfl) ?_
    refine galen hx hb hPF hG (gC_mon hG.1.2 h0p0 (by decide)) (by decide) (by decide) dJ13_copyOf_3_30 ?_
    refine lv_iload_n hx hb dJ13_copyOf_3_31 rfl (lv_at hl 2 rfl) ?_
    refine va_mmin (rest := [.int 0, .ref t0, .int 0, .ref p0]) hx hb (hml.trans hl.1.symm) hown (hts _ q249) (hts _ q250) (hts _ q69) (hts _ q251) (Nat.le_of_ble_eq_true rfl) (by (try simp only [List.map, va_rf_cat, gcat_i, gcat_r, gcat_l, gcat_d, gcat_f, gcat_n]); exact Nat.le_of_ble_eq_true rfl) (Nat.le_of_ble_eq_true rfl) (Nat.le_of_ble_eq_true rfl) dJ13_copyOf_3_32 ?_
    have hk4 := hw.1
    replace hw := hw.2
    have hv5 := hw.1
    replace hw := hw.2
    have hf6 := hw.1
    replace hw := hw.2
    refine gcpq hx hb (hl.1.trans hml.symm) hts hown q252 q254 q253 q71 hPF hG (gC_mon hG.1.2 h0p0 (by decide)) hk4 hv5.1 hv5.2.1 hv5.2.2.1 hv5.2.2.2.1 hv5.2.2.2.2 (fun i hi y hy => gOk_any hts hPF hG (hf6 i hi y hy)) (Nat.le_of_ble_eq_true rfl) (by (try simp only [List.map, va_rf_cat, gcat_i, gcat_r, gcat_l, gcat_d, gcat_f, gcat_n]); exact Nat.le_of_ble_eq_true rfl) dJ13_copyOf_3_35 (fun H locs hG => ?_)
    obtain ⟨G7, eG7⟩ : ∃ z, z = grR G t0 (va_cpy (gR G p0) (gR G t0) (0 : Int32).toNatClampNeg (0 : Int32).toNatClampNeg (if x1 < (nI (gL G p0)) then x1 else (nI (gL G p0))).toNatClampNeg) := ⟨_, rfl⟩
    rw [← eG7] at hG
    replace hw := hw G7 eG7
    have hk4 : gK G7 t0 = 35 := by rw [eG7]; exact hk4
    refine lv_aload_n hx hb dJ13_copyOf_3_38 rfl (lv_at hl 0 rfl) ?_
    exact gretr (v := (some t0)) hx hb hr hlk hG (Or.inr ⟨_, rfl⟩) hw (Nat.le_of_ble_eq_true rfl) (Nat.le_of_ble_eq_true rfl) dJ13_copyOf_3_39
  refine lv_aload_n hx hb dJ13_copyOf_3_0 rfl (lv_at hl 2 rfl) ?_
  refine va_ldcM hx hb hown (hts _ q849) hPF.m dJ13_copyOf_3_1 ?_
  refine lv_acmp_ne (rx := (some p2)) (ry := (some (eZ E 8))) (tgt := 13) hx hb dJ13_copyOf_3_3 (by decide) (fun c_ => ?_) (fun c_ => ?_)
  · replace hw := hw.1 c_
    refine lv_aload_n hx hb dJ13_copyOf_3_13 rfl (lv_at hl 2 rfl) ?_
    exact hw.elim
  · replace hw := hw.2 c_
    refine lv_iload_n hx hb dJ13_copyOf_3_6 rfl (lv_at hl 1 rfl) ?_
    have hn2 := hw.1
    replace hw := hw.2
    refine gnaq hx hb hts hown q850 hPF hG hA hn2.1 rfl 64 hn2.2 (by decide) (Nat.le_of_ble_eq_true rfl) (Nat.le_of_ble_eq_true rfl) dJ13_copyOf_3_7 (fun q1 H h0q1 hG => ?_)
    replace hw := hw q1 h0q1
    obtain ⟨G3, eG3⟩ : ∃ z, z = gN G q1 35 (p1.toNatClampNeg) := ⟨_, rfl⟩
    rw [← eG3] at hG
    replace hw := hw G3 eG3
    have hkq1 : gK G3 q1 = 35 := by rw [eG3]; exact gK_Nq
    refine lv_goto (tgt := 24) hx hb dJ13_copyOf_3_10 (by decide) ?_
    refine W.widen (k := 1) (n := 64) (Nat.le_of_ble_eq_true rfl) (Nat.le_of_ble_eq_true rfl) ?_
    exact hL24  p1 q1 G3 _ _ ls hG (lv_sub hl [0, 1] rfl) hw
def gw_J13_copyOf_2 (E : gE) (post : Option Nat → Gh → Prop) (p0 : Nat) (p1 : Int32) (G : Gh) : Prop := gC G p0 = 35 ∧ (gw_J13_copyOf_3 E (fun r2 G1 => gMon G G1 → (post r2 G1)) p0 p1 (eZ E 8) G)
theorem hd_J13_copyOf_2 : yJ13_copyOf_2.cls ≠ "java/lang/invoke/MethodHandle" ∧ yJ13_copyOf_2.cls ≠ "java/lang/invoke/VarHandle" ∧ (parseMethodDescriptor yJ13_copyOf_2.desc).map (fun d => d.parameters.length) = some 2 := by decide +kernel
set_option maxHeartbeats 1000000 in
set_option maxRecDepth 100000 in
theorem gm_J13_copyOf_2 (l : Launch) (E : gE) (p0 : Nat) (p1 : Int32) (post : Option Nat → Gh → Prop) (G : Gh) (hw : gw_J13_copyOf_2 E post p0 p1 G) : gM l E yJ13_copyOf_2 (ws_ yJ13_copyOf_2 cJ13_copyOf_2 2 (some (.array (.object "java/lang/Object")))) ({ frames := 2, cells := 1, slots := 64, locals := 83 } : Room) 1 64 [.ref p0, .int p1] G (gpr post) := by
  refine gof (by decide) (Nat.le_of_ble_eq_true rfl) ?_
  intro p e s m below meth c A ls hx hb hr hlk hml hown hin hts hPF hA hG hl
  have hl : lv_has ls 2 [(0, .ref p0), (1, .int p1)] := hl
  unfold gw_J13_copyOf_2 at hw
  obtain ⟨G0, hG0⟩ : ∃ G0, G0 = G := ⟨_, rfl⟩
  have hG : gS E A G0 s.heap G s.heap [] := by rw [hG0]; exact hG
  rw [show gQ E A G (gpr post) = gQ E A G0 (gpr post) by rw [hG0]]
  have h0p0 := hw.1; rw [← hG0] at h0p0
  replace hw := hw.2
  refine lv_aload_n hx hb dJ13_copyOf_2_0 rfl (lv_at hl 0 rfl) ?_
  refine lv_iload_n hx hb dJ13_copyOf_2_1 rfl (lv_at hl 1 rfl) ?_
  refine lv_aload_n hx hb dJ13_copyOf_2_2 rfl (lv_at hl 0 rfl) ?_
  refine va_getC (rest := [.int p1, .ref p0]) hx hb (hml.trans hl.1.symm) hown (hts _ q812) (va_Nw.use rfl (hPF.w q2363 rfl)) (hts _ q2362) (hts _ q813) (hts _ q845) hPF.m (garrC35 hPF hG (gC_mon hG.1.2 h0p0 (by decide))) (Nat.le_of_ble_eq_true rfl) (by (try simp only [List.map, va_rf_cat, gcat_i, gcat_r, gcat_l, gcat_d, gcat_f, gcat_n]); exact Nat.le_of_ble_eq_true rfl) dJ13_copyOf_2_3 ?_
  refine gc3r hA hG (va_runS (As := [.ref p0, .int p1, .ref (eZ E 8)]) (rest := []) ⟨hx, hb, hml, hown, hts⟩ (gm_J13_copyOf_3 l E p0 p1 (eZ E 8) _ G hw _) (va_cwS 3 hts (lw_S q846 q847 q70 q848) rfl rfl rfl hd_J13_copyOf_3 ⟨Nat.le_of_ble_eq_true rfl, Nat.le_of_ble_eq_true rfl⟩) ⟨gblind, fun U hU hW => gpre hPF hA hG _ U hU hW⟩ rfl rfl hl.1 rfl (lv_room (Nat.le_of_ble_eq_true rfl)) dJ13_copyOf_2_6 ⟨(Nat.le_of_ble_eq_true rfl), (Nat.le_of_ble_eq_true rfl)⟩) (fun r2 G1 H locs hw hmon hG => ?_)
  replace hw := hw hmon
  exact gretr (v := r2) hx hb hr hlk hG (Or.inr ⟨_, rfl⟩) hw (Nat.le_of_ble_eq_true rfl) (Nat.le_of_ble_eq_true rfl) dJ13_copyOf_2_9
def gw_J2_grow_2_L20 (E : gE) (p0 : Nat) (post : Option Nat → Gh → Prop) (x1 : Int32) (x2 : Int32) (G : Gh) : Prop := gw_J11_newLength E (fun r8 G7 => gMon G G7 → (∃ q9, (gR G7 p0 1) = some q9 ∧ (gw_J13_copyOf_2 E (fun r11 G10 => gMon G7 G10 → (∀ G12, G12 = gsR G10 p0 1 r11 → (post r11 G12))) q9 r8 G7))) x2 (x1 - x2) (x2 >>> ((1 : Int32) &&& 31)) G
def gw_J2_grow_2 (E : gE) (post : Option Nat → Gh → Prop) (p0 : Nat) (p1 : Int32) (G : Gh) : Prop := gK G p0 = 14 ∧ (∃ q1, (gR G p0 1) = some q1 ∧ (gC G q1 = 35 ∧ ((0 < (nI (gL G q1)) → (gw_J2_grow_2_L20 E p0 post  p1 (nI (gL G q1)) G)) ∧ (¬ 0 < (nI (gL G q1)) → (((gR G p0 1) = (some (eZ E 5)) → ((¬ (if (10 : Int32) < p1 then p1 else (10 : Int32)) < 0 ∧ (if (10 : Int32) < p1 then p1 else (10 : Int32)).toNatClampNeg ≤ 64) ∧ (∀ q3, gK G q3 = 0 → ∀ G5, G5 = gN G q3 35 ((if (10 : Int32) < p1 then p1 else (10 : Int32)).toNatClampNeg) → (∀ G6, G6 = gsR G5 p0 1 (some q3) → (post (some q3) G6))))) ∧ (¬ (gR G p0 1) = (some (eZ E 5)) → (gw_J2_grow_2_L20 E p0 post  p1 (nI (gL G q1)) G)))))))
theorem hd_J2_grow_2 : yJ2_grow_2.cls = RJ2 ∧ yJ2_grow_2.cls ≠ "java/lang/invoke/MethodHandle" ∧ yJ2_grow_2.cls ≠ "java/lang/invoke/VarHandle" ∧ (parseMethodDescriptor yJ2_grow_2.desc).map (fun d => d.parameters.length) = some 1 := by decide +kernel
theorem hdn_J2_grow_2 : yJ2_grow_2.cls ≠ "java/lang/invoke/MethodHandle" ∧ yJ2_grow_2.cls ≠ "java/lang/invoke/VarHandle" ∧ (parseMethodDescriptor yJ2_grow_2.desc).map (fun d => d.parameters.length) = some 1 := hd_J2_grow_2.2
theorem hdu_J2_grow_2 : RJ2 ≠ "java/lang/invoke/MethodHandle" ∧ RJ2 ≠ "java/lang/invoke/VarHandle" ∧ (parseMethodDescriptor yJ2_grow_2.desc).map (fun d => d.parameters.length) = some 1 := by decide +kernel
theorem hds_J2_grow_2 : yJ2_grow_2.name ≠ "<init>" ∧ (parseMethodDescriptor yJ2_grow_2.desc).map (fun d => d.parameters.length) = some 1 := by decide +kernel
set_option maxHeartbeats 1000000 in
set_option maxRecDepth 100000 in
theorem gm_J2_grow_2 (l : Launch) (E : gE) (p0 : Nat) (p1 : Int32) (post : Option Nat → Gh → Prop) (G : Gh) (hw : gw_J2_grow_2 E post p0 p1 G) : gM l E yJ2_grow_2 (ws_ yJ2_grow_2 cJ2_grow_2 4 (some (.array (.object "java/lang/Object")))) ({ frames := 3, cells := 1, slots := 64, locals := 104 } : Room) 1 64 [.ref p0, .int p1] G (gpr post) := by
  refine gof (by decide) (Nat.le_of_ble_eq_true rfl) ?_
  intro p e s m below meth c A ls hx hb hr hlk hml hown hin hts hPF hA hG hl
  have hl : lv_has ls 4 [(0, .ref p0), (1, .int p1)] := hl
  unfold gw_J2_grow_2 at hw
  obtain ⟨G0, hG0⟩ : ∃ G0, G0 = G := ⟨_, rfl⟩
  have hG : gS E A G0 s.heap G s.heap [] := by rw [hG0]; exact hG
  rw [show gQ E A G (gpr post) = gQ E A G0 (gpr post) by rw [hG0]]
  have h0p0 := hw.1; rw [← hG0] at h0p0
  replace hw := hw.2
  have hL20 : ∀ (x1 : Int32) (x2 : Int32) (G : Gh) (H : Heap) (locs : List Loc) (ls : Array Slot), gS E A G0 s.heap G H locs → lv_has ls 4 [(0, .ref p0), (1, .int x1), (2, .int x2)] → gw_J2_grow_2_L20 E p0 post x1 x2 G → W p l e (headSpec (ws_ yJ2_grow_2 cJ2_grow_2 4 (some (.array (.object "java/lang/Object")))) ({ frames := 3, cells := 1, slots := 64, locals := 104 } : Room)).room s m ([.ref p0, .int p1] : List Value).toArray below meth c H locs 0 0 (MQ below (gQ E A G0 (gpr post)) ([.ref p0, .int p1] : List Value).toArray s 1 64 A) (F0 m 20 ls []) := by
    intro x1 x2 G H locs ls hG hl hw
    unfold gw_J2_grow_2_L20 at hw
    refine lv_iload_n hx hb dJ2_grow_2_20 rfl (lv_at hl 2 rfl) ?_
    refine lv_iload_n hx hb dJ2_grow_2_21 rfl (lv_at hl 1 rfl) ?_
    refine lv_iload_n hx hb dJ2_grow_2_22 rfl (lv_at hl 2 rfl) ?_
    refine lv_isub hx hb dJ2_grow_2_23 ?_
    refine lv_iload_n hx hb dJ2_grow_2_24 rfl (lv_at hl 2 rfl) ?_
    refine lv_iconst (v := 1) hx hb dJ2_grow_2_25 (by decide) ?_
    refine lv_ishr hx hb dJ2_grow_2_26 ?_
    refine gc3i hA hG (va_runS (As := [.int x2, .int (x1 - x2), .int (x2 >>> ((1 : Int32) &&& 31))]) (rest := []) ⟨hx, hb, hml, hown, hts⟩ (gm_J11_newLength l E x2 (x1 - x2) (x2 >>> ((1 : Int32) &&& 31)) _ G hw _) (va_cwS 3 hts (lw_S q808 q229 q68 q230) rfl rfl rfl hd_J11_newLength ⟨Nat.le_of_ble_eq_true rfl, Nat.le_of_ble_eq_true rfl⟩) ⟨gblind, fun U hU hW => gpre hPF hA hG _ U hU hW⟩ rfl rfl hl.1 rfl (lv_room (Nat.le_of_ble_eq_true rfl)) dJ2_grow_2_27 ⟨(Nat.le_of_ble_eq_true rfl), (Nat.le_of_ble_eq_true rfl)⟩) (fun r8 G7 H locs hw hmon hG => ?_)
    replace hw := hw hmon
    refine lv_istore_n (i := 3) (lv' := [(3, .int r8), (0, .ref p0), (1, .int x1), (2, .int x2)]) hx hb dJ2_grow_2_30 rfl hl (by decide) rfl (fun ls hl => ?_)
    refine lv_aload_n hx hb dJ2_grow_2_31 rfl (lv_at hl 1 rfl) ?_
    refine lv_aload_n hx hb dJ2_grow_2_32 rfl (lv_at hl 1 rfl) ?_
    refine gg hx hb hts hown hPF hG 14 1 rfl in_J2 (by decide) (by decide) (by decide) q447 (fun _ h9 => h9) (gC_of (gK_mon hG.1.2 h0p0 (by decide)) (by decide)) (v := va_rf (gR G7 p0 1)) rfl dJ2_grow_2_33 ?_
    refine lv_iload_n hx hb dJ2_grow_2_36 rfl (lv_at hl 0 rfl) ?_
    obtain ⟨q9, hq9, hw⟩ := hw
    refine W.eq (g2 := F0 m 37 ls [.int r8, .ref q9, .ref p0]) (by rw [hq9]; rfl) ?_
    refine gc3r hA hG (va_runS (As := [.ref q9, .int r8]) (rest := [.ref p0]) ⟨hx, hb, hml, hown, hts⟩ (gm_J13_copyOf_2 l E q9 r8 _ G7 hw _) (va_cwS 2 hts (lw_S q809 q810 q70 q811) rfl rfl rfl hd_J13_copyOf_2 ⟨Nat.le_of_ble_eq_true rfl, Nat.le_of_ble_eq_true rfl⟩) ⟨gblind, fun U hU hW => gpre hPF hA hG _ U hU hW⟩ rfl rfl hl.1 rfl (lv_room (Nat.le_of_ble_eq_true rfl)) dJ2_grow_2_37 ⟨(Nat.le_of_ble_eq_true rfl), (Nat.le_of_ble_eq_true rfl)⟩) (fun r11 G10 H locs hw hmon hG => ?_)
    replace hw := hw hmon
    refine lv_dup_x1 hx hb dJ2_grow_2_40 (va_rf_cat _) rfl ?_
    refine gp hx hb hts hown hPF hG 14 1 rfl in_J2 tyJ2 tyJ2_ok nmJ2 (by decide) (by decide) (by decide) q447 (fun _ h9 => h9) rfl (gK_mon hG.1.2 h0p0 (by decide)) (v := va_rf r11) (narrow_rf _) (fits_rf _ (by decide)) (G' := gsR G10 p0 1 r11) rfl rfl grR_off (Nat.le_of_ble_eq_true rfl) (gFs_R 14 1 (fun _ _ _ => rfl)) dJ2_grow_2_41 (fun H locs hG => ?_)
    obtain ⟨G12, eG12⟩ : ∃ z, z = gsR G10 p0 1 r11 := ⟨_, rfl⟩
    rw [← eG12] at hG
    replace hw := hw G12 eG12
    exact gretr (v := r11) hx hb hr hlk hG (Or.inr ⟨_, rfl⟩) hw (Nat.le_of_ble_eq_true rfl) (Nat.le_of_ble_eq_true rfl) dJ2_grow_2_44
  refine lv_aload_n hx hb dJ2_grow_2_0 rfl (lv_at hl 0 rfl) ?_
  refine gg hx hb hts hown hPF hG 14 1 rfl in_J2 (by decide) (by decide) (by decide) q447 (fun _ h9 => h9) (gC_of (gK_mon hG.1.2 h0p0 (by decide)) (by decide)) (v := va_rf (gR G p0 1)) rfl dJ2_grow_2_1 ?_
  obtain ⟨q1, hq1, hw⟩ := hw
  refine W.eq (g2 := F0 m 4 ls [.ref q1]) (by rw [hq1]; rfl) ?_
  have hk2 := hw.1
  replace hw := hw.2
  refine galen hx hb hPF hG hk2 (by decide) (by decide) dJ2_grow_2_4 ?_
  refine lv_istore_n (i := 2) (lv' := [(2, .int (nI (gL G q1))), (0, .ref p0), (1, .int p1)]) hx hb dJ2_grow_2_5 rfl hl (by decide) rfl (fun ls hl => ?_)
  refine lv_iload_n hx hb dJ2_grow_2_6 rfl (lv_at hl 0 rfl) ?_
  refine lv_if_gt (tgt := 20) hx hb dJ2_grow_2_7 (by decide) (fun c_ => ?_) (fun c_ => ?_)
  · replace hw := hw.1 c_
    refine W.widen (k := 0) (n := 0) (Nat.le_of_ble_eq_true rfl) (Nat.le_of_ble_eq_true rfl) ?_
    exact hL20  p1 (nI (gL G q1)) G _ _ ls hG (lv_sub hl [1, 2, 0] rfl) hw
  · replace hw := hw.2 c_
    refine lv_aload_n hx hb dJ2_grow_2_10 rfl (lv_at hl 1 rfl) ?_
    refine gg hx hb hts hown hPF hG 14 1 rfl in_J2 (by decide) (by decide) (by decide) q447 (fun _ h9 => h9) (gC_of (gK_mon hG.1.2 h0p0 (by decide)) (by decide)) (v := va_rf (gR G p0 1)) rfl dJ2_grow_2_11 ?_
    refine va_gets (v := .ref (eZ E 5)) hx hb (hPF.z 6 rfl) hG.2 hown (hts _ q806) (fun _ h9 => h9) dJ2_grow_2_14 ?_
    refine lv_acmp_eq (rx := (gR G p0 1)) (ry := (some (eZ E 5))) (tgt := 45) hx hb dJ2_grow_2_17 (by decide) (fun c_ => ?_) (fun c_ => ?_)
    · replace hw := hw.1 c_
      refine lv_aload_n hx hb dJ2_grow_2_45 rfl (lv_at hl 1 rfl) ?_
      refine lv_bipush (v := 10) hx hb dJ2_grow_2_46 (by decide) ?_
      refine lv_iload_n hx hb dJ2_grow_2_48 rfl (lv_at hl 2 rfl) ?_
      refine va_mmax (rest := [.ref p0]) hx hb (hml.trans hl.1.symm) hown (hts _ q851) (hts _ q232) (hts _ q69) (hts _ q233) (Nat.le_of_ble_eq_true rfl) (by (try simp only [List.map, va_rf_cat, gcat_i, gcat_r, gcat_l, gcat_d, gcat_f, gcat_n]); exact Nat.le_of_ble_eq_true rfl) (Nat.le_of_ble_eq_true rfl) (Nat.le_of_ble_eq_true rfl) dJ2_grow_2_49 ?_
      have hn4 := hw.1
      replace hw := hw.2
      refine gnaq hx hb hts hown q125 hPF hG hA hn4.1 rfl 64 hn4.2 (by decide) (Nat.le_of_ble_eq_true rfl) (Nat.le_of_ble_eq_true rfl) dJ2_grow_2_52 (fun q3 H h0q3 hG => ?_)
      replace hw := hw q3 h0q3
      obtain ⟨G5, eG5⟩ : ∃ z, z = gN G q3 35 ((if (10 : Int32) < p1 then p1 else (10 : Int32)).toNatClampNeg) := ⟨_, rfl⟩
      rw [← eG5] at hG
      replace hw := hw G5 eG5
      have hk2 : gC G5 q1 = 35 := by rw [eG5]; exact gC_N hk2 (by decide) h0q3
      have hkq3 : gK G5 q3 = 35 := by rw [eG5]; exact gK_Nq
      refine lv_dup_x1 hx hb dJ2_grow_2_55 rfl rfl ?_
      refine gp hx hb hts hown hPF hG 14 1 rfl in_J2 tyJ2 tyJ2_ok nmJ2 (by decide) (by decide) (by decide) q447 (fun _ h9 => h9) rfl (gK_mon hG.1.2 h0p0 (by decide)) (v := va_rf (some q3)) (narrow_rf _) (fits_rf _ (by decide)) (G' := gsR G5 p0 1 (some q3)) rfl rfl grR_off (Nat.le_of_ble_eq_true rfl) (gFs_R 14 1 (fun _ _ _ => rfl)) dJ2_grow_2_56 (fun H locs hG => ?_)
      obtain ⟨G6, eG6⟩ : ∃ z, z = gsR G5 p0 1 (some q3) := ⟨_, rfl⟩
      rw [← eG6] at hG
      replace hw := hw G6 eG6
      have hk2 : gC G6 q1 = 35 := by rw [eG6]; exact hk2
      have hkq3 : gK G6 q3 = 35 := by rw [eG6]; exact hkq3
      exact gretr (v := (some q3)) hx hb hr hlk hG (Or.inr ⟨_, rfl⟩) hw (Nat.le_of_ble_eq_true rfl) (Nat.le_of_ble_eq_true rfl) dJ2_grow_2_59
    · replace hw := hw.2 c_
      refine W.widen (k := 0) (n := 0) (Nat.le_of_ble_eq_true rfl) (Nat.le_of_ble_eq_true rfl) ?_
      exact hL20  p1 (nI (gL G q1)) G _ _ ls hG (lv_sub hl [1, 2, 0] rfl) hw
def gw_J2_grow (E : gE) (post : Option Nat → Gh → Prop) (p0 : Nat) (G : Gh) : Prop := gK G p0 = 14 ∧ (gw_J2_grow_2 E (fun r2 G1 => gMon G G1 → (post r2 G1)) p0 ((gI G p0 2) + 1) G)
theorem hd_J2_grow : yJ2_grow.cls = RJ2 ∧ yJ2_grow.cls ≠ "java/lang/invoke/MethodHandle" ∧ yJ2_grow.cls ≠ "java/lang/invoke/VarHandle" ∧ (parseMethodDescriptor yJ2_grow.desc).map (fun d => d.parameters.length) = some 0 := by decide +kernel
theorem hdn_J2_grow : yJ2_grow.cls ≠ "java/lang/invoke/MethodHandle" ∧ yJ2_grow.cls ≠ "java/lang/invoke/VarHandle" ∧ (parseMethodDescriptor yJ2_grow.desc).map (fun d => d.parameters.length) = some 0 := hd_J2_grow.2
theorem hdu_J2_grow : RJ2 ≠ "java/lang/invoke/MethodHandle" ∧ RJ2 ≠ "java/lang/invoke/VarHandle" ∧ (parseMethodDescriptor yJ2_grow.desc).map (fun d => d.parameters.length) = some 0 := by decide +kernel
theorem hds_J2_grow : yJ2_grow.name ≠ "<init>" ∧ (parseMethodDescriptor yJ2_grow.desc).map (fun d => d.parameters.length) = some 0 := by decide +kernel
set_option maxHeartbeats 1000000 in
set_option maxRecDepth 100000 in
theorem gm_J2_grow (l : Launch) (E : gE) (p0 : Nat) (post : Option Nat → Gh → Prop) (G : Gh) (hw : gw_J2_grow E post p0 G) : gM l E yJ2_grow (ws_ yJ2_grow cJ2_grow 1 (some (.array (.object "java/lang/Object")))) ({ frames := 4, cells := 1, slots := 64, locals := 127 } : Room) 1 64 [.ref p0] G (gpr post) := by
  refine gof (by decide) (Nat.le_of_ble_eq_true rfl) ?_
  intro p e s m below meth c A ls hx hb hr hlk hml hown hin hts hPF hA hG hl
  have hl : lv_has ls 1 [(0, .ref p0)] := hl
  unfold gw_J2_grow at hw
  obtain ⟨G0, hG0⟩ : ∃ G0, G0 = G := ⟨_, rfl⟩
  have hG : gS E A G0 s.heap G s.heap [] := by rw [hG0]; exact hG
  rw [show gQ E A G (gpr post) = gQ E A G0 (gpr post) by rw [hG0]]
  have h0p0 := hw.1; rw [← hG0] at h0p0
  replace hw := hw.2
  refine lv_aload_n hx hb dJ2_grow_0 rfl (lv_at hl 0 rfl) ?_
  refine lv_aload_n hx hb dJ2_grow_1 rfl (lv_at hl 0 rfl) ?_
  refine gg hx hb hts hown hPF hG 14 2 rfl in_J2 (by decide) (by decide) (by decide) q450 (fun _ h9 => h9) (gC_of (gK_mon hG.1.2 h0p0 (by decide)) (by decide)) (v := .int (gI G p0 2)) rfl dJ2_grow_2 ?_
  refine lv_iconst (v := 1) hx hb dJ2_grow_5 (by decide) ?_
  refine lv_iadd hx hb dJ2_grow_6 ?_
  refine gc3r hA hG (va_runV (As := [.int ((gI G p0 2) + 1)]) (rest := []) ⟨hx, hb, hml, hown, hts⟩ (gm_J2_grow_2 l E p0 ((gI G p0 2) + 1) _ G hw _) (cwV 1 hts (lw_V q802 q804 qs5 q59 q805) rfl rfl rfl hd_J2_grow_2 ⟨Nat.le_of_ble_eq_true rfl, Nat.le_of_ble_eq_true rfl⟩) ⟨gblind, grecv hPF hG (gC_of (gK_mon hG.1.2 h0p0 (by decide)) (by decide)) (by decide) (by decide) rfl, fun U hU hW => gpre hPF hA hG _ U hU hW⟩ rfl rfl hl.1 rfl (lv_room (Nat.le_of_ble_eq_true rfl)) dJ2_grow_7 ⟨(Nat.le_of_ble_eq_true rfl), (Nat.le_of_ble_eq_true rfl)⟩) (fun r2 G1 H locs hw hmon hG => ?_)
  replace hw := hw hmon
  exact gretr (v := r2) hx hb hr hlk hG (Or.inr ⟨_, rfl⟩) hw (Nat.le_of_ble_eq_true rfl) (Nat.le_of_ble_eq_true rfl) dJ2_grow_10
def gw_J2_add_2_L11 (E : gE) (p0 : Nat) (p1 : Nat) (p2 : Nat) (post : Gh → Prop) (x2 : Option Nat) (x3 : Int32) (G : Gh) : Prop := ∃ q3, x2 = some q3 ∧ (gK G q3 = 35 ∧ (vp_in x3 (gL G q3) ∧ ((∀ v, (some p1) = some v → gOk G v) ∧ (∀ G7, G7 = grR G q3 (va_up (gR G q3) x3.toNatClampNeg (some p1)) → (∀ G8, G8 = gsI G7 p0 2 (x3 + 1) → (post G8))))))
def gw_J2_add_2 (E : gE) (post : Gh → Prop) (p0 : Nat) (p1 : Nat) (p2 : Nat) (p3 : Int32) (G : Gh) : Prop := gK G p0 = 14 ∧ (gC G p2 = 35 ∧ ((¬ p3 = (nI (gL G p2)) → (gw_J2_add_2_L11 E p0 p1 p2 post  (some p2) p3 G)) ∧ (p3 = (nI (gL G p2)) → (gw_J2_grow E (fun r2 G1 => gMon G G1 → (gw_J2_add_2_L11 E p0 p1 p2 post  r2 p3 G1)) p0 G))))
theorem hd_J2_add_2 : yJ2_add_2.cls = RJ2 ∧ yJ2_add_2.cls ≠ "java/lang/invoke/MethodHandle" ∧ yJ2_add_2.cls ≠ "java/lang/invoke/VarHandle" ∧ (parseMethodDescriptor yJ2_add_2.desc).map (fun d => d.parameters.length) = some 3 := by decide +kernel
theorem hdn_J2_add_2 : yJ2_add_2.cls ≠ "java/lang/invoke/MethodHandle" ∧ yJ2_add_2.cls ≠ "java/lang/invoke/VarHandle" ∧ (parseMethodDescriptor yJ2_add_2.desc).map (fun d => d.parameters.length) = some 3 := hd_J2_add_2.2
theorem hdu_J2_add_2 : RJ2 ≠ "java/lang/invoke/MethodHandle" ∧ RJ2 ≠ "java/lang/invoke/VarHandle" ∧ (parseMethodDescriptor yJ2_add_2.desc).map (fun d => d.parameters.length) = some 3 := by decide +kernel
theorem hds_J2_add_2 : yJ2_add_2.name ≠ "<init>" ∧ (parseMethodDescriptor yJ2_add_2.desc).map (fun d => d.parameters.length) = some 3 := by decide +kernel
set_option maxHeartbeats 1000000 in
set_option maxRecDepth 100000 in
theorem gm_J2_add_2 (l : Launch) (E : gE) (p0 : Nat) (p1 : Nat) (p2 : Nat) (p3 : Int32) (post : Gh → Prop) (G : Gh) (hw : gw_J2_add_2 E post p0 p1 p2 p3 G) : gM l E yJ2_add_2 (ws_ yJ2_add_2 cJ2_add_2 4 none) ({ frames := 5, cells := 1, slots := 64, locals := 147 } : Room) 1 64 [.ref p0, .ref p1, .ref p2, .int p3] G (gpv post) := by
  refine gof (by decide) (Nat.le_of_ble_eq_true rfl) ?_
  intro p e s m below meth c A ls hx hb hr hlk hml hown hin hts hPF hA hG hl
  have hl : lv_has ls 4 [(0, .ref p0), (1, .ref p1), (2, .ref p2), (3, .int p3)] := hl
  unfold gw_J2_add_2 at hw
  obtain ⟨G0, hG0⟩ : ∃ G0, G0 = G := ⟨_, rfl⟩
  have hG : gS E A G0 s.heap G s.heap [] := by rw [hG0]; exact hG
  rw [show gQ E A G (gpv post) = gQ E A G0 (gpv post) by rw [hG0]]
  have h0p0 := hw.1; rw [← hG0] at h0p0
  replace hw := hw.2
  have h0p2 := hw.1; rw [← hG0] at h0p2
  replace hw := hw.2
  have hL11 : ∀ (x2 : Option Nat) (x3 : Int32) (G : Gh) (H : Heap) (locs : List Loc) (ls : Array Slot), gS E A G0 s.heap G H locs → lv_has ls 4 [(0, .ref p0), (1, .ref p1), (2, va_rf x2), (3, .int x3)] → gw_J2_add_2_L11 E p0 p1 p2 post x2 x3 G → W p l e (headSpec (ws_ yJ2_add_2 cJ2_add_2 4 none) ({ frames := 5, cells := 1, slots := 64, locals := 147 } : Room)).room s m ([.ref p0, .ref p1, .ref p2, .int p3] : List Value).toArray below meth c H locs 1 64 (MQ below (gQ E A G0 (gpv post)) ([.ref p0, .ref p1, .ref p2, .int p3] : List Value).toArray s 1 64 A) (F0 m 11 ls []) := by
    intro x2 x3 G H locs ls hG hl hw
    unfold gw_J2_add_2_L11 at hw
    refine ga_n hx hb dJ2_add_2_11 rfl (lv_at hl 2 rfl) ?_
    refine lv_iload_n hx hb dJ2_add_2_12 rfl (lv_at hl 3 rfl) ?_
    refine lv_aload_n hx hb dJ2_add_2_13 rfl (lv_at hl 1 rfl) ?_
    obtain ⟨q3, hq3, hw⟩ := hw
    refine W.eq (g2 := F0 m 14 ls [.ref p1, .int x3, .ref q3]) (by rw [hq3]; rfl) ?_
    have hk4 := hw.1
    replace hw := hw.2
    have hi5 := hw.1
    replace hw := hw.2
    have ho6 := hw.1
    replace hw := hw.2
    refine gsq (r := (some p1)) hx hb hPF hG hk4 hi5 rfl (fun v h => gOk_any hts hPF hG (ho6 v h)) dJ2_add_2_14 (fun H locs hG => ?_)
    obtain ⟨G7, eG7⟩ : ∃ z, z = grR G q3 (va_up (gR G q3) x3.toNatClampNeg (some p1)) := ⟨_, rfl⟩
    rw [← eG7] at hG
    replace hw := hw G7 eG7
    have hk4 : gK G7 q3 = 35 := by rw [eG7]; exact hk4
    refine lv_aload_n hx hb dJ2_add_2_15 rfl (lv_at hl 0 rfl) ?_
    refine lv_iload_n hx hb dJ2_add_2_16 rfl (lv_at hl 3 rfl) ?_
    refine lv_iconst (v := 1) hx hb dJ2_add_2_17 (by decide) ?_
    refine lv_iadd hx hb dJ2_add_2_18 ?_
    refine gp hx hb hts hown hPF hG 14 2 rfl in_J2 tyJ2 tyJ2_ok nmJ2 (by decide) (by decide) (by decide) q450 (fun _ h9 => h9) rfl (gK_mon hG.1.2 h0p0 (by decide)) (v := .int (x3 + 1)) rfl rfl (G' := gsI G7 p0 2 (x3 + 1)) rfl rfl grI_off (Nat.le_of_ble_eq_true rfl) (gFs_I 14 2 (fun _ _ _ => rfl)) dJ2_add_2_19 (fun H locs hG => ?_)
    obtain ⟨G8, eG8⟩ : ∃ z, z = gsI G7 p0 2 (x3 + 1) := ⟨_, rfl⟩
    rw [← eG8] at hG
    replace hw := hw G8 eG8
    have hk4 : gK G8 q3 = 35 := by rw [eG8]; exact hk4
    exact gretv hx hb hr hlk hG hw (Nat.le_of_ble_eq_true rfl) (Nat.le_of_ble_eq_true rfl) dJ2_add_2_22
  refine lv_iload_n hx hb dJ2_add_2_0 rfl (lv_at hl 3 rfl) ?_
  refine lv_aload_n hx hb dJ2_add_2_1 rfl (lv_at hl 2 rfl) ?_
  refine galen hx hb hPF hG (gC_mon hG.1.2 h0p2 (by decide)) (by decide) (by decide) dJ2_add_2_2 ?_
  refine lv_icmp_ne (tgt := 11) hx hb dJ2_add_2_3 (by decide) (fun c_ => ?_) (fun c_ => ?_)
  · replace hw := hw.1 c_
    refine W.widen (k := 1) (n := 64) (Nat.le_of_ble_eq_true rfl) (Nat.le_of_ble_eq_true rfl) ?_
    exact hL11  (some p2) p3 G _ _ ls hG (lv_sub hl [0, 1, 2, 3] rfl) hw
  · replace hw := hw.2 c_
    refine lv_aload_n hx hb dJ2_add_2_6 rfl (lv_at hl 0 rfl) ?_
    refine gc3r hA hG (va_runV (As := []) (rest := []) ⟨hx, hb, hml, hown, hts⟩ (gm_J2_grow l E p0 _ G hw _) (cwV 0 hts (lw_V q798 q800 qs4 q59 q801) rfl rfl rfl hd_J2_grow ⟨Nat.le_of_ble_eq_true rfl, Nat.le_of_ble_eq_true rfl⟩) ⟨gblind, grecv hPF hG (gC_of (gK_mon hG.1.2 h0p0 (by decide)) (by decide)) (by decide) (by decide) rfl, fun U hU hW => gpre hPF hA hG _ U hU hW⟩ rfl rfl hl.1 rfl (lv_room (Nat.le_of_ble_eq_true rfl)) dJ2_add_2_7 ⟨(Nat.le_of_ble_eq_true rfl), (Nat.le_of_ble_eq_true rfl)⟩) (fun r2 G1 H locs hw hmon hG => ?_)
    replace hw := hw hmon
    refine gt_n (i := 2) (lv' := [(2, va_rf r2), (0, .ref p0), (1, .ref p1), (3, .int p3)]) hx hb dJ2_add_2_10 rfl hl (by decide) rfl (fun ls hl => ?_)
    refine W.widen (k := 1) (n := 64) (Nat.le_of_ble_eq_true rfl) (Nat.le_of_ble_eq_true rfl) ?_
    exact hL11  r2 p3 G1 _ _ ls hG (lv_sub hl [1, 2, 0, 3] rfl) hw
def gw_J2_add (E : gE) (post : Int32 → Gh → Prop) (p0 : Nat) (p1 : Nat) (G : Gh) : Prop := gK G p0 = 14 ∧ (∀ G1, G1 = gsI G p0 0 ((gI G p0 0) + 1) → (∃ q2, (gR G1 p0 1) = some q2 ∧ (gw_J2_add_2 E (fun G3 => gMon G1 G3 → (post 1 G3)) p0 p1 q2 (gI G1 p0 2) G1)))
theorem hd_J2_add : yJ2_add.cls = RJ2 ∧ yJ2_add.cls ≠ "java/lang/invoke/MethodHandle" ∧ yJ2_add.cls ≠ "java/lang/invoke/VarHandle" ∧ (parseMethodDescriptor yJ2_add.desc).map (fun d => d.parameters.length) = some 1 := by decide +kernel
theorem hdn_J2_add : yJ2_add.cls ≠ "java/lang/invoke/MethodHandle" ∧ yJ2_add.cls ≠ "java/lang/invoke/VarHandle" ∧ (parseMethodDescriptor yJ2_add.desc).map (fun d => d.parameters.length) = some 1 := hd_J2_add.2
theorem hdu_J2_add : RJ2 ≠ "java/lang/invoke/MethodHandle" ∧ RJ2 ≠ "java/lang/invoke/VarHandle" ∧ (parseMethodDescriptor yJ2_add.desc).map (fun d => d.parameters.length) = some 1 := by decide +kernel
theorem hds_J2_add : yJ2_add.name ≠ "<init>" ∧ (parseMethodDescriptor yJ2_add.desc).map (fun d => d.parameters.length) = some 1 := by decide +kernel
set_option maxHeartbeats 1000000 in
set_option maxRecDepth 100000 in
theorem gm_J2_add (l : Launch) (E : gE) (p0 : Nat) (p1 : Nat) (post : Int32 → Gh → Prop) (G : Gh) (hw : gw_J2_add E post p0 p1 G) : gM l E yJ2_add (ws_ yJ2_add cJ2_add 2 (some .boolean)) ({ frames := 6, cells := 1, slots := 64, locals := 170 } : Room) 1 64 [.ref p0, .ref p1] G (gpi post) := by
  refine gof (by decide) (Nat.le_of_ble_eq_true rfl) ?_
  intro p e s m below meth c A ls hx hb hr hlk hml hown hin hts hPF hA hG hl
  have hl : lv_has ls 2 [(0, .ref p0), (1, .ref p1)] := hl
  unfold gw_J2_add at hw
  obtain ⟨G0, hG0⟩ : ∃ G0, G0 = G := ⟨_, rfl⟩
  have hG : gS E A G0 s.heap G s.heap [] := by rw [hG0]; exact hG
  rw [show gQ E A G (gpi post) = gQ E A G0 (gpi post) by rw [hG0]]
  have h0p0 := hw.1; rw [← hG0] at h0p0
  replace hw := hw.2
  refine lv_aload_n hx hb dJ2_add_0 rfl (lv_at hl 0 rfl) ?_
  refine lv_dup hx hb dJ2_add_1 rfl ?_
  refine gg hx hb hts hown hPF hG 14 0 rfl in_J2 (by decide) (by decide) (by decide) q454 (u_same (hts _ q453)) (gC_of (gK_mon hG.1.2 h0p0 (by decide)) (by decide)) (v := .int (gI G p0 0)) rfl dJ2_add_2 ?_
  refine lv_iconst (v := 1) hx hb dJ2_add_5 (by decide) ?_
  refine lv_iadd hx hb dJ2_add_6 ?_
  refine gp hx hb hts hown hPF hG 14 0 rfl in_J2 tyJ2 tyJ2_ok nmJ2 (by decide) (by decide) (by decide) q454 (u_same (hts _ q453)) rfl (gK_mon hG.1.2 h0p0 (by decide)) (v := .int ((gI G p0 0) + 1)) rfl rfl (G' := gsI G p0 0 ((gI G p0 0) + 1)) rfl rfl grI_off (Nat.le_of_ble_eq_true rfl) (gFs_I 14 0 (fun _ _ _ => rfl)) dJ2_add_7 (fun H locs hG => ?_)
  obtain ⟨G1, eG1⟩ : ∃ z, z = gsI G p0 0 ((gI G p0 0) + 1) := ⟨_, rfl⟩
  rw [← eG1] at hG
  replace hw := hw G1 eG1
  refine lv_aload_n hx hb dJ2_add_10 rfl (lv_at hl 0 rfl) ?_
  refine lv_aload_n hx hb dJ2_add_11 rfl (lv_at hl 1 rfl) ?_
  refine lv_aload_n hx hb dJ2_add_12 rfl (lv_at hl 0 rfl) ?_
  refine gg hx hb hts hown hPF hG 14 1 rfl in_J2 (by decide) (by decide) (by decide) q447 (fun _ h9 => h9) (gC_of (gK_mon hG.1.2 h0p0 (by decide)) (by decide)) (v := va_rf (gR G1 p0 1)) rfl dJ2_add_13 ?_
  refine lv_aload_n hx hb dJ2_add_16 rfl (lv_at hl 0 rfl) ?_
  refine gg hx hb hts hown hPF hG 14 2 rfl in_J2 (by decide) (by decide) (by decide) q450 (fun _ h9 => h9) (gC_of (gK_mon hG.1.2 h0p0 (by decide)) (by decide)) (v := .int (gI G1 p0 2)) rfl dJ2_add_17 ?_
  obtain ⟨q2, hq2, hw⟩ := hw
  refine W.eq (g2 := F0 m 20 ls [.int (gI G1 p0 2), .ref q2, .ref p1, .ref p0]) (by rw [hq2]; rfl) ?_
  refine gc3v hA hG (va_runV (As := [.ref p1, .ref q2, .int (gI G1 p0 2)]) (rest := []) ⟨hx, hb, hml, hown, hts⟩ (gm_J2_add_2 l E p0 p1 q2 (gI G1 p0 2) _ G1 hw _) (cwV 3 hts (lw_V q794 q796 qs3 q59 q797) rfl rfl rfl hd_J2_add_2 ⟨Nat.le_of_ble_eq_true rfl, Nat.le_of_ble_eq_true rfl⟩) ⟨gblind, grecv hPF hG (gC_of (gK_mon hG.1.2 h0p0 (by decide)) (by decide)) (by decide) (by decide) rfl, fun U hU hW => gpre hPF hA hG _ U hU hW⟩ rfl rfl hl.1 rfl (lv_room (Nat.le_of_ble_eq_true rfl)) dJ2_add_20 ⟨(Nat.le_of_ble_eq_true rfl), (Nat.le_of_ble_eq_true rfl)⟩) (fun G3 H locs hw hmon hG => ?_)
  replace hw := hw hmon
  refine lv_iconst (v := 1) hx hb dJ2_add_23 (by decide) ?_
  exact greti hx hb hr hlk hG rfl hw (Nat.le_of_ble_eq_true rfl) (Nat.le_of_ble_eq_true rfl) dJ2_add_24
def gw_J17_init (E : gE) (post : Gh → Prop) (p0 : Nat) (G : Gh) : Prop := gK G p0 = 18 ∧ (gw_J0_init E (fun G1 => gMon G G1 → (∀ q2, gK G1 q2 = 0 → ∀ G3, G3 = gN G1 q2 35 (17) → (∀ G4, G4 = gsR G3 p0 0 (some q2) → (post G4)))) p0 G)
theorem hd_J17_init : yJ17_init.cls ≠ "java/lang/invoke/MethodHandle" ∧ yJ17_init.cls ≠ "java/lang/invoke/VarHandle" ∧ (parseMethodDescriptor yJ17_init.desc).map (fun d => d.parameters.length) = some 0 := by decide +kernel
set_option maxHeartbeats 1000000 in
set_option maxRecDepth 100000 in
theorem gm_J17_init (l : Launch) (E : gE) (p0 : Nat) (post : Gh → Prop) (G : Gh) (hw : gw_J17_init E post p0 G) : gM l E yJ17_init (ws_ yJ17_init cJ17_init 1 none) ({ frames := 2, cells := 1, slots := 17, locals := 50 } : Room) 1 17 [.ref p0] G (gpv post) := by
  refine gof (by decide) (Nat.le_of_ble_eq_true rfl) ?_
  intro p e s m below meth c A ls hx hb hr hlk hml hown hin hts hPF hA hG hl
  have hl : lv_has ls 1 [(0, .ref p0)] := hl
  unfold gw_J17_init at hw
  obtain ⟨G0, hG0⟩ : ∃ G0, G0 = G := ⟨_, rfl⟩
  have hG : gS E A G0 s.heap G s.heap [] := by rw [hG0]; exact hG
  rw [show gQ E A G (gpv post) = gQ E A G0 (gpv post) by rw [hG0]]
  have h0p0 := hw.1; rw [← hG0] at h0p0
  replace hw := hw.2
  refine lv_aload_n hx hb dJ17_init_0 rfl (lv_at hl 0 rfl) ?_
  refine gc3v hA hG (va_runI (As := []) (rest := []) ⟨hx, hb, hml, hown, hts⟩ (gm_J0_init l E p0 _ G hw _) (cwI 0 hts (lw_meth q123) rfl rfl rfl (hts _ q57) (hts _ q524) (hts _ q122) rfl hd_J0_init ⟨Nat.le_of_ble_eq_true rfl, Nat.le_of_ble_eq_true rfl⟩) ⟨gblind, fun U hU hW => gpre hPF hA hG _ U hU hW⟩ rfl rfl hl.1 rfl (lv_room (Nat.le_of_ble_eq_true rfl)) dJ17_init_1 ⟨(Nat.le_of_ble_eq_true rfl), (Nat.le_of_ble_eq_true rfl)⟩) (fun G1 H locs hw hmon hG => ?_)
  replace hw := hw hmon
  refine lv_aload_n hx hb dJ17_init_4 rfl (lv_at hl 0 rfl) ?_
  refine lv_bipush (v := 17) hx hb dJ17_init_5 (by decide) ?_
  refine gnaq hx hb hts hown q525 hPF hG hA (by decide) vc_17 17 (Nat.le_refl _) (by decide) (Nat.le_of_ble_eq_true rfl) (Nat.le_of_ble_eq_true rfl) dJ17_init_7 (fun q2 H h0q2 hG => ?_)
  replace hw := hw q2 h0q2
  obtain ⟨G3, eG3⟩ : ∃ z, z = gN G1 q2 35 (17) := ⟨_, rfl⟩
  rw [← eG3] at hG
  replace hw := hw G3 eG3
  have hkq2 : gK G3 q2 = 35 := by rw [eG3]; exact gK_Nq
  refine gp hx hb hts hown hPF hG 18 0 rfl in_J17 tyJ17 tyJ17_ok nmJ17 (by decide) (by decide) (by decide) q526 (fun _ h9 => h9) rfl (gK_mon hG.1.2 h0p0 (by decide)) (v := va_rf (some q2)) (narrow_rf _) (fits_rf _ (by decide)) (G' := gsR G3 p0 0 (some q2)) rfl rfl grR_off (Nat.le_of_ble_eq_true rfl) (gFs_R 18 0 (fun _ _ _ => rfl)) dJ17_init_10 (fun H locs hG => ?_)
  obtain ⟨G4, eG4⟩ : ∃ z, z = gsR G3 p0 0 (some q2) := ⟨_, rfl⟩
  rw [← eG4] at hG
  replace hw := hw G4 eG4
  have hkq2 : gK G4 q2 = 35 := by rw [eG4]; exact hkq2
  exact gretv hx hb hr hlk hG hw (Nat.le_of_ble_eq_true rfl) (Nat.le_of_ble_eq_true rfl) dJ17_init_13
def gw_J17_circularClear_L12 (E : gE) (p0 : Nat) (post : Gh → Prop) : Nat → Int32 → Int32 → Int32 → Gh → Prop
  | 0, _, _, _, _ => False
  | n + 1, x1, x2, x3, G => (x3 ≤ x1 → ((¬ x3 = x2 → (gw_J17_circularClear_L12 E p0 post  n 0 x2 x2 G)) ∧ (x3 = x2 → (post G)))) ∧ (¬ x3 ≤ x1 → (gK G p0 = 35 ∧ (vp_in x1 (gL G p0) ∧ (∀ G3, G3 = grR G p0 (va_up (gR G p0) x1.toNatClampNeg none) → (gw_J17_circularClear_L12 E p0 post  n (x1 + 1) x2 x3 G3)))))
def gw_J17_circularClear_L11 (E : gE) (p0 : Nat) (post : Gh → Prop) (x1 : Int32) (x2 : Int32) (t0 : Int32) (G : Gh) : Prop := (∃ n, gw_J17_circularClear_L12 E p0 post  n x1 x2 t0 G)
def gw_J17_circularClear (E : gE) (post : Gh → Prop) (p0 : Nat) (p1 : Int32) (p2 : Int32) (G : Gh) : Prop := gC G p0 = 35 ∧ ((p2 < p1 → (gw_J17_circularClear_L11 E p0 post  p1 p2 (nI (gL G p0)) G)) ∧ (¬ p2 < p1 → (gw_J17_circularClear_L11 E p0 post  p1 p2 p2 G)))
theorem hd_J17_circularClear : yJ17_circularClear.cls ≠ "java/lang/invoke/MethodHandle" ∧ yJ17_circularClear.cls ≠ "java/lang/invoke/VarHandle" ∧ (parseMethodDescriptor yJ17_circularClear.desc).map (fun d => d.parameters.length) = some 3 := by decide +kernel
set_option maxHeartbeats 1000000 in
set_option maxRecDepth 100000 in
theorem gm_J17_circularClear (l : Launch) (E : gE) (p0 : Nat) (p1 : Int32) (p2 : Int32) (post : Gh → Prop) (G : Gh) (hw : gw_J17_circularClear E post p0 p1 p2 G) : gM l E yJ17_circularClear (ws_ yJ17_circularClear cJ17_circularClear 4 none) ({ frames := 0, cells := 0, slots := 0, locals := 0 } : Room) 0 0 [.ref p0, .int p1, .int p2] G (gpv post) := by
  refine gof (by decide) (Nat.le_of_ble_eq_true rfl) ?_
  intro p e s m below meth c A ls hx hb hr hlk hml hown hin hts hPF hA hG hl
  have hl : lv_has ls 4 [(0, .ref p0), (1, .int p1), (2, .int p2)] := hl
  unfold gw_J17_circularClear at hw
  obtain ⟨G0, hG0⟩ : ∃ G0, G0 = G := ⟨_, rfl⟩
  have hG : gS E A G0 s.heap G s.heap [] := by rw [hG0]; exact hG
  rw [show gQ E A G (gpv post) = gQ E A G0 (gpv post) by rw [hG0]]
  have h0p0 := hw.1; rw [← hG0] at h0p0
  replace hw := hw.2
  have hL12 : ∀ (n : Nat) (x1 : Int32) (x2 : Int32) (x3 : Int32) (G : Gh) (H : Heap) (locs : List Loc) (ls : Array Slot), gS E A G0 s.heap G H locs → lv_has ls 4 [(0, .ref p0), (1, .int x1), (2, .int x2), (3, .int x3)] → gw_J17_circularClear_L12 E p0 post n x1 x2 x3 G → W p l e (headSpec (ws_ yJ17_circularClear cJ17_circularClear 4 none) ({ frames := 0, cells := 0, slots := 0, locals := 0 } : Room)).room s m ([.ref p0, .int p1, .int p2] : List Value).toArray below meth c H locs 0 0 (MQ below (gQ E A G0 (gpv post)) ([.ref p0, .int p1, .int p2] : List Value).toArray s 0 0 A) (F0 m 12 ls []) := by
    intro n
    induction n with
    | zero => exact fun _ _ _ _ _ _ _ _ _ hw => hw.elim
    | succ n ih =>
      intro x1 x2 x3 G H locs ls hG hl hw
      unfold gw_J17_circularClear_L12 at hw
      refine lv_iload_n hx hb dJ17_circularClear_12 rfl (lv_at hl 1 rfl) ?_
      refine lv_iload_n hx hb dJ17_circularClear_13 rfl (lv_at hl 3 rfl) ?_
      refine lv_icmp_ge (tgt := 27) hx hb dJ17_circularClear_14 (by decide) (fun c_ => ?_) (fun c_ => ?_)
      · replace hw := hw.1 c_
        refine lv_iload_n hx hb dJ17_circularClear_27 rfl (lv_at hl 3 rfl) ?_
        refine lv_iload_n hx hb dJ17_circularClear_28 rfl (lv_at hl 2 rfl) ?_
        refine lv_icmp_ne (tgt := 35) hx hb dJ17_circularClear_29 (by decide) (fun c_ => ?_) (fun c_ => ?_)
        · replace hw := hw.1 c_
          refine lv_iconst (v := 0) hx hb dJ17_circularClear_35 (by decide) ?_
          refine lv_istore_n (i := 1) (lv' := [(1, .int 0), (0, .ref p0), (2, .int x2), (3, .int x3)]) hx hb dJ17_circularClear_36 rfl hl (by decide) rfl (fun ls hl => ?_)
          refine lv_iload_n hx hb dJ17_circularClear_37 rfl (lv_at hl 2 rfl) ?_
          refine lv_istore_n (i := 3) (lv' := [(3, .int x2), (1, .int 0), (0, .ref p0), (2, .int x2)]) hx hb dJ17_circularClear_38 rfl hl (by decide) rfl (fun ls hl => ?_)
          refine lv_goto (tgt := 12) hx hb dJ17_circularClear_39 (by decide) ?_
          refine W.widen (k := 0) (n := 0) (Nat.le_of_ble_eq_true rfl) (Nat.le_of_ble_eq_true rfl) ?_
          exact ih 0 x2 x2 G _ _ ls hG (lv_sub hl [2, 1, 3, 0] rfl) hw
        · replace hw := hw.2 c_
          refine lv_goto (tgt := 42) hx hb dJ17_circularClear_32 (by decide) ?_
          exact gretv hx hb hr hlk hG hw (Nat.le_of_ble_eq_true rfl) (Nat.le_of_ble_eq_true rfl) dJ17_circularClear_42
      · replace hw := hw.2 c_
        refine lv_aload_n hx hb dJ17_circularClear_17 rfl (lv_at hl 0 rfl) ?_
        refine lv_iload_n hx hb dJ17_circularClear_18 rfl (lv_at hl 1 rfl) ?_
        refine lv_null hx hb dJ17_circularClear_19 ?_
        have hk1 := hw.1
        replace hw := hw.2
        have hi2 := hw.1
        replace hw := hw.2
        refine gsq (r := none) hx hb hPF hG hk1 hi2 rfl (fun v h => by cases h) dJ17_circularClear_20 (fun H locs hG => ?_)
        obtain ⟨G3, eG3⟩ : ∃ z, z = grR G p0 (va_up (gR G p0) x1.toNatClampNeg none) := ⟨_, rfl⟩
        rw [← eG3] at hG
        replace hw := hw G3 eG3
        have hk1 : gK G3 p0 = 35 := by rw [eG3]; exact hk1
        refine lv_iinc (v := x1 + 1) (lv' := [(1, .int (x1 + 1)), (0, .ref p0), (2, .int x2), (3, .int x3)]) hx hb dJ17_circularClear_21 hl (k := 1) rfl rfl (by decide) rfl (fun ls hl => ?_)
        refine lv_goto (tgt := 12) hx hb dJ17_circularClear_24 (by decide) ?_
        refine W.widen (k := 0) (n := 0) (Nat.le_of_ble_eq_true rfl) (Nat.le_of_ble_eq_true rfl) ?_
        exact ih (x1 + 1) x2 x3 G3 _ _ ls hG (lv_sub hl [1, 0, 2, 3] rfl) hw
  have hL11 : ∀ (x1 : Int32) (x2 : Int32) (t0 : Int32) (G : Gh) (H : Heap) (locs : List Loc) (ls : Array Slot), gS E A G0 s.heap G H locs → lv_has ls 4 [(0, .ref p0), (1, .int x1), (2, .int x2)] → gw_J17_circularClear_L11 E p0 post x1 x2 t0 G → W p l e (headSpec (ws_ yJ17_circularClear cJ17_circularClear 4 none) ({ frames := 0, cells := 0, slots := 0, locals := 0 } : Room)).room s m ([.ref p0, .int p1, .int p2] : List Value).toArray below meth c H locs 0 0 (MQ below (gQ E A G0 (gpv post)) ([.ref p0, .int p1, .int p2] : List Value).toArray s 0 0 A) (F0 m 11 ls [.int t0]) := by
    intro x1 x2 t0 G H locs ls hG hl hw
    unfold gw_J17_circularClear_L11 at hw
    refine lv_istore_n (i := 3) (lv' := [(3, .int t0), (0, .ref p0), (1, .int x1), (2, .int x2)]) hx hb dJ17_circularClear_11 rfl hl (by decide) rfl (fun ls hl => ?_)
    refine W.widen (k := 0) (n := 0) (Nat.le_of_ble_eq_true rfl) (Nat.le_of_ble_eq_true rfl) ?_
    obtain ⟨n0, hw⟩ := hw
    exact hL12  n0 x1 x2 t0 G _ _ ls hG (lv_sub hl [1, 2, 3, 0] rfl) hw
  refine lv_iload_n hx hb dJ17_circularClear_0 rfl (lv_at hl 1 rfl) ?_
  refine lv_iload_n hx hb dJ17_circularClear_1 rfl (lv_at hl 2 rfl) ?_
  refine lv_icmp_gt (tgt := 9) hx hb dJ17_circularClear_2 (by decide) (fun c_ => ?_) (fun c_ => ?_)
  · replace hw := hw.1 c_
    refine lv_aload_n hx hb dJ17_circularClear_9 rfl (lv_at hl 0 rfl) ?_
    refine galen hx hb hPF hG (gC_mon hG.1.2 h0p0 (by decide)) (by decide) (by decide) dJ17_circularClear_10 ?_
    refine W.widen (k := 0) (n := 0) (Nat.le_of_ble_eq_true rfl) (Nat.le_of_ble_eq_true rfl) ?_
    exact hL11  p1 p2 (nI (gL G p0)) G _ _ ls hG (lv_sub hl [0, 1, 2] rfl) hw
  · replace hw := hw.2 c_
    refine lv_iload_n hx hb dJ17_circularClear_5 rfl (lv_at hl 2 rfl) ?_
    refine lv_goto (tgt := 11) hx hb dJ17_circularClear_6 (by decide) ?_
    refine W.widen (k := 0) (n := 0) (Nat.le_of_ble_eq_true rfl) (Nat.le_of_ble_eq_true rfl) ?_
    exact hL11  p1 p2 p2 G _ _ ls hG (lv_sub hl [0, 1, 2] rfl) hw
def gw_J17_clear (E : gE) (post : Gh → Prop) (p0 : Nat) (G : Gh) : Prop := gK G p0 = 18 ∧ (∃ q1, (gR G p0 0) = some q1 ∧ (gw_J17_circularClear E (fun G2 => gMon G G2 → (∀ G3, G3 = gsI G2 p0 2 0 → (∀ G4, G4 = gsI G3 p0 1 0 → (post G4)))) q1 (gI G p0 1) (gI G p0 2) G))
theorem hd_J17_clear : yJ17_clear.cls = RJ17 ∧ yJ17_clear.cls ≠ "java/lang/invoke/MethodHandle" ∧ yJ17_clear.cls ≠ "java/lang/invoke/VarHandle" ∧ (parseMethodDescriptor yJ17_clear.desc).map (fun d => d.parameters.length) = some 0 := by decide +kernel
theorem hdn_J17_clear : yJ17_clear.cls ≠ "java/lang/invoke/MethodHandle" ∧ yJ17_clear.cls ≠ "java/lang/invoke/VarHandle" ∧ (parseMethodDescriptor yJ17_clear.desc).map (fun d => d.parameters.length) = some 0 := hd_J17_clear.2
theorem hdu_J17_clear : RJ17 ≠ "java/lang/invoke/MethodHandle" ∧ RJ17 ≠ "java/lang/invoke/VarHandle" ∧ (parseMethodDescriptor yJ17_clear.desc).map (fun d => d.parameters.length) = some 0 := by decide +kernel
theorem hds_J17_clear : yJ17_clear.name ≠ "<init>" ∧ (parseMethodDescriptor yJ17_clear.desc).map (fun d => d.parameters.length) = some 0 := by decide +kernel
set_option maxHeartbeats 1000000 in
set_option maxRecDepth 100000 in
theorem gm_J17_clear (l : Launch) (E : gE) (p0 : Nat) (post : Gh → Prop) (G : Gh) (hw : gw_J17_clear E post p0 G) : gM l E yJ17_clear (ws_ yJ17_clear cJ17_clear 1 none) ({ frames := 1, cells := 0, slots := 0, locals := 23 } : Room) 0 0 [.ref p0] G (gpv post) := by
  refine gof (by decide) (Nat.le_of_ble_eq_true rfl) ?_
  intro p e s m below meth c A ls hx hb hr hlk hml hown hin hts hPF hA hG hl
  have hl : lv_has ls 1 [(0, .ref p0)] := hl
  unfold gw_J17_clear at hw
  obtain ⟨G0, hG0⟩ : ∃ G0, G0 = G := ⟨_, rfl⟩
  have hG : gS E A G0 s.heap G s.heap [] := by rw [hG0]; exact hG
  rw [show gQ E A G (gpv post) = gQ E A G0 (gpv post) by rw [hG0]]
  have h0p0 := hw.1; rw [← hG0] at h0p0
  replace hw := hw.2
  refine lv_aload_n hx hb dJ17_clear_0 rfl (lv_at hl 0 rfl) ?_
  refine gg hx hb hts hown hPF hG 18 0 rfl in_J17 (by decide) (by decide) (by decide) q526 (fun _ h9 => h9) (gC_of (gK_mon hG.1.2 h0p0 (by decide)) (by decide)) (v := va_rf (gR G p0 0)) rfl dJ17_clear_1 ?_
  refine lv_aload_n hx hb dJ17_clear_4 rfl (lv_at hl 0 rfl) ?_
  refine gg hx hb hts hown hPF hG 18 1 rfl in_J17 (by decide) (by decide) (by decide) q527 (fun _ h9 => h9) (gC_of (gK_mon hG.1.2 h0p0 (by decide)) (by decide)) (v := .int (gI G p0 1)) rfl dJ17_clear_5 ?_
  refine lv_aload_n hx hb dJ17_clear_8 rfl (lv_at hl 0 rfl) ?_
  refine gg hx hb hts hown hPF hG 18 2 rfl in_J17 (by decide) (by decide) (by decide) q528 (fun _ h9 => h9) (gC_of (gK_mon hG.1.2 h0p0 (by decide)) (by decide)) (v := .int (gI G p0 2)) rfl dJ17_clear_9 ?_
  obtain ⟨q1, hq1, hw⟩ := hw
  refine W.eq (g2 := F0 m 12 ls [.int (gI G p0 2), .int (gI G p0 1), .ref q1]) (by rw [hq1]; rfl) ?_
  refine gc3v hA hG (va_runS (As := [.ref q1, .int (gI G p0 1), .int (gI G p0 2)]) (rest := []) ⟨hx, hb, hml, hown, hts⟩ (gm_J17_circularClear l E q1 (gI G p0 1) (gI G p0 2) _ G hw _) (va_cwS 3 hts (lw_S q572 q573 q76 q574) rfl rfl rfl hd_J17_circularClear ⟨Nat.le_of_ble_eq_true rfl, Nat.le_of_ble_eq_true rfl⟩) ⟨gblind, fun U hU hW => gpre hPF hA hG _ U hU hW⟩ rfl rfl hl.1 rfl (lv_room (Nat.le_of_ble_eq_true rfl)) dJ17_clear_12 ⟨(Nat.le_of_ble_eq_true rfl), (Nat.le_of_ble_eq_true rfl)⟩) (fun G2 H locs hw hmon hG => ?_)
  replace hw := hw hmon
  refine lv_aload_n hx hb dJ17_clear_15 rfl (lv_at hl 0 rfl) ?_
  refine lv_aload_n hx hb dJ17_clear_16 rfl (lv_at hl 0 rfl) ?_
  refine lv_iconst (v := 0) hx hb dJ17_clear_17 (by decide) ?_
  refine lv_dup_x1 hx hb dJ17_clear_18 rfl rfl ?_
  refine gp hx hb hts hown hPF hG 18 2 rfl in_J17 tyJ17 tyJ17_ok nmJ17 (by decide) (by decide) (by decide) q528 (fun _ h9 => h9) rfl (gK_mon hG.1.2 h0p0 (by decide)) (v := .int 0) rfl rfl (G' := gsI G2 p0 2 0) rfl rfl grI_off (Nat.le_of_ble_eq_true rfl) (gFs_I 18 2 (fun _ _ _ => rfl)) dJ17_clear_19 (fun H locs hG => ?_)
  obtain ⟨G3, eG3⟩ : ∃ z, z = gsI G2 p0 2 0 := ⟨_, rfl⟩
  rw [← eG3] at hG
  replace hw := hw G3 eG3
  refine gp hx hb hts hown hPF hG 18 1 rfl in_J17 tyJ17 tyJ17_ok nmJ17 (by decide) (by decide) (by decide) q527 (fun _ h9 => h9) rfl (gK_mon hG.1.2 h0p0 (by decide)) (v := .int 0) rfl rfl (G' := gsI G3 p0 1 0) rfl rfl grI_off (Nat.le_of_ble_eq_true rfl) (gFs_I 18 1 (fun _ _ _ => rfl)) dJ17_clear_22 (fun H locs hG => ?_)
  obtain ⟨G4, eG4⟩ : ∃ z, z = gsI G3 p0 1 0 := ⟨_, rfl⟩
  rw [← eG4] at hG
  replace hw := hw G4 eG4
  exact gretv hx hb hr hlk hG hw (Nat.le_of_ble_eq_true rfl) (Nat.le_of_ble_eq_true rfl) dJ17_clear_25
def gw_J17_sub (E : gE) (post : Int32 → Gh → Prop) (p0 : Int32) (p1 : Int32) (p2 : Int32) (G : Gh) : Prop := (0 ≤ (p0 - p1) → (post (p0 - p1) G)) ∧ (¬ 0 ≤ (p0 - p1) → (post ((p0 - p1) + p2) G))
theorem hd_J17_sub : yJ17_sub.cls ≠ "java/lang/invoke/MethodHandle" ∧ yJ17_sub.cls ≠ "java/lang/invoke/VarHandle" ∧ (parseMethodDescriptor yJ17_sub.desc).map (fun d => d.parameters.length) = some 3 := by decide +kernel
set_option maxHeartbeats 1000000 in
set_option maxRecDepth 100000 in
theorem gm_J17_sub (l : Launch) (E : gE) (p0 : Int32) (p1 : Int32) (p2 : Int32) (post : Int32 → Gh → Prop) (G : Gh) (hw : gw_J17_sub E post p0 p1 p2 G) : gM l E yJ17_sub (ws_ yJ17_sub cJ17_sub 3 (some .int)) ({ frames := 0, cells := 0, slots := 0, locals := 0 } : Room) 0 0 [.int p0, .int p1, .int p2] G (gpi post) := by
  refine gof (by decide) (Nat.le_of_ble_eq_true rfl) ?_
  intro p e s m below meth c A ls hx hb hr hlk hml hown hin hts hPF hA hG hl
  have hl : lv_has ls 3 [(0, .int p0), (1, .int p1), (2, .int p2)] := hl
  unfold gw_J17_sub at hw
  obtain ⟨G0, hG0⟩ : ∃ G0, G0 = G := ⟨_, rfl⟩
  have hG : gS E A G0 s.heap G s.heap [] := by rw [hG0]; exact hG
  rw [show gQ E A G (gpi post) = gQ E A G0 (gpi post) by rw [hG0]]
  refine lv_iload_n hx hb dJ17_sub_0 rfl (lv_at hl 0 rfl) ?_
  refine lv_iload_n hx hb dJ17_sub_1 rfl (lv_at hl 1 rfl) ?_
  refine lv_isub hx hb dJ17_sub_2 ?_
  refine lv_dup hx hb dJ17_sub_3 rfl ?_
  refine lv_istore_n (i := 0) (lv' := [(0, .int (p0 - p1)), (1, .int p1), (2, .int p2)]) hx hb dJ17_sub_4 rfl hl (by decide) rfl (fun ls hl => ?_)
  refine lv_if_ge (tgt := 12) hx hb dJ17_sub_5 (by decide) (fun c_ => ?_) (fun c_ => ?_)
  · replace hw := hw.1 c_
    refine lv_iload_n hx hb dJ17_sub_12 rfl (lv_at hl 0 rfl) ?_
    exact greti hx hb hr hlk hG rfl hw (Nat.le_of_ble_eq_true rfl) (Nat.le_of_ble_eq_true rfl) dJ17_sub_13
  · replace hw := hw.2 c_
    refine lv_iload_n hx hb dJ17_sub_8 rfl (lv_at hl 0 rfl) ?_
    refine lv_iload_n hx hb dJ17_sub_9 rfl (lv_at hl 2 rfl) ?_
    refine lv_iadd hx hb dJ17_sub_10 ?_
    refine lv_istore_n (i := 0) (lv' := [(0, .int ((p0 - p1) + p2)), (1, .int p1), (2, .int p2)]) hx hb dJ17_sub_11 rfl hl (by decide) rfl (fun ls hl => ?_)
    refine lv_iload_n hx hb dJ17_sub_12 rfl (lv_at hl 0 rfl) ?_
    exact greti hx hb hr hlk hG rfl hw (Nat.le_of_ble_eq_true rfl) (Nat.le_of_ble_eq_true rfl) dJ17_sub_13
def gw_J17_size (E : gE) (post : Int32 → Gh → Prop) (p0 : Nat) (G : Gh) : Prop := gK G p0 = 18 ∧ (∃ q1, (gR G p0 0) = some q1 ∧ (gC G q1 = 35 ∧ (gw_J17_sub E (fun r4 G3 => gMon G G3 → (post r4 G3)) (gI G p0 2) (gI G p0 1) (nI (gL G q1)) G)))
theorem hd_J17_size : yJ17_size.cls = RJ17 ∧ yJ17_size.cls ≠ "java/lang/invoke/MethodHandle" ∧ yJ17_size.cls ≠ "java/lang/invoke/VarHandle" ∧ (parseMethodDescriptor yJ17_size.desc).map (fun d => d.parameters.length) = some 0 := by decide +kernel
theorem hdn_J17_size : yJ17_size.cls ≠ "java/lang/invoke/MethodHandle" ∧ yJ17_size.cls ≠ "java/lang/invoke/VarHandle" ∧ (parseMethodDescriptor yJ17_size.desc).map (fun d => d.parameters.length) = some 0 := hd_J17_size.2
theorem hdu_J17_size : RJ17 ≠ "java/lang/invoke/MethodHandle" ∧ RJ17 ≠ "java/lang/invoke/VarHandle" ∧ (parseMethodDescriptor yJ17_size.desc).map (fun d => d.parameters.length) = some 0 := by decide +kernel
theorem hds_J17_size : yJ17_size.name ≠ "<init>" ∧ (parseMethodDescriptor yJ17_size.desc).map (fun d => d.parameters.length) = some 0 := by decide +kernel
set_option maxHeartbeats 1000000 in
set_option maxRecDepth 100000 in
theorem gm_J17_size (l : Launch) (E : gE) (p0 : Nat) (post : Int32 → Gh → Prop) (G : Gh) (hw : gw_J17_size E post p0 G) : gM l E yJ17_size (ws_ yJ17_size cJ17_size 1 (some .int)) ({ frames := 1, cells := 0, slots := 0, locals := 22 } : Room) 0 0 [.ref p0] G (gpi post) := by
  refine gof (by decide) (Nat.le_of_ble_eq_true rfl) ?_
  intro p e s m below meth c A ls hx hb hr hlk hml hown hin hts hPF hA hG hl
  have hl : lv_has ls 1 [(0, .ref p0)] := hl
  unfold gw_J17_size at hw
  obtain ⟨G0, hG0⟩ : ∃ G0, G0 = G := ⟨_, rfl⟩
  have hG : gS E A G0 s.heap G s.heap [] := by rw [hG0]; exact hG
  rw [show gQ E A G (gpi post) = gQ E A G0 (gpi post) by rw [hG0]]
  have h0p0 := hw.1; rw [← hG0] at h0p0
  replace hw := hw.2
  refine lv_aload_n hx hb dJ17_size_0 rfl (lv_at hl 0 rfl) ?_
  refine gg hx hb hts hown hPF hG 18 2 rfl in_J17 (by decide) (by decide) (by decide) q528 (fun _ h9 => h9) (gC_of (gK_mon hG.1.2 h0p0 (by decide)) (by decide)) (v := .int (gI G p0 2)) rfl dJ17_size_1 ?_
  refine lv_aload_n hx hb dJ17_size_4 rfl (lv_at hl 0 rfl) ?_
  refine gg hx hb hts hown hPF hG 18 1 rfl in_J17 (by decide) (by decide) (by decide) q527 (fun _ h9 => h9) (gC_of (gK_mon hG.1.2 h0p0 (by decide)) (by decide)) (v := .int (gI G p0 1)) rfl dJ17_size_5 ?_
  refine lv_aload_n hx hb dJ17_size_8 rfl (lv_at hl 0 rfl) ?_
  refine gg hx hb hts hown hPF hG 18 0 rfl in_J17 (by decide) (by decide) (by decide) q526 (fun _ h9 => h9) (gC_of (gK_mon hG.1.2 h0p0 (by decide)) (by decide)) (v := va_rf (gR G p0 0)) rfl dJ17_size_9 ?_
  obtain ⟨q1, hq1, hw⟩ := hw
  refine W.eq (g2 := F0 m 12 ls [.ref q1, .int (gI G p0 1), .int (gI G p0 2)]) (by rw [hq1]; rfl) ?_
  have hk2 := hw.1
  replace hw := hw.2
  refine galen hx hb hPF hG hk2 (by decide) (by decide) dJ17_size_12 ?_
  refine gc3i hA hG (va_runS (As := [.int (gI G p0 2), .int (gI G p0 1), .int (nI (gL G q1))]) (rest := []) ⟨hx, hb, hml, hown, hts⟩ (gm_J17_sub l E (gI G p0 2) (gI G p0 1) (nI (gL G q1)) _ G hw _) (va_cwS 3 hts (lw_S q969 q970 q76 q971) rfl rfl rfl hd_J17_sub ⟨Nat.le_of_ble_eq_true rfl, Nat.le_of_ble_eq_true rfl⟩) ⟨gblind, fun U hU hW => gpre hPF hA hG _ U hU hW⟩ rfl rfl hl.1 rfl (lv_room (Nat.le_of_ble_eq_true rfl)) dJ17_size_13 ⟨(Nat.le_of_ble_eq_true rfl), (Nat.le_of_ble_eq_true rfl)⟩) (fun r4 G3 H locs hw hmon hG => ?_)
  replace hw := hw hmon
  have hk2 : gC G3 q1 = 35 := gC_mon hmon hk2 (by decide)
  exact greti hx hb hr hlk hG rfl hw (Nat.le_of_ble_eq_true rfl) (Nat.le_of_ble_eq_true rfl) dJ17_size_16
def gw_J17_isEmpty (E : gE) (post : Int32 → Gh → Prop) (p0 : Nat) (G : Gh) : Prop := gK G p0 = 18 ∧ ((¬ (gI G p0 1) = (gI G p0 2) → (post 0 G)) ∧ ((gI G p0 1) = (gI G p0 2) → (post 1 G)))
theorem hd_J17_isEmpty : yJ17_isEmpty.cls = RJ17 ∧ yJ17_isEmpty.cls ≠ "java/lang/invoke/MethodHandle" ∧ yJ17_isEmpty.cls ≠ "java/lang/invoke/VarHandle" ∧ (parseMethodDescriptor yJ17_isEmpty.desc).map (fun d => d.parameters.length) = some 0 := by decide +kernel
theorem hdn_J17_isEmpty : yJ17_isEmpty.cls ≠ "java/lang/invoke/MethodHandle" ∧ yJ17_isEmpty.cls ≠ "java/lang/invoke/VarHandle" ∧ (parseMethodDescriptor yJ17_isEmpty.desc).map (fun d => d.parameters.length) = some 0 := hd_J17_isEmpty.2
theorem hdu_J17_isEmpty : RJ17 ≠ "java/lang/invoke/MethodHandle" ∧ RJ17 ≠ "java/lang/invoke/VarHandle" ∧ (parseMethodDescriptor yJ17_isEmpty.desc).map (fun d => d.parameters.length) = some 0 := by decide +kernel
theorem hds_J17_isEmpty : yJ17_isEmpty.name ≠ "<init>" ∧ (parseMethodDescriptor yJ17_isEmpty.desc).map (fun d => d.parameters.length) = some 0 := by decide +kernel
set_option maxHeartbeats 1000000 in
set_option maxRecDepth 100000 in
theorem gm_J17_isEmpty (l : Launch) (E : gE) (p0 : Nat) (post : Int32 → Gh → Prop) (G : Gh) (hw : gw_J17_isEmpty E post p0 G) : gM l E yJ17_isEmpty (ws_ yJ17_isEmpty cJ17_isEmpty 1 (some .boolean)) ({ frames := 0, cells := 0, slots := 0, locals := 0 } : Room) 0 0 [.ref p0] G (gpi post) := by
  refine gof (by decide) (Nat.le_of_ble_eq_true rfl) ?_
  intro p e s m below meth c A ls hx hb hr hlk hml hown hin hts hPF hA hG hl
  have hl : lv_has ls 1 [(0, .ref p0)] := hl
  unfold gw_J17_isEmpty at hw
  obtain ⟨G0, hG0⟩ : ∃ G0, G0 = G := ⟨_, rfl⟩
  have hG : gS E A G0 s.heap G s.heap [] := by rw [hG0]; exact hG
  rw [show gQ E A G (gpi post) = gQ E A G0 (gpi post) by rw [hG0]]
  have h0p0 := hw.1; rw [← hG0] at h0p0
  replace hw := hw.2
  refine lv_aload_n hx hb dJ17_isEmpty_0 rfl (lv_at hl 0 rfl) ?_
  refine gg hx hb hts hown hPF hG 18 1 rfl in_J17 (by decide) (by decide) (by decide) q527 (fun _ h9 => h9) (gC_of (gK_mon hG.1.2 h0p0 (by decide)) (by decide)) (v := .int (gI G p0 1)) rfl dJ17_isEmpty_1 ?_
  refine lv_aload_n hx hb dJ17_isEmpty_4 rfl (lv_at hl 0 rfl) ?_
  refine gg hx hb hts hown hPF hG 18 2 rfl in_J17 (by decide) (by decide) (by decide) q528 (fun _ h9 => h9) (gC_of (gK_mon hG.1.2 h0p0 (by decide)) (by decide)) (v := .int (gI G p0 2)) rfl dJ17_isEmpty_5 ?_
  refine lv_icmp_ne (tgt := 15) hx hb dJ17_isEmpty_8 (by decide) (fun c_ => ?_) (fun c_ => ?_)
  · replace hw := hw.1 c_
    refine lv_iconst (v := 0) hx hb dJ17_isEmpty_15 (by decide) ?_
    exact greti hx hb hr hlk hG rfl hw (Nat.le_of_ble_eq_true rfl) (Nat.le_of_ble_eq_true rfl) dJ17_isEmpty_16
  · replace hw := hw.2 c_
    refine lv_iconst (v := 1) hx hb dJ17_isEmpty_11 (by decide) ?_
    refine lv_goto (tgt := 16) hx hb dJ17_isEmpty_12 (by decide) ?_
    exact greti hx hb hr hlk hG rfl hw (Nat.le_of_ble_eq_true rfl) (Nat.le_of_ble_eq_true rfl) dJ17_isEmpty_16
def gw_J17_inc (E : gE) (post : Int32 → Gh → Prop) (p0 : Int32) (p1 : Int32) (G : Gh) : Prop := ((p0 + 1) < p1 → (post (p0 + 1) G)) ∧ (¬ (p0 + 1) < p1 → (post 0 G))
theorem hd_J17_inc : yJ17_inc.cls ≠ "java/lang/invoke/MethodHandle" ∧ yJ17_inc.cls ≠ "java/lang/invoke/VarHandle" ∧ (parseMethodDescriptor yJ17_inc.desc).map (fun d => d.parameters.length) = some 2 := by decide +kernel
set_option maxHeartbeats 1000000 in
set_option maxRecDepth 100000 in
theorem gm_J17_inc (l : Launch) (E : gE) (p0 : Int32) (p1 : Int32) (post : Int32 → Gh → Prop) (G : Gh) (hw : gw_J17_inc E post p0 p1 G) : gM l E yJ17_inc (ws_ yJ17_inc cJ17_inc 2 (some .int)) ({ frames := 0, cells := 0, slots := 0, locals := 0 } : Room) 0 0 [.int p0, .int p1] G (gpi post) := by
  refine gof (by decide) (Nat.le_of_ble_eq_true rfl) ?_
  intro p e s m below meth c A ls hx hb hr hlk hml hown hin hts hPF hA hG hl
  have hl : lv_has ls 2 [(0, .int p0), (1, .int p1)] := hl
  unfold gw_J17_inc at hw
  obtain ⟨G0, hG0⟩ : ∃ G0, G0 = G := ⟨_, rfl⟩
  have hG : gS E A G0 s.heap G s.heap [] := by rw [hG0]; exact hG
  rw [show gQ E A G (gpi post) = gQ E A G0 (gpi post) by rw [hG0]]
  refine lv_iinc (v := p0 + 1) (lv' := [(0, .int (p0 + 1)), (1, .int p1)]) hx hb dJ17_inc_0 hl (k := 0) rfl rfl (by decide) rfl (fun ls hl => ?_)
  refine lv_iload_n hx hb dJ17_inc_3 rfl (lv_at hl 0 rfl) ?_
  refine lv_iload_n hx hb dJ17_inc_4 rfl (lv_at hl 1 rfl) ?_
  refine lv_icmp_lt (tgt := 10) hx hb dJ17_inc_5 (by decide) (fun c_ => ?_) (fun c_ => ?_)
  · replace hw := hw.1 c_
    refine lv_iload_n hx hb dJ17_inc_10 rfl (lv_at hl 0 rfl) ?_
    exact greti hx hb hr hlk hG rfl hw (Nat.le_of_ble_eq_true rfl) (Nat.le_of_ble_eq_true rfl) dJ17_inc_11
  · replace hw := hw.2 c_
    refine lv_iconst (v := 0) hx hb dJ17_inc_8 (by decide) ?_
    refine lv_istore_n (i := 0) (lv' := [(0, .int 0), (1, .int p1)]) hx hb dJ17_inc_9 rfl hl (by decide) rfl (fun ls hl => ?_)
    refine lv_iload_n hx hb dJ17_inc_10 rfl (lv_at hl 0 rfl) ?_
    exact greti hx hb hr hlk hG rfl hw (Nat.le_of_ble_eq_true rfl) (Nat.le_of_ble_eq_true rfl) dJ17_inc_11
def gw_J17_newCapacity (E : gE) (post : Int32 → Gh → Prop) (p0 : Nat) (p1 : Int32) (p2 : Int32) (G : Gh) : Prop := gK G p0 = 18 ∧ (∃ q1, (gR G p0 0) = some q1 ∧ (gC G q1 = 35 ∧ (((((nI (gL G q1)) + p1) - 2147483639) ≤ 0 → ((p1 ≤ p2 → ((0 ≤ (((nI (gL G q1)) + p2) - 2147483639) → (post 2147483639 G)) ∧ (¬ 0 ≤ (((nI (gL G q1)) + p2) - 2147483639) → (post ((nI (gL G q1)) + p2) G)))) ∧ (¬ p1 ≤ p2 → (post ((nI (gL G q1)) + p1) G)))) ∧ (¬ (((nI (gL G q1)) + p1) - 2147483639) ≤ 0 → ((0 ≤ ((nI (gL G q1)) + p1) → (post 2147483647 G)) ∧ (¬ 0 ≤ ((nI (gL G q1)) + p1) → (False)))))))
theorem hd_J17_newCapacity : yJ17_newCapacity.cls = RJ17 ∧ yJ17_newCapacity.cls ≠ "java/lang/invoke/MethodHandle" ∧ yJ17_newCapacity.cls ≠ "java/lang/invoke/VarHandle" ∧ (parseMethodDescriptor yJ17_newCapacity.desc).map (fun d => d.parameters.length) = some 2 := by decide +kernel
theorem hdn_J17_newCapacity : yJ17_newCapacity.cls ≠ "java/lang/invoke/MethodHandle" ∧ yJ17_newCapacity.cls ≠ "java/lang/invoke/VarHandle" ∧ (parseMethodDescriptor yJ17_newCapacity.desc).map (fun d => d.parameters.length) = some 2 := hd_J17_newCapacity.2
theorem hdu_J17_newCapacity : RJ17 ≠ "java/lang/invoke/MethodHandle" ∧ RJ17 ≠ "java/lang/invoke/VarHandle" ∧ (parseMethodDescriptor yJ17_newCapacity.desc).map (fun d => d.parameters.length) = some 2 := by decide +kernel
theorem hds_J17_newCapacity : yJ17_newCapacity.name ≠ "<init>" ∧ (parseMethodDescriptor yJ17_newCapacity.desc).map (fun d => d.parameters.length) = some 2 := by decide +kernel
set_option maxHeartbeats 1000000 in
set_option maxRecDepth 100000 in
theorem gm_J17_newCapacity (l : Launch) (E : gE) (p0 : Nat) (p1 : Int32) (p2 : Int32) (post : Int32 → Gh → Prop) (G : Gh) (hw : gw_J17_newCapacity E post p0 p1 p2 G) : gM l E yJ17_newCapacity (ws_ yJ17_newCapacity cJ17_newCapacity 5 (some .int)) ({ frames := 0, cells := 0, slots := 0, locals := 0 } : Room) 0 0 [.ref p0, .int p1, .int p2] G (gpi post) := by
  refine gof (by decide) (Nat.le_of_ble_eq_true rfl) ?_
  intro p e s m below meth c A ls hx hb hr hlk hml hown hin hts hPF hA hG hl
  have hl : lv_has ls 5 [(0, .ref p0), (1, .int p1), (2, .int p2)] := hl
  unfold gw_J17_newCapacity at hw
  obtain ⟨G0, hG0⟩ : ∃ G0, G0 = G := ⟨_, rfl⟩
  have hG : gS E A G0 s.heap G s.heap [] := by rw [hG0]; exact hG
  rw [show gQ E A G (gpi post) = gQ E A G0 (gpi post) by rw [hG0]]
  have h0p0 := hw.1; rw [← hG0] at h0p0
  replace hw := hw.2
  refine lv_aload_n hx hb dJ17_newCapacity_0 rfl (lv_at hl 0 rfl) ?_
  refine gg hx hb hts hown hPF hG 18 0 rfl in_J17 (by decide) (by decide) (by decide) q526 (fun _ h9 => h9) (gC_of (gK_mon hG.1.2 h0p0 (by decide)) (by decide)) (v := va_rf (gR G p0 0)) rfl dJ17_newCapacity_1 ?_
  obtain ⟨q1, hq1, hw⟩ := hw
  refine W.eq (g2 := F0 m 4 ls [.ref q1]) (by rw [hq1]; rfl) ?_
  have hk2 := hw.1
  replace hw := hw.2
  refine galen hx hb hPF hG hk2 (by decide) (by decide) dJ17_newCapacity_4 ?_
  refine lv_istore_n (i := 3) (lv' := [(3, .int (nI (gL G q1))), (0, .ref p0), (1, .int p1), (2, .int p2)]) hx hb dJ17_newCapacity_5 rfl hl (by decide) rfl (fun ls hl => ?_)
  refine lv_iload_n hx hb dJ17_newCapacity_6 rfl (lv_at hl 0 rfl) ?_
  refine lv_iload_n hx hb dJ17_newCapacity_7 rfl (lv_at hl 2 rfl) ?_
  refine lv_iadd hx hb dJ17_newCapacity_8 ?_
  refine lv_dup hx hb dJ17_newCapacity_9 rfl ?_
  refine lv_istore (lv' := [(4, .int ((nI (gL G q1)) + p1)), (3, .int (nI (gL G q1))), (0, .ref p0), (1, .int p1), (2, .int p2)]) hx hb dJ17_newCapacity_10 hl (by decide) rfl (fun ls hl => ?_)
  refine lv_ldc (v := 2147483639) hx hb hown (hts _ q996) dJ17_newCapacity_12 ?_
  refine lv_isub hx hb dJ17_newCapacity_14 ?_
  refine lv_if_le (tgt := 36) hx hb dJ17_newCapacity_15 (by decide) (fun c_ => ?_) (fun c_ => ?_)
  · replace hw := hw.1 c_
    refine lv_iload_n hx hb dJ17_newCapacity_36 rfl (lv_at hl 3 rfl) ?_
    refine lv_iload_n hx hb dJ17_newCapacity_37 rfl (lv_at hl 4 rfl) ?_
    refine lv_icmp_le (tgt := 44) hx hb dJ17_newCapacity_38 (by decide) (fun c_ => ?_) (fun c_ => ?_)
    · replace hw := hw.1 c_
      refine lv_iload_n hx hb dJ17_newCapacity_44 rfl (lv_at hl 1 rfl) ?_
      refine lv_iload_n hx hb dJ17_newCapacity_45 rfl (lv_at hl 4 rfl) ?_
      refine lv_iadd hx hb dJ17_newCapacity_46 ?_
      refine lv_ldc (v := 2147483639) hx hb hown (hts _ q996) dJ17_newCapacity_47 ?_
      refine lv_isub hx hb dJ17_newCapacity_49 ?_
      refine lv_if_ge (tgt := 59) hx hb dJ17_newCapacity_50 (by decide) (fun c_ => ?_) (fun c_ => ?_)
      · replace hw := hw.1 c_
        refine lv_ldc (v := 2147483639) hx hb hown (hts _ q996) dJ17_newCapacity_59 ?_
        exact greti hx hb hr hlk hG rfl hw (Nat.le_of_ble_eq_true rfl) (Nat.le_of_ble_eq_true rfl) dJ17_newCapacity_61
      · replace hw := hw.2 c_
        refine lv_iload_n hx hb dJ17_newCapacity_53 rfl (lv_at hl 1 rfl) ?_
        refine lv_iload_n hx hb dJ17_newCapacity_54 rfl (lv_at hl 4 rfl) ?_
        refine lv_iadd hx hb dJ17_newCapacity_55 ?_
        refine lv_goto (tgt := 61) hx hb dJ17_newCapacity_56 (by decide) ?_
        exact greti hx hb hr hlk hG rfl hw (Nat.le_of_ble_eq_true rfl) (Nat.le_of_ble_eq_true rfl) dJ17_newCapacity_61
    · replace hw := hw.2 c_
      refine lv_iload hx hb dJ17_newCapacity_41 (lv_at hl 0 rfl) ?_
      exact greti hx hb hr hlk hG rfl hw (Nat.le_of_ble_eq_true rfl) (Nat.le_of_ble_eq_true rfl) dJ17_newCapacity_43
  · replace hw := hw.2 c_
    refine lv_iload hx hb dJ17_newCapacity_18 (lv_at hl 0 rfl) ?_
    refine lv_if_ge (tgt := 33) hx hb dJ17_newCapacity_20 (by decide) (fun c_ => ?_) (fun c_ => ?_)
    · replace hw := hw.1 c_
      refine lv_ldc (v := 2147483647) hx hb hown (hts _ q1017) dJ17_newCapacity_33 ?_
      exact greti hx hb hr hlk hG rfl hw (Nat.le_of_ble_eq_true rfl) (Nat.le_of_ble_eq_true rfl) dJ17_newCapacity_35
    · replace hw := hw.2 c_
      exact hw.elim
def gw_J17_grow_L145 (E : gE) (p0 : Nat) (post : Gh → Prop) : Nat → Option Nat → Int32 → Int32 → Gh → Prop
  | 0, _, _, _, _ => False
  | n + 1, x5, x7, x8, G => (x8 ≤ x7 → (post G)) ∧ (¬ x8 ≤ x7 → (∃ q20, x5 = some q20 ∧ (gK G q20 = 35 ∧ (vp_in x7 (gL G q20) ∧ (∀ G23, G23 = grR G q20 (va_up (gR G q20) x7.toNatClampNeg none) → (gw_J17_grow_L145 E p0 post  n x5 (x7 + 1) x8 G23))))))
def gw_J17_grow_L96 (E : gE) (p0 : Nat) (post : Gh → Prop) (x2 : Int32) (x3 : Int32) (x5 : Option Nat) (G : Gh) : Prop := ∃ q13, x5 = some q13 ∧ (gC G q13 = 32 ∧ (gK G q13 = 32 ∧ ((¬ (gI G p0 1) < 0 ∧ ¬ ((gI G p0 1) + (x3 - x2)) < 0 ∧ ¬ (x2 - (gI G p0 1)) < 0 ∧ (gI G p0 1).toNatClampNeg + (x2 - (gI G p0 1)).toNatClampNeg ≤ gL G q13 ∧ ((gI G p0 1) + (x3 - x2)).toNatClampNeg + (x2 - (gI G p0 1)).toNatClampNeg ≤ gL G q13) ∧ ((∀ i, i < (x2 - (gI G p0 1)).toNatClampNeg → fits .byte (.int (gI G q13 ((gI G p0 1).toNatClampNeg + i))) = true) ∧ (∀ G18, G18 = grI G q13 (va_cpy (gI G q13) (gI G q13) (gI G p0 1).toNatClampNeg ((gI G p0 1) + (x3 - x2)).toNatClampNeg (x2 - (gI G p0 1)).toNatClampNeg) → (∀ G19, G19 = gsI G18 p0 1 ((gI G18 p0 1) + (x3 - x2)) → ((∃ n, gw_J17_grow_L145 E p0 post  n x5 (gI G18 p0 1) ((gI G18 p0 1) + (x3 - x2)) G19))))))))
def gw_J17_grow_L49 (E : gE) (p0 : Nat) (post : Gh → Prop) (x2 : Int32) (x3 : Int32) (G : Gh) : Prop := ∃ q5, (gR G p0 0) = some q5 ∧ (gw_J13_copyOf_2 E (fun r7 G6 => gMon G G6 → (∀ G8, G8 = gsR G6 p0 0 r7 → (((gI G8 p0 2) < (gI G8 p0 1) → (gw_J17_grow_L96 E p0 post  x2 x3 r7 G8)) ∧ (¬ (gI G8 p0 2) < (gI G8 p0 1) → ((¬ (gI G8 p0 2) = (gI G8 p0 1) → (post G8)) ∧ ((gI G8 p0 2) = (gI G8 p0 1) → (∃ q9, r7 = some q9 ∧ (gC G8 q9 = 35 ∧ (vp_in (gI G8 p0 1) (gL G8 q9) ∧ (((gR G8 q9 (gI G8 p0 1).toNatClampNeg) = none → (post G8)) ∧ (∀ q12, (gR G8 q9 (gI G8 p0 1).toNatClampNeg) = some q12 → (gw_J17_grow_L96 E p0 post  x2 x3 r7 G8)))))))))))) q5 x3 G)
def gw_J17_grow_L41 (E : gE) (p0 : Nat) (post : Gh → Prop) (x1 : Int32) (x2 : Int32) (x4 : Int32) (G : Gh) : Prop := gw_J17_newCapacity E (fun r4 G3 => gMon G G3 → (gw_J17_grow_L49 E p0 post  x2 r4 G3)) p0 x1 x4 G
def gw_J17_grow_L21 (E : gE) (p0 : Nat) (post : Gh → Prop) (x1 : Int32) (x2 : Int32) (t0 : Int32) (G : Gh) : Prop := (t0 < x1 → (gw_J17_grow_L41 E p0 post  x1 x2 t0 G)) ∧ (¬ t0 < x1 → ((((x2 + t0) - 2147483639) ≤ 0 → (gw_J17_grow_L49 E p0 post  x2 (x2 + t0) G)) ∧ (¬ ((x2 + t0) - 2147483639) ≤ 0 → (gw_J17_grow_L41 E p0 post  x1 x2 t0 G))))
def gw_J17_grow (E : gE) (post : Gh → Prop) (p0 : Nat) (p1 : Int32) (G : Gh) : Prop := gK G p0 = 18 ∧ (∃ q1, (gR G p0 0) = some q1 ∧ (gC G q1 = 35 ∧ ((64 ≤ (nI (gL G q1)) → (gw_J17_grow_L21 E p0 post  p1 (nI (gL G q1)) ((nI (gL G q1)) >>> ((1 : Int32) &&& 31)) G)) ∧ (¬ 64 ≤ (nI (gL G q1)) → (gw_J17_grow_L21 E p0 post  p1 (nI (gL G q1)) ((nI (gL G q1)) + 2) G)))))
theorem hd_J17_grow : yJ17_grow.cls = RJ17 ∧ yJ17_grow.cls ≠ "java/lang/invoke/MethodHandle" ∧ yJ17_grow.cls ≠ "java/lang/invoke/VarHandle" ∧ (parseMethodDescriptor yJ17_grow.desc).map (fun d => d.parameters.length) = some 1 := by decide +kernel
theorem hdn_J17_grow : yJ17_grow.cls ≠ "java/lang/invoke/MethodHandle" ∧ yJ17_grow.cls ≠ "java/lang/invoke/VarHandle" ∧ (parseMethodDescriptor yJ17_grow.desc).map (fun d => d.parameters.length) = some 1 := hd_J17_grow.2
theorem hdu_J17_grow : RJ17 ≠ "java/lang/invoke/MethodHandle" ∧ RJ17 ≠ "java/lang/invoke/VarHandle" ∧ (parseMethodDescriptor yJ17_grow.desc).map (fun d => d.parameters.length) = some 1 := by decide +kernel
theorem hds_J17_grow : yJ17_grow.name ≠ "<init>" ∧ (parseMethodDescriptor yJ17_grow.desc).map (fun d => d.parameters.length) = some 1 := by decide +kernel
set_option maxHeartbeats 1000000 in
set_option maxRecDepth 100000 in
theorem gm_J17_grow (l : Launch) (E : gE) (p0 : Nat) (p1 : Int32) (post : Gh → Prop) (G : Gh) (hw : gw_J17_grow E post p0 p1 G) : gM l E yJ17_grow (ws_ yJ17_grow cJ17_grow 9 none) ({ frames := 3, cells := 1, slots := 64, locals := 104 } : Room) 1 64 [.ref p0, .int p1] G (gpv post) := by
  refine gof (by decide) (Nat.le_of_ble_eq_true rfl) ?_
  intro p e s m below meth c A ls hx hb hr hlk hml hown hin hts hPF hA hG hl
  have hl : lv_has ls 9 [(0, .ref p0), (1, .int p1)] := hl
  unfold gw_J17_grow at hw
  obtain ⟨G0, hG0⟩ : ∃ G0, G0 = G := ⟨_, rfl⟩
  have hG : gS E A G0 s.heap G s.heap [] := by rw [hG0]; exact hG
  rw [show gQ E A G (gpv post) = gQ E A G0 (gpv post) by rw [hG0]]
  have h0p0 := hw.1; rw [← hG0] at h0p0
  replace hw := hw.2
  have hL145 : ∀ (n : Nat) (x5 : Option Nat) (x7 : Int32) (x8 : Int32) (G : Gh) (H : Heap) (locs : List Loc) (ls : Array Slot), gS E A G0 s.heap G H locs → lv_has ls 9 [(5, va_rf x5), (7, .int x7), (8, .int x8)] → gw_J17_grow_L145 E p0 post n x5 x7 x8 G → W p l e (headSpec (ws_ yJ17_grow cJ17_grow 9 none) ({ frames := 3, cells := 1, slots := 64, locals := 104 } : Room)).room s m ([.ref p0, .int p1] : List Value).toArray below meth c H locs 1 64 (MQ below (gQ E A G0 (gpv post)) ([.ref p0, .int p1] : List Value).toArray s 1 64 A) (F0 m 145 ls []) := by
    intro n
    induction n with
    | zero => exact fun _ _ _ _ _ _ _ _ _ hw => hw.elim
    | succ n ih =>
      intro x5 x7 x8 G H locs ls hG hl hw
      unfold gw_J17_grow_L145 at hw
      refine lv_iload hx hb dJ17_grow_145 (lv_at hl 1 rfl) ?_
      refine lv_iload hx hb dJ17_grow_147 (lv_at hl 2 rfl) ?_
      refine lv_icmp_ge (tgt := 164) hx hb dJ17_grow_149 (by decide) (fun c_ => ?_) (fun c_ => ?_)
      · replace hw := hw.1 c_
        exact gretv hx hb hr hlk hG hw (Nat.le_of_ble_eq_true rfl) (Nat.le_of_ble_eq_true rfl) dJ17_grow_164
      · replace hw := hw.2 c_
        refine ga_ hx hb dJ17_grow_152 (lv_at hl 0 rfl) ?_
        refine lv_iload hx hb dJ17_grow_154 (lv_at hl 1 rfl) ?_
        refine lv_null hx hb dJ17_grow_156 ?_
        obtain ⟨q20, hq20, hw⟩ := hw
        refine W.eq (g2 := F0 m 157 ls [.null, .int x7, .ref q20]) (by rw [hq20]; rfl) ?_
        have hk21 := hw.1
        replace hw := hw.2
        have hi22 := hw.1
        replace hw := hw.2
        refine gsq (r := none) hx hb hPF hG hk21 hi22 rfl (fun v h => by cases h) dJ17_grow_157 (fun H locs hG => ?_)
        obtain ⟨G23, eG23⟩ : ∃ z, z = grR G q20 (va_up (gR G q20) x7.toNatClampNeg none) := ⟨_, rfl⟩
        rw [← eG23] at hG
        replace hw := hw G23 eG23
        have hk21 : gK G23 q20 = 35 := by rw [eG23]; exact hk21
        refine lv_iinc (v := x7 + 1) (lv' := [(7, .int (x7 + 1)), (5, va_rf x5), (8, .int x8)]) hx hb dJ17_grow_158 hl (k := 1) rfl rfl (by decide) (by first | rfl | simp [List.filter, va_rf_cat, gcat_i, gcat_r, gcat_l, gcat_d, gcat_f, gcat_n]) (fun ls hl => ?_)
        refine lv_goto (tgt := 145) hx hb dJ17_grow_161 (by decide) ?_
        refine W.widen (k := 1) (n := 64) (Nat.le_of_ble_eq_true rfl) (Nat.le_of_ble_eq_true rfl) ?_
        exact ih x5 (x7 + 1) x8 G23 _ _ ls hG (lv_sub hl [1, 0, 2] rfl) hw
  have hL96 : ∀ (x2 : Int32) (x3 : Int32) (x5 : Option Nat) (G : Gh) (H : Heap) (locs : List Loc) (ls : Array Slot), gS E A G0 s.heap G H locs → lv_has ls 9 [(0, .ref p0), (2, .int x2), (3, .int x3), (5, va_rf x5)] → gw_J17_grow_L96 E p0 post x2 x3 x5 G → W p l e (headSpec (ws_ yJ17_grow cJ17_grow 9 none) ({ frames := 3, cells := 1, slots := 64, locals := 104 } : Room)).room s m ([.ref p0, .int p1] : List Value).toArray below meth c H locs 1 64 (MQ below (gQ E A G0 (gpv post)) ([.ref p0, .int p1] : List Value).toArray s 1 64 A) (F0 m 96 ls []) := by
    intro x2 x3 x5 G H locs ls hG hl hw
    unfold gw_J17_grow_L96 at hw
    refine lv_iload_n hx hb dJ17_grow_96 rfl (lv_at hl 2 rfl) ?_
    refine lv_iload_n hx hb dJ17_grow_97 rfl (lv_at hl 1 rfl) ?_
    refine lv_isub hx hb dJ17_grow_98 ?_
    refine lv_istore (lv' := [(6, .int (x3 - x2)), (0, .ref p0), (2, .int x2), (3, .int x3), (5, va_rf x5)]) hx hb dJ17_grow_99 hl (by decide) (by first | rfl | simp [List.filter, va_rf_cat, gcat_i, gcat_r, gcat_l, gcat_d, gcat_f, gcat_n]) (fun ls hl => ?_)
    refine ga_ hx hb dJ17_grow_101 (lv_at hl 4 rfl) ?_
    refine lv_aload_n hx hb dJ17_grow_103 rfl (lv_at hl 1 rfl) ?_
    refine gg hx hb hts hown hPF hG 18 1 rfl in_J17 (by decide) (by decide) (by decide) q527 (fun _ h9 => h9) (gC_of (gK_mon hG.1.2 h0p0 (by decide)) (by decide)) (v := .int (gI G p0 1)) rfl dJ17_grow_104 ?_
    refine ga_ hx hb dJ17_grow_107 (lv_at hl 4 rfl) ?_
    refine lv_aload_n hx hb dJ17_grow_109 rfl (lv_at hl 1 rfl) ?_
    refine gg hx hb hts hown hPF hG 18 1 rfl in_J17 (by decide) (by decide) (by decide) q527 (fun _ h9 => h9) (gC_of (gK_mon hG.1.2 h0p0 (by decide)) (by decide)) (v := .int (gI G p0 1)) rfl dJ17_grow_110 ?_
    refine lv_iload hx hb dJ17_grow_113 (lv_at hl 0 rfl) ?_
    refine lv_iadd hx hb dJ17_grow_115 ?_
    refine lv_iload_n hx hb dJ17_grow_116 rfl (lv_at hl 2 rfl) ?_
    refine lv_aload_n hx hb dJ17_grow_117 rfl (lv_at hl 1 rfl) ?_
    refine gg hx hb hts hown hPF hG 18 1 rfl in_J17 (by decide) (by decide) (by decide) q527 (fun _ h9 => h9) (gC_of (gK_mon hG.1.2 h0p0 (by decide)) (by decide)) (v := .int (gI G p0 1)) rfl dJ17_grow_118 ?_
    refine lv_isub hx hb dJ17_grow_121 ?_
    obtain ⟨q13, hq13, hw⟩ := hw
    refine W.eq (g2 := F0 m 122 ls [.int (x2 - (gI G p0 1)), .int ((gI G p0 1) + (x3 - x2)), va_rf x5, .int (gI G p0 1), .ref q13]) (by rw [hq13]; rfl) ?_
    refine W.eq (g2 := F0 m 122 ls [.int (x2 - (gI G p0 1)), .int ((gI G p0 1) + (x3 - x2)), .ref q13, .int (gI G p0 1), .ref q13]) (by rw [hq13]; rfl) ?_
    have hk14 := hw.1
    replace hw := hw.2
    have hk15 := hw.1
    replace hw := hw.2
    have hv16 := hw.1
    replace hw := hw.2
    have hf17 := hw.1
    replace hw := hw.2
    refine gcpb hx hb (hl.1.trans hml.symm) hts hown q1019 q254 q253 q71 hPF hG hk14 hk15 hv16.1 hv16.2.1 hv16.2.2.1 hv16.2.2.2.1 hv16.2.2.2.2 hf17 (Nat.le_of_ble_eq_true rfl) (by (try simp only [List.map, va_rf_cat, gcat_i, gcat_r, gcat_l, gcat_d, gcat_f, gcat_n]); exact Nat.le_of_ble_eq_true rfl) dJ17_grow_122 (fun H locs hG => ?_)
    obtain ⟨G18, eG18⟩ : ∃ z, z = grI G q13 (va_cpy (gI G q13) (gI G q13) (gI G p0 1).toNatClampNeg ((gI G p0 1) + (x3 - x2)).toNatClampNeg (x2 - (gI G p0 1)).toNatClampNeg) := ⟨_, rfl⟩
    rw [← eG18] at hG
    replace hw := hw G18 eG18
    have hk14 : gC G18 q13 = 32 := by rw [eG18]; exact hk14
    have hk15 : gK G18 q13 = 32 := by rw [eG18]; exact hk15
    refine lv_aload_n hx hb dJ17_grow_125 rfl (lv_at hl 1 rfl) ?_
    refine gg hx hb hts hown hPF hG 18 1 rfl in_J17 (by decide) (by decide) (by decide) q527 (fun _ h9 => h9) (gC_of (gK_mon hG.1.2 h0p0 (by decide)) (by decide)) (v := .int (gI G18 p0 1)) rfl dJ17_grow_126 ?_
    refine lv_istore (lv' := [(7, .int (gI G18 p0 1)), (6, .int (x3 - x2)), (0, .ref p0), (2, .int x2), (3, .int x3), (5, va_rf x5)]) hx hb dJ17_grow_129 hl (by decide) (by first | rfl | simp [List.filter, va_rf_cat, gcat_i, gcat_r, gcat_l, gcat_d, gcat_f, gcat_n]) (fun ls hl => ?_)
    refine lv_aload_n hx hb dJ17_grow_131 rfl (lv_at hl 2 rfl) ?_
    refine lv_dup hx hb dJ17_grow_132 rfl ?_
    refine gg hx hb hts hown hPF hG 18 1 rfl in_J17 (by decide) (by decide) (by decide) q527 (fun _ h9 => h9) (gC_of (gK_mon hG.1.2 h0p0 (by decide)) (by decide)) (v := .int (gI G18 p0 1)) rfl dJ17_grow_133 ?_
    refine lv_iload hx hb dJ17_grow_136 (lv_at hl 1 rfl) ?_
    refine lv_iadd hx hb dJ17_grow_138 ?_
    refine lv_dup_x1 hx hb dJ17_grow_139 rfl rfl ?_
    refine gp hx hb hts hown hPF hG 18 1 rfl in_J17 tyJ17 tyJ17_ok nmJ17 (by decide) (by decide) (by decide) q527 (fun _ h9 => h9) rfl (gK_mon hG.1.2 h0p0 (by decide)) (v := .int ((gI G18 p0 1) + (x3 - x2))) rfl rfl (G' := gsI G18 p0 1 ((gI G18 p0 1) + (x3 - x2))) rfl rfl grI_off (Nat.le_of_ble_eq_true rfl) (gFs_I 18 1 (fun _ _ _ => rfl)) dJ17_grow_140 (fun H locs hG => ?_)
    obtain ⟨G19, eG19⟩ : ∃ z, z = gsI G18 p0 1 ((gI G18 p0 1) + (x3 - x2)) := ⟨_, rfl⟩
    rw [← eG19] at hG
    replace hw := hw G19 eG19
    have hk14 : gC G19 q13 = 32 := by rw [eG19]; exact hk14
    have hk15 : gK G19 q13 = 32 := by rw [eG19]; exact hk15
    refine lv_istore (lv' := [(8, .int ((gI G18 p0 1) + (x3 - x2))), (7, .int (gI G18 p0 1)), (6, .int (x3 - x2)), (0, .ref p0), (2, .int x2), (3, .int x3), (5, va_rf x5)]) hx hb dJ17_grow_143 hl (by decide) (by first | rfl | simp [List.filter, va_rf_cat, gcat_i, gcat_r, gcat_l, gcat_d, gcat_f, gcat_n]) (fun ls hl => ?_)
    refine W.widen (k := 1) (n := 64) (Nat.le_of_ble_eq_true rfl) (Nat.le_of_ble_eq_true rfl) ?_
    obtain ⟨n0, hw⟩ := hw
    exact hL145  n0 x5 (gI G18 p0 1) ((gI G18 p0 1) + (x3 - x2)) G19 _ _ ls hG (lv_sub hl [6, 1, 0] rfl) hw
  have hL49 : ∀ (x2 : Int32) (x3 : Int32) (G : Gh) (H : Heap) (locs : List Loc) (ls : Array Slot), gS E A G0 s.heap G H locs → lv_has ls 9 [(0, .ref p0), (2, .int x2), (3, .int x3)] → gw_J17_grow_L49 E p0 post x2 x3 G → W p l e (headSpec (ws_ yJ17_grow cJ17_grow 9 none) ({ frames := 3, cells := 1, slots := 64, locals := 104 } : Room)).room s m ([.ref p0, .int p1] : List Value).toArray below meth c H locs 0 0 (MQ below (gQ E A G0 (gpv post)) ([.ref p0, .int p1] : List Value).toArray s 1 64 A) (F0 m 49 ls []) := by
    intro x2 x3 G H locs ls hG hl hw
    unfold gw_J17_grow_L49 at hw
    refine lv_aload_n hx hb dJ17_grow_49 rfl (lv_at hl 0 rfl) ?_
    refine lv_aload_n hx hb dJ17_grow_50 rfl (lv_at hl 0 rfl) ?_
    refine gg hx hb hts hown hPF hG 18 0 rfl in_J17 (by decide) (by decide) (by decide) q526 (fun _ h9 => h9) (gC_of (gK_mon hG.1.2 h0p0 (by decide)) (by decide)) (v := va_rf (gR G p0 0)) rfl dJ17_grow_51 ?_
    refine lv_iload_n hx hb dJ17_grow_54 rfl (lv_at hl 2 rfl) ?_
    obtain ⟨q5, hq5, hw⟩ := hw
    refine W.eq (g2 := F0 m 55 ls [.int x3, .ref q5, .ref p0]) (by rw [hq5]; rfl) ?_
    refine gc3r hA hG (va_runS (As := [.ref q5, .int x3]) (rest := [.ref p0]) ⟨hx, hb, hml, hown, hts⟩ (gm_J13_copyOf_2 l E q5 x3 _ G hw _) (va_cwS 2 hts (lw_S q1018 q810 q70 q811) rfl rfl rfl hd_J13_copyOf_2 ⟨Nat.le_of_ble_eq_true rfl, Nat.le_of_ble_eq_true rfl⟩) ⟨gblind, fun U hU hW => gpre hPF hA hG _ U hU hW⟩ rfl rfl hl.1 rfl (lv_room (Nat.le_of_ble_eq_true rfl)) dJ17_grow_55 ⟨(Nat.le_of_ble_eq_true rfl), (Nat.le_of_ble_eq_true rfl)⟩) (fun r7 G6 H locs hw hmon hG => ?_)
    replace hw := hw hmon
    refine lv_dup_x1 hx hb dJ17_grow_58 (va_rf_cat _) rfl ?_
    refine gp hx hb hts hown hPF hG 18 0 rfl in_J17 tyJ17 tyJ17_ok nmJ17 (by decide) (by decide) (by decide) q526 (fun _ h9 => h9) rfl (gK_mon hG.1.2 h0p0 (by decide)) (v := va_rf r7) (narrow_rf _) (fits_rf _ (by decide)) (G' := gsR G6 p0 0 r7) rfl rfl grR_off (Nat.le_of_ble_eq_true rfl) (gFs_R 18 0 (fun _ _ _ => rfl)) dJ17_grow_59 (fun H locs hG => ?_)
    obtain ⟨G8, eG8⟩ : ∃ z, z = gsR G6 p0 0 r7 := ⟨_, rfl⟩
    rw [← eG8] at hG
    replace hw := hw G8 eG8
    refine gt_ (lv' := [(5, va_rf r7), (0, .ref p0), (2, .int x2), (3, .int x3)]) hx hb dJ17_grow_62 hl (by decide) rfl (fun ls hl => ?_)
    refine lv_aload_n hx hb dJ17_grow_64 rfl (lv_at hl 1 rfl) ?_
    refine gg hx hb hts hown hPF hG 18 2 rfl in_J17 (by decide) (by decide) (by decide) q528 (fun _ h9 => h9) (gC_of (gK_mon hG.1.2 h0p0 (by decide)) (by decide)) (v := .int (gI G8 p0 2)) rfl dJ17_grow_65 ?_
    refine lv_aload_n hx hb dJ17_grow_68 rfl (lv_at hl 1 rfl) ?_
    refine gg hx hb hts hown hPF hG 18 1 rfl in_J17 (by decide) (by decide) (by decide) q527 (fun _ h9 => h9) (gC_of (gK_mon hG.1.2 h0p0 (by decide)) (by decide)) (v := .int (gI G8 p0 1)) rfl dJ17_grow_69 ?_
    refine lv_icmp_lt (tgt := 96) hx hb dJ17_grow_72 (by decide) (fun c_ => ?_) (fun c_ => ?_)
    · replace hw := hw.1 c_
      refine W.widen (k := 1) (n := 64) (Nat.le_of_ble_eq_true rfl) (Nat.le_of_ble_eq_true rfl) ?_
      exact hL96  x2 x3 r7 G8 _ _ ls hG (lv_sub hl [1, 2, 3, 0] rfl) hw
    · replace hw := hw.2 c_
      refine lv_aload_n hx hb dJ17_grow_75 rfl (lv_at hl 1 rfl) ?_
      refine gg hx hb hts hown hPF hG 18 2 rfl in_J17 (by decide) (by decide) (by decide) q528 (fun _ h9 => h9) (gC_of (gK_mon hG.1.2 h0p0 (by decide)) (by decide)) (v := .int (gI G8 p0 2)) rfl dJ17_grow_76 ?_
      refine lv_aload_n hx hb dJ17_grow_79 rfl (lv_at hl 1 rfl) ?_
      refine gg hx hb hts hown hPF hG 18 1 rfl in_J17 (by decide) (by decide) (by decide) q527 (fun _ h9 => h9) (gC_of (gK_mon hG.1.2 h0p0 (by decide)) (by decide)) (v := .int (gI G8 p0 1)) rfl dJ17_grow_80 ?_
      refine lv_icmp_ne (tgt := 164) hx hb dJ17_grow_83 (by decide) (fun c_ => ?_) (fun c_ => ?_)
      · replace hw := hw.1 c_
        exact gretv hx hb hr hlk hG hw (Nat.le_of_ble_eq_true rfl) (Nat.le_of_ble_eq_true rfl) dJ17_grow_164
      · replace hw := hw.2 c_
        refine ga_ hx hb dJ17_grow_86 (lv_at hl 0 rfl) ?_
        refine lv_aload_n hx hb dJ17_grow_88 rfl (lv_at hl 1 rfl) ?_
        refine gg hx hb hts hown hPF hG 18 1 rfl in_J17 (by decide) (by decide) (by decide) q527 (fun _ h9 => h9) (gC_of (gK_mon hG.1.2 h0p0 (by decide)) (by decide)) (v := .int (gI G8 p0 1)) rfl dJ17_grow_89 ?_
        obtain ⟨q9, hq9, hw⟩ := hw
        refine W.eq (g2 := F0 m 92 ls [.int (gI G8 p0 1), .ref q9]) (by rw [hq9]; rfl) ?_
        have hk10 := hw.1
        replace hw := hw.2
        have hi11 := hw.1
        replace hw := hw.2
        refine glq hx hb hPF hG hk10 hi11 rfl dJ17_grow_92 ?_
        refine gifnull (tgt := 164) hx hb dJ17_grow_93 (by decide) (fun c_ => ?_) (fun q12 hq12 => ?_)
        · replace hw := hw.1 c_
          exact gretv hx hb hr hlk hG hw (Nat.le_of_ble_eq_true rfl) (Nat.le_of_ble_eq_true rfl) dJ17_grow_164
        · replace hw := hw.2 q12 hq12
          refine W.widen (k := 1) (n := 64) (Nat.le_of_ble_eq_true rfl) (Nat.le_of_ble_eq_true rfl) ?_
          exact hL96  x2 x3 r7 G8 _ _ ls hG (lv_sub hl [1, 2, 3, 0] rfl) hw
  have hL41 : ∀ (x1 : Int32) (x2 : Int32) (x4 : Int32) (G : Gh) (H : Heap) (locs : List Loc) (ls : Array Slot), gS E A G0 s.heap G H locs → lv_has ls 9 [(0, .ref p0), (1, .int x1), (2, .int x2), (4, .int x4)] → gw_J17_grow_L41 E p0 post x1 x2 x4 G → W p l e (headSpec (ws_ yJ17_grow cJ17_grow 9 none) ({ frames := 3, cells := 1, slots := 64, locals := 104 } : Room)).room s m ([.ref p0, .int p1] : List Value).toArray below meth c H locs 0 0 (MQ below (gQ E A G0 (gpv post)) ([.ref p0, .int p1] : List Value).toArray s 1 64 A) (F0 m 41 ls []) := by
    intro x1 x2 x4 G H locs ls hG hl hw
    unfold gw_J17_grow_L41 at hw
    refine lv_aload_n hx hb dJ17_grow_41 rfl (lv_at hl 0 rfl) ?_
    refine lv_iload_n hx hb dJ17_grow_42 rfl (lv_at hl 1 rfl) ?_
    refine lv_iload hx hb dJ17_grow_43 (lv_at hl 3 rfl) ?_
    refine gc3i hA hG (va_runV (As := [.int x1, .int x4]) (rest := []) ⟨hx, hb, hml, hown, hts⟩ (gm_J17_newCapacity l E p0 x1 x4 _ G hw _) (cwV 2 hts (lw_V q997 q999 qs8 q76 q1000) rfl rfl rfl hd_J17_newCapacity ⟨Nat.le_of_ble_eq_true rfl, Nat.le_of_ble_eq_true rfl⟩) ⟨gblind, grecv hPF hG (gC_of (gK_mon hG.1.2 h0p0 (by decide)) (by decide)) (by decide) (by decide) rfl, fun U hU hW => gpre hPF hA hG _ U hU hW⟩ rfl rfl hl.1 rfl (lv_room (Nat.le_of_ble_eq_true rfl)) dJ17_grow_45 ⟨(Nat.le_of_ble_eq_true rfl), (Nat.le_of_ble_eq_true rfl)⟩) (fun r4 G3 H locs hw hmon hG => ?_)
    replace hw := hw hmon
    refine lv_istore_n (i := 3) (lv' := [(3, .int r4), (0, .ref p0), (1, .int x1), (2, .int x2), (4, .int x4)]) hx hb dJ17_grow_48 rfl hl (by decide) rfl (fun ls hl => ?_)
    refine W.widen (k := 0) (n := 0) (Nat.le_of_ble_eq_true rfl) (Nat.le_of_ble_eq_true rfl) ?_
    exact hL49  x2 r4 G3 _ _ ls hG (lv_sub hl [1, 3, 0] rfl) hw
  have hL21 : ∀ (x1 : Int32) (x2 : Int32) (t0 : Int32) (G : Gh) (H : Heap) (locs : List Loc) (ls : Array Slot), gS E A G0 s.heap G H locs → lv_has ls 9 [(0, .ref p0), (1, .int x1), (2, .int x2)] → gw_J17_grow_L21 E p0 post x1 x2 t0 G → W p l e (headSpec (ws_ yJ17_grow cJ17_grow 9 none) ({ frames := 3, cells := 1, slots := 64, locals := 104 } : Room)).room s m ([.ref p0, .int p1] : List Value).toArray below meth c H locs 0 0 (MQ below (gQ E A G0 (gpv post)) ([.ref p0, .int p1] : List Value).toArray s 1 64 A) (F0 m 21 ls [.int t0]) := by
    intro x1 x2 t0 G H locs ls hG hl hw
    unfold gw_J17_grow_L21 at hw
    refine lv_istore (lv' := [(4, .int t0), (0, .ref p0), (1, .int x1), (2, .int x2)]) hx hb dJ17_grow_21 hl (by decide) rfl (fun ls hl => ?_)
    refine lv_iload hx hb dJ17_grow_23 (lv_at hl 0 rfl) ?_
    refine lv_iload_n hx hb dJ17_grow_25 rfl (lv_at hl 2 rfl) ?_
    refine lv_icmp_lt (tgt := 41) hx hb dJ17_grow_26 (by decide) (fun c_ => ?_) (fun c_ => ?_)
    · replace hw := hw.1 c_
      refine W.widen (k := 0) (n := 0) (Nat.le_of_ble_eq_true rfl) (Nat.le_of_ble_eq_true rfl) ?_
      exact hL41  x1 x2 t0 G _ _ ls hG (lv_sub hl [1, 2, 3, 0] rfl) hw
    · replace hw := hw.2 c_
      refine lv_iload_n hx hb dJ17_grow_29 rfl (lv_at hl 3 rfl) ?_
      refine lv_iload hx hb dJ17_grow_30 (lv_at hl 0 rfl) ?_
      refine lv_iadd hx hb dJ17_grow_32 ?_
      refine lv_dup hx hb dJ17_grow_33 rfl ?_
      refine lv_istore_n (i := 3) (lv' := [(3, .int (x2 + t0)), (4, .int t0), (0, .ref p0), (1, .int x1), (2, .int x2)]) hx hb dJ17_grow_34 rfl hl (by decide) rfl (fun ls hl => ?_)
      refine lv_ldc (v := 2147483639) hx hb hown (hts _ q996) dJ17_grow_35 ?_
      refine lv_isub hx hb dJ17_grow_37 ?_
      refine lv_if_le (tgt := 49) hx hb dJ17_grow_38 (by decide) (fun c_ => ?_) (fun c_ => ?_)
      · replace hw := hw.1 c_
        refine W.widen (k := 0) (n := 0) (Nat.le_of_ble_eq_true rfl) (Nat.le_of_ble_eq_true rfl) ?_
        exact hL49  x2 (x2 + t0) G _ _ ls hG (lv_sub hl [2, 4, 0] rfl) hw
      · replace hw := hw.2 c_
        refine W.widen (k := 0) (n := 0) (Nat.le_of_ble_eq_true rfl) (Nat.le_of_ble_eq_true rfl) ?_
        exact hL41  x1 x2 t0 G _ _ ls hG (lv_sub hl [2, 3, 4, 1] rfl) hw
  refine lv_aload_n hx hb dJ17_grow_0 rfl (lv_at hl 0 rfl) ?_
  refine gg hx hb hts hown hPF hG 18 0 rfl in_J17 (by decide) (by decide) (by decide) q526 (fun _ h9 => h9) (gC_of (gK_mon hG.1.2 h0p0 (by decide)) (by decide)) (v := va_rf (gR G p0 0)) rfl dJ17_grow_1 ?_
  obtain ⟨q1, hq1, hw⟩ := hw
  refine W.eq (g2 := F0 m 4 ls [.ref q1]) (by rw [hq1]; rfl) ?_
  have hk2 := hw.1
  replace hw := hw.2
  refine galen hx hb hPF hG hk2 (by decide) (by decide) dJ17_grow_4 ?_
  refine lv_istore_n (i := 2) (lv' := [(2, .int (nI (gL G q1))), (0, .ref p0), (1, .int p1)]) hx hb dJ17_grow_5 rfl hl (by decide) rfl (fun ls hl => ?_)
  refine lv_iload_n hx hb dJ17_grow_6 rfl (lv_at hl 0 rfl) ?_
  refine lv_bipush (v := 64) hx hb dJ17_grow_7 (by decide) ?_
  refine lv_icmp_ge (tgt := 18) hx hb dJ17_grow_9 (by decide) (fun c_ => ?_) (fun c_ => ?_)
  · replace hw := hw.1 c_
    refine lv_iload_n hx hb dJ17_grow_18 rfl (lv_at hl 0 rfl) ?_
    refine lv_iconst (v := 1) hx hb dJ17_grow_19 (by decide) ?_
    refine lv_ishr hx hb dJ17_grow_20 ?_
    refine W.widen (k := 0) (n := 0) (Nat.le_of_ble_eq_true rfl) (Nat.le_of_ble_eq_true rfl) ?_
    exact hL21  p1 (nI (gL G q1)) ((nI (gL G q1)) >>> ((1 : Int32) &&& 31)) G _ _ ls hG (lv_sub hl [1, 2, 0] rfl) hw
  · replace hw := hw.2 c_
    refine lv_iload_n hx hb dJ17_grow_12 rfl (lv_at hl 0 rfl) ?_
    refine lv_iconst (v := 2) hx hb dJ17_grow_13 (by decide) ?_
    refine lv_iadd hx hb dJ17_grow_14 ?_
    refine lv_goto (tgt := 21) hx hb dJ17_grow_15 (by decide) ?_
    refine W.widen (k := 0) (n := 0) (Nat.le_of_ble_eq_true rfl) (Nat.le_of_ble_eq_true rfl) ?_
    exact hL21  p1 (nI (gL G q1)) ((nI (gL G q1)) + 2) G _ _ ls hG (lv_sub hl [1, 2, 0] rfl) hw
def gw_J17_addLast (E : gE) (post : Gh → Prop) (p0 : Nat) (p1 : Nat) (G : Gh) : Prop := gK G p0 = 18 ∧ (∃ q1, (gR G p0 0) = some q1 ∧ (gK G q1 = 35 ∧ (vp_in (gI G p0 2) (gL G q1) ∧ ((∀ v, (some p1) = some v → gOk G v) ∧ (∀ G5, G5 = grR G q1 (va_up (gR G q1) (gI G p0 2).toNatClampNeg (some p1)) → (gw_J17_inc E (fun r7 G6 => gMon G5 G6 → (∀ G8, G8 = gsI G6 p0 2 r7 → ((¬ (gI G5 p0 1) = r7 → (post G8)) ∧ ((gI G5 p0 1) = r7 → (gw_J17_grow E (fun G9 => gMon G8 G9 → (post G9)) p0 1 G8))))) (gI G5 p0 2) (nI (gL G5 q1)) G5))))))
theorem hd_J17_addLast : yJ17_addLast.cls = RJ17 ∧ yJ17_addLast.cls ≠ "java/lang/invoke/MethodHandle" ∧ yJ17_addLast.cls ≠ "java/lang/invoke/VarHandle" ∧ (parseMethodDescriptor yJ17_addLast.desc).map (fun d => d.parameters.length) = some 1 := by decide +kernel
theorem hdn_J17_addLast : yJ17_addLast.cls ≠ "java/lang/invoke/MethodHandle" ∧ yJ17_addLast.cls ≠ "java/lang/invoke/VarHandle" ∧ (parseMethodDescriptor yJ17_addLast.desc).map (fun d => d.parameters.length) = some 1 := hd_J17_addLast.2
theorem hdu_J17_addLast : RJ17 ≠ "java/lang/invoke/MethodHandle" ∧ RJ17 ≠ "java/lang/invoke/VarHandle" ∧ (parseMethodDescriptor yJ17_addLast.desc).map (fun d => d.parameters.length) = some 1 := by decide +kernel
theorem hds_J17_addLast : yJ17_addLast.name ≠ "<init>" ∧ (parseMethodDescriptor yJ17_addLast.desc).map (fun d => d.parameters.length) = some 1 := by decide +kernel
set_option maxHeartbeats 1000000 in
set_option maxRecDepth 100000 in
theorem gm_J17_addLast (l : Launch) (E : gE) (p0 : Nat) (p1 : Nat) (post : Gh → Prop) (G : Gh) (hw : gw_J17_addLast E post p0 p1 G) : gM l E yJ17_addLast (ws_ yJ17_addLast cJ17_addLast 3 none) ({ frames := 4, cells := 1, slots := 64, locals := 132 } : Room) 1 64 [.ref p0, .ref p1] G (gpv post) := by
  refine gof (by decide) (Nat.le_of_ble_eq_true rfl) ?_
  intro p e s m below meth c A ls hx hb hr hlk hml hown hin hts hPF hA hG hl
  have hl : lv_has ls 3 [(0, .ref p0), (1, .ref p1)] := hl
  unfold gw_J17_addLast at hw
  obtain ⟨G0, hG0⟩ : ∃ G0, G0 = G := ⟨_, rfl⟩
  have hG : gS E A G0 s.heap G s.heap [] := by rw [hG0]; exact hG
  rw [show gQ E A G (gpv post) = gQ E A G0 (gpv post) by rw [hG0]]
  have h0p0 := hw.1; rw [← hG0] at h0p0
  replace hw := hw.2
  refine lv_aload_n hx hb dJ17_addLast_0 rfl (lv_at hl 1 rfl) ?_
  refine lv_ifnonnull (tgt := 12) hx hb dJ17_addLast_1 (by decide) ?_
  refine lv_aload_n hx hb dJ17_addLast_12 rfl (lv_at hl 0 rfl) ?_
  refine gg hx hb hts hown hPF hG 18 0 rfl in_J17 (by decide) (by decide) (by decide) q526 (fun _ h9 => h9) (gC_of (gK_mon hG.1.2 h0p0 (by decide)) (by decide)) (v := va_rf (gR G p0 0)) rfl dJ17_addLast_13 ?_
  refine gt_n (i := 2) (lv' := [(2, va_rf (gR G p0 0)), (0, .ref p0), (1, .ref p1)]) hx hb dJ17_addLast_16 rfl hl (by decide) rfl (fun ls hl => ?_)
  refine ga_n hx hb dJ17_addLast_17 rfl (lv_at hl 0 rfl) ?_
  refine lv_aload_n hx hb dJ17_addLast_18 rfl (lv_at hl 1 rfl) ?_
  refine gg hx hb hts hown hPF hG 18 2 rfl in_J17 (by decide) (by decide) (by decide) q528 (fun _ h9 => h9) (gC_of (gK_mon hG.1.2 h0p0 (by decide)) (by decide)) (v := .int (gI G p0 2)) rfl dJ17_addLast_19 ?_
  refine lv_aload_n hx hb dJ17_addLast_22 rfl (lv_at hl 2 rfl) ?_
  obtain ⟨q1, hq1, hw⟩ := hw
  refine W.eq (g2 := F0 m 23 ls [.ref p1, .int (gI G p0 2), .ref q1]) (by rw [hq1]; rfl) ?_
  have hk2 := hw.1
  replace hw := hw.2
  have hi3 := hw.1
  replace hw := hw.2
  have ho4 := hw.1
  replace hw := hw.2
  refine gsq (r := (some p1)) hx hb hPF hG hk2 hi3 rfl (fun v h => gOk_any hts hPF hG (ho4 v h)) dJ17_addLast_23 (fun H locs hG => ?_)
  obtain ⟨G5, eG5⟩ : ∃ z, z = grR G q1 (va_up (gR G q1) (gI G p0 2).toNatClampNeg (some p1)) := ⟨_, rfl⟩
  rw [← eG5] at hG
  replace hw := hw G5 eG5
  have hk2 : gK G5 q1 = 35 := by rw [eG5]; exact hk2
  refine lv_aload_n hx hb dJ17_addLast_24 rfl (lv_at hl 1 rfl) ?_
  refine gg hx hb hts hown hPF hG 18 1 rfl in_J17 (by decide) (by decide) (by decide) q527 (fun _ h9 => h9) (gC_of (gK_mon hG.1.2 h0p0 (by decide)) (by decide)) (v := .int (gI G5 p0 1)) rfl dJ17_addLast_25 ?_
  refine lv_aload_n hx hb dJ17_addLast_28 rfl (lv_at hl 1 rfl) ?_
  refine lv_aload_n hx hb dJ17_addLast_29 rfl (lv_at hl 1 rfl) ?_
  refine gg hx hb hts hown hPF hG 18 2 rfl in_J17 (by decide) (by decide) (by decide) q528 (fun _ h9 => h9) (gC_of (gK_mon hG.1.2 h0p0 (by decide)) (by decide)) (v := .int (gI G5 p0 2)) rfl dJ17_addLast_30 ?_
  refine ga_n hx hb dJ17_addLast_33 rfl (lv_at hl 0 rfl) ?_
  refine W.eq (g2 := F0 m 34 ls [.ref q1, .int (gI G5 p0 2), .ref p0, .int (gI G5 p0 1)]) (by rw [hq1]; rfl) ?_
  refine galen hx hb hPF hG (gC_of hk2 (by decide)) (by decide) (by decide) dJ17_addLast_34 ?_
  refine gc3i hA hG (va_runS (As := [.int (gI G5 p0 2), .int (nI (gL G5 q1))]) (rest := [.ref p0, .int (gI G5 p0 1)]) ⟨hx, hb, hml, hown, hts⟩ (gm_J17_inc l E (gI G5 p0 2) (nI (gL G5 q1)) _ G5 hw _) (va_cwS 2 hts (lw_S q983 q984 q76 q985) rfl rfl rfl hd_J17_inc ⟨Nat.le_of_ble_eq_true rfl, Nat.le_of_ble_eq_true rfl⟩) ⟨gblind, fun U hU hW => gpre hPF hA hG _ U hU hW⟩ rfl rfl hl.1 rfl (lv_room (Nat.le_of_ble_eq_true rfl)) dJ17_addLast_35 ⟨(Nat.le_of_ble_eq_true rfl), (Nat.le_of_ble_eq_true rfl)⟩) (fun r7 G6 H locs hw hmon hG => ?_)
  replace hw := hw hmon
  have hk2 : gK G6 q1 = 35 := gK_mon hmon hk2 (by decide)
  refine lv_dup_x1 hx hb dJ17_addLast_38 rfl rfl ?_
  refine gp hx hb hts hown hPF hG 18 2 rfl in_J17 tyJ17 tyJ17_ok nmJ17 (by decide) (by decide) (by decide) q528 (fun _ h9 => h9) rfl (gK_mon hG.1.2 h0p0 (by decide)) (v := .int r7) rfl rfl (G' := gsI G6 p0 2 r7) rfl rfl grI_off (Nat.le_of_ble_eq_true rfl) (gFs_I 18 2 (fun _ _ _ => rfl)) dJ17_addLast_39 (fun H locs hG => ?_)
  obtain ⟨G8, eG8⟩ : ∃ z, z = gsI G6 p0 2 r7 := ⟨_, rfl⟩
  rw [← eG8] at hG
  replace hw := hw G8 eG8
  have hk2 : gK G8 q1 = 35 := by rw [eG8]; exact hk2
  refine lv_icmp_ne (tgt := 50) hx hb dJ17_addLast_42 (by decide) (fun c_ => ?_) (fun c_ => ?_)
  · replace hw := hw.1 c_
    exact gretv hx hb hr hlk hG hw (Nat.le_of_ble_eq_true rfl) (Nat.le_of_ble_eq_true rfl) dJ17_addLast_50
  · replace hw := hw.2 c_
    refine lv_aload_n hx hb dJ17_addLast_45 rfl (lv_at hl 1 rfl) ?_
    refine lv_iconst (v := 1) hx hb dJ17_addLast_46 (by decide) ?_
    refine gc3v hA hG (va_runV (As := [.int 1]) (rest := []) ⟨hx, hb, hml, hown, hts⟩ (gm_J17_grow l E p0 1 _ G8 hw _) (cwV 1 hts (lw_V q992 q994 qs7 q76 q995) rfl rfl rfl hd_J17_grow ⟨Nat.le_of_ble_eq_true rfl, Nat.le_of_ble_eq_true rfl⟩) ⟨gblind, grecv hPF hG (gC_of (gK_mon hG.1.2 h0p0 (by decide)) (by decide)) (by decide) (by decide) rfl, fun U hU hW => gpre hPF hA hG _ U hU hW⟩ rfl rfl hl.1 rfl (lv_room (Nat.le_of_ble_eq_true rfl)) dJ17_addLast_47 ⟨(Nat.le_of_ble_eq_true rfl), (Nat.le_of_ble_eq_true rfl)⟩) (fun G9 H locs hw hmon hG => ?_)
    replace hw := hw hmon
    have hk2 : gK G9 q1 = 35 := gK_mon hmon hk2 (by decide)
    exact gretv hx hb hr hlk hG hw (Nat.le_of_ble_eq_true rfl) (Nat.le_of_ble_eq_true rfl) dJ17_addLast_50
def gw_J17_elementAt (E : gE) (post : Option Nat → Gh → Prop) (p0 : Nat) (p1 : Int32) (G : Gh) : Prop := gC G p0 = 35 ∧ (vp_in p1 (gL G p0) ∧ (post (gR G p0 p1.toNatClampNeg) G))
theorem hd_J17_elementAt : yJ17_elementAt.cls ≠ "java/lang/invoke/MethodHandle" ∧ yJ17_elementAt.cls ≠ "java/lang/invoke/VarHandle" ∧ (parseMethodDescriptor yJ17_elementAt.desc).map (fun d => d.parameters.length) = some 2 := by decide +kernel
set_option maxHeartbeats 1000000 in
set_option maxRecDepth 100000 in
theorem gm_J17_elementAt (l : Launch) (E : gE) (p0 : Nat) (p1 : Int32) (post : Option Nat → Gh → Prop) (G : Gh) (hw : gw_J17_elementAt E post p0 p1 G) : gM l E yJ17_elementAt (ws_ yJ17_elementAt cJ17_elementAt 2 (some (.object "java/lang/Object"))) ({ frames := 0, cells := 0, slots := 0, locals := 0 } : Room) 0 0 [.ref p0, .int p1] G (gpr post) := by
  refine gof (by decide) (Nat.le_of_ble_eq_true rfl) ?_
  intro p e s m below meth c A ls hx hb hr hlk hml hown hin hts hPF hA hG hl
  have hl : lv_has ls 2 [(0, .ref p0), (1, .int p1)] := hl
  unfold gw_J17_elementAt at hw
  obtain ⟨G0, hG0⟩ : ∃ G0, G0 = G := ⟨_, rfl⟩
  have hG : gS E A G0 s.heap G s.heap [] := by rw [hG0]; exact hG
  rw [show gQ E A G (gpr post) = gQ E A G0 (gpr post) by rw [hG0]]
  have h0p0 := hw.1; rw [← hG0] at h0p0
  replace hw := hw.2
  refine lv_aload_n hx hb dJ17_elementAt_0 rfl (lv_at hl 0 rfl) ?_
  refine lv_iload_n hx hb dJ17_elementAt_1 rfl (lv_at hl 1 rfl) ?_
  have hi1 := hw.1
  replace hw := hw.2
  refine glq hx hb hPF hG (gC_mon hG.1.2 h0p0 (by decide)) hi1 rfl dJ17_elementAt_2 ?_
  exact gretr (v := (gR G p0 p1.toNatClampNeg)) hx hb hr hlk hG (Or.inl ⟨_, rfl⟩) hw (Nat.le_of_ble_eq_true rfl) (Nat.le_of_ble_eq_true rfl) dJ17_elementAt_3
def gw_J17_pollFirst (E : gE) (post : Option Nat → Gh → Prop) (p0 : Nat) (G : Gh) : Prop := gK G p0 = 18 ∧ (∃ q1, (gR G p0 0) = some q1 ∧ (gw_J17_elementAt E (fun r3 G2 => gMon G G2 → ((r3 = none → (post r3 G2)) ∧ (∀ q4, r3 = some q4 → (gK G2 q1 = 35 ∧ (vp_in (gI G p0 1) (gL G2 q1) ∧ (∀ G7, G7 = grR G2 q1 (va_up (gR G2 q1) (gI G p0 1).toNatClampNeg none) → (gw_J17_inc E (fun r9 G8 => gMon G7 G8 → (∀ G10, G10 = gsI G8 p0 1 r9 → (post r3 G10))) (gI G p0 1) (nI (gL G7 q1)) G7))))))) q1 (gI G p0 1) G))
theorem hd_J17_pollFirst : yJ17_pollFirst.cls = RJ17 ∧ yJ17_pollFirst.cls ≠ "java/lang/invoke/MethodHandle" ∧ yJ17_pollFirst.cls ≠ "java/lang/invoke/VarHandle" ∧ (parseMethodDescriptor yJ17_pollFirst.desc).map (fun d => d.parameters.length) = some 0 := by decide +kernel
theorem hdn_J17_pollFirst : yJ17_pollFirst.cls ≠ "java/lang/invoke/MethodHandle" ∧ yJ17_pollFirst.cls ≠ "java/lang/invoke/VarHandle" ∧ (parseMethodDescriptor yJ17_pollFirst.desc).map (fun d => d.parameters.length) = some 0 := hd_J17_pollFirst.2
theorem hdu_J17_pollFirst : RJ17 ≠ "java/lang/invoke/MethodHandle" ∧ RJ17 ≠ "java/lang/invoke/VarHandle" ∧ (parseMethodDescriptor yJ17_pollFirst.desc).map (fun d => d.parameters.length) = some 0 := by decide +kernel
theorem hds_J17_pollFirst : yJ17_pollFirst.name ≠ "<init>" ∧ (parseMethodDescriptor yJ17_pollFirst.desc).map (fun d => d.parameters.length) = some 0 := by decide +kernel
set_option maxHeartbeats 1000000 in
set_option maxRecDepth 100000 in
theorem gm_J17_pollFirst (l : Launch) (E : gE) (p0 : Nat) (post : Option Nat → Gh → Prop) (G : Gh) (hw : gw_J17_pollFirst E post p0 G) : gM l E yJ17_pollFirst (ws_ yJ17_pollFirst cJ17_pollFirst 4 (some (.object "java/lang/Object"))) ({ frames := 1, cells := 0, slots := 0, locals := 21 } : Room) 0 0 [.ref p0] G (gpr post) := by
  refine gof (by decide) (Nat.le_of_ble_eq_true rfl) ?_
  intro p e s m below meth c A ls hx hb hr hlk hml hown hin hts hPF hA hG hl
  have hl : lv_has ls 4 [(0, .ref p0)] := hl
  unfold gw_J17_pollFirst at hw
  obtain ⟨G0, hG0⟩ : ∃ G0, G0 = G := ⟨_, rfl⟩
  have hG : gS E A G0 s.heap G s.heap [] := by rw [hG0]; exact hG
  rw [show gQ E A G (gpr post) = gQ E A G0 (gpr post) by rw [hG0]]
  have h0p0 := hw.1; rw [← hG0] at h0p0
  replace hw := hw.2
  refine lv_aload_n hx hb dJ17_pollFirst_0 rfl (lv_at hl 0 rfl) ?_
  refine gg hx hb hts hown hPF hG 18 0 rfl in_J17 (by decide) (by decide) (by decide) q526 (fun _ h9 => h9) (gC_of (gK_mon hG.1.2 h0p0 (by decide)) (by decide)) (v := va_rf (gR G p0 0)) rfl dJ17_pollFirst_1 ?_
  refine lv_dup hx hb dJ17_pollFirst_4 (va_rf_cat _) ?_
  refine gt_n (i := 1) (lv' := [(1, va_rf (gR G p0 0)), (0, .ref p0)]) hx hb dJ17_pollFirst_5 rfl hl (by decide) rfl (fun ls hl => ?_)
  refine lv_aload_n hx hb dJ17_pollFirst_6 rfl (lv_at hl 1 rfl) ?_
  refine gg hx hb hts hown hPF hG 18 1 rfl in_J17 (by decide) (by decide) (by decide) q527 (fun _ h9 => h9) (gC_of (gK_mon hG.1.2 h0p0 (by decide)) (by decide)) (v := .int (gI G p0 1)) rfl dJ17_pollFirst_7 ?_
  refine lv_dup hx hb dJ17_pollFirst_10 rfl ?_
  refine lv_istore_n (i := 2) (lv' := [(2, .int (gI G p0 1)), (1, va_rf (gR G p0 0)), (0, .ref p0)]) hx hb dJ17_pollFirst_11 rfl hl (by decide) (by first | rfl | simp [List.filter, va_rf_cat, gcat_i, gcat_r, gcat_l, gcat_d, gcat_f, gcat_n]) (fun ls hl => ?_)
  obtain ⟨q1, hq1, hw⟩ := hw
  refine W.eq (g2 := F0 m 12 ls [.int (gI G p0 1), .ref q1]) (by rw [hq1]; rfl) ?_
  refine gc3r hA hG (va_runS (As := [.ref q1, .int (gI G p0 1)]) (rest := []) ⟨hx, hb, hml, hown, hts⟩ (gm_J17_elementAt l E q1 (gI G p0 1) _ G hw _) (va_cwS 2 hts (lw_S q980 q981 q76 q982) rfl rfl rfl hd_J17_elementAt ⟨Nat.le_of_ble_eq_true rfl, Nat.le_of_ble_eq_true rfl⟩) ⟨gblind, fun U hU hW => gpre hPF hA hG _ U hU hW⟩ rfl rfl hl.1 rfl (lv_room (Nat.le_of_ble_eq_true rfl)) dJ17_pollFirst_12 ⟨(Nat.le_of_ble_eq_true rfl), (Nat.le_of_ble_eq_true rfl)⟩) (fun r3 G2 H locs hw hmon hG => ?_)
  replace hw := hw hmon
  refine gt_n (i := 3) (lv' := [(3, va_rf r3), (2, .int (gI G p0 1)), (1, va_rf (gR G p0 0)), (0, .ref p0)]) hx hb dJ17_pollFirst_15 rfl hl (by decide) (by first | rfl | simp [List.filter, va_rf_cat, gcat_i, gcat_r, gcat_l, gcat_d, gcat_f, gcat_n]) (fun ls hl => ?_)
  refine ga_n hx hb dJ17_pollFirst_16 rfl (lv_at hl 0 rfl) ?_
  refine gifnull (tgt := 34) hx hb dJ17_pollFirst_17 (by decide) (fun c_ => ?_) (fun q4 hq4 => ?_)
  · replace hw := hw.1 c_
    refine ga_n hx hb dJ17_pollFirst_34 rfl (lv_at hl 0 rfl) ?_
    exact gretr (v := r3) hx hb hr hlk hG (Or.inl ⟨_, rfl⟩) hw (Nat.le_of_ble_eq_true rfl) (Nat.le_of_ble_eq_true rfl) dJ17_pollFirst_35
  · replace hw := hw.2 q4 hq4
    refine ga_n hx hb dJ17_pollFirst_20 rfl (lv_at hl 2 rfl) ?_
    refine lv_iload_n hx hb dJ17_pollFirst_21 rfl (lv_at hl 1 rfl) ?_
    refine lv_null hx hb dJ17_pollFirst_22 ?_
    refine W.eq (g2 := F0 m 23 ls [.null, .int (gI G p0 1), .ref q1]) (by rw [hq1]; rfl) ?_
    have hk5 := hw.1
    replace hw := hw.2
    have hi6 := hw.1
    replace hw := hw.2
    refine gsq (r := none) hx hb hPF hG hk5 hi6 rfl (fun v h => by cases h) dJ17_pollFirst_23 (fun H locs hG => ?_)
    obtain ⟨G7, eG7⟩ : ∃ z, z = grR G2 q1 (va_up (gR G2 q1) (gI G p0 1).toNatClampNeg none) := ⟨_, rfl⟩
    rw [← eG7] at hG
    replace hw := hw G7 eG7
    have hk5 : gK G7 q1 = 35 := by rw [eG7]; exact hk5
    refine lv_aload_n hx hb dJ17_pollFirst_24 rfl (lv_at hl 3 rfl) ?_
    refine lv_iload_n hx hb dJ17_pollFirst_25 rfl (lv_at hl 1 rfl) ?_
    refine ga_n hx hb dJ17_pollFirst_26 rfl (lv_at hl 2 rfl) ?_
    refine W.eq (g2 := F0 m 27 ls [.ref q1, .int (gI G p0 1), .ref p0]) (by rw [hq1]; rfl) ?_
    refine galen hx hb hPF hG (gC_of hk5 (by decide)) (by decide) (by decide) dJ17_pollFirst_27 ?_
    refine gc3i hA hG (va_runS (As := [.int (gI G p0 1), .int (nI (gL G7 q1))]) (rest := [.ref p0]) ⟨hx, hb, hml, hown, hts⟩ (gm_J17_inc l E (gI G p0 1) (nI (gL G7 q1)) _ G7 hw _) (va_cwS 2 hts (lw_S q983 q984 q76 q985) rfl rfl rfl hd_J17_inc ⟨Nat.le_of_ble_eq_true rfl, Nat.le_of_ble_eq_true rfl⟩) ⟨gblind, fun U hU hW => gpre hPF hA hG _ U hU hW⟩ rfl rfl hl.1 rfl (lv_room (Nat.le_of_ble_eq_true rfl)) dJ17_pollFirst_28 ⟨(Nat.le_of_ble_eq_true rfl), (Nat.le_of_ble_eq_true rfl)⟩) (fun r9 G8 H locs hw hmon hG => ?_)
    replace hw := hw hmon
    have hk5 : gK G8 q1 = 35 := gK_mon hmon hk5 (by decide)
    refine gp hx hb hts hown hPF hG 18 1 rfl in_J17 tyJ17 tyJ17_ok nmJ17 (by decide) (by decide) (by decide) q527 (fun _ h9 => h9) rfl (gK_mon hG.1.2 h0p0 (by decide)) (v := .int r9) rfl rfl (G' := gsI G8 p0 1 r9) rfl rfl grI_off (Nat.le_of_ble_eq_true rfl) (gFs_I 18 1 (fun _ _ _ => rfl)) dJ17_pollFirst_31 (fun H locs hG => ?_)
    obtain ⟨G10, eG10⟩ : ∃ z, z = gsI G8 p0 1 r9 := ⟨_, rfl⟩
    rw [← eG10] at hG
    replace hw := hw G10 eG10
    have hk5 : gK G10 q1 = 35 := by rw [eG10]; exact hk5
    refine ga_n hx hb dJ17_pollFirst_34 rfl (lv_at hl 0 rfl) ?_
    exact gretr (v := r3) hx hb hr hlk hG (Or.inl ⟨_, rfl⟩) hw (Nat.le_of_ble_eq_true rfl) (Nat.le_of_ble_eq_true rfl) dJ17_pollFirst_35
def gw_J17_removeFirst (E : gE) (post : Option Nat → Gh → Prop) (p0 : Nat) (G : Gh) : Prop := gK G p0 = 18 ∧ (gw_J17_pollFirst E (fun r2 G1 => gMon G G1 → ((r2 = none → (False)) ∧ (∀ q3, r2 = some q3 → (post r2 G1)))) p0 G)
theorem hd_J17_removeFirst : yJ17_removeFirst.cls = RJ17 ∧ yJ17_removeFirst.cls ≠ "java/lang/invoke/MethodHandle" ∧ yJ17_removeFirst.cls ≠ "java/lang/invoke/VarHandle" ∧ (parseMethodDescriptor yJ17_removeFirst.desc).map (fun d => d.parameters.length) = some 0 := by decide +kernel
theorem hdn_J17_removeFirst : yJ17_removeFirst.cls ≠ "java/lang/invoke/MethodHandle" ∧ yJ17_removeFirst.cls ≠ "java/lang/invoke/VarHandle" ∧ (parseMethodDescriptor yJ17_removeFirst.desc).map (fun d => d.parameters.length) = some 0 := hd_J17_removeFirst.2
theorem hdu_J17_removeFirst : RJ17 ≠ "java/lang/invoke/MethodHandle" ∧ RJ17 ≠ "java/lang/invoke/VarHandle" ∧ (parseMethodDescriptor yJ17_removeFirst.desc).map (fun d => d.parameters.length) = some 0 := by decide +kernel
theorem hds_J17_removeFirst : yJ17_removeFirst.name ≠ "<init>" ∧ (parseMethodDescriptor yJ17_removeFirst.desc).map (fun d => d.parameters.length) = some 0 := by decide +kernel
set_option maxHeartbeats 1000000 in
set_option maxRecDepth 100000 in
theorem gm_J17_removeFirst (l : Launch) (E : gE) (p0 : Nat) (post : Option Nat → Gh → Prop) (G : Gh) (hw : gw_J17_removeFirst E post p0 G) : gM l E yJ17_removeFirst (ws_ yJ17_removeFirst cJ17_removeFirst 2 (some (.object "java/lang/Object"))) ({ frames := 2, cells := 0, slots := 0, locals := 44 } : Room) 0 0 [.ref p0] G (gpr post) := by
  refine gof (by decide) (Nat.le_of_ble_eq_true rfl) ?_
  intro p e s m below meth c A ls hx hb hr hlk hml hown hin hts hPF hA hG hl
  have hl : lv_has ls 2 [(0, .ref p0)] := hl
  unfold gw_J17_removeFirst at hw
  obtain ⟨G0, hG0⟩ : ∃ G0, G0 = G := ⟨_, rfl⟩
  have hG : gS E A G0 s.heap G s.heap [] := by rw [hG0]; exact hG
  rw [show gQ E A G (gpr post) = gQ E A G0 (gpr post) by rw [hG0]]
  have h0p0 := hw.1; rw [← hG0] at h0p0
  replace hw := hw.2
  refine lv_aload_n hx hb dJ17_removeFirst_0 rfl (lv_at hl 0 rfl) ?_
  refine gc3r hA hG (va_runV (As := []) (rest := []) ⟨hx, hb, hml, hown, hts⟩ (gm_J17_pollFirst l E p0 _ G hw _) (cwV 0 hts (lw_V q976 q977 q978 q76 q979) rfl rfl rfl hd_J17_pollFirst ⟨Nat.le_of_ble_eq_true rfl, Nat.le_of_ble_eq_true rfl⟩) ⟨gblind, grecv hPF hG (gC_of (gK_mon hG.1.2 h0p0 (by decide)) (by decide)) (by decide) (by decide) rfl, fun U hU hW => gpre hPF hA hG _ U hU hW⟩ rfl rfl hl.1 rfl (lv_room (Nat.le_of_ble_eq_true rfl)) dJ17_removeFirst_1 ⟨(Nat.le_of_ble_eq_true rfl), (Nat.le_of_ble_eq_true rfl)⟩) (fun r2 G1 H locs hw hmon hG => ?_)
  replace hw := hw hmon
  refine gt_n (i := 1) (lv' := [(1, va_rf r2), (0, .ref p0)]) hx hb dJ17_removeFirst_4 rfl hl (by decide) rfl (fun ls hl => ?_)
  refine ga_n hx hb dJ17_removeFirst_5 rfl (lv_at hl 0 rfl) ?_
  refine gifnonnull (tgt := 17) hx hb dJ17_removeFirst_6 (by decide) (fun q3 hq3 => ?_) (fun c_ => ?_)
  · replace hw := hw.2 q3 hq3
    refine ga_n hx hb dJ17_removeFirst_17 rfl (lv_at hl 0 rfl) ?_
    exact gretr (v := r2) hx hb hr hlk hG (Or.inl ⟨_, rfl⟩) hw (Nat.le_of_ble_eq_true rfl) (Nat.le_of_ble_eq_true rfl) dJ17_removeFirst_18
  · replace hw := hw.1 c_
    exact hw.elim
def gw_J17_dec (E : gE) (post : Int32 → Gh → Prop) (p0 : Int32) (p1 : Int32) (G : Gh) : Prop := (0 ≤ (p0 + (-1)) → (post (p0 + (-1)) G)) ∧ (¬ 0 ≤ (p0 + (-1)) → (post (p1 - 1) G))
theorem hd_J17_dec : yJ17_dec.cls ≠ "java/lang/invoke/MethodHandle" ∧ yJ17_dec.cls ≠ "java/lang/invoke/VarHandle" ∧ (parseMethodDescriptor yJ17_dec.desc).map (fun d => d.parameters.length) = some 2 := by decide +kernel
set_option maxHeartbeats 1000000 in
set_option maxRecDepth 100000 in
theorem gm_J17_dec (l : Launch) (E : gE) (p0 : Int32) (p1 : Int32) (post : Int32 → Gh → Prop) (G : Gh) (hw : gw_J17_dec E post p0 p1 G) : gM l E yJ17_dec (ws_ yJ17_dec cJ17_dec 2 (some .int)) ({ frames := 0, cells := 0, slots := 0, locals := 0 } : Room) 0 0 [.int p0, .int p1] G (gpi post) := by
  refine gof (by decide) (Nat.le_of_ble_eq_true rfl) ?_
  intro p e s m below meth c A ls hx hb hr hlk hml hown hin hts hPF hA hG hl
  have hl : lv_has ls 2 [(0, .int p0), (1, .int p1)] := hl
  unfold gw_J17_dec at hw
  obtain ⟨G0, hG0⟩ : ∃ G0, G0 = G := ⟨_, rfl⟩
  have hG : gS E A G0 s.heap G s.heap [] := by rw [hG0]; exact hG
  rw [show gQ E A G (gpi post) = gQ E A G0 (gpi post) by rw [hG0]]
  refine lv_iinc (v := p0 + (-1)) (lv' := [(0, .int (p0 + (-1))), (1, .int p1)]) hx hb dJ17_dec_0 hl (k := 0) rfl rfl (by decide) rfl (fun ls hl => ?_)
  refine lv_iload_n hx hb dJ17_dec_3 rfl (lv_at hl 0 rfl) ?_
  refine lv_if_ge (tgt := 11) hx hb dJ17_dec_4 (by decide) (fun c_ => ?_) (fun c_ => ?_)
  · replace hw := hw.1 c_
    refine lv_iload_n hx hb dJ17_dec_11 rfl (lv_at hl 0 rfl) ?_
    exact greti hx hb hr hlk hG rfl hw (Nat.le_of_ble_eq_true rfl) (Nat.le_of_ble_eq_true rfl) dJ17_dec_12
  · replace hw := hw.2 c_
    refine lv_iload_n hx hb dJ17_dec_7 rfl (lv_at hl 1 rfl) ?_
    refine lv_iconst (v := 1) hx hb dJ17_dec_8 (by decide) ?_
    refine lv_isub hx hb dJ17_dec_9 ?_
    refine lv_istore_n (i := 0) (lv' := [(0, .int (p1 - 1)), (1, .int p1)]) hx hb dJ17_dec_10 rfl hl (by decide) rfl (fun ls hl => ?_)
    refine lv_iload_n hx hb dJ17_dec_11 rfl (lv_at hl 0 rfl) ?_
    exact greti hx hb hr hlk hG rfl hw (Nat.le_of_ble_eq_true rfl) (Nat.le_of_ble_eq_true rfl) dJ17_dec_12
def gw_J17_pollLast (E : gE) (post : Option Nat → Gh → Prop) (p0 : Nat) (G : Gh) : Prop := gK G p0 = 18 ∧ (∃ q1, (gR G p0 0) = some q1 ∧ (gC G q1 = 35 ∧ (gw_J17_dec E (fun r4 G3 => gMon G G3 → (gw_J17_elementAt E (fun r6 G5 => gMon G3 G5 → ((r6 = none → (post r6 G5)) ∧ (∀ q7, r6 = some q7 → (∀ G8, G8 = gsI G5 p0 2 r4 → (gK G8 q1 = 35 ∧ (vp_in r4 (gL G8 q1) ∧ (∀ G11, G11 = grR G8 q1 (va_up (gR G8 q1) r4.toNatClampNeg none) → (post r6 G11)))))))) q1 r4 G3)) (gI G p0 2) (nI (gL G q1)) G)))
theorem hd_J17_pollLast : yJ17_pollLast.cls = RJ17 ∧ yJ17_pollLast.cls ≠ "java/lang/invoke/MethodHandle" ∧ yJ17_pollLast.cls ≠ "java/lang/invoke/VarHandle" ∧ (parseMethodDescriptor yJ17_pollLast.desc).map (fun d => d.parameters.length) = some 0 := by decide +kernel
theorem hdn_J17_pollLast : yJ17_pollLast.cls ≠ "java/lang/invoke/MethodHandle" ∧ yJ17_pollLast.cls ≠ "java/lang/invoke/VarHandle" ∧ (parseMethodDescriptor yJ17_pollLast.desc).map (fun d => d.parameters.length) = some 0 := hd_J17_pollLast.2
theorem hdu_J17_pollLast : RJ17 ≠ "java/lang/invoke/MethodHandle" ∧ RJ17 ≠ "java/lang/invoke/VarHandle" ∧ (parseMethodDescriptor yJ17_pollLast.desc).map (fun d => d.parameters.length) = some 0 := by decide +kernel
theorem hds_J17_pollLast : yJ17_pollLast.name ≠ "<init>" ∧ (parseMethodDescriptor yJ17_pollLast.desc).map (fun d => d.parameters.length) = some 0 := by decide +kernel
set_option maxHeartbeats 1000000 in
set_option maxRecDepth 100000 in
theorem gm_J17_pollLast (l : Launch) (E : gE) (p0 : Nat) (post : Option Nat → Gh → Prop) (G : Gh) (hw : gw_J17_pollLast E post p0 G) : gM l E yJ17_pollLast (ws_ yJ17_pollLast cJ17_pollLast 4 (some (.object "java/lang/Object"))) ({ frames := 1, cells := 0, slots := 0, locals := 21 } : Room) 0 0 [.ref p0] G (gpr post) := by
  refine gof (by decide) (Nat.le_of_ble_eq_true rfl) ?_
  intro p e s m below meth c A ls hx hb hr hlk hml hown hin hts hPF hA hG hl
  have hl : lv_has ls 4 [(0, .ref p0)] := hl
  unfold gw_J17_pollLast at hw
  obtain ⟨G0, hG0⟩ : ∃ G0, G0 = G := ⟨_, rfl⟩
  have hG : gS E A G0 s.heap G s.heap [] := by rw [hG0]; exact hG
  rw [show gQ E A G (gpr post) = gQ E A G0 (gpr post) by rw [hG0]]
  have h0p0 := hw.1; rw [← hG0] at h0p0
  replace hw := hw.2
  refine lv_aload_n hx hb dJ17_pollLast_0 rfl (lv_at hl 0 rfl) ?_
  refine gg hx hb hts hown hPF hG 18 0 rfl in_J17 (by decide) (by decide) (by decide) q526 (fun _ h9 => h9) (gC_of (gK_mon hG.1.2 h0p0 (by decide)) (by decide)) (v := va_rf (gR G p0 0)) rfl dJ17_pollLast_1 ?_
  refine lv_dup hx hb dJ17_pollLast_4 (va_rf_cat _) ?_
  refine gt_n (i := 1) (lv' := [(1, va_rf (gR G p0 0)), (0, .ref p0)]) hx hb dJ17_pollLast_5 rfl hl (by decide) rfl (fun ls hl => ?_)
  refine lv_aload_n hx hb dJ17_pollLast_6 rfl (lv_at hl 1 rfl) ?_
  refine gg hx hb hts hown hPF hG 18 2 rfl in_J17 (by decide) (by decide) (by decide) q528 (fun _ h9 => h9) (gC_of (gK_mon hG.1.2 h0p0 (by decide)) (by decide)) (v := .int (gI G p0 2)) rfl dJ17_pollLast_7 ?_
  refine ga_n hx hb dJ17_pollLast_10 rfl (lv_at hl 0 rfl) ?_
  obtain ⟨q1, hq1, hw⟩ := hw
  refine W.eq (g2 := F0 m 11 ls [.ref q1, .int (gI G p0 2), va_rf (gR G p0 0)]) (by rw [hq1]; rfl) ?_
  have hk2 := hw.1
  replace hw := hw.2
  refine galen hx hb hPF hG hk2 (by decide) (by decide) dJ17_pollLast_11 ?_
  refine gc3i hA hG (va_runS (As := [.int (gI G p0 2), .int (nI (gL G q1))]) (rest := [va_rf (gR G p0 0)]) ⟨hx, hb, hml, hown, hts⟩ (gm_J17_dec l E (gI G p0 2) (nI (gL G q1)) _ G hw _) (va_cwS 2 hts (lw_S q1913 q1914 q76 q1915) rfl rfl rfl hd_J17_dec ⟨Nat.le_of_ble_eq_true rfl, Nat.le_of_ble_eq_true rfl⟩) ⟨gblind, fun U hU hW => gpre hPF hA hG _ U hU hW⟩ rfl rfl hl.1 rfl (lv_room (by (try simp only [List.map, va_rf_cat, gcat_i, gcat_r, gcat_l, gcat_d, gcat_f, gcat_n]); exact Nat.le_of_ble_eq_true rfl)) dJ17_pollLast_12 ⟨(Nat.le_of_ble_eq_true rfl), (Nat.le_of_ble_eq_true rfl)⟩) (fun r4 G3 H locs hw hmon hG => ?_)
  replace hw := hw hmon
  have hk2 : gC G3 q1 = 35 := gC_mon hmon hk2 (by decide)
  refine lv_dup hx hb dJ17_pollLast_15 rfl ?_
  refine lv_istore_n (i := 2) (lv' := [(2, .int r4), (1, va_rf (gR G p0 0)), (0, .ref p0)]) hx hb dJ17_pollLast_16 rfl hl (by decide) (by first | rfl | simp [List.filter, va_rf_cat, gcat_i, gcat_r, gcat_l, gcat_d, gcat_f, gcat_n]) (fun ls hl => ?_)
  refine W.eq (g2 := F0 m 17 ls [.int r4, .ref q1]) (by rw [hq1]; rfl) ?_
  refine gc3r hA hG (va_runS (As := [.ref q1, .int r4]) (rest := []) ⟨hx, hb, hml, hown, hts⟩ (gm_J17_elementAt l E q1 r4 _ G3 hw _) (va_cwS 2 hts (lw_S q980 q981 q76 q982) rfl rfl rfl hd_J17_elementAt ⟨Nat.le_of_ble_eq_true rfl, Nat.le_of_ble_eq_true rfl⟩) ⟨gblind, fun U hU hW => gpre hPF hA hG _ U hU hW⟩ rfl rfl hl.1 rfl (lv_room (Nat.le_of_ble_eq_true rfl)) dJ17_pollLast_17 ⟨(Nat.le_of_ble_eq_true rfl), (Nat.le_of_ble_eq_true rfl)⟩) (fun r6 G5 H locs hw hmon hG => ?_)
  replace hw := hw hmon
  have hk2 : gC G5 q1 = 35 := gC_mon hmon hk2 (by decide)
  refine gt_n (i := 3) (lv' := [(3, va_rf r6), (2, .int r4), (1, va_rf (gR G p0 0)), (0, .ref p0)]) hx hb dJ17_pollLast_20 rfl hl (by decide) (by first | rfl | simp [List.filter, va_rf_cat, gcat_i, gcat_r, gcat_l, gcat_d, gcat_f, gcat_n]) (fun ls hl => ?_)
  refine ga_n hx hb dJ17_pollLast_21 rfl (lv_at hl 0 rfl) ?_
  refine gifnull (tgt := 34) hx hb dJ17_pollLast_22 (by decide) (fun c_ => ?_) (fun q7 hq7 => ?_)
  · replace hw := hw.1 c_
    refine ga_n hx hb dJ17_pollLast_34 rfl (lv_at hl 0 rfl) ?_
    exact gretr (v := r6) hx hb hr hlk hG (Or.inl ⟨_, rfl⟩) hw (Nat.le_of_ble_eq_true rfl) (Nat.le_of_ble_eq_true rfl) dJ17_pollLast_35
  · replace hw := hw.2 q7 hq7
    refine ga_n hx hb dJ17_pollLast_25 rfl (lv_at hl 2 rfl) ?_
    refine lv_aload_n hx hb dJ17_pollLast_26 rfl (lv_at hl 3 rfl) ?_
    refine lv_iload_n hx hb dJ17_pollLast_27 rfl (lv_at hl 1 rfl) ?_
    refine lv_dup_x1 hx hb dJ17_pollLast_28 rfl rfl ?_
    refine gp hx hb hts hown hPF hG 18 2 rfl in_J17 tyJ17 tyJ17_ok nmJ17 (by decide) (by decide) (by decide) q528 (fun _ h9 => h9) rfl (gK_mon hG.1.2 h0p0 (by decide)) (v := .int r4) rfl rfl (G' := gsI G5 p0 2 r4) rfl rfl grI_off (Nat.le_of_ble_eq_true rfl) (gFs_I 18 2 (fun _ _ _ => rfl)) dJ17_pollLast_29 (fun H locs hG => ?_)
    obtain ⟨G8, eG8⟩ : ∃ z, z = gsI G5 p0 2 r4 := ⟨_, rfl⟩
    rw [← eG8] at hG
    replace hw := hw G8 eG8
    have hk2 : gC G8 q1 = 35 := by rw [eG8]; exact hk2
    refine lv_null hx hb dJ17_pollLast_32 ?_
    refine W.eq (g2 := F0 m 33 ls [.null, .int r4, .ref q1]) (by rw [hq1]; rfl) ?_
    have hk9 := hw.1
    replace hw := hw.2
    have hi10 := hw.1
    replace hw := hw.2
    refine gsq (r := none) hx hb hPF hG hk9 hi10 rfl (fun v h => by cases h) dJ17_pollLast_33 (fun H locs hG => ?_)
    obtain ⟨G11, eG11⟩ : ∃ z, z = grR G8 q1 (va_up (gR G8 q1) r4.toNatClampNeg none) := ⟨_, rfl⟩
    rw [← eG11] at hG
    replace hw := hw G11 eG11
    have hk2 : gC G11 q1 = 35 := by rw [eG11]; exact hk2
    have hk9 : gK G11 q1 = 35 := by rw [eG11]; exact hk9
    refine ga_n hx hb dJ17_pollLast_34 rfl (lv_at hl 0 rfl) ?_
    exact gretr (v := r6) hx hb hr hlk hG (Or.inl ⟨_, rfl⟩) hw (Nat.le_of_ble_eq_true rfl) (Nat.le_of_ble_eq_true rfl) dJ17_pollLast_35
def gw_J17_removeLast (E : gE) (post : Option Nat → Gh → Prop) (p0 : Nat) (G : Gh) : Prop := gK G p0 = 18 ∧ (gw_J17_pollLast E (fun r2 G1 => gMon G G1 → ((r2 = none → (False)) ∧ (∀ q3, r2 = some q3 → (post r2 G1)))) p0 G)
theorem hd_J17_removeLast : yJ17_removeLast.cls = RJ17 ∧ yJ17_removeLast.cls ≠ "java/lang/invoke/MethodHandle" ∧ yJ17_removeLast.cls ≠ "java/lang/invoke/VarHandle" ∧ (parseMethodDescriptor yJ17_removeLast.desc).map (fun d => d.parameters.length) = some 0 := by decide +kernel
theorem hdn_J17_removeLast : yJ17_removeLast.cls ≠ "java/lang/invoke/MethodHandle" ∧ yJ17_removeLast.cls ≠ "java/lang/invoke/VarHandle" ∧ (parseMethodDescriptor yJ17_removeLast.desc).map (fun d => d.parameters.length) = some 0 := hd_J17_removeLast.2
theorem hdu_J17_removeLast : RJ17 ≠ "java/lang/invoke/MethodHandle" ∧ RJ17 ≠ "java/lang/invoke/VarHandle" ∧ (parseMethodDescriptor yJ17_removeLast.desc).map (fun d => d.parameters.length) = some 0 := by decide +kernel
theorem hds_J17_removeLast : yJ17_removeLast.name ≠ "<init>" ∧ (parseMethodDescriptor yJ17_removeLast.desc).map (fun d => d.parameters.length) = some 0 := by decide +kernel
set_option maxHeartbeats 1000000 in
set_option maxRecDepth 100000 in
theorem gm_J17_removeLast (l : Launch) (E : gE) (p0 : Nat) (post : Option Nat → Gh → Prop) (G : Gh) (hw : gw_J17_removeLast E post p0 G) : gM l E yJ17_removeLast (ws_ yJ17_removeLast cJ17_removeLast 2 (some (.object "java/lang/Object"))) ({ frames := 2, cells := 0, slots := 0, locals := 44 } : Room) 0 0 [.ref p0] G (gpr post) := by
  refine gof (by decide) (Nat.le_of_ble_eq_true rfl) ?_
  intro p e s m below meth c A ls hx hb hr hlk hml hown hin hts hPF hA hG hl
  have hl : lv_has ls 2 [(0, .ref p0)] := hl
  unfold gw_J17_removeLast at hw
  obtain ⟨G0, hG0⟩ : ∃ G0, G0 = G := ⟨_, rfl⟩
  have hG : gS E A G0 s.heap G s.heap [] := by rw [hG0]; exact hG
  rw [show gQ E A G (gpr post) = gQ E A G0 (gpr post) by rw [hG0]]
  have h0p0 := hw.1; rw [← hG0] at h0p0
  replace hw := hw.2
  refine lv_aload_n hx hb dJ17_removeLast_0 rfl (lv_at hl 0 rfl) ?_
  refine gc3r hA hG (va_runV (As := []) (rest := []) ⟨hx, hb, hml, hown, hts⟩ (gm_J17_pollLast l E p0 _ G hw _) (cwV 0 hts (lw_V q1909 q1910 q1911 q76 q1912) rfl rfl rfl hd_J17_pollLast ⟨Nat.le_of_ble_eq_true rfl, Nat.le_of_ble_eq_true rfl⟩) ⟨gblind, grecv hPF hG (gC_of (gK_mon hG.1.2 h0p0 (by decide)) (by decide)) (by decide) (by decide) rfl, fun U hU hW => gpre hPF hA hG _ U hU hW⟩ rfl rfl hl.1 rfl (lv_room (Nat.le_of_ble_eq_true rfl)) dJ17_removeLast_1 ⟨(Nat.le_of_ble_eq_true rfl), (Nat.le_of_ble_eq_true rfl)⟩) (fun r2 G1 H locs hw hmon hG => ?_)
  replace hw := hw hmon
  refine gt_n (i := 1) (lv' := [(1, va_rf r2), (0, .ref p0)]) hx hb dJ17_removeLast_4 rfl hl (by decide) rfl (fun ls hl => ?_)
  refine ga_n hx hb dJ17_removeLast_5 rfl (lv_at hl 0 rfl) ?_
  refine gifnonnull (tgt := 17) hx hb dJ17_removeLast_6 (by decide) (fun q3 hq3 => ?_) (fun c_ => ?_)
  · replace hw := hw.2 q3 hq3
    refine ga_n hx hb dJ17_removeLast_17 rfl (lv_at hl 0 rfl) ?_
    exact gretr (v := r2) hx hb hr hlk hG (Or.inl ⟨_, rfl⟩) hw (Nat.le_of_ble_eq_true rfl) (Nat.le_of_ble_eq_true rfl) dJ17_removeLast_18
  · replace hw := hw.1 c_
    exact hw.elim
