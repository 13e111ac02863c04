/-! walks over the ghost heap: walkS -/
set_option maxRecDepth 100000
def gw_J9_coder (E : gE) (post : Int32 → Gh → Prop) (p0 : Nat) (G : Gh) : Prop := gC G p0 = 17 ∧ (narrow .byte (.int (gI G p0 1)) = .int (gI G p0 1) ∧ (post (gI G p0 1) G))
theorem hd_J9_coder : yJ9_coder.cls = RJ9 ∧ yJ9_coder.cls ≠ "java/lang/invoke/MethodHandle" ∧ yJ9_coder.cls ≠ "java/lang/invoke/VarHandle" ∧ (parseMethodDescriptor yJ9_coder.desc).map (fun d => d.parameters.length) = some 0 := by decide +kernel
theorem hdn_J9_coder : yJ9_coder.cls ≠ "java/lang/invoke/MethodHandle" ∧ yJ9_coder.cls ≠ "java/lang/invoke/VarHandle" ∧ (parseMethodDescriptor yJ9_coder.desc).map (fun d => d.parameters.length) = some 0 := hd_J9_coder.2
theorem hdu_J9_coder : RJ9 ≠ "java/lang/invoke/MethodHandle" ∧ RJ9 ≠ "java/lang/invoke/VarHandle" ∧ (parseMethodDescriptor yJ9_coder.desc).map (fun d => d.parameters.length) = some 0 := by decide +kernel
theorem hds_J9_coder : yJ9_coder.name ≠ "<init>" ∧ (parseMethodDescriptor yJ9_coder.desc).map (fun d => d.parameters.length) = some 0 := by decide +kernel
set_option maxHeartbeats 1000000 in
set_option maxRecDepth 100000 in
theorem gm_J9_coder (l : Launch) (E : gE) (p0 : Nat) (post : Int32 → Gh → Prop) (G : Gh) (hw : gw_J9_coder E post p0 G) : gM l E yJ9_coder (ws_ yJ9_coder cJ9_coder 1 (some .byte)) ({ frames := 0, cells := 0, slots := 0, locals := 0 } : Room) 0 0 [.ref p0] G (gpi post) := by
  refine gof (by decide) (Nat.le_of_ble_eq_true rfl) ?_
  intro p e s m below meth c A ls hx hb hr hlk hml hown hin hts hPF hA hG hl
  have hl : lv_has ls 1 [(0, .ref p0)] := hl
  unfold gw_J9_coder at hw
  obtain ⟨G0, hG0⟩ : ∃ G0, G0 = G := ⟨_, rfl⟩
  have hG : gS E A G0 s.heap G s.heap [] := by rw [hG0]; exact hG
  rw [show gQ E A G (gpi post) = gQ E A G0 (gpi post) by rw [hG0]]
  have h0p0 := hw.1; rw [← hG0] at h0p0
  replace hw := hw.2
  refine va_gets (v := .int 1) hx hb (hPF.z 0 rfl) hG.2 hown (hts _ q294) (fun _ h9 => h9) dJ9_coder_0 ?_
  refine lv_if_eq (tgt := 13) hx hb dJ9_coder_3 (by decide) (fun c_ => absurd c_ (by decide)) (fun c_ => ?_)
  refine lv_aload_n hx hb dJ9_coder_6 rfl (lv_at hl 0 rfl) ?_
  refine gg hx hb hts hown hPF hG 17 1 rfl in_J9b (by decide) (by decide) (by decide) q436 (fun _ h9 => h9) (gC_mon hG.1.2 h0p0 (by decide)) (v := .int (gI G p0 1)) rfl dJ9_coder_7 ?_
  refine lv_goto (tgt := 14) hx hb dJ9_coder_10 (by decide) ?_
  have hn_ := hw.1
  replace hw := hw.2
  exact greti hx hb hr hlk hG hn_ hw (Nat.le_of_ble_eq_true rfl) (Nat.le_of_ble_eq_true rfl) dJ9_coder_14
def gw_J9_length (E : gE) (post : Int32 → Gh → Prop) (p0 : Nat) (G : Gh) : Prop := gC G p0 = 17 ∧ (∃ q1, (gR G p0 0) = some q1 ∧ (gC G q1 = 32 ∧ (gw_J9_coder E (fun r4 G3 => gMon G G3 → (post ((nI (gL G q1)) >>> (r4 &&& 31)) G3)) p0 G)))
theorem hd_J9_length : yJ9_length.cls = RJ9 ∧ yJ9_length.cls ≠ "java/lang/invoke/MethodHandle" ∧ yJ9_length.cls ≠ "java/lang/invoke/VarHandle" ∧ (parseMethodDescriptor yJ9_length.desc).map (fun d => d.parameters.length) = some 0 := by decide +kernel
theorem hdn_J9_length : yJ9_length.cls ≠ "java/lang/invoke/MethodHandle" ∧ yJ9_length.cls ≠ "java/lang/invoke/VarHandle" ∧ (parseMethodDescriptor yJ9_length.desc).map (fun d => d.parameters.length) = some 0 := hd_J9_length.2
theorem hdu_J9_length : RJ9 ≠ "java/lang/invoke/MethodHandle" ∧ RJ9 ≠ "java/lang/invoke/VarHandle" ∧ (parseMethodDescriptor yJ9_length.desc).map (fun d => d.parameters.length) = some 0 := by decide +kernel
theorem hds_J9_length : yJ9_length.name ≠ "<init>" ∧ (parseMethodDescriptor yJ9_length.desc).map (fun d => d.parameters.length) = some 0 := by decide +kernel
set_option maxHeartbeats 1000000 in
set_option maxRecDepth 100000 in
theorem gm_J9_length (l : Launch) (E : gE) (p0 : Nat) (post : Int32 → Gh → Prop) (G : Gh) (hw : gw_J9_length E post p0 G) : gM l E yJ9_length (ws_ yJ9_length cJ9_length 1 (some .int)) ({ frames := 1, cells := 0, slots := 0, locals := 20 } : Room) 0 0 [.ref p0] G (gpi post) := by
  refine gof (by decide) (Nat.le_of_ble_eq_true rfl) ?_
  intro p e s m below meth c A ls hx hb hr hlk hml hown hin hts hPF hA hG hl
  have hl : lv_has ls 1 [(0, .ref p0)] := hl
  unfold gw_J9_length at hw
  obtain ⟨G0, hG0⟩ : ∃ G0, G0 = G := ⟨_, rfl⟩
  have hG : gS E A G0 s.heap G s.heap [] := by rw [hG0]; exact hG
  rw [show gQ E A G (gpi post) = gQ E A G0 (gpi post) by rw [hG0]]
  have h0p0 := hw.1; rw [← hG0] at h0p0
  replace hw := hw.2
  refine lv_aload_n hx hb dJ9_length_0 rfl (lv_at hl 0 rfl) ?_
  refine gg hx hb hts hown hPF hG 17 0 rfl in_J9b (by decide) (by decide) (by decide) q435 (fun _ h9 => h9) (gC_mon hG.1.2 h0p0 (by decide)) (v := va_rf (gR G p0 0)) rfl dJ9_length_1 ?_
  obtain ⟨q1, hq1, hw⟩ := hw
  refine W.eq (g2 := F0 m 4 ls [.ref q1]) (by rw [hq1]; rfl) ?_
  have hk2 := hw.1
  replace hw := hw.2
  refine galen hx hb hPF hG hk2 (by decide) (by decide) dJ9_length_4 ?_
  refine lv_aload_n hx hb dJ9_length_5 rfl (lv_at hl 0 rfl) ?_
  refine gc3i hA hG (va_runV (As := []) (rest := [.int (nI (gL G q1))]) ⟨hx, hb, hml, hown, hts⟩ (gm_J9_coder l E p0 _ G hw _) (cwV 0 hts (lw_V q290 q291 q292 q66 q293) rfl rfl rfl hd_J9_coder ⟨Nat.le_of_ble_eq_true rfl, Nat.le_of_ble_eq_true rfl⟩) ⟨gblind, grecv hPF hG (gC_mon hG.1.2 h0p0 (by decide)) (by decide) (by decide) rfl, fun U hU hW => gpre hPF hA hG _ U hU hW⟩ rfl rfl hl.1 rfl (lv_room (Nat.le_of_ble_eq_true rfl)) dJ9_length_6 ⟨(Nat.le_of_ble_eq_true rfl), (Nat.le_of_ble_eq_true rfl)⟩) (fun r4 G3 H locs hw hmon hG => ?_)
  replace hw := hw hmon
  have hk2 : gC G3 q1 = 32 := gC_mon hmon hk2 (by decide)
  refine lv_ishr hx hb dJ9_length_9 ?_
  exact greti hx hb hr hlk hG rfl hw (Nat.le_of_ble_eq_true rfl) (Nat.le_of_ble_eq_true rfl) dJ9_length_10
def gw_J9_isLatin1 (E : gE) (post : Int32 → Gh → Prop) (p0 : Nat) (G : Gh) : Prop := gC G p0 = 17 ∧ ((¬ (gI G p0 1) = 0 → (post 0 G)) ∧ ((gI G p0 1) = 0 → (post 1 G)))
theorem hd_J9_isLatin1 : yJ9_isLatin1.cls = RJ9 ∧ yJ9_isLatin1.cls ≠ "java/lang/invoke/MethodHandle" ∧ yJ9_isLatin1.cls ≠ "java/lang/invoke/VarHandle" ∧ (parseMethodDescriptor yJ9_isLatin1.desc).map (fun d => d.parameters.length) = some 0 := by decide +kernel
theorem hdn_J9_isLatin1 : yJ9_isLatin1.cls ≠ "java/lang/invoke/MethodHandle" ∧ yJ9_isLatin1.cls ≠ "java/lang/invoke/VarHandle" ∧ (parseMethodDescriptor yJ9_isLatin1.desc).map (fun d => d.parameters.length) = some 0 := hd_J9_isLatin1.2
theorem hdu_J9_isLatin1 : RJ9 ≠ "java/lang/invoke/MethodHandle" ∧ RJ9 ≠ "java/lang/invoke/VarHandle" ∧ (parseMethodDescriptor yJ9_isLatin1.desc).map (fun d => d.parameters.length) = some 0 := by decide +kernel
theorem hds_J9_isLatin1 : yJ9_isLatin1.name ≠ "<init>" ∧ (parseMethodDescriptor yJ9_isLatin1.desc).map (fun d => d.parameters.length) = some 0 := by decide +kernel
set_option maxHeartbeats 1000000 in
set_option maxRecDepth 100000 in
theorem gm_J9_isLatin1 (l : Launch) (E : gE) (p0 : Nat) (post : Int32 → Gh → Prop) (G : Gh) (hw : gw_J9_isLatin1 E post p0 G) : gM l E yJ9_isLatin1 (ws_ yJ9_isLatin1 cJ9_isLatin1 1 (some .boolean)) ({ frames := 0, cells := 0, slots := 0, locals := 0 } : Room) 0 0 [.ref p0] G (gpi post) := by
  refine gof (by decide) (Nat.le_of_ble_eq_true rfl) ?_
  intro p e s m below meth c A ls hx hb hr hlk hml hown hin hts hPF hA hG hl
  have hl : lv_has ls 1 [(0, .ref p0)] := hl
  unfold gw_J9_isLatin1 at hw
  obtain ⟨G0, hG0⟩ : ∃ G0, G0 = G := ⟨_, rfl⟩
  have hG : gS E A G0 s.heap G s.heap [] := by rw [hG0]; exact hG
  rw [show gQ E A G (gpi post) = gQ E A G0 (gpi post) by rw [hG0]]
  have h0p0 := hw.1; rw [← hG0] at h0p0
  replace hw := hw.2
  refine va_gets (v := .int 1) hx hb (hPF.z 0 rfl) hG.2 hown (hts _ q294) (fun _ h9 => h9) dJ9_isLatin1_0 ?_
  refine lv_if_eq (tgt := 17) hx hb dJ9_isLatin1_3 (by decide) (fun c_ => absurd c_ (by decide)) (fun c_ => ?_)
  refine lv_aload_n hx hb dJ9_isLatin1_6 rfl (lv_at hl 0 rfl) ?_
  refine gg hx hb hts hown hPF hG 17 1 rfl in_J9b (by decide) (by decide) (by decide) q436 (fun _ h9 => h9) (gC_mon hG.1.2 h0p0 (by decide)) (v := .int (gI G p0 1)) rfl dJ9_isLatin1_7 ?_
  refine lv_if_ne (tgt := 17) hx hb dJ9_isLatin1_10 (by decide) (fun c_ => ?_) (fun c_ => ?_)
  · replace hw := hw.1 c_
    refine lv_iconst (v := 0) hx hb dJ9_isLatin1_17 (by decide) ?_
    exact greti hx hb hr hlk hG rfl hw (Nat.le_of_ble_eq_true rfl) (Nat.le_of_ble_eq_true rfl) dJ9_isLatin1_18
  · replace hw := hw.2 c_
    refine lv_iconst (v := 1) hx hb dJ9_isLatin1_13 (by decide) ?_
    refine lv_goto (tgt := 18) hx hb dJ9_isLatin1_14 (by decide) ?_
    exact greti hx hb hr hlk hG rfl hw (Nat.le_of_ble_eq_true rfl) (Nat.le_of_ble_eq_true rfl) dJ9_isLatin1_18
def gw_J9_checkIndex (E : gE) (post : Gh → Prop) (p0 : Int32) (p1 : Int32) (G : Gh) : Prop := False
theorem hd_J9_checkIndex : yJ9_checkIndex.cls ≠ "java/lang/invoke/MethodHandle" ∧ yJ9_checkIndex.cls ≠ "java/lang/invoke/VarHandle" ∧ (parseMethodDescriptor yJ9_checkIndex.desc).map (fun d => d.parameters.length) = some 2 := by decide +kernel
set_option maxHeartbeats 1000000 in
set_option maxRecDepth 100000 in
theorem gm_J9_checkIndex (l : Launch) (E : gE) (p0 : Int32) (p1 : Int32) (post : Gh → Prop) (G : Gh) (hw : gw_J9_checkIndex E post p0 p1 G) : gM l E yJ9_checkIndex (ws_ yJ9_checkIndex cJ9_checkIndex 2 none) ({ frames := 0, cells := 0, slots := 0, locals := 0 } : Room) 0 0 [.int p0, .int p1] G (gpv post) := by
  refine gof (by decide) (Nat.le_of_ble_eq_true rfl) ?_
  intro p e s m below meth c A ls hx hb hr hlk hml hown hin hts hPF hA hG hl
  have hl : lv_has ls 2 [(0, .int p0), (1, .int p1)] := hl
  unfold gw_J9_checkIndex at hw
  obtain ⟨G0, hG0⟩ : ∃ G0, G0 = G := ⟨_, rfl⟩
  have hG : gS E A G0 s.heap G s.heap [] := by rw [hG0]; exact hG
  rw [show gQ E A G (gpv post) = gQ E A G0 (gpv post) by rw [hG0]]
  refine lv_iload_n hx hb dJ9_checkIndex_0 rfl (lv_at hl 0 rfl) ?_
  refine lv_iload_n hx hb dJ9_checkIndex_1 rfl (lv_at hl 1 rfl) ?_
  exact hw.elim
def gw_J15_charAt (E : gE) (post : Int32 → Gh → Prop) (p0 : Nat) (p1 : Int32) (G : Gh) : Prop := gC G p0 = 32 ∧ (gw_J9_checkIndex E (fun G1 => gMon G G1 → (vp_in p1 (gL G1 p0) ∧ (narrow .char (.int ((((gI G1 p0 p1.toNatClampNeg) &&& 255).toUInt32 % 65536).toInt32)) = .int ((((gI G1 p0 p1.toNatClampNeg) &&& 255).toUInt32 % 65536).toInt32) ∧ (post ((((gI G1 p0 p1.toNatClampNeg) &&& 255).toUInt32 % 65536).toInt32) G1)))) p1 (nI (gL G p0)) G)
theorem hd_J15_charAt : yJ15_charAt.cls ≠ "java/lang/invoke/MethodHandle" ∧ yJ15_charAt.cls ≠ "java/lang/invoke/VarHandle" ∧ (parseMethodDescriptor yJ15_charAt.desc).map (fun d => d.parameters.length) = some 2 := by decide +kernel
set_option maxHeartbeats 1000000 in
set_option maxRecDepth 100000 in
theorem gm_J15_charAt (l : Launch) (E : gE) (p0 : Nat) (p1 : Int32) (post : Int32 → Gh → Prop) (G : Gh) (hw : gw_J15_charAt E post p0 p1 G) : gM l E yJ15_charAt (ws_ yJ15_charAt cJ15_charAt 2 (some .char)) ({ frames := 1, cells := 0, slots := 0, locals := 21 } : Room) 0 0 [.ref p0, .int p1] G (gpi post) := by
  refine gof (by decide) (Nat.le_of_ble_eq_true rfl) ?_
  intro p e s m below meth c A ls hx hb hr hlk hml hown hin hts hPF hA hG hl
  have hl : lv_has ls 2 [(0, .ref p0), (1, .int p1)] := hl
  unfold gw_J15_charAt at hw
  obtain ⟨G0, hG0⟩ : ∃ G0, G0 = G := ⟨_, rfl⟩
  have hG : gS E A G0 s.heap G s.heap [] := by rw [hG0]; exact hG
  rw [show gQ E A G (gpi post) = gQ E A G0 (gpi post) by rw [hG0]]
  have h0p0 := hw.1; rw [← hG0] at h0p0
  replace hw := hw.2
  refine lv_iload_n hx hb dJ15_charAt_0 rfl (lv_at hl 1 rfl) ?_
  refine lv_aload_n hx hb dJ15_charAt_1 rfl (lv_at hl 0 rfl) ?_
  refine galen hx hb hPF hG (gC_mon hG.1.2 h0p0 (by decide)) (by decide) (by decide) dJ15_charAt_2 ?_
  refine gc3v hA hG (va_runS (As := [.int p1, .int (nI (gL G p0))]) (rest := []) ⟨hx, hb, hml, hown, hts⟩ (gm_J9_checkIndex l E p1 (nI (gL G p0)) _ G hw _) (va_cwS 2 hts (lw_S q1647 q1582 q66 q1583) rfl rfl rfl hd_J9_checkIndex ⟨Nat.le_of_ble_eq_true rfl, Nat.le_of_ble_eq_true rfl⟩) ⟨gblind, fun U hU hW => gpre hPF hA hG _ U hU hW⟩ rfl rfl hl.1 rfl (lv_room (Nat.le_of_ble_eq_true rfl)) dJ15_charAt_3 ⟨(Nat.le_of_ble_eq_true rfl), (Nat.le_of_ble_eq_true rfl)⟩) (fun G1 H locs hw hmon hG => ?_)
  replace hw := hw hmon
  refine lv_aload_n hx hb dJ15_charAt_6 rfl (lv_at hl 0 rfl) ?_
  refine lv_iload_n hx hb dJ15_charAt_7 rfl (lv_at hl 1 rfl) ?_
  have hi2 := hw.1
  replace hw := hw.2
  refine glb hx hb hPF hG (gC_mon hG.1.2 h0p0 (by decide)) hi2 rfl dJ15_charAt_8 ?_
  refine lv_sipush (v := 255) hx hb dJ15_charAt_9 (by decide) ?_
  refine lv_iand hx hb dJ15_charAt_12 ?_
  refine lv_i2c (v := (((gI G1 p0 p1.toNatClampNeg) &&& 255).toUInt32 % 65536).toInt32) hx hb dJ15_charAt_13 rfl ?_
  have hn_ := hw.1
  replace hw := hw.2
  exact greti hx hb hr hlk hG hn_ hw (Nat.le_of_ble_eq_true rfl) (Nat.le_of_ble_eq_true rfl) dJ15_charAt_14
def gw_J9_charAt (E : gE) (post : Int32 → Gh → Prop) (p0 : Nat) (p1 : Int32) (G : Gh) : Prop := gC G p0 = 17 ∧ (gw_J9_isLatin1 E (fun r2 G1 => gMon G G1 → ((r2 = 0 → (False)) ∧ (¬ r2 = 0 → (∃ q3, (gR G1 p0 0) = some q3 ∧ (gw_J15_charAt E (fun r5 G4 => gMon G1 G4 → (narrow .char (.int r5) = .int r5 ∧ (post r5 G4))) q3 p1 G1))))) p0 G)
theorem hd_J9_charAt : yJ9_charAt.cls = RJ9 ∧ yJ9_charAt.cls ≠ "java/lang/invoke/MethodHandle" ∧ yJ9_charAt.cls ≠ "java/lang/invoke/VarHandle" ∧ (parseMethodDescriptor yJ9_charAt.desc).map (fun d => d.parameters.length) = some 1 := by decide +kernel
theorem hdn_J9_charAt : yJ9_charAt.cls ≠ "java/lang/invoke/MethodHandle" ∧ yJ9_charAt.cls ≠ "java/lang/invoke/VarHandle" ∧ (parseMethodDescriptor yJ9_charAt.desc).map (fun d => d.parameters.length) = some 1 := hd_J9_charAt.2
theorem hdu_J9_charAt : RJ9 ≠ "java/lang/invoke/MethodHandle" ∧ RJ9 ≠ "java/lang/invoke/VarHandle" ∧ (parseMethodDescriptor yJ9_charAt.desc).map (fun d => d.parameters.length) = some 1 := by decide +kernel
theorem hds_J9_charAt : yJ9_charAt.name ≠ "<init>" ∧ (parseMethodDescriptor yJ9_charAt.desc).map (fun d => d.parameters.length) = some 1 := by decide +kernel
set_option maxHeartbeats 1000000 in
set_option maxRecDepth 100000 in
theorem gm_J9_charAt (l : Launch) (E : gE) (p0 : Nat) (p1 : Int32) (post : Int32 → Gh → Prop) (G : Gh) (hw : gw_J9_charAt E post p0 p1 G) : gM l E yJ9_charAt (ws_ yJ9_charAt cJ9_charAt 2 (some .char)) ({ frames := 2, cells := 0, slots := 0, locals := 42 } : Room) 0 0 [.ref p0, .int p1] G (gpi post) := by
  refine gof (by decide) (Nat.le_of_ble_eq_true rfl) ?_
  intro p e s m below meth c A ls hx hb hr hlk hml hown hin hts hPF hA hG hl
  have hl : lv_has ls 2 [(0, .ref p0), (1, .int p1)] := hl
  unfold gw_J9_charAt at hw
  obtain ⟨G0, hG0⟩ : ∃ G0, G0 = G := ⟨_, rfl⟩
  have hG : gS E A G0 s.heap G s.heap [] := by rw [hG0]; exact hG
  rw [show gQ E A G (gpi post) = gQ E A G0 (gpi post) by rw [hG0]]
  have h0p0 := hw.1; rw [← hG0] at h0p0
  replace hw := hw.2
  refine lv_aload_n hx hb dJ9_charAt_0 rfl (lv_at hl 0 rfl) ?_
  refine gc3i hA hG (va_runV (As := []) (rest := []) ⟨hx, hb, hml, hown, hts⟩ (gm_J9_isLatin1 l E p0 _ G hw _) (cwV 0 hts (lw_V q1640 q1641 q1642 q66 q1643) rfl rfl rfl hd_J9_isLatin1 ⟨Nat.le_of_ble_eq_true rfl, Nat.le_of_ble_eq_true rfl⟩) ⟨gblind, grecv hPF hG (gC_mon hG.1.2 h0p0 (by decide)) (by decide) (by decide) rfl, fun U hU hW => gpre hPF hA hG _ U hU hW⟩ rfl rfl hl.1 rfl (lv_room (Nat.le_of_ble_eq_true rfl)) dJ9_charAt_1 ⟨(Nat.le_of_ble_eq_true rfl), (Nat.le_of_ble_eq_true rfl)⟩) (fun r2 G1 H locs hw hmon hG => ?_)
  replace hw := hw hmon
  refine lv_if_eq (tgt := 16) hx hb dJ9_charAt_4 (by decide) (fun c_ => ?_) (fun c_ => ?_)
  · replace hw := hw.1 c_
    refine lv_aload_n hx hb dJ9_charAt_16 rfl (lv_at hl 0 rfl) ?_
    refine gg hx hb hts hown hPF hG 17 0 rfl in_J9b (by decide) (by decide) (by decide) q435 (fun _ h9 => h9) (gC_mon hG.1.2 h0p0 (by decide)) (v := va_rf (gR G1 p0 0)) rfl dJ9_charAt_17 ?_
    refine lv_iload_n hx hb dJ9_charAt_20 rfl (lv_at hl 1 rfl) ?_
    exact hw.elim
  · replace hw := hw.2 c_
    refine lv_aload_n hx hb dJ9_charAt_7 rfl (lv_at hl 0 rfl) ?_
    refine gg hx hb hts hown hPF hG 17 0 rfl in_J9b (by decide) (by decide) (by decide) q435 (fun _ h9 => h9) (gC_mon hG.1.2 h0p0 (by decide)) (v := va_rf (gR G1 p0 0)) rfl dJ9_charAt_8 ?_
    refine lv_iload_n hx hb dJ9_charAt_11 rfl (lv_at hl 1 rfl) ?_
    obtain ⟨q3, hq3, hw⟩ := hw
    refine W.eq (g2 := F0 m 12 ls [.int p1, .ref q3]) (by rw [hq3]; rfl) ?_
    refine gc3i hA hG (va_runS (As := [.ref q3, .int p1]) (rest := []) ⟨hx, hb, hml, hown, hts⟩ (gm_J15_charAt l E q3 p1 _ G1 hw _) (va_cwS 2 hts (lw_S q1644 q1645 q73 q1646) rfl rfl rfl hd_J15_charAt ⟨Nat.le_of_ble_eq_true rfl, Nat.le_of_ble_eq_true rfl⟩) ⟨gblind, fun U hU hW => gpre hPF hA hG _ U hU hW⟩ rfl rfl hl.1 rfl (lv_room (Nat.le_of_ble_eq_true rfl)) dJ9_charAt_12 ⟨(Nat.le_of_ble_eq_true rfl), (Nat.le_of_ble_eq_true rfl)⟩) (fun r5 G4 H locs hw hmon hG => ?_)
    replace hw := hw hmon
    have hn_ := hw.1
    replace hw := hw.2
    exact greti hx hb hr hlk hG hn_ hw (Nat.le_of_ble_eq_true rfl) (Nat.le_of_ble_eq_true rfl) dJ9_charAt_15
def gw_J13_copyOf (E : gE) (post : Option Nat → Gh → Prop) (p0 : Nat) (p1 : Int32) (G : Gh) : Prop := gC G p0 = 32 ∧ ((¬ p1 = (nI (gL G p0)) → ((¬ p1 < 0 ∧ p1.toNatClampNeg ≤ 200) ∧ (∀ q1, gK G q1 = 0 → ∀ G3, G3 = gN G q1 32 (p1.toNatClampNeg) → ((¬ (0 : Int32) < 0 ∧ ¬ (0 : Int32) < 0 ∧ ¬ (if p1 < (nI (gL G3 p0)) then p1 else (nI (gL G3 p0))) < 0 ∧ (0 : Int32).toNatClampNeg + (if p1 < (nI (gL G3 p0)) then p1 else (nI (gL G3 p0))).toNatClampNeg ≤ gL G3 p0 ∧ (0 : Int32).toNatClampNeg + (if p1 < (nI (gL G3 p0)) then p1 else (nI (gL G3 p0))).toNatClampNeg ≤ gL G3 q1) ∧ ((∀ i, i < (if p1 < (nI (gL G3 p0)) then p1 else (nI (gL G3 p0))).toNatClampNeg → fits .byte (.int (gI G3 p0 ((0 : Int32).toNatClampNeg + i))) = true) ∧ (∀ G6, G6 = grI G3 q1 (va_cpy (gI G3 p0) (gI G3 q1) (0 : Int32).toNatClampNeg (0 : Int32).toNatClampNeg (if p1 < (nI (gL G3 p0)) then p1 else (nI (gL G3 p0))).toNatClampNeg) → (post (some q1) G6))))))) ∧ (p1 = (nI (gL G p0)) → (((∀ i, i < gL G p0 → fits .byte (.int (gI G p0 i)) = true) ∧ gL G p0 ≤ 200) ∧ (∀ q7, gK G q7 = 0 → ∀ G9, G9 = grI (gN G q7 32 (gL G p0)) q7 (gI G p0) → (post (some q7) G9)))))
theorem hd_J13_copyOf : yJ13_copyOf.cls ≠ "java/lang/invoke/MethodHandle" ∧ yJ13_copyOf.cls ≠ "java/lang/invoke/VarHandle" ∧ (parseMethodDescriptor yJ13_copyOf.desc).map (fun d => d.parameters.length) = some 2 := by decide +kernel
set_option maxHeartbeats 1000000 in
set_option maxRecDepth 100000 in
theorem gm_J13_copyOf (l : Launch) (E : gE) (p0 : Nat) (p1 : Int32) (post : Option Nat → Gh → Prop) (G : Gh) (hw : gw_J13_copyOf E post p0 p1 G) : gM l E yJ13_copyOf (ws_ yJ13_copyOf cJ13_copyOf 3 (some (.array .byte))) ({ frames := 1, cells := 1, slots := 200, locals := 60 } : Room) 1 200 [.ref p0, .int p1] G (gpr post) := by
  refine gof (by decide) (Nat.le_of_ble_eq_true rfl) ?_
  intro p e s m below meth c A ls hx hb hr hlk hml hown hin hts hPF hA hG hl
  have hl : lv_has ls 3 [(0, .ref p0), (1, .int p1)] := hl
  unfold gw_J13_copyOf at hw
  obtain ⟨G0, hG0⟩ : ∃ G0, G0 = G := ⟨_, rfl⟩
  have hG : gS E A G0 s.heap G s.heap [] := by rw [hG0]; exact hG
  rw [show gQ E A G (gpr post) = gQ E A G0 (gpr post) by rw [hG0]]
  have h0p0 := hw.1; rw [← hG0] at h0p0
  replace hw := hw.2
  refine lv_iload_n hx hb dJ13_copyOf_0 rfl (lv_at hl 1 rfl) ?_
  refine lv_aload_n hx hb dJ13_copyOf_1 rfl (lv_at hl 0 rfl) ?_
  refine galen hx hb hPF hG (gC_mon hG.1.2 h0p0 (by decide)) (by decide) (by decide) dJ13_copyOf_2 ?_
  refine lv_icmp_ne (tgt := 14) hx hb dJ13_copyOf_3 (by decide) (fun c_ => ?_) (fun c_ => ?_)
  · replace hw := hw.1 c_
    refine lv_iload_n hx hb dJ13_copyOf_14 rfl (lv_at hl 1 rfl) ?_
    have hn2 := hw.1
    replace hw := hw.2
    refine gnab hx hb hts q207 hPF hG hA hn2.1 rfl 200 hn2.2 (by decide) (Nat.le_of_ble_eq_true rfl) (Nat.le_of_ble_eq_true rfl) dJ13_copyOf_15 (fun q1 H h0q1 hG => ?_)
    replace hw := hw q1 h0q1
    obtain ⟨G3, eG3⟩ : ∃ z, z = gN G q1 32 (p1.toNatClampNeg) := ⟨_, rfl⟩
    rw [← eG3] at hG
    replace hw := hw G3 eG3
    have hkq1 : gK G3 q1 = 32 := by rw [eG3]; exact gK_Nq
    refine lv_astore_n (i := 2) (lv' := [(2, .ref q1), (0, .ref p0), (1, .int p1)]) hx hb dJ13_copyOf_17 rfl hl (by decide) rfl (fun ls hl => ?_)
    refine lv_aload_n hx hb dJ13_copyOf_18 rfl (lv_at hl 1 rfl) ?_
    refine lv_iconst (v := 0) hx hb dJ13_copyOf_19 (by decide) ?_
    refine lv_aload_n hx hb dJ13_copyOf_20 rfl (lv_at hl 0 rfl) ?_
    refine lv_iconst (v := 0) hx hb dJ13_copyOf_21 (by decide) ?_
    refine lv_aload_n hx hb dJ13_copyOf_22 rfl (lv_at hl 1 rfl) ?_
    refine galen hx hb hPF hG (gC_mon hG.1.2 h0p0 (by decide)) (by decide) (by decide) dJ13_copyOf_23 ?_
    refine lv_iload_n hx hb dJ13_copyOf_24 rfl (lv_at hl 2 rfl) ?_
    refine va_mmin (rest := [.int 0, .ref q1, .int 0, .ref p0]) hx hb (hml.trans hl.1.symm) hown (hts _ q249) (hts _ q250) (hts _ q69) (hts _ q251) (Nat.le_of_ble_eq_true rfl) (by (try simp only [List.map, va_rf_cat, gcat_i, gcat_r, gcat_l, gcat_d, gcat_f, gcat_n]); exact Nat.le_of_ble_eq_true rfl) (Nat.le_of_ble_eq_true rfl) (Nat.le_of_ble_eq_true rfl) dJ13_copyOf_25 ?_
    have hv4 := hw.1
    replace hw := hw.2
    have hf5 := hw.1
    replace hw := hw.2
    refine gcpb hx hb (hl.1.trans hml.symm) hts hown q252 q254 q253 q71 hPF hG (gC_mon hG.1.2 h0p0 (by decide)) hkq1 hv4.1 hv4.2.1 hv4.2.2.1 hv4.2.2.2.1 hv4.2.2.2.2 hf5 (Nat.le_of_ble_eq_true rfl) (by (try simp only [List.map, va_rf_cat, gcat_i, gcat_r, gcat_l, gcat_d, gcat_f, gcat_n]); exact Nat.le_of_ble_eq_true rfl) dJ13_copyOf_28 (fun H locs hG => ?_)
    obtain ⟨G6, eG6⟩ : ∃ z, z = grI G3 q1 (va_cpy (gI G3 p0) (gI G3 q1) (0 : Int32).toNatClampNeg (0 : Int32).toNatClampNeg (if p1 < (nI (gL G3 p0)) then p1 else (nI (gL G3 p0))).toNatClampNeg) := ⟨_, rfl⟩
    rw [← eG6] at hG
    replace hw := hw G6 eG6
    have hkq1 : gK G6 q1 = 32 := by rw [eG6]; exact hkq1
    refine lv_aload_n hx hb dJ13_copyOf_31 rfl (lv_at hl 0 rfl) ?_
    exact gretr (v := (some q1)) hx hb hr hlk hG (Or.inr ⟨_, rfl⟩) hw (Nat.le_of_ble_eq_true rfl) (Nat.le_of_ble_eq_true rfl) dJ13_copyOf_32
  · replace hw := hw.2 c_
    refine lv_aload_n hx hb dJ13_copyOf_6 rfl (lv_at hl 0 rfl) ?_
    have hf8 := hw.1
    replace hw := hw.2
    refine gcloneB hx hb (hl.1.trans hml.symm) hts hown q242 q243 q244 q245 q246 q247 hPF hG hA (gC_mon hG.1.2 h0p0 (by decide)) hf8.1 200 hf8.2 (Nat.le_of_ble_eq_true rfl) (by (try simp only [List.map, va_rf_cat, gcat_i, gcat_r, gcat_l, gcat_d, gcat_f, gcat_n]); exact Nat.le_of_ble_eq_true rfl) (Nat.le_of_ble_eq_true rfl) (Nat.le_of_ble_eq_true rfl) dJ13_copyOf_7 (fun q7 H h0q7 hG => ?_)
    replace hw := hw q7 h0q7
    obtain ⟨G9, eG9⟩ : ∃ z, z = grI (gN G q7 32 (gL G p0)) q7 (gI G p0) := ⟨_, rfl⟩
    rw [← eG9] at hG
    replace hw := hw G9 eG9
    have hkq7 : gK G9 q7 = 32 := by rw [eG9]; exact gK_Nq (n := gL G p0)
    refine gcastA32 hx hb hown (hts _ q248) hPF hG (gC_of hkq7 (by decide)) dJ13_copyOf_10 ?_
    exact gretr (v := (some q7)) hx hb hr hlk hG (Or.inr ⟨_, rfl⟩) hw (Nat.le_of_ble_eq_true rfl) (Nat.le_of_ble_eq_true rfl) dJ13_copyOf_13
def gw_J16_stringSize_L16 (E : gE) (post : Int32 → Gh → Prop) : Nat → Int32 → Int32 → Int32 → Int32 → Gh → Prop
  | 0, _, _, _, _, _ => False
  | n + 1, x0, x1, x2, x3, G => (10 ≤ x3 → (post (10 + x1) G)) ∧ (¬ 10 ≤ x3 → ((x0 ≤ x2 → (gw_J16_stringSize_L16 E post  n x0 x1 (10 * x2) (x3 + 1) G)) ∧ (¬ x0 ≤ x2 → (post (x3 + x1) G))))
def gw_J16_stringSize_L11 (E : gE) (post : Int32 → Gh → Prop) (x0 : Int32) (x1 : Int32) (G : Gh) : Prop := (∃ n, gw_J16_stringSize_L16 E post  n x0 x1 (-10) 1 G)
def gw_J16_stringSize (E : gE) (post : Int32 → Gh → Prop) (p0 : Int32) (G : Gh) : Prop := (p0 < 0 → (gw_J16_stringSize_L11 E post  p0 1 G)) ∧ (¬ p0 < 0 → (gw_J16_stringSize_L11 E post  (-p0) 0 G))
theorem hd_J16_stringSize : yJ16_stringSize.cls ≠ "java/lang/invoke/MethodHandle" ∧ yJ16_stringSize.cls ≠ "java/lang/invoke/VarHandle" ∧ (parseMethodDescriptor yJ16_stringSize.desc).map (fun d => d.parameters.length) = some 1 := by decide +kernel
set_option maxHeartbeats 1000000 in
set_option maxRecDepth 100000 in
theorem gm_J16_stringSize (l : Launch) (E : gE) (p0 : Int32) (post : Int32 → Gh → Prop) (G : Gh) (hw : gw_J16_stringSize E post p0 G) : gM l E yJ16_stringSize (ws_ yJ16_stringSize cJ16_stringSize 4 (some .int)) ({ frames := 0, cells := 0, slots := 0, locals := 0 } : Room) 0 0 [.int p0] G (gpi post) := by
  refine gof (by decide) (Nat.le_of_ble_eq_true rfl) ?_
  intro p e s m below meth c A ls hx hb hr hlk hml hown hin hts hPF hA hG hl
  have hl : lv_has ls 4 [(0, .int p0)] := hl
  unfold gw_J16_stringSize at hw
  obtain ⟨G0, hG0⟩ : ∃ G0, G0 = G := ⟨_, rfl⟩
  have hG : gS E A G0 s.heap G s.heap [] := by rw [hG0]; exact hG
  rw [show gQ E A G (gpi post) = gQ E A G0 (gpi post) by rw [hG0]]
  have hL16 : ∀ (n : Nat) (x0 : Int32) (x1 : Int32) (x2 : Int32) (x3 : Int32) (G : Gh) (H : Heap) (locs : List Loc) (ls : Array Slot), gS E A G0 s.heap G H locs → lv_has ls 4 [(0, .int x0), (1, .int x1), (2, .int x2), (3, .int x3)] → gw_J16_stringSize_L16 E post n x0 x1 x2 x3 G → W p l e (headSpec (ws_ yJ16_stringSize cJ16_stringSize 4 (some .int)) ({ frames := 0, cells := 0, slots := 0, locals := 0 } : Room)).room s m ([.int p0] : List Value).toArray below meth c H locs 0 0 (MQ below (gQ E A G0 (gpi post)) ([.int p0] : List Value).toArray s 0 0 A) (F0 m 16 ls []) := by
    intro n
    induction n with
    | zero => exact fun _ _ _ _ _ _ _ _ _ _ hw => hw.elim
    | succ n ih =>
      intro x0 x1 x2 x3 G H locs ls hG hl hw
      unfold gw_J16_stringSize_L16 at hw
      refine lv_iload_n hx hb dJ16_stringSize_16 rfl (lv_at hl 3 rfl) ?_
      refine lv_bipush (v := 10) hx hb dJ16_stringSize_17 (by decide) ?_
      refine lv_icmp_ge (tgt := 42) hx hb dJ16_stringSize_19 (by decide) (fun c_ => ?_) (fun c_ => ?_)
      · replace hw := hw.1 c_
        refine lv_bipush (v := 10) hx hb dJ16_stringSize_42 (by decide) ?_
        refine lv_iload_n hx hb dJ16_stringSize_44 rfl (lv_at hl 1 rfl) ?_
        refine lv_iadd hx hb dJ16_stringSize_45 ?_
        exact greti hx hb hr hlk hG rfl hw (Nat.le_of_ble_eq_true rfl) (Nat.le_of_ble_eq_true rfl) dJ16_stringSize_46
      · replace hw := hw.2 c_
        refine lv_iload_n hx hb dJ16_stringSize_22 rfl (lv_at hl 0 rfl) ?_
        refine lv_iload_n hx hb dJ16_stringSize_23 rfl (lv_at hl 2 rfl) ?_
        refine lv_icmp_le (tgt := 31) hx hb dJ16_stringSize_24 (by decide) (fun c_ => ?_) (fun c_ => ?_)
        · replace hw := hw.1 c_
          refine lv_bipush (v := 10) hx hb dJ16_stringSize_31 (by decide) ?_
          refine lv_iload_n hx hb dJ16_stringSize_33 rfl (lv_at hl 2 rfl) ?_
          refine lv_imul hx hb dJ16_stringSize_34 ?_
          refine lv_istore_n (i := 2) (lv' := [(2, .int (10 * x2)), (0, .int x0), (1, .int x1), (3, .int x3)]) hx hb dJ16_stringSize_35 rfl hl (by decide) rfl (fun ls hl => ?_)
          refine lv_iinc (v := x3 + 1) (lv' := [(3, .int (x3 + 1)), (2, .int (10 * x2)), (0, .int x0), (1, .int x1)]) hx hb dJ16_stringSize_36 hl (k := 3) rfl rfl (by decide) rfl (fun ls hl => ?_)
          refine lv_goto (tgt := 16) hx hb dJ16_stringSize_39 (by decide) ?_
          refine W.widen (k := 0) (n := 0) (Nat.le_of_ble_eq_true rfl) (Nat.le_of_ble_eq_true rfl) ?_
          exact ih x0 x1 (10 * x2) (x3 + 1) G _ _ ls hG (lv_sub hl [2, 3, 1, 0] rfl) hw
        · replace hw := hw.2 c_
          refine lv_iload_n hx hb dJ16_stringSize_27 rfl (lv_at hl 3 rfl) ?_
          refine lv_iload_n hx hb dJ16_stringSize_28 rfl (lv_at hl 1 rfl) ?_
          refine lv_iadd hx hb dJ16_stringSize_29 ?_
          exact greti hx hb hr hlk hG rfl hw (Nat.le_of_ble_eq_true rfl) (Nat.le_of_ble_eq_true rfl) dJ16_stringSize_30
  have hL11 : ∀ (x0 : Int32) (x1 : Int32) (G : Gh) (H : Heap) (locs : List Loc) (ls : Array Slot), gS E A G0 s.heap G H locs → lv_has ls 4 [(0, .int x0), (1, .int x1)] → gw_J16_stringSize_L11 E post x0 x1 G → W p l e (headSpec (ws_ yJ16_stringSize cJ16_stringSize 4 (some .int)) ({ frames := 0, cells := 0, slots := 0, locals := 0 } : Room)).room s m ([.int p0] : List Value).toArray below meth c H locs 0 0 (MQ below (gQ E A G0 (gpi post)) ([.int p0] : List Value).toArray s 0 0 A) (F0 m 11 ls []) := by
    intro x0 x1 G H locs ls hG hl hw
    unfold gw_J16_stringSize_L11 at hw
    refine lv_bipush (v := (-10)) hx hb dJ16_stringSize_11 (by decide) ?_
    refine lv_istore_n (i := 2) (lv' := [(2, .int (-10)), (0, .int x0), (1, .int x1)]) hx hb dJ16_stringSize_13 rfl hl (by decide) rfl (fun ls hl => ?_)
    refine lv_iconst (v := 1) hx hb dJ16_stringSize_14 (by decide) ?_
    refine lv_istore_n (i := 3) (lv' := [(3, .int 1), (2, .int (-10)), (0, .int x0), (1, .int x1)]) hx hb dJ16_stringSize_15 rfl hl (by decide) rfl (fun ls hl => ?_)
    refine W.widen (k := 0) (n := 0) (Nat.le_of_ble_eq_true rfl) (Nat.le_of_ble_eq_true rfl) ?_
    obtain ⟨n0, hw⟩ := hw
    exact hL16  n0 x0 x1 (-10) 1 G _ _ ls hG (lv_sub hl [2, 3, 1, 0] rfl) hw
  refine lv_iconst (v := 1) hx hb dJ16_stringSize_0 (by decide) ?_
  refine lv_istore_n (i := 1) (lv' := [(1, .int 1), (0, .int p0)]) hx hb dJ16_stringSize_1 rfl hl (by decide) rfl (fun ls hl => ?_)
  refine lv_iload_n hx hb dJ16_stringSize_2 rfl (lv_at hl 1 rfl) ?_
  refine lv_if_lt (tgt := 11) hx hb dJ16_stringSize_3 (by decide) (fun c_ => ?_) (fun c_ => ?_)
  · replace hw := hw.1 c_
    refine W.widen (k := 0) (n := 0) (Nat.le_of_ble_eq_true rfl) (Nat.le_of_ble_eq_true rfl) ?_
    exact hL11  p0 1 G _ _ ls hG (lv_sub hl [1, 0] rfl) hw
  · replace hw := hw.2 c_
    refine lv_iconst (v := 0) hx hb dJ16_stringSize_6 (by decide) ?_
    refine lv_istore_n (i := 1) (lv' := [(1, .int 0), (0, .int p0)]) hx hb dJ16_stringSize_7 rfl hl (by decide) rfl (fun ls hl => ?_)
    refine lv_iload_n hx hb dJ16_stringSize_8 rfl (lv_at hl 1 rfl) ?_
    refine lv_ineg hx hb dJ16_stringSize_9 ?_
    refine lv_istore_n (i := 0) (lv' := [(0, .int (-p0)), (1, .int 0)]) hx hb dJ16_stringSize_10 rfl hl (by decide) rfl (fun ls hl => ?_)
    refine W.widen (k := 0) (n := 0) (Nat.le_of_ble_eq_true rfl) (Nat.le_of_ble_eq_true rfl) ?_
    exact hL11  (-p0) 0 G _ _ ls hG (lv_sub hl [0, 1] rfl) hw
def gw_J16_getChars_L104 (E : gE) (p2 : Nat) (post : Int32 → Gh → Prop) (x5 : Int32) (x6 : Int32) (G : Gh) : Prop := (x6 = 0 → (post x5 G)) ∧ (¬ x6 = 0 → (gK G p2 = 32 ∧ (vp_in (x5 + (-1)) (gL G p2) ∧ (∀ G21, G21 = grI G p2 (upd (gI G p2) (x5 + (-1)).toNatClampNeg (vp_nar .byte 45)) → (post (x5 + (-1)) G21)))))
def gw_J16_getChars_L22 (E : gE) (p2 : Nat) (post : Int32 → Gh → Prop) : Nat → Int32 → Int32 → Int32 → Gh → Prop
  | 0, _, _, _, _ => False
  | n + 1, x0, x5, x6, G => ((-100) < x0 → (gC G (eZ E 6) = 32 ∧ (vp_in (-x0) (gL G (eZ E 6)) ∧ (gK G p2 = 32 ∧ (vp_in (x5 + (-1)) (gL G p2) ∧ (∀ G5, G5 = grI G p2 (upd (gI G p2) (x5 + (-1)).toNatClampNeg (vp_nar .byte (gI G (eZ E 6) (-x0).toNatClampNeg))) → (((-9) ≤ x0 → (gw_J16_getChars_L104 E p2 post  (x5 + (-1)) x6 G5)) ∧ (¬ (-9) ≤ x0 → (gC G5 (eZ E 7) = 32 ∧ (vp_in (-x0) (gL G5 (eZ E 7)) ∧ (vp_in ((x5 + (-1)) + (-1)) (gL G5 p2) ∧ (∀ G9, G9 = grI G5 p2 (upd (gI G5 p2) ((x5 + (-1)) + (-1)).toNatClampNeg (vp_nar .byte (gI G5 (eZ E 7) (-x0).toNatClampNeg))) → (gw_J16_getChars_L104 E p2 post  ((x5 + (-1)) + (-1)) x6 G9))))))))))))) ∧ (¬ (-100) < x0 → (gC G (eZ E 6) = 32 ∧ (vp_in (((x0 / 100) * 100) - x0) (gL G (eZ E 6)) ∧ (gK G p2 = 32 ∧ (vp_in (x5 + (-1)) (gL G p2) ∧ (∀ G14, G14 = grI G p2 (upd (gI G p2) (x5 + (-1)).toNatClampNeg (vp_nar .byte (gI G (eZ E 6) (((x0 / 100) * 100) - x0).toNatClampNeg))) → (gC G14 (eZ E 7) = 32 ∧ (vp_in (((x0 / 100) * 100) - x0) (gL G14 (eZ E 7)) ∧ (vp_in ((x5 + (-1)) + (-1)) (gL G14 p2) ∧ (∀ G18, G18 = grI G14 p2 (upd (gI G14 p2) ((x5 + (-1)) + (-1)).toNatClampNeg (vp_nar .byte (gI G14 (eZ E 7) (((x0 / 100) * 100) - x0).toNatClampNeg))) → (gw_J16_getChars_L22 E p2 post  n (x0 / 100) ((x5 + (-1)) + (-1)) x6 G18)))))))))))
def gw_J16_getChars_L12 (E : gE) (p2 : Nat) (post : Int32 → Gh → Prop) (x0 : Int32) (x5 : Int32) (t0 : Int32) (G : Gh) : Prop := (¬ t0 = 0 → ((∃ n, gw_J16_getChars_L22 E p2 post  n x0 x5 t0 G))) ∧ (t0 = 0 → ((∃ n, gw_J16_getChars_L22 E p2 post  n (-x0) x5 t0 G)))
def gw_J16_getChars (E : gE) (post : Int32 → Gh → Prop) (p0 : Int32) (p1 : Int32) (p2 : Nat) (G : Gh) : Prop := gC G p2 = 32 ∧ ((0 ≤ p0 → (gw_J16_getChars_L12 E p2 post  p0 p1 0 G)) ∧ (¬ 0 ≤ p0 → (gw_J16_getChars_L12 E p2 post  p0 p1 1 G)))
theorem hd_J16_getChars : yJ16_getChars.cls ≠ "java/lang/invoke/MethodHandle" ∧ yJ16_getChars.cls ≠ "java/lang/invoke/VarHandle" ∧ (parseMethodDescriptor yJ16_getChars.desc).map (fun d => d.parameters.length) = some 3 := by decide +kernel
set_option maxHeartbeats 1000000 in
set_option maxRecDepth 100000 in
theorem gm_J16_getChars (l : Launch) (E : gE) (p0 : Int32) (p1 : Int32) (p2 : Nat) (post : Int32 → Gh → Prop) (G : Gh) (hw : gw_J16_getChars E post p0 p1 p2 G) : gM l E yJ16_getChars (ws_ yJ16_getChars cJ16_getChars 7 (some .int)) ({ frames := 0, cells := 0, slots := 0, locals := 0 } : Room) 0 0 [.int p0, .int p1, .ref p2] G (gpi post) := by
  refine gof (by decide) (Nat.le_of_ble_eq_true rfl) ?_
  intro p e s m below meth c A ls hx hb hr hlk hml hown hin hts hPF hA hG hl
  have hl : lv_has ls 7 [(0, .int p0), (1, .int p1), (2, .ref p2)] := hl
  unfold gw_J16_getChars at hw
  obtain ⟨G0, hG0⟩ : ∃ G0, G0 = G := ⟨_, rfl⟩
  have hG : gS E A G0 s.heap G s.heap [] := by rw [hG0]; exact hG
  rw [show gQ E A G (gpi post) = gQ E A G0 (gpi post) by rw [hG0]]
  have h0p2 := hw.1; rw [← hG0] at h0p2
  replace hw := hw.2
  have hL104 : ∀ (x5 : Int32) (x6 : Int32) (G : Gh) (H : Heap) (locs : List Loc) (ls : Array Slot), gS E A G0 s.heap G H locs → lv_has ls 7 [(2, .ref p2), (5, .int x5), (6, .int x6)] → gw_J16_getChars_L104 E p2 post x5 x6 G → W p l e (headSpec (ws_ yJ16_getChars cJ16_getChars 7 (some .int)) ({ frames := 0, cells := 0, slots := 0, locals := 0 } : Room)).room s m ([.int p0, .int p1, .ref p2] : List Value).toArray below meth c H locs 0 0 (MQ below (gQ E A G0 (gpi post)) ([.int p0, .int p1, .ref p2] : List Value).toArray s 0 0 A) (F0 m 104 ls []) := by
    intro x5 x6 G H locs ls hG hl hw
    unfold gw_J16_getChars_L104 at hw
    refine lv_iload hx hb dJ16_getChars_104 (lv_at hl 2 rfl) ?_
    refine lv_if_eq (tgt := 118) hx hb dJ16_getChars_106 (by decide) (fun c_ => ?_) (fun c_ => ?_)
    · replace hw := hw.1 c_
      refine lv_iload hx hb dJ16_getChars_118 (lv_at hl 1 rfl) ?_
      exact greti hx hb hr hlk hG rfl hw (Nat.le_of_ble_eq_true rfl) (Nat.le_of_ble_eq_true rfl) dJ16_getChars_120
    · replace hw := hw.2 c_
      refine lv_aload_n hx hb dJ16_getChars_109 rfl (lv_at hl 0 rfl) ?_
      refine lv_iinc (v := x5 + (-1)) (lv' := [(5, .int (x5 + (-1))), (2, .ref p2), (6, .int x6)]) hx hb dJ16_getChars_110 hl (k := 1) rfl rfl (by decide) rfl (fun ls hl => ?_)
      refine lv_iload hx hb dJ16_getChars_113 (lv_at hl 0 rfl) ?_
      refine lv_bipush (v := 45) hx hb dJ16_getChars_115 (by decide) ?_
      have hk19 := hw.1
      replace hw := hw.2
      have hi20 := hw.1
      replace hw := hw.2
      refine gsb hx hb hPF hG hk19 hi20 rfl dJ16_getChars_117 (fun H locs hG => ?_)
      obtain ⟨G21, eG21⟩ : ∃ z, z = grI G p2 (upd (gI G p2) (x5 + (-1)).toNatClampNeg (vp_nar .byte 45)) := ⟨_, rfl⟩
      rw [← eG21] at hG
      replace hw := hw G21 eG21
      have hk19 : gK G21 p2 = 32 := by rw [eG21]; exact hk19
      refine lv_iload hx hb dJ16_getChars_118 (lv_at hl 0 rfl) ?_
      exact greti hx hb hr hlk hG rfl hw (Nat.le_of_ble_eq_true rfl) (Nat.le_of_ble_eq_true rfl) dJ16_getChars_120
  have hL22 : ∀ (n : Nat) (x0 : Int32) (x5 : Int32) (x6 : Int32) (G : Gh) (H : Heap) (locs : List Loc) (ls : Array Slot), gS E A G0 s.heap G H locs → lv_has ls 7 [(0, .int x0), (2, .ref p2), (5, .int x5), (6, .int x6)] → gw_J16_getChars_L22 E p2 post n x0 x5 x6 G → W p l e (headSpec (ws_ yJ16_getChars cJ16_getChars 7 (some .int)) ({ frames := 0, cells := 0, slots := 0, locals := 0 } : Room)).room s m ([.int p0, .int p1, .ref p2] : List Value).toArray below meth c H locs 0 0 (MQ below (gQ E A G0 (gpi post)) ([.int p0, .int p1, .ref p2] : List Value).toArray s 0 0 A) (F0 m 22 ls []) := by
    intro n
    induction n with
    | zero => exact fun _ _ _ _ _ _ _ _ _ hw => hw.elim
    | succ n ih =>
      intro x0 x5 x6 G H locs ls hG hl hw
      unfold gw_J16_getChars_L22 at hw
      refine lv_iload_n hx hb dJ16_getChars_22 rfl (lv_at hl 0 rfl) ?_
      refine lv_bipush (v := (-100)) hx hb dJ16_getChars_23 (by decide) ?_
      refine lv_icmp_gt (tgt := 72) hx hb dJ16_getChars_25 (by decide) (fun c_ => ?_) (fun c_ => ?_)
      · replace hw := hw.1 c_
        refine lv_aload_n hx hb dJ16_getChars_72 rfl (lv_at hl 1 rfl) ?_
        refine lv_iinc (v := x5 + (-1)) (lv' := [(5, .int (x5 + (-1))), (0, .int x0), (2, .ref p2), (6, .int x6)]) hx hb dJ16_getChars_73 hl (k := 2) rfl rfl (by decide) rfl (fun ls hl => ?_)
        refine lv_iload hx hb dJ16_getChars_76 (lv_at hl 0 rfl) ?_
        refine va_gets (v := .ref (eZ E 6)) hx hb (hPF.z 7 rfl) hG.2 hown (hts _ q342) (fun _ h9 => h9) dJ16_getChars_78 ?_
        refine lv_iload_n hx hb dJ16_getChars_81 rfl (lv_at hl 1 rfl) ?_
        refine lv_ineg hx hb dJ16_getChars_82 ?_
        have hk1 := hw.1
        replace hw := hw.2
        have hi2 := hw.1
        replace hw := hw.2
        refine glb hx hb hPF hG hk1 hi2 rfl dJ16_getChars_83 ?_
        have hk3 := hw.1
        replace hw := hw.2
        have hi4 := hw.1
        replace hw := hw.2
        refine gsb hx hb hPF hG hk3 hi4 rfl dJ16_getChars_84 (fun H locs hG => ?_)
        obtain ⟨G5, eG5⟩ : ∃ z, z = grI G p2 (upd (gI G p2) (x5 + (-1)).toNatClampNeg (vp_nar .byte (gI G (eZ E 6) (-x0).toNatClampNeg))) := ⟨_, rfl⟩
        rw [← eG5] at hG
        replace hw := hw G5 eG5
        have hk1 : gC G5 (eZ E 6) = 32 := by rw [eG5]; exact hk1
        have hk3 : gK G5 p2 = 32 := by rw [eG5]; exact hk3
        refine lv_iload_n hx hb dJ16_getChars_85 rfl (lv_at hl 1 rfl) ?_
        refine lv_bipush (v := (-9)) hx hb dJ16_getChars_86 (by decide) ?_
        refine lv_icmp_ge (tgt := 104) hx hb dJ16_getChars_88 (by decide) (fun c_ => ?_) (fun c_ => ?_)
        · replace hw := hw.1 c_
          refine W.widen (k := 0) (n := 0) (Nat.le_of_ble_eq_true rfl) (Nat.le_of_ble_eq_true rfl) ?_
          exact hL104  (x5 + (-1)) x6 G5 _ _ ls hG (lv_sub hl [2, 0, 3] rfl) hw
        · replace hw := hw.2 c_
          refine lv_aload_n hx hb dJ16_getChars_91 rfl (lv_at hl 2 rfl) ?_
          refine lv_iinc (v := (x5 + (-1)) + (-1)) (lv' := [(5, .int ((x5 + (-1)) + (-1))), (0, .int x0), (2, .ref p2), (6, .int x6)]) hx hb dJ16_getChars_92 hl (k := 0) rfl rfl (by decide) rfl (fun ls hl => ?_)
          refine lv_iload hx hb dJ16_getChars_95 (lv_at hl 0 rfl) ?_
          refine va_gets (v := .ref (eZ E 7)) hx hb (hPF.z 8 rfl) hG.2 hown (hts _ q344) (fun _ h9 => h9) dJ16_getChars_97 ?_
          refine lv_iload_n hx hb dJ16_getChars_100 rfl (lv_at hl 1 rfl) ?_
          refine lv_ineg hx hb dJ16_getChars_101 ?_
          have hk6 := hw.1
          replace hw := hw.2
          have hi7 := hw.1
          replace hw := hw.2
          refine glb hx hb hPF hG hk6 hi7 rfl dJ16_getChars_102 ?_
          have hi8 := hw.1
          replace hw := hw.2
          refine gsb hx hb hPF hG hk3 hi8 rfl dJ16_getChars_103 (fun H locs hG => ?_)
          obtain ⟨G9, eG9⟩ : ∃ z, z = grI G5 p2 (upd (gI G5 p2) ((x5 + (-1)) + (-1)).toNatClampNeg (vp_nar .byte (gI G5 (eZ E 7) (-x0).toNatClampNeg))) := ⟨_, rfl⟩
          rw [← eG9] at hG
          replace hw := hw G9 eG9
          have hk1 : gC G9 (eZ E 6) = 32 := by rw [eG9]; exact hk1
          have hk3 : gK G9 p2 = 32 := by rw [eG9]; exact hk3
          have hk6 : gC G9 (eZ E 7) = 32 := by rw [eG9]; exact hk6
          refine W.widen (k := 0) (n := 0) (Nat.le_of_ble_eq_true rfl) (Nat.le_of_ble_eq_true rfl) ?_
          exact hL104  ((x5 + (-1)) + (-1)) x6 G9 _ _ ls hG (lv_sub hl [2, 0, 3] rfl) hw
      · replace hw := hw.2 c_
        refine lv_iload_n hx hb dJ16_getChars_28 rfl (lv_at hl 0 rfl) ?_
        refine lv_bipush (v := 100) hx hb dJ16_getChars_29 (by decide) ?_
        refine lv_idiv hx hb dJ16_getChars_31 (by decide) ?_
        refine lv_istore_n (i := 3) (lv' := [(3, .int (x0 / 100)), (0, .int x0), (2, .ref p2), (5, .int x5), (6, .int x6)]) hx hb dJ16_getChars_32 rfl hl (by decide) rfl (fun ls hl => ?_)
        refine lv_iload_n hx hb dJ16_getChars_33 rfl (lv_at hl 0 rfl) ?_
        refine lv_bipush (v := 100) hx hb dJ16_getChars_34 (by decide) ?_
        refine lv_imul hx hb dJ16_getChars_36 ?_
        refine lv_iload_n hx hb dJ16_getChars_37 rfl (lv_at hl 1 rfl) ?_
        refine lv_isub hx hb dJ16_getChars_38 ?_
        refine lv_istore (lv' := [(4, .int (((x0 / 100) * 100) - x0)), (3, .int (x0 / 100)), (0, .int x0), (2, .ref p2), (5, .int x5), (6, .int x6)]) hx hb dJ16_getChars_39 hl (by decide) rfl (fun ls hl => ?_)
        refine lv_iload_n hx hb dJ16_getChars_41 rfl (lv_at hl 1 rfl) ?_
        refine lv_istore_n (i := 0) (lv' := [(0, .int (x0 / 100)), (4, .int (((x0 / 100) * 100) - x0)), (3, .int (x0 / 100)), (2, .ref p2), (5, .int x5), (6, .int x6)]) hx hb dJ16_getChars_42 rfl hl (by decide) rfl (fun ls hl => ?_)
        refine lv_aload_n hx hb dJ16_getChars_43 rfl (lv_at hl 3 rfl) ?_
        refine lv_iinc (v := x5 + (-1)) (lv' := [(5, .int (x5 + (-1))), (0, .int (x0 / 100)), (4, .int (((x0 / 100) * 100) - x0)), (3, .int (x0 / 100)), (2, .ref p2), (6, .int x6)]) hx hb dJ16_getChars_44 hl (k := 4) rfl rfl (by decide) rfl (fun ls hl => ?_)
        refine lv_iload hx hb dJ16_getChars_47 (lv_at hl 0 rfl) ?_
        refine va_gets (v := .ref (eZ E 6)) hx hb (hPF.z 7 rfl) hG.2 hown (hts _ q342) (fun _ h9 => h9) dJ16_getChars_49 ?_
        refine lv_iload hx hb dJ16_getChars_52 (lv_at hl 2 rfl) ?_
        have hk10 := hw.1
        replace hw := hw.2
        have hi11 := hw.1
        replace hw := hw.2
        refine glb hx hb hPF hG hk10 hi11 rfl dJ16_getChars_54 ?_
        have hk12 := hw.1
        replace hw := hw.2
        have hi13 := hw.1
        replace hw := hw.2
        refine gsb hx hb hPF hG hk12 hi13 rfl dJ16_getChars_55 (fun H locs hG => ?_)
        obtain ⟨G14, eG14⟩ : ∃ z, z = grI G p2 (upd (gI G p2) (x5 + (-1)).toNatClampNeg (vp_nar .byte (gI G (eZ E 6) (((x0 / 100) * 100) - x0).toNatClampNeg))) := ⟨_, rfl⟩
        rw [← eG14] at hG
        replace hw := hw G14 eG14
        have hk10 : gC G14 (eZ E 6) = 32 := by rw [eG14]; exact hk10
        have hk12 : gK G14 p2 = 32 := by rw [eG14]; exact hk12
        refine lv_aload_n hx hb dJ16_getChars_56 rfl (lv_at hl 4 rfl) ?_
        refine lv_iinc (v := (x5 + (-1)) + (-1)) (lv' := [(5, .int ((x5 + (-1)) + (-1))), (0, .int (x0 / 100)), (4, .int (((x0 / 100) * 100) - x0)), (3, .int (x0 / 100)), (2, .ref p2), (6, .int x6)]) hx hb dJ16_getChars_57 hl (k := 0) rfl rfl (by decide) rfl (fun ls hl => ?_)
        refine lv_iload hx hb dJ16_getChars_60 (lv_at hl 0 rfl) ?_
        refine va_gets (v := .ref (eZ E 7)) hx hb (hPF.z 8 rfl) hG.2 hown (hts _ q344) (fun _ h9 => h9) dJ16_getChars_62 ?_
        refine lv_iload hx hb dJ16_getChars_65 (lv_at hl 2 rfl) ?_
        have hk15 := hw.1
        replace hw := hw.2
        have hi16 := hw.1
        replace hw := hw.2
        refine glb hx hb hPF hG hk15 hi16 rfl dJ16_getChars_67 ?_
        have hi17 := hw.1
        replace hw := hw.2
        refine gsb hx hb hPF hG hk12 hi17 rfl dJ16_getChars_68 (fun H locs hG => ?_)
        obtain ⟨G18, eG18⟩ : ∃ z, z = grI G14 p2 (upd (gI G14 p2) ((x5 + (-1)) + (-1)).toNatClampNeg (vp_nar .byte (gI G14 (eZ E 7) (((x0 / 100) * 100) - x0).toNatClampNeg))) := ⟨_, rfl⟩
        rw [← eG18] at hG
        replace hw := hw G18 eG18
        have hk10 : gC G18 (eZ E 6) = 32 := by rw [eG18]; exact hk10
        have hk12 : gK G18 p2 = 32 := by rw [eG18]; exact hk12
        have hk15 : gC G18 (eZ E 7) = 32 := by rw [eG18]; exact hk15
        refine lv_goto (tgt := 22) hx hb dJ16_getChars_69 (by decide) ?_
        refine W.widen (k := 0) (n := 0) (Nat.le_of_ble_eq_true rfl) (Nat.le_of_ble_eq_true rfl) ?_
        exact ih (x0 / 100) ((x5 + (-1)) + (-1)) x6 G18 _ _ ls hG (lv_sub hl [1, 4, 0, 5] rfl) hw
  have hL12 : ∀ (x0 : Int32) (x5 : Int32) (t0 : Int32) (G : Gh) (H : Heap) (locs : List Loc) (ls : Array Slot), gS E A G0 s.heap G H locs → lv_has ls 7 [(0, .int x0), (2, .ref p2), (5, .int x5)] → gw_J16_getChars_L12 E p2 post x0 x5 t0 G → W p l e (headSpec (ws_ yJ16_getChars cJ16_getChars 7 (some .int)) ({ frames := 0, cells := 0, slots := 0, locals := 0 } : Room)).room s m ([.int p0, .int p1, .ref p2] : List Value).toArray below meth c H locs 0 0 (MQ below (gQ E A G0 (gpi post)) ([.int p0, .int p1, .ref p2] : List Value).toArray s 0 0 A) (F0 m 12 ls [.int t0]) := by
    intro x0 x5 t0 G H locs ls hG hl hw
    unfold gw_J16_getChars_L12 at hw
    refine lv_istore (lv' := [(6, .int t0), (0, .int x0), (2, .ref p2), (5, .int x5)]) hx hb dJ16_getChars_12 hl (by decide) rfl (fun ls hl => ?_)
    refine lv_iload hx hb dJ16_getChars_14 (lv_at hl 0 rfl) ?_
    refine lv_if_ne (tgt := 22) hx hb dJ16_getChars_16 (by decide) (fun c_ => ?_) (fun c_ => ?_)
    · replace hw := hw.1 c_
      refine W.widen (k := 0) (n := 0) (Nat.le_of_ble_eq_true rfl) (Nat.le_of_ble_eq_true rfl) ?_
      obtain ⟨n0, hw⟩ := hw
      exact hL22  n0 x0 x5 t0 G _ _ ls hG (lv_sub hl [1, 2, 3, 0] rfl) hw
    · replace hw := hw.2 c_
      refine lv_iload_n hx hb dJ16_getChars_19 rfl (lv_at hl 1 rfl) ?_
      refine lv_ineg hx hb dJ16_getChars_20 ?_
      refine lv_istore_n (i := 0) (lv' := [(0, .int (-x0)), (6, .int t0), (2, .ref p2), (5, .int x5)]) hx hb dJ16_getChars_21 rfl hl (by decide) rfl (fun ls hl => ?_)
      refine W.widen (k := 0) (n := 0) (Nat.le_of_ble_eq_true rfl) (Nat.le_of_ble_eq_true rfl) ?_
      obtain ⟨n0, hw⟩ := hw
      exact hL22  n0 (-x0) x5 t0 G _ _ ls hG (lv_sub hl [0, 2, 3, 1] rfl) hw
  refine lv_iload_n hx hb dJ16_getChars_0 rfl (lv_at hl 1 rfl) ?_
  refine lv_istore (lv' := [(5, .int p1), (0, .int p0), (1, .int p1), (2, .ref p2)]) hx hb dJ16_getChars_1 hl (by decide) rfl (fun ls hl => ?_)
  refine lv_iload_n hx hb dJ16_getChars_3 rfl (lv_at hl 1 rfl) ?_
  refine lv_if_ge (tgt := 11) hx hb dJ16_getChars_4 (by decide) (fun c_ => ?_) (fun c_ => ?_)
  · replace hw := hw.1 c_
    refine lv_iconst (v := 0) hx hb dJ16_getChars_11 (by decide) ?_
    refine W.widen (k := 0) (n := 0) (Nat.le_of_ble_eq_true rfl) (Nat.le_of_ble_eq_true rfl) ?_
    exact hL12  p0 p1 0 G _ _ ls hG (lv_sub hl [1, 3, 0] rfl) hw
  · replace hw := hw.2 c_
    refine lv_iconst (v := 1) hx hb dJ16_getChars_7 (by decide) ?_
    refine lv_goto (tgt := 12) hx hb dJ16_getChars_8 (by decide) ?_
    refine W.widen (k := 0) (n := 0) (Nat.le_of_ble_eq_true rfl) (Nat.le_of_ble_eq_true rfl) ?_
    exact hL12  p0 p1 1 G _ _ ls hG (lv_sub hl [1, 3, 0] rfl) hw
def gw_J9_getBytes (E : gE) (post : Gh → Prop) (p0 : Nat) (p1 : Nat) (p2 : Int32) (p3 : Int32) (G : Gh) : Prop := gC G p0 = 17 ∧ (gC G p1 = 32 ∧ (gw_J9_coder E (fun r2 G1 => gMon G G1 → ((¬ r2 = p3 → (∃ q3, (gR G1 p0 0) = some q3 ∧ (gC G1 q3 = 32 ∧ (False)))) ∧ (r2 = p3 → (∃ q5, (gR G1 p0 0) = some q5 ∧ (gC G1 q5 = 32 ∧ (gK G1 p1 = 32 ∧ ((¬ (0 : Int32) < 0 ∧ ¬ (p2 <<< (p3 &&& 31)) < 0 ∧ ¬ (nI (gL G1 q5)) < 0 ∧ (0 : Int32).toNatClampNeg + (nI (gL G1 q5)).toNatClampNeg ≤ gL G1 q5 ∧ (p2 <<< (p3 &&& 31)).toNatClampNeg + (nI (gL G1 q5)).toNatClampNeg ≤ gL G1 p1) ∧ ((∀ i, i < (nI (gL G1 q5)).toNatClampNeg → fits .byte (.int (gI G1 q5 ((0 : Int32).toNatClampNeg + i))) = true) ∧ (∀ G10, G10 = grI G1 p1 (va_cpy (gI G1 q5) (gI G1 p1) (0 : Int32).toNatClampNeg (p2 <<< (p3 &&& 31)).toNatClampNeg (nI (gL G1 q5)).toNatClampNeg) → (post G10)))))))))) p0 G))
theorem hd_J9_getBytes : yJ9_getBytes.cls = RJ9 ∧ yJ9_getBytes.cls ≠ "java/lang/invoke/MethodHandle" ∧ yJ9_getBytes.cls ≠ "java/lang/invoke/VarHandle" ∧ (parseMethodDescriptor yJ9_getBytes.desc).map (fun d => d.parameters.length) = some 3 := by decide +kernel
theorem hdn_J9_getBytes : yJ9_getBytes.cls ≠ "java/lang/invoke/MethodHandle" ∧ yJ9_getBytes.cls ≠ "java/lang/invoke/VarHandle" ∧ (parseMethodDescriptor yJ9_getBytes.desc).map (fun d => d.parameters.length) = some 3 := hd_J9_getBytes.2
theorem hdu_J9_getBytes : RJ9 ≠ "java/lang/invoke/MethodHandle" ∧ RJ9 ≠ "java/lang/invoke/VarHandle" ∧ (parseMethodDescriptor yJ9_getBytes.desc).map (fun d => d.parameters.length) = some 3 := by decide +kernel
theorem hds_J9_getBytes : yJ9_getBytes.name ≠ "<init>" ∧ (parseMethodDescriptor yJ9_getBytes.desc).map (fun d => d.parameters.length) = some 3 := by decide +kernel
set_option maxHeartbeats 1000000 in
set_option maxRecDepth 100000 in
theorem gm_J9_getBytes (l : Launch) (E : gE) (p0 : Nat) (p1 : Nat) (p2 : Int32) (p3 : Int32) (post : Gh → Prop) (G : Gh) (hw : gw_J9_getBytes E post p0 p1 p2 p3 G) : gM l E yJ9_getBytes (ws_ yJ9_getBytes cJ9_getBytes 4 none) ({ frames := 1, cells := 0, slots := 0, locals := 60 } : Room) 0 0 [.ref p0, .ref p1, .int p2, .int p3] G (gpv post) := by
  refine gof (by decide) (Nat.le_of_ble_eq_true rfl) ?_
  intro p e s m below meth c A ls hx hb hr hlk hml hown hin hts hPF hA hG hl
  have hl : lv_has ls 4 [(0, .ref p0), (1, .ref p1), (2, .int p2), (3, .int p3)] := hl
  unfold gw_J9_getBytes at hw
  obtain ⟨G0, hG0⟩ : ∃ G0, G0 = G := ⟨_, rfl⟩
  have hG : gS E A G0 s.heap G s.heap [] := by rw [hG0]; exact hG
  rw [show gQ E A G (gpv post) = gQ E A G0 (gpv post) by rw [hG0]]
  have h0p0 := hw.1; rw [← hG0] at h0p0
  replace hw := hw.2
  have h0p1 := hw.1; rw [← hG0] at h0p1
  replace hw := hw.2
  refine lv_aload_n hx hb dJ9_getBytes_0 rfl (lv_at hl 0 rfl) ?_
  refine gc3i hA hG (va_runV (As := []) (rest := []) ⟨hx, hb, hml, hown, hts⟩ (gm_J9_coder l E p0 _ G hw _) (cwV 0 hts (lw_V q290 q291 q292 q66 q293) rfl rfl rfl hd_J9_coder ⟨Nat.le_of_ble_eq_true rfl, Nat.le_of_ble_eq_true rfl⟩) ⟨gblind, grecv hPF hG (gC_mon hG.1.2 h0p0 (by decide)) (by decide) (by decide) rfl, fun U hU hW => gpre hPF hA hG _ U hU hW⟩ rfl rfl hl.1 rfl (lv_room (Nat.le_of_ble_eq_true rfl)) dJ9_getBytes_1 ⟨(Nat.le_of_ble_eq_true rfl), (Nat.le_of_ble_eq_true rfl)⟩) (fun r2 G1 H locs hw hmon hG => ?_)
  replace hw := hw hmon
  refine lv_iload_n hx hb dJ9_getBytes_4 rfl (lv_at hl 3 rfl) ?_
  refine lv_icmp_ne (tgt := 28) hx hb dJ9_getBytes_5 (by decide) (fun c_ => ?_) (fun c_ => ?_)
  · replace hw := hw.1 c_
    refine lv_aload_n hx hb dJ9_getBytes_28 rfl (lv_at hl 0 rfl) ?_
    refine gg hx hb hts hown hPF hG 17 0 rfl in_J9b (by decide) (by decide) (by decide) q435 (fun _ h9 => h9) (gC_mon hG.1.2 h0p0 (by decide)) (v := va_rf (gR G1 p0 0)) rfl dJ9_getBytes_29 ?_
    refine lv_iconst (v := 0) hx hb dJ9_getBytes_32 (by decide) ?_
    refine lv_aload_n hx hb dJ9_getBytes_33 rfl (lv_at hl 1 rfl) ?_
    refine lv_iload_n hx hb dJ9_getBytes_34 rfl (lv_at hl 2 rfl) ?_
    refine lv_aload_n hx hb dJ9_getBytes_35 rfl (lv_at hl 0 rfl) ?_
    refine gg hx hb hts hown hPF hG 17 0 rfl in_J9b (by decide) (by decide) (by decide) q435 (fun _ h9 => h9) (gC_mon hG.1.2 h0p0 (by decide)) (v := va_rf (gR G1 p0 0)) rfl dJ9_getBytes_36 ?_
    obtain ⟨q3, hq3, hw⟩ := hw
    refine W.eq (g2 := F0 m 39 ls [.ref q3, .int p2, .ref p1, .int 0, va_rf (gR G1 p0 0)]) (by rw [hq3]; rfl) ?_
    have hk4 := hw.1
    replace hw := hw.2
    refine galen hx hb hPF hG hk4 (by decide) (by decide) dJ9_getBytes_39 ?_
    exact hw.elim
  · replace hw := hw.2 c_
    refine lv_aload_n hx hb dJ9_getBytes_8 rfl (lv_at hl 0 rfl) ?_
    refine gg hx hb hts hown hPF hG 17 0 rfl in_J9b (by decide) (by decide) (by decide) q435 (fun _ h9 => h9) (gC_mon hG.1.2 h0p0 (by decide)) (v := va_rf (gR G1 p0 0)) rfl dJ9_getBytes_9 ?_
    refine lv_iconst (v := 0) hx hb dJ9_getBytes_12 (by decide) ?_
    refine lv_aload_n hx hb dJ9_getBytes_13 rfl (lv_at hl 1 rfl) ?_
    refine lv_iload_n hx hb dJ9_getBytes_14 rfl (lv_at hl 2 rfl) ?_
    refine lv_iload_n hx hb dJ9_getBytes_15 rfl (lv_at hl 3 rfl) ?_
    refine lv_ishl hx hb dJ9_getBytes_16 ?_
    refine lv_aload_n hx hb dJ9_getBytes_17 rfl (lv_at hl 0 rfl) ?_
    refine gg hx hb hts hown hPF hG 17 0 rfl in_J9b (by decide) (by decide) (by decide) q435 (fun _ h9 => h9) (gC_mon hG.1.2 h0p0 (by decide)) (v := va_rf (gR G1 p0 0)) rfl dJ9_getBytes_18 ?_
    obtain ⟨q5, hq5, hw⟩ := hw
    refine W.eq (g2 := F0 m 21 ls [.ref q5, .int (p2 <<< (p3 &&& 31)), .ref p1, .int 0, va_rf (gR G1 p0 0)]) (by rw [hq5]; rfl) ?_
    have hk6 := hw.1
    replace hw := hw.2
    refine galen hx hb hPF hG hk6 (by decide) (by decide) dJ9_getBytes_21 ?_
    refine W.eq (g2 := F0 m 22 ls [.int (nI (gL G1 q5)), .int (p2 <<< (p3 &&& 31)), .ref p1, .int 0, .ref q5]) (by rw [hq5]; rfl) ?_
    have hk7 := hw.1
    replace hw := hw.2
    have hv8 := hw.1
    replace hw := hw.2
    have hf9 := hw.1
    replace hw := hw.2
    refine gcpb hx hb (hl.1.trans hml.symm) hts hown q327 q254 q253 q71 hPF hG hk6 hk7 hv8.1 hv8.2.1 hv8.2.2.1 hv8.2.2.2.1 hv8.2.2.2.2 hf9 (Nat.le_of_ble_eq_true rfl) (by (try simp only [List.map, va_rf_cat, gcat_i, gcat_r, gcat_l, gcat_d, gcat_f, gcat_n]); exact Nat.le_of_ble_eq_true rfl) dJ9_getBytes_22 (fun H locs hG => ?_)
    obtain ⟨G10, eG10⟩ : ∃ z, z = grI G1 p1 (va_cpy (gI G1 q5) (gI G1 p1) (0 : Int32).toNatClampNeg (p2 <<< (p3 &&& 31)).toNatClampNeg (nI (gL G1 q5)).toNatClampNeg) := ⟨_, rfl⟩
    rw [← eG10] at hG
    replace hw := hw G10 eG10
    have hk6 : gC G10 q5 = 32 := by rw [eG10]; exact hk6
    have hk7 : gK G10 p1 = 32 := by rw [eG10]; exact hk7
    refine lv_goto (tgt := 43) hx hb dJ9_getBytes_25 (by decide) ?_
    exact gretv hx hb hr hlk hG hw (Nat.le_of_ble_eq_true rfl) (Nat.le_of_ble_eq_true rfl) dJ9_getBytes_43
