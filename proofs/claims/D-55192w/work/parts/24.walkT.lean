/-! walks over the ghost heap: walkT -/
set_option maxRecDepth 100000
def gw_X2_lambda_inCrates_1 (E : gE) (post : Int32 → Gh → Prop) (p0 : Nat) (G : Gh) : Prop := gK G p0 = 8 ∧ (post 1 G)
theorem hd_X2_lambda_inCrates_1 : yX2_lambda_inCrates_1.cls ≠ "java/lang/invoke/MethodHandle" ∧ yX2_lambda_inCrates_1.cls ≠ "java/lang/invoke/VarHandle" ∧ (parseMethodDescriptor yX2_lambda_inCrates_1.desc).map (fun d => d.parameters.length) = some 1 := by decide +kernel
set_option maxHeartbeats 1000000 in
set_option maxRecDepth 100000 in
theorem gm_X2_lambda_inCrates_1 (l : Launch) (E : gE) (p0 : Nat) (post : Int32 → Gh → Prop) (G : Gh) (hw : gw_X2_lambda_inCrates_1 E post p0 G) : gM l E yX2_lambda_inCrates_1 (ws_ yX2_lambda_inCrates_1 cX2_lambda_inCrates_1 1 (some .boolean)) ({ frames := 0, cells := 0, slots := 0, locals := 0 } : Room) 0 0 [.ref p0] G (gpi post) := by
  refine gof (by decide) (Nat.le_of_ble_eq_true rfl) ?_
  intro p e s m below meth c A ls hx hb hr hlk hml hown hin hts hPF hA hG hl
  have hl : lv_has ls 1 [(0, .ref p0)] := hl
  unfold gw_X2_lambda_inCrates_1 at hw
  obtain ⟨G0, hG0⟩ : ∃ G0, G0 = G := ⟨_, rfl⟩
  have hG : gS E A G0 s.heap G s.heap [] := by rw [hG0]; exact hG
  rw [show gQ E A G (gpi post) = gQ E A G0 (gpi post) by rw [hG0]]
  have h0p0 := hw.1; rw [← hG0] at h0p0
  replace hw := hw.2
  refine lv_iconst (v := 1) hx hb dX2_lambda_inCrates_1_0 (by decide) ?_
  exact greti hx hb hr hlk hG rfl hw (Nat.le_of_ble_eq_true rfl) (Nat.le_of_ble_eq_true rfl) dX2_lambda_inCrates_1_1
def gw_X2_lambda_inCrates_2 (E : gE) (post : Int32 → Gh → Prop) (p0 : Nat) (G : Gh) : Prop := gK G p0 = 8 ∧ (post (gI G p0 1) G)
theorem hd_X2_lambda_inCrates_2 : yX2_lambda_inCrates_2.cls ≠ "java/lang/invoke/MethodHandle" ∧ yX2_lambda_inCrates_2.cls ≠ "java/lang/invoke/VarHandle" ∧ (parseMethodDescriptor yX2_lambda_inCrates_2.desc).map (fun d => d.parameters.length) = some 1 := by decide +kernel
set_option maxHeartbeats 1000000 in
set_option maxRecDepth 100000 in
theorem gm_X2_lambda_inCrates_2 (l : Launch) (E : gE) (p0 : Nat) (post : Int32 → Gh → Prop) (G : Gh) (hw : gw_X2_lambda_inCrates_2 E post p0 G) : gM l E yX2_lambda_inCrates_2 (ws_ yX2_lambda_inCrates_2 cX2_lambda_inCrates_2 1 (some .int)) ({ frames := 0, cells := 0, slots := 0, locals := 0 } : Room) 0 0 [.ref p0] G (gpi post) := by
  refine gof (by decide) (Nat.le_of_ble_eq_true rfl) ?_
  intro p e s m below meth c A ls hx hb hr hlk hml hown hin hts hPF hA hG hl
  have hl : lv_has ls 1 [(0, .ref p0)] := hl
  unfold gw_X2_lambda_inCrates_2 at hw
  obtain ⟨G0, hG0⟩ : ∃ G0, G0 = G := ⟨_, rfl⟩
  have hG : gS E A G0 s.heap G s.heap [] := by rw [hG0]; exact hG
  rw [show gQ E A G (gpi post) = gQ E A G0 (gpi post) by rw [hG0]]
  have h0p0 := hw.1; rw [← hG0] at h0p0
  replace hw := hw.2
  refine lv_aload_n hx hb dX2_lambda_inCrates_2_0 rfl (lv_at hl 0 rfl) ?_
  refine ggN hx hb hts hown hPF hG 8 1 rfl in_X9 (by decide) (by decide) (by decide) q925 (fun _ h9 => h9) (gC_of (gK_mon hG.1.2 h0p0 (by decide)) (by decide)) (v := .int (gI G p0 1)) rfl dX2_lambda_inCrates_2_1 ?_
  exact greti hx hb hr hlk hG rfl hw (Nat.le_of_ble_eq_true rfl) (Nat.le_of_ble_eq_true rfl) dX2_lambda_inCrates_2_4
def gw_X1_lambda_sheets_1 (E : gE) (post : Int32 → Gh → Prop) (px : String → Nat → Gh → Prop) (p0 : Int32) (p1 : Nat) (G : Gh) : Prop := gK G p1 = 2 ∧ (gw_X2_buySheets E (fun r2 G1 => gMon G G1 → (post r2 G1)) px p1 p0 G)
theorem hd_X1_lambda_sheets_1 : yX1_lambda_sheets_1.cls ≠ "java/lang/invoke/MethodHandle" ∧ yX1_lambda_sheets_1.cls ≠ "java/lang/invoke/VarHandle" ∧ (parseMethodDescriptor yX1_lambda_sheets_1.desc).map (fun d => d.parameters.length) = some 2 := by decide +kernel
set_option maxHeartbeats 1000000 in
set_option maxRecDepth 100000 in
theorem gm_X1_lambda_sheets_1 (l : Launch) (hlt : l.stackTraces = false) (E : gE) (p0 : Int32) (p1 : Nat) (post : Int32 → Gh → Prop) (px : String → Nat → Gh → Prop) (G : Gh) (hw : gw_X1_lambda_sheets_1 E post px p0 p1 G) : gX l E yX1_lambda_sheets_1 (ws_ yX1_lambda_sheets_1 cX1_lambda_sheets_1 2 (some .int)) ({ frames := 10, cells := 2, slots := 14, locals := 164 } : Room) 2 14 [.int p0, .ref p1] G (gpi post) px := by
  refine xof (by decide) (Nat.le_of_ble_eq_true rfl) ?_
  intro p e s m below meth c A ls hx hb hr hlk hml hown hin hts hPF hA htab hG hl
  have hl : lv_has ls 2 [(0, .int p0), (1, .ref p1)] := hl
  unfold gw_X1_lambda_sheets_1 at hw
  obtain ⟨G0, hG0⟩ : ∃ G0, G0 = G := ⟨_, rfl⟩
  have hG : gS E A G0 s.heap G s.heap [] := by rw [hG0]; exact hG
  rw [show gQ E A G (gpi post) = gQ E A G0 (gpi post) by rw [hG0]]
  rw [show gXC E A G px = gXC E A G0 px by rw [hG0]]
  have h0p1 := hw.1; rw [← hG0] at h0p1
  replace hw := hw.2
  refine lv_aload_n hx hb dX1_lambda_sheets_1_0 rfl (lv_at hl 1 rfl) ?_
  refine lv_iload_n hx hb dX1_lambda_sheets_1_1 rfl (lv_at hl 0 rfl) ?_
  refine xc3i hA hG (vx_runV (As := [.int p0]) (rest := []) ⟨hx, hb, hml, hown, hts⟩ (gm_X2_buySheets l hlt E p1 p0 _ _ G hw _) (cwV 1 hts (lw_V q631 q632 q633 q56 q634) rfl rfl rfl hd_X2_buySheets ⟨Nat.le_of_ble_eq_true rfl, Nat.le_of_ble_eq_true rfl⟩) ⟨gblind, grecv hPF hG (gC_of (gK_mon hG.1.2 h0p1 (by decide)) (by decide)) (by decide) (by decide) rfl, fun U hU hW => gpre hPF hA hG _ U hU hW⟩ rfl rfl hl.1 rfl (lv_room (Nat.le_of_ble_eq_true rfl)) dX1_lambda_sheets_1_2 ⟨(Nat.le_of_ble_eq_true rfl), (Nat.le_of_ble_eq_true rfl)⟩) (fun X ce q Gx H locs hw hmon hG hce hcv hcl => ?_) (fun r2 G1 H locs hw hmon hG => ?_)
  · exact gleave hlk hG (fun x hx9 => (htab x hx9).elim) hce hcv hcl hw (Nat.le_of_ble_eq_true rfl) (Nat.le_of_ble_eq_true rfl)
  · replace hw := hw hmon
    exact xreti hx hb hr hlk hG rfl hw (Nat.le_of_ble_eq_true rfl) (Nat.le_of_ble_eq_true rfl) dX1_lambda_sheets_1_5
def gw_X1_lambda_damp_2 (E : gE) (post : Int32 → Gh → Prop) (px : String → Nat → Gh → Prop) (p0 : Int32) (p1 : Nat) (G : Gh) : Prop := gK G p1 = 2 ∧ (gw_X2_setDamp E (fun r2 G1 => gMon G G1 → (post r2 G1)) px p1 p0 G)
theorem hd_X1_lambda_damp_2 : yX1_lambda_damp_2.cls ≠ "java/lang/invoke/MethodHandle" ∧ yX1_lambda_damp_2.cls ≠ "java/lang/invoke/VarHandle" ∧ (parseMethodDescriptor yX1_lambda_damp_2.desc).map (fun d => d.parameters.length) = some 2 := by decide +kernel
set_option maxHeartbeats 1000000 in
set_option maxRecDepth 100000 in
theorem gm_X1_lambda_damp_2 (l : Launch) (hlt : l.stackTraces = false) (E : gE) (p0 : Int32) (p1 : Nat) (post : Int32 → Gh → Prop) (px : String → Nat → Gh → Prop) (G : Gh) (hw : gw_X1_lambda_damp_2 E post px p0 p1 G) : gX l E yX1_lambda_damp_2 (ws_ yX1_lambda_damp_2 cX1_lambda_damp_2 2 (some .int)) ({ frames := 10, cells := 1, slots := 6, locals := 162 } : Room) 1 6 [.int p0, .ref p1] G (gpi post) px := by
  refine xof (by decide) (Nat.le_of_ble_eq_true rfl) ?_
  intro p e s m below meth c A ls hx hb hr hlk hml hown hin hts hPF hA htab hG hl
  have hl : lv_has ls 2 [(0, .int p0), (1, .ref p1)] := hl
  unfold gw_X1_lambda_damp_2 at hw
  obtain ⟨G0, hG0⟩ : ∃ G0, G0 = G := ⟨_, rfl⟩
  have hG : gS E A G0 s.heap G s.heap [] := by rw [hG0]; exact hG
  rw [show gQ E A G (gpi post) = gQ E A G0 (gpi post) by rw [hG0]]
  rw [show gXC E A G px = gXC E A G0 px by rw [hG0]]
  have h0p1 := hw.1; rw [← hG0] at h0p1
  replace hw := hw.2
  refine lv_aload_n hx hb dX1_lambda_damp_2_0 rfl (lv_at hl 1 rfl) ?_
  refine lv_iload_n hx hb dX1_lambda_damp_2_1 rfl (lv_at hl 0 rfl) ?_
  refine xc3i hA hG (vx_runV (As := [.int p0]) (rest := []) ⟨hx, hb, hml, hown, hts⟩ (gm_X2_setDamp l hlt E p1 p0 _ _ G hw _) (cwV 1 hts (lw_V q1029 q1030 q1031 q56 q1032) rfl rfl rfl hd_X2_setDamp ⟨Nat.le_of_ble_eq_true rfl, Nat.le_of_ble_eq_true rfl⟩) ⟨gblind, grecv hPF hG (gC_of (gK_mon hG.1.2 h0p1 (by decide)) (by decide)) (by decide) (by decide) rfl, fun U hU hW => gpre hPF hA hG _ U hU hW⟩ rfl rfl hl.1 rfl (lv_room (Nat.le_of_ble_eq_true rfl)) dX1_lambda_damp_2_2 ⟨(Nat.le_of_ble_eq_true rfl), (Nat.le_of_ble_eq_true rfl)⟩) (fun X ce q Gx H locs hw hmon hG hce hcv hcl => ?_) (fun r2 G1 H locs hw hmon hG => ?_)
  · exact gleave hlk hG (fun x hx9 => (htab x hx9).elim) hce hcv hcl hw (Nat.le_of_ble_eq_true rfl) (Nat.le_of_ble_eq_true rfl)
  · replace hw := hw hmon
    exact xreti hx hb hr hlk hG rfl hw (Nat.le_of_ble_eq_true rfl) (Nat.le_of_ble_eq_true rfl) dX1_lambda_damp_2_5
def gw_X1_lambda_copper_3 (E : gE) (post : Int32 → Gh → Prop) (px : String → Nat → Gh → Prop) (p0 : Int32) (p1 : Nat) (G : Gh) : Prop := gK G p1 = 2 ∧ (gw_X2_addCopper E (fun r2 G1 => gMon G G1 → (post r2 G1)) px p1 p0 G)
theorem hd_X1_lambda_copper_3 : yX1_lambda_copper_3.cls ≠ "java/lang/invoke/MethodHandle" ∧ yX1_lambda_copper_3.cls ≠ "java/lang/invoke/VarHandle" ∧ (parseMethodDescriptor yX1_lambda_copper_3.desc).map (fun d => d.parameters.length) = some 2 := by decide +kernel
set_option maxHeartbeats 1000000 in
set_option maxRecDepth 100000 in
theorem gm_X1_lambda_copper_3 (l : Launch) (hlt : l.stackTraces = false) (E : gE) (p0 : Int32) (p1 : Nat) (post : Int32 → Gh → Prop) (px : String → Nat → Gh → Prop) (G : Gh) (hw : gw_X1_lambda_copper_3 E post px p0 p1 G) : gX l E yX1_lambda_copper_3 (ws_ yX1_lambda_copper_3 cX1_lambda_copper_3 2 (some .int)) ({ frames := 10, cells := 4, slots := 80, locals := 234 } : Room) 4 80 [.int p0, .ref p1] G (gpi post) px := by
  refine xof (by decide) (Nat.le_of_ble_eq_true rfl) ?_
  intro p e s m below meth c A ls hx hb hr hlk hml hown hin hts hPF hA htab hG hl
  have hl : lv_has ls 2 [(0, .int p0), (1, .ref p1)] := hl
  unfold gw_X1_lambda_copper_3 at hw
  obtain ⟨G0, hG0⟩ : ∃ G0, G0 = G := ⟨_, rfl⟩
  have hG : gS E A G0 s.heap G s.heap [] := by rw [hG0]; exact hG
  rw [show gQ E A G (gpi post) = gQ E A G0 (gpi post) by rw [hG0]]
  rw [show gXC E A G px = gXC E A G0 px by rw [hG0]]
  have h0p1 := hw.1; rw [← hG0] at h0p1
  replace hw := hw.2
  refine lv_aload_n hx hb dX1_lambda_copper_3_0 rfl (lv_at hl 1 rfl) ?_
  refine lv_iload_n hx hb dX1_lambda_copper_3_1 rfl (lv_at hl 0 rfl) ?_
  refine xc3i hA hG (vx_runV (As := [.int p0]) (rest := []) ⟨hx, hb, hml, hown, hts⟩ (gm_X2_addCopper l hlt E p1 p0 _ _ G hw _) (cwV 1 hts (lw_V q1044 q1045 q1046 q56 q1047) rfl rfl rfl hd_X2_addCopper ⟨Nat.le_of_ble_eq_true rfl, Nat.le_of_ble_eq_true rfl⟩) ⟨gblind, grecv hPF hG (gC_of (gK_mon hG.1.2 h0p1 (by decide)) (by decide)) (by decide) (by decide) rfl, fun U hU hW => gpre hPF hA hG _ U hU hW⟩ rfl rfl hl.1 rfl (lv_room (Nat.le_of_ble_eq_true rfl)) dX1_lambda_copper_3_2 ⟨(Nat.le_of_ble_eq_true rfl), (Nat.le_of_ble_eq_true rfl)⟩) (fun X ce q Gx H locs hw hmon hG hce hcv hcl => ?_) (fun r2 G1 H locs hw hmon hG => ?_)
  · exact gleave hlk hG (fun x hx9 => (htab x hx9).elim) hce hcv hcl hw (Nat.le_of_ble_eq_true rfl) (Nat.le_of_ble_eq_true rfl)
  · replace hw := hw hmon
    exact xreti hx hb hr hlk hG rfl hw (Nat.le_of_ble_eq_true rfl) (Nat.le_of_ble_eq_true rfl) dX1_lambda_copper_3_5
def gw_X1_lambda_lot_4 (E : gE) (post : Int32 → Gh → Prop) (px : String → Nat → Gh → Prop) (p0 : Int32) (p1 : Nat) (G : Gh) : Prop := gK G p1 = 2 ∧ (gw_X2_buyLot E (fun r2 G1 => gMon G G1 → (post r2 G1)) px p1 p0 G)
theorem hd_X1_lambda_lot_4 : yX1_lambda_lot_4.cls ≠ "java/lang/invoke/MethodHandle" ∧ yX1_lambda_lot_4.cls ≠ "java/lang/invoke/VarHandle" ∧ (parseMethodDescriptor yX1_lambda_lot_4.desc).map (fun d => d.parameters.length) = some 2 := by decide +kernel
set_option maxHeartbeats 1000000 in
set_option maxRecDepth 100000 in
theorem gm_X1_lambda_lot_4 (l : Launch) (hlt : l.stackTraces = false) (E : gE) (p0 : Int32) (p1 : Nat) (post : Int32 → Gh → Prop) (px : String → Nat → Gh → Prop) (G : Gh) (hw : gw_X1_lambda_lot_4 E post px p0 p1 G) : gX l E yX1_lambda_lot_4 (ws_ yX1_lambda_lot_4 cX1_lambda_lot_4 2 (some .int)) ({ frames := 10, cells := 6, slots := 87, locals := 234 } : Room) 6 87 [.int p0, .ref p1] G (gpi post) px := by
  refine xof (by decide) (Nat.le_of_ble_eq_true rfl) ?_
  intro p e s m below meth c A ls hx hb hr hlk hml hown hin hts hPF hA htab hG hl
  have hl : lv_has ls 2 [(0, .int p0), (1, .ref p1)] := hl
  unfold gw_X1_lambda_lot_4 at hw
  obtain ⟨G0, hG0⟩ : ∃ G0, G0 = G := ⟨_, rfl⟩
  have hG : gS E A G0 s.heap G s.heap [] := by rw [hG0]; exact hG
  rw [show gQ E A G (gpi post) = gQ E A G0 (gpi post) by rw [hG0]]
  rw [show gXC E A G px = gXC E A G0 px by rw [hG0]]
  have h0p1 := hw.1; rw [← hG0] at h0p1
  replace hw := hw.2
  refine lv_aload_n hx hb dX1_lambda_lot_4_0 rfl (lv_at hl 1 rfl) ?_
  refine lv_iload_n hx hb dX1_lambda_lot_4_1 rfl (lv_at hl 0 rfl) ?_
  refine xc3i hA hG (vx_runV (As := [.int p0]) (rest := []) ⟨hx, hb, hml, hown, hts⟩ (gm_X2_buyLot l hlt E p1 p0 _ _ G hw _) (cwV 1 hts (lw_V q1172 q1173 q1174 q56 q1175) rfl rfl rfl hd_X2_buyLot ⟨Nat.le_of_ble_eq_true rfl, Nat.le_of_ble_eq_true rfl⟩) ⟨gblind, grecv hPF hG (gC_of (gK_mon hG.1.2 h0p1 (by decide)) (by decide)) (by decide) (by decide) rfl, fun U hU hW => gpre hPF hA hG _ U hU hW⟩ rfl rfl hl.1 rfl (lv_room (Nat.le_of_ble_eq_true rfl)) dX1_lambda_lot_4_2 ⟨(Nat.le_of_ble_eq_true rfl), (Nat.le_of_ble_eq_true rfl)⟩) (fun X ce q Gx H locs hw hmon hG hce hcv hcl => ?_) (fun r2 G1 H locs hw hmon hG => ?_)
  · exact gleave hlk hG (fun x hx9 => (htab x hx9).elim) hce hcv hcl hw (Nat.le_of_ble_eq_true rfl) (Nat.le_of_ble_eq_true rfl)
  · replace hw := hw hmon
    exact xreti hx hb hr hlk hG rfl hw (Nat.le_of_ble_eq_true rfl) (Nat.le_of_ble_eq_true rfl) dX1_lambda_lot_4_5
def gw_X1_lambda_print_5 (E : gE) (post : Int32 → Gh → Prop) (px : String → Nat → Gh → Prop) (p0 : Int32) (p1 : Int32) (p2 : Nat) (G : Gh) : Prop := gK G p2 = 2 ∧ (gw_X2_print E (fun r2 G1 => gMon G G1 → (post r2 G1)) px p2 p0 p1 G)
theorem hd_X1_lambda_print_5 : yX1_lambda_print_5.cls ≠ "java/lang/invoke/MethodHandle" ∧ yX1_lambda_print_5.cls ≠ "java/lang/invoke/VarHandle" ∧ (parseMethodDescriptor yX1_lambda_print_5.desc).map (fun d => d.parameters.length) = some 3 := by decide +kernel
set_option maxHeartbeats 1000000 in
set_option maxRecDepth 100000 in
theorem gm_X1_lambda_print_5 (l : Launch) (hlt : l.stackTraces = false) (E : gE) (p0 : Int32) (p1 : Int32) (p2 : Nat) (post : Int32 → Gh → Prop) (px : String → Nat → Gh → Prop) (G : Gh) (hw : gw_X1_lambda_print_5 E post px p0 p1 p2 G) : gX l E yX1_lambda_print_5 (ws_ yX1_lambda_print_5 cX1_lambda_print_5 3 (some .int)) ({ frames := 12, cells := 6, slots := 37, locals := 207 } : Room) 6 37 [.int p0, .int p1, .ref p2] G (gpi post) px := by
  refine xof (by decide) (Nat.le_of_ble_eq_true rfl) ?_
  intro p e s m below meth c A ls hx hb hr hlk hml hown hin hts hPF hA htab hG hl
  have hl : lv_has ls 3 [(0, .int p0), (1, .int p1), (2, .ref p2)] := hl
  unfold gw_X1_lambda_print_5 at hw
  obtain ⟨G0, hG0⟩ : ∃ G0, G0 = G := ⟨_, rfl⟩
  have hG : gS E A G0 s.heap G s.heap [] := by rw [hG0]; exact hG
  rw [show gQ E A G (gpi post) = gQ E A G0 (gpi post) by rw [hG0]]
  rw [show gXC E A G px = gXC E A G0 px by rw [hG0]]
  have h0p2 := hw.1; rw [← hG0] at h0p2
  replace hw := hw.2
  refine lv_aload_n hx hb dX1_lambda_print_5_0 rfl (lv_at hl 2 rfl) ?_
  refine lv_iload_n hx hb dX1_lambda_print_5_1 rfl (lv_at hl 0 rfl) ?_
  refine lv_iload_n hx hb dX1_lambda_print_5_2 rfl (lv_at hl 1 rfl) ?_
  refine xc3i hA hG (vx_runV (As := [.int p0, .int p1]) (rest := []) ⟨hx, hb, hml, hown, hts⟩ (gm_X2_print l hlt E p2 p0 p1 _ _ G hw _) (cwV 2 hts (lw_V q1276 q1277 q1278 q56 q1279) rfl rfl rfl hd_X2_print ⟨Nat.le_of_ble_eq_true rfl, Nat.le_of_ble_eq_true rfl⟩) ⟨gblind, grecv hPF hG (gC_of (gK_mon hG.1.2 h0p2 (by decide)) (by decide)) (by decide) (by decide) rfl, fun U hU hW => gpre hPF hA hG _ U hU hW⟩ rfl rfl hl.1 rfl (lv_room (Nat.le_of_ble_eq_true rfl)) dX1_lambda_print_5_3 ⟨(Nat.le_of_ble_eq_true rfl), (Nat.le_of_ble_eq_true rfl)⟩) (fun X ce q Gx H locs hw hmon hG hce hcv hcl => ?_) (fun r2 G1 H locs hw hmon hG => ?_)
  · exact gleave hlk hG (fun x hx9 => (htab x hx9).elim) hce hcv hcl hw (Nat.le_of_ble_eq_true rfl) (Nat.le_of_ble_eq_true rfl)
  · replace hw := hw hmon
    exact xreti hx hb hr hlk hG rfl hw (Nat.le_of_ble_eq_true rfl) (Nat.le_of_ble_eq_true rfl) dX1_lambda_print_5_6
def gw_X1_lambda_kiln_6 (E : gE) (post : Int32 → Gh → Prop) (px : String → Nat → Gh → Prop) (p0 : Int32) (p1 : Nat) (G : Gh) : Prop := gK G p1 = 2 ∧ (gw_X2_addKiln E (fun r2 G1 => gMon G G1 → (post r2 G1)) px p1 p0 G)
theorem hd_X1_lambda_kiln_6 : yX1_lambda_kiln_6.cls ≠ "java/lang/invoke/MethodHandle" ∧ yX1_lambda_kiln_6.cls ≠ "java/lang/invoke/VarHandle" ∧ (parseMethodDescriptor yX1_lambda_kiln_6.desc).map (fun d => d.parameters.length) = some 2 := by decide +kernel
set_option maxHeartbeats 1000000 in
set_option maxRecDepth 100000 in
theorem gm_X1_lambda_kiln_6 (l : Launch) (hlt : l.stackTraces = false) (E : gE) (p0 : Int32) (p1 : Nat) (post : Int32 → Gh → Prop) (px : String → Nat → Gh → Prop) (G : Gh) (hw : gw_X1_lambda_kiln_6 E post px p0 p1 G) : gX l E yX1_lambda_kiln_6 (ws_ yX1_lambda_kiln_6 cX1_lambda_kiln_6 2 (some .int)) ({ frames := 10, cells := 4, slots := 78, locals := 234 } : Room) 4 78 [.int p0, .ref p1] G (gpi post) px := by
  refine xof (by decide) (Nat.le_of_ble_eq_true rfl) ?_
  intro p e s m below meth c A ls hx hb hr hlk hml hown hin hts hPF hA htab hG hl
  have hl : lv_has ls 2 [(0, .int p0), (1, .ref p1)] := hl
  unfold gw_X1_lambda_kiln_6 at hw
  obtain ⟨G0, hG0⟩ : ∃ G0, G0 = G := ⟨_, rfl⟩
  have hG : gS E A G0 s.heap G s.heap [] := by rw [hG0]; exact hG
  rw [show gQ E A G (gpi post) = gQ E A G0 (gpi post) by rw [hG0]]
  rw [show gXC E A G px = gXC E A G0 px by rw [hG0]]
  have h0p1 := hw.1; rw [← hG0] at h0p1
  replace hw := hw.2
  refine lv_aload_n hx hb dX1_lambda_kiln_6_0 rfl (lv_at hl 1 rfl) ?_
  refine lv_iload_n hx hb dX1_lambda_kiln_6_1 rfl (lv_at hl 0 rfl) ?_
  refine xc3i hA hG (vx_runV (As := [.int p0]) (rest := []) ⟨hx, hb, hml, hown, hts⟩ (gm_X2_addKiln l hlt E p1 p0 _ _ G hw _) (cwV 1 hts (lw_V q1315 q1316 q1317 q56 q1318) rfl rfl rfl hd_X2_addKiln ⟨Nat.le_of_ble_eq_true rfl, Nat.le_of_ble_eq_true rfl⟩) ⟨gblind, grecv hPF hG (gC_of (gK_mon hG.1.2 h0p1 (by decide)) (by decide)) (by decide) (by decide) rfl, fun U hU hW => gpre hPF hA hG _ U hU hW⟩ rfl rfl hl.1 rfl (lv_room (Nat.le_of_ble_eq_true rfl)) dX1_lambda_kiln_6_2 ⟨(Nat.le_of_ble_eq_true rfl), (Nat.le_of_ble_eq_true rfl)⟩) (fun X ce q Gx H locs hw hmon hG hce hcv hcl => ?_) (fun r2 G1 H locs hw hmon hG => ?_)
  · exact gleave hlk hG (fun x hx9 => (htab x hx9).elim) hce hcv hcl hw (Nat.le_of_ble_eq_true rfl) (Nat.le_of_ble_eq_true rfl)
  · replace hw := hw hmon
    exact xreti hx hb hr hlk hG rfl hw (Nat.le_of_ble_eq_true rfl) (Nat.le_of_ble_eq_true rfl) dX1_lambda_kiln_6_5
def gw_X1_lambda_fire_7 (E : gE) (post : Int32 → Gh → Prop) (px : String → Nat → Gh → Prop) (p0 : Int32) (p1 : Int32) (p2 : Int32) (p3 : Nat) (G : Gh) : Prop := gK G p3 = 2 ∧ (gw_X2_fire E (fun r2 G1 => gMon G G1 → (post r2 G1)) px p3 p0 p1 p2 G)
theorem hd_X1_lambda_fire_7 : yX1_lambda_fire_7.cls ≠ "java/lang/invoke/MethodHandle" ∧ yX1_lambda_fire_7.cls ≠ "java/lang/invoke/VarHandle" ∧ (parseMethodDescriptor yX1_lambda_fire_7.desc).map (fun d => d.parameters.length) = some 4 := by decide +kernel
set_option maxHeartbeats 1000000 in
set_option maxRecDepth 100000 in
theorem gm_X1_lambda_fire_7 (l : Launch) (hlt : l.stackTraces = false) (E : gE) (p0 : Int32) (p1 : Int32) (p2 : Int32) (p3 : Nat) (post : Int32 → Gh → Prop) (px : String → Nat → Gh → Prop) (G : Gh) (hw : gw_X1_lambda_fire_7 E post px p0 p1 p2 p3 G) : gX l E yX1_lambda_fire_7 (ws_ yX1_lambda_fire_7 cX1_lambda_fire_7 4 (some .int)) ({ frames := 12, cells := 9, slots := 58, locals := 209 } : Room) 9 58 [.int p0, .int p1, .int p2, .ref p3] G (gpi post) px := by
  refine xof (by decide) (Nat.le_of_ble_eq_true rfl) ?_
  intro p e s m below meth c A ls hx hb hr hlk hml hown hin hts hPF hA htab hG hl
  have hl : lv_has ls 4 [(0, .int p0), (1, .int p1), (2, .int p2), (3, .ref p3)] := hl
  unfold gw_X1_lambda_fire_7 at hw
  obtain ⟨G0, hG0⟩ : ∃ G0, G0 = G := ⟨_, rfl⟩
  have hG : gS E A G0 s.heap G s.heap [] := by rw [hG0]; exact hG
  rw [show gQ E A G (gpi post) = gQ E A G0 (gpi post) by rw [hG0]]
  rw [show gXC E A G px = gXC E A G0 px by rw [hG0]]
  have h0p3 := hw.1; rw [← hG0] at h0p3
  replace hw := hw.2
  refine lv_aload_n hx hb dX1_lambda_fire_7_0 rfl (lv_at hl 3 rfl) ?_
  refine lv_iload_n hx hb dX1_lambda_fire_7_1 rfl (lv_at hl 0 rfl) ?_
  refine lv_iload_n hx hb dX1_lambda_fire_7_2 rfl (lv_at hl 1 rfl) ?_
  refine lv_iload_n hx hb dX1_lambda_fire_7_3 rfl (lv_at hl 2 rfl) ?_
  refine xc3i hA hG (vx_runV (As := [.int p0, .int p1, .int p2]) (rest := []) ⟨hx, hb, hml, hown, hts⟩ (gm_X2_fire l hlt E p3 p0 p1 p2 _ _ G hw _) (cwV 3 hts (lw_V q1347 q1348 q1349 q56 q1350) rfl rfl rfl hd_X2_fire ⟨Nat.le_of_ble_eq_true rfl, Nat.le_of_ble_eq_true rfl⟩) ⟨gblind, grecv hPF hG (gC_of (gK_mon hG.1.2 h0p3 (by decide)) (by decide)) (by decide) (by decide) rfl, fun U hU hW => gpre hPF hA hG _ U hU hW⟩ rfl rfl hl.1 rfl (lv_room (Nat.le_of_ble_eq_true rfl)) dX1_lambda_fire_7_4 ⟨(Nat.le_of_ble_eq_true rfl), (Nat.le_of_ble_eq_true rfl)⟩) (fun X ce q Gx H locs hw hmon hG hce hcv hcl => ?_) (fun r2 G1 H locs hw hmon hG => ?_)
  · exact gleave hlk hG (fun x hx9 => (htab x hx9).elim) hce hcv hcl hw (Nat.le_of_ble_eq_true rfl) (Nat.le_of_ble_eq_true rfl)
  · replace hw := hw hmon
    exact xreti hx hb hr hlk hG rfl hw (Nat.le_of_ble_eq_true rfl) (Nat.le_of_ble_eq_true rfl) dX1_lambda_fire_7_7
def gw_X1_lambda_crate_8 (E : gE) (post : Int32 → Gh → Prop) (px : String → Nat → Gh → Prop) (p0 : Int32) (p1 : Nat) (G : Gh) : Prop := gK G p1 = 2 ∧ (gw_X2_addCrate E (fun r2 G1 => gMon G G1 → (post r2 G1)) px p1 p0 G)
theorem hd_X1_lambda_crate_8 : yX1_lambda_crate_8.cls ≠ "java/lang/invoke/MethodHandle" ∧ yX1_lambda_crate_8.cls ≠ "java/lang/invoke/VarHandle" ∧ (parseMethodDescriptor yX1_lambda_crate_8.desc).map (fun d => d.parameters.length) = some 2 := by decide +kernel
set_option maxHeartbeats 1000000 in
set_option maxRecDepth 100000 in
theorem gm_X1_lambda_crate_8 (l : Launch) (hlt : l.stackTraces = false) (E : gE) (p0 : Int32) (p1 : Nat) (post : Int32 → Gh → Prop) (px : String → Nat → Gh → Prop) (G : Gh) (hw : gw_X1_lambda_crate_8 E post px p0 p1 G) : gX l E yX1_lambda_crate_8 (ws_ yX1_lambda_crate_8 cX1_lambda_crate_8 2 (some .int)) ({ frames := 10, cells := 4, slots := 80, locals := 234 } : Room) 4 80 [.int p0, .ref p1] G (gpi post) px := by
  refine xof (by decide) (Nat.le_of_ble_eq_true rfl) ?_
  intro p e s m below meth c A ls hx hb hr hlk hml hown hin hts hPF hA htab hG hl
  have hl : lv_has ls 2 [(0, .int p0), (1, .ref p1)] := hl
  unfold gw_X1_lambda_crate_8 at hw
  obtain ⟨G0, hG0⟩ : ∃ G0, G0 = G := ⟨_, rfl⟩
  have hG : gS E A G0 s.heap G s.heap [] := by rw [hG0]; exact hG
  rw [show gQ E A G (gpi post) = gQ E A G0 (gpi post) by rw [hG0]]
  rw [show gXC E A G px = gXC E A G0 px by rw [hG0]]
  have h0p1 := hw.1; rw [← hG0] at h0p1
  replace hw := hw.2
  refine lv_aload_n hx hb dX1_lambda_crate_8_0 rfl (lv_at hl 1 rfl) ?_
  refine lv_iload_n hx hb dX1_lambda_crate_8_1 rfl (lv_at hl 0 rfl) ?_
  refine xc3i hA hG (vx_runV (As := [.int p0]) (rest := []) ⟨hx, hb, hml, hown, hts⟩ (gm_X2_addCrate l hlt E p1 p0 _ _ G hw _) (cwV 1 hts (lw_V q1420 q1421 q1422 q56 q1423) rfl rfl rfl hd_X2_addCrate ⟨Nat.le_of_ble_eq_true rfl, Nat.le_of_ble_eq_true rfl⟩) ⟨gblind, grecv hPF hG (gC_of (gK_mon hG.1.2 h0p1 (by decide)) (by decide)) (by decide) (by decide) rfl, fun U hU hW => gpre hPF hA hG _ U hU hW⟩ rfl rfl hl.1 rfl (lv_room (Nat.le_of_ble_eq_true rfl)) dX1_lambda_crate_8_2 ⟨(Nat.le_of_ble_eq_true rfl), (Nat.le_of_ble_eq_true rfl)⟩) (fun X ce q Gx H locs hw hmon hG hce hcv hcl => ?_) (fun r2 G1 H locs hw hmon hG => ?_)
  · exact gleave hlk hG (fun x hx9 => (htab x hx9).elim) hce hcv hcl hw (Nat.le_of_ble_eq_true rfl) (Nat.le_of_ble_eq_true rfl)
  · replace hw := hw hmon
    exact xreti hx hb hr hlk hG rfl hw (Nat.le_of_ble_eq_true rfl) (Nat.le_of_ble_eq_true rfl) dX1_lambda_crate_8_5
def gw_X1_lambda_straw_9 (E : gE) (post : Int32 → Gh → Prop) (px : String → Nat → Gh → Prop) (p0 : Int32) (p1 : Int32) (p2 : Nat) (G : Gh) : Prop := gK G p2 = 2 ∧ (gw_X2_addStraw E (fun r2 G1 => gMon G G1 → (post r2 G1)) px p2 p0 p1 G)
theorem hd_X1_lambda_straw_9 : yX1_lambda_straw_9.cls ≠ "java/lang/invoke/MethodHandle" ∧ yX1_lambda_straw_9.cls ≠ "java/lang/invoke/VarHandle" ∧ (parseMethodDescriptor yX1_lambda_straw_9.desc).map (fun d => d.parameters.length) = some 3 := by decide +kernel
set_option maxHeartbeats 1000000 in
set_option maxRecDepth 100000 in
theorem gm_X1_lambda_straw_9 (l : Launch) (hlt : l.stackTraces = false) (E : gE) (p0 : Int32) (p1 : Int32) (p2 : Nat) (post : Int32 → Gh → Prop) (px : String → Nat → Gh → Prop) (G : Gh) (hw : gw_X1_lambda_straw_9 E post px p0 p1 p2 G) : gX l E yX1_lambda_straw_9 (ws_ yX1_lambda_straw_9 cX1_lambda_straw_9 3 (some .int)) ({ frames := 12, cells := 3, slots := 20, locals := 205 } : Room) 3 20 [.int p0, .int p1, .ref p2] G (gpi post) px := by
  refine xof (by decide) (Nat.le_of_ble_eq_true rfl) ?_
  intro p e s m below meth c A ls hx hb hr hlk hml hown hin hts hPF hA htab hG hl
  have hl : lv_has ls 3 [(0, .int p0), (1, .int p1), (2, .ref p2)] := hl
  unfold gw_X1_lambda_straw_9 at hw
  obtain ⟨G0, hG0⟩ : ∃ G0, G0 = G := ⟨_, rfl⟩
  have hG : gS E A G0 s.heap G s.heap [] := by rw [hG0]; exact hG
  rw [show gQ E A G (gpi post) = gQ E A G0 (gpi post) by rw [hG0]]
  rw [show gXC E A G px = gXC E A G0 px by rw [hG0]]
  have h0p2 := hw.1; rw [← hG0] at h0p2
  replace hw := hw.2
  refine lv_aload_n hx hb dX1_lambda_straw_9_0 rfl (lv_at hl 2 rfl) ?_
  refine lv_iload_n hx hb dX1_lambda_straw_9_1 rfl (lv_at hl 0 rfl) ?_
  refine lv_iload_n hx hb dX1_lambda_straw_9_2 rfl (lv_at hl 1 rfl) ?_
  refine xc3i hA hG (vx_runV (As := [.int p0, .int p1]) (rest := []) ⟨hx, hb, hml, hown, hts⟩ (gm_X2_addStraw l hlt E p2 p0 p1 _ _ G hw _) (cwV 2 hts (lw_V q1456 q1457 q1458 q56 q1459) rfl rfl rfl hd_X2_addStraw ⟨Nat.le_of_ble_eq_true rfl, Nat.le_of_ble_eq_true rfl⟩) ⟨gblind, grecv hPF hG (gC_of (gK_mon hG.1.2 h0p2 (by decide)) (by decide)) (by decide) (by decide) rfl, fun U hU hW => gpre hPF hA hG _ U hU hW⟩ rfl rfl hl.1 rfl (lv_room (Nat.le_of_ble_eq_true rfl)) dX1_lambda_straw_9_3 ⟨(Nat.le_of_ble_eq_true rfl), (Nat.le_of_ble_eq_true rfl)⟩) (fun X ce q Gx H locs hw hmon hG hce hcv hcl => ?_) (fun r2 G1 H locs hw hmon hG => ?_)
  · exact gleave hlk hG (fun x hx9 => (htab x hx9).elim) hce hcv hcl hw (Nat.le_of_ble_eq_true rfl) (Nat.le_of_ble_eq_true rfl)
  · replace hw := hw hmon
    exact xreti hx hb hr hlk hG rfl hw (Nat.le_of_ble_eq_true rfl) (Nat.le_of_ble_eq_true rfl) dX1_lambda_straw_9_6
def gw_X1_lambda_pack_10 (E : gE) (post : Int32 → Gh → Prop) (px : String → Nat → Gh → Prop) (p0 : Int32) (p1 : Int32) (p2 : Int32) (p3 : Nat) (G : Gh) : Prop := gK G p3 = 2 ∧ (gw_X2_pack E (fun r2 G1 => gMon G G1 → (post r2 G1)) px p3 p0 p1 p2 G)
theorem hd_X1_lambda_pack_10 : yX1_lambda_pack_10.cls ≠ "java/lang/invoke/MethodHandle" ∧ yX1_lambda_pack_10.cls ≠ "java/lang/invoke/VarHandle" ∧ (parseMethodDescriptor yX1_lambda_pack_10.desc).map (fun d => d.parameters.length) = some 4 := by decide +kernel
set_option maxHeartbeats 1000000 in
set_option maxRecDepth 100000 in
theorem gm_X1_lambda_pack_10 (l : Launch) (hlt : l.stackTraces = false) (E : gE) (p0 : Int32) (p1 : Int32) (p2 : Int32) (p3 : Nat) (post : Int32 → Gh → Prop) (px : String → Nat → Gh → Prop) (G : Gh) (hw : gw_X1_lambda_pack_10 E post px p0 p1 p2 p3 G) : gX l E yX1_lambda_pack_10 (ws_ yX1_lambda_pack_10 cX1_lambda_pack_10 4 (some .int)) ({ frames := 12, cells := 6, slots := 42, locals := 208 } : Room) 6 42 [.int p0, .int p1, .int p2, .ref p3] G (gpi post) px := by
  refine xof (by decide) (Nat.le_of_ble_eq_true rfl) ?_
  intro p e s m below meth c A ls hx hb hr hlk hml hown hin hts hPF hA htab hG hl
  have hl : lv_has ls 4 [(0, .int p0), (1, .int p1), (2, .int p2), (3, .ref p3)] := hl
  unfold gw_X1_lambda_pack_10 at hw
  obtain ⟨G0, hG0⟩ : ∃ G0, G0 = G := ⟨_, rfl⟩
  have hG : gS E A G0 s.heap G s.heap [] := by rw [hG0]; exact hG
  rw [show gQ E A G (gpi post) = gQ E A G0 (gpi post) by rw [hG0]]
  rw [show gXC E A G px = gXC E A G0 px by rw [hG0]]
  have h0p3 := hw.1; rw [← hG0] at h0p3
  replace hw := hw.2
  refine lv_aload_n hx hb dX1_lambda_pack_10_0 rfl (lv_at hl 3 rfl) ?_
  refine lv_iload_n hx hb dX1_lambda_pack_10_1 rfl (lv_at hl 0 rfl) ?_
  refine lv_iload_n hx hb dX1_lambda_pack_10_2 rfl (lv_at hl 1 rfl) ?_
  refine lv_iload_n hx hb dX1_lambda_pack_10_3 rfl (lv_at hl 2 rfl) ?_
  refine xc3i hA hG (vx_runV (As := [.int p0, .int p1, .int p2]) (rest := []) ⟨hx, hb, hml, hown, hts⟩ (gm_X2_pack l hlt E p3 p0 p1 p2 _ _ G hw _) (cwV 3 hts (lw_V q1470 q1471 q1472 q56 q1473) rfl rfl rfl hd_X2_pack ⟨Nat.le_of_ble_eq_true rfl, Nat.le_of_ble_eq_true rfl⟩) ⟨gblind, grecv hPF hG (gC_of (gK_mon hG.1.2 h0p3 (by decide)) (by decide)) (by decide) (by decide) rfl, fun U hU hW => gpre hPF hA hG _ U hU hW⟩ rfl rfl hl.1 rfl (lv_room (Nat.le_of_ble_eq_true rfl)) dX1_lambda_pack_10_4 ⟨(Nat.le_of_ble_eq_true rfl), (Nat.le_of_ble_eq_true rfl)⟩) (fun X ce q Gx H locs hw hmon hG hce hcv hcl => ?_) (fun r2 G1 H locs hw hmon hG => ?_)
  · exact gleave hlk hG (fun x hx9 => (htab x hx9).elim) hce hcv hcl hw (Nat.le_of_ble_eq_true rfl) (Nat.le_of_ble_eq_true rfl)
  · replace hw := hw hmon
    exact xreti hx hb hr hlk hG rfl hw (Nat.le_of_ble_eq_true rfl) (Nat.le_of_ble_eq_true rfl) dX1_lambda_pack_10_7
def gw_X1_lambda_carry_11 (E : gE) (post : Int32 → Gh → Prop) (px : String → Nat → Gh → Prop) (p0 : Int32) (p1 : Nat) (G : Gh) : Prop := gK G p1 = 2 ∧ (gw_X2_carry E (fun r2 G1 => gMon G G1 → (post r2 G1)) px p1 p0 G)
theorem hd_X1_lambda_carry_11 : yX1_lambda_carry_11.cls ≠ "java/lang/invoke/MethodHandle" ∧ yX1_lambda_carry_11.cls ≠ "java/lang/invoke/VarHandle" ∧ (parseMethodDescriptor yX1_lambda_carry_11.desc).map (fun d => d.parameters.length) = some 2 := by decide +kernel
set_option maxHeartbeats 1000000 in
set_option maxRecDepth 100000 in
theorem gm_X1_lambda_carry_11 (l : Launch) (hlt : l.stackTraces = false) (E : gE) (p0 : Int32) (p1 : Nat) (post : Int32 → Gh → Prop) (px : String → Nat → Gh → Prop) (G : Gh) (hw : gw_X1_lambda_carry_11 E post px p0 p1 G) : gX l E yX1_lambda_carry_11 (ws_ yX1_lambda_carry_11 cX1_lambda_carry_11 2 (some .int)) ({ frames := 12, cells := 2, slots := 14, locals := 205 } : Room) 2 14 [.int p0, .ref p1] G (gpi post) px := by
  refine xof (by decide) (Nat.le_of_ble_eq_true rfl) ?_
  intro p e s m below meth c A ls hx hb hr hlk hml hown hin hts hPF hA htab hG hl
  have hl : lv_has ls 2 [(0, .int p0), (1, .ref p1)] := hl
  unfold gw_X1_lambda_carry_11 at hw
  obtain ⟨G0, hG0⟩ : ∃ G0, G0 = G := ⟨_, rfl⟩
  have hG : gS E A G0 s.heap G s.heap [] := by rw [hG0]; exact hG
  rw [show gQ E A G (gpi post) = gQ E A G0 (gpi post) by rw [hG0]]
  rw [show gXC E A G px = gXC E A G0 px by rw [hG0]]
  have h0p1 := hw.1; rw [← hG0] at h0p1
  replace hw := hw.2
  refine lv_aload_n hx hb dX1_lambda_carry_11_0 rfl (lv_at hl 1 rfl) ?_
  refine lv_iload_n hx hb dX1_lambda_carry_11_1 rfl (lv_at hl 0 rfl) ?_
  refine xc3i hA hG (vx_runV (As := [.int p0]) (rest := []) ⟨hx, hb, hml, hown, hts⟩ (gm_X2_carry l hlt E p1 p0 _ _ G hw _) (cwV 1 hts (lw_V q1484 q1485 q1486 q56 q1487) rfl rfl rfl hd_X2_carry ⟨Nat.le_of_ble_eq_true rfl, Nat.le_of_ble_eq_true rfl⟩) ⟨gblind, grecv hPF hG (gC_of (gK_mon hG.1.2 h0p1 (by decide)) (by decide)) (by decide) (by decide) rfl, fun U hU hW => gpre hPF hA hG _ U hU hW⟩ rfl rfl hl.1 rfl (lv_room (Nat.le_of_ble_eq_true rfl)) dX1_lambda_carry_11_2 ⟨(Nat.le_of_ble_eq_true rfl), (Nat.le_of_ble_eq_true rfl)⟩) (fun X ce q Gx H locs hw hmon hG hce hcv hcl => ?_) (fun r2 G1 H locs hw hmon hG => ?_)
  · exact gleave hlk hG (fun x hx9 => (htab x hx9).elim) hce hcv hcl hw (Nat.le_of_ble_eq_true rfl) (Nat.le_of_ble_eq_true rfl)
  · replace hw := hw hmon
    exact xreti hx hb hr hlk hG rfl hw (Nat.le_of_ble_eq_true rfl) (Nat.le_of_ble_eq_true rfl) dX1_lambda_carry_11_5
def gw_X1_lambda_sell_12 (E : gE) (post : Int32 → Gh → Prop) (px : String → Nat → Gh → Prop) (p0 : Nat) (G : Gh) : Prop := gK G p0 = 2 ∧ (gw_X2_sell E (fun r2 G1 => gMon G G1 → (post r2 G1)) px p0 G)
theorem hd_X1_lambda_sell_12 : yX1_lambda_sell_12.cls ≠ "java/lang/invoke/MethodHandle" ∧ yX1_lambda_sell_12.cls ≠ "java/lang/invoke/VarHandle" ∧ (parseMethodDescriptor yX1_lambda_sell_12.desc).map (fun d => d.parameters.length) = some 1 := by decide +kernel
set_option maxHeartbeats 1000000 in
set_option maxRecDepth 100000 in
theorem gm_X1_lambda_sell_12 (l : Launch) (hlt : l.stackTraces = false) (E : gE) (p0 : Nat) (post : Int32 → Gh → Prop) (px : String → Nat → Gh → Prop) (G : Gh) (hw : gw_X1_lambda_sell_12 E post px p0 G) : gX l E yX1_lambda_sell_12 (ws_ yX1_lambda_sell_12 cX1_lambda_sell_12 1 (some .int)) ({ frames := 6, cells := 1, slots := 8, locals := 143 } : Room) 1 8 [.ref p0] G (gpi post) px := by
  refine xof (by decide) (Nat.le_of_ble_eq_true rfl) ?_
  intro p e s m below meth c A ls hx hb hr hlk hml hown hin hts hPF hA htab hG hl
  have hl : lv_has ls 1 [(0, .ref p0)] := hl
  unfold gw_X1_lambda_sell_12 at hw
  obtain ⟨G0, hG0⟩ : ∃ G0, G0 = G := ⟨_, rfl⟩
  have hG : gS E A G0 s.heap G s.heap [] := by rw [hG0]; exact hG
  rw [show gQ E A G (gpi post) = gQ E A G0 (gpi post) by rw [hG0]]
  rw [show gXC E A G px = gXC E A G0 px by rw [hG0]]
  have h0p0 := hw.1; rw [← hG0] at h0p0
  replace hw := hw.2
  refine lv_aload_n hx hb dX1_lambda_sell_12_0 rfl (lv_at hl 0 rfl) ?_
  refine xc3i hA hG (vx_runV (As := []) (rest := []) ⟨hx, hb, hml, hown, hts⟩ (gm_X2_sell l hlt E p0 _ _ G hw _) (cwV 0 hts (lw_V q1503 q1504 q1505 q56 q1506) rfl rfl rfl hd_X2_sell ⟨Nat.le_of_ble_eq_true rfl, Nat.le_of_ble_eq_true rfl⟩) ⟨gblind, grecv hPF hG (gC_of (gK_mon hG.1.2 h0p0 (by decide)) (by decide)) (by decide) (by decide) rfl, fun U hU hW => gpre hPF hA hG _ U hU hW⟩ rfl rfl hl.1 rfl (lv_room (Nat.le_of_ble_eq_true rfl)) dX1_lambda_sell_12_1 ⟨(Nat.le_of_ble_eq_true rfl), (Nat.le_of_ble_eq_true rfl)⟩) (fun X ce q Gx H locs hw hmon hG hce hcv hcl => ?_) (fun r2 G1 H locs hw hmon hG => ?_)
  · exact gleave hlk hG (fun x hx9 => (htab x hx9).elim) hce hcv hcl hw (Nat.le_of_ble_eq_true rfl) (Nat.le_of_ble_eq_true rfl)
  · replace hw := hw hmon
    exact xreti hx hb hr hlk hG rfl hw (Nat.le_of_ble_eq_true rfl) (Nat.le_of_ble_eq_true rfl) dX1_lambda_sell_12_4
def gw_X1_lambda_pass_13 (E : gE) (post : Int32 → Gh → Prop) (px : String → Nat → Gh → Prop) (p0 : Int32) (p1 : Nat) (G : Gh) : Prop := gK G p1 = 2 ∧ (gw_X2_pass E (fun r2 G1 => gMon G G1 → (post r2 G1)) px p1 p0 G)
theorem hd_X1_lambda_pass_13 : yX1_lambda_pass_13.cls ≠ "java/lang/invoke/MethodHandle" ∧ yX1_lambda_pass_13.cls ≠ "java/lang/invoke/VarHandle" ∧ (parseMethodDescriptor yX1_lambda_pass_13.desc).map (fun d => d.parameters.length) = some 2 := by decide +kernel
set_option maxHeartbeats 1000000 in
set_option maxRecDepth 100000 in
theorem gm_X1_lambda_pass_13 (l : Launch) (hlt : l.stackTraces = false) (E : gE) (p0 : Int32) (p1 : Nat) (post : Int32 → Gh → Prop) (px : String → Nat → Gh → Prop) (G : Gh) (hw : gw_X1_lambda_pass_13 E post px p0 p1 G) : gX l E yX1_lambda_pass_13 (ws_ yX1_lambda_pass_13 cX1_lambda_pass_13 2 (some .int)) ({ frames := 10, cells := 640, slots := 2600, locals := 165 } : Room) 640 2600 [.int p0, .ref p1] G (gpi post) px := by
  refine xof (by decide) (Nat.le_of_ble_eq_true rfl) ?_
  intro p e s m below meth c A ls hx hb hr hlk hml hown hin hts hPF hA htab hG hl
  have hl : lv_has ls 2 [(0, .int p0), (1, .ref p1)] := hl
  unfold gw_X1_lambda_pass_13 at hw
  obtain ⟨G0, hG0⟩ : ∃ G0, G0 = G := ⟨_, rfl⟩
  have hG : gS E A G0 s.heap G s.heap [] := by rw [hG0]; exact hG
  rw [show gQ E A G (gpi post) = gQ E A G0 (gpi post) by rw [hG0]]
  rw [show gXC E A G px = gXC E A G0 px by rw [hG0]]
  have h0p1 := hw.1; rw [← hG0] at h0p1
  replace hw := hw.2
  refine lv_aload_n hx hb dX1_lambda_pass_13_0 rfl (lv_at hl 1 rfl) ?_
  refine lv_iload_n hx hb dX1_lambda_pass_13_1 rfl (lv_at hl 0 rfl) ?_
  refine xc3i hA hG (vx_runV (As := [.int p0]) (rest := []) ⟨hx, hb, hml, hown, hts⟩ (gm_X2_pass l hlt E p1 p0 _ _ G hw _) (cwV 1 hts (lw_V q1516 q1517 q1518 q56 q1519) rfl rfl rfl hd_X2_pass ⟨Nat.le_of_ble_eq_true rfl, Nat.le_of_ble_eq_true rfl⟩) ⟨gblind, grecv hPF hG (gC_of (gK_mon hG.1.2 h0p1 (by decide)) (by decide)) (by decide) (by decide) rfl, fun U hU hW => gpre hPF hA hG _ U hU hW⟩ rfl rfl hl.1 rfl (lv_room (Nat.le_of_ble_eq_true rfl)) dX1_lambda_pass_13_2 ⟨(Nat.le_of_ble_eq_true rfl), (Nat.le_of_ble_eq_true rfl)⟩) (fun X ce q Gx H locs hw hmon hG hce hcv hcl => ?_) (fun r2 G1 H locs hw hmon hG => ?_)
  · exact gleave hlk hG (fun x hx9 => (htab x hx9).elim) hce hcv hcl hw (Nat.le_of_ble_eq_true rfl) (Nat.le_of_ble_eq_true rfl)
  · replace hw := hw hmon
    exact xreti hx hb hr hlk hG rfl hw (Nat.le_of_ble_eq_true rfl) (Nat.le_of_ble_eq_true rfl) dX1_lambda_pass_13_5
def gw_X1_lambda_account_14 (E : gE) (post : Int32 → Gh → Prop) (p0 : Nat) (G : Gh) : Prop := gK G p0 = 5 ∧ (post 1 G)
theorem hd_X1_lambda_account_14 : yX1_lambda_account_14.cls ≠ "java/lang/invoke/MethodHandle" ∧ yX1_lambda_account_14.cls ≠ "java/lang/invoke/VarHandle" ∧ (parseMethodDescriptor yX1_lambda_account_14.desc).map (fun d => d.parameters.length) = some 1 := by decide +kernel
set_option maxHeartbeats 1000000 in
set_option maxRecDepth 100000 in
theorem gm_X1_lambda_account_14 (l : Launch) (E : gE) (p0 : Nat) (post : Int32 → Gh → Prop) (G : Gh) (hw : gw_X1_lambda_account_14 E post p0 G) : gM l E yX1_lambda_account_14 (ws_ yX1_lambda_account_14 cX1_lambda_account_14 1 (some .boolean)) ({ frames := 0, cells := 0, slots := 0, locals := 0 } : Room) 0 0 [.ref p0] G (gpi post) := by
  refine gof (by decide) (Nat.le_of_ble_eq_true rfl) ?_
  intro p e s m below meth c A ls hx hb hr hlk hml hown hin hts hPF hA hG hl
  have hl : lv_has ls 1 [(0, .ref p0)] := hl
  unfold gw_X1_lambda_account_14 at hw
  obtain ⟨G0, hG0⟩ : ∃ G0, G0 = G := ⟨_, rfl⟩
  have hG : gS E A G0 s.heap G s.heap [] := by rw [hG0]; exact hG
  rw [show gQ E A G (gpi post) = gQ E A G0 (gpi post) by rw [hG0]]
  have h0p0 := hw.1; rw [← hG0] at h0p0
  replace hw := hw.2
  refine lv_iconst (v := 1) hx hb dX1_lambda_account_14_0 (by decide) ?_
  exact greti hx hb hr hlk hG rfl hw (Nat.le_of_ble_eq_true rfl) (Nat.le_of_ble_eq_true rfl) dX1_lambda_account_14_1
def gw_X1_lambda_count_0 (E : gE) (post : Int32 → Gh → Prop) (p0 : Nat) (G : Gh) : Prop := post 1 G
theorem hd_X1_lambda_count_0 : yX1_lambda_count_0.cls ≠ "java/lang/invoke/MethodHandle" ∧ yX1_lambda_count_0.cls ≠ "java/lang/invoke/VarHandle" ∧ (parseMethodDescriptor yX1_lambda_count_0.desc).map (fun d => d.parameters.length) = some 1 := by decide +kernel
set_option maxHeartbeats 1000000 in
set_option maxRecDepth 100000 in
theorem gm_X1_lambda_count_0 (l : Launch) (E : gE) (p0 : Nat) (post : Int32 → Gh → Prop) (G : Gh) (hw : gw_X1_lambda_count_0 E post p0 G) : gM l E yX1_lambda_count_0 (ws_ yX1_lambda_count_0 cX1_lambda_count_0 1 (some .int)) ({ frames := 0, cells := 0, slots := 0, locals := 0 } : Room) 0 0 [.ref p0] G (gpi post) := by
  refine gof (by decide) (Nat.le_of_ble_eq_true rfl) ?_
  intro p e s m below meth c A ls hx hb hr hlk hml hown hin hts hPF hA hG hl
  have hl : lv_has ls 1 [(0, .ref p0)] := hl
  unfold gw_X1_lambda_count_0 at hw
  obtain ⟨G0, hG0⟩ : ∃ G0, G0 = G := ⟨_, rfl⟩
  have hG : gS E A G0 s.heap G s.heap [] := by rw [hG0]; exact hG
  rw [show gQ E A G (gpi post) = gQ E A G0 (gpi post) by rw [hG0]]
  refine lv_iconst (v := 1) hx hb dX1_lambda_count_0_0 (by decide) ?_
  exact greti hx hb hr hlk hG rfl hw (Nat.le_of_ble_eq_true rfl) (Nat.le_of_ble_eq_true rfl) dX1_lambda_count_0_1
def gw_X1_lambda_meanWell_17 (E : gE) (post : Int32 → Gh → Prop) (p0 : Nat) (G : Gh) : Prop := gK G p0 = 5 ∧ (∃ q1, (gR G p0 2) = some q1 ∧ (gSt G q1 ∧ (post (gWel G q1) G)))
theorem hd_X1_lambda_meanWell_17 : yX1_lambda_meanWell_17.cls ≠ "java/lang/invoke/MethodHandle" ∧ yX1_lambda_meanWell_17.cls ≠ "java/lang/invoke/VarHandle" ∧ (parseMethodDescriptor yX1_lambda_meanWell_17.desc).map (fun d => d.parameters.length) = some 1 := by decide +kernel
set_option maxHeartbeats 1000000 in
set_option maxRecDepth 100000 in
theorem gm_X1_lambda_meanWell_17 (l : Launch) (E : gE) (p0 : Nat) (post : Int32 → Gh → Prop) (G : Gh) (hw : gw_X1_lambda_meanWell_17 E post p0 G) : gM l E yX1_lambda_meanWell_17 (ws_ yX1_lambda_meanWell_17 cX1_lambda_meanWell_17 1 (some .int)) ({ frames := 1, cells := 0, slots := 0, locals := 60 } : Room) 0 0 [.ref p0] G (gpi post) := by
  refine gof (by decide) (Nat.le_of_ble_eq_true rfl) ?_
  intro p e s m below meth c A ls hx hb hr hlk hml hown hin hts hPF hA hG hl
  have hl : lv_has ls 1 [(0, .ref p0)] := hl
  unfold gw_X1_lambda_meanWell_17 at hw
  obtain ⟨G0, hG0⟩ : ∃ G0, G0 = G := ⟨_, rfl⟩
  have hG : gS E A G0 s.heap G s.heap [] := by rw [hG0]; exact hG
  rw [show gQ E A G (gpi post) = gQ E A G0 (gpi post) by rw [hG0]]
  have h0p0 := hw.1; rw [← hG0] at h0p0
  replace hw := hw.2
  refine lv_aload_n hx hb dX1_lambda_meanWell_17_0 rfl (lv_at hl 0 rfl) ?_
  refine ggN hx hb hts hown hPF hG 5 2 rfl in_X6 (by decide) (by decide) (by decide) q880 (fun _ h9 => h9) (gC_of (gK_mon hG.1.2 h0p0 (by decide)) (by decide)) (v := va_rf (gR G p0 2)) rfl dX1_lambda_meanWell_17_1 ?_
  obtain ⟨q1, hq1, hw⟩ := hw
  refine W.eq (g2 := F0 m 4 ls [.ref q1]) (by rw [hq1]; rfl) ?_
  have hS2 := hw.1
  replace hw := hw.2
  refine gdwell (rest := []) hx hb hml hts hown q1231 hPF hA hG hS2 hl.1 (lv_room (by (try simp only [List.map, va_rf_cat, gcat_i, gcat_r, gcat_l, gcat_d, gcat_f, gcat_n]); exact Nat.le_of_ble_eq_true rfl)) (Nat.le_of_ble_eq_true rfl) (Nat.le_of_ble_eq_true rfl) (Nat.le_of_ble_eq_true rfl) (Nat.le_of_ble_eq_true rfl) dX1_lambda_meanWell_17_4 (fun H locs hG => ?_)
  exact greti hx hb hr hlk hG rfl hw (Nat.le_of_ble_eq_true rfl) (Nat.le_of_ble_eq_true rfl) dX1_lambda_meanWell_17_9
def gw_X14_lambda_item_0 (E : gE) (post : Int32 → Gh → Prop) (px : String → Nat → Gh → Prop) (p0 : Int32) (p1 : Int32) (p2 : Nat) (G : Gh) : Prop := gK G p2 = 2 ∧ (gw_X2_print E (fun r2 G1 => gMon G G1 → (post r2 G1)) px p2 p0 p1 G)
theorem hd_X14_lambda_item_0 : yX14_lambda_item_0.cls ≠ "java/lang/invoke/MethodHandle" ∧ yX14_lambda_item_0.cls ≠ "java/lang/invoke/VarHandle" ∧ (parseMethodDescriptor yX14_lambda_item_0.desc).map (fun d => d.parameters.length) = some 3 := by decide +kernel
set_option maxHeartbeats 1000000 in
set_option maxRecDepth 100000 in
theorem gm_X14_lambda_item_0 (l : Launch) (hlt : l.stackTraces = false) (E : gE) (p0 : Int32) (p1 : Int32) (p2 : Nat) (post : Int32 → Gh → Prop) (px : String → Nat → Gh → Prop) (G : Gh) (hw : gw_X14_lambda_item_0 E post px p0 p1 p2 G) : gX l E yX14_lambda_item_0 (ws_ yX14_lambda_item_0 cX14_lambda_item_0 3 (some .int)) ({ frames := 12, cells := 6, slots := 37, locals := 207 } : Room) 6 37 [.int p0, .int p1, .ref p2] G (gpi post) px := by
  refine xof (by decide) (Nat.le_of_ble_eq_true rfl) ?_
  intro p e s m below meth c A ls hx hb hr hlk hml hown hin hts hPF hA htab hG hl
  have hl : lv_has ls 3 [(0, .int p0), (1, .int p1), (2, .ref p2)] := hl
  unfold gw_X14_lambda_item_0 at hw
  obtain ⟨G0, hG0⟩ : ∃ G0, G0 = G := ⟨_, rfl⟩
  have hG : gS E A G0 s.heap G s.heap [] := by rw [hG0]; exact hG
  rw [show gQ E A G (gpi post) = gQ E A G0 (gpi post) by rw [hG0]]
  rw [show gXC E A G px = gXC E A G0 px by rw [hG0]]
  have h0p2 := hw.1; rw [← hG0] at h0p2
  replace hw := hw.2
  refine lv_aload_n hx hb dX14_lambda_item_0_0 rfl (lv_at hl 2 rfl) ?_
  refine lv_iload_n hx hb dX14_lambda_item_0_1 rfl (lv_at hl 0 rfl) ?_
  refine lv_iload_n hx hb dX14_lambda_item_0_2 rfl (lv_at hl 1 rfl) ?_
  refine xc3i hA hG (vx_runV (As := [.int p0, .int p1]) (rest := []) ⟨hx, hb, hml, hown, hts⟩ (gm_X2_print l hlt E p2 p0 p1 _ _ G hw _) (cwV 2 hts (lw_V q1851 q1277 q1278 q56 q1279) rfl rfl rfl hd_X2_print ⟨Nat.le_of_ble_eq_true rfl, Nat.le_of_ble_eq_true rfl⟩) ⟨gblind, grecv hPF hG (gC_of (gK_mon hG.1.2 h0p2 (by decide)) (by decide)) (by decide) (by decide) rfl, fun U hU hW => gpre hPF hA hG _ U hU hW⟩ rfl rfl hl.1 rfl (lv_room (Nat.le_of_ble_eq_true rfl)) dX14_lambda_item_0_3 ⟨(Nat.le_of_ble_eq_true rfl), (Nat.le_of_ble_eq_true rfl)⟩) (fun X ce q Gx H locs hw hmon hG hce hcv hcl => ?_) (fun r2 G1 H locs hw hmon hG => ?_)
  · exact gleave hlk hG (fun x hx9 => (htab x hx9).elim) hce hcv hcl hw (Nat.le_of_ble_eq_true rfl) (Nat.le_of_ble_eq_true rfl)
  · replace hw := hw hmon
    exact xreti hx hb hr hlk hG rfl hw (Nat.le_of_ble_eq_true rfl) (Nat.le_of_ble_eq_true rfl) dX14_lambda_item_0_6
def gw_X14_lambda_item_1 (E : gE) (post : Int32 → Gh → Prop) (px : String → Nat → Gh → Prop) (p0 : Int32) (p1 : Int32) (p2 : Int32) (p3 : Nat) (G : Gh) : Prop := gK G p3 = 2 ∧ (gw_X2_fire E (fun r2 G1 => gMon G G1 → (post r2 G1)) px p3 p0 p1 p2 G)
theorem hd_X14_lambda_item_1 : yX14_lambda_item_1.cls ≠ "java/lang/invoke/MethodHandle" ∧ yX14_lambda_item_1.cls ≠ "java/lang/invoke/VarHandle" ∧ (parseMethodDescriptor yX14_lambda_item_1.desc).map (fun d => d.parameters.length) = some 4 := by decide +kernel
set_option maxHeartbeats 1000000 in
set_option maxRecDepth 100000 in
theorem gm_X14_lambda_item_1 (l : Launch) (hlt : l.stackTraces = false) (E : gE) (p0 : Int32) (p1 : Int32) (p2 : Int32) (p3 : Nat) (post : Int32 → Gh → Prop) (px : String → Nat → Gh → Prop) (G : Gh) (hw : gw_X14_lambda_item_1 E post px p0 p1 p2 p3 G) : gX l E yX14_lambda_item_1 (ws_ yX14_lambda_item_1 cX14_lambda_item_1 4 (some .int)) ({ frames := 12, cells := 9, slots := 58, locals := 209 } : Room) 9 58 [.int p0, .int p1, .int p2, .ref p3] G (gpi post) px := by
  refine xof (by decide) (Nat.le_of_ble_eq_true rfl) ?_
  intro p e s m below meth c A ls hx hb hr hlk hml hown hin hts hPF hA htab hG hl
  have hl : lv_has ls 4 [(0, .int p0), (1, .int p1), (2, .int p2), (3, .ref p3)] := hl
  unfold gw_X14_lambda_item_1 at hw
  obtain ⟨G0, hG0⟩ : ∃ G0, G0 = G := ⟨_, rfl⟩
  have hG : gS E A G0 s.heap G s.heap [] := by rw [hG0]; exact hG
  rw [show gQ E A G (gpi post) = gQ E A G0 (gpi post) by rw [hG0]]
  rw [show gXC E A G px = gXC E A G0 px by rw [hG0]]
  have h0p3 := hw.1; rw [← hG0] at h0p3
  replace hw := hw.2
  refine lv_aload_n hx hb dX14_lambda_item_1_0 rfl (lv_at hl 3 rfl) ?_
  refine lv_iload_n hx hb dX14_lambda_item_1_1 rfl (lv_at hl 0 rfl) ?_
  refine lv_iload_n hx hb dX14_lambda_item_1_2 rfl (lv_at hl 1 rfl) ?_
  refine lv_iload_n hx hb dX14_lambda_item_1_3 rfl (lv_at hl 2 rfl) ?_
  refine xc3i hA hG (vx_runV (As := [.int p0, .int p1, .int p2]) (rest := []) ⟨hx, hb, hml, hown, hts⟩ (gm_X2_fire l hlt E p3 p0 p1 p2 _ _ G hw _) (cwV 3 hts (lw_V q1854 q1348 q1349 q56 q1350) rfl rfl rfl hd_X2_fire ⟨Nat.le_of_ble_eq_true rfl, Nat.le_of_ble_eq_true rfl⟩) ⟨gblind, grecv hPF hG (gC_of (gK_mon hG.1.2 h0p3 (by decide)) (by decide)) (by decide) (by decide) rfl, fun U hU hW => gpre hPF hA hG _ U hU hW⟩ rfl rfl hl.1 rfl (lv_room (Nat.le_of_ble_eq_true rfl)) dX14_lambda_item_1_4 ⟨(Nat.le_of_ble_eq_true rfl), (Nat.le_of_ble_eq_true rfl)⟩) (fun X ce q Gx H locs hw hmon hG hce hcv hcl => ?_) (fun r2 G1 H locs hw hmon hG => ?_)
  · exact gleave hlk hG (fun x hx9 => (htab x hx9).elim) hce hcv hcl hw (Nat.le_of_ble_eq_true rfl) (Nat.le_of_ble_eq_true rfl)
  · replace hw := hw hmon
    exact xreti hx hb hr hlk hG rfl hw (Nat.le_of_ble_eq_true rfl) (Nat.le_of_ble_eq_true rfl) dX14_lambda_item_1_7
def gw_X14_lambda_item_2 (E : gE) (post : Int32 → Gh → Prop) (px : String → Nat → Gh → Prop) (p0 : Int32) (p1 : Int32) (p2 : Int32) (p3 : Nat) (G : Gh) : Prop := gK G p3 = 2 ∧ (gw_X2_pack E (fun r2 G1 => gMon G G1 → (post r2 G1)) px p3 p0 p1 p2 G)
theorem hd_X14_lambda_item_2 : yX14_lambda_item_2.cls ≠ "java/lang/invoke/MethodHandle" ∧ yX14_lambda_item_2.cls ≠ "java/lang/invoke/VarHandle" ∧ (parseMethodDescriptor yX14_lambda_item_2.desc).map (fun d => d.parameters.length) = some 4 := by decide +kernel
set_option maxHeartbeats 1000000 in
set_option maxRecDepth 100000 in
theorem gm_X14_lambda_item_2 (l : Launch) (hlt : l.stackTraces = false) (E : gE) (p0 : Int32) (p1 : Int32) (p2 : Int32) (p3 : Nat) (post : Int32 → Gh → Prop) (px : String → Nat → Gh → Prop) (G : Gh) (hw : gw_X14_lambda_item_2 E post px p0 p1 p2 p3 G) : gX l E yX14_lambda_item_2 (ws_ yX14_lambda_item_2 cX14_lambda_item_2 4 (some .int)) ({ frames := 12, cells := 6, slots := 42, locals := 208 } : Room) 6 42 [.int p0, .int p1, .int p2, .ref p3] G (gpi post) px := by
  refine xof (by decide) (Nat.le_of_ble_eq_true rfl) ?_
  intro p e s m below meth c A ls hx hb hr hlk hml hown hin hts hPF hA htab hG hl
  have hl : lv_has ls 4 [(0, .int p0), (1, .int p1), (2, .int p2), (3, .ref p3)] := hl
  unfold gw_X14_lambda_item_2 at hw
  obtain ⟨G0, hG0⟩ : ∃ G0, G0 = G := ⟨_, rfl⟩
  have hG : gS E A G0 s.heap G s.heap [] := by rw [hG0]; exact hG
  rw [show gQ E A G (gpi post) = gQ E A G0 (gpi post) by rw [hG0]]
  rw [show gXC E A G px = gXC E A G0 px by rw [hG0]]
  have h0p3 := hw.1; rw [← hG0] at h0p3
  replace hw := hw.2
  refine lv_aload_n hx hb dX14_lambda_item_2_0 rfl (lv_at hl 3 rfl) ?_
  refine lv_iload_n hx hb dX14_lambda_item_2_1 rfl (lv_at hl 0 rfl) ?_
  refine lv_iload_n hx hb dX14_lambda_item_2_2 rfl (lv_at hl 1 rfl) ?_
  refine lv_iload_n hx hb dX14_lambda_item_2_3 rfl (lv_at hl 2 rfl) ?_
  refine xc3i hA hG (vx_runV (As := [.int p0, .int p1, .int p2]) (rest := []) ⟨hx, hb, hml, hown, hts⟩ (gm_X2_pack l hlt E p3 p0 p1 p2 _ _ G hw _) (cwV 3 hts (lw_V q1857 q1471 q1472 q56 q1473) rfl rfl rfl hd_X2_pack ⟨Nat.le_of_ble_eq_true rfl, Nat.le_of_ble_eq_true rfl⟩) ⟨gblind, grecv hPF hG (gC_of (gK_mon hG.1.2 h0p3 (by decide)) (by decide)) (by decide) (by decide) rfl, fun U hU hW => gpre hPF hA hG _ U hU hW⟩ rfl rfl hl.1 rfl (lv_room (Nat.le_of_ble_eq_true rfl)) dX14_lambda_item_2_4 ⟨(Nat.le_of_ble_eq_true rfl), (Nat.le_of_ble_eq_true rfl)⟩) (fun X ce q Gx H locs hw hmon hG hce hcv hcl => ?_) (fun r2 G1 H locs hw hmon hG => ?_)
  · exact gleave hlk hG (fun x hx9 => (htab x hx9).elim) hce hcv hcl hw (Nat.le_of_ble_eq_true rfl) (Nat.le_of_ble_eq_true rfl)
  · replace hw := hw hmon
    exact xreti hx hb hr hlk hG rfl hw (Nat.le_of_ble_eq_true rfl) (Nat.le_of_ble_eq_true rfl) dX14_lambda_item_2_7
def gw_X14_lambda_item_3 (E : gE) (post : Int32 → Gh → Prop) (px : String → Nat → Gh → Prop) (p0 : Int32) (p1 : Int32) (p2 : Nat) (G : Gh) : Prop := gK G p2 = 2 ∧ (gw_X2_addStraw E (fun r2 G1 => gMon G G1 → (post r2 G1)) px p2 p0 p1 G)
theorem hd_X14_lambda_item_3 : yX14_lambda_item_3.cls ≠ "java/lang/invoke/MethodHandle" ∧ yX14_lambda_item_3.cls ≠ "java/lang/invoke/VarHandle" ∧ (parseMethodDescriptor yX14_lambda_item_3.desc).map (fun d => d.parameters.length) = some 3 := by decide +kernel
set_option maxHeartbeats 1000000 in
set_option maxRecDepth 100000 in
theorem gm_X14_lambda_item_3 (l : Launch) (hlt : l.stackTraces = false) (E : gE) (p0 : Int32) (p1 : Int32) (p2 : Nat) (post : Int32 → Gh → Prop) (px : String → Nat → Gh → Prop) (G : Gh) (hw : gw_X14_lambda_item_3 E post px p0 p1 p2 G) : gX l E yX14_lambda_item_3 (ws_ yX14_lambda_item_3 cX14_lambda_item_3 3 (some .int)) ({ frames := 12, cells := 3, slots := 20, locals := 205 } : Room) 3 20 [.int p0, .int p1, .ref p2] G (gpi post) px := by
  refine xof (by decide) (Nat.le_of_ble_eq_true rfl) ?_
  intro p e s m below meth c A ls hx hb hr hlk hml hown hin hts hPF hA htab hG hl
  have hl : lv_has ls 3 [(0, .int p0), (1, .int p1), (2, .ref p2)] := hl
  unfold gw_X14_lambda_item_3 at hw
  obtain ⟨G0, hG0⟩ : ∃ G0, G0 = G := ⟨_, rfl⟩
  have hG : gS E A G0 s.heap G s.heap [] := by rw [hG0]; exact hG
  rw [show gQ E A G (gpi post) = gQ E A G0 (gpi post) by rw [hG0]]
  rw [show gXC E A G px = gXC E A G0 px by rw [hG0]]
  have h0p2 := hw.1; rw [← hG0] at h0p2
  replace hw := hw.2
  refine lv_aload_n hx hb dX14_lambda_item_3_0 rfl (lv_at hl 2 rfl) ?_
  refine lv_iload_n hx hb dX14_lambda_item_3_1 rfl (lv_at hl 0 rfl) ?_
  refine lv_iload_n hx hb dX14_lambda_item_3_2 rfl (lv_at hl 1 rfl) ?_
  refine xc3i hA hG (vx_runV (As := [.int p0, .int p1]) (rest := []) ⟨hx, hb, hml, hown, hts⟩ (gm_X2_addStraw l hlt E p2 p0 p1 _ _ G hw _) (cwV 2 hts (lw_V q1860 q1457 q1458 q56 q1459) rfl rfl rfl hd_X2_addStraw ⟨Nat.le_of_ble_eq_true rfl, Nat.le_of_ble_eq_true rfl⟩) ⟨gblind, grecv hPF hG (gC_of (gK_mon hG.1.2 h0p2 (by decide)) (by decide)) (by decide) (by decide) rfl, fun U hU hW => gpre hPF hA hG _ U hU hW⟩ rfl rfl hl.1 rfl (lv_room (Nat.le_of_ble_eq_true rfl)) dX14_lambda_item_3_3 ⟨(Nat.le_of_ble_eq_true rfl), (Nat.le_of_ble_eq_true rfl)⟩) (fun X ce q Gx H locs hw hmon hG hce hcv hcl => ?_) (fun r2 G1 H locs hw hmon hG => ?_)
  · exact gleave hlk hG (fun x hx9 => (htab x hx9).elim) hce hcv hcl hw (Nat.le_of_ble_eq_true rfl) (Nat.le_of_ble_eq_true rfl)
  · replace hw := hw hmon
    exact xreti hx hb hr hlk hG rfl hw (Nat.le_of_ble_eq_true rfl) (Nat.le_of_ble_eq_true rfl) dX14_lambda_item_3_6
def gw_X14_lambda_item_4 (E : gE) (post : Int32 → Gh → Prop) (px : String → Nat → Gh → Prop) (p0 : Int32) (p1 : Nat) (G : Gh) : Prop := gK G p1 = 2 ∧ (gw_X2_carry E (fun r2 G1 => gMon G G1 → (post r2 G1)) px p1 p0 G)
theorem hd_X14_lambda_item_4 : yX14_lambda_item_4.cls ≠ "java/lang/invoke/MethodHandle" ∧ yX14_lambda_item_4.cls ≠ "java/lang/invoke/VarHandle" ∧ (parseMethodDescriptor yX14_lambda_item_4.desc).map (fun d => d.parameters.length) = some 2 := by decide +kernel
set_option maxHeartbeats 1000000 in
set_option maxRecDepth 100000 in
theorem gm_X14_lambda_item_4 (l : Launch) (hlt : l.stackTraces = false) (E : gE) (p0 : Int32) (p1 : Nat) (post : Int32 → Gh → Prop) (px : String → Nat → Gh → Prop) (G : Gh) (hw : gw_X14_lambda_item_4 E post px p0 p1 G) : gX l E yX14_lambda_item_4 (ws_ yX14_lambda_item_4 cX14_lambda_item_4 2 (some .int)) ({ frames := 12, cells := 2, slots := 14, locals := 205 } : Room) 2 14 [.int p0, .ref p1] G (gpi post) px := by
  refine xof (by decide) (Nat.le_of_ble_eq_true rfl) ?_
  intro p e s m below meth c A ls hx hb hr hlk hml hown hin hts hPF hA htab hG hl
  have hl : lv_has ls 2 [(0, .int p0), (1, .ref p1)] := hl
  unfold gw_X14_lambda_item_4 at hw
  obtain ⟨G0, hG0⟩ : ∃ G0, G0 = G := ⟨_, rfl⟩
  have hG : gS E A G0 s.heap G s.heap [] := by rw [hG0]; exact hG
  rw [show gQ E A G (gpi post) = gQ E A G0 (gpi post) by rw [hG0]]
  rw [show gXC E A G px = gXC E A G0 px by rw [hG0]]
  have h0p1 := hw.1; rw [← hG0] at h0p1
  replace hw := hw.2
  refine lv_aload_n hx hb dX14_lambda_item_4_0 rfl (lv_at hl 1 rfl) ?_
  refine lv_iload_n hx hb dX14_lambda_item_4_1 rfl (lv_at hl 0 rfl) ?_
  refine xc3i hA hG (vx_runV (As := [.int p0]) (rest := []) ⟨hx, hb, hml, hown, hts⟩ (gm_X2_carry l hlt E p1 p0 _ _ G hw _) (cwV 1 hts (lw_V q1863 q1485 q1486 q56 q1487) rfl rfl rfl hd_X2_carry ⟨Nat.le_of_ble_eq_true rfl, Nat.le_of_ble_eq_true rfl⟩) ⟨gblind, grecv hPF hG (gC_of (gK_mon hG.1.2 h0p1 (by decide)) (by decide)) (by decide) (by decide) rfl, fun U hU hW => gpre hPF hA hG _ U hU hW⟩ rfl rfl hl.1 rfl (lv_room (Nat.le_of_ble_eq_true rfl)) dX14_lambda_item_4_2 ⟨(Nat.le_of_ble_eq_true rfl), (Nat.le_of_ble_eq_true rfl)⟩) (fun X ce q Gx H locs hw hmon hG hce hcv hcl => ?_) (fun r2 G1 H locs hw hmon hG => ?_)
  · exact gleave hlk hG (fun x hx9 => (htab x hx9).elim) hce hcv hcl hw (Nat.le_of_ble_eq_true rfl) (Nat.le_of_ble_eq_true rfl)
  · replace hw := hw hmon
    exact xreti hx hb hr hlk hG rfl hw (Nat.le_of_ble_eq_true rfl) (Nat.le_of_ble_eq_true rfl) dX14_lambda_item_4_5
def gw_X14_lambda_item_5 (E : gE) (post : Int32 → Gh → Prop) (px : String → Nat → Gh → Prop) (p0 : Int32) (p1 : Nat) (G : Gh) : Prop := gK G p1 = 2 ∧ (gw_X2_setDamp E (fun r2 G1 => gMon G G1 → (post r2 G1)) px p1 p0 G)
theorem hd_X14_lambda_item_5 : yX14_lambda_item_5.cls ≠ "java/lang/invoke/MethodHandle" ∧ yX14_lambda_item_5.cls ≠ "java/lang/invoke/VarHandle" ∧ (parseMethodDescriptor yX14_lambda_item_5.desc).map (fun d => d.parameters.length) = some 2 := by decide +kernel
set_option maxHeartbeats 1000000 in
set_option maxRecDepth 100000 in
theorem gm_X14_lambda_item_5 (l : Launch) (hlt : l.stackTraces = false) (E : gE) (p0 : Int32) (p1 : Nat) (post : Int32 → Gh → Prop) (px : String → Nat → Gh → Prop) (G : Gh) (hw : gw_X14_lambda_item_5 E post px p0 p1 G) : gX l E yX14_lambda_item_5 (ws_ yX14_lambda_item_5 cX14_lambda_item_5 2 (some .int)) ({ frames := 10, cells := 1, slots := 6, locals := 162 } : Room) 1 6 [.int p0, .ref p1] G (gpi post) px := by
  refine xof (by decide) (Nat.le_of_ble_eq_true rfl) ?_
  intro p e s m below meth c A ls hx hb hr hlk hml hown hin hts hPF hA htab hG hl
  have hl : lv_has ls 2 [(0, .int p0), (1, .ref p1)] := hl
  unfold gw_X14_lambda_item_5 at hw
  obtain ⟨G0, hG0⟩ : ∃ G0, G0 = G := ⟨_, rfl⟩
  have hG : gS E A G0 s.heap G s.heap [] := by rw [hG0]; exact hG
  rw [show gQ E A G (gpi post) = gQ E A G0 (gpi post) by rw [hG0]]
  rw [show gXC E A G px = gXC E A G0 px by rw [hG0]]
  have h0p1 := hw.1; rw [← hG0] at h0p1
  replace hw := hw.2
  refine lv_aload_n hx hb dX14_lambda_item_5_0 rfl (lv_at hl 1 rfl) ?_
  refine lv_iload_n hx hb dX14_lambda_item_5_1 rfl (lv_at hl 0 rfl) ?_
  refine xc3i hA hG (vx_runV (As := [.int p0]) (rest := []) ⟨hx, hb, hml, hown, hts⟩ (gm_X2_setDamp l hlt E p1 p0 _ _ G hw _) (cwV 1 hts (lw_V q1866 q1030 q1031 q56 q1032) rfl rfl rfl hd_X2_setDamp ⟨Nat.le_of_ble_eq_true rfl, Nat.le_of_ble_eq_true rfl⟩) ⟨gblind, grecv hPF hG (gC_of (gK_mon hG.1.2 h0p1 (by decide)) (by decide)) (by decide) (by decide) rfl, fun U hU hW => gpre hPF hA hG _ U hU hW⟩ rfl rfl hl.1 rfl (lv_room (Nat.le_of_ble_eq_true rfl)) dX14_lambda_item_5_2 ⟨(Nat.le_of_ble_eq_true rfl), (Nat.le_of_ble_eq_true rfl)⟩) (fun X ce q Gx H locs hw hmon hG hce hcv hcl => ?_) (fun r2 G1 H locs hw hmon hG => ?_)
  · exact gleave hlk hG (fun x hx9 => (htab x hx9).elim) hce hcv hcl hw (Nat.le_of_ble_eq_true rfl) (Nat.le_of_ble_eq_true rfl)
  · replace hw := hw hmon
    exact xreti hx hb hr hlk hG rfl hw (Nat.le_of_ble_eq_true rfl) (Nat.le_of_ble_eq_true rfl) dX14_lambda_item_5_5
def gw_X14_lambda_item_6 (E : gE) (post : Int32 → Gh → Prop) (px : String → Nat → Gh → Prop) (p0 : Nat) (G : Gh) : Prop := gK G p0 = 2 ∧ (gw_X2_sell E (fun r2 G1 => gMon G G1 → (post r2 G1)) px p0 G)
theorem hd_X14_lambda_item_6 : yX14_lambda_item_6.cls ≠ "java/lang/invoke/MethodHandle" ∧ yX14_lambda_item_6.cls ≠ "java/lang/invoke/VarHandle" ∧ (parseMethodDescriptor yX14_lambda_item_6.desc).map (fun d => d.parameters.length) = some 1 := by decide +kernel
set_option maxHeartbeats 1000000 in
set_option maxRecDepth 100000 in
theorem gm_X14_lambda_item_6 (l : Launch) (hlt : l.stackTraces = false) (E : gE) (p0 : Nat) (post : Int32 → Gh → Prop) (px : String → Nat → Gh → Prop) (G : Gh) (hw : gw_X14_lambda_item_6 E post px p0 G) : gX l E yX14_lambda_item_6 (ws_ yX14_lambda_item_6 cX14_lambda_item_6 1 (some .int)) ({ frames := 6, cells := 1, slots := 8, locals := 143 } : Room) 1 8 [.ref p0] G (gpi post) px := by
  refine xof (by decide) (Nat.le_of_ble_eq_true rfl) ?_
  intro p e s m below meth c A ls hx hb hr hlk hml hown hin hts hPF hA htab hG hl
  have hl : lv_has ls 1 [(0, .ref p0)] := hl
  unfold gw_X14_lambda_item_6 at hw
  obtain ⟨G0, hG0⟩ : ∃ G0, G0 = G := ⟨_, rfl⟩
  have hG : gS E A G0 s.heap G s.heap [] := by rw [hG0]; exact hG
  rw [show gQ E A G (gpi post) = gQ E A G0 (gpi post) by rw [hG0]]
  rw [show gXC E A G px = gXC E A G0 px by rw [hG0]]
  have h0p0 := hw.1; rw [← hG0] at h0p0
  replace hw := hw.2
  refine lv_aload_n hx hb dX14_lambda_item_6_0 rfl (lv_at hl 0 rfl) ?_
  refine xc3i hA hG (vx_runV (As := []) (rest := []) ⟨hx, hb, hml, hown, hts⟩ (gm_X2_sell l hlt E p0 _ _ G hw _) (cwV 0 hts (lw_V q1869 q1504 q1505 q56 q1506) rfl rfl rfl hd_X2_sell ⟨Nat.le_of_ble_eq_true rfl, Nat.le_of_ble_eq_true rfl⟩) ⟨gblind, grecv hPF hG (gC_of (gK_mon hG.1.2 h0p0 (by decide)) (by decide)) (by decide) (by decide) rfl, fun U hU hW => gpre hPF hA hG _ U hU hW⟩ rfl rfl hl.1 rfl (lv_room (Nat.le_of_ble_eq_true rfl)) dX14_lambda_item_6_1 ⟨(Nat.le_of_ble_eq_true rfl), (Nat.le_of_ble_eq_true rfl)⟩) (fun X ce q Gx H locs hw hmon hG hce hcv hcl => ?_) (fun r2 G1 H locs hw hmon hG => ?_)
  · exact gleave hlk hG (fun x hx9 => (htab x hx9).elim) hce hcv hcl hw (Nat.le_of_ble_eq_true rfl) (Nat.le_of_ble_eq_true rfl)
  · replace hw := hw hmon
    exact xreti hx hb hr hlk hG rfl hw (Nat.le_of_ble_eq_true rfl) (Nat.le_of_ble_eq_true rfl) dX14_lambda_item_6_4
def gw_X14_lambda_item_7 (E : gE) (post : Int32 → Gh → Prop) (px : String → Nat → Gh → Prop) (p0 : Int32) (p1 : Nat) (G : Gh) : Prop := gK G p1 = 2 ∧ (gw_X2_pass E (fun r2 G1 => gMon G G1 → (post r2 G1)) px p1 p0 G)
theorem hd_X14_lambda_item_7 : yX14_lambda_item_7.cls ≠ "java/lang/invoke/MethodHandle" ∧ yX14_lambda_item_7.cls ≠ "java/lang/invoke/VarHandle" ∧ (parseMethodDescriptor yX14_lambda_item_7.desc).map (fun d => d.parameters.length) = some 2 := by decide +kernel
set_option maxHeartbeats 1000000 in
set_option maxRecDepth 100000 in
theorem gm_X14_lambda_item_7 (l : Launch) (hlt : l.stackTraces = false) (E : gE) (p0 : Int32) (p1 : Nat) (post : Int32 → Gh → Prop) (px : String → Nat → Gh → Prop) (G : Gh) (hw : gw_X14_lambda_item_7 E post px p0 p1 G) : gX l E yX14_lambda_item_7 (ws_ yX14_lambda_item_7 cX14_lambda_item_7 2 (some .int)) ({ frames := 10, cells := 640, slots := 2600, locals := 165 } : Room) 640 2600 [.int p0, .ref p1] G (gpi post) px := by
  refine xof (by decide) (Nat.le_of_ble_eq_true rfl) ?_
  intro p e s m below meth c A ls hx hb hr hlk hml hown hin hts hPF hA htab hG hl
  have hl : lv_has ls 2 [(0, .int p0), (1, .ref p1)] := hl
  unfold gw_X14_lambda_item_7 at hw
  obtain ⟨G0, hG0⟩ : ∃ G0, G0 = G := ⟨_, rfl⟩
  have hG : gS E A G0 s.heap G s.heap [] := by rw [hG0]; exact hG
  rw [show gQ E A G (gpi post) = gQ E A G0 (gpi post) by rw [hG0]]
  rw [show gXC E A G px = gXC E A G0 px by rw [hG0]]
  have h0p1 := hw.1; rw [← hG0] at h0p1
  replace hw := hw.2
  refine lv_aload_n hx hb dX14_lambda_item_7_0 rfl (lv_at hl 1 rfl) ?_
  refine lv_iload_n hx hb dX14_lambda_item_7_1 rfl (lv_at hl 0 rfl) ?_
  refine xc3i hA hG (vx_runV (As := [.int p0]) (rest := []) ⟨hx, hb, hml, hown, hts⟩ (gm_X2_pass l hlt E p1 p0 _ _ G hw _) (cwV 1 hts (lw_V q1872 q1517 q1518 q56 q1519) rfl rfl rfl hd_X2_pass ⟨Nat.le_of_ble_eq_true rfl, Nat.le_of_ble_eq_true rfl⟩) ⟨gblind, grecv hPF hG (gC_of (gK_mon hG.1.2 h0p1 (by decide)) (by decide)) (by decide) (by decide) rfl, fun U hU hW => gpre hPF hA hG _ U hU hW⟩ rfl rfl hl.1 rfl (lv_room (Nat.le_of_ble_eq_true rfl)) dX14_lambda_item_7_2 ⟨(Nat.le_of_ble_eq_true rfl), (Nat.le_of_ble_eq_true rfl)⟩) (fun X ce q Gx H locs hw hmon hG hce hcv hcl => ?_) (fun r2 G1 H locs hw hmon hG => ?_)
  · exact gleave hlk hG (fun x hx9 => (htab x hx9).elim) hce hcv hcl hw (Nat.le_of_ble_eq_true rfl) (Nat.le_of_ble_eq_true rfl)
  · replace hw := hw hmon
    exact xreti hx hb hr hlk hG rfl hw (Nat.le_of_ble_eq_true rfl) (Nat.le_of_ble_eq_true rfl) dX14_lambda_item_7_5
