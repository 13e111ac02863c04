/-! walks over the ghost heap: walkP -/
set_option maxRecDepth 100000
def gw_X14_init (E : gE) (post : Gh → Prop) (p0 : Nat) (p1 : Nat) (G : Gh) : Prop := gK G p0 = 12 ∧ (∀ G1, G1 = gsR G p0 0 (some p1) → (post G1))
theorem hd_X14_init : yX14_init.cls ≠ "java/lang/invoke/MethodHandle" ∧ yX14_init.cls ≠ "java/lang/invoke/VarHandle" ∧ (parseMethodDescriptor yX14_init.desc).map (fun d => d.parameters.length) = some 1 := by decide +kernel
set_option maxHeartbeats 1000000 in
set_option maxRecDepth 100000 in
theorem gm_X14_init (l : Launch) (E : gE) (p0 : Nat) (p1 : Nat) (post : Gh → Prop) (G : Gh) (hw : gw_X14_init E post p0 p1 G) : gM l E yX14_init (ws_ yX14_init cX14_init 2 none) ({ frames := 1, cells := 0, slots := 0, locals := 30 } : Room) 0 0 [.ref p0, .ref p1] G (gpv post) := by
  refine gof (by decide) (Nat.le_of_ble_eq_true rfl) ?_
  intro p e s m below meth c A ls hx hb hr hlk hml hown hin hts hPF hA hG hl
  have hl : lv_has ls 2 [(0, .ref p0), (1, .ref p1)] := hl
  unfold gw_X14_init at hw
  obtain ⟨G0, hG0⟩ : ∃ G0, G0 = G := ⟨_, rfl⟩
  have hG : gS E A G0 s.heap G s.heap [] := by rw [hG0]; exact hG
  rw [show gQ E A G (gpv post) = gQ E A G0 (gpv post) by rw [hG0]]
  have h0p0 := hw.1; rw [← hG0] at h0p0
  replace hw := hw.2
  refine lv_aload_n hx hb dX14_init_0 rfl (lv_at hl 0 rfl) ?_
  refine W.objInit hx hb hown (hts _ q1759) (hts _ q105) (hts _ q106) (g := F0 m 1 ls (.ref p0 :: [])) rfl (hl.1.trans hml.symm) rfl dX14_init_1 (Nat.le_of_ble_eq_true rfl) (by (try simp only [List.map, va_rf_cat, gcat_i, gcat_r, gcat_l, gcat_d, gcat_f, gcat_n]); exact Nat.le_of_ble_eq_true rfl) ?_
  refine W.eq (g2 := F0 m 4 ls []) rfl ?_
  refine lv_aload_n hx hb dX14_init_4 rfl (lv_at hl 0 rfl) ?_
  refine lv_aload_n hx hb dX14_init_5 rfl (lv_at hl 1 rfl) ?_
  refine gpF hx hb hts hown hPF hG 12 0 rfl in_X14 tyX14 tyX14_ok nmX14 (by decide) (by decide) (by decide) q1760 (fun _ h9 => h9) rfl hin.2 rfl (gK_mon hG.1.2 h0p0 (by decide)) (v := va_rf (some p1)) (narrow_rf _) (fits_rf _ (by decide)) (G' := gsR G p0 0 (some p1)) rfl rfl grR_off (Nat.le_of_ble_eq_true rfl) (gFs_R 12 0 (fun _ _ _ => rfl)) dX14_init_6 (fun H locs hG => ?_)
  obtain ⟨G1, eG1⟩ : ∃ z, z = gsR G p0 0 (some p1) := ⟨_, rfl⟩
  rw [← eG1] at hG
  replace hw := hw G1 eG1
  exact gretv hx hb hr hlk hG hw (Nat.le_of_ble_eq_true rfl) (Nat.le_of_ble_eq_true rfl) dX14_init_9
def gw_X1_inRange (E : gE) (post : Int32 → Gh → Prop) (p0 : Int64) (p2 : Int64) (p4 : Int64) (G : Gh) : Prop := ((lg_cmp p0 p2) < 0 → (post 0 G)) ∧ (¬ (lg_cmp p0 p2) < 0 → ((0 < (lg_cmp p0 p4) → (post 0 G)) ∧ (¬ 0 < (lg_cmp p0 p4) → (post 1 G))))
theorem hd_X1_inRange : yX1_inRange.cls ≠ "java/lang/invoke/MethodHandle" ∧ yX1_inRange.cls ≠ "java/lang/invoke/VarHandle" ∧ (parseMethodDescriptor yX1_inRange.desc).map (fun d => d.parameters.length) = some 3 := by decide +kernel
set_option maxHeartbeats 1000000 in
set_option maxRecDepth 100000 in
theorem gm_X1_inRange (l : Launch) (E : gE) (p0 : Int64) (p2 : Int64) (p4 : Int64) (post : Int32 → Gh → Prop) (G : Gh) (hw : gw_X1_inRange E post p0 p2 p4 G) : gM l E yX1_inRange (ws_ yX1_inRange cX1_inRange 6 (some .boolean)) ({ frames := 0, cells := 0, slots := 0, locals := 0 } : Room) 0 0 [.long p0, .long p2, .long p4] G (gpi post) := by
  refine gof (by decide) (Nat.le_of_ble_eq_true rfl) ?_
  intro p e s m below meth c A ls hx hb hr hlk hml hown hin hts hPF hA hG hl
  have hl : lv_has ls 6 [(0, .long p0), (2, .long p2), (4, .long p4)] := hl
  unfold gw_X1_inRange at hw
  obtain ⟨G0, hG0⟩ : ∃ G0, G0 = G := ⟨_, rfl⟩
  have hG : gS E A G0 s.heap G s.heap [] := by rw [hG0]; exact hG
  rw [show gQ E A G (gpi post) = gQ E A G0 (gpi post) by rw [hG0]]
  refine lv_lload_n hx hb dX1_inRange_0 rfl (lv_at hl 0 rfl) ?_
  refine lv_lload_n hx hb dX1_inRange_1 rfl (lv_at hl 1 rfl) ?_
  refine W.lcmp hx hb dX1_inRange_2 ?_
  refine lv_if_lt (tgt := 17) hx hb dX1_inRange_3 (by decide) (fun c_ => ?_) (fun c_ => ?_)
  · replace hw := hw.1 c_
    refine lv_iconst (v := 0) hx hb dX1_inRange_17 (by decide) ?_
    exact greti hx hb hr hlk hG rfl hw (Nat.le_of_ble_eq_true rfl) (Nat.le_of_ble_eq_true rfl) dX1_inRange_18
  · replace hw := hw.2 c_
    refine lv_lload_n hx hb dX1_inRange_6 rfl (lv_at hl 0 rfl) ?_
    refine lv_lload hx hb dX1_inRange_7 (lv_at hl 2 rfl) ?_
    refine W.lcmp hx hb dX1_inRange_9 ?_
    refine lv_if_gt (tgt := 17) hx hb dX1_inRange_10 (by decide) (fun c_ => ?_) (fun c_ => ?_)
    · replace hw := hw.1 c_
      refine lv_iconst (v := 0) hx hb dX1_inRange_17 (by decide) ?_
      exact greti hx hb hr hlk hG rfl hw (Nat.le_of_ble_eq_true rfl) (Nat.le_of_ble_eq_true rfl) dX1_inRange_18
    · replace hw := hw.2 c_
      refine lv_iconst (v := 1) hx hb dX1_inRange_13 (by decide) ?_
      refine lv_goto (tgt := 18) hx hb dX1_inRange_14 (by decide) ?_
      exact greti hx hb hr hlk hG rfl hw (Nat.le_of_ble_eq_true rfl) (Nat.le_of_ble_eq_true rfl) dX1_inRange_18
def gw_X14_isNext (E : gE) (post : Int32 → Gh → Prop) (p0 : Nat) (p1 : Int32) (p2 : Int32) (G : Gh) : Prop := gK G p0 = 12 ∧ (∃ q1, (gR G p0 0) = some q1 ∧ (gC G q1 = 16 ∧ (gw_J8_length E (fun r4 G3 => gMon G G3 → ((r4 ≤ (gI G p0 1) → (post 0 G3)) ∧ (¬ r4 ≤ (gI G p0 1) → (∃ q5, (gR G3 p0 0) = some q5 ∧ (gC G3 q5 = 16 ∧ (gw_J8_charAt E (fun r8 G7 => gMon G3 G7 → (gw_X1_inRange E (fun r10 G9 => gMon G7 G9 → ((r10 = 0 → (post 0 G9)) ∧ (¬ r10 = 0 → (post 1 G9)))) r8.toInt64 p1.toInt64 p2.toInt64 G7)) q5 (gI G3 p0 1) G3)))))) q1 G)))
theorem hd_X14_isNext : yX14_isNext.cls = RX14 ∧ yX14_isNext.cls ≠ "java/lang/invoke/MethodHandle" ∧ yX14_isNext.cls ≠ "java/lang/invoke/VarHandle" ∧ (parseMethodDescriptor yX14_isNext.desc).map (fun d => d.parameters.length) = some 2 := by decide +kernel
theorem hdn_X14_isNext : yX14_isNext.cls ≠ "java/lang/invoke/MethodHandle" ∧ yX14_isNext.cls ≠ "java/lang/invoke/VarHandle" ∧ (parseMethodDescriptor yX14_isNext.desc).map (fun d => d.parameters.length) = some 2 := hd_X14_isNext.2
theorem hdu_X14_isNext : RX14 ≠ "java/lang/invoke/MethodHandle" ∧ RX14 ≠ "java/lang/invoke/VarHandle" ∧ (parseMethodDescriptor yX14_isNext.desc).map (fun d => d.parameters.length) = some 2 := by decide +kernel
theorem hds_X14_isNext : yX14_isNext.name ≠ "<init>" ∧ (parseMethodDescriptor yX14_isNext.desc).map (fun d => d.parameters.length) = some 2 := by decide +kernel
set_option maxHeartbeats 1000000 in
set_option maxRecDepth 100000 in
theorem gm_X14_isNext (l : Launch) (E : gE) (p0 : Nat) (p1 : Int32) (p2 : Int32) (post : Int32 → Gh → Prop) (G : Gh) (hw : gw_X14_isNext E post p0 p1 p2 G) : gM l E yX14_isNext (ws_ yX14_isNext cX14_isNext 3 (some .boolean)) ({ frames := 3, cells := 0, slots := 0, locals := 85 } : Room) 0 0 [.ref p0, .int p1, .int p2] G (gpi post) := by
  refine gof (by decide) (Nat.le_of_ble_eq_true rfl) ?_
  intro p e s m below meth c A ls hx hb hr hlk hml hown hin hts hPF hA hG hl
  have hl : lv_has ls 3 [(0, .ref p0), (1, .int p1), (2, .int p2)] := hl
  unfold gw_X14_isNext at hw
  obtain ⟨G0, hG0⟩ : ∃ G0, G0 = G := ⟨_, rfl⟩
  have hG : gS E A G0 s.heap G s.heap [] := by rw [hG0]; exact hG
  rw [show gQ E A G (gpi post) = gQ E A G0 (gpi post) by rw [hG0]]
  have h0p0 := hw.1; rw [← hG0] at h0p0
  replace hw := hw.2
  refine lv_aload_n hx hb dX14_isNext_0 rfl (lv_at hl 0 rfl) ?_
  refine gg hx hb hts hown hPF hG 12 1 rfl in_X14 (by decide) (by decide) (by decide) q1761 (fun _ h9 => h9) (gC_of (gK_mon hG.1.2 h0p0 (by decide)) (by decide)) (v := .int (gI G p0 1)) rfl dX14_isNext_1 ?_
  refine lv_aload_n hx hb dX14_isNext_4 rfl (lv_at hl 0 rfl) ?_
  refine gg hx hb hts hown hPF hG 12 0 rfl in_X14 (by decide) (by decide) (by decide) q1760 (fun _ h9 => h9) (gC_of (gK_mon hG.1.2 h0p0 (by decide)) (by decide)) (v := va_rf (gR G p0 0)) rfl dX14_isNext_5 ?_
  obtain ⟨q1, hq1, hw⟩ := hw
  refine W.eq (g2 := F0 m 8 ls [.ref q1, .int (gI G p0 1)]) (by rw [hq1]; rfl) ?_
  have hk2 := hw.1
  replace hw := hw.2
  refine gc5i hA hG (va_runF (hPF.K.1 16 _ rfl).2 (As := []) (rest := [.int (gI G p0 1)]) ⟨hx, hb, hml, hown, hts⟩ (gm_J8_length l E q1 _ G hw _) (va_cwF 0 hts (lw_F q1788 q1796 q376 q65 q377) rfl rfl rfl (hPF.f 2 rfl) hdx_java_lang_CharSequence_length ⟨Nat.le_of_ble_eq_true rfl, Nat.le_of_ble_eq_true rfl⟩) ⟨gblind, grecv hPF hG hk2 (by decide) (by decide) rfl, fun U hU hW => gpre hPF hA hG _ U hU hW⟩ rfl rfl hl.1 rfl (lv_room (Nat.le_of_ble_eq_true rfl)) dX14_isNext_8 ⟨(Nat.le_of_ble_eq_true rfl), (Nat.le_of_ble_eq_true rfl)⟩) (fun r4 G3 H locs hw hmon hG => ?_)
  replace hw := hw hmon
  have hk2 : gC G3 q1 = 16 := gC_mon hmon hk2 (by decide)
  refine lv_icmp_ge (tgt := 44) hx hb dX14_isNext_13 (by decide) (fun c_ => ?_) (fun c_ => ?_)
  · replace hw := hw.1 c_
    refine lv_iconst (v := 0) hx hb dX14_isNext_44 (by decide) ?_
    exact greti hx hb hr hlk hG rfl hw (Nat.le_of_ble_eq_true rfl) (Nat.le_of_ble_eq_true rfl) dX14_isNext_45
  · replace hw := hw.2 c_
    refine lv_aload_n hx hb dX14_isNext_16 rfl (lv_at hl 0 rfl) ?_
    refine gg hx hb hts hown hPF hG 12 0 rfl in_X14 (by decide) (by decide) (by decide) q1760 (fun _ h9 => h9) (gC_of (gK_mon hG.1.2 h0p0 (by decide)) (by decide)) (v := va_rf (gR G3 p0 0)) rfl dX14_isNext_17 ?_
    refine lv_aload_n hx hb dX14_isNext_20 rfl (lv_at hl 0 rfl) ?_
    refine gg hx hb hts hown hPF hG 12 1 rfl in_X14 (by decide) (by decide) (by decide) q1761 (fun _ h9 => h9) (gC_of (gK_mon hG.1.2 h0p0 (by decide)) (by decide)) (v := .int (gI G3 p0 1)) rfl dX14_isNext_21 ?_
    obtain ⟨q5, hq5, hw⟩ := hw
    refine W.eq (g2 := F0 m 24 ls [.int (gI G3 p0 1), .ref q5]) (by rw [hq5]; rfl) ?_
    have hk6 := hw.1
    replace hw := hw.2
    refine gc5i hA hG (va_runF (hPF.K.1 16 _ rfl).2 (As := [.int (gI G3 p0 1)]) (rest := []) ⟨hx, hb, hml, hown, hts⟩ (gm_J8_charAt l E q5 (gI G3 p0 1) _ G3 hw _) (va_cwF 1 hts (lw_F q1800 q1806 q1808 q65 q1810) rfl rfl rfl (hPF.f 3 rfl) hdx_java_lang_CharSequence_charAt ⟨Nat.le_of_ble_eq_true rfl, Nat.le_of_ble_eq_true rfl⟩) ⟨gblind, grecv hPF hG hk6 (by decide) (by decide) rfl, fun U hU hW => gpre hPF hA hG _ U hU hW⟩ rfl rfl hl.1 rfl (lv_room (Nat.le_of_ble_eq_true rfl)) dX14_isNext_24 ⟨(Nat.le_of_ble_eq_true rfl), (Nat.le_of_ble_eq_true rfl)⟩) (fun r8 G7 H locs hw hmon hG => ?_)
    replace hw := hw hmon
    have hk2 : gC G7 q1 = 16 := gC_mon hmon hk2 (by decide)
    have hk6 : gC G7 q5 = 16 := gC_mon hmon hk6 (by decide)
    refine lv_i2l (v := r8.toInt64) hx hb dX14_isNext_29 rfl ?_
    refine lv_iload_n hx hb dX14_isNext_30 rfl (lv_at hl 1 rfl) ?_
    refine lv_i2l (v := p1.toInt64) hx hb dX14_isNext_31 rfl ?_
    refine lv_iload_n hx hb dX14_isNext_32 rfl (lv_at hl 2 rfl) ?_
    refine lv_i2l (v := p2.toInt64) hx hb dX14_isNext_33 rfl ?_
    refine gc3i hA hG (va_runSN (As := [.long r8.toInt64, .long p1.toInt64, .long p2.toInt64]) (rest := []) ⟨hx, hb, hml, hown, hts⟩ (gm_X1_inRange l E r8.toInt64 p1.toInt64 p2.toInt64 _ G7 hw _) ⟨va_cnB 3 hts (lw_meth q638) rfl rfl rfl (hPF.w q1817 rfl) (hts _ q55) hd_X1_inRange ⟨Nat.le_of_ble_eq_true rfl, Nat.le_of_ble_eq_true rfl⟩, hts _ q637, trivial⟩ ⟨gblind, fun U hU hW => gpre hPF hA hG _ U hU hW⟩ rfl rfl hl.1 rfl (lv_room (Nat.le_of_ble_eq_true rfl)) dX14_isNext_34 ⟨(Nat.le_of_ble_eq_true rfl), (Nat.le_of_ble_eq_true rfl)⟩) (fun r10 G9 H locs hw hmon hG => ?_)
    replace hw := hw hmon
    have hk2 : gC G9 q1 = 16 := gC_mon hmon hk2 (by decide)
    have hk6 : gC G9 q5 = 16 := gC_mon hmon hk6 (by decide)
    refine lv_if_eq (tgt := 44) hx hb dX14_isNext_37 (by decide) (fun c_ => ?_) (fun c_ => ?_)
    · replace hw := hw.1 c_
      refine lv_iconst (v := 0) hx hb dX14_isNext_44 (by decide) ?_
      exact greti hx hb hr hlk hG rfl hw (Nat.le_of_ble_eq_true rfl) (Nat.le_of_ble_eq_true rfl) dX14_isNext_45
    · replace hw := hw.2 c_
      refine lv_iconst (v := 1) hx hb dX14_isNext_40 (by decide) ?_
      refine lv_goto (tgt := 45) hx hb dX14_isNext_41 (by decide) ?_
      exact greti hx hb hr hlk hG rfl hw (Nat.le_of_ble_eq_true rfl) (Nat.le_of_ble_eq_true rfl) dX14_isNext_45
def gw_X14_take (E : gE) (post : Int32 → Gh → Prop) (px : String → Nat → Gh → Prop) (p0 : Nat) (p1 : Int32) (p2 : Int32) (G : Gh) : Prop := gK G p0 = 12 ∧ (gw_X14_isNext E (fun r2 G1 => gMon G G1 → ((¬ r2 = 0 → (∀ G3, G3 = gsI G1 p0 1 ((gI G1 p0 1) + 1) → (∃ q4, (gR G3 p0 0) = some q4 ∧ (gC G3 q4 = 16 ∧ (gw_J8_charAt E (fun r7 G6 => gMon G3 G6 → (post (r7 - p1) G6)) q4 ((gI G3 p0 1) - 1) G3))))) ∧ (r2 = 0 → (∀ q8, gK G1 q8 = 0 → ∀ G9, G9 = gN G1 q8 13 0 → (gw_X15_init E (fun G10 => gMon G9 G10 → (px "WillowPrinters$SyntaxException" q8 G10)) q8 (gI G9 p0 1) G9))))) p0 p1 p2 G)
theorem hd_X14_take : yX14_take.cls = RX14 ∧ yX14_take.cls ≠ "java/lang/invoke/MethodHandle" ∧ yX14_take.cls ≠ "java/lang/invoke/VarHandle" ∧ (parseMethodDescriptor yX14_take.desc).map (fun d => d.parameters.length) = some 2 := by decide +kernel
theorem hdn_X14_take : yX14_take.cls ≠ "java/lang/invoke/MethodHandle" ∧ yX14_take.cls ≠ "java/lang/invoke/VarHandle" ∧ (parseMethodDescriptor yX14_take.desc).map (fun d => d.parameters.length) = some 2 := hd_X14_take.2
theorem hdu_X14_take : RX14 ≠ "java/lang/invoke/MethodHandle" ∧ RX14 ≠ "java/lang/invoke/VarHandle" ∧ (parseMethodDescriptor yX14_take.desc).map (fun d => d.parameters.length) = some 2 := by decide +kernel
theorem hds_X14_take : yX14_take.name ≠ "<init>" ∧ (parseMethodDescriptor yX14_take.desc).map (fun d => d.parameters.length) = some 2 := by decide +kernel
set_option maxHeartbeats 1000000 in
set_option maxRecDepth 100000 in
theorem gm_X14_take (l : Launch) (hlt : l.stackTraces = false) (E : gE) (p0 : Nat) (p1 : Int32) (p2 : Int32) (post : Int32 → Gh → Prop) (px : String → Nat → Gh → Prop) (G : Gh) (hw : gw_X14_take E post px p0 p1 p2 G) : gX l E yX14_take (ws_ yX14_take cX14_take 3 (some .int)) ({ frames := 4, cells := 1, slots := 7, locals := 107 } : Room) 1 7 [.ref p0, .int p1, .int p2] G (gpi post) px := by
  refine xof (by decide) (Nat.le_of_ble_eq_true rfl) ?_
  intro p e s m below meth c A ls hx hb hr hlk hml hown hin hts hPF hA htab hG hl
  have hl : lv_has ls 3 [(0, .ref p0), (1, .int p1), (2, .int p2)] := hl
  unfold gw_X14_take at hw
  obtain ⟨G0, hG0⟩ : ∃ G0, G0 = G := ⟨_, rfl⟩
  have hG : gS E A G0 s.heap G s.heap [] := by rw [hG0]; exact hG
  rw [show gQ E A G (gpi post) = gQ E A G0 (gpi post) by rw [hG0]]
  rw [show gXC E A G px = gXC E A G0 px by rw [hG0]]
  have h0p0 := hw.1; rw [← hG0] at h0p0
  replace hw := hw.2
  refine lv_aload_n hx hb dX14_take_0 rfl (lv_at hl 0 rfl) ?_
  refine lv_iload_n hx hb dX14_take_1 rfl (lv_at hl 1 rfl) ?_
  refine lv_iload_n hx hb dX14_take_2 rfl (lv_at hl 2 rfl) ?_
  refine gc3i hA hG (va_runV (As := [.int p1, .int p2]) (rest := []) ⟨hx, hb, hml, hown, hts⟩ (gm_X14_isNext l E p0 p1 p2 _ G hw _) (cwV 2 hts (lw_V q1783 q1785 qs14 q97 q1786) rfl rfl rfl hd_X14_isNext ⟨Nat.le_of_ble_eq_true rfl, Nat.le_of_ble_eq_true rfl⟩) ⟨gblind, grecv hPF hG (gC_of (gK_mon hG.1.2 h0p0 (by decide)) (by decide)) (by decide) (by decide) rfl, fun U hU hW => gpre hPF hA hG _ U hU hW⟩ rfl rfl hl.1 rfl (lv_room (Nat.le_of_ble_eq_true rfl)) dX14_take_3 ⟨(Nat.le_of_ble_eq_true rfl), (Nat.le_of_ble_eq_true rfl)⟩) (fun r2 G1 H locs hw hmon hG => ?_)
  replace hw := hw hmon
  refine lv_if_ne (tgt := 21) hx hb dX14_take_6 (by decide) (fun c_ => ?_) (fun c_ => ?_)
  · replace hw := hw.1 c_
    refine lv_aload_n hx hb dX14_take_21 rfl (lv_at hl 0 rfl) ?_
    refine lv_dup hx hb dX14_take_22 rfl ?_
    refine gg hx hb hts hown hPF hG 12 1 rfl in_X14 (by decide) (by decide) (by decide) q1761 (fun _ h9 => h9) (gC_of (gK_mon hG.1.2 h0p0 (by decide)) (by decide)) (v := .int (gI G1 p0 1)) rfl dX14_take_23 ?_
    refine lv_iconst (v := 1) hx hb dX14_take_26 (by decide) ?_
    refine lv_iadd hx hb dX14_take_27 ?_
    refine gp hx hb hts hown hPF hG 12 1 rfl in_X14 tyX14 tyX14_ok nmX14 (by decide) (by decide) (by decide) q1761 (fun _ h9 => h9) rfl (gK_mon hG.1.2 h0p0 (by decide)) (v := .int ((gI G1 p0 1) + 1)) rfl rfl (G' := gsI G1 p0 1 ((gI G1 p0 1) + 1)) rfl rfl grI_off (Nat.le_of_ble_eq_true rfl) (gFs_I 12 1 (fun _ _ _ => rfl)) dX14_take_28 (fun H locs hG => ?_)
    obtain ⟨G3, eG3⟩ : ∃ z, z = gsI G1 p0 1 ((gI G1 p0 1) + 1) := ⟨_, rfl⟩
    rw [← eG3] at hG
    replace hw := hw G3 eG3
    refine lv_aload_n hx hb dX14_take_31 rfl (lv_at hl 0 rfl) ?_
    refine gg hx hb hts hown hPF hG 12 0 rfl in_X14 (by decide) (by decide) (by decide) q1760 (fun _ h9 => h9) (gC_of (gK_mon hG.1.2 h0p0 (by decide)) (by decide)) (v := va_rf (gR G3 p0 0)) rfl dX14_take_32 ?_
    refine lv_aload_n hx hb dX14_take_35 rfl (lv_at hl 0 rfl) ?_
    refine gg hx hb hts hown hPF hG 12 1 rfl in_X14 (by decide) (by decide) (by decide) q1761 (fun _ h9 => h9) (gC_of (gK_mon hG.1.2 h0p0 (by decide)) (by decide)) (v := .int (gI G3 p0 1)) rfl dX14_take_36 ?_
    refine lv_iconst (v := 1) hx hb dX14_take_39 (by decide) ?_
    refine lv_isub hx hb dX14_take_40 ?_
    obtain ⟨q4, hq4, hw⟩ := hw
    refine W.eq (g2 := F0 m 41 ls [.int ((gI G3 p0 1) - 1), .ref q4]) (by rw [hq4]; rfl) ?_
    have hk5 := hw.1
    replace hw := hw.2
    refine gc5i hA hG (va_runF (hPF.K.1 16 _ rfl).2 (As := [.int ((gI G3 p0 1) - 1)]) (rest := []) ⟨hx, hb, hml, hown, hts⟩ (gm_J8_charAt l E q4 ((gI G3 p0 1) - 1) _ G3 hw _) (va_cwF 1 hts (lw_F q1800 q1806 q1808 q65 q1810) rfl rfl rfl (hPF.f 3 rfl) hdx_java_lang_CharSequence_charAt ⟨Nat.le_of_ble_eq_true rfl, Nat.le_of_ble_eq_true rfl⟩) ⟨gblind, grecv hPF hG hk5 (by decide) (by decide) rfl, fun U hU hW => gpre hPF hA hG _ U hU hW⟩ rfl rfl hl.1 rfl (lv_room (Nat.le_of_ble_eq_true rfl)) dX14_take_41 ⟨(Nat.le_of_ble_eq_true rfl), (Nat.le_of_ble_eq_true rfl)⟩) (fun r7 G6 H locs hw hmon hG => ?_)
    replace hw := hw hmon
    have hk5 : gC G6 q4 = 16 := gC_mon hmon hk5 (by decide)
    refine lv_iload_n hx hb dX14_take_46 rfl (lv_at hl 1 rfl) ?_
    refine lv_isub hx hb dX14_take_47 ?_
    exact xreti hx hb hr hlk hG rfl hw (Nat.le_of_ble_eq_true rfl) (Nat.le_of_ble_eq_true rfl) dX14_take_48
  · replace hw := hw.2 c_
    refine gnew (ci := 13) hx hb hts in_X15 tyX15 tyX15_ok hown q1818 q1819 q98 hPF hG hA rfl (by decide) (by decide) gborn_X15 (Nat.le_of_ble_eq_true rfl) (Nat.le_of_ble_eq_true rfl) dX14_take_9 (fun q8 H h0q8 hG => ?_)
    replace hw := hw q8 h0q8
    obtain ⟨G9, eG9⟩ : ∃ z, z = gN G1 q8 13 0 := ⟨_, rfl⟩
    rw [← eG9] at hG
    replace hw := hw G9 eG9
    have hkq8 : gK G9 q8 = 13 := by rw [eG9]; exact gK_Nq
    refine lv_dup hx hb dX14_take_12 rfl ?_
    refine lv_aload_n hx hb dX14_take_13 rfl (lv_at hl 0 rfl) ?_
    refine gg hx hb hts hown hPF hG 12 1 rfl in_X14 (by decide) (by decide) (by decide) q1761 (fun _ h9 => h9) (gC_of (gK_mon hG.1.2 h0p0 (by decide)) (by decide)) (v := .int (gI G9 p0 1)) rfl dX14_take_14 ?_
    refine gc3v hA hG (va_runI (As := [.int (gI G9 p0 1)]) (rest := [.ref q8]) ⟨hx, hb, hml, hown, hts⟩ (gm_X15_init l E q8 (gI G9 p0 1) _ G9 hw _) (cwI 1 hts (lw_meth q1829) rfl rfl rfl (hts _ q98) (hts _ q1827) (hts _ q1828) rfl hd_X15_init ⟨Nat.le_of_ble_eq_true rfl, Nat.le_of_ble_eq_true rfl⟩) ⟨gblind, fun U hU hW => gpre hPF hA hG _ U hU hW⟩ rfl rfl hl.1 rfl (lv_room (Nat.le_of_ble_eq_true rfl)) dX14_take_17 ⟨(Nat.le_of_ble_eq_true rfl), (Nat.le_of_ble_eq_true rfl)⟩) (fun G10 H locs hw hmon hG => ?_)
    replace hw := hw hmon
    have hkq8 : gK G10 q8 = 13 := gK_mon hmon hkq8 (by decide)
    obtain ⟨ce, hce, hcv, hcl⟩ := gthr hPF hG (gC_of hkq8 (by decide)) (by decide) (by decide) rfl
    exact vx_athrow hx hb dX14_take_20 (gleave hlk hG (fun x hx9 => (htab x hx9).elim) hce hcv hcl hw (Nat.le_of_ble_eq_true rfl) (Nat.le_of_ble_eq_true rfl))
def gw_X14_digit (E : gE) (post : Int32 → Gh → Prop) (px : String → Nat → Gh → Prop) (p0 : Nat) (G : Gh) : Prop := gK G p0 = 12 ∧ (gw_X14_take E (fun r2 G1 => gMon G G1 → (post r2 G1)) px p0 48 57 G)
theorem hd_X14_digit : yX14_digit.cls = RX14 ∧ yX14_digit.cls ≠ "java/lang/invoke/MethodHandle" ∧ yX14_digit.cls ≠ "java/lang/invoke/VarHandle" ∧ (parseMethodDescriptor yX14_digit.desc).map (fun d => d.parameters.length) = some 0 := by decide +kernel
theorem hdn_X14_digit : yX14_digit.cls ≠ "java/lang/invoke/MethodHandle" ∧ yX14_digit.cls ≠ "java/lang/invoke/VarHandle" ∧ (parseMethodDescriptor yX14_digit.desc).map (fun d => d.parameters.length) = some 0 := hd_X14_digit.2
theorem hdu_X14_digit : RX14 ≠ "java/lang/invoke/MethodHandle" ∧ RX14 ≠ "java/lang/invoke/VarHandle" ∧ (parseMethodDescriptor yX14_digit.desc).map (fun d => d.parameters.length) = some 0 := by decide +kernel
theorem hds_X14_digit : yX14_digit.name ≠ "<init>" ∧ (parseMethodDescriptor yX14_digit.desc).map (fun d => d.parameters.length) = some 0 := by decide +kernel
set_option maxHeartbeats 1000000 in
set_option maxRecDepth 100000 in
theorem gm_X14_digit (l : Launch) (hlt : l.stackTraces = false) (E : gE) (p0 : Nat) (post : Int32 → Gh → Prop) (px : String → Nat → Gh → Prop) (G : Gh) (hw : gw_X14_digit E post px p0 G) : gX l E yX14_digit (ws_ yX14_digit cX14_digit 1 (some .int)) ({ frames := 5, cells := 1, slots := 7, locals := 129 } : Room) 1 7 [.ref p0] G (gpi post) px := by
  refine xof (by decide) (Nat.le_of_ble_eq_true rfl) ?_
  intro p e s m below meth c A ls hx hb hr hlk hml hown hin hts hPF hA htab hG hl
  have hl : lv_has ls 1 [(0, .ref p0)] := hl
  unfold gw_X14_digit at hw
  obtain ⟨G0, hG0⟩ : ∃ G0, G0 = G := ⟨_, rfl⟩
  have hG : gS E A G0 s.heap G s.heap [] := by rw [hG0]; exact hG
  rw [show gQ E A G (gpi post) = gQ E A G0 (gpi post) by rw [hG0]]
  rw [show gXC E A G px = gXC E A G0 px by rw [hG0]]
  have h0p0 := hw.1; rw [← hG0] at h0p0
  replace hw := hw.2
  refine lv_aload_n hx hb dX14_digit_0 rfl (lv_at hl 0 rfl) ?_
  refine lv_bipush (v := 48) hx hb dX14_digit_1 (by decide) ?_
  refine lv_bipush (v := 57) hx hb dX14_digit_3 (by decide) ?_
  refine xc3i hA hG (vx_runV (As := [.int 48, .int 57]) (rest := []) ⟨hx, hb, hml, hown, hts⟩ (gm_X14_take l hlt E p0 48 57 _ _ G hw _) (cwV 2 hts (lw_V q1779 q1781 qs13 q97 q1782) rfl rfl rfl hd_X14_take ⟨Nat.le_of_ble_eq_true rfl, Nat.le_of_ble_eq_true rfl⟩) ⟨gblind, grecv hPF hG (gC_of (gK_mon hG.1.2 h0p0 (by decide)) (by decide)) (by decide) (by decide) rfl, fun U hU hW => gpre hPF hA hG _ U hU hW⟩ rfl rfl hl.1 rfl (lv_room (Nat.le_of_ble_eq_true rfl)) dX14_digit_5 ⟨(Nat.le_of_ble_eq_true rfl), (Nat.le_of_ble_eq_true rfl)⟩) (fun X ce q Gx H locs hw hmon hG hce hcv hcl => ?_) (fun r2 G1 H locs hw hmon hG => ?_)
  · exact gleave hlk hG (fun x hx9 => (htab x hx9).elim) hce hcv hcl hw (Nat.le_of_ble_eq_true rfl) (Nat.le_of_ble_eq_true rfl)
  · replace hw := hw hmon
    exact xreti hx hb hr hlk hG rfl hw (Nat.le_of_ble_eq_true rfl) (Nat.le_of_ble_eq_true rfl) dX14_digit_8
def gw_X14_number (E : gE) (post : Int32 → Gh → Prop) (px : String → Nat → Gh → Prop) (p0 : Nat) (G : Gh) : Prop := gK G p0 = 12 ∧ (gw_X14_digit E (fun r2 G1 => gMon G G1 → ((r2 ≤ 0 → (post r2 G1)) ∧ (¬ r2 ≤ 0 → (gw_X14_isNext E (fun r4 G3 => gMon G1 G3 → ((r4 = 0 → (post r2 G3)) ∧ (¬ r4 = 0 → (gw_X14_digit E (fun r6 G5 => gMon G3 G5 → (post ((10 * r2) + r6) G5)) px p0 G3)))) p0 48 57 G1)))) px p0 G)
theorem hd_X14_number : yX14_number.cls = RX14 ∧ yX14_number.cls ≠ "java/lang/invoke/MethodHandle" ∧ yX14_number.cls ≠ "java/lang/invoke/VarHandle" ∧ (parseMethodDescriptor yX14_number.desc).map (fun d => d.parameters.length) = some 0 := by decide +kernel
theorem hdn_X14_number : yX14_number.cls ≠ "java/lang/invoke/MethodHandle" ∧ yX14_number.cls ≠ "java/lang/invoke/VarHandle" ∧ (parseMethodDescriptor yX14_number.desc).map (fun d => d.parameters.length) = some 0 := hd_X14_number.2
theorem hdu_X14_number : RX14 ≠ "java/lang/invoke/MethodHandle" ∧ RX14 ≠ "java/lang/invoke/VarHandle" ∧ (parseMethodDescriptor yX14_number.desc).map (fun d => d.parameters.length) = some 0 := by decide +kernel
theorem hds_X14_number : yX14_number.name ≠ "<init>" ∧ (parseMethodDescriptor yX14_number.desc).map (fun d => d.parameters.length) = some 0 := by decide +kernel
set_option maxHeartbeats 1000000 in
set_option maxRecDepth 100000 in
theorem gm_X14_number (l : Launch) (hlt : l.stackTraces = false) (E : gE) (p0 : Nat) (post : Int32 → Gh → Prop) (px : String → Nat → Gh → Prop) (G : Gh) (hw : gw_X14_number E post px p0 G) : gX l E yX14_number (ws_ yX14_number cX14_number 2 (some .int)) ({ frames := 6, cells := 64, slots := 512, locals := 149 } : Room) 64 512 [.ref p0] G (gpi post) px := by
  refine xof (by decide) (Nat.le_of_ble_eq_true rfl) ?_
  intro p e s m below meth c A ls hx hb hr hlk hml hown hin hts hPF hA htab hG hl
  have hl : lv_has ls 2 [(0, .ref p0)] := hl
  unfold gw_X14_number at hw
  obtain ⟨G0, hG0⟩ : ∃ G0, G0 = G := ⟨_, rfl⟩
  have hG : gS E A G0 s.heap G s.heap [] := by rw [hG0]; exact hG
  rw [show gQ E A G (gpi post) = gQ E A G0 (gpi post) by rw [hG0]]
  rw [show gXC E A G px = gXC E A G0 px by rw [hG0]]
  have h0p0 := hw.1; rw [← hG0] at h0p0
  replace hw := hw.2
  refine lv_aload_n hx hb dX14_number_0 rfl (lv_at hl 0 rfl) ?_
  refine xc3i hA hG (vx_runV (As := []) (rest := []) ⟨hx, hb, hml, hown, hts⟩ (gm_X14_digit l hlt E p0 _ _ G hw _) (cwV 0 hts (lw_V q1841 q1843 qs16 q97 q1844) rfl rfl rfl hd_X14_digit ⟨Nat.le_of_ble_eq_true rfl, Nat.le_of_ble_eq_true rfl⟩) ⟨gblind, grecv hPF hG (gC_of (gK_mon hG.1.2 h0p0 (by decide)) (by decide)) (by decide) (by decide) rfl, fun U hU hW => gpre hPF hA hG _ U hU hW⟩ rfl rfl hl.1 rfl (lv_room (Nat.le_of_ble_eq_true rfl)) dX14_number_1 ⟨(Nat.le_of_ble_eq_true rfl), (Nat.le_of_ble_eq_true rfl)⟩) (fun X ce q Gx H locs hw hmon hG hce hcv hcl => ?_) (fun r2 G1 H locs hw hmon hG => ?_)
  · exact gleave hlk hG (fun x hx9 => (htab x hx9).elim) hce hcv hcl hw (Nat.le_of_ble_eq_true rfl) (Nat.le_of_ble_eq_true rfl)
  · replace hw := hw hmon
    refine lv_istore_n (i := 1) (lv' := [(1, .int r2), (0, .ref p0)]) hx hb dX14_number_4 rfl hl (by decide) rfl (fun ls hl => ?_)
    refine lv_iload_n hx hb dX14_number_5 rfl (lv_at hl 0 rfl) ?_
    refine lv_if_le (tgt := 32) hx hb dX14_number_6 (by decide) (fun c_ => ?_) (fun c_ => ?_)
    · replace hw := hw.1 c_
      refine lv_iload_n hx hb dX14_number_32 rfl (lv_at hl 0 rfl) ?_
      exact xreti hx hb hr hlk hG rfl hw (Nat.le_of_ble_eq_true rfl) (Nat.le_of_ble_eq_true rfl) dX14_number_33
    · replace hw := hw.2 c_
      refine lv_aload_n hx hb dX14_number_9 rfl (lv_at hl 1 rfl) ?_
      refine lv_bipush (v := 48) hx hb dX14_number_10 (by decide) ?_
      refine lv_bipush (v := 57) hx hb dX14_number_12 (by decide) ?_
      refine gc3i hA hG (va_runV (As := [.int 48, .int 57]) (rest := []) ⟨hx, hb, hml, hown, hts⟩ (gm_X14_isNext l E p0 48 57 _ G1 hw _) (cwV 2 hts (lw_V q1783 q1785 qs14 q97 q1786) rfl rfl rfl hd_X14_isNext ⟨Nat.le_of_ble_eq_true rfl, Nat.le_of_ble_eq_true rfl⟩) ⟨gblind, grecv hPF hG (gC_of (gK_mon hG.1.2 h0p0 (by decide)) (by decide)) (by decide) (by decide) rfl, fun U hU hW => gpre hPF hA hG _ U hU hW⟩ rfl rfl hl.1 rfl (lv_room (Nat.le_of_ble_eq_true rfl)) dX14_number_14 ⟨(Nat.le_of_ble_eq_true rfl), (Nat.le_of_ble_eq_true rfl)⟩) (fun r4 G3 H locs hw hmon hG => ?_)
      replace hw := hw hmon
      refine lv_if_eq (tgt := 32) hx hb dX14_number_17 (by decide) (fun c_ => ?_) (fun c_ => ?_)
      · replace hw := hw.1 c_
        refine lv_iload_n hx hb dX14_number_32 rfl (lv_at hl 0 rfl) ?_
        exact xreti hx hb hr hlk hG rfl hw (Nat.le_of_ble_eq_true rfl) (Nat.le_of_ble_eq_true rfl) dX14_number_33
      · replace hw := hw.2 c_
        refine lv_bipush (v := 10) hx hb dX14_number_20 (by decide) ?_
        refine lv_iload_n hx hb dX14_number_22 rfl (lv_at hl 0 rfl) ?_
        refine lv_imul hx hb dX14_number_23 ?_
        refine lv_aload_n hx hb dX14_number_24 rfl (lv_at hl 1 rfl) ?_
        refine xc3i hA hG (vx_runV (As := []) (rest := [.int (10 * r2)]) ⟨hx, hb, hml, hown, hts⟩ (gm_X14_digit l hlt E p0 _ _ G3 hw _) (cwV 0 hts (lw_V q1841 q1843 qs16 q97 q1844) rfl rfl rfl hd_X14_digit ⟨Nat.le_of_ble_eq_true rfl, Nat.le_of_ble_eq_true rfl⟩) ⟨gblind, grecv hPF hG (gC_of (gK_mon hG.1.2 h0p0 (by decide)) (by decide)) (by decide) (by decide) rfl, fun U hU hW => gpre hPF hA hG _ U hU hW⟩ rfl rfl hl.1 rfl (lv_room (Nat.le_of_ble_eq_true rfl)) dX14_number_25 ⟨(Nat.le_of_ble_eq_true rfl), (Nat.le_of_ble_eq_true rfl)⟩) (fun X ce q Gx H locs hw hmon hG hce hcv hcl => ?_) (fun r6 G5 H locs hw hmon hG => ?_)
        · exact gleave hlk hG (fun x hx9 => (htab x hx9).elim) hce hcv hcl hw (Nat.le_of_ble_eq_true rfl) (Nat.le_of_ble_eq_true rfl)
        · replace hw := hw hmon
          refine lv_iadd hx hb dX14_number_28 ?_
          refine lv_goto (tgt := 33) hx hb dX14_number_29 (by decide) ?_
          exact xreti hx hb hr hlk hG rfl hw (Nat.le_of_ble_eq_true rfl) (Nat.le_of_ble_eq_true rfl) dX14_number_33
def gw_X14_behind (E : gE) (post : Int32 → Gh → Prop) (px : String → Nat → Gh → Prop) (p0 : Nat) (p1 : Int32) (p2 : Int32) (G : Gh) : Prop := gK G p0 = 12 ∧ (gw_X14_take E (fun r2 G1 => gMon G G1 → ((p2 = 0 → (gw_X14_number E (fun r4 G3 => gMon G1 G3 → (post r4 G3)) px p0 G1)) ∧ (¬ p2 = 0 → (gw_X14_digit E (fun r6 G5 => gMon G1 G5 → (post r6 G5)) px p0 G1)))) px p0 p1 p1 G)
theorem hd_X14_behind : yX14_behind.cls = RX14 ∧ yX14_behind.cls ≠ "java/lang/invoke/MethodHandle" ∧ yX14_behind.cls ≠ "java/lang/invoke/VarHandle" ∧ (parseMethodDescriptor yX14_behind.desc).map (fun d => d.parameters.length) = some 2 := by decide +kernel
theorem hdn_X14_behind : yX14_behind.cls ≠ "java/lang/invoke/MethodHandle" ∧ yX14_behind.cls ≠ "java/lang/invoke/VarHandle" ∧ (parseMethodDescriptor yX14_behind.desc).map (fun d => d.parameters.length) = some 2 := hd_X14_behind.2
theorem hdu_X14_behind : RX14 ≠ "java/lang/invoke/MethodHandle" ∧ RX14 ≠ "java/lang/invoke/VarHandle" ∧ (parseMethodDescriptor yX14_behind.desc).map (fun d => d.parameters.length) = some 2 := by decide +kernel
theorem hds_X14_behind : yX14_behind.name ≠ "<init>" ∧ (parseMethodDescriptor yX14_behind.desc).map (fun d => d.parameters.length) = some 2 := by decide +kernel
set_option maxHeartbeats 1000000 in
set_option maxRecDepth 100000 in
theorem gm_X14_behind (l : Launch) (hlt : l.stackTraces = false) (E : gE) (p0 : Nat) (p1 : Int32) (p2 : Int32) (post : Int32 → Gh → Prop) (px : String → Nat → Gh → Prop) (G : Gh) (hw : gw_X14_behind E post px p0 p1 p2 G) : gX l E yX14_behind (ws_ yX14_behind cX14_behind 4 (some .int)) ({ frames := 7, cells := 65, slots := 519, locals := 170 } : Room) 65 519 [.ref p0, .int p1, .int p2] G (gpi post) px := by
  refine xof (by decide) (Nat.le_of_ble_eq_true rfl) ?_
  intro p e s m below meth c A ls hx hb hr hlk hml hown hin hts hPF hA htab hG hl
  have hl : lv_has ls 4 [(0, .ref p0), (1, .int p1), (2, .int p2)] := hl
  unfold gw_X14_behind at hw
  obtain ⟨G0, hG0⟩ : ∃ G0, G0 = G := ⟨_, rfl⟩
  have hG : gS E A G0 s.heap G s.heap [] := by rw [hG0]; exact hG
  rw [show gQ E A G (gpi post) = gQ E A G0 (gpi post) by rw [hG0]]
  rw [show gXC E A G px = gXC E A G0 px by rw [hG0]]
  have h0p0 := hw.1; rw [← hG0] at h0p0
  replace hw := hw.2
  refine lv_aload_n hx hb dX14_behind_0 rfl (lv_at hl 0 rfl) ?_
  refine lv_iload_n hx hb dX14_behind_1 rfl (lv_at hl 1 rfl) ?_
  refine lv_iload_n hx hb dX14_behind_2 rfl (lv_at hl 1 rfl) ?_
  refine xc3i hA hG (vx_runV (As := [.int p1, .int p1]) (rest := []) ⟨hx, hb, hml, hown, hts⟩ (gm_X14_take l hlt E p0 p1 p1 _ _ G hw _) (cwV 2 hts (lw_V q1779 q1781 qs13 q97 q1782) rfl rfl rfl hd_X14_take ⟨Nat.le_of_ble_eq_true rfl, Nat.le_of_ble_eq_true rfl⟩) ⟨gblind, grecv hPF hG (gC_of (gK_mon hG.1.2 h0p0 (by decide)) (by decide)) (by decide) (by decide) rfl, fun U hU hW => gpre hPF hA hG _ U hU hW⟩ rfl rfl hl.1 rfl (lv_room (Nat.le_of_ble_eq_true rfl)) dX14_behind_3 ⟨(Nat.le_of_ble_eq_true rfl), (Nat.le_of_ble_eq_true rfl)⟩) (fun X ce q Gx H locs hw hmon hG hce hcv hcl => ?_) (fun r2 G1 H locs hw hmon hG => ?_)
  · exact gleave hlk hG (fun x hx9 => (htab x hx9).elim) hce hcv hcl hw (Nat.le_of_ble_eq_true rfl) (Nat.le_of_ble_eq_true rfl)
  · replace hw := hw hmon
    refine lv_istore_n (i := 3) (lv' := [(3, .int r2), (0, .ref p0), (1, .int p1), (2, .int p2)]) hx hb dX14_behind_6 rfl hl (by decide) rfl (fun ls hl => ?_)
    refine lv_iload_n hx hb dX14_behind_7 rfl (lv_at hl 3 rfl) ?_
    refine lv_if_eq (tgt := 18) hx hb dX14_behind_8 (by decide) (fun c_ => ?_) (fun c_ => ?_)
    · replace hw := hw.1 c_
      refine lv_aload_n hx hb dX14_behind_18 rfl (lv_at hl 1 rfl) ?_
      refine xc3i hA hG (vx_runV (As := []) (rest := []) ⟨hx, hb, hml, hown, hts⟩ (gm_X14_number l hlt E p0 _ _ G1 hw _) (cwV 0 hts (lw_V q1837 q1839 qs15 q97 q1840) rfl rfl rfl hd_X14_number ⟨Nat.le_of_ble_eq_true rfl, Nat.le_of_ble_eq_true rfl⟩) ⟨gblind, grecv hPF hG (gC_of (gK_mon hG.1.2 h0p0 (by decide)) (by decide)) (by decide) (by decide) rfl, fun U hU hW => gpre hPF hA hG _ U hU hW⟩ rfl rfl hl.1 rfl (lv_room (Nat.le_of_ble_eq_true rfl)) dX14_behind_19 ⟨(Nat.le_of_ble_eq_true rfl), (Nat.le_of_ble_eq_true rfl)⟩) (fun X ce q Gx H locs hw hmon hG hce hcv hcl => ?_) (fun r4 G3 H locs hw hmon hG => ?_)
      · exact gleave hlk hG (fun x hx9 => (htab x hx9).elim) hce hcv hcl hw (Nat.le_of_ble_eq_true rfl) (Nat.le_of_ble_eq_true rfl)
      · replace hw := hw hmon
        exact xreti hx hb hr hlk hG rfl hw (Nat.le_of_ble_eq_true rfl) (Nat.le_of_ble_eq_true rfl) dX14_behind_22
    · replace hw := hw.2 c_
      refine lv_aload_n hx hb dX14_behind_11 rfl (lv_at hl 1 rfl) ?_
      refine xc3i hA hG (vx_runV (As := []) (rest := []) ⟨hx, hb, hml, hown, hts⟩ (gm_X14_digit l hlt E p0 _ _ G1 hw _) (cwV 0 hts (lw_V q1841 q1843 qs16 q97 q1844) rfl rfl rfl hd_X14_digit ⟨Nat.le_of_ble_eq_true rfl, Nat.le_of_ble_eq_true rfl⟩) ⟨gblind, grecv hPF hG (gC_of (gK_mon hG.1.2 h0p0 (by decide)) (by decide)) (by decide) (by decide) rfl, fun U hU hW => gpre hPF hA hG _ U hU hW⟩ rfl rfl hl.1 rfl (lv_room (Nat.le_of_ble_eq_true rfl)) dX14_behind_12 ⟨(Nat.le_of_ble_eq_true rfl), (Nat.le_of_ble_eq_true rfl)⟩) (fun X ce q Gx H locs hw hmon hG hce hcv hcl => ?_) (fun r6 G5 H locs hw hmon hG => ?_)
      · exact gleave hlk hG (fun x hx9 => (htab x hx9).elim) hce hcv hcl hw (Nat.le_of_ble_eq_true rfl) (Nat.le_of_ble_eq_true rfl)
      · replace hw := hw hmon
        refine lv_goto (tgt := 22) hx hb dX14_behind_15 (by decide) ?_
        exact xreti hx hb hr hlk hG rfl hw (Nat.le_of_ble_eq_true rfl) (Nat.le_of_ble_eq_true rfl) dX14_behind_22
