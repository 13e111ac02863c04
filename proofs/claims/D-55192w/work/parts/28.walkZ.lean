/-! walks over the ghost heap: walkZ -/
set_option maxRecDepth 100000
def gw_X14_item (E : gE) (post : Option Nat → Gh → Prop) (px : String → Nat → Gh → Prop) (p0 : Nat) (G : Gh) : Prop := gK G p0 = 12 ∧ (gw_X14_take E (fun r2 G1 => gMon G G1 → ((((r2.toUInt32 % 65536).toInt32) = 99 → (gw_X14_digit E (fun r7 G6 => gMon G1 G6 → (∀ q8, gK G6 q8 = 0 → ∀ G9, G9 = gsI (gN G6 q8 66 1) q8 0 r7 → (post (some q8) G9))) px p0 G1)) ∧ (((r2.toUInt32 % 65536).toInt32) = 100 → (∀ q10, gK G1 q10 = 0 → ∀ G11, G11 = gN G1 q10 13 0 → (gw_X15_init E (fun G12 => gMon G11 G12 → (px "WillowPrinters$SyntaxException" q10 G12)) q10 (gI G p0 1) G11))) ∧ (((r2.toUInt32 % 65536).toInt32) = 101 → (∀ q13, gK G1 q13 = 0 → ∀ G14, G14 = gN G1 q13 13 0 → (gw_X15_init E (fun G15 => gMon G14 G15 → (px "WillowPrinters$SyntaxException" q13 G15)) q13 (gI G p0 1) G14))) ∧ (((r2.toUInt32 % 65536).toInt32) = 102 → (gw_X14_number E (fun r17 G16 => gMon G1 G16 → (gw_X14_behind E (fun r19 G18 => gMon G16 G18 → (gw_X14_behind E (fun r21 G20 => gMon G18 G20 → (∀ q22, gK G20 q22 = 0 → ∀ G23, G23 = gsI (gsI (gsI (gN G20 q22 63 3) q22 0 r17) q22 1 r19) q22 2 r21 → (post (some q22) G23))) px p0 58 1 G18)) px p0 64 1 G16)) px p0 G1)) ∧ (((r2.toUInt32 % 65536).toInt32) = 103 → (∀ q24, gK G1 q24 = 0 → ∀ G25, G25 = gN G1 q24 13 0 → (gw_X15_init E (fun G26 => gMon G25 G26 → (px "WillowPrinters$SyntaxException" q24 G26)) q24 (gI G p0 1) G25))) ∧ (((r2.toUInt32 % 65536).toInt32) = 104 → (gw_X14_number E (fun r28 G27 => gMon G1 G27 → (∀ q29, gK G27 q29 = 0 → ∀ G30, G30 = gsI (gN G27 q29 69 1) q29 0 r28 → (post (some q29) G30))) px p0 G1)) ∧ (((r2.toUInt32 % 65536).toInt32) = 105 → (∀ q31, gK G1 q31 = 0 → ∀ G32, G32 = gN G1 q31 13 0 → (gw_X15_init E (fun G33 => gMon G32 G33 → (px "WillowPrinters$SyntaxException" q31 G33)) q31 (gI G p0 1) G32))) ∧ (((r2.toUInt32 % 65536).toInt32) = 106 → (∀ q34, gK G1 q34 = 0 → ∀ G35, G35 = gN G1 q34 13 0 → (gw_X15_init E (fun G36 => gMon G35 G36 → (px "WillowPrinters$SyntaxException" q34 G36)) q34 (gI G p0 1) G35))) ∧ (((r2.toUInt32 % 65536).toInt32) = 107 → (gw_X14_digit E (fun r38 G37 => gMon G1 G37 → (gw_X14_behind E (fun r40 G39 => gMon G37 G39 → (gw_X14_behind E (fun r42 G41 => gMon G39 G41 → (∀ q43, gK G41 q43 = 0 → ∀ G44, G44 = gsI (gsI (gsI (gN G41 q43 64 3) q43 0 r38) q43 1 r40) q43 2 r42 → (post (some q43) G44))) px p0 42 0 G39)) px p0 60 0 G37)) px p0 G1)) ∧ (((r2.toUInt32 % 65536).toInt32) = 108 → (∀ q45, gK G1 q45 = 0 → ∀ G46, G46 = gN G1 q45 13 0 → (gw_X15_init E (fun G47 => gMon G46 G47 → (px "WillowPrinters$SyntaxException" q45 G47)) q45 (gI G p0 1) G46))) ∧ (((r2.toUInt32 % 65536).toInt32) = 109 → (∀ q48, gK G1 q48 = 0 → ∀ G49, G49 = gN G1 q48 13 0 → (gw_X15_init E (fun G50 => gMon G49 G50 → (px "WillowPrinters$SyntaxException" q48 G50)) q48 (gI G p0 1) G49))) ∧ (((r2.toUInt32 % 65536).toInt32) = 110 → (∀ q51, gK G1 q51 = 0 → ∀ G52, G52 = gN G1 q51 13 0 → (gw_X15_init E (fun G53 => gMon G52 G53 → (px "WillowPrinters$SyntaxException" q51 G53)) q51 (gI G p0 1) G52))) ∧ (((r2.toUInt32 % 65536).toInt32) = 111 → (∀ q54, gK G1 q54 = 0 → ∀ G55, G55 = gN G1 q54 13 0 → (gw_X15_init E (fun G56 => gMon G55 G56 → (px "WillowPrinters$SyntaxException" q54 G56)) q54 (gI G p0 1) G55))) ∧ (((r2.toUInt32 % 65536).toInt32) = 112 → (gw_X14_number E (fun r58 G57 => gMon G1 G57 → (gw_X14_behind E (fun r60 G59 => gMon G57 G59 → (∀ q61, gK G59 q61 = 0 → ∀ G62, G62 = gsI (gsI (gN G59 q61 62 2) q61 0 r58) q61 1 r60 → (post (some q61) G62))) px p0 64 1 G57)) px p0 G1)) ∧ (((r2.toUInt32 % 65536).toInt32) = 113 → (∀ q63, gK G1 q63 = 0 → ∀ G64, G64 = gN G1 q63 13 0 → (gw_X15_init E (fun G65 => gMon G64 G65 → (px "WillowPrinters$SyntaxException" q63 G65)) q63 (gI G p0 1) G64))) ∧ (((r2.toUInt32 % 65536).toInt32) = 114 → (∀ q66, gK G1 q66 = 0 → ∀ G67, G67 = gN G1 q66 13 0 → (gw_X15_init E (fun G68 => gMon G67 G68 → (px "WillowPrinters$SyntaxException" q66 G68)) q66 (gI G p0 1) G67))) ∧ (((r2.toUInt32 % 65536).toInt32) = 115 → (gw_X14_digit E (fun r70 G69 => gMon G1 G69 → (gw_X14_behind E (fun r72 G71 => gMon G69 G71 → (∀ q73, gK G71 q73 = 0 → ∀ G74, G74 = gsI (gsI (gN G71 q73 65 2) q73 0 r70) q73 1 r72 → (post (some q73) G74))) px p0 43 1 G69)) px p0 G1)) ∧ (((r2.toUInt32 % 65536).toInt32) = 116 → (∀ q75, gK G1 q75 = 0 → ∀ G76, G76 = gN G1 q75 13 0 → (gw_X15_init E (fun G77 => gMon G76 G77 → (px "WillowPrinters$SyntaxException" q75 G77)) q75 (gI G p0 1) G76))) ∧ (((r2.toUInt32 % 65536).toInt32) = 117 → (∀ q78, gK G1 q78 = 0 → ∀ G79, G79 = gN G1 q78 13 0 → (gw_X15_init E (fun G80 => gMon G79 G80 → (px "WillowPrinters$SyntaxException" q78 G80)) q78 (gI G p0 1) G79))) ∧ (((r2.toUInt32 % 65536).toInt32) = 118 → (∀ q81, gK G1 q81 = 0 → ∀ G82, G82 = gN G1 q81 13 0 → (gw_X15_init E (fun G83 => gMon G82 G83 → (px "WillowPrinters$SyntaxException" q81 G83)) q81 (gI G p0 1) G82))) ∧ (((r2.toUInt32 % 65536).toInt32) = 119 → (gw_X14_digit E (fun r85 G84 => gMon G1 G84 → (∀ q86, gK G84 q86 = 0 → ∀ G87, G87 = gsI (gN G84 q86 67 1) q86 0 r85 → (post (some q86) G87))) px p0 G1)) ∧ (((r2.toUInt32 % 65536).toInt32) = 120 → (post (some (eZ E 58)) G1)) ∧ (((r2.toUInt32 % 65536).toInt32).toInt < 99 ∨ 120 < ((r2.toUInt32 % 65536).toInt32).toInt → (∀ q3, gK G1 q3 = 0 → ∀ G4, G4 = gN G1 q3 13 0 → (gw_X15_init E (fun G5 => gMon G4 G5 → (px "WillowPrinters$SyntaxException" q3 G5)) q3 (gI G p0 1) G4))))) px p0 0 127 G)
theorem hd_X14_item : yX14_item.cls = RX14 ∧ yX14_item.cls ≠ "java/lang/invoke/MethodHandle" ∧ yX14_item.cls ≠ "java/lang/invoke/VarHandle" ∧ (parseMethodDescriptor yX14_item.desc).map (fun d => d.parameters.length) = some 0 := by decide +kernel
theorem hdn_X14_item : yX14_item.cls ≠ "java/lang/invoke/MethodHandle" ∧ yX14_item.cls ≠ "java/lang/invoke/VarHandle" ∧ (parseMethodDescriptor yX14_item.desc).map (fun d => d.parameters.length) = some 0 := hd_X14_item.2
theorem hdu_X14_item : RX14 ≠ "java/lang/invoke/MethodHandle" ∧ RX14 ≠ "java/lang/invoke/VarHandle" ∧ (parseMethodDescriptor yX14_item.desc).map (fun d => d.parameters.length) = some 0 := by decide +kernel
theorem hds_X14_item : yX14_item.name ≠ "<init>" ∧ (parseMethodDescriptor yX14_item.desc).map (fun d => d.parameters.length) = some 0 := by decide +kernel
set_option maxHeartbeats 1000000 in
set_option maxRecDepth 100000 in
theorem gm_X14_item (l : Launch) (hlt : l.stackTraces = false) (E : gE) (p0 : Nat) (post : Option Nat → Gh → Prop) (px : String → Nat → Gh → Prop) (G : Gh) (hw : gw_X14_item E post px p0 G) : gX l E yX14_item (ws_ yX14_item cX14_item 6 (some (.object "WillowPrinters$Change"))) ({ frames := 8, cells := 196, slots := 1560, locals := 3200 } : Room) 196 1560 [.ref p0] G (gpr post) px := by
  refine xof (by decide) (Nat.le_of_ble_eq_true rfl) ?_
  intro p e s m below meth c A ls hx hb hr hlk hml hown hin hts hPF hA htab hG hl
  have hl : lv_has ls 6 [(0, .ref p0)] := hl
  unfold gw_X14_item at hw
  obtain ⟨G0, hG0⟩ : ∃ G0, G0 = G := ⟨_, rfl⟩
  have hG : gS E A G0 s.heap G s.heap [] := by rw [hG0]; exact hG
  rw [show gQ E A G (gpr post) = gQ E A G0 (gpr post) by rw [hG0]]
  rw [show gXC E A G px = gXC E A G0 px by rw [hG0]]
  have h0p0 := hw.1; rw [← hG0] at h0p0
  replace hw := hw.2
  refine lv_aload_n hx hb dX14_item_0 rfl (lv_at hl 0 rfl) ?_
  refine gg hx hb hts hown hPF hG 12 1 rfl in_X14 (by decide) (by decide) (by decide) q1761 (fun _ h9 => h9) (gC_of (gK_mon hG.1.2 h0p0 (by decide)) (by decide)) (v := .int (gI G p0 1)) rfl dX14_item_1 ?_
  refine lv_istore_n (i := 1) (lv' := [(1, .int (gI G p0 1)), (0, .ref p0)]) hx hb dX14_item_4 rfl hl (by decide) rfl (fun ls hl => ?_)
  refine lv_aload_n hx hb dX14_item_5 rfl (lv_at hl 1 rfl) ?_
  refine lv_iconst (v := 0) hx hb dX14_item_6 (by decide) ?_
  refine lv_bipush (v := 127) hx hb dX14_item_7 (by decide) ?_
  refine xc3i hA hG (vx_runV (As := [.int 0, .int 127]) (rest := []) ⟨hx, hb, hml, hown, hts⟩ (gm_X14_take l hlt E p0 0 127 _ _ G hw _) (cwV 2 hts (lw_V q1779 q1781 qs13 q97 q1782) rfl rfl rfl hd_X14_take ⟨Nat.le_of_ble_eq_true rfl, Nat.le_of_ble_eq_true rfl⟩) ⟨gblind, grecv hPF hG (gC_of (gK_mon hG.1.2 h0p0 (by decide)) (by decide)) (by decide) (by decide) rfl, fun U hU hW => gpre hPF hA hG _ U hU hW⟩ rfl rfl hl.1 rfl (lv_room (Nat.le_of_ble_eq_true rfl)) dX14_item_9 ⟨(Nat.le_of_ble_eq_true rfl), (Nat.le_of_ble_eq_true rfl)⟩) (fun X ce q Gx H locs hw hmon hG hce hcv hcl => ?_) (fun r2 G1 H locs hw hmon hG => ?_)
  · exact gleave hlk hG (fun x hx9 => (htab x hx9).elim) hce hcv hcl hw (Nat.le_of_ble_eq_true rfl) (Nat.le_of_ble_eq_true rfl)
  · replace hw := hw hmon
    refine lv_i2c (v := (r2.toUInt32 % 65536).toInt32) hx hb dX14_item_12 rfl ?_
    refine lv_istore_n (i := 2) (lv' := [(2, .int ((r2.toUInt32 % 65536).toInt32)), (1, .int (gI G p0 1)), (0, .ref p0)]) hx hb dX14_item_13 rfl hl (by decide) rfl (fun ls hl => ?_)
    refine lv_iload_n hx hb dX14_item_14 rfl (lv_at hl 0 rfl) ?_
    by_cases ho_ : ((r2.toUInt32 % 65536).toInt32).toInt < 99 ∨ 120 < ((r2.toUInt32 % 65536).toInt32).toInt
    · refine lv_tableOut (tgt := 272) hx hb dX14_item_15 ho_ (by decide) ?_
      replace hw := hw.2.2.2.2.2.2.2.2.2.2.2.2.2.2.2.2.2.2.2.2.2.2 ho_
      refine gnew (ci := 13) hx hb hts in_X15 tyX15 tyX15_ok hown q1818 q1819 q98 hPF hG hA rfl (by decide) (by decide) gborn_X15 (Nat.le_of_ble_eq_true rfl) (Nat.le_of_ble_eq_true rfl) dX14_item_272 (fun q3 H h0q3 hG => ?_)
      replace hw := hw q3 h0q3
      obtain ⟨G4, eG4⟩ : ∃ z, z = gN G1 q3 13 0 := ⟨_, rfl⟩
      rw [← eG4] at hG
      replace hw := hw G4 eG4
      have hkq3 : gK G4 q3 = 13 := by rw [eG4]; exact gK_Nq
      refine lv_dup hx hb dX14_item_275 rfl ?_
      refine lv_iload_n hx hb dX14_item_276 rfl (lv_at hl 1 rfl) ?_
      refine gc3v hA hG (va_runI (As := [.int (gI G p0 1)]) (rest := [.ref q3]) ⟨hx, hb, hml, hown, hts⟩ (gm_X15_init l E q3 (gI G p0 1) _ G4 hw _) (cwI 1 hts (lw_meth q1829) rfl rfl rfl (hts _ q98) (hts _ q1827) (hts _ q1828) rfl hd_X15_init ⟨Nat.le_of_ble_eq_true rfl, Nat.le_of_ble_eq_true rfl⟩) ⟨gblind, fun U hU hW => gpre hPF hA hG _ U hU hW⟩ rfl rfl hl.1 rfl (lv_room (Nat.le_of_ble_eq_true rfl)) dX14_item_277 ⟨(Nat.le_of_ble_eq_true rfl), (Nat.le_of_ble_eq_true rfl)⟩) (fun G5 H locs hw hmon hG => ?_)
      replace hw := hw hmon
      have hkq3 : gK G5 q3 = 13 := gK_mon hmon hkq3 (by decide)
      obtain ⟨ce, hce, hcv, hcl⟩ := gthr hPF hG (gC_of hkq3 (by decide)) (by decide) (by decide) rfl
      exact vx_athrow hx hb dX14_item_280 (gleave hlk hG (fun x hx9 => (htab x hx9).elim) hce hcv hcl hw (Nat.le_of_ble_eq_true rfl) (Nat.le_of_ble_eq_true rfl))
    · have hi_ : ((r2.toUInt32 % 65536).toInt32).toInt = 99 ∨ ((r2.toUInt32 % 65536).toInt32).toInt = 100 ∨ ((r2.toUInt32 % 65536).toInt32).toInt = 101 ∨ ((r2.toUInt32 % 65536).toInt32).toInt = 102 ∨ ((r2.toUInt32 % 65536).toInt32).toInt = 103 ∨ ((r2.toUInt32 % 65536).toInt32).toInt = 104 ∨ ((r2.toUInt32 % 65536).toInt32).toInt = 105 ∨ ((r2.toUInt32 % 65536).toInt32).toInt = 106 ∨ ((r2.toUInt32 % 65536).toInt32).toInt = 107 ∨ ((r2.toUInt32 % 65536).toInt32).toInt = 108 ∨ ((r2.toUInt32 % 65536).toInt32).toInt = 109 ∨ ((r2.toUInt32 % 65536).toInt32).toInt = 110 ∨ ((r2.toUInt32 % 65536).toInt32).toInt = 111 ∨ ((r2.toUInt32 % 65536).toInt32).toInt = 112 ∨ ((r2.toUInt32 % 65536).toInt32).toInt = 113 ∨ ((r2.toUInt32 % 65536).toInt32).toInt = 114 ∨ ((r2.toUInt32 % 65536).toInt32).toInt = 115 ∨ ((r2.toUInt32 % 65536).toInt32).toInt = 116 ∨ ((r2.toUInt32 % 65536).toInt32).toInt = 117 ∨ ((r2.toUInt32 % 65536).toInt32).toInt = 118 ∨ ((r2.toUInt32 % 65536).toInt32).toInt = 119 ∨ ((r2.toUInt32 % 65536).toInt32).toInt = 120 := by omega
      rcases hi_ with hi_ | hi_ | hi_ | hi_ | hi_ | hi_ | hi_ | hi_ | hi_ | hi_ | hi_ | hi_ | hi_ | hi_ | hi_ | hi_ | hi_ | hi_ | hi_ | hi_ | hi_ | hi_
      · have hk_ : ((r2.toUInt32 % 65536).toInt32) = (99 : Int32) := Int32.toInt_inj.mp (by rw [hi_]; rfl)
        refine lv_tableIn (off := 215) (tgt := 230) hx hb dX14_item_15 (by rw [hk_]; decide) (by rw [hk_]; decide) (by rw [hk_]; rfl) (by decide) ?_
        replace hw := hw.1 hk_
        refine lv_aload_n hx hb dX14_item_230 rfl (lv_at hl 2 rfl) ?_
        refine xc3i hA hG (vx_runV (As := []) (rest := []) ⟨hx, hb, hml, hown, hts⟩ (gm_X14_digit l hlt E p0 _ _ G1 hw _) (cwV 0 hts (lw_V q1841 q1843 qs16 q97 q1844) rfl rfl rfl hd_X14_digit ⟨Nat.le_of_ble_eq_true rfl, Nat.le_of_ble_eq_true rfl⟩) ⟨gblind, grecv hPF hG (gC_of (gK_mon hG.1.2 h0p0 (by decide)) (by decide)) (by decide) (by decide) rfl, fun U hU hW => gpre hPF hA hG _ U hU hW⟩ rfl rfl hl.1 rfl (lv_room (Nat.le_of_ble_eq_true rfl)) dX14_item_231 ⟨(Nat.le_of_ble_eq_true rfl), (Nat.le_of_ble_eq_true rfl)⟩) (fun X ce q Gx H locs hw hmon hG hce hcv hcl => ?_) (fun r7 G6 H locs hw hmon hG => ?_)
        · exact gleave hlk hG (fun x hx9 => (htab x hx9).elim) hce hcv hcl hw (Nat.le_of_ble_eq_true rfl) (Nat.le_of_ble_eq_true rfl)
        · replace hw := hw hmon
          refine lv_istore_n (i := 3) (lv' := [(3, .int r7), (2, .int ((r2.toUInt32 % 65536).toInt32)), (1, .int (gI G p0 1)), (0, .ref p0)]) hx hb dX14_item_234 rfl hl (by decide) rfl (fun ls hl => ?_)
          refine lv_iload_n hx hb dX14_item_235 rfl (lv_at hl 0 rfl) ?_
          refine glmk1 (rest := []) hx hb hml hl.1 hts 26 rfl rfl hin.1 hPF hA hG (by (try simp only [List.map, va_rf_cat, gcat_i, gcat_r, gcat_l, gcat_d, gcat_f, gcat_n]); exact Nat.le_of_ble_eq_true rfl) (Nat.le_of_ble_eq_true rfl) (Nat.le_of_ble_eq_true rfl) dX14_item_236 (fun q8 H h0q8 hG => ?_)
          replace hw := hw q8 h0q8
          obtain ⟨G9, eG9⟩ : ∃ z, z = gsI (gN G6 q8 66 1) q8 0 r7 := ⟨_, rfl⟩
          rw [← eG9] at hG
          replace hw := hw G9 eG9
          have hkq8 : gK G9 q8 = 66 := by rw [eG9]; exact gK_Nq (n := 1)
          exact xretr (v := (some q8)) hx hb hr hlk hG (Or.inl ⟨_, rfl⟩) hw (Nat.le_of_ble_eq_true rfl) (Nat.le_of_ble_eq_true rfl) dX14_item_241
      · have hk_ : ((r2.toUInt32 % 65536).toInt32) = (100 : Int32) := Int32.toInt_inj.mp (by rw [hi_]; rfl)
        refine lv_tableIn (off := 257) (tgt := 272) hx hb dX14_item_15 (by rw [hk_]; decide) (by rw [hk_]; decide) (by rw [hk_]; rfl) (by decide) ?_
        replace hw := hw.2.1 hk_
        refine gnew (ci := 13) hx hb hts in_X15 tyX15 tyX15_ok hown q1818 q1819 q98 hPF hG hA rfl (by decide) (by decide) gborn_X15 (Nat.le_of_ble_eq_true rfl) (Nat.le_of_ble_eq_true rfl) dX14_item_272 (fun q10 H h0q10 hG => ?_)
        replace hw := hw q10 h0q10
        obtain ⟨G11, eG11⟩ : ∃ z, z = gN G1 q10 13 0 := ⟨_, rfl⟩
        rw [← eG11] at hG
        replace hw := hw G11 eG11
        have hkq10 : gK G11 q10 = 13 := by rw [eG11]; exact gK_Nq
        refine lv_dup hx hb dX14_item_275 rfl ?_
        refine lv_iload_n hx hb dX14_item_276 rfl (lv_at hl 1 rfl) ?_
        refine gc3v hA hG (va_runI (As := [.int (gI G p0 1)]) (rest := [.ref q10]) ⟨hx, hb, hml, hown, hts⟩ (gm_X15_init l E q10 (gI G p0 1) _ G11 hw _) (cwI 1 hts (lw_meth q1829) rfl rfl rfl (hts _ q98) (hts _ q1827) (hts _ q1828) rfl hd_X15_init ⟨Nat.le_of_ble_eq_true rfl, Nat.le_of_ble_eq_true rfl⟩) ⟨gblind, fun U hU hW => gpre hPF hA hG _ U hU hW⟩ rfl rfl hl.1 rfl (lv_room (Nat.le_of_ble_eq_true rfl)) dX14_item_277 ⟨(Nat.le_of_ble_eq_true rfl), (Nat.le_of_ble_eq_true rfl)⟩) (fun G12 H locs hw hmon hG => ?_)
        replace hw := hw hmon
        have hkq10 : gK G12 q10 = 13 := gK_mon hmon hkq10 (by decide)
        obtain ⟨ce, hce, hcv, hcl⟩ := gthr hPF hG (gC_of hkq10 (by decide)) (by decide) (by decide) rfl
        exact vx_athrow hx hb dX14_item_280 (gleave hlk hG (fun x hx9 => (htab x hx9).elim) hce hcv hcl hw (Nat.le_of_ble_eq_true rfl) (Nat.le_of_ble_eq_true rfl))
      · have hk_ : ((r2.toUInt32 % 65536).toInt32) = (101 : Int32) := Int32.toInt_inj.mp (by rw [hi_]; rfl)
        refine lv_tableIn (off := 257) (tgt := 272) hx hb dX14_item_15 (by rw [hk_]; decide) (by rw [hk_]; decide) (by rw [hk_]; rfl) (by decide) ?_
        replace hw := hw.2.2.1 hk_
        refine gnew (ci := 13) hx hb hts in_X15 tyX15 tyX15_ok hown q1818 q1819 q98 hPF hG hA rfl (by decide) (by decide) gborn_X15 (Nat.le_of_ble_eq_true rfl) (Nat.le_of_ble_eq_true rfl) dX14_item_272 (fun q13 H h0q13 hG => ?_)
        replace hw := hw q13 h0q13
        obtain ⟨G14, eG14⟩ : ∃ z, z = gN G1 q13 13 0 := ⟨_, rfl⟩
        rw [← eG14] at hG
        replace hw := hw G14 eG14
        have hkq13 : gK G14 q13 = 13 := by rw [eG14]; exact gK_Nq
        refine lv_dup hx hb dX14_item_275 rfl ?_
        refine lv_iload_n hx hb dX14_item_276 rfl (lv_at hl 1 rfl) ?_
        refine gc3v hA hG (va_runI (As := [.int (gI G p0 1)]) (rest := [.ref q13]) ⟨hx, hb, hml, hown, hts⟩ (gm_X15_init l E q13 (gI G p0 1) _ G14 hw _) (cwI 1 hts (lw_meth q1829) rfl rfl rfl (hts _ q98) (hts _ q1827) (hts _ q1828) rfl hd_X15_init ⟨Nat.le_of_ble_eq_true rfl, Nat.le_of_ble_eq_true rfl⟩) ⟨gblind, fun U hU hW => gpre hPF hA hG _ U hU hW⟩ rfl rfl hl.1 rfl (lv_room (Nat.le_of_ble_eq_true rfl)) dX14_item_277 ⟨(Nat.le_of_ble_eq_true rfl), (Nat.le_of_ble_eq_true rfl)⟩) (fun G15 H locs hw hmon hG => ?_)
        replace hw := hw hmon
        have hkq13 : gK G15 q13 = 13 := gK_mon hmon hkq13 (by decide)
        obtain ⟨ce, hce, hcv, hcl⟩ := gthr hPF hG (gC_of hkq13 (by decide)) (by decide) (by decide) rfl
        exact vx_athrow hx hb dX14_item_280 (gleave hlk hG (fun x hx9 => (htab x hx9).elim) hce hcv hcl hw (Nat.le_of_ble_eq_true rfl) (Nat.le_of_ble_eq_true rfl))
      · have hk_ : ((r2.toUInt32 % 65536).toInt32) = (102 : Int32) := Int32.toInt_inj.mp (by rw [hi_]; rfl)
        refine lv_tableIn (off := 124) (tgt := 139) hx hb dX14_item_15 (by rw [hk_]; decide) (by rw [hk_]; decide) (by rw [hk_]; rfl) (by decide) ?_
        replace hw := hw.2.2.2.1 hk_
        refine lv_aload_n hx hb dX14_item_139 rfl (lv_at hl 2 rfl) ?_
        refine xc3i hA hG (vx_runV (As := []) (rest := []) ⟨hx, hb, hml, hown, hts⟩ (gm_X14_number l hlt E p0 _ _ G1 hw _) (cwV 0 hts (lw_V q1837 q1839 qs15 q97 q1840) rfl rfl rfl hd_X14_number ⟨Nat.le_of_ble_eq_true rfl, Nat.le_of_ble_eq_true rfl⟩) ⟨gblind, grecv hPF hG (gC_of (gK_mon hG.1.2 h0p0 (by decide)) (by decide)) (by decide) (by decide) rfl, fun U hU hW => gpre hPF hA hG _ U hU hW⟩ rfl rfl hl.1 rfl (lv_room (Nat.le_of_ble_eq_true rfl)) dX14_item_140 ⟨(Nat.le_of_ble_eq_true rfl), (Nat.le_of_ble_eq_true rfl)⟩) (fun X ce q Gx H locs hw hmon hG hce hcv hcl => ?_) (fun r17 G16 H locs hw hmon hG => ?_)
        · exact gleave hlk hG (fun x hx9 => (htab x hx9).elim) hce hcv hcl hw (Nat.le_of_ble_eq_true rfl) (Nat.le_of_ble_eq_true rfl)
        · replace hw := hw hmon
          refine lv_istore_n (i := 3) (lv' := [(3, .int r17), (2, .int ((r2.toUInt32 % 65536).toInt32)), (1, .int (gI G p0 1)), (0, .ref p0)]) hx hb dX14_item_143 rfl hl (by decide) rfl (fun ls hl => ?_)
          refine lv_aload_n hx hb dX14_item_144 rfl (lv_at hl 3 rfl) ?_
          refine lv_bipush (v := 64) hx hb dX14_item_145 (by decide) ?_
          refine lv_iconst (v := 1) hx hb dX14_item_147 (by decide) ?_
          refine xc3i hA hG (vx_runV (As := [.int 64, .int 1]) (rest := []) ⟨hx, hb, hml, hown, hts⟩ (gm_X14_behind l hlt E p0 64 1 _ _ G16 hw _) (cwV 2 hts (lw_V q1845 q1847 qs17 q97 q1848) rfl rfl rfl hd_X14_behind ⟨Nat.le_of_ble_eq_true rfl, Nat.le_of_ble_eq_true rfl⟩) ⟨gblind, grecv hPF hG (gC_of (gK_mon hG.1.2 h0p0 (by decide)) (by decide)) (by decide) (by decide) rfl, fun U hU hW => gpre hPF hA hG _ U hU hW⟩ rfl rfl hl.1 rfl (lv_room (Nat.le_of_ble_eq_true rfl)) dX14_item_148 ⟨(Nat.le_of_ble_eq_true rfl), (Nat.le_of_ble_eq_true rfl)⟩) (fun X ce q Gx H locs hw hmon hG hce hcv hcl => ?_) (fun r19 G18 H locs hw hmon hG => ?_)
          · exact gleave hlk hG (fun x hx9 => (htab x hx9).elim) hce hcv hcl hw (Nat.le_of_ble_eq_true rfl) (Nat.le_of_ble_eq_true rfl)
          · replace hw := hw hmon
            refine lv_istore (lv' := [(4, .int r19), (3, .int r17), (2, .int ((r2.toUInt32 % 65536).toInt32)), (1, .int (gI G p0 1)), (0, .ref p0)]) hx hb dX14_item_151 hl (by decide) rfl (fun ls hl => ?_)
            refine lv_aload_n hx hb dX14_item_153 rfl (lv_at hl 4 rfl) ?_
            refine lv_bipush (v := 58) hx hb dX14_item_154 (by decide) ?_
            refine lv_iconst (v := 1) hx hb dX14_item_156 (by decide) ?_
            refine xc3i hA hG (vx_runV (As := [.int 58, .int 1]) (rest := []) ⟨hx, hb, hml, hown, hts⟩ (gm_X14_behind l hlt E p0 58 1 _ _ G18 hw _) (cwV 2 hts (lw_V q1845 q1847 qs17 q97 q1848) rfl rfl rfl hd_X14_behind ⟨Nat.le_of_ble_eq_true rfl, Nat.le_of_ble_eq_true rfl⟩) ⟨gblind, grecv hPF hG (gC_of (gK_mon hG.1.2 h0p0 (by decide)) (by decide)) (by decide) (by decide) rfl, fun U hU hW => gpre hPF hA hG _ U hU hW⟩ rfl rfl hl.1 rfl (lv_room (Nat.le_of_ble_eq_true rfl)) dX14_item_157 ⟨(Nat.le_of_ble_eq_true rfl), (Nat.le_of_ble_eq_true rfl)⟩) (fun X ce q Gx H locs hw hmon hG hce hcv hcl => ?_) (fun r21 G20 H locs hw hmon hG => ?_)
            · exact gleave hlk hG (fun x hx9 => (htab x hx9).elim) hce hcv hcl hw (Nat.le_of_ble_eq_true rfl) (Nat.le_of_ble_eq_true rfl)
            · replace hw := hw hmon
              refine lv_istore (lv' := [(5, .int r21), (4, .int r19), (3, .int r17), (2, .int ((r2.toUInt32 % 65536).toInt32)), (1, .int (gI G p0 1)), (0, .ref p0)]) hx hb dX14_item_160 hl (by decide) rfl (fun ls hl => ?_)
              refine lv_iload_n hx hb dX14_item_162 rfl (lv_at hl 2 rfl) ?_
              refine lv_iload hx hb dX14_item_163 (lv_at hl 1 rfl) ?_
              refine lv_iload hx hb dX14_item_165 (lv_at hl 0 rfl) ?_
              refine glmk3 (rest := []) hx hb hml hl.1 hts 23 rfl rfl hin.1 hPF hA hG (by (try simp only [List.map, va_rf_cat, gcat_i, gcat_r, gcat_l, gcat_d, gcat_f, gcat_n]); exact Nat.le_of_ble_eq_true rfl) (Nat.le_of_ble_eq_true rfl) (Nat.le_of_ble_eq_true rfl) dX14_item_167 (fun q22 H h0q22 hG => ?_)
              replace hw := hw q22 h0q22
              obtain ⟨G23, eG23⟩ : ∃ z, z = gsI (gsI (gsI (gN G20 q22 63 3) q22 0 r17) q22 1 r19) q22 2 r21 := ⟨_, rfl⟩
              rw [← eG23] at hG
              replace hw := hw G23 eG23
              have hkq22 : gK G23 q22 = 63 := by rw [eG23]; exact gK_Nq (n := 3)
              exact xretr (v := (some q22)) hx hb hr hlk hG (Or.inl ⟨_, rfl⟩) hw (Nat.le_of_ble_eq_true rfl) (Nat.le_of_ble_eq_true rfl) dX14_item_172
      · have hk_ : ((r2.toUInt32 % 65536).toInt32) = (103 : Int32) := Int32.toInt_inj.mp (by rw [hi_]; rfl)
        refine lv_tableIn (off := 257) (tgt := 272) hx hb dX14_item_15 (by rw [hk_]; decide) (by rw [hk_]; decide) (by rw [hk_]; rfl) (by decide) ?_
        replace hw := hw.2.2.2.2.1 hk_
        refine gnew (ci := 13) hx hb hts in_X15 tyX15 tyX15_ok hown q1818 q1819 q98 hPF hG hA rfl (by decide) (by decide) gborn_X15 (Nat.le_of_ble_eq_true rfl) (Nat.le_of_ble_eq_true rfl) dX14_item_272 (fun q24 H h0q24 hG => ?_)
        replace hw := hw q24 h0q24
        obtain ⟨G25, eG25⟩ : ∃ z, z = gN G1 q24 13 0 := ⟨_, rfl⟩
        rw [← eG25] at hG
        replace hw := hw G25 eG25
        have hkq24 : gK G25 q24 = 13 := by rw [eG25]; exact gK_Nq
        refine lv_dup hx hb dX14_item_275 rfl ?_
        refine lv_iload_n hx hb dX14_item_276 rfl (lv_at hl 1 rfl) ?_
        refine gc3v hA hG (va_runI (As := [.int (gI G p0 1)]) (rest := [.ref q24]) ⟨hx, hb, hml, hown, hts⟩ (gm_X15_init l E q24 (gI G p0 1) _ G25 hw _) (cwI 1 hts (lw_meth q1829) rfl rfl rfl (hts _ q98) (hts _ q1827) (hts _ q1828) rfl hd_X15_init ⟨Nat.le_of_ble_eq_true rfl, Nat.le_of_ble_eq_true rfl⟩) ⟨gblind, fun U hU hW => gpre hPF hA hG _ U hU hW⟩ rfl rfl hl.1 rfl (lv_room (Nat.le_of_ble_eq_true rfl)) dX14_item_277 ⟨(Nat.le_of_ble_eq_true rfl), (Nat.le_of_ble_eq_true rfl)⟩) (fun G26 H locs hw hmon hG => ?_)
        replace hw := hw hmon
        have hkq24 : gK G26 q24 = 13 := gK_mon hmon hkq24 (by decide)
        obtain ⟨ce, hce, hcv, hcl⟩ := gthr hPF hG (gC_of hkq24 (by decide)) (by decide) (by decide) rfl
        exact vx_athrow hx hb dX14_item_280 (gleave hlk hG (fun x hx9 => (htab x hx9).elim) hce hcv hcl hw (Nat.le_of_ble_eq_true rfl) (Nat.le_of_ble_eq_true rfl))
      · have hk_ : ((r2.toUInt32 % 65536).toInt32) = (104 : Int32) := Int32.toInt_inj.mp (by rw [hi_]; rfl)
        refine lv_tableIn (off := 245) (tgt := 260) hx hb dX14_item_15 (by rw [hk_]; decide) (by rw [hk_]; decide) (by rw [hk_]; rfl) (by decide) ?_
        replace hw := hw.2.2.2.2.2.1 hk_
        refine lv_aload_n hx hb dX14_item_260 rfl (lv_at hl 2 rfl) ?_
        refine xc3i hA hG (vx_runV (As := []) (rest := []) ⟨hx, hb, hml, hown, hts⟩ (gm_X14_number l hlt E p0 _ _ G1 hw _) (cwV 0 hts (lw_V q1837 q1839 qs15 q97 q1840) rfl rfl rfl hd_X14_number ⟨Nat.le_of_ble_eq_true rfl, Nat.le_of_ble_eq_true rfl⟩) ⟨gblind, grecv hPF hG (gC_of (gK_mon hG.1.2 h0p0 (by decide)) (by decide)) (by decide) (by decide) rfl, fun U hU hW => gpre hPF hA hG _ U hU hW⟩ rfl rfl hl.1 rfl (lv_room (Nat.le_of_ble_eq_true rfl)) dX14_item_261 ⟨(Nat.le_of_ble_eq_true rfl), (Nat.le_of_ble_eq_true rfl)⟩) (fun X ce q Gx H locs hw hmon hG hce hcv hcl => ?_) (fun r28 G27 H locs hw hmon hG => ?_)
        · exact gleave hlk hG (fun x hx9 => (htab x hx9).elim) hce hcv hcl hw (Nat.le_of_ble_eq_true rfl) (Nat.le_of_ble_eq_true rfl)
        · replace hw := hw hmon
          refine lv_istore_n (i := 3) (lv' := [(3, .int r28), (2, .int ((r2.toUInt32 % 65536).toInt32)), (1, .int (gI G p0 1)), (0, .ref p0)]) hx hb dX14_item_264 rfl hl (by decide) rfl (fun ls hl => ?_)
          refine lv_iload_n hx hb dX14_item_265 rfl (lv_at hl 0 rfl) ?_
          refine glmk1 (rest := []) hx hb hml hl.1 hts 29 rfl rfl hin.1 hPF hA hG (by (try simp only [List.map, va_rf_cat, gcat_i, gcat_r, gcat_l, gcat_d, gcat_f, gcat_n]); exact Nat.le_of_ble_eq_true rfl) (Nat.le_of_ble_eq_true rfl) (Nat.le_of_ble_eq_true rfl) dX14_item_266 (fun q29 H h0q29 hG => ?_)
          replace hw := hw q29 h0q29
          obtain ⟨G30, eG30⟩ : ∃ z, z = gsI (gN G27 q29 69 1) q29 0 r28 := ⟨_, rfl⟩
          rw [← eG30] at hG
          replace hw := hw G30 eG30
          have hkq29 : gK G30 q29 = 69 := by rw [eG30]; exact gK_Nq (n := 1)
          exact xretr (v := (some q29)) hx hb hr hlk hG (Or.inl ⟨_, rfl⟩) hw (Nat.le_of_ble_eq_true rfl) (Nat.le_of_ble_eq_true rfl) dX14_item_271
      · have hk_ : ((r2.toUInt32 % 65536).toInt32) = (105 : Int32) := Int32.toInt_inj.mp (by rw [hi_]; rfl)
        refine lv_tableIn (off := 257) (tgt := 272) hx hb dX14_item_15 (by rw [hk_]; decide) (by rw [hk_]; decide) (by rw [hk_]; rfl) (by decide) ?_
        replace hw := hw.2.2.2.2.2.2.1 hk_
        refine gnew (ci := 13) hx hb hts in_X15 tyX15 tyX15_ok hown q1818 q1819 q98 hPF hG hA rfl (by decide) (by decide) gborn_X15 (Nat.le_of_ble_eq_true rfl) (Nat.le_of_ble_eq_true rfl) dX14_item_272 (fun q31 H h0q31 hG => ?_)
        replace hw := hw q31 h0q31
        obtain ⟨G32, eG32⟩ : ∃ z, z = gN G1 q31 13 0 := ⟨_, rfl⟩
        rw [← eG32] at hG
        replace hw := hw G32 eG32
        have hkq31 : gK G32 q31 = 13 := by rw [eG32]; exact gK_Nq
        refine lv_dup hx hb dX14_item_275 rfl ?_
        refine lv_iload_n hx hb dX14_item_276 rfl (lv_at hl 1 rfl) ?_
        refine gc3v hA hG (va_runI (As := [.int (gI G p0 1)]) (rest := [.ref q31]) ⟨hx, hb, hml, hown, hts⟩ (gm_X15_init l E q31 (gI G p0 1) _ G32 hw _) (cwI 1 hts (lw_meth q1829) rfl rfl rfl (hts _ q98) (hts _ q1827) (hts _ q1828) rfl hd_X15_init ⟨Nat.le_of_ble_eq_true rfl, Nat.le_of_ble_eq_true rfl⟩) ⟨gblind, fun U hU hW => gpre hPF hA hG _ U hU hW⟩ rfl rfl hl.1 rfl (lv_room (Nat.le_of_ble_eq_true rfl)) dX14_item_277 ⟨(Nat.le_of_ble_eq_true rfl), (Nat.le_of_ble_eq_true rfl)⟩) (fun G33 H locs hw hmon hG => ?_)
        replace hw := hw hmon
        have hkq31 : gK G33 q31 = 13 := gK_mon hmon hkq31 (by decide)
        obtain ⟨ce, hce, hcv, hcl⟩ := gthr hPF hG (gC_of hkq31 (by decide)) (by decide) (by decide) rfl
        exact vx_athrow hx hb dX14_item_280 (gleave hlk hG (fun x hx9 => (htab x hx9).elim) hce hcv hcl hw (Nat.le_of_ble_eq_true rfl) (Nat.le_of_ble_eq_true rfl))
      · have hk_ : ((r2.toUInt32 % 65536).toInt32) = (106 : Int32) := Int32.toInt_inj.mp (by rw [hi_]; rfl)
        refine lv_tableIn (off := 257) (tgt := 272) hx hb dX14_item_15 (by rw [hk_]; decide) (by rw [hk_]; decide) (by rw [hk_]; rfl) (by decide) ?_
        replace hw := hw.2.2.2.2.2.2.2.1 hk_
        refine gnew (ci := 13) hx hb hts in_X15 tyX15 tyX15_ok hown q1818 q1819 q98 hPF hG hA rfl (by decide) (by decide) gborn_X15 (Nat.le_of_ble_eq_true rfl) (Nat.le_of_ble_eq_true rfl) dX14_item_272 (fun q34 H h0q34 hG => ?_)
        replace hw := hw q34 h0q34
        obtain ⟨G35, eG35⟩ : ∃ z, z = gN G1 q34 13 0 := ⟨_, rfl⟩
        rw [← eG35] at hG
        replace hw := hw G35 eG35
        have hkq34 : gK G35 q34 = 13 := by rw [eG35]; exact gK_Nq
        refine lv_dup hx hb dX14_item_275 rfl ?_
        refine lv_iload_n hx hb dX14_item_276 rfl (lv_at hl 1 rfl) ?_
        refine gc3v hA hG (va_runI (As := [.int (gI G p0 1)]) (rest := [.ref q34]) ⟨hx, hb, hml, hown, hts⟩ (gm_X15_init l E q34 (gI G p0 1) _ G35 hw _) (cwI 1 hts (lw_meth q1829) rfl rfl rfl (hts _ q98) (hts _ q1827) (hts _ q1828) rfl hd_X15_init ⟨Nat.le_of_ble_eq_true rfl, Nat.le_of_ble_eq_true rfl⟩) ⟨gblind, fun U hU hW => gpre hPF hA hG _ U hU hW⟩ rfl rfl hl.1 rfl (lv_room (Nat.le_of_ble_eq_true rfl)) dX14_item_277 ⟨(Nat.le_of_ble_eq_true rfl), (Nat.le_of_ble_eq_true rfl)⟩) (fun G36 H locs hw hmon hG => ?_)
        replace hw := hw hmon
        have hkq34 : gK G36 q34 = 13 := gK_mon hmon hkq34 (by decide)
        obtain ⟨ce, hce, hcv, hcl⟩ := gthr hPF hG (gC_of hkq34 (by decide)) (by decide) (by decide) rfl
        exact vx_athrow hx hb dX14_item_280 (gleave hlk hG (fun x hx9 => (htab x hx9).elim) hce hcv hcl hw (Nat.le_of_ble_eq_true rfl) (Nat.le_of_ble_eq_true rfl))
      · have hk_ : ((r2.toUInt32 % 65536).toInt32) = (107 : Int32) := Int32.toInt_inj.mp (by rw [hi_]; rfl)
        refine lv_tableIn (off := 158) (tgt := 173) hx hb dX14_item_15 (by rw [hk_]; decide) (by rw [hk_]; decide) (by rw [hk_]; rfl) (by decide) ?_
        replace hw := hw.2.2.2.2.2.2.2.2.1 hk_
        refine lv_aload_n hx hb dX14_item_173 rfl (lv_at hl 2 rfl) ?_
        refine xc3i hA hG (vx_runV (As := []) (rest := []) ⟨hx, hb, hml, hown, hts⟩ (gm_X14_digit l hlt E p0 _ _ G1 hw _) (cwV 0 hts (lw_V q1841 q1843 qs16 q97 q1844) rfl rfl rfl hd_X14_digit ⟨Nat.le_of_ble_eq_true rfl, Nat.le_of_ble_eq_true rfl⟩) ⟨gblind, grecv hPF hG (gC_of (gK_mon hG.1.2 h0p0 (by decide)) (by decide)) (by decide) (by decide) rfl, fun U hU hW => gpre hPF hA hG _ U hU hW⟩ rfl rfl hl.1 rfl (lv_room (Nat.le_of_ble_eq_true rfl)) dX14_item_174 ⟨(Nat.le_of_ble_eq_true rfl), (Nat.le_of_ble_eq_true rfl)⟩) (fun X ce q Gx H locs hw hmon hG hce hcv hcl => ?_) (fun r38 G37 H locs hw hmon hG => ?_)
        · exact gleave hlk hG (fun x hx9 => (htab x hx9).elim) hce hcv hcl hw (Nat.le_of_ble_eq_true rfl) (Nat.le_of_ble_eq_true rfl)
        · replace hw := hw hmon
          refine lv_istore_n (i := 3) (lv' := [(3, .int r38), (2, .int ((r2.toUInt32 % 65536).toInt32)), (1, .int (gI G p0 1)), (0, .ref p0)]) hx hb dX14_item_177 rfl hl (by decide) rfl (fun ls hl => ?_)
          refine lv_aload_n hx hb dX14_item_178 rfl (lv_at hl 3 rfl) ?_
          refine lv_bipush (v := 60) hx hb dX14_item_179 (by decide) ?_
          refine lv_iconst (v := 0) hx hb dX14_item_181 (by decide) ?_
          refine xc3i hA hG (vx_runV (As := [.int 60, .int 0]) (rest := []) ⟨hx, hb, hml, hown, hts⟩ (gm_X14_behind l hlt E p0 60 0 _ _ G37 hw _) (cwV 2 hts (lw_V q1845 q1847 qs17 q97 q1848) rfl rfl rfl hd_X14_behind ⟨Nat.le_of_ble_eq_true rfl, Nat.le_of_ble_eq_true rfl⟩) ⟨gblind, grecv hPF hG (gC_of (gK_mon hG.1.2 h0p0 (by decide)) (by decide)) (by decide) (by decide) rfl, fun U hU hW => gpre hPF hA hG _ U hU hW⟩ rfl rfl hl.1 rfl (lv_room (Nat.le_of_ble_eq_true rfl)) dX14_item_182 ⟨(Nat.le_of_ble_eq_true rfl), (Nat.le_of_ble_eq_true rfl)⟩) (fun X ce q Gx H locs hw hmon hG hce hcv hcl => ?_) (fun r40 G39 H locs hw hmon hG => ?_)
          · exact gleave hlk hG (fun x hx9 => (htab x hx9).elim) hce hcv hcl hw (Nat.le_of_ble_eq_true rfl) (Nat.le_of_ble_eq_true rfl)
          · replace hw := hw hmon
            refine lv_istore (lv' := [(4, .int r40), (3, .int r38), (2, .int ((r2.toUInt32 % 65536).toInt32)), (1, .int (gI G p0 1)), (0, .ref p0)]) hx hb dX14_item_185 hl (by decide) rfl (fun ls hl => ?_)
            refine lv_aload_n hx hb dX14_item_187 rfl (lv_at hl 4 rfl) ?_
            refine lv_bipush (v := 42) hx hb dX14_item_188 (by decide) ?_
            refine lv_iconst (v := 0) hx hb dX14_item_190 (by decide) ?_
            refine xc3i hA hG (vx_runV (As := [.int 42, .int 0]) (rest := []) ⟨hx, hb, hml, hown, hts⟩ (gm_X14_behind l hlt E p0 42 0 _ _ G39 hw _) (cwV 2 hts (lw_V q1845 q1847 qs17 q97 q1848) rfl rfl rfl hd_X14_behind ⟨Nat.le_of_ble_eq_true rfl, Nat.le_of_ble_eq_true rfl⟩) ⟨gblind, grecv hPF hG (gC_of (gK_mon hG.1.2 h0p0 (by decide)) (by decide)) (by decide) (by decide) rfl, fun U hU hW => gpre hPF hA hG _ U hU hW⟩ rfl rfl hl.1 rfl (lv_room (Nat.le_of_ble_eq_true rfl)) dX14_item_191 ⟨(Nat.le_of_ble_eq_true rfl), (Nat.le_of_ble_eq_true rfl)⟩) (fun X ce q Gx H locs hw hmon hG hce hcv hcl => ?_) (fun r42 G41 H locs hw hmon hG => ?_)
            · exact gleave hlk hG (fun x hx9 => (htab x hx9).elim) hce hcv hcl hw (Nat.le_of_ble_eq_true rfl) (Nat.le_of_ble_eq_true rfl)
            · replace hw := hw hmon
              refine lv_istore (lv' := [(5, .int r42), (4, .int r40), (3, .int r38), (2, .int ((r2.toUInt32 % 65536).toInt32)), (1, .int (gI G p0 1)), (0, .ref p0)]) hx hb dX14_item_194 hl (by decide) rfl (fun ls hl => ?_)
              refine lv_iload_n hx hb dX14_item_196 rfl (lv_at hl 2 rfl) ?_
              refine lv_iload hx hb dX14_item_197 (lv_at hl 1 rfl) ?_
              refine lv_iload hx hb dX14_item_199 (lv_at hl 0 rfl) ?_
              refine glmk3 (rest := []) hx hb hml hl.1 hts 24 rfl rfl hin.1 hPF hA hG (by (try simp only [List.map, va_rf_cat, gcat_i, gcat_r, gcat_l, gcat_d, gcat_f, gcat_n]); exact Nat.le_of_ble_eq_true rfl) (Nat.le_of_ble_eq_true rfl) (Nat.le_of_ble_eq_true rfl) dX14_item_201 (fun q43 H h0q43 hG => ?_)
              replace hw := hw q43 h0q43
              obtain ⟨G44, eG44⟩ : ∃ z, z = gsI (gsI (gsI (gN G41 q43 64 3) q43 0 r38) q43 1 r40) q43 2 r42 := ⟨_, rfl⟩
              rw [← eG44] at hG
              replace hw := hw G44 eG44
              have hkq43 : gK G44 q43 = 64 := by rw [eG44]; exact gK_Nq (n := 3)
              exact xretr (v := (some q43)) hx hb hr hlk hG (Or.inl ⟨_, rfl⟩) hw (Nat.le_of_ble_eq_true rfl) (Nat.le_of_ble_eq_true rfl) dX14_item_206
      · have hk_ : ((r2.toUInt32 % 65536).toInt32) = (108 : Int32) := Int32.toInt_inj.mp (by rw [hi_]; rfl)
        refine lv_tableIn (off := 257) (tgt := 272) hx hb dX14_item_15 (by rw [hk_]; decide) (by rw [hk_]; decide) (by rw [hk_]; rfl) (by decide) ?_
        replace hw := hw.2.2.2.2.2.2.2.2.2.1 hk_
        refine gnew (ci := 13) hx hb hts in_X15 tyX15 tyX15_ok hown q1818 q1819 q98 hPF hG hA rfl (by decide) (by decide) gborn_X15 (Nat.le_of_ble_eq_true rfl) (Nat.le_of_ble_eq_true rfl) dX14_item_272 (fun q45 H h0q45 hG => ?_)
        replace hw := hw q45 h0q45
        obtain ⟨G46, eG46⟩ : ∃ z, z = gN G1 q45 13 0 := ⟨_, rfl⟩
        rw [← eG46] at hG
        replace hw := hw G46 eG46
        have hkq45 : gK G46 q45 = 13 := by rw [eG46]; exact gK_Nq
        refine lv_dup hx hb dX14_item_275 rfl ?_
        refine lv_iload_n hx hb dX14_item_276 rfl (lv_at hl 1 rfl) ?_
        refine gc3v hA hG (va_runI (As := [.int (gI G p0 1)]) (rest := [.ref q45]) ⟨hx, hb, hml, hown, hts⟩ (gm_X15_init l E q45 (gI G p0 1) _ G46 hw _) (cwI 1 hts (lw_meth q1829) rfl rfl rfl (hts _ q98) (hts _ q1827) (hts _ q1828) rfl hd_X15_init ⟨Nat.le_of_ble_eq_true rfl, Nat.le_of_ble_eq_true rfl⟩) ⟨gblind, fun U hU hW => gpre hPF hA hG _ U hU hW⟩ rfl rfl hl.1 rfl (lv_room (Nat.le_of_ble_eq_true rfl)) dX14_item_277 ⟨(Nat.le_of_ble_eq_true rfl), (Nat.le_of_ble_eq_true rfl)⟩) (fun G47 H locs hw hmon hG => ?_)
        replace hw := hw hmon
        have hkq45 : gK G47 q45 = 13 := gK_mon hmon hkq45 (by decide)
        obtain ⟨ce, hce, hcv, hcl⟩ := gthr hPF hG (gC_of hkq45 (by decide)) (by decide) (by decide) rfl
        exact vx_athrow hx hb dX14_item_280 (gleave hlk hG (fun x hx9 => (htab x hx9).elim) hce hcv hcl hw (Nat.le_of_ble_eq_true rfl) (Nat.le_of_ble_eq_true rfl))
      · have hk_ : ((r2.toUInt32 % 65536).toInt32) = (109 : Int32) := Int32.toInt_inj.mp (by rw [hi_]; rfl)
        refine lv_tableIn (off := 257) (tgt := 272) hx hb dX14_item_15 (by rw [hk_]; decide) (by rw [hk_]; decide) (by rw [hk_]; rfl) (by decide) ?_
        replace hw := hw.2.2.2.2.2.2.2.2.2.2.1 hk_
        refine gnew (ci := 13) hx hb hts in_X15 tyX15 tyX15_ok hown q1818 q1819 q98 hPF hG hA rfl (by decide) (by decide) gborn_X15 (Nat.le_of_ble_eq_true rfl) (Nat.le_of_ble_eq_true rfl) dX14_item_272 (fun q48 H h0q48 hG => ?_)
        replace hw := hw q48 h0q48
        obtain ⟨G49, eG49⟩ : ∃ z, z = gN G1 q48 13 0 := ⟨_, rfl⟩
        rw [← eG49] at hG
        replace hw := hw G49 eG49
        have hkq48 : gK G49 q48 = 13 := by rw [eG49]; exact gK_Nq
        refine lv_dup hx hb dX14_item_275 rfl ?_
        refine lv_iload_n hx hb dX14_item_276 rfl (lv_at hl 1 rfl) ?_
        refine gc3v hA hG (va_runI (As := [.int (gI G p0 1)]) (rest := [.ref q48]) ⟨hx, hb, hml, hown, hts⟩ (gm_X15_init l E q48 (gI G p0 1) _ G49 hw _) (cwI 1 hts (lw_meth q1829) rfl rfl rfl (hts _ q98) (hts _ q1827) (hts _ q1828) rfl hd_X15_init ⟨Nat.le_of_ble_eq_true rfl, Nat.le_of_ble_eq_true rfl⟩) ⟨gblind, fun U hU hW => gpre hPF hA hG _ U hU hW⟩ rfl rfl hl.1 rfl (lv_room (Nat.le_of_ble_eq_true rfl)) dX14_item_277 ⟨(Nat.le_of_ble_eq_true rfl), (Nat.le_of_ble_eq_true rfl)⟩) (fun G50 H locs hw hmon hG => ?_)
        replace hw := hw hmon
        have hkq48 : gK G50 q48 = 13 := gK_mon hmon hkq48 (by decide)
        obtain ⟨ce, hce, hcv, hcl⟩ := gthr hPF hG (gC_of hkq48 (by decide)) (by decide) (by decide) rfl
        exact vx_athrow hx hb dX14_item_280 (gleave hlk hG (fun x hx9 => (htab x hx9).elim) hce hcv hcl hw (Nat.le_of_ble_eq_true rfl) (Nat.le_of_ble_eq_true rfl))
      · have hk_ : ((r2.toUInt32 % 65536).toInt32) = (110 : Int32) := Int32.toInt_inj.mp (by rw [hi_]; rfl)
        refine lv_tableIn (off := 257) (tgt := 272) hx hb dX14_item_15 (by rw [hk_]; decide) (by rw [hk_]; decide) (by rw [hk_]; rfl) (by decide) ?_
        replace hw := hw.2.2.2.2.2.2.2.2.2.2.2.1 hk_
        refine gnew (ci := 13) hx hb hts in_X15 tyX15 tyX15_ok hown q1818 q1819 q98 hPF hG hA rfl (by decide) (by decide) gborn_X15 (Nat.le_of_ble_eq_true rfl) (Nat.le_of_ble_eq_true rfl) dX14_item_272 (fun q51 H h0q51 hG => ?_)
        replace hw := hw q51 h0q51
        obtain ⟨G52, eG52⟩ : ∃ z, z = gN G1 q51 13 0 := ⟨_, rfl⟩
        rw [← eG52] at hG
        replace hw := hw G52 eG52
        have hkq51 : gK G52 q51 = 13 := by rw [eG52]; exact gK_Nq
        refine lv_dup hx hb dX14_item_275 rfl ?_
        refine lv_iload_n hx hb dX14_item_276 rfl (lv_at hl 1 rfl) ?_
        refine gc3v hA hG (va_runI (As := [.int (gI G p0 1)]) (rest := [.ref q51]) ⟨hx, hb, hml, hown, hts⟩ (gm_X15_init l E q51 (gI G p0 1) _ G52 hw _) (cwI 1 hts (lw_meth q1829) rfl rfl rfl (hts _ q98) (hts _ q1827) (hts _ q1828) rfl hd_X15_init ⟨Nat.le_of_ble_eq_true rfl, Nat.le_of_ble_eq_true rfl⟩) ⟨gblind, fun U hU hW => gpre hPF hA hG _ U hU hW⟩ rfl rfl hl.1 rfl (lv_room (Nat.le_of_ble_eq_true rfl)) dX14_item_277 ⟨(Nat.le_of_ble_eq_true rfl), (Nat.le_of_ble_eq_true rfl)⟩) (fun G53 H locs hw hmon hG => ?_)
        replace hw := hw hmon
        have hkq51 : gK G53 q51 = 13 := gK_mon hmon hkq51 (by decide)
        obtain ⟨ce, hce, hcv, hcl⟩ := gthr hPF hG (gC_of hkq51 (by decide)) (by decide) (by decide) rfl
        exact vx_athrow hx hb dX14_item_280 (gleave hlk hG (fun x hx9 => (htab x hx9).elim) hce hcv hcl hw (Nat.le_of_ble_eq_true rfl) (Nat.le_of_ble_eq_true rfl))
      · have hk_ : ((r2.toUInt32 % 65536).toInt32) = (111 : Int32) := Int32.toInt_inj.mp (by rw [hi_]; rfl)
        refine lv_tableIn (off := 257) (tgt := 272) hx hb dX14_item_15 (by rw [hk_]; decide) (by rw [hk_]; decide) (by rw [hk_]; rfl) (by decide) ?_
        replace hw := hw.2.2.2.2.2.2.2.2.2.2.2.2.1 hk_
        refine gnew (ci := 13) hx hb hts in_X15 tyX15 tyX15_ok hown q1818 q1819 q98 hPF hG hA rfl (by decide) (by decide) gborn_X15 (Nat.le_of_ble_eq_true rfl) (Nat.le_of_ble_eq_true rfl) dX14_item_272 (fun q54 H h0q54 hG => ?_)
        replace hw := hw q54 h0q54
        obtain ⟨G55, eG55⟩ : ∃ z, z = gN G1 q54 13 0 := ⟨_, rfl⟩
        rw [← eG55] at hG
        replace hw := hw G55 eG55
        have hkq54 : gK G55 q54 = 13 := by rw [eG55]; exact gK_Nq
        refine lv_dup hx hb dX14_item_275 rfl ?_
        refine lv_iload_n hx hb dX14_item_276 rfl (lv_at hl 1 rfl) ?_
        refine gc3v hA hG (va_runI (As := [.int (gI G p0 1)]) (rest := [.ref q54]) ⟨hx, hb, hml, hown, hts⟩ (gm_X15_init l E q54 (gI G p0 1) _ G55 hw _) (cwI 1 hts (lw_meth q1829) rfl rfl rfl (hts _ q98) (hts _ q1827) (hts _ q1828) rfl hd_X15_init ⟨Nat.le_of_ble_eq_true rfl, Nat.le_of_ble_eq_true rfl⟩) ⟨gblind, fun U hU hW => gpre hPF hA hG _ U hU hW⟩ rfl rfl hl.1 rfl (lv_room (Nat.le_of_ble_eq_true rfl)) dX14_item_277 ⟨(Nat.le_of_ble_eq_true rfl), (Nat.le_of_ble_eq_true rfl)⟩) (fun G56 H locs hw hmon hG => ?_)
        replace hw := hw hmon
        have hkq54 : gK G56 q54 = 13 := gK_mon hmon hkq54 (by decide)
        obtain ⟨ce, hce, hcv, hcl⟩ := gthr hPF hG (gC_of hkq54 (by decide)) (by decide) (by decide) rfl
        exact vx_athrow hx hb dX14_item_280 (gleave hlk hG (fun x hx9 => (htab x hx9).elim) hce hcv hcl hw (Nat.le_of_ble_eq_true rfl) (Nat.le_of_ble_eq_true rfl))
      · have hk_ : ((r2.toUInt32 % 65536).toInt32) = (112 : Int32) := Int32.toInt_inj.mp (by rw [hi_]; rfl)
        refine lv_tableIn (off := 101) (tgt := 116) hx hb dX14_item_15 (by rw [hk_]; decide) (by rw [hk_]; decide) (by rw [hk_]; rfl) (by decide) ?_
        replace hw := hw.2.2.2.2.2.2.2.2.2.2.2.2.2.1 hk_
        refine lv_aload_n hx hb dX14_item_116 rfl (lv_at hl 2 rfl) ?_
        refine xc3i hA hG (vx_runV (As := []) (rest := []) ⟨hx, hb, hml, hown, hts⟩ (gm_X14_number l hlt E p0 _ _ G1 hw _) (cwV 0 hts (lw_V q1837 q1839 qs15 q97 q1840) rfl rfl rfl hd_X14_number ⟨Nat.le_of_ble_eq_true rfl, Nat.le_of_ble_eq_true rfl⟩) ⟨gblind, grecv hPF hG (gC_of (gK_mon hG.1.2 h0p0 (by decide)) (by decide)) (by decide) (by decide) rfl, fun U hU hW => gpre hPF hA hG _ U hU hW⟩ rfl rfl hl.1 rfl (lv_room (Nat.le_of_ble_eq_true rfl)) dX14_item_117 ⟨(Nat.le_of_ble_eq_true rfl), (Nat.le_of_ble_eq_true rfl)⟩) (fun X ce q Gx H locs hw hmon hG hce hcv hcl => ?_) (fun r58 G57 H locs hw hmon hG => ?_)
        · exact gleave hlk hG (fun x hx9 => (htab x hx9).elim) hce hcv hcl hw (Nat.le_of_ble_eq_true rfl) (Nat.le_of_ble_eq_true rfl)
        · replace hw := hw hmon
          refine lv_istore_n (i := 3) (lv' := [(3, .int r58), (2, .int ((r2.toUInt32 % 65536).toInt32)), (1, .int (gI G p0 1)), (0, .ref p0)]) hx hb dX14_item_120 rfl hl (by decide) rfl (fun ls hl => ?_)
          refine lv_aload_n hx hb dX14_item_121 rfl (lv_at hl 3 rfl) ?_
          refine lv_bipush (v := 64) hx hb dX14_item_122 (by decide) ?_
          refine lv_iconst (v := 1) hx hb dX14_item_124 (by decide) ?_
          refine xc3i hA hG (vx_runV (As := [.int 64, .int 1]) (rest := []) ⟨hx, hb, hml, hown, hts⟩ (gm_X14_behind l hlt E p0 64 1 _ _ G57 hw _) (cwV 2 hts (lw_V q1845 q1847 qs17 q97 q1848) rfl rfl rfl hd_X14_behind ⟨Nat.le_of_ble_eq_true rfl, Nat.le_of_ble_eq_true rfl⟩) ⟨gblind, grecv hPF hG (gC_of (gK_mon hG.1.2 h0p0 (by decide)) (by decide)) (by decide) (by decide) rfl, fun U hU hW => gpre hPF hA hG _ U hU hW⟩ rfl rfl hl.1 rfl (lv_room (Nat.le_of_ble_eq_true rfl)) dX14_item_125 ⟨(Nat.le_of_ble_eq_true rfl), (Nat.le_of_ble_eq_true rfl)⟩) (fun X ce q Gx H locs hw hmon hG hce hcv hcl => ?_) (fun r60 G59 H locs hw hmon hG => ?_)
          · exact gleave hlk hG (fun x hx9 => (htab x hx9).elim) hce hcv hcl hw (Nat.le_of_ble_eq_true rfl) (Nat.le_of_ble_eq_true rfl)
          · replace hw := hw hmon
            refine lv_istore (lv' := [(4, .int r60), (3, .int r58), (2, .int ((r2.toUInt32 % 65536).toInt32)), (1, .int (gI G p0 1)), (0, .ref p0)]) hx hb dX14_item_128 hl (by decide) rfl (fun ls hl => ?_)
            refine lv_iload_n hx hb dX14_item_130 rfl (lv_at hl 1 rfl) ?_
            refine lv_iload hx hb dX14_item_131 (lv_at hl 0 rfl) ?_
            refine glmk2 (rest := []) hx hb hml hl.1 hts 22 rfl rfl hin.1 hPF hA hG (by (try simp only [List.map, va_rf_cat, gcat_i, gcat_r, gcat_l, gcat_d, gcat_f, gcat_n]); exact Nat.le_of_ble_eq_true rfl) (Nat.le_of_ble_eq_true rfl) (Nat.le_of_ble_eq_true rfl) dX14_item_133 (fun q61 H h0q61 hG => ?_)
            replace hw := hw q61 h0q61
            obtain ⟨G62, eG62⟩ : ∃ z, z = gsI (gsI (gN G59 q61 62 2) q61 0 r58) q61 1 r60 := ⟨_, rfl⟩
            rw [← eG62] at hG
            replace hw := hw G62 eG62
            have hkq61 : gK G62 q61 = 62 := by rw [eG62]; exact gK_Nq (n := 2)
            exact xretr (v := (some q61)) hx hb hr hlk hG (Or.inl ⟨_, rfl⟩) hw (Nat.le_of_ble_eq_true rfl) (Nat.le_of_ble_eq_true rfl) dX14_item_138
      · have hk_ : ((r2.toUInt32 % 65536).toInt32) = (113 : Int32) := Int32.toInt_inj.mp (by rw [hi_]; rfl)
        refine lv_tableIn (off := 257) (tgt := 272) hx hb dX14_item_15 (by rw [hk_]; decide) (by rw [hk_]; decide) (by rw [hk_]; rfl) (by decide) ?_
        replace hw := hw.2.2.2.2.2.2.2.2.2.2.2.2.2.2.1 hk_
        refine gnew (ci := 13) hx hb hts in_X15 tyX15 tyX15_ok hown q1818 q1819 q98 hPF hG hA rfl (by decide) (by decide) gborn_X15 (Nat.le_of_ble_eq_true rfl) (Nat.le_of_ble_eq_true rfl) dX14_item_272 (fun q63 H h0q63 hG => ?_)
        replace hw := hw q63 h0q63
        obtain ⟨G64, eG64⟩ : ∃ z, z = gN G1 q63 13 0 := ⟨_, rfl⟩
        rw [← eG64] at hG
        replace hw := hw G64 eG64
        have hkq63 : gK G64 q63 = 13 := by rw [eG64]; exact gK_Nq
        refine lv_dup hx hb dX14_item_275 rfl ?_
        refine lv_iload_n hx hb dX14_item_276 rfl (lv_at hl 1 rfl) ?_
        refine gc3v hA hG (va_runI (As := [.int (gI G p0 1)]) (rest := [.ref q63]) ⟨hx, hb, hml, hown, hts⟩ (gm_X15_init l E q63 (gI G p0 1) _ G64 hw _) (cwI 1 hts (lw_meth q1829) rfl rfl rfl (hts _ q98) (hts _ q1827) (hts _ q1828) rfl hd_X15_init ⟨Nat.le_of_ble_eq_true rfl, Nat.le_of_ble_eq_true rfl⟩) ⟨gblind, fun U hU hW => gpre hPF hA hG _ U hU hW⟩ rfl rfl hl.1 rfl (lv_room (Nat.le_of_ble_eq_true rfl)) dX14_item_277 ⟨(Nat.le_of_ble_eq_true rfl), (Nat.le_of_ble_eq_true rfl)⟩) (fun G65 H locs hw hmon hG => ?_)
        replace hw := hw hmon
        have hkq63 : gK G65 q63 = 13 := gK_mon hmon hkq63 (by decide)
        obtain ⟨ce, hce, hcv, hcl⟩ := gthr hPF hG (gC_of hkq63 (by decide)) (by decide) (by decide) rfl
        exact vx_athrow hx hb dX14_item_280 (gleave hlk hG (fun x hx9 => (htab x hx9).elim) hce hcv hcl hw (Nat.le_of_ble_eq_true rfl) (Nat.le_of_ble_eq_true rfl))
      · have hk_ : ((r2.toUInt32 % 65536).toInt32) = (114 : Int32) := Int32.toInt_inj.mp (by rw [hi_]; rfl)
        refine lv_tableIn (off := 257) (tgt := 272) hx hb dX14_item_15 (by rw [hk_]; decide) (by rw [hk_]; decide) (by rw [hk_]; rfl) (by decide) ?_
        replace hw := hw.2.2.2.2.2.2.2.2.2.2.2.2.2.2.2.1 hk_
        refine gnew (ci := 13) hx hb hts in_X15 tyX15 tyX15_ok hown q1818 q1819 q98 hPF hG hA rfl (by decide) (by decide) gborn_X15 (Nat.le_of_ble_eq_true rfl) (Nat.le_of_ble_eq_true rfl) dX14_item_272 (fun q66 H h0q66 hG => ?_)
        replace hw := hw q66 h0q66
        obtain ⟨G67, eG67⟩ : ∃ z, z = gN G1 q66 13 0 := ⟨_, rfl⟩
        rw [← eG67] at hG
        replace hw := hw G67 eG67
        have hkq66 : gK G67 q66 = 13 := by rw [eG67]; exact gK_Nq
        refine lv_dup hx hb dX14_item_275 rfl ?_
        refine lv_iload_n hx hb dX14_item_276 rfl (lv_at hl 1 rfl) ?_
        refine gc3v hA hG (va_runI (As := [.int (gI G p0 1)]) (rest := [.ref q66]) ⟨hx, hb, hml, hown, hts⟩ (gm_X15_init l E q66 (gI G p0 1) _ G67 hw _) (cwI 1 hts (lw_meth q1829) rfl rfl rfl (hts _ q98) (hts _ q1827) (hts _ q1828) rfl hd_X15_init ⟨Nat.le_of_ble_eq_true rfl, Nat.le_of_ble_eq_true rfl⟩) ⟨gblind, fun U hU hW => gpre hPF hA hG _ U hU hW⟩ rfl rfl hl.1 rfl (lv_room (Nat.le_of_ble_eq_true rfl)) dX14_item_277 ⟨(Nat.le_of_ble_eq_true rfl), (Nat.le_of_ble_eq_true rfl)⟩) (fun G68 H locs hw hmon hG => ?_)
        replace hw := hw hmon
        have hkq66 : gK G68 q66 = 13 := gK_mon hmon hkq66 (by decide)
        obtain ⟨ce, hce, hcv, hcl⟩ := gthr hPF hG (gC_of hkq66 (by decide)) (by decide) (by decide) rfl
        exact vx_athrow hx hb dX14_item_280 (gleave hlk hG (fun x hx9 => (htab x hx9).elim) hce hcv hcl hw (Nat.le_of_ble_eq_true rfl) (Nat.le_of_ble_eq_true rfl))
      · have hk_ : ((r2.toUInt32 % 65536).toInt32) = (115 : Int32) := Int32.toInt_inj.mp (by rw [hi_]; rfl)
        refine lv_tableIn (off := 192) (tgt := 207) hx hb dX14_item_15 (by rw [hk_]; decide) (by rw [hk_]; decide) (by rw [hk_]; rfl) (by decide) ?_
        replace hw := hw.2.2.2.2.2.2.2.2.2.2.2.2.2.2.2.2.1 hk_
        refine lv_aload_n hx hb dX14_item_207 rfl (lv_at hl 2 rfl) ?_
        refine xc3i hA hG (vx_runV (As := []) (rest := []) ⟨hx, hb, hml, hown, hts⟩ (gm_X14_digit l hlt E p0 _ _ G1 hw _) (cwV 0 hts (lw_V q1841 q1843 qs16 q97 q1844) rfl rfl rfl hd_X14_digit ⟨Nat.le_of_ble_eq_true rfl, Nat.le_of_ble_eq_true rfl⟩) ⟨gblind, grecv hPF hG (gC_of (gK_mon hG.1.2 h0p0 (by decide)) (by decide)) (by decide) (by decide) rfl, fun U hU hW => gpre hPF hA hG _ U hU hW⟩ rfl rfl hl.1 rfl (lv_room (Nat.le_of_ble_eq_true rfl)) dX14_item_208 ⟨(Nat.le_of_ble_eq_true rfl), (Nat.le_of_ble_eq_true rfl)⟩) (fun X ce q Gx H locs hw hmon hG hce hcv hcl => ?_) (fun r70 G69 H locs hw hmon hG => ?_)
        · exact gleave hlk hG (fun x hx9 => (htab x hx9).elim) hce hcv hcl hw (Nat.le_of_ble_eq_true rfl) (Nat.le_of_ble_eq_true rfl)
        · replace hw := hw hmon
          refine lv_istore_n (i := 3) (lv' := [(3, .int r70), (2, .int ((r2.toUInt32 % 65536).toInt32)), (1, .int (gI G p0 1)), (0, .ref p0)]) hx hb dX14_item_211 rfl hl (by decide) rfl (fun ls hl => ?_)
          refine lv_aload_n hx hb dX14_item_212 rfl (lv_at hl 3 rfl) ?_
          refine lv_bipush (v := 43) hx hb dX14_item_213 (by decide) ?_
          refine lv_iconst (v := 1) hx hb dX14_item_215 (by decide) ?_
          refine xc3i hA hG (vx_runV (As := [.int 43, .int 1]) (rest := []) ⟨hx, hb, hml, hown, hts⟩ (gm_X14_behind l hlt E p0 43 1 _ _ G69 hw _) (cwV 2 hts (lw_V q1845 q1847 qs17 q97 q1848) rfl rfl rfl hd_X14_behind ⟨Nat.le_of_ble_eq_true rfl, Nat.le_of_ble_eq_true rfl⟩) ⟨gblind, grecv hPF hG (gC_of (gK_mon hG.1.2 h0p0 (by decide)) (by decide)) (by decide) (by decide) rfl, fun U hU hW => gpre hPF hA hG _ U hU hW⟩ rfl rfl hl.1 rfl (lv_room (Nat.le_of_ble_eq_true rfl)) dX14_item_216 ⟨(Nat.le_of_ble_eq_true rfl), (Nat.le_of_ble_eq_true rfl)⟩) (fun X ce q Gx H locs hw hmon hG hce hcv hcl => ?_) (fun r72 G71 H locs hw hmon hG => ?_)
          · exact gleave hlk hG (fun x hx9 => (htab x hx9).elim) hce hcv hcl hw (Nat.le_of_ble_eq_true rfl) (Nat.le_of_ble_eq_true rfl)
          · replace hw := hw hmon
            refine lv_istore (lv' := [(4, .int r72), (3, .int r70), (2, .int ((r2.toUInt32 % 65536).toInt32)), (1, .int (gI G p0 1)), (0, .ref p0)]) hx hb dX14_item_219 hl (by decide) rfl (fun ls hl => ?_)
            refine lv_iload_n hx hb dX14_item_221 rfl (lv_at hl 1 rfl) ?_
            refine lv_iload hx hb dX14_item_222 (lv_at hl 0 rfl) ?_
            refine glmk2 (rest := []) hx hb hml hl.1 hts 25 rfl rfl hin.1 hPF hA hG (by (try simp only [List.map, va_rf_cat, gcat_i, gcat_r, gcat_l, gcat_d, gcat_f, gcat_n]); exact Nat.le_of_ble_eq_true rfl) (Nat.le_of_ble_eq_true rfl) (Nat.le_of_ble_eq_true rfl) dX14_item_224 (fun q73 H h0q73 hG => ?_)
            replace hw := hw q73 h0q73
            obtain ⟨G74, eG74⟩ : ∃ z, z = gsI (gsI (gN G71 q73 65 2) q73 0 r70) q73 1 r72 := ⟨_, rfl⟩
            rw [← eG74] at hG
            replace hw := hw G74 eG74
            have hkq73 : gK G74 q73 = 65 := by rw [eG74]; exact gK_Nq (n := 2)
            exact xretr (v := (some q73)) hx hb hr hlk hG (Or.inl ⟨_, rfl⟩) hw (Nat.le_of_ble_eq_true rfl) (Nat.le_of_ble_eq_true rfl) dX14_item_229
      · have hk_ : ((r2.toUInt32 % 65536).toInt32) = (116 : Int32) := Int32.toInt_inj.mp (by rw [hi_]; rfl)
        refine lv_tableIn (off := 257) (tgt := 272) hx hb dX14_item_15 (by rw [hk_]; decide) (by rw [hk_]; decide) (by rw [hk_]; rfl) (by decide) ?_
        replace hw := hw.2.2.2.2.2.2.2.2.2.2.2.2.2.2.2.2.2.1 hk_
        refine gnew (ci := 13) hx hb hts in_X15 tyX15 tyX15_ok hown q1818 q1819 q98 hPF hG hA rfl (by decide) (by decide) gborn_X15 (Nat.le_of_ble_eq_true rfl) (Nat.le_of_ble_eq_true rfl) dX14_item_272 (fun q75 H h0q75 hG => ?_)
        replace hw := hw q75 h0q75
        obtain ⟨G76, eG76⟩ : ∃ z, z = gN G1 q75 13 0 := ⟨_, rfl⟩
        rw [← eG76] at hG
        replace hw := hw G76 eG76
        have hkq75 : gK G76 q75 = 13 := by rw [eG76]; exact gK_Nq
        refine lv_dup hx hb dX14_item_275 rfl ?_
        refine lv_iload_n hx hb dX14_item_276 rfl (lv_at hl 1 rfl) ?_
        refine gc3v hA hG (va_runI (As := [.int (gI G p0 1)]) (rest := [.ref q75]) ⟨hx, hb, hml, hown, hts⟩ (gm_X15_init l E q75 (gI G p0 1) _ G76 hw _) (cwI 1 hts (lw_meth q1829) rfl rfl rfl (hts _ q98) (hts _ q1827) (hts _ q1828) rfl hd_X15_init ⟨Nat.le_of_ble_eq_true rfl, Nat.le_of_ble_eq_true rfl⟩) ⟨gblind, fun U hU hW => gpre hPF hA hG _ U hU hW⟩ rfl rfl hl.1 rfl (lv_room (Nat.le_of_ble_eq_true rfl)) dX14_item_277 ⟨(Nat.le_of_ble_eq_true rfl), (Nat.le_of_ble_eq_true rfl)⟩) (fun G77 H locs hw hmon hG => ?_)
        replace hw := hw hmon
        have hkq75 : gK G77 q75 = 13 := gK_mon hmon hkq75 (by decide)
        obtain ⟨ce, hce, hcv, hcl⟩ := gthr hPF hG (gC_of hkq75 (by decide)) (by decide) (by decide) rfl
        exact vx_athrow hx hb dX14_item_280 (gleave hlk hG (fun x hx9 => (htab x hx9).elim) hce hcv hcl hw (Nat.le_of_ble_eq_true rfl) (Nat.le_of_ble_eq_true rfl))
      · have hk_ : ((r2.toUInt32 % 65536).toInt32) = (117 : Int32) := Int32.toInt_inj.mp (by rw [hi_]; rfl)
        refine lv_tableIn (off := 257) (tgt := 272) hx hb dX14_item_15 (by rw [hk_]; decide) (by rw [hk_]; decide) (by rw [hk_]; rfl) (by decide) ?_
        replace hw := hw.2.2.2.2.2.2.2.2.2.2.2.2.2.2.2.2.2.2.1 hk_
        refine gnew (ci := 13) hx hb hts in_X15 tyX15 tyX15_ok hown q1818 q1819 q98 hPF hG hA rfl (by decide) (by decide) gborn_X15 (Nat.le_of_ble_eq_true rfl) (Nat.le_of_ble_eq_true rfl) dX14_item_272 (fun q78 H h0q78 hG => ?_)
        replace hw := hw q78 h0q78
        obtain ⟨G79, eG79⟩ : ∃ z, z = gN G1 q78 13 0 := ⟨_, rfl⟩
        rw [← eG79] at hG
        replace hw := hw G79 eG79
        have hkq78 : gK G79 q78 = 13 := by rw [eG79]; exact gK_Nq
        refine lv_dup hx hb dX14_item_275 rfl ?_
        refine lv_iload_n hx hb dX14_item_276 rfl (lv_at hl 1 rfl) ?_
        refine gc3v hA hG (va_runI (As := [.int (gI G p0 1)]) (rest := [.ref q78]) ⟨hx, hb, hml, hown, hts⟩ (gm_X15_init l E q78 (gI G p0 1) _ G79 hw _) (cwI 1 hts (lw_meth q1829) rfl rfl rfl (hts _ q98) (hts _ q1827) (hts _ q1828) rfl hd_X15_init ⟨Nat.le_of_ble_eq_true rfl, Nat.le_of_ble_eq_true rfl⟩) ⟨gblind, fun U hU hW => gpre hPF hA hG _ U hU hW⟩ rfl rfl hl.1 rfl (lv_room (Nat.le_of_ble_eq_true rfl)) dX14_item_277 ⟨(Nat.le_of_ble_eq_true rfl), (Nat.le_of_ble_eq_true rfl)⟩) (fun G80 H locs hw hmon hG => ?_)
        replace hw := hw hmon
        have hkq78 : gK G80 q78 = 13 := gK_mon hmon hkq78 (by decide)
        obtain ⟨ce, hce, hcv, hcl⟩ := gthr hPF hG (gC_of hkq78 (by decide)) (by decide) (by decide) rfl
        exact vx_athrow hx hb dX14_item_280 (gleave hlk hG (fun x hx9 => (htab x hx9).elim) hce hcv hcl hw (Nat.le_of_ble_eq_true rfl) (Nat.le_of_ble_eq_true rfl))
      · have hk_ : ((r2.toUInt32 % 65536).toInt32) = (118 : Int32) := Int32.toInt_inj.mp (by rw [hi_]; rfl)
        refine lv_tableIn (off := 257) (tgt := 272) hx hb dX14_item_15 (by rw [hk_]; decide) (by rw [hk_]; decide) (by rw [hk_]; rfl) (by decide) ?_
        replace hw := hw.2.2.2.2.2.2.2.2.2.2.2.2.2.2.2.2.2.2.2.1 hk_
        refine gnew (ci := 13) hx hb hts in_X15 tyX15 tyX15_ok hown q1818 q1819 q98 hPF hG hA rfl (by decide) (by decide) gborn_X15 (Nat.le_of_ble_eq_true rfl) (Nat.le_of_ble_eq_true rfl) dX14_item_272 (fun q81 H h0q81 hG => ?_)
        replace hw := hw q81 h0q81
        obtain ⟨G82, eG82⟩ : ∃ z, z = gN G1 q81 13 0 := ⟨_, rfl⟩
        rw [← eG82] at hG
        replace hw := hw G82 eG82
        have hkq81 : gK G82 q81 = 13 := by rw [eG82]; exact gK_Nq
        refine lv_dup hx hb dX14_item_275 rfl ?_
        refine lv_iload_n hx hb dX14_item_276 rfl (lv_at hl 1 rfl) ?_
        refine gc3v hA hG (va_runI (As := [.int (gI G p0 1)]) (rest := [.ref q81]) ⟨hx, hb, hml, hown, hts⟩ (gm_X15_init l E q81 (gI G p0 1) _ G82 hw _) (cwI 1 hts (lw_meth q1829) rfl rfl rfl (hts _ q98) (hts _ q1827) (hts _ q1828) rfl hd_X15_init ⟨Nat.le_of_ble_eq_true rfl, Nat.le_of_ble_eq_true rfl⟩) ⟨gblind, fun U hU hW => gpre hPF hA hG _ U hU hW⟩ rfl rfl hl.1 rfl (lv_room (Nat.le_of_ble_eq_true rfl)) dX14_item_277 ⟨(Nat.le_of_ble_eq_true rfl), (Nat.le_of_ble_eq_true rfl)⟩) (fun G83 H locs hw hmon hG => ?_)
        replace hw := hw hmon
        have hkq81 : gK G83 q81 = 13 := gK_mon hmon hkq81 (by decide)
        obtain ⟨ce, hce, hcv, hcl⟩ := gthr hPF hG (gC_of hkq81 (by decide)) (by decide) (by decide) rfl
        exact vx_athrow hx hb dX14_item_280 (gleave hlk hG (fun x hx9 => (htab x hx9).elim) hce hcv hcl hw (Nat.le_of_ble_eq_true rfl) (Nat.le_of_ble_eq_true rfl))
      · have hk_ : ((r2.toUInt32 % 65536).toInt32) = (119 : Int32) := Int32.toInt_inj.mp (by rw [hi_]; rfl)
        refine lv_tableIn (off := 227) (tgt := 242) hx hb dX14_item_15 (by rw [hk_]; decide) (by rw [hk_]; decide) (by rw [hk_]; rfl) (by decide) ?_
        replace hw := hw.2.2.2.2.2.2.2.2.2.2.2.2.2.2.2.2.2.2.2.2.1 hk_
        refine lv_aload_n hx hb dX14_item_242 rfl (lv_at hl 2 rfl) ?_
        refine xc3i hA hG (vx_runV (As := []) (rest := []) ⟨hx, hb, hml, hown, hts⟩ (gm_X14_digit l hlt E p0 _ _ G1 hw _) (cwV 0 hts (lw_V q1841 q1843 qs16 q97 q1844) rfl rfl rfl hd_X14_digit ⟨Nat.le_of_ble_eq_true rfl, Nat.le_of_ble_eq_true rfl⟩) ⟨gblind, grecv hPF hG (gC_of (gK_mon hG.1.2 h0p0 (by decide)) (by decide)) (by decide) (by decide) rfl, fun U hU hW => gpre hPF hA hG _ U hU hW⟩ rfl rfl hl.1 rfl (lv_room (Nat.le_of_ble_eq_true rfl)) dX14_item_243 ⟨(Nat.le_of_ble_eq_true rfl), (Nat.le_of_ble_eq_true rfl)⟩) (fun X ce q Gx H locs hw hmon hG hce hcv hcl => ?_) (fun r85 G84 H locs hw hmon hG => ?_)
        · exact gleave hlk hG (fun x hx9 => (htab x hx9).elim) hce hcv hcl hw (Nat.le_of_ble_eq_true rfl) (Nat.le_of_ble_eq_true rfl)
        · replace hw := hw hmon
          refine lv_istore_n (i := 3) (lv' := [(3, .int r85), (2, .int ((r2.toUInt32 % 65536).toInt32)), (1, .int (gI G p0 1)), (0, .ref p0)]) hx hb dX14_item_246 rfl hl (by decide) rfl (fun ls hl => ?_)
          refine lv_iload_n hx hb dX14_item_247 rfl (lv_at hl 0 rfl) ?_
          refine glmk1 (rest := []) hx hb hml hl.1 hts 27 rfl rfl hin.1 hPF hA hG (by (try simp only [List.map, va_rf_cat, gcat_i, gcat_r, gcat_l, gcat_d, gcat_f, gcat_n]); exact Nat.le_of_ble_eq_true rfl) (Nat.le_of_ble_eq_true rfl) (Nat.le_of_ble_eq_true rfl) dX14_item_248 (fun q86 H h0q86 hG => ?_)
          replace hw := hw q86 h0q86
          obtain ⟨G87, eG87⟩ : ∃ z, z = gsI (gN G84 q86 67 1) q86 0 r85 := ⟨_, rfl⟩
          rw [← eG87] at hG
          replace hw := hw G87 eG87
          have hkq86 : gK G87 q86 = 67 := by rw [eG87]; exact gK_Nq (n := 1)
          exact xretr (v := (some q86)) hx hb hr hlk hG (Or.inl ⟨_, rfl⟩) hw (Nat.le_of_ble_eq_true rfl) (Nat.le_of_ble_eq_true rfl) dX14_item_253
      · have hk_ : ((r2.toUInt32 % 65536).toInt32) = (120 : Int32) := Int32.toInt_inj.mp (by rw [hi_]; rfl)
        refine lv_tableIn (off := 239) (tgt := 254) hx hb dX14_item_15 (by rw [hk_]; decide) (by rw [hk_]; decide) (by rw [hk_]; rfl) (by decide) ?_
        replace hw := hw.2.2.2.2.2.2.2.2.2.2.2.2.2.2.2.2.2.2.2.2.2.1 hk_
        refine glct (rest := []) hx hb hml hl.1 28 rfl rfl hin.1 hPF (by (try simp only [List.map, va_rf_cat, gcat_i, gcat_r, gcat_l, gcat_d, gcat_f, gcat_n]); exact Nat.le_of_ble_eq_true rfl) dX14_item_254 ?_
        exact xretr (v := (some (eZ E 58))) hx hb hr hlk hG (Or.inl ⟨_, rfl⟩) hw (Nat.le_of_ble_eq_true rfl) (Nat.le_of_ble_eq_true rfl) dX14_item_259
def gw_X14_items_L17 (E : gE) (p0 : Nat) (post : Option Nat → Gh → Prop) (px : String → Nat → Gh → Prop) : Nat → Nat → Nat → Nat → Gh → Prop
  | 0, _, _, _, _ => False
  | n + 1, x1, cB, zB, G => ∃ q9, (gR G p0 0) = some q9 ∧ (gC G q9 = 16 ∧ ((cB + 0 ≤ 6200 ∧ zB + 0 ≤ 52000) ∧ (gw_J8_length E (fun r13 G12 => gMon G G12 → ((r13 ≤ (gI G p0 1) → ((cB ≤ 6200 ∧ zB ≤ 52000) ∧ (post (some x1) G12))) ∧ (¬ r13 ≤ (gI G p0 1) → ((cB + 1 ≤ 6200 ∧ zB + 7 ≤ 52000) ∧ (gw_X14_take E (fun r16 G15 => gMon G12 G15 → ((cB + 197 ≤ 6200 ∧ zB + 1567 ≤ 52000) ∧ (gw_X14_item E (fun r19 G18 => gMon G15 G18 → (∃ q20, r19 = some q20 ∧ (gC G18 x1 = 14 ∧ ((cB + 198 ≤ 6200 ∧ zB + 1631 ≤ 52000) ∧ (gw_J2_add E (fun r24 G23 => gMon G18 G23 → (gw_X14_items_L17 E p0 post px  n x1 (cB + 198) (zB + 1631) G23)) x1 q20 G18))))) px p0 G15))) px p0 59 59 G12))))) q9 G)))
def gw_X14_items (E : gE) (post : Option Nat → Gh → Prop) (px : String → Nat → Gh → Prop) (p0 : Nat) (G : Gh) : Prop := gK G p0 = 12 ∧ (∀ q1, gK G q1 = 0 → ∀ G2, G2 = gN G q1 14 0 → (gw_J2_init_2 E (fun G3 => gMon G2 G3 → (gw_X14_item E (fun r5 G4 => gMon G3 G4 → (∃ q6, r5 = some q6 ∧ (gw_J2_add E (fun r8 G7 => gMon G4 G7 → ((∃ n, gw_X14_items_L17 E p0 post px  n q1 198 1627 G7))) q1 q6 G4))) px p0 G3)) q1 G2))
theorem hd_X14_items : yX14_items.cls = RX14 ∧ yX14_items.cls ≠ "java/lang/invoke/MethodHandle" ∧ yX14_items.cls ≠ "java/lang/invoke/VarHandle" ∧ (parseMethodDescriptor yX14_items.desc).map (fun d => d.parameters.length) = some 0 := by decide +kernel
theorem hdn_X14_items : yX14_items.cls ≠ "java/lang/invoke/MethodHandle" ∧ yX14_items.cls ≠ "java/lang/invoke/VarHandle" ∧ (parseMethodDescriptor yX14_items.desc).map (fun d => d.parameters.length) = some 0 := hd_X14_items.2
theorem hdu_X14_items : RX14 ≠ "java/lang/invoke/MethodHandle" ∧ RX14 ≠ "java/lang/invoke/VarHandle" ∧ (parseMethodDescriptor yX14_items.desc).map (fun d => d.parameters.length) = some 0 := by decide +kernel
theorem hds_X14_items : yX14_items.name ≠ "<init>" ∧ (parseMethodDescriptor yX14_items.desc).map (fun d => d.parameters.length) = some 0 := by decide +kernel
set_option maxHeartbeats 1000000 in
set_option maxRecDepth 100000 in
theorem gm_X14_items (l : Launch) (hlt : l.stackTraces = false) (E : gE) (p0 : Nat) (post : Option Nat → Gh → Prop) (px : String → Nat → Gh → Prop) (G : Gh) (hw : gw_X14_items E post px p0 G) : gX l E yX14_items (ws_ yX14_items cX14_items 4 (some (.object "java/util/ArrayList"))) ({ frames := 9, cells := 6200, slots := 52000, locals := 3225 } : Room) 6200 52000 [.ref p0] G (gpr post) px := by
  refine xof (by decide) (Nat.le_of_ble_eq_true rfl) ?_
  intro p e s m below meth c A ls hx hb hr hlk hml hown hin hts hPF hA htab hG hl
  have hl : lv_has ls 4 [(0, .ref p0)] := hl
  unfold gw_X14_items at hw
  obtain ⟨G0, hG0⟩ : ∃ G0, G0 = G := ⟨_, rfl⟩
  have hG : gS E A G0 s.heap G s.heap [] := by rw [hG0]; exact hG
  rw [show gQ E A G (gpr post) = gQ E A G0 (gpr post) by rw [hG0]]
  rw [show gXC E A G px = gXC E A G0 px by rw [hG0]]
  have h0p0 := hw.1; rw [← hG0] at h0p0
  replace hw := hw.2
  have hL17 : ∀ (n : Nat) (x1 : Nat) (cB : Nat) (zB : Nat) (G : Gh) (H : Heap) (locs : List Loc) (ls : Array Slot), gS E A G0 s.heap G H locs → lv_has ls 4 [(0, .ref p0), (1, .ref x1)] → gw_X14_items_L17 E p0 post px n x1 cB zB G → W p l e (headSpec (ws_ yX14_items cX14_items 4 (some (.object "java/util/ArrayList"))) ({ frames := 9, cells := 6200, slots := 52000, locals := 3225 } : Room)).room s m ([.ref p0] : List Value).toArray below meth c H locs cB zB (vx_MQ below (gQ E A G0 (gpr post)) (gXC E A G0 px) ([.ref p0] : List Value).toArray s 6200 52000 A) (F0 m 17 ls []) := by
    intro n
    induction n with
    | zero => exact fun _ _ _ _ _ _ _ _ _ hw => hw.elim
    | succ n ih =>
      intro x1 cB zB G H locs ls hG hl hw
      unfold gw_X14_items_L17 at hw
      refine lv_aload_n hx hb dX14_items_17 rfl (lv_at hl 0 rfl) ?_
      refine gg hx hb hts hown hPF hG 12 1 rfl in_X14 (by decide) (by decide) (by decide) q1761 (fun _ h9 => h9) (gC_of (gK_mon hG.1.2 h0p0 (by decide)) (by decide)) (v := .int (gI G p0 1)) rfl dX14_items_18 ?_
      refine lv_aload_n hx hb dX14_items_21 rfl (lv_at hl 0 rfl) ?_
      refine gg hx hb hts hown hPF hG 12 0 rfl in_X14 (by decide) (by decide) (by decide) q1760 (fun _ h9 => h9) (gC_of (gK_mon hG.1.2 h0p0 (by decide)) (by decide)) (v := va_rf (gR G p0 0)) rfl dX14_items_22 ?_
      obtain ⟨q9, hq9, hw⟩ := hw
      refine W.eq (g2 := F0 m 25 ls [.ref q9, .int (gI G p0 1)]) (by rw [hq9]; rfl) ?_
      have hk10 := hw.1
      replace hw := hw.2
      have hb11 := hw.1
      replace hw := hw.2
      refine gc5i hA hG (va_runF (hPF.K.1 16 _ rfl).2 (As := []) (rest := [.int (gI G p0 1)]) ⟨hx, hb, hml, hown, hts⟩ (gm_J8_length l E q9 _ G hw _) (va_cwF 0 hts (lw_F q1788 q1796 q376 q65 q377) rfl rfl rfl (hPF.f 2 rfl) hdx_java_lang_CharSequence_length ⟨Nat.le_of_ble_eq_true rfl, Nat.le_of_ble_eq_true rfl⟩) ⟨gblind, grecv hPF hG hk10 (by decide) (by decide) rfl, fun U hU hW => gpre hPF hA hG _ U hU hW⟩ rfl rfl hl.1 rfl (lv_room (Nat.le_of_ble_eq_true rfl)) dX14_items_25 ⟨(Nat.le_trans (Nat.le_of_eq (by simp only [Nat.add_assoc, Nat.zero_add, Nat.add_zero])) hb11.1), (Nat.le_trans (Nat.le_of_eq (by simp only [Nat.add_assoc, Nat.zero_add, Nat.add_zero])) hb11.2)⟩) (fun r13 G12 H locs hw hmon hG => ?_)
      replace hw := hw hmon
      have hk10 : gC G12 q9 = 16 := gC_mon hmon hk10 (by decide)
      refine lv_icmp_ge (tgt := 54) hx hb dX14_items_30 (by decide) (fun c_ => ?_) (fun c_ => ?_)
      · replace hw := hw.1 c_
        refine lv_aload_n hx hb dX14_items_54 rfl (lv_at hl 1 rfl) ?_
        have hb_ := hw.1
        replace hw := hw.2
        exact xretr (v := (some x1)) hx hb hr hlk hG (Or.inl ⟨_, rfl⟩) hw (Nat.le_trans (Nat.le_of_eq (by simp only [Nat.add_assoc, Nat.add_zero])) hb_.1) (Nat.le_trans (Nat.le_of_eq (by simp only [Nat.add_assoc, Nat.add_zero])) hb_.2) dX14_items_55
      · replace hw := hw.2 c_
        refine lv_aload_n hx hb dX14_items_33 rfl (lv_at hl 0 rfl) ?_
        refine lv_bipush (v := 59) hx hb dX14_items_34 (by decide) ?_
        refine lv_bipush (v := 59) hx hb dX14_items_36 (by decide) ?_
        have hb14 := hw.1
        replace hw := hw.2
        refine xc3i hA hG (vx_runV (As := [.int 59, .int 59]) (rest := []) ⟨hx, hb, hml, hown, hts⟩ (gm_X14_take l hlt E p0 59 59 _ _ G12 hw _) (cwV 2 hts (lw_V q1779 q1781 qs13 q97 q1782) rfl rfl rfl hd_X14_take ⟨Nat.le_of_ble_eq_true rfl, Nat.le_of_ble_eq_true rfl⟩) ⟨gblind, grecv hPF hG (gC_of (gK_mon hG.1.2 h0p0 (by decide)) (by decide)) (by decide) (by decide) rfl, fun U hU hW => gpre hPF hA hG _ U hU hW⟩ rfl rfl hl.1 rfl (lv_room (Nat.le_of_ble_eq_true rfl)) dX14_items_38 ⟨(Nat.le_trans (Nat.le_of_eq (by simp only [Nat.add_assoc, Nat.zero_add, Nat.add_zero])) hb14.1), (Nat.le_trans (Nat.le_of_eq (by simp only [Nat.add_assoc, Nat.zero_add, Nat.add_zero])) hb14.2)⟩) (fun X ce q Gx H locs hw hmon hG hce hcv hcl => ?_) (fun r16 G15 H locs hw hmon hG => ?_)
        · exact gleave hlk hG (fun x hx9 => (htab x hx9).elim) hce hcv hcl hw (Nat.le_trans (Nat.le_of_eq (by simp only [Nat.add_assoc, Nat.zero_add, Nat.add_zero])) hb14.1) (Nat.le_trans (Nat.le_of_eq (by simp only [Nat.add_assoc, Nat.zero_add, Nat.add_zero])) hb14.2)
        · replace hw := hw hmon
          have hk10 : gC G15 q9 = 16 := gC_mon hmon hk10 (by decide)
          refine lv_istore_n (i := 3) (lv' := [(3, .int r16), (0, .ref p0), (1, .ref x1)]) hx hb dX14_items_41 rfl hl (by decide) rfl (fun ls hl => ?_)
          refine lv_aload_n hx hb dX14_items_42 rfl (lv_at hl 2 rfl) ?_
          refine lv_aload_n hx hb dX14_items_43 rfl (lv_at hl 1 rfl) ?_
          have hb17 := hw.1
          replace hw := hw.2
          refine xc3r hA hG (vx_runV (As := []) (rest := [.ref x1]) ⟨hx, hb, hml, hown, hts⟩ (gm_X14_item l hlt E p0 _ _ G15 hw _) (cwV 0 hts (lw_V q1775 q1777 qs12 q97 q1778) rfl rfl rfl hd_X14_item ⟨Nat.le_of_ble_eq_true rfl, Nat.le_of_ble_eq_true rfl⟩) ⟨gblind, grecv hPF hG (gC_of (gK_mon hG.1.2 h0p0 (by decide)) (by decide)) (by decide) (by decide) rfl, fun U hU hW => gpre hPF hA hG _ U hU hW⟩ rfl rfl hl.1 rfl (lv_room (Nat.le_of_ble_eq_true rfl)) dX14_items_44 ⟨(Nat.le_trans (Nat.le_of_eq (by simp only [Nat.add_assoc, Nat.zero_add, Nat.add_zero])) hb17.1), (Nat.le_trans (Nat.le_of_eq (by simp only [Nat.add_assoc, Nat.zero_add, Nat.add_zero])) hb17.2)⟩) (fun X ce q Gx H locs hw hmon hG hce hcv hcl => ?_) (fun r19 G18 H locs hw hmon hG => ?_)
          · exact gleave hlk hG (fun x hx9 => (htab x hx9).elim) hce hcv hcl hw (Nat.le_trans (Nat.le_of_eq (by simp only [Nat.add_assoc, Nat.zero_add, Nat.add_zero])) hb17.1) (Nat.le_trans (Nat.le_of_eq (by simp only [Nat.add_assoc, Nat.zero_add, Nat.add_zero])) hb17.2)
          · replace hw := hw hmon
            have hk10 : gC G18 q9 = 16 := gC_mon hmon hk10 (by decide)
            obtain ⟨q20, hq20, hw⟩ := hw
            refine W.eq (g2 := F0 m 47 ls [.ref q20, .ref x1]) (by rw [hq20]; rfl) ?_
            have hk21 := hw.1
            replace hw := hw.2
            have hb22 := hw.1
            replace hw := hw.2
            refine gc3i hA hG (va_runV (As := [.ref q20]) (rest := []) ⟨hx, hb, hml, hown, hts⟩ (gm_J2_add l E x1 q20 _ G18 hw _) (cwV 1 hts (lw_V q1873 q791 q792 q59 q793) rfl rfl rfl hd_J2_add ⟨Nat.le_of_ble_eq_true rfl, Nat.le_of_ble_eq_true rfl⟩) ⟨gblind, grecv hPF hG hk21 (by decide) (by decide) rfl, fun U hU hW => gpre hPF hA hG _ U hU hW⟩ rfl rfl hl.1 rfl (lv_room (Nat.le_of_ble_eq_true rfl)) dX14_items_47 ⟨(Nat.le_trans (Nat.le_of_eq (by simp only [Nat.add_assoc, Nat.zero_add, Nat.add_zero])) hb22.1), (Nat.le_trans (Nat.le_of_eq (by simp only [Nat.add_assoc, Nat.zero_add, Nat.add_zero])) hb22.2)⟩) (fun r24 G23 H locs hw hmon hG => ?_)
            replace hw := hw hmon
            have hk10 : gC G23 q9 = 16 := gC_mon hmon hk10 (by decide)
            have hk21 : gC G23 x1 = 14 := gC_mon hmon hk21 (by decide)
            refine lv_istore_n (i := 2) (lv' := [(2, .int r24), (3, .int r16), (0, .ref p0), (1, .ref x1)]) hx hb dX14_items_50 rfl hl (by decide) rfl (fun ls hl => ?_)
            refine lv_goto (tgt := 17) hx hb dX14_items_51 (by decide) ?_
            refine W.cs (cells' := cB + 198) (slots' := zB + 1631) (by simp only [Nat.zero_add, Nat.add_zero, Nat.add_assoc]) (by simp only [Nat.zero_add, Nat.add_zero, Nat.add_assoc]) ?_
            exact ih x1 (cB + 198) (zB + 1631) G23 _ _ ls hG (lv_sub hl [2, 3] rfl) hw
  refine gnew (ci := 14) hx hb hts in_J2 tyJ2 tyJ2_ok hown q1771 q114 q59 hPF hG hA rfl (by decide) (by decide) gborn_J2 (Nat.le_of_ble_eq_true rfl) (Nat.le_of_ble_eq_true rfl) dX14_items_0 (fun q1 H h0q1 hG => ?_)
  replace hw := hw q1 h0q1
  obtain ⟨G2, eG2⟩ : ∃ z, z = gN G q1 14 0 := ⟨_, rfl⟩
  rw [← eG2] at hG
  replace hw := hw G2 eG2
  have hkq1 : gK G2 q1 = 14 := by rw [eG2]; exact gK_Nq
  refine lv_dup hx hb dX14_items_3 rfl ?_
  refine gc3v hA hG (va_runI (As := []) (rest := [.ref q1]) ⟨hx, hb, hml, hown, hts⟩ (gm_J2_init_2 l E q1 _ G2 hw _) (cwI 0 hts (lw_meth q1774) rfl rfl rfl (hts _ q59) (hts _ q1772) (hts _ q1773) rfl hd_J2_init_2 ⟨Nat.le_of_ble_eq_true rfl, Nat.le_of_ble_eq_true rfl⟩) ⟨gblind, fun U hU hW => gpre hPF hA hG _ U hU hW⟩ rfl rfl hl.1 rfl (lv_room (Nat.le_of_ble_eq_true rfl)) dX14_items_4 ⟨(Nat.le_of_ble_eq_true rfl), (Nat.le_of_ble_eq_true rfl)⟩) (fun G3 H locs hw hmon hG => ?_)
  replace hw := hw hmon
  have hkq1 : gK G3 q1 = 14 := gK_mon hmon hkq1 (by decide)
  refine lv_astore_n (i := 1) (lv' := [(1, .ref q1), (0, .ref p0)]) hx hb dX14_items_7 rfl hl (by decide) rfl (fun ls hl => ?_)
  refine lv_aload_n hx hb dX14_items_8 rfl (lv_at hl 0 rfl) ?_
  refine lv_aload_n hx hb dX14_items_9 rfl (lv_at hl 1 rfl) ?_
  refine xc3r hA hG (vx_runV (As := []) (rest := [.ref q1]) ⟨hx, hb, hml, hown, hts⟩ (gm_X14_item l hlt E p0 _ _ G3 hw _) (cwV 0 hts (lw_V q1775 q1777 qs12 q97 q1778) rfl rfl rfl hd_X14_item ⟨Nat.le_of_ble_eq_true rfl, Nat.le_of_ble_eq_true rfl⟩) ⟨gblind, grecv hPF hG (gC_of (gK_mon hG.1.2 h0p0 (by decide)) (by decide)) (by decide) (by decide) rfl, fun U hU hW => gpre hPF hA hG _ U hU hW⟩ rfl rfl hl.1 rfl (lv_room (Nat.le_of_ble_eq_true rfl)) dX14_items_10 ⟨(Nat.le_of_ble_eq_true rfl), (Nat.le_of_ble_eq_true rfl)⟩) (fun X ce q Gx H locs hw hmon hG hce hcv hcl => ?_) (fun r5 G4 H locs hw hmon hG => ?_)
  · exact gleave hlk hG (fun x hx9 => (htab x hx9).elim) hce hcv hcl hw (Nat.le_of_ble_eq_true rfl) (Nat.le_of_ble_eq_true rfl)
  · replace hw := hw hmon
    have hkq1 : gK G4 q1 = 14 := gK_mon hmon hkq1 (by decide)
    obtain ⟨q6, hq6, hw⟩ := hw
    refine W.eq (g2 := F0 m 13 ls [.ref q6, .ref q1]) (by rw [hq6]; rfl) ?_
    refine gc3i hA hG (va_runV (As := [.ref q6]) (rest := []) ⟨hx, hb, hml, hown, hts⟩ (gm_J2_add l E q1 q6 _ G4 hw _) (cwV 1 hts (lw_V q1873 q791 q792 q59 q793) rfl rfl rfl hd_J2_add ⟨Nat.le_of_ble_eq_true rfl, Nat.le_of_ble_eq_true rfl⟩) ⟨gblind, grecv hPF hG (gC_of hkq1 (by decide)) (by decide) (by decide) rfl, fun U hU hW => gpre hPF hA hG _ U hU hW⟩ rfl rfl hl.1 rfl (lv_room (Nat.le_of_ble_eq_true rfl)) dX14_items_13 ⟨(Nat.le_of_ble_eq_true rfl), (Nat.le_of_ble_eq_true rfl)⟩) (fun r8 G7 H locs hw hmon hG => ?_)
    replace hw := hw hmon
    have hkq1 : gK G7 q1 = 14 := gK_mon hmon hkq1 (by decide)
    refine lv_istore_n (i := 2) (lv' := [(2, .int r8), (1, .ref q1), (0, .ref p0)]) hx hb dX14_items_16 rfl hl (by decide) rfl (fun ls hl => ?_)
    refine W.cs (cells' := 198) (slots' := 1627) (by simp only [Nat.zero_add, Nat.add_zero, Nat.add_assoc]) (by simp only [Nat.zero_add, Nat.add_zero, Nat.add_assoc]) ?_
    obtain ⟨n0, hw⟩ := hw
    exact hL17  n0 q1 198 1627 G7 _ _ ls hG (lv_sub hl [2, 1] rfl) hw
def gw_X1_takeItems (E : gE) (post : Option Nat → Gh → Prop) (px : String → Nat → Gh → Prop) (p0 : Nat) (G : Gh) : Prop := gK G p0 = 1 ∧ (∀ q1, gK G q1 = 0 → ∀ G2, G2 = gN G q1 12 0 → (∃ q3, (gR G2 p0 3) = some q3 ∧ (gw_X14_init E (fun G4 => gMon G2 G4 → (∀ q5, gK G4 q5 = 0 → ∀ G6, G6 = gN G4 q5 16 0 → (gw_J8_init E (fun G7 => gMon G6 G7 → (∀ G8, G8 = gsR G7 p0 3 (some q5) → (gw_X14_items E (fun r11 G10 => gMon G8 G10 → (post r11 G10)) (fun X q Gx => gMon G8 Gx → (X = "WillowPrinters$SyntaxException" → (∀ G9, G9 = gsR Gx p0 5 (some q) → (∀ q, gK G9 q = 0 → px "java/lang/IllegalArgumentException" q G9))) ∧ (X = "WillowPrinters$SyntaxException")) q1 G8))) q5 G6))) q1 q3 G2)))
theorem hd_X1_takeItems : yX1_takeItems.cls = RX1 ∧ yX1_takeItems.cls ≠ "java/lang/invoke/MethodHandle" ∧ yX1_takeItems.cls ≠ "java/lang/invoke/VarHandle" ∧ (parseMethodDescriptor yX1_takeItems.desc).map (fun d => d.parameters.length) = some 0 := by decide +kernel
theorem hdn_X1_takeItems : yX1_takeItems.cls ≠ "java/lang/invoke/MethodHandle" ∧ yX1_takeItems.cls ≠ "java/lang/invoke/VarHandle" ∧ (parseMethodDescriptor yX1_takeItems.desc).map (fun d => d.parameters.length) = some 0 := hd_X1_takeItems.2
theorem hdu_X1_takeItems : RX1 ≠ "java/lang/invoke/MethodHandle" ∧ RX1 ≠ "java/lang/invoke/VarHandle" ∧ (parseMethodDescriptor yX1_takeItems.desc).map (fun d => d.parameters.length) = some 0 := by decide +kernel
theorem hds_X1_takeItems : yX1_takeItems.name ≠ "<init>" ∧ (parseMethodDescriptor yX1_takeItems.desc).map (fun d => d.parameters.length) = some 0 := by decide +kernel
set_option maxHeartbeats 1000000 in
set_option maxRecDepth 100000 in
theorem gm_X1_takeItems (l : Launch) (hlt : l.stackTraces = false) (E : gE) (p0 : Nat) (post : Option Nat → Gh → Prop) (px : String → Nat → Gh → Prop) (G : Gh) (hw : gw_X1_takeItems E post px p0 G) : gX l E yX1_takeItems (wsW_ yX1_takeItems cX1_takeItems 3 (some (.object "java/util/ArrayList")) [(23, 27, 28, 375)]) ({ frames := 10, cells := 6204, slots := 52212, locals := 3248 } : Room) 6204 52212 [.ref p0] G (gpr post) px := by
  refine xofH (hh := [(23, 27, 28, 375)]) (by decide) (Nat.le_of_ble_eq_true rfl) ?_
  intro p e s m below meth c A ls hx hb hr hlk hml hown hin hts hPF hA htab hG hl
  have hl : lv_has ls 3 [(0, .ref p0)] := hl
  unfold gw_X1_takeItems at hw
  obtain ⟨G0, hG0⟩ : ∃ G0, G0 = G := ⟨_, rfl⟩
  have hG : gS E A G0 s.heap G s.heap [] := by rw [hG0]; exact hG
  rw [show gQ E A G (gpr post) = gQ E A G0 (gpr post) by rw [hG0]]
  rw [show gXC E A G px = gXC E A G0 px by rw [hG0]]
  have h0p0 := hw.1; rw [← hG0] at h0p0
  replace hw := hw.2
  refine gnew (ci := 12) hx hb hts in_X14 tyX14 tyX14_ok hown q1754 q1755 q97 hPF hG hA rfl (by decide) (by decide) gborn_X14 (Nat.le_of_ble_eq_true rfl) (Nat.le_of_ble_eq_true rfl) dX1_takeItems_0 (fun q1 H h0q1 hG => ?_)
  replace hw := hw q1 h0q1
  obtain ⟨G2, eG2⟩ : ∃ z, z = gN G q1 12 0 := ⟨_, rfl⟩
  rw [← eG2] at hG
  replace hw := hw G2 eG2
  have hkq1 : gK G2 q1 = 12 := by rw [eG2]; exact gK_Nq
  refine lv_dup hx hb dX1_takeItems_3 rfl ?_
  refine lv_aload_n hx hb dX1_takeItems_4 rfl (lv_at hl 0 rfl) ?_
  refine gg hx hb hts hown hPF hG 1 3 rfl in_X1 (by decide) (by decide) (by decide) q542 (fun _ h9 => h9) (gC_of (gK_mon hG.1.2 h0p0 (by decide)) (by decide)) (v := va_rf (gR G2 p0 3)) rfl dX1_takeItems_5 ?_
  obtain ⟨q3, hq3, hw⟩ := hw
  refine W.eq (g2 := F0 m 8 ls [.ref q3, .ref q1, .ref q1]) (by rw [hq3]; rfl) ?_
  refine gc3v hA hG (va_runI (As := [.ref q3]) (rest := [.ref q1]) ⟨hx, hb, hml, hown, hts⟩ (gm_X14_init l E q1 q3 _ G2 hw _) (cwI 1 hts (lw_meth q1758) rfl rfl rfl (hts _ q97) (hts _ q1756) (hts _ q1757) rfl hd_X14_init ⟨Nat.le_of_ble_eq_true rfl, Nat.le_of_ble_eq_true rfl⟩) ⟨gblind, fun U hU hW => gpre hPF hA hG _ U hU hW⟩ rfl rfl hl.1 rfl (lv_room (Nat.le_of_ble_eq_true rfl)) dX1_takeItems_8 ⟨(Nat.le_of_ble_eq_true rfl), (Nat.le_of_ble_eq_true rfl)⟩) (fun G4 H locs hw hmon hG => ?_)
  replace hw := hw hmon
  have hkq1 : gK G4 q1 = 12 := gK_mon hmon hkq1 (by decide)
  refine lv_astore_n (i := 1) (lv' := [(1, .ref q1), (0, .ref p0)]) hx hb dX1_takeItems_11 rfl hl (by decide) rfl (fun ls hl => ?_)
  refine lv_aload_n hx hb dX1_takeItems_12 rfl (lv_at hl 1 rfl) ?_
  refine gnew (ci := 16) hx hb hts in_J8 tyJ8 tyJ8_ok hown q536 q177 q65 hPF hG hA rfl (by decide) (by decide) gborn_J8 (Nat.le_of_ble_eq_true rfl) (Nat.le_of_ble_eq_true rfl) dX1_takeItems_13 (fun q5 H h0q5 hG => ?_)
  replace hw := hw q5 h0q5
  obtain ⟨G6, eG6⟩ : ∃ z, z = gN G4 q5 16 0 := ⟨_, rfl⟩
  rw [← eG6] at hG
  replace hw := hw G6 eG6
  have hkq1 : gK G6 q1 = 12 := by rw [eG6]; exact gK_N hkq1 (by decide) h0q5
  have hkq5 : gK G6 q5 = 16 := by rw [eG6]; exact gK_Nq
  refine lv_dup hx hb dX1_takeItems_16 rfl ?_
  refine gc3v hA hG (va_runI (As := []) (rest := [.ref q5, .ref p0]) ⟨hx, hb, hml, hown, hts⟩ (gm_J8_init l E q5 _ G6 hw _) (cwI 0 hts (lw_meth q180) rfl rfl rfl (hts _ q65) (hts _ q537) (hts _ q179) rfl hd_J8_init ⟨Nat.le_of_ble_eq_true rfl, Nat.le_of_ble_eq_true rfl⟩) ⟨gblind, fun U hU hW => gpre hPF hA hG _ U hU hW⟩ rfl rfl hl.1 rfl (lv_room (Nat.le_of_ble_eq_true rfl)) dX1_takeItems_17 ⟨(Nat.le_of_ble_eq_true rfl), (Nat.le_of_ble_eq_true rfl)⟩) (fun G7 H locs hw hmon hG => ?_)
  replace hw := hw hmon
  have hkq1 : gK G7 q1 = 12 := gK_mon hmon hkq1 (by decide)
  have hkq5 : gK G7 q5 = 16 := gK_mon hmon hkq5 (by decide)
  refine gp hx hb hts hown hPF hG 1 3 rfl in_X1 tyX1 tyX1_ok nmX1 (by decide) (by decide) (by decide) q542 (fun _ h9 => h9) rfl (gK_mon hG.1.2 h0p0 (by decide)) (v := va_rf (some q5)) (narrow_rf _) (fits_rf _ (by decide)) (G' := gsR G7 p0 3 (some q5)) rfl rfl grR_off (Nat.le_of_ble_eq_true rfl) (gFs_R 1 3 (fun _ _ _ => rfl)) dX1_takeItems_20 (fun H locs hG => ?_)
  obtain ⟨G8, eG8⟩ : ∃ z, z = gsR G7 p0 3 (some q5) := ⟨_, rfl⟩
  rw [← eG8] at hG
  replace hw := hw G8 eG8
  have hkq1 : gK G8 q1 = 12 := by rw [eG8]; exact hkq1
  have hkq5 : gK G8 q5 = 16 := by rw [eG8]; exact hkq5
  refine lv_aload_n hx hb dX1_takeItems_23 rfl (lv_at hl 0 rfl) ?_
  refine xc3r hA hG (vx_runV (As := []) (rest := []) ⟨hx, hb, hml, hown, hts⟩ (gm_X14_items l hlt E q1 _ _ G8 hw _) (cwV 0 hts (lw_V q1767 q1768 q1769 q97 q1770) rfl rfl rfl hd_X14_items ⟨Nat.le_of_ble_eq_true rfl, Nat.le_of_ble_eq_true rfl⟩) ⟨gblind, grecv hPF hG (gC_of hkq1 (by decide)) (by decide) (by decide) rfl, fun U hU hW => gpre hPF hA hG _ U hU hW⟩ rfl rfl hl.1 rfl (lv_room (Nat.le_of_ble_eq_true rfl)) dX1_takeItems_24 ⟨(Nat.le_of_ble_eq_true rfl), (Nat.le_of_ble_eq_true rfl)⟩) (fun X ce q Gx H locs hw hmon hG hce hcv hcl => ?_) (fun r11 G10 H locs hw hmon hG => ?_)
  · replace hw := hw hmon
    rcases hw.2 with rfl
    replace hw := hw.1 rfl
    refine vx_catch hown [] ⟨23, 27, 28, 375⟩ [] (by rw [htab]; rfl) (fun z hz => by cases hz) rfl (by decide) (hts _ q1753) (va_Nw.use rfl (hPF.w q1820 rfl)) hce hcv hcl ?_
    refine lv_astore_n (i := 2) (lv' := [(2, .ref q), (1, .ref q1), (0, .ref p0)]) hx hb dX1_takeItems_28 rfl hl (by decide) rfl (fun ls hl => ?_)
    refine lv_aload_n hx hb dX1_takeItems_29 rfl (lv_at hl 2 rfl) ?_
    refine lv_aload_n hx hb dX1_takeItems_30 rfl (lv_at hl 0 rfl) ?_
    refine gp hx hb hts hown hPF hG 1 5 rfl in_X1 tyX1 tyX1_ok nmX1 (by decide) (by decide) (by decide) q544 (fun _ h9 => h9) rfl (gK_mon hG.1.2 h0p0 (by decide)) (v := va_rf (some q)) (narrow_rf _) (fits_rf _ (by decide)) (G' := gsR Gx p0 5 (some q)) rfl rfl grR_off (Nat.le_of_ble_eq_true rfl) (gFs_R 1 5 (fun _ _ _ => rfl)) dX1_takeItems_31 (fun H locs hG => ?_)
    obtain ⟨G9, eG9⟩ : ∃ z, z = gsR Gx p0 5 (some q) := ⟨_, rfl⟩
    rw [← eG9] at hG
    replace hw := hw G9 eG9
    exact vx_throw0 (cls := "java/lang/IllegalArgumentException") (names := excNames) (A := A) hx hb hlt hown (by decide +kernel) (by decide +kernel) (hts _ q642) (hts _ q63) (tw_hat hts hPF tw_X1_3_IllegalArgumentException) (tw_ot (by decide +kernel)) hPF.u.1 hPF.u.2 hG.2 (hl.1.trans hml.symm) dX1_takeItems_34 dX1_takeItems_37 dX1_takeItems_38 dX1_takeItems_41 (by rw [htab]; decide) (Nat.le_of_ble_eq_true rfl) (by (try simp only [List.map, va_rf_cat, gcat_i, gcat_r, gcat_l, gcat_d, gcat_f, gcat_n]); exact Nat.le_of_ble_eq_true rfl) (Nat.le_of_ble_eq_true rfl) (Nat.le_of_ble_eq_true rfl) hlk (fun q t hq hW hz hk => gthrown hG (hw q (Classical.byContradiction fun h => Nat.lt_irrefl _ (Nat.lt_of_lt_of_le (gat_lt (hG.1.1 q h).1) hq))) hz hk) hG.2.2.2 (Nat.le_of_ble_eq_true rfl) (Nat.le_of_ble_eq_true rfl)
  · replace hw := hw hmon
    have hkq1 : gK G10 q1 = 12 := gK_mon hmon hkq1 (by decide)
    have hkq5 : gK G10 q5 = 16 := gK_mon hmon hkq5 (by decide)
    exact xretr (v := r11) hx hb hr hlk hG (Or.inl ⟨_, rfl⟩) hw (Nat.le_of_ble_eq_true rfl) (Nat.le_of_ble_eq_true rfl) dX1_takeItems_27
def gw_X1_read_L21 (E : gE) (p0 : Nat) (post : Int32 → Gh → Prop) (px : String → Nat → Gh → Prop) : Nat → Option Nat → Int32 → Option Nat → Nat → Nat → Gh → Prop
  | 0, _, _, _, _, _, _ => False
  | n + 1, x2, x3, x4, cB, zB, G => ∃ q11, x4 = some q11 ∧ (gC G q11 = 15 ∧ ((cB + 0 ≤ 27000 ∧ zB + 0 ≤ 142000) ∧ (gw_J18_hasNext E (fun r15 G14 => gMon G G14 → ((r15 = 0 → (∃ q16, x2 = some q16 ∧ ((cB + 1 ≤ 27000 ∧ zB + 64 ≤ 142000) ∧ (gw_X1_become E (fun G18 => gMon G14 G18 → ((cB + 1 ≤ 27000 ∧ zB + 64 ≤ 142000) ∧ (post x3 G18))) p0 q16 G14)))) ∧ (¬ r15 = 0 → ((cB + 0 ≤ 27000 ∧ zB + 0 ≤ 142000) ∧ (gw_J18_next E (fun r21 G20 => gMon G14 G20 → (∃ q22, r21 = some q22 ∧ (gChg G20 q22 ∧ (∃ q24, x2 = some q24 ∧ ((cB + 640 ≤ 27000 ∧ zB + 2600 ≤ 142000) ∧ (gw_make E (fun r34 G33 => gMon G20 G33 → (gw_X1_read_L21 E p0 post px  n x2 (x3 + 1) x4 (cB + 640) (zB + 2600) G33)) (fun X q Gx => gMon G20 Gx → (X = "WillowPrinters$Refused" → (∀ G26, G26 = gsI Gx p0 6 x3 → (∀ G27, G27 = gsR G26 p0 7 (some q) → ((cB + 641 ≤ 27000 ∧ zB + 2606 ≤ 142000) ∧ (∀ q, gK G27 q = 0 → px "java/lang/UnsupportedOperationException" q G27))))) ∧ (X = "java/lang/IllegalArgumentException" → (∀ G29, G29 = gsI Gx p0 6 x3 → ((cB + 641 ≤ 27000 ∧ zB + 2606 ≤ 142000) ∧ (∀ q, gK G29 q = 0 → px "java/lang/UnsupportedOperationException" q G29)))) ∧ (X = "java/lang/IllegalStateException" → px X q Gx) ∧ (X = "java/lang/IndexOutOfBoundsException" → (∀ G31, G31 = gsI Gx p0 6 x3 → ((cB + 641 ≤ 27000 ∧ zB + 2606 ≤ 142000) ∧ (∀ q, gK G31 q = 0 → px "java/lang/UnsupportedOperationException" q G31)))) ∧ (X = "WillowPrinters$Refused" ∨ X = "java/lang/IllegalArgumentException" ∨ X = "java/lang/IllegalStateException" ∨ X = "java/lang/IndexOutOfBoundsException")) q22 q24 G20)))))) q11 G14))))) q11 G)))
def gw_X1_read (E : gE) (post : Int32 → Gh → Prop) (px : String → Nat → Gh → Prop) (p0 : Nat) (G : Gh) : Prop := gK G p0 = 1 ∧ (gw_X1_takeItems E (fun r2 G1 => gMon G G1 → (∃ q3, (gR G1 p0 0) = some q3 ∧ (gC G1 q3 = 2 ∧ (gw_X2_copy E (fun r6 G5 => gMon G1 G5 → (∃ q7, r2 = some q7 ∧ (gC G5 q7 = 14 ∧ (gw_J2_iterator E (fun r10 G9 => gMon G5 G9 → ((∃ n, gw_X1_read_L21 E p0 post px  n r6 0 r10 6505 60216 G9))) q7 G5)))) q3 G1)))) px p0 G)
theorem hd_X1_read : yX1_read.cls = RX1 ∧ yX1_read.cls ≠ "java/lang/invoke/MethodHandle" ∧ yX1_read.cls ≠ "java/lang/invoke/VarHandle" ∧ (parseMethodDescriptor yX1_read.desc).map (fun d => d.parameters.length) = some 0 := by decide +kernel
theorem hdn_X1_read : yX1_read.cls ≠ "java/lang/invoke/MethodHandle" ∧ yX1_read.cls ≠ "java/lang/invoke/VarHandle" ∧ (parseMethodDescriptor yX1_read.desc).map (fun d => d.parameters.length) = some 0 := hd_X1_read.2
theorem hdu_X1_read : RX1 ≠ "java/lang/invoke/MethodHandle" ∧ RX1 ≠ "java/lang/invoke/VarHandle" ∧ (parseMethodDescriptor yX1_read.desc).map (fun d => d.parameters.length) = some 0 := by decide +kernel
theorem hds_X1_read : yX1_read.name ≠ "<init>" ∧ (parseMethodDescriptor yX1_read.desc).map (fun d => d.parameters.length) = some 0 := by decide +kernel
set_option maxHeartbeats 1000000 in
set_option maxRecDepth 100000 in
theorem gm_X1_read (l : Launch) (hlt : l.stackTraces = false) (E : gE) (p0 : Nat) (post : Int32 → Gh → Prop) (px : String → Nat → Gh → Prop) (G : Gh) (hw : gw_X1_read E post px p0 G) : gX l E yX1_read (wsW_ yX1_read cX1_read 7 (some .int) [(15, 59, 62, 113), (15, 59, 83, 7), (15, 59, 83, 1)]) ({ frames := 14, cells := 27000, slots := 142000, locals := 3270 } : Room) 27000 142000 [.ref p0] G (gpi post) px := by
  refine xofH (hh := [(15, 59, 62, 113), (15, 59, 83, 7), (15, 59, 83, 1)]) (by decide) (Nat.le_of_ble_eq_true rfl) ?_
  intro p e s m below meth c A ls hx hb hr hlk hml hown hin hts hPF hA htab hG hl
  have hl : lv_has ls 7 [(0, .ref p0)] := hl
  unfold gw_X1_read at hw
  obtain ⟨G0, hG0⟩ : ∃ G0, G0 = G := ⟨_, rfl⟩
  have hG : gS E A G0 s.heap G s.heap [] := by rw [hG0]; exact hG
  rw [show gQ E A G (gpi post) = gQ E A G0 (gpi post) by rw [hG0]]
  rw [show gXC E A G px = gXC E A G0 px by rw [hG0]]
  have h0p0 := hw.1; rw [← hG0] at h0p0
  replace hw := hw.2
  have hL21 : ∀ (n : Nat) (x2 : Option Nat) (x3 : Int32) (x4 : Option Nat) (cB : Nat) (zB : Nat) (G : Gh) (H : Heap) (locs : List Loc) (ls : Array Slot), gS E A G0 s.heap G H locs → lv_has ls 7 [(0, .ref p0), (2, va_rf x2), (3, .int x3), (4, va_rf x4)] → gw_X1_read_L21 E p0 post px n x2 x3 x4 cB zB G → W p l e (headSpec (wsW_ yX1_read cX1_read 7 (some .int) [(15, 59, 62, 113), (15, 59, 83, 7), (15, 59, 83, 1)]) ({ frames := 14, cells := 27000, slots := 142000, locals := 3270 } : Room)).room s m ([.ref p0] : List Value).toArray below meth c H locs cB zB (vx_MQ below (gQ E A G0 (gpi post)) (gXC E A G0 px) ([.ref p0] : List Value).toArray s 27000 142000 A) (F0 m 21 ls []) := by
    intro n
    induction n with
    | zero => exact fun _ _ _ _ _ _ _ _ _ _ _ hw => hw.elim
    | succ n ih =>
      intro x2 x3 x4 cB zB G H locs ls hG hl hw
      unfold gw_X1_read_L21 at hw
      refine ga_ hx hb dX1_read_21 (lv_at hl 3 rfl) ?_
      obtain ⟨q11, hq11, hw⟩ := hw
      refine W.eq (g2 := F0 m 23 ls [.ref q11]) (by rw [hq11]; rfl) ?_
      have hk12 := hw.1
      replace hw := hw.2
      have hb13 := hw.1
      replace hw := hw.2
      refine gc5i hA hG (va_runF (hPF.K.1 15 _ rfl).2 (As := []) (rest := []) ⟨hx, hb, hml, hown, hts⟩ (gm_J18_hasNext l E q11 _ G hw _) (va_cwF 0 hts (lw_F q1876 q727 q729 q79 q731) rfl rfl rfl (hPF.f 0 rfl) hdx_java_util_Iterator_hasNext ⟨Nat.le_of_ble_eq_true rfl, Nat.le_of_ble_eq_true rfl⟩) ⟨gblind, grecv hPF hG hk12 (by decide) (by decide) rfl, fun U hU hW => gpre hPF hA hG _ U hU hW⟩ rfl rfl hl.1 rfl (lv_room (Nat.le_of_ble_eq_true rfl)) dX1_read_23 ⟨(Nat.le_trans (Nat.le_of_eq (by simp only [Nat.add_assoc, Nat.zero_add, Nat.add_zero])) hb13.1), (Nat.le_trans (Nat.le_of_eq (by simp only [Nat.add_assoc, Nat.zero_add, Nat.add_zero])) hb13.2)⟩) (fun r15 G14 H locs hw hmon hG => ?_)
      replace hw := hw hmon
      have hk12 : gC G14 q11 = 15 := gC_mon hmon hk12 (by decide)
      refine lv_if_eq (tgt := 59) hx hb dX1_read_28 (by decide) (fun c_ => ?_) (fun c_ => ?_)
      · replace hw := hw.1 c_
        refine lv_goto (tgt := 98) hx hb dX1_read_59 (by decide) ?_
        refine lv_aload_n hx hb dX1_read_98 rfl (lv_at hl 0 rfl) ?_
        refine ga_n hx hb dX1_read_99 rfl (lv_at hl 1 rfl) ?_
        obtain ⟨q16, hq16, hw⟩ := hw
        refine W.eq (g2 := F0 m 100 ls [.ref q16, .ref p0]) (by rw [hq16]; rfl) ?_
        have hb17 := hw.1
        replace hw := hw.2
        refine gc3v hA hG (va_runV (As := [.ref q16]) (rest := []) ⟨hx, hb, hml, hown, hts⟩ (gm_X1_become l E p0 q16 _ G14 hw _) (cwV 1 hts (lw_V q961 q963 qs6 q55 q964) rfl rfl rfl hd_X1_become ⟨Nat.le_of_ble_eq_true rfl, Nat.le_of_ble_eq_true rfl⟩) ⟨gblind, grecv hPF hG (gC_of (gK_mon hG.1.2 h0p0 (by decide)) (by decide)) (by decide) (by decide) rfl, fun U hU hW => gpre hPF hA hG _ U hU hW⟩ rfl rfl hl.1 rfl (lv_room (Nat.le_of_ble_eq_true rfl)) dX1_read_100 ⟨(Nat.le_trans (Nat.le_of_eq (by simp only [Nat.add_assoc, Nat.zero_add, Nat.add_zero])) hb17.1), (Nat.le_trans (Nat.le_of_eq (by simp only [Nat.add_assoc, Nat.zero_add, Nat.add_zero])) hb17.2)⟩) (fun G18 H locs hw hmon hG => ?_)
        replace hw := hw hmon
        have hk12 : gC G18 q11 = 15 := gC_mon hmon hk12 (by decide)
        refine lv_iload_n hx hb dX1_read_103 rfl (lv_at hl 2 rfl) ?_
        have hb_ := hw.1
        replace hw := hw.2
        exact xreti hx hb hr hlk hG rfl hw (Nat.le_trans (Nat.le_of_eq (by simp only [Nat.add_assoc, Nat.add_zero])) hb_.1) (Nat.le_trans (Nat.le_of_eq (by simp only [Nat.add_assoc, Nat.add_zero])) hb_.2) dX1_read_104
      · replace hw := hw.2 c_
        refine ga_ hx hb dX1_read_31 (lv_at hl 3 rfl) ?_
        refine W.eq (g2 := F0 m 33 ls [.ref q11]) (by rw [hq11]; rfl) ?_
        have hb19 := hw.1
        replace hw := hw.2
        refine gc5r hA hG (va_runF (hPF.K.1 15 _ rfl).2 (As := []) (rest := []) ⟨hx, hb, hml, hown, hts⟩ (gm_J18_next l E q11 _ G14 hw _) (va_cwF 0 hts (lw_F q1878 q736 q738 q79 q740) rfl rfl rfl (hPF.f 1 rfl) hdx_java_util_Iterator_next ⟨Nat.le_of_ble_eq_true rfl, Nat.le_of_ble_eq_true rfl⟩) ⟨gblind, grecv hPF hG hk12 (by decide) (by decide) rfl, fun U hU hW => gpre hPF hA hG _ U hU hW⟩ rfl rfl hl.1 rfl (lv_room (Nat.le_of_ble_eq_true rfl)) dX1_read_33 ⟨(Nat.le_trans (Nat.le_of_eq (by simp only [Nat.add_assoc, Nat.zero_add, Nat.add_zero])) hb19.1), (Nat.le_trans (Nat.le_of_eq (by simp only [Nat.add_assoc, Nat.zero_add, Nat.add_zero])) hb19.2)⟩) (fun r21 G20 H locs hw hmon hG => ?_)
        replace hw := hw hmon
        have hk12 : gC G20 q11 = 15 := gC_mon hmon hk12 (by decide)
        obtain ⟨q22, hq22, hw⟩ := hw
        refine W.eq (g2 := F0 m 38 ls [.ref q22]) (by rw [hq22]; rfl) ?_
        have hC23 := hw.1
        replace hw := hw.2
        refine gcastL hx hb hown hts q1879 hPF hG hC23 dX1_read_38 ?_
        refine lv_astore (lv' := [(5, .ref q22), (0, .ref p0), (2, va_rf x2), (3, .int x3), (4, va_rf x4)]) hx hb dX1_read_41 hl (by decide) (by first | rfl | simp [List.filter, va_rf_cat, gcat_i, gcat_r, gcat_l, gcat_d, gcat_f, gcat_n]) (fun ls hl => ?_)
        refine lv_aload hx hb dX1_read_43 (lv_at hl 0 rfl) ?_
        refine ga_n hx hb dX1_read_45 rfl (lv_at hl 2 rfl) ?_
        obtain ⟨q24, hq24, hw⟩ := hw
        refine W.eq (g2 := F0 m 46 ls [.ref q24, .ref q22]) (by rw [hq24]; rfl) ?_
        have hb25 := hw.1
        replace hw := hw.2
        refine xc5i hA hG (gl_make (rest := []) hx hb hml hlt hts hown q943 hPF hA hG hw hl.1 (lv_room (by (try simp only [List.map, va_rf_cat, gcat_i, gcat_r, gcat_l, gcat_d, gcat_f, gcat_n]); exact Nat.le_of_ble_eq_true rfl)) (Nat.le_of_ble_eq_true rfl) (Nat.le_of_ble_eq_true rfl) (Nat.le_trans (Nat.le_of_eq (by simp only [Nat.add_assoc, Nat.zero_add, Nat.add_zero])) hb25.1) (Nat.le_trans (Nat.le_of_eq (by simp only [Nat.add_assoc, Nat.zero_add, Nat.add_zero])) hb25.2) dX1_read_46) (fun X ce q Gx H locs hw hmon hG hce hcv hcl => ?_) (fun r34 G33 H locs hw hmon hG => ?_)
        · replace hw := hw hmon
          rcases hw.2.2.2.2 with rfl | rfl | rfl | rfl
          · replace hw := hw.1 rfl
            refine vx_catch hown [] ⟨15, 59, 62, 113⟩ [⟨15, 59, 83, 7⟩, ⟨15, 59, 83, 1⟩] (by rw [htab]; rfl) (fun z hz => by cases hz) rfl (by decide) (hts _ q692) (va_Nw.use rfl (hPF.w q662 rfl)) hce hcv hcl ?_
            refine lv_astore (lv' := [(4, .ref q), (5, .ref q22), (0, .ref p0), (2, va_rf x2), (3, .int x3)]) hx hb dX1_read_62 hl (by decide) (by first | rfl | simp [List.filter, va_rf_cat, gcat_i, gcat_r, gcat_l, gcat_d, gcat_f, gcat_n]) (fun ls hl => ?_)
            refine lv_aload_n hx hb dX1_read_64 rfl (lv_at hl 2 rfl) ?_
            refine lv_iload_n hx hb dX1_read_65 rfl (lv_at hl 4 rfl) ?_
            refine gp hx hb hts hown hPF hG 1 6 rfl in_X1 tyX1 tyX1_ok nmX1 (by decide) (by decide) (by decide) q545 (fun _ h9 => h9) rfl (gK_mon hG.1.2 h0p0 (by decide)) (v := .int x3) rfl rfl (G' := gsI Gx p0 6 x3) rfl rfl grI_off (Nat.le_of_ble_eq_true rfl) (gFs_I 1 6 (fun _ _ _ => rfl)) dX1_read_66 (fun H locs hG => ?_)
            obtain ⟨G26, eG26⟩ : ∃ z, z = gsI Gx p0 6 x3 := ⟨_, rfl⟩
            rw [← eG26] at hG
            replace hw := hw G26 eG26
            refine lv_aload_n hx hb dX1_read_69 rfl (lv_at hl 2 rfl) ?_
            refine lv_aload hx hb dX1_read_70 (lv_at hl 0 rfl) ?_
            refine gp hx hb hts hown hPF hG 1 7 rfl in_X1 tyX1 tyX1_ok nmX1 (by decide) (by decide) (by decide) q546 (fun _ h9 => h9) rfl (gK_mon hG.1.2 h0p0 (by decide)) (v := va_rf (some q)) (narrow_rf _) (fits_rf _ (by decide)) (G' := gsR G26 p0 7 (some q)) rfl rfl grR_off (Nat.le_of_ble_eq_true rfl) (gFs_R 1 7 (fun _ _ _ => rfl)) dX1_read_72 (fun H locs hG => ?_)
            obtain ⟨G27, eG27⟩ : ∃ z, z = gsR G26 p0 7 (some q) := ⟨_, rfl⟩
            rw [← eG27] at hG
            replace hw := hw G27 eG27
            have hb28 := hw.1
            replace hw := hw.2
            exact vx_throw0 (cls := "java/lang/UnsupportedOperationException") (names := excNames) (A := A) hx hb hlt hown (by decide +kernel) (by decide +kernel) (hts _ q946) (hts _ q86) (tw_hat hts hPF tw_X1_121_UnsupportedOperationException) (tw_ot (by decide +kernel)) hPF.u.1 hPF.u.2 hG.2 (hl.1.trans hml.symm) dX1_read_75 dX1_read_78 dX1_read_79 dX1_read_82 (by rw [htab]; decide) (Nat.le_of_ble_eq_true rfl) (by (try simp only [List.map, va_rf_cat, gcat_i, gcat_r, gcat_l, gcat_d, gcat_f, gcat_n]); exact Nat.le_of_ble_eq_true rfl) (Nat.le_trans (Nat.le_of_eq (by simp only [Nat.add_assoc, Nat.zero_add, Nat.add_zero])) hb28.1) (Nat.le_trans (Nat.le_of_eq (by simp only [Nat.add_assoc, Nat.zero_add, Nat.add_zero])) hb28.2) hlk (fun q t hq hW hz hk => gthrown hG (hw q (Classical.byContradiction fun h => Nat.lt_irrefl _ (Nat.lt_of_lt_of_le (gat_lt (hG.1.1 q h).1) hq))) hz hk) hG.2.2.2 (Nat.le_trans (Nat.le_of_eq (by simp only [Nat.add_assoc, Nat.zero_add, Nat.add_zero])) hb28.1) (Nat.le_trans (Nat.le_of_eq (by simp only [Nat.add_assoc, Nat.zero_add, Nat.add_zero])) hb28.2)
          · replace hw := hw.2.1 rfl
            refine vx_catch hown [⟨15, 59, 62, 113⟩, ⟨15, 59, 83, 7⟩] ⟨15, 59, 83, 1⟩ [] (by rw [htab]; rfl) (List.forall_mem_cons.mpr ⟨Or.inr ⟨by decide, "WillowPrinters$Refused", hts _ q692, hPF.n 14 rfl⟩, (List.forall_mem_cons.mpr ⟨Or.inr ⟨by decide, "java/lang/IndexOutOfBoundsException", hts _ q1097, hPF.n 11 rfl⟩, (fun z hz => by cases hz)⟩)⟩) rfl (by decide) (hts _ q642) (va_Nw.use rfl (hPF.w q131 rfl)) hce hcv hcl ?_
            refine lv_astore (lv' := [(4, .ref q), (5, .ref q22), (0, .ref p0), (2, va_rf x2), (3, .int x3)]) hx hb dX1_read_83 hl (by decide) (by first | rfl | simp [List.filter, va_rf_cat, gcat_i, gcat_r, gcat_l, gcat_d, gcat_f, gcat_n]) (fun ls hl => ?_)
            refine lv_aload_n hx hb dX1_read_85 rfl (lv_at hl 2 rfl) ?_
            refine lv_iload_n hx hb dX1_read_86 rfl (lv_at hl 4 rfl) ?_
            refine gp hx hb hts hown hPF hG 1 6 rfl in_X1 tyX1 tyX1_ok nmX1 (by decide) (by decide) (by decide) q545 (fun _ h9 => h9) rfl (gK_mon hG.1.2 h0p0 (by decide)) (v := .int x3) rfl rfl (G' := gsI Gx p0 6 x3) rfl rfl grI_off (Nat.le_of_ble_eq_true rfl) (gFs_I 1 6 (fun _ _ _ => rfl)) dX1_read_87 (fun H locs hG => ?_)
            obtain ⟨G29, eG29⟩ : ∃ z, z = gsI Gx p0 6 x3 := ⟨_, rfl⟩
            rw [← eG29] at hG
            replace hw := hw G29 eG29
            have hb30 := hw.1
            replace hw := hw.2
            exact vx_throw0 (cls := "java/lang/UnsupportedOperationException") (names := excNames) (A := A) hx hb hlt hown (by decide +kernel) (by decide +kernel) (hts _ q946) (hts _ q86) (tw_hat hts hPF tw_X1_121_UnsupportedOperationException) (tw_ot (by decide +kernel)) hPF.u.1 hPF.u.2 hG.2 (hl.1.trans hml.symm) dX1_read_90 dX1_read_93 dX1_read_94 dX1_read_97 (by rw [htab]; decide) (Nat.le_of_ble_eq_true rfl) (by (try simp only [List.map, va_rf_cat, gcat_i, gcat_r, gcat_l, gcat_d, gcat_f, gcat_n]); exact Nat.le_of_ble_eq_true rfl) (Nat.le_trans (Nat.le_of_eq (by simp only [Nat.add_assoc, Nat.zero_add, Nat.add_zero])) hb30.1) (Nat.le_trans (Nat.le_of_eq (by simp only [Nat.add_assoc, Nat.zero_add, Nat.add_zero])) hb30.2) hlk (fun q t hq hW hz hk => gthrown hG (hw q (Classical.byContradiction fun h => Nat.lt_irrefl _ (Nat.lt_of_lt_of_le (gat_lt (hG.1.1 q h).1) hq))) hz hk) hG.2.2.2 (Nat.le_trans (Nat.le_of_eq (by simp only [Nat.add_assoc, Nat.zero_add, Nat.add_zero])) hb30.1) (Nat.le_trans (Nat.le_of_eq (by simp only [Nat.add_assoc, Nat.zero_add, Nat.add_zero])) hb30.2)
          · replace hw := hw.2.2.1 rfl
            exact gleaveP (own := "WillowPrinters") hown hlk hG (by rw [htab]; exact (show ∀ z ∈ ([⟨15, 59, 62, 113⟩, ⟨15, 59, 83, 7⟩, ⟨15, 59, 83, 1⟩] : List ExceptionTableEntry), _ from (List.forall_mem_cons.mpr ⟨Or.inr ⟨by decide, "WillowPrinters$Refused", hts _ q692, hPF.n 28 rfl⟩, (List.forall_mem_cons.mpr ⟨Or.inr ⟨by decide, "java/lang/IndexOutOfBoundsException", hts _ q1097, hPF.n 25 rfl⟩, (List.forall_mem_cons.mpr ⟨Or.inr ⟨by decide, "java/lang/IllegalArgumentException", hts _ q642, hPF.n 23 rfl⟩, (fun z hz => by cases hz)⟩)⟩)⟩))) hce hcv hcl hw (Nat.le_trans (Nat.le_of_eq (by simp only [Nat.add_assoc, Nat.zero_add, Nat.add_zero])) hb25.1) (Nat.le_trans (Nat.le_of_eq (by simp only [Nat.add_assoc, Nat.zero_add, Nat.add_zero])) hb25.2)
          · replace hw := hw.2.2.2.1 rfl
            refine vx_catch hown [⟨15, 59, 62, 113⟩] ⟨15, 59, 83, 7⟩ [⟨15, 59, 83, 1⟩] (by rw [htab]; rfl) (List.forall_mem_cons.mpr ⟨Or.inr ⟨by decide, "WillowPrinters$Refused", hts _ q692, hPF.n 35 rfl⟩, (fun z hz => by cases hz)⟩) rfl (by decide) (hts _ q1097) (va_Nw.use rfl (hPF.w q1099 rfl)) hce hcv hcl ?_
            refine lv_astore (lv' := [(4, .ref q), (5, .ref q22), (0, .ref p0), (2, va_rf x2), (3, .int x3)]) hx hb dX1_read_83 hl (by decide) (by first | rfl | simp [List.filter, va_rf_cat, gcat_i, gcat_r, gcat_l, gcat_d, gcat_f, gcat_n]) (fun ls hl => ?_)
            refine lv_aload_n hx hb dX1_read_85 rfl (lv_at hl 2 rfl) ?_
            refine lv_iload_n hx hb dX1_read_86 rfl (lv_at hl 4 rfl) ?_
            refine gp hx hb hts hown hPF hG 1 6 rfl in_X1 tyX1 tyX1_ok nmX1 (by decide) (by decide) (by decide) q545 (fun _ h9 => h9) rfl (gK_mon hG.1.2 h0p0 (by decide)) (v := .int x3) rfl rfl (G' := gsI Gx p0 6 x3) rfl rfl grI_off (Nat.le_of_ble_eq_true rfl) (gFs_I 1 6 (fun _ _ _ => rfl)) dX1_read_87 (fun H locs hG => ?_)
            obtain ⟨G31, eG31⟩ : ∃ z, z = gsI Gx p0 6 x3 := ⟨_, rfl⟩
            rw [← eG31] at hG
            replace hw := hw G31 eG31
            have hb32 := hw.1
            replace hw := hw.2
            exact vx_throw0 (cls := "java/lang/UnsupportedOperationException") (names := excNames) (A := A) hx hb hlt hown (by decide +kernel) (by decide +kernel) (hts _ q946) (hts _ q86) (tw_hat hts hPF tw_X1_121_UnsupportedOperationException) (tw_ot (by decide +kernel)) hPF.u.1 hPF.u.2 hG.2 (hl.1.trans hml.symm) dX1_read_90 dX1_read_93 dX1_read_94 dX1_read_97 (by rw [htab]; decide) (Nat.le_of_ble_eq_true rfl) (by (try simp only [List.map, va_rf_cat, gcat_i, gcat_r, gcat_l, gcat_d, gcat_f, gcat_n]); exact Nat.le_of_ble_eq_true rfl) (Nat.le_trans (Nat.le_of_eq (by simp only [Nat.add_assoc, Nat.zero_add, Nat.add_zero])) hb32.1) (Nat.le_trans (Nat.le_of_eq (by simp only [Nat.add_assoc, Nat.zero_add, Nat.add_zero])) hb32.2) hlk (fun q t hq hW hz hk => gthrown hG (hw q (Classical.byContradiction fun h => Nat.lt_irrefl _ (Nat.lt_of_lt_of_le (gat_lt (hG.1.1 q h).1) hq))) hz hk) hG.2.2.2 (Nat.le_trans (Nat.le_of_eq (by simp only [Nat.add_assoc, Nat.zero_add, Nat.add_zero])) hb32.1) (Nat.le_trans (Nat.le_of_eq (by simp only [Nat.add_assoc, Nat.zero_add, Nat.add_zero])) hb32.2)
        · replace hw := hw hmon
          have hk12 : gC G33 q11 = 15 := gC_mon hmon hk12 (by decide)
          refine lv_istore (lv' := [(6, .int r34), (5, .ref q22), (0, .ref p0), (2, va_rf x2), (3, .int x3), (4, va_rf x4)]) hx hb dX1_read_51 hl (by decide) (by first | rfl | simp [List.filter, va_rf_cat, gcat_i, gcat_r, gcat_l, gcat_d, gcat_f, gcat_n]) (fun ls hl => ?_)
          refine lv_iinc (v := x3 + 1) (lv' := [(3, .int (x3 + 1)), (6, .int r34), (5, .ref q22), (0, .ref p0), (2, va_rf x2), (4, va_rf x4)]) hx hb dX1_read_53 hl (k := 4) rfl rfl (by decide) (by first | rfl | simp [List.filter, va_rf_cat, gcat_i, gcat_r, gcat_l, gcat_d, gcat_f, gcat_n]) (fun ls hl => ?_)
          refine lv_goto (tgt := 21) hx hb dX1_read_56 (by decide) ?_
          refine W.cs (cells' := cB + 640) (slots' := zB + 2600) (by simp only [Nat.zero_add, Nat.add_zero, Nat.add_assoc]) (by simp only [Nat.zero_add, Nat.add_zero, Nat.add_assoc]) ?_
          exact ih x2 (x3 + 1) x4 (cB + 640) (zB + 2600) G33 _ _ ls hG (lv_sub hl [3, 4, 0, 5] rfl) hw
  refine lv_aload_n hx hb dX1_read_0 rfl (lv_at hl 0 rfl) ?_
  refine xc3r hA hG (vx_runVX (As := []) (rest := []) ⟨hx, hb, hml, hown, hts⟩ (gm_X1_takeItems l hlt E p0 _ _ G hw _) (vx_cwVW 0 hts (lw_VW q1749 q1751 qs11 q55 q1752) rfl rfl rfl hd_X1_takeItems ⟨Nat.le_of_ble_eq_true rfl, Nat.le_of_ble_eq_true rfl⟩) ⟨gblind, grecv hPF hG (gC_of (gK_mon hG.1.2 h0p0 (by decide)) (by decide)) (by decide) (by decide) rfl, fun U hU hW => gpre hPF hA hG _ U hU hW⟩ rfl rfl hl.1 rfl (lv_room (Nat.le_of_ble_eq_true rfl)) dX1_read_1 ⟨(Nat.le_of_ble_eq_true rfl), (Nat.le_of_ble_eq_true rfl)⟩) (fun X ce q Gx H locs hw hmon hG hce hcv hcl => ?_) (fun r2 G1 H locs hw hmon hG => ?_)
  · exact gleave hlk hG (by rw [htab]; decide) hce hcv hcl hw (Nat.le_of_ble_eq_true rfl) (Nat.le_of_ble_eq_true rfl)
  · replace hw := hw hmon
    refine gt_n (i := 1) (lv' := [(1, va_rf r2), (0, .ref p0)]) hx hb dX1_read_4 rfl hl (by decide) rfl (fun ls hl => ?_)
    refine lv_aload_n hx hb dX1_read_5 rfl (lv_at hl 1 rfl) ?_
    refine gg hx hb hts hown hPF hG 1 0 rfl in_X1 (by decide) (by decide) (by decide) q539 (fun _ h9 => h9) (gC_of (gK_mon hG.1.2 h0p0 (by decide)) (by decide)) (v := va_rf (gR G1 p0 0)) rfl dX1_read_6 ?_
    obtain ⟨q3, hq3, hw⟩ := hw
    refine W.eq (g2 := F0 m 9 ls [.ref q3]) (by rw [hq3]; rfl) ?_
    have hk4 := hw.1
    replace hw := hw.2
    refine gc3r hA hG (va_runV (As := []) (rest := []) ⟨hx, hb, hml, hown, hts⟩ (gm_X2_copy l E q3 _ G1 hw _) (cwV 0 hts (lw_V q693 q694 q695 q56 q696) rfl rfl rfl hd_X2_copy ⟨Nat.le_of_ble_eq_true rfl, Nat.le_of_ble_eq_true rfl⟩) ⟨gblind, grecv hPF hG hk4 (by decide) (by decide) rfl, fun U hU hW => gpre hPF hA hG _ U hU hW⟩ rfl rfl hl.1 rfl (lv_room (Nat.le_of_ble_eq_true rfl)) dX1_read_9 ⟨(Nat.le_of_ble_eq_true rfl), (Nat.le_of_ble_eq_true rfl)⟩) (fun r6 G5 H locs hw hmon hG => ?_)
    replace hw := hw hmon
    have hk4 : gC G5 q3 = 2 := gC_mon hmon hk4 (by decide)
    refine gt_n (i := 2) (lv' := [(2, va_rf r6), (1, va_rf r2), (0, .ref p0)]) hx hb dX1_read_12 rfl hl (by decide) (by first | rfl | simp [List.filter, va_rf_cat, gcat_i, gcat_r, gcat_l, gcat_d, gcat_f, gcat_n]) (fun ls hl => ?_)
    refine lv_iconst (v := 0) hx hb dX1_read_13 (by decide) ?_
    refine lv_istore_n (i := 3) (lv' := [(3, .int 0), (2, va_rf r6), (1, va_rf r2), (0, .ref p0)]) hx hb dX1_read_14 rfl hl (by decide) (by first | rfl | simp [List.filter, va_rf_cat, gcat_i, gcat_r, gcat_l, gcat_d, gcat_f, gcat_n]) (fun ls hl => ?_)
    refine ga_n hx hb dX1_read_15 rfl (lv_at hl 2 rfl) ?_
    obtain ⟨q7, hq7, hw⟩ := hw
    refine W.eq (g2 := F0 m 16 ls [.ref q7]) (by rw [hq7]; rfl) ?_
    have hk8 := hw.1
    replace hw := hw.2
    refine gc3r hA hG (va_runV (As := []) (rest := []) ⟨hx, hb, hml, hown, hts⟩ (gm_J2_iterator l E q7 _ G5 hw _) (cwV 0 hts (lw_V q1874 q700 q701 q59 q702) rfl rfl rfl hd_J2_iterator ⟨Nat.le_of_ble_eq_true rfl, Nat.le_of_ble_eq_true rfl⟩) ⟨gblind, grecv hPF hG hk8 (by decide) (by decide) rfl, fun U hU hW => gpre hPF hA hG _ U hU hW⟩ rfl rfl hl.1 rfl (lv_room (Nat.le_of_ble_eq_true rfl)) dX1_read_16 ⟨(Nat.le_of_ble_eq_true rfl), (Nat.le_of_ble_eq_true rfl)⟩) (fun r10 G9 H locs hw hmon hG => ?_)
    replace hw := hw hmon
    have hk4 : gC G9 q3 = 2 := gC_mon hmon hk4 (by decide)
    have hk8 : gC G9 q7 = 14 := gC_mon hmon hk8 (by decide)
    refine gt_ (lv' := [(4, va_rf r10), (3, .int 0), (2, va_rf r6), (1, va_rf r2), (0, .ref p0)]) hx hb dX1_read_19 hl (by decide) (by first | rfl | simp [List.filter, va_rf_cat, gcat_i, gcat_r, gcat_l, gcat_d, gcat_f, gcat_n]) (fun ls hl => ?_)
    refine W.cs (cells' := 6505) (slots' := 60216) (by simp only [Nat.zero_add, Nat.add_zero, Nat.add_assoc]) (by simp only [Nat.zero_add, Nat.add_zero, Nat.add_assoc]) ?_
    obtain ⟨n0, hw⟩ := hw
    exact hL21  n0 r6 0 r10 6505 60216 G9 _ _ ls hG (lv_sub hl [4, 2, 1, 0] rfl) hw
