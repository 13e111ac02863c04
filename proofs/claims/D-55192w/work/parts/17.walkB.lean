/-! walks over the ghost heap: walkB -/
set_option maxRecDepth 100000
def gw_J7_newCapacity (E : gE) (post : Int32 → Gh → Prop) (p0 : Nat) (p1 : Int32) (G : Gh) : Prop := gK G p0 = 16 ∧ (∃ q1, (gR G p0 0) = some q1 ∧ (gC G q1 = 32 ∧ (gw_J11_newLength E (fun r4 G3 => gMon G G3 → ((¬ r4 = 2147483647 → (post (r4 >>> ((gI G3 p0 1) &&& 31)) G3)) ∧ (r4 = 2147483647 → (False)))) (nI (gL G q1)) ((p1 <<< ((gI G p0 1) &&& 31)) - (nI (gL G q1))) ((nI (gL G q1)) + ((2 : Int32) <<< ((gI G p0 1) &&& 31))) G)))
theorem hd_J7_newCapacity : yJ7_newCapacity.cls = RJ7 ∧ yJ7_newCapacity.cls ≠ "java/lang/invoke/MethodHandle" ∧ yJ7_newCapacity.cls ≠ "java/lang/invoke/VarHandle" ∧ (parseMethodDescriptor yJ7_newCapacity.desc).map (fun d => d.parameters.length) = some 1 := by decide +kernel
theorem hdn_J7_newCapacity : yJ7_newCapacity.cls ≠ "java/lang/invoke/MethodHandle" ∧ yJ7_newCapacity.cls ≠ "java/lang/invoke/VarHandle" ∧ (parseMethodDescriptor yJ7_newCapacity.desc).map (fun d => d.parameters.length) = some 1 := hd_J7_newCapacity.2
theorem hdu_J7_newCapacity : RJ7 ≠ "java/lang/invoke/MethodHandle" ∧ RJ7 ≠ "java/lang/invoke/VarHandle" ∧ (parseMethodDescriptor yJ7_newCapacity.desc).map (fun d => d.parameters.length) = some 1 := by decide +kernel
theorem hds_J7_newCapacity : yJ7_newCapacity.name ≠ "<init>" ∧ (parseMethodDescriptor yJ7_newCapacity.desc).map (fun d => d.parameters.length) = some 1 := by decide +kernel
set_option maxHeartbeats 1000000 in
set_option maxRecDepth 100000 in
theorem gm_J7_newCapacity (l : Launch) (E : gE) (p0 : Nat) (p1 : Int32) (post : Int32 → Gh → Prop) (G : Gh) (hw : gw_J7_newCapacity E post p0 p1 G) : gM l E yJ7_newCapacity (ws_ yJ7_newCapacity cJ7_newCapacity 6 (some .int)) ({ frames := 2, cells := 0, slots := 0, locals := 63 } : Room) 0 0 [.ref p0, .int p1] G (gpi post) := by
  refine gof (by decide) (Nat.le_of_ble_eq_true rfl) ?_
  intro p e s m below meth c A ls hx hb hr hlk hml hown hin hts hPF hA hG hl
  have hl : lv_has ls 6 [(0, .ref p0), (1, .int p1)] := hl
  unfold gw_J7_newCapacity at hw
  obtain ⟨G0, hG0⟩ : ∃ G0, G0 = G := ⟨_, rfl⟩
  have hG : gS E A G0 s.heap G s.heap [] := by rw [hG0]; exact hG
  rw [show gQ E A G (gpi post) = gQ E A G0 (gpi post) by rw [hG0]]
  have h0p0 := hw.1; rw [← hG0] at h0p0
  replace hw := hw.2
  refine lv_aload_n hx hb dJ7_newCapacity_0 rfl (lv_at hl 0 rfl) ?_
  refine gg hx hb hts hown hPF hG 16 0 rfl in_J8 (by decide) (by decide) (by decide) q194 (fun _ h9 => h9) (gC_of (gK_mon hG.1.2 h0p0 (by decide)) (by decide)) (v := va_rf (gR G p0 0)) rfl dJ7_newCapacity_1 ?_
  obtain ⟨q1, hq1, hw⟩ := hw
  refine W.eq (g2 := F0 m 4 ls [.ref q1]) (by rw [hq1]; rfl) ?_
  have hk2 := hw.1
  replace hw := hw.2
  refine galen hx hb hPF hG hk2 (by decide) (by decide) dJ7_newCapacity_4 ?_
  refine lv_istore_n (i := 2) (lv' := [(2, .int (nI (gL G q1))), (0, .ref p0), (1, .int p1)]) hx hb dJ7_newCapacity_5 rfl hl (by decide) rfl (fun ls hl => ?_)
  refine lv_iload_n hx hb dJ7_newCapacity_6 rfl (lv_at hl 2 rfl) ?_
  refine lv_aload_n hx hb dJ7_newCapacity_7 rfl (lv_at hl 1 rfl) ?_
  refine gg hx hb hts hown hPF hG 16 1 rfl in_J8 (by decide) (by decide) (by decide) q195 (fun _ h9 => h9) (gC_of (gK_mon hG.1.2 h0p0 (by decide)) (by decide)) (v := .int (gI G p0 1)) rfl dJ7_newCapacity_8 ?_
  refine lv_ishl hx hb dJ7_newCapacity_11 ?_
  refine lv_istore_n (i := 3) (lv' := [(3, .int (p1 <<< ((gI G p0 1) &&& 31))), (2, .int (nI (gL G q1))), (0, .ref p0), (1, .int p1)]) hx hb dJ7_newCapacity_12 rfl hl (by decide) rfl (fun ls hl => ?_)
  refine lv_iload_n hx hb dJ7_newCapacity_13 rfl (lv_at hl 0 rfl) ?_
  refine lv_iload_n hx hb dJ7_newCapacity_14 rfl (lv_at hl 1 rfl) ?_
  refine lv_isub hx hb dJ7_newCapacity_15 ?_
  refine lv_istore (lv' := [(4, .int ((p1 <<< ((gI G p0 1) &&& 31)) - (nI (gL G q1)))), (3, .int (p1 <<< ((gI G p0 1) &&& 31))), (2, .int (nI (gL G q1))), (0, .ref p0), (1, .int p1)]) hx hb dJ7_newCapacity_16 hl (by decide) rfl (fun ls hl => ?_)
  refine lv_iload_n hx hb dJ7_newCapacity_18 rfl (lv_at hl 2 rfl) ?_
  refine lv_iload hx hb dJ7_newCapacity_19 (lv_at hl 0 rfl) ?_
  refine lv_iload_n hx hb dJ7_newCapacity_21 rfl (lv_at hl 2 rfl) ?_
  refine lv_iconst (v := 2) hx hb dJ7_newCapacity_22 (by decide) ?_
  refine lv_aload_n hx hb dJ7_newCapacity_23 rfl (lv_at hl 3 rfl) ?_
  refine gg hx hb hts hown hPF hG 16 1 rfl in_J8 (by decide) (by decide) (by decide) q195 (fun _ h9 => h9) (gC_of (gK_mon hG.1.2 h0p0 (by decide)) (by decide)) (v := .int (gI G p0 1)) rfl dJ7_newCapacity_24 ?_
  refine lv_ishl hx hb dJ7_newCapacity_27 ?_
  refine lv_iadd hx hb dJ7_newCapacity_28 ?_
  refine gc3i hA hG (va_runS (As := [.int (nI (gL G q1)), .int ((p1 <<< ((gI G p0 1) &&& 31)) - (nI (gL G q1))), .int ((nI (gL G q1)) + ((2 : Int32) <<< ((gI G p0 1) &&& 31)))]) (rest := []) ⟨hx, hb, hml, hown, hts⟩ (gm_J11_newLength l E (nI (gL G q1)) ((p1 <<< ((gI G p0 1) &&& 31)) - (nI (gL G q1))) ((nI (gL G q1)) + ((2 : Int32) <<< ((gI G p0 1) &&& 31))) _ G hw _) (va_cwS 3 hts (lw_S q228 q229 q68 q230) rfl rfl rfl hd_J11_newLength ⟨Nat.le_of_ble_eq_true rfl, Nat.le_of_ble_eq_true rfl⟩) ⟨gblind, fun U hU hW => gpre hPF hA hG _ U hU hW⟩ rfl rfl hl.1 rfl (lv_room (Nat.le_of_ble_eq_true rfl)) dJ7_newCapacity_29 ⟨(Nat.le_of_ble_eq_true rfl), (Nat.le_of_ble_eq_true rfl)⟩) (fun r4 G3 H locs hw hmon hG => ?_)
  replace hw := hw hmon
  have hk2 : gC G3 q1 = 32 := gC_mon hmon hk2 (by decide)
  refine lv_istore (lv' := [(5, .int r4), (4, .int ((p1 <<< ((gI G p0 1) &&& 31)) - (nI (gL G q1)))), (3, .int (p1 <<< ((gI G p0 1) &&& 31))), (2, .int (nI (gL G q1))), (0, .ref p0), (1, .int p1)]) hx hb dJ7_newCapacity_32 hl (by decide) rfl (fun ls hl => ?_)
  refine lv_iload hx hb dJ7_newCapacity_34 (lv_at hl 0 rfl) ?_
  refine lv_ldc (v := 2147483647) hx hb hown (hts _ q238) dJ7_newCapacity_36 ?_
  refine lv_icmp_ne (tgt := 51) hx hb dJ7_newCapacity_38 (by decide) (fun c_ => ?_) (fun c_ => ?_)
  · replace hw := hw.1 c_
    refine lv_iload hx hb dJ7_newCapacity_51 (lv_at hl 0 rfl) ?_
    refine lv_aload_n hx hb dJ7_newCapacity_53 rfl (lv_at hl 4 rfl) ?_
    refine gg hx hb hts hown hPF hG 16 1 rfl in_J8 (by decide) (by decide) (by decide) q195 (fun _ h9 => h9) (gC_of (gK_mon hG.1.2 h0p0 (by decide)) (by decide)) (v := .int (gI G3 p0 1)) rfl dJ7_newCapacity_54 ?_
    refine lv_ishr hx hb dJ7_newCapacity_57 ?_
    exact greti hx hb hr hlk hG rfl hw (Nat.le_of_ble_eq_true rfl) (Nat.le_of_ble_eq_true rfl) dJ7_newCapacity_58
  · replace hw := hw.2 c_
    exact hw.elim
def gw_J7_ensureCapacityInternal (E : gE) (post : Gh → Prop) (p0 : Nat) (p1 : Int32) (G : Gh) : Prop := gK G p0 = 16 ∧ (∃ q1, (gR G p0 0) = some q1 ∧ (gC G q1 = 32 ∧ (((p1 - ((nI (gL G q1)) >>> ((gI G p0 1) &&& 31))) ≤ 0 → (post G)) ∧ (¬ (p1 - ((nI (gL G q1)) >>> ((gI G p0 1) &&& 31))) ≤ 0 → (gw_J7_newCapacity E (fun r4 G3 => gMon G G3 → (gw_J13_copyOf E (fun r6 G5 => gMon G3 G5 → (∀ G7, G7 = gsR G5 p0 0 r6 → (post G7))) q1 (r4 <<< ((gI G3 p0 1) &&& 31)) G3)) p0 p1 G)))))
theorem hd_J7_ensureCapacityInternal : yJ7_ensureCapacityInternal.cls = RJ7 ∧ yJ7_ensureCapacityInternal.cls ≠ "java/lang/invoke/MethodHandle" ∧ yJ7_ensureCapacityInternal.cls ≠ "java/lang/invoke/VarHandle" ∧ (parseMethodDescriptor yJ7_ensureCapacityInternal.desc).map (fun d => d.parameters.length) = some 1 := by decide +kernel
theorem hdn_J7_ensureCapacityInternal : yJ7_ensureCapacityInternal.cls ≠ "java/lang/invoke/MethodHandle" ∧ yJ7_ensureCapacityInternal.cls ≠ "java/lang/invoke/VarHandle" ∧ (parseMethodDescriptor yJ7_ensureCapacityInternal.desc).map (fun d => d.parameters.length) = some 1 := hd_J7_ensureCapacityInternal.2
theorem hdu_J7_ensureCapacityInternal : RJ7 ≠ "java/lang/invoke/MethodHandle" ∧ RJ7 ≠ "java/lang/invoke/VarHandle" ∧ (parseMethodDescriptor yJ7_ensureCapacityInternal.desc).map (fun d => d.parameters.length) = some 1 := by decide +kernel
theorem hds_J7_ensureCapacityInternal : yJ7_ensureCapacityInternal.name ≠ "<init>" ∧ (parseMethodDescriptor yJ7_ensureCapacityInternal.desc).map (fun d => d.parameters.length) = some 1 := by decide +kernel
set_option maxHeartbeats 1000000 in
set_option maxRecDepth 100000 in
theorem gm_J7_ensureCapacityInternal (l : Launch) (E : gE) (p0 : Nat) (p1 : Int32) (post : Gh → Prop) (G : Gh) (hw : gw_J7_ensureCapacityInternal E post p0 p1 G) : gM l E yJ7_ensureCapacityInternal (ws_ yJ7_ensureCapacityInternal cJ7_ensureCapacityInternal 3 none) ({ frames := 3, cells := 1, slots := 200, locals := 88 } : Room) 1 200 [.ref p0, .int p1] G (gpv post) := by
  refine gof (by decide) (Nat.le_of_ble_eq_true rfl) ?_
  intro p e s m below meth c A ls hx hb hr hlk hml hown hin hts hPF hA hG hl
  have hl : lv_has ls 3 [(0, .ref p0), (1, .int p1)] := hl
  unfold gw_J7_ensureCapacityInternal at hw
  obtain ⟨G0, hG0⟩ : ∃ G0, G0 = G := ⟨_, rfl⟩
  have hG : gS E A G0 s.heap G s.heap [] := by rw [hG0]; exact hG
  rw [show gQ E A G (gpv post) = gQ E A G0 (gpv post) by rw [hG0]]
  have h0p0 := hw.1; rw [← hG0] at h0p0
  replace hw := hw.2
  refine lv_aload_n hx hb dJ7_ensureCapacityInternal_0 rfl (lv_at hl 0 rfl) ?_
  refine gg hx hb hts hown hPF hG 16 0 rfl in_J8 (by decide) (by decide) (by decide) q194 (fun _ h9 => h9) (gC_of (gK_mon hG.1.2 h0p0 (by decide)) (by decide)) (v := va_rf (gR G p0 0)) rfl dJ7_ensureCapacityInternal_1 ?_
  obtain ⟨q1, hq1, hw⟩ := hw
  refine W.eq (g2 := F0 m 4 ls [.ref q1]) (by rw [hq1]; rfl) ?_
  have hk2 := hw.1
  replace hw := hw.2
  refine galen hx hb hPF hG hk2 (by decide) (by decide) dJ7_ensureCapacityInternal_4 ?_
  refine lv_aload_n hx hb dJ7_ensureCapacityInternal_5 rfl (lv_at hl 0 rfl) ?_
  refine gg hx hb hts hown hPF hG 16 1 rfl in_J8 (by decide) (by decide) (by decide) q195 (fun _ h9 => h9) (gC_of (gK_mon hG.1.2 h0p0 (by decide)) (by decide)) (v := .int (gI G p0 1)) rfl dJ7_ensureCapacityInternal_6 ?_
  refine lv_ishr hx hb dJ7_ensureCapacityInternal_9 ?_
  refine lv_istore_n (i := 2) (lv' := [(2, .int ((nI (gL G q1)) >>> ((gI G p0 1) &&& 31))), (0, .ref p0), (1, .int p1)]) hx hb dJ7_ensureCapacityInternal_10 rfl hl (by decide) rfl (fun ls hl => ?_)
  refine lv_iload_n hx hb dJ7_ensureCapacityInternal_11 rfl (lv_at hl 2 rfl) ?_
  refine lv_iload_n hx hb dJ7_ensureCapacityInternal_12 rfl (lv_at hl 0 rfl) ?_
  refine lv_isub hx hb dJ7_ensureCapacityInternal_13 ?_
  refine lv_if_le (tgt := 38) hx hb dJ7_ensureCapacityInternal_14 (by decide) (fun c_ => ?_) (fun c_ => ?_)
  · replace hw := hw.1 c_
    exact gretv hx hb hr hlk hG hw (Nat.le_of_ble_eq_true rfl) (Nat.le_of_ble_eq_true rfl) dJ7_ensureCapacityInternal_38
  · replace hw := hw.2 c_
    refine lv_aload_n hx hb dJ7_ensureCapacityInternal_17 rfl (lv_at hl 1 rfl) ?_
    refine lv_aload_n hx hb dJ7_ensureCapacityInternal_18 rfl (lv_at hl 1 rfl) ?_
    refine gg hx hb hts hown hPF hG 16 0 rfl in_J8 (by decide) (by decide) (by decide) q194 (fun _ h9 => h9) (gC_of (gK_mon hG.1.2 h0p0 (by decide)) (by decide)) (v := va_rf (gR G p0 0)) rfl dJ7_ensureCapacityInternal_19 ?_
    refine lv_aload_n hx hb dJ7_ensureCapacityInternal_22 rfl (lv_at hl 1 rfl) ?_
    refine lv_iload_n hx hb dJ7_ensureCapacityInternal_23 rfl (lv_at hl 2 rfl) ?_
    refine gc3i hA hG (va_runV (As := [.int p1]) (rest := [va_rf (gR G p0 0), .ref p0]) ⟨hx, hb, hml, hown, hts⟩ (gm_J7_newCapacity l E p0 p1 _ G hw _) (gcwP 1 hts (lw_meth q227) rfl rfl rfl (hts _ q64) (hts _ q224) (hts _ q226) (gsel_pr hts hPF rfl q226 q225) hdn_J7_newCapacity ⟨Nat.le_of_ble_eq_true rfl, Nat.le_of_ble_eq_true rfl⟩) ⟨gblind, grecv hPF hG (gC_of (gK_mon hG.1.2 h0p0 (by decide)) (by decide)) (by decide) (by decide) rfl, fun U hU hW => gpre hPF hA hG _ U hU hW⟩ rfl rfl hl.1 rfl (lv_room (by (try simp only [List.map, va_rf_cat, gcat_i, gcat_r, gcat_l, gcat_d, gcat_f, gcat_n]); exact Nat.le_of_ble_eq_true rfl)) dJ7_ensureCapacityInternal_24 ⟨(Nat.le_of_ble_eq_true rfl), (Nat.le_of_ble_eq_true rfl)⟩) (fun r4 G3 H locs hw hmon hG => ?_)
    replace hw := hw hmon
    have hk2 : gC G3 q1 = 32 := gC_mon hmon hk2 (by decide)
    refine lv_aload_n hx hb dJ7_ensureCapacityInternal_27 rfl (lv_at hl 1 rfl) ?_
    refine gg hx hb hts hown hPF hG 16 1 rfl in_J8 (by decide) (by decide) (by decide) q195 (fun _ h9 => h9) (gC_of (gK_mon hG.1.2 h0p0 (by decide)) (by decide)) (v := .int (gI G3 p0 1)) rfl dJ7_ensureCapacityInternal_28 ?_
    refine lv_ishl hx hb dJ7_ensureCapacityInternal_31 ?_
    refine W.eq (g2 := F0 m 32 ls [.int (r4 <<< ((gI G3 p0 1) &&& 31)), .ref q1, .ref p0]) (by rw [hq1]; rfl) ?_
    refine gc3r hA hG (va_runS (As := [.ref q1, .int (r4 <<< ((gI G3 p0 1) &&& 31))]) (rest := [.ref p0]) ⟨hx, hb, hml, hown, hts⟩ (gm_J13_copyOf l E q1 (r4 <<< ((gI G3 p0 1) &&& 31)) _ G3 hw _) (va_cwS 2 hts (lw_S q239 q240 q70 q241) rfl rfl rfl hd_J13_copyOf ⟨Nat.le_of_ble_eq_true rfl, Nat.le_of_ble_eq_true rfl⟩) ⟨gblind, fun U hU hW => gpre hPF hA hG _ U hU hW⟩ rfl rfl hl.1 rfl (lv_room (Nat.le_of_ble_eq_true rfl)) dJ7_ensureCapacityInternal_32 ⟨(Nat.le_of_ble_eq_true rfl), (Nat.le_of_ble_eq_true rfl)⟩) (fun r6 G5 H locs hw hmon hG => ?_)
    replace hw := hw hmon
    have hk2 : gC G5 q1 = 32 := gC_mon hmon hk2 (by decide)
    refine gp hx hb hts hown hPF hG 16 0 rfl in_J8 tyJ8 tyJ8_ok nmJ8 (by decide) (by decide) (by decide) q194 (fun _ h9 => h9) rfl (gK_mon hG.1.2 h0p0 (by decide)) (v := va_rf r6) (narrow_rf _) (fits_rf _ (by decide)) (G' := gsR G5 p0 0 r6) rfl rfl grR_off (Nat.le_of_ble_eq_true rfl) (gFs_R 16 0 (fun _ _ _ => rfl)) dJ7_ensureCapacityInternal_35 (fun H locs hG => ?_)
    obtain ⟨G7, eG7⟩ : ∃ z, z = gsR G5 p0 0 r6 := ⟨_, rfl⟩
    rw [← eG7] at hG
    replace hw := hw G7 eG7
    have hk2 : gC G7 q1 = 32 := by rw [eG7]; exact hk2
    exact gretv hx hb hr hlk hG hw (Nat.le_of_ble_eq_true rfl) (Nat.le_of_ble_eq_true rfl) dJ7_ensureCapacityInternal_38
def gw_J7_inflateIfNeededFor (E : gE) (post : Gh → Prop) (p0 : Nat) (p1 : Nat) (G : Gh) : Prop := gK G p0 = 16 ∧ (gC G p1 = 17 ∧ (gw_J9_coder E (fun r2 G1 => gMon G G1 → (((gI G p0 1) = r2 → (post G1)) ∧ (¬ (gI G p0 1) = r2 → (False)))) p1 G))
theorem hd_J7_inflateIfNeededFor : yJ7_inflateIfNeededFor.cls = RJ7 ∧ yJ7_inflateIfNeededFor.cls ≠ "java/lang/invoke/MethodHandle" ∧ yJ7_inflateIfNeededFor.cls ≠ "java/lang/invoke/VarHandle" ∧ (parseMethodDescriptor yJ7_inflateIfNeededFor.desc).map (fun d => d.parameters.length) = some 1 := by decide +kernel
theorem hdn_J7_inflateIfNeededFor : yJ7_inflateIfNeededFor.cls ≠ "java/lang/invoke/MethodHandle" ∧ yJ7_inflateIfNeededFor.cls ≠ "java/lang/invoke/VarHandle" ∧ (parseMethodDescriptor yJ7_inflateIfNeededFor.desc).map (fun d => d.parameters.length) = some 1 := hd_J7_inflateIfNeededFor.2
theorem hdu_J7_inflateIfNeededFor : RJ7 ≠ "java/lang/invoke/MethodHandle" ∧ RJ7 ≠ "java/lang/invoke/VarHandle" ∧ (parseMethodDescriptor yJ7_inflateIfNeededFor.desc).map (fun d => d.parameters.length) = some 1 := by decide +kernel
theorem hds_J7_inflateIfNeededFor : yJ7_inflateIfNeededFor.name ≠ "<init>" ∧ (parseMethodDescriptor yJ7_inflateIfNeededFor.desc).map (fun d => d.parameters.length) = some 1 := by decide +kernel
set_option maxHeartbeats 1000000 in
set_option maxRecDepth 100000 in
theorem gm_J7_inflateIfNeededFor (l : Launch) (E : gE) (p0 : Nat) (p1 : Nat) (post : Gh → Prop) (G : Gh) (hw : gw_J7_inflateIfNeededFor E post p0 p1 G) : gM l E yJ7_inflateIfNeededFor (ws_ yJ7_inflateIfNeededFor cJ7_inflateIfNeededFor 2 none) ({ frames := 1, cells := 0, slots := 0, locals := 20 } : Room) 0 0 [.ref p0, .ref p1] G (gpv post) := by
  refine gof (by decide) (Nat.le_of_ble_eq_true rfl) ?_
  intro p e s m below meth c A ls hx hb hr hlk hml hown hin hts hPF hA hG hl
  have hl : lv_has ls 2 [(0, .ref p0), (1, .ref p1)] := hl
  unfold gw_J7_inflateIfNeededFor at hw
  obtain ⟨G0, hG0⟩ : ∃ G0, G0 = G := ⟨_, rfl⟩
  have hG : gS E A G0 s.heap G s.heap [] := by rw [hG0]; exact hG
  rw [show gQ E A G (gpv post) = gQ E A G0 (gpv post) by rw [hG0]]
  have h0p0 := hw.1; rw [← hG0] at h0p0
  replace hw := hw.2
  have h0p1 := hw.1; rw [← hG0] at h0p1
  replace hw := hw.2
  refine va_gets (v := .int 1) hx hb (hPF.z 0 rfl) hG.2 hown (hts _ q185) (fun _ h9 => h9) dJ7_inflateIfNeededFor_0 ?_
  refine lv_if_eq (tgt := 21) hx hb dJ7_inflateIfNeededFor_3 (by decide) (fun c_ => absurd c_ (by decide)) (fun c_ => ?_)
  refine lv_aload_n hx hb dJ7_inflateIfNeededFor_6 rfl (lv_at hl 0 rfl) ?_
  refine gg hx hb hts hown hPF hG 16 1 rfl in_J8 (by decide) (by decide) (by decide) q195 (fun _ h9 => h9) (gC_of (gK_mon hG.1.2 h0p0 (by decide)) (by decide)) (v := .int (gI G p0 1)) rfl dJ7_inflateIfNeededFor_7 ?_
  refine lv_aload_n hx hb dJ7_inflateIfNeededFor_10 rfl (lv_at hl 1 rfl) ?_
  refine gc3i hA hG (va_runV (As := []) (rest := [.int (gI G p0 1)]) ⟨hx, hb, hml, hown, hts⟩ (gm_J9_coder l E p1 _ G hw _) (cwV 0 hts (lw_V q303 q291 q292 q66 q293) rfl rfl rfl hd_J9_coder ⟨Nat.le_of_ble_eq_true rfl, Nat.le_of_ble_eq_true rfl⟩) ⟨gblind, grecv hPF hG (gC_mon hG.1.2 h0p1 (by decide)) (by decide) (by decide) rfl, fun U hU hW => gpre hPF hA hG _ U hU hW⟩ rfl rfl hl.1 rfl (lv_room (Nat.le_of_ble_eq_true rfl)) dJ7_inflateIfNeededFor_11 ⟨(Nat.le_of_ble_eq_true rfl), (Nat.le_of_ble_eq_true rfl)⟩) (fun r2 G1 H locs hw hmon hG => ?_)
  replace hw := hw hmon
  refine lv_icmp_eq (tgt := 21) hx hb dJ7_inflateIfNeededFor_14 (by decide) (fun c_ => ?_) (fun c_ => ?_)
  · replace hw := hw.1 c_
    exact gretv hx hb hr hlk hG hw (Nat.le_of_ble_eq_true rfl) (Nat.le_of_ble_eq_true rfl) dJ7_inflateIfNeededFor_21
  · replace hw := hw.2 c_
    refine lv_aload_n hx hb dJ7_inflateIfNeededFor_17 rfl (lv_at hl 0 rfl) ?_
    exact hw.elim
def gw_J7_putStringAt (E : gE) (post : Gh → Prop) (p0 : Nat) (p1 : Int32) (p2 : Nat) (G : Gh) : Prop := gK G p0 = 16 ∧ (gC G p2 = 17 ∧ (gw_J7_inflateIfNeededFor E (fun G1 => gMon G G1 → (∃ q2, (gR G1 p0 0) = some q2 ∧ (gw_J9_getBytes E (fun G3 => gMon G1 G3 → (post G3)) p2 q2 p1 (gI G1 p0 1) G1))) p0 p2 G))
theorem hd_J7_putStringAt : yJ7_putStringAt.cls = RJ7 ∧ yJ7_putStringAt.cls ≠ "java/lang/invoke/MethodHandle" ∧ yJ7_putStringAt.cls ≠ "java/lang/invoke/VarHandle" ∧ (parseMethodDescriptor yJ7_putStringAt.desc).map (fun d => d.parameters.length) = some 2 := by decide +kernel
theorem hdn_J7_putStringAt : yJ7_putStringAt.cls ≠ "java/lang/invoke/MethodHandle" ∧ yJ7_putStringAt.cls ≠ "java/lang/invoke/VarHandle" ∧ (parseMethodDescriptor yJ7_putStringAt.desc).map (fun d => d.parameters.length) = some 2 := hd_J7_putStringAt.2
theorem hdu_J7_putStringAt : RJ7 ≠ "java/lang/invoke/MethodHandle" ∧ RJ7 ≠ "java/lang/invoke/VarHandle" ∧ (parseMethodDescriptor yJ7_putStringAt.desc).map (fun d => d.parameters.length) = some 2 := by decide +kernel
theorem hds_J7_putStringAt : yJ7_putStringAt.name ≠ "<init>" ∧ (parseMethodDescriptor yJ7_putStringAt.desc).map (fun d => d.parameters.length) = some 2 := by decide +kernel
set_option maxHeartbeats 1000000 in
set_option maxRecDepth 100000 in
theorem gm_J7_putStringAt (l : Launch) (E : gE) (p0 : Nat) (p1 : Int32) (p2 : Nat) (post : Gh → Prop) (G : Gh) (hw : gw_J7_putStringAt E post p0 p1 p2 G) : gM l E yJ7_putStringAt (ws_ yJ7_putStringAt cJ7_putStringAt 3 none) ({ frames := 2, cells := 0, slots := 0, locals := 83 } : Room) 0 0 [.ref p0, .int p1, .ref p2] G (gpv post) := by
  refine gof (by decide) (Nat.le_of_ble_eq_true rfl) ?_
  intro p e s m below meth c A ls hx hb hr hlk hml hown hin hts hPF hA hG hl
  have hl : lv_has ls 3 [(0, .ref p0), (1, .int p1), (2, .ref p2)] := hl
  unfold gw_J7_putStringAt at hw
  obtain ⟨G0, hG0⟩ : ∃ G0, G0 = G := ⟨_, rfl⟩
  have hG : gS E A G0 s.heap G s.heap [] := by rw [hG0]; exact hG
  rw [show gQ E A G (gpv post) = gQ E A G0 (gpv post) by rw [hG0]]
  have h0p0 := hw.1; rw [← hG0] at h0p0
  replace hw := hw.2
  have h0p2 := hw.1; rw [← hG0] at h0p2
  replace hw := hw.2
  refine lv_aload_n hx hb dJ7_putStringAt_0 rfl (lv_at hl 0 rfl) ?_
  refine lv_aload_n hx hb dJ7_putStringAt_1 rfl (lv_at hl 2 rfl) ?_
  refine gc3v hA hG (va_runV (As := [.ref p2]) (rest := []) ⟨hx, hb, hml, hown, hts⟩ (gm_J7_inflateIfNeededFor l E p0 p2 _ G hw _) (gcwP 1 hts (lw_meth q302) rfl rfl rfl (hts _ q64) (hts _ q299) (hts _ q301) (gsel_pr hts hPF rfl q301 q300) hdn_J7_inflateIfNeededFor ⟨Nat.le_of_ble_eq_true rfl, Nat.le_of_ble_eq_true rfl⟩) ⟨gblind, grecv hPF hG (gC_of (gK_mon hG.1.2 h0p0 (by decide)) (by decide)) (by decide) (by decide) rfl, fun U hU hW => gpre hPF hA hG _ U hU hW⟩ rfl rfl hl.1 rfl (lv_room (Nat.le_of_ble_eq_true rfl)) dJ7_putStringAt_2 ⟨(Nat.le_of_ble_eq_true rfl), (Nat.le_of_ble_eq_true rfl)⟩) (fun G1 H locs hw hmon hG => ?_)
  replace hw := hw hmon
  refine lv_aload_n hx hb dJ7_putStringAt_5 rfl (lv_at hl 2 rfl) ?_
  refine lv_aload_n hx hb dJ7_putStringAt_6 rfl (lv_at hl 0 rfl) ?_
  refine gg hx hb hts hown hPF hG 16 0 rfl in_J8 (by decide) (by decide) (by decide) q194 (fun _ h9 => h9) (gC_of (gK_mon hG.1.2 h0p0 (by decide)) (by decide)) (v := va_rf (gR G1 p0 0)) rfl dJ7_putStringAt_7 ?_
  refine lv_iload_n hx hb dJ7_putStringAt_10 rfl (lv_at hl 1 rfl) ?_
  refine lv_aload_n hx hb dJ7_putStringAt_11 rfl (lv_at hl 0 rfl) ?_
  refine gg hx hb hts hown hPF hG 16 1 rfl in_J8 (by decide) (by decide) (by decide) q195 (fun _ h9 => h9) (gC_of (gK_mon hG.1.2 h0p0 (by decide)) (by decide)) (v := .int (gI G1 p0 1)) rfl dJ7_putStringAt_12 ?_
  obtain ⟨q2, hq2, hw⟩ := hw
  refine W.eq (g2 := F0 m 15 ls [.int (gI G1 p0 1), .int p1, .ref q2, .ref p2]) (by rw [hq2]; rfl) ?_
  refine gc3v hA hG (va_runV (As := [.ref q2, .int p1, .int (gI G1 p0 1)]) (rest := []) ⟨hx, hb, hml, hown, hts⟩ (gm_J9_getBytes l E p2 q2 p1 (gI G1 p0 1) _ G1 hw _) (cwV 3 hts (lw_V q323 q324 q325 q66 q326) rfl rfl rfl hd_J9_getBytes ⟨Nat.le_of_ble_eq_true rfl, Nat.le_of_ble_eq_true rfl⟩) ⟨gblind, grecv hPF hG (gC_mon hG.1.2 h0p2 (by decide)) (by decide) (by decide) rfl, fun U hU hW => gpre hPF hA hG _ U hU hW⟩ rfl rfl hl.1 rfl (lv_room (Nat.le_of_ble_eq_true rfl)) dJ7_putStringAt_15 ⟨(Nat.le_of_ble_eq_true rfl), (Nat.le_of_ble_eq_true rfl)⟩) (fun G3 H locs hw hmon hG => ?_)
  replace hw := hw hmon
  exact gretv hx hb hr hlk hG hw (Nat.le_of_ble_eq_true rfl) (Nat.le_of_ble_eq_true rfl) dJ7_putStringAt_18
def gw_J7_append (E : gE) (post : Option Nat → Gh → Prop) (p0 : Nat) (p1 : Nat) (G : Gh) : Prop := gK G p0 = 16 ∧ (gC G p1 = 17 ∧ (gw_J9_length E (fun r2 G1 => gMon G G1 → (gw_J7_ensureCapacityInternal E (fun G3 => gMon G1 G3 → (gw_J7_putStringAt E (fun G4 => gMon G3 G4 → (∀ G5, G5 = gsI G4 p0 3 ((gI G4 p0 3) + r2) → (post (some p0) G5))) p0 (gI G3 p0 3) p1 G3)) p0 ((gI G1 p0 3) + r2) G1)) p1 G))
theorem hd_J7_append : yJ7_append.cls = RJ7 ∧ yJ7_append.cls ≠ "java/lang/invoke/MethodHandle" ∧ yJ7_append.cls ≠ "java/lang/invoke/VarHandle" ∧ (parseMethodDescriptor yJ7_append.desc).map (fun d => d.parameters.length) = some 1 := by decide +kernel
theorem hdn_J7_append : yJ7_append.cls ≠ "java/lang/invoke/MethodHandle" ∧ yJ7_append.cls ≠ "java/lang/invoke/VarHandle" ∧ (parseMethodDescriptor yJ7_append.desc).map (fun d => d.parameters.length) = some 1 := hd_J7_append.2
theorem hdu_J7_append : RJ7 ≠ "java/lang/invoke/MethodHandle" ∧ RJ7 ≠ "java/lang/invoke/VarHandle" ∧ (parseMethodDescriptor yJ7_append.desc).map (fun d => d.parameters.length) = some 1 := by decide +kernel
theorem hds_J7_append : yJ7_append.name ≠ "<init>" ∧ (parseMethodDescriptor yJ7_append.desc).map (fun d => d.parameters.length) = some 1 := by decide +kernel
set_option maxHeartbeats 1000000 in
set_option maxRecDepth 100000 in
theorem gm_J7_append (l : Launch) (E : gE) (p0 : Nat) (p1 : Nat) (post : Option Nat → Gh → Prop) (G : Gh) (hw : gw_J7_append E post p0 p1 G) : gM l E yJ7_append (ws_ yJ7_append cJ7_append 3 (some (.object "java/lang/AbstractStringBuilder"))) ({ frames := 4, cells := 1, slots := 200, locals := 110 } : Room) 1 200 [.ref p0, .ref p1] G (gpr post) := by
  refine gof (by decide) (Nat.le_of_ble_eq_true rfl) ?_
  intro p e s m below meth c A ls hx hb hr hlk hml hown hin hts hPF hA hG hl
  have hl : lv_has ls 3 [(0, .ref p0), (1, .ref p1)] := hl
  unfold gw_J7_append at hw
  obtain ⟨G0, hG0⟩ : ∃ G0, G0 = G := ⟨_, rfl⟩
  have hG : gS E A G0 s.heap G s.heap [] := by rw [hG0]; exact hG
  rw [show gQ E A G (gpr post) = gQ E A G0 (gpr post) by rw [hG0]]
  have h0p0 := hw.1; rw [← hG0] at h0p0
  replace hw := hw.2
  have h0p1 := hw.1; rw [← hG0] at h0p1
  replace hw := hw.2
  refine lv_aload_n hx hb dJ7_append_0 rfl (lv_at hl 1 rfl) ?_
  refine lv_ifnonnull (tgt := 9) hx hb dJ7_append_1 (by decide) ?_
  refine lv_aload_n hx hb dJ7_append_9 rfl (lv_at hl 1 rfl) ?_
  refine gc3i hA hG (va_runV (As := []) (rest := []) ⟨hx, hb, hml, hown, hts⟩ (gm_J9_length l E p1 _ G hw _) (cwV 0 hts (lw_V q286 q287 q288 q66 q289) rfl rfl rfl hd_J9_length ⟨Nat.le_of_ble_eq_true rfl, Nat.le_of_ble_eq_true rfl⟩) ⟨gblind, grecv hPF hG (gC_mon hG.1.2 h0p1 (by decide)) (by decide) (by decide) rfl, fun U hU hW => gpre hPF hA hG _ U hU hW⟩ rfl rfl hl.1 rfl (lv_room (Nat.le_of_ble_eq_true rfl)) dJ7_append_10 ⟨(Nat.le_of_ble_eq_true rfl), (Nat.le_of_ble_eq_true rfl)⟩) (fun r2 G1 H locs hw hmon hG => ?_)
  replace hw := hw hmon
  refine lv_istore_n (i := 2) (lv' := [(2, .int r2), (0, .ref p0), (1, .ref p1)]) hx hb dJ7_append_13 rfl hl (by decide) rfl (fun ls hl => ?_)
  refine lv_aload_n hx hb dJ7_append_14 rfl (lv_at hl 1 rfl) ?_
  refine lv_aload_n hx hb dJ7_append_15 rfl (lv_at hl 1 rfl) ?_
  refine gg hx hb hts hown hPF hG 16 3 rfl in_J8 (by decide) (by decide) (by decide) q197 (fun _ h9 => h9) (gC_of (gK_mon hG.1.2 h0p0 (by decide)) (by decide)) (v := .int (gI G1 p0 3)) rfl dJ7_append_16 ?_
  refine lv_iload_n hx hb dJ7_append_19 rfl (lv_at hl 0 rfl) ?_
  refine lv_iadd hx hb dJ7_append_20 ?_
  refine gc3v hA hG (va_runV (As := [.int ((gI G1 p0 3) + r2)]) (rest := []) ⟨hx, hb, hml, hown, hts⟩ (gm_J7_ensureCapacityInternal l E p0 ((gI G1 p0 3) + r2) _ G1 hw _) (gcwP 1 hts (lw_meth q223) rfl rfl rfl (hts _ q64) (hts _ q220) (hts _ q222) (gsel_pr hts hPF rfl q222 q221) hdn_J7_ensureCapacityInternal ⟨Nat.le_of_ble_eq_true rfl, Nat.le_of_ble_eq_true rfl⟩) ⟨gblind, grecv hPF hG (gC_of (gK_mon hG.1.2 h0p0 (by decide)) (by decide)) (by decide) (by decide) rfl, fun U hU hW => gpre hPF hA hG _ U hU hW⟩ rfl rfl hl.1 rfl (lv_room (Nat.le_of_ble_eq_true rfl)) dJ7_append_21 ⟨(Nat.le_of_ble_eq_true rfl), (Nat.le_of_ble_eq_true rfl)⟩) (fun G3 H locs hw hmon hG => ?_)
  replace hw := hw hmon
  refine lv_aload_n hx hb dJ7_append_24 rfl (lv_at hl 1 rfl) ?_
  refine lv_aload_n hx hb dJ7_append_25 rfl (lv_at hl 1 rfl) ?_
  refine gg hx hb hts hown hPF hG 16 3 rfl in_J8 (by decide) (by decide) (by decide) q197 (fun _ h9 => h9) (gC_of (gK_mon hG.1.2 h0p0 (by decide)) (by decide)) (v := .int (gI G3 p0 3)) rfl dJ7_append_26 ?_
  refine lv_aload_n hx hb dJ7_append_29 rfl (lv_at hl 2 rfl) ?_
  refine gc3v hA hG (va_runV (As := [.int (gI G3 p0 3), .ref p1]) (rest := []) ⟨hx, hb, hml, hown, hts⟩ (gm_J7_putStringAt l E p0 (gI G3 p0 3) p1 _ G3 hw _) (gcwP 2 hts (lw_meth q298) rfl rfl rfl (hts _ q64) (hts _ q295) (hts _ q297) (gsel_pr hts hPF rfl q297 q296) hdn_J7_putStringAt ⟨Nat.le_of_ble_eq_true rfl, Nat.le_of_ble_eq_true rfl⟩) ⟨gblind, grecv hPF hG (gC_of (gK_mon hG.1.2 h0p0 (by decide)) (by decide)) (by decide) (by decide) rfl, fun U hU hW => gpre hPF hA hG _ U hU hW⟩ rfl rfl hl.1 rfl (lv_room (Nat.le_of_ble_eq_true rfl)) dJ7_append_30 ⟨(Nat.le_of_ble_eq_true rfl), (Nat.le_of_ble_eq_true rfl)⟩) (fun G4 H locs hw hmon hG => ?_)
  replace hw := hw hmon
  refine lv_aload_n hx hb dJ7_append_33 rfl (lv_at hl 1 rfl) ?_
  refine lv_dup hx hb dJ7_append_34 rfl ?_
  refine gg hx hb hts hown hPF hG 16 3 rfl in_J8 (by decide) (by decide) (by decide) q197 (fun _ h9 => h9) (gC_of (gK_mon hG.1.2 h0p0 (by decide)) (by decide)) (v := .int (gI G4 p0 3)) rfl dJ7_append_35 ?_
  refine lv_iload_n hx hb dJ7_append_38 rfl (lv_at hl 0 rfl) ?_
  refine lv_iadd hx hb dJ7_append_39 ?_
  refine gp hx hb hts hown hPF hG 16 3 rfl in_J8 tyJ8 tyJ8_ok nmJ8 (by decide) (by decide) (by decide) q197 (fun _ h9 => h9) rfl (gK_mon hG.1.2 h0p0 (by decide)) (v := .int ((gI G4 p0 3) + r2)) rfl rfl (G' := gsI G4 p0 3 ((gI G4 p0 3) + r2)) rfl rfl grI_off (Nat.le_of_ble_eq_true rfl) (gFs_I 16 3 (fun _ _ _ => rfl)) dJ7_append_40 (fun H locs hG => ?_)
  obtain ⟨G5, eG5⟩ : ∃ z, z = gsI G4 p0 3 ((gI G4 p0 3) + r2) := ⟨_, rfl⟩
  rw [← eG5] at hG
  replace hw := hw G5 eG5
  refine lv_aload_n hx hb dJ7_append_43 rfl (lv_at hl 1 rfl) ?_
  exact gretr (v := (some p0)) hx hb hr hlk hG (Or.inl ⟨_, rfl⟩) hw (Nat.le_of_ble_eq_true rfl) (Nat.le_of_ble_eq_true rfl) dJ7_append_44
def gw_J8_append (E : gE) (post : Option Nat → Gh → Prop) (p0 : Nat) (p1 : Nat) (G : Gh) : Prop := gK G p0 = 16 ∧ (gC G p1 = 17 ∧ (gw_J7_append E (fun r2 G1 => gMon G G1 → (post (some p0) G1)) p0 p1 G))
theorem hd_J8_append : yJ8_append.cls = RJ8 ∧ yJ8_append.cls ≠ "java/lang/invoke/MethodHandle" ∧ yJ8_append.cls ≠ "java/lang/invoke/VarHandle" ∧ (parseMethodDescriptor yJ8_append.desc).map (fun d => d.parameters.length) = some 1 := by decide +kernel
theorem hdn_J8_append : yJ8_append.cls ≠ "java/lang/invoke/MethodHandle" ∧ yJ8_append.cls ≠ "java/lang/invoke/VarHandle" ∧ (parseMethodDescriptor yJ8_append.desc).map (fun d => d.parameters.length) = some 1 := hd_J8_append.2
theorem hdu_J8_append : RJ8 ≠ "java/lang/invoke/MethodHandle" ∧ RJ8 ≠ "java/lang/invoke/VarHandle" ∧ (parseMethodDescriptor yJ8_append.desc).map (fun d => d.parameters.length) = some 1 := by decide +kernel
theorem hds_J8_append : yJ8_append.name ≠ "<init>" ∧ (parseMethodDescriptor yJ8_append.desc).map (fun d => d.parameters.length) = some 1 := by decide +kernel
set_option maxHeartbeats 1000000 in
set_option maxRecDepth 100000 in
theorem gm_J8_append (l : Launch) (E : gE) (p0 : Nat) (p1 : Nat) (post : Option Nat → Gh → Prop) (G : Gh) (hw : gw_J8_append E post p0 p1 G) : gM l E yJ8_append (ws_ yJ8_append cJ8_append 2 (some (.object "java/lang/StringBuilder"))) ({ frames := 5, cells := 1, slots := 200, locals := 132 } : Room) 1 200 [.ref p0, .ref p1] G (gpr post) := by
  refine gof (by decide) (Nat.le_of_ble_eq_true rfl) ?_
  intro p e s m below meth c A ls hx hb hr hlk hml hown hin hts hPF hA hG hl
  have hl : lv_has ls 2 [(0, .ref p0), (1, .ref p1)] := hl
  unfold gw_J8_append at hw
  obtain ⟨G0, hG0⟩ : ∃ G0, G0 = G := ⟨_, rfl⟩
  have hG : gS E A G0 s.heap G s.heap [] := by rw [hG0]; exact hG
  rw [show gQ E A G (gpr post) = gQ E A G0 (gpr post) by rw [hG0]]
  have h0p0 := hw.1; rw [← hG0] at h0p0
  replace hw := hw.2
  have h0p1 := hw.1; rw [← hG0] at h0p1
  replace hw := hw.2
  refine lv_aload_n hx hb dJ8_append_0 rfl (lv_at hl 0 rfl) ?_
  refine lv_aload_n hx hb dJ8_append_1 rfl (lv_at hl 1 rfl) ?_
  refine gc3r hA hG (va_runSU (hPF.K.1 16 _ rfl).2 (As := [.ref p1]) (rest := []) ⟨hx, hb, hml, hown, hts⟩ (gm_J7_append l E p0 p1 _ G hw _) (va_cwSU 1 hts (lw_SU q213 q2316 q206 q214 q64 q215) rfl rfl rfl hds_J7_append ⟨Nat.le_of_ble_eq_true rfl, Nat.le_of_ble_eq_true rfl⟩) ⟨gblind, grecv hPF hG (gC_of (gK_mon hG.1.2 h0p0 (by decide)) (by decide)) (by decide) (by decide) rfl, fun U hU hW => gpre hPF hA hG _ U hU hW⟩ rfl rfl hl.1 rfl (lv_room (Nat.le_of_ble_eq_true rfl)) dJ8_append_2 ⟨(Nat.le_of_ble_eq_true rfl), (Nat.le_of_ble_eq_true rfl)⟩) (fun r2 G1 H locs hw hmon hG => ?_)
  replace hw := hw hmon
  refine lv_pop hx hb dJ8_append_5 (va_rf_cat _) ?_
  refine lv_aload_n hx hb dJ8_append_6 rfl (lv_at hl 0 rfl) ?_
  exact gretr (v := (some p0)) hx hb hr hlk hG (Or.inl ⟨_, rfl⟩) hw (Nat.le_of_ble_eq_true rfl) (Nat.le_of_ble_eq_true rfl) dJ8_append_7
def gw_J7_isLatin1 (E : gE) (post : Int32 → Gh → Prop) (p0 : Nat) (G : Gh) : Prop := gK G p0 = 16 ∧ ((¬ (gI G p0 1) = 0 → (post 0 G)) ∧ ((gI G p0 1) = 0 → (post 1 G)))
theorem hd_J7_isLatin1 : yJ7_isLatin1.cls = RJ7 ∧ yJ7_isLatin1.cls ≠ "java/lang/invoke/MethodHandle" ∧ yJ7_isLatin1.cls ≠ "java/lang/invoke/VarHandle" ∧ (parseMethodDescriptor yJ7_isLatin1.desc).map (fun d => d.parameters.length) = some 0 := by decide +kernel
theorem hdn_J7_isLatin1 : yJ7_isLatin1.cls ≠ "java/lang/invoke/MethodHandle" ∧ yJ7_isLatin1.cls ≠ "java/lang/invoke/VarHandle" ∧ (parseMethodDescriptor yJ7_isLatin1.desc).map (fun d => d.parameters.length) = some 0 := hd_J7_isLatin1.2
theorem hdu_J7_isLatin1 : RJ7 ≠ "java/lang/invoke/MethodHandle" ∧ RJ7 ≠ "java/lang/invoke/VarHandle" ∧ (parseMethodDescriptor yJ7_isLatin1.desc).map (fun d => d.parameters.length) = some 0 := by decide +kernel
theorem hds_J7_isLatin1 : yJ7_isLatin1.name ≠ "<init>" ∧ (parseMethodDescriptor yJ7_isLatin1.desc).map (fun d => d.parameters.length) = some 0 := by decide +kernel
set_option maxHeartbeats 1000000 in
set_option maxRecDepth 100000 in
theorem gm_J7_isLatin1 (l : Launch) (E : gE) (p0 : Nat) (post : Int32 → Gh → Prop) (G : Gh) (hw : gw_J7_isLatin1 E post p0 G) : gM l E yJ7_isLatin1 (ws_ yJ7_isLatin1 cJ7_isLatin1 1 (some .boolean)) ({ frames := 0, cells := 0, slots := 0, locals := 0 } : Room) 0 0 [.ref p0] G (gpi post) := by
  refine gof (by decide) (Nat.le_of_ble_eq_true rfl) ?_
  intro p e s m below meth c A ls hx hb hr hlk hml hown hin hts hPF hA hG hl
  have hl : lv_has ls 1 [(0, .ref p0)] := hl
  unfold gw_J7_isLatin1 at hw
  obtain ⟨G0, hG0⟩ : ∃ G0, G0 = G := ⟨_, rfl⟩
  have hG : gS E A G0 s.heap G s.heap [] := by rw [hG0]; exact hG
  rw [show gQ E A G (gpi post) = gQ E A G0 (gpi post) by rw [hG0]]
  have h0p0 := hw.1; rw [← hG0] at h0p0
  replace hw := hw.2
  refine va_gets (v := .int 1) hx hb (hPF.z 0 rfl) hG.2 hown (hts _ q185) (fun _ h9 => h9) dJ7_isLatin1_0 ?_
  refine lv_if_eq (tgt := 17) hx hb dJ7_isLatin1_3 (by decide) (fun c_ => absurd c_ (by decide)) (fun c_ => ?_)
  refine lv_aload_n hx hb dJ7_isLatin1_6 rfl (lv_at hl 0 rfl) ?_
  refine gg hx hb hts hown hPF hG 16 1 rfl in_J8 (by decide) (by decide) (by decide) q195 (fun _ h9 => h9) (gC_of (gK_mon hG.1.2 h0p0 (by decide)) (by decide)) (v := .int (gI G p0 1)) rfl dJ7_isLatin1_7 ?_
  refine lv_if_ne (tgt := 17) hx hb dJ7_isLatin1_10 (by decide) (fun c_ => ?_) (fun c_ => ?_)
  · replace hw := hw.1 c_
    refine lv_iconst (v := 0) hx hb dJ7_isLatin1_17 (by decide) ?_
    exact greti hx hb hr hlk hG rfl hw (Nat.le_of_ble_eq_true rfl) (Nat.le_of_ble_eq_true rfl) dJ7_isLatin1_18
  · replace hw := hw.2 c_
    refine lv_iconst (v := 1) hx hb dJ7_isLatin1_13 (by decide) ?_
    refine lv_goto (tgt := 18) hx hb dJ7_isLatin1_14 (by decide) ?_
    exact greti hx hb hr hlk hG rfl hw (Nat.le_of_ble_eq_true rfl) (Nat.le_of_ble_eq_true rfl) dJ7_isLatin1_18
def gw_J7_append_2 (E : gE) (post : Option Nat → Gh → Prop) (p0 : Nat) (p1 : Int32) (G : Gh) : Prop := gK G p0 = 16 ∧ (gw_J16_stringSize E (fun r2 G1 => gMon G G1 → (gw_J7_ensureCapacityInternal E (fun G3 => gMon G1 G3 → (gw_J7_isLatin1 E (fun r5 G4 => gMon G3 G4 → ((r5 = 0 → (False)) ∧ (¬ r5 = 0 → (∃ q6, (gR G4 p0 0) = some q6 ∧ (gw_J16_getChars E (fun r8 G7 => gMon G4 G7 → (∀ G9, G9 = gsI G7 p0 3 ((gI G p0 3) + r2) → (post (some p0) G9))) p1 ((gI G p0 3) + r2) q6 G4))))) p0 G3)) p0 ((gI G p0 3) + r2) G1)) p1 G)
theorem hd_J7_append_2 : yJ7_append_2.cls = RJ7 ∧ yJ7_append_2.cls ≠ "java/lang/invoke/MethodHandle" ∧ yJ7_append_2.cls ≠ "java/lang/invoke/VarHandle" ∧ (parseMethodDescriptor yJ7_append_2.desc).map (fun d => d.parameters.length) = some 1 := by decide +kernel
theorem hdn_J7_append_2 : yJ7_append_2.cls ≠ "java/lang/invoke/MethodHandle" ∧ yJ7_append_2.cls ≠ "java/lang/invoke/VarHandle" ∧ (parseMethodDescriptor yJ7_append_2.desc).map (fun d => d.parameters.length) = some 1 := hd_J7_append_2.2
theorem hdu_J7_append_2 : RJ7 ≠ "java/lang/invoke/MethodHandle" ∧ RJ7 ≠ "java/lang/invoke/VarHandle" ∧ (parseMethodDescriptor yJ7_append_2.desc).map (fun d => d.parameters.length) = some 1 := by decide +kernel
theorem hds_J7_append_2 : yJ7_append_2.name ≠ "<init>" ∧ (parseMethodDescriptor yJ7_append_2.desc).map (fun d => d.parameters.length) = some 1 := by decide +kernel
set_option maxHeartbeats 1000000 in
set_option maxRecDepth 100000 in
theorem gm_J7_append_2 (l : Launch) (E : gE) (p0 : Nat) (p1 : Int32) (post : Option Nat → Gh → Prop) (G : Gh) (hw : gw_J7_append_2 E post p0 p1 G) : gM l E yJ7_append_2 (ws_ yJ7_append_2 cJ7_append_2 4 (some (.object "java/lang/AbstractStringBuilder"))) ({ frames := 4, cells := 1, slots := 200, locals := 110 } : Room) 1 200 [.ref p0, .int p1] G (gpr post) := by
  refine gof (by decide) (Nat.le_of_ble_eq_true rfl) ?_
  intro p e s m below meth c A ls hx hb hr hlk hml hown hin hts hPF hA hG hl
  have hl : lv_has ls 4 [(0, .ref p0), (1, .int p1)] := hl
  unfold gw_J7_append_2 at hw
  obtain ⟨G0, hG0⟩ : ∃ G0, G0 = G := ⟨_, rfl⟩
  have hG : gS E A G0 s.heap G s.heap [] := by rw [hG0]; exact hG
  rw [show gQ E A G (gpr post) = gQ E A G0 (gpr post) by rw [hG0]]
  have h0p0 := hw.1; rw [← hG0] at h0p0
  replace hw := hw.2
  refine lv_aload_n hx hb dJ7_append_2_0 rfl (lv_at hl 0 rfl) ?_
  refine gg hx hb hts hown hPF hG 16 3 rfl in_J8 (by decide) (by decide) (by decide) q197 (fun _ h9 => h9) (gC_of (gK_mon hG.1.2 h0p0 (by decide)) (by decide)) (v := .int (gI G p0 3)) rfl dJ7_append_2_1 ?_
  refine lv_istore_n (i := 2) (lv' := [(2, .int (gI G p0 3)), (0, .ref p0), (1, .int p1)]) hx hb dJ7_append_2_4 rfl hl (by decide) rfl (fun ls hl => ?_)
  refine lv_iload_n hx hb dJ7_append_2_5 rfl (lv_at hl 0 rfl) ?_
  refine lv_iload_n hx hb dJ7_append_2_6 rfl (lv_at hl 2 rfl) ?_
  refine gc3i hA hG (va_runS (As := [.int p1]) (rest := [.int (gI G p0 3)]) ⟨hx, hb, hml, hown, hts⟩ (gm_J16_stringSize l E p1 _ G hw _) (va_cwS 1 hts (lw_S q336 q337 q75 q338) rfl rfl rfl hd_J16_stringSize ⟨Nat.le_of_ble_eq_true rfl, Nat.le_of_ble_eq_true rfl⟩) ⟨gblind, fun U hU hW => gpre hPF hA hG _ U hU hW⟩ rfl rfl hl.1 rfl (lv_room (Nat.le_of_ble_eq_true rfl)) dJ7_append_2_7 ⟨(Nat.le_of_ble_eq_true rfl), (Nat.le_of_ble_eq_true rfl)⟩) (fun r2 G1 H locs hw hmon hG => ?_)
  replace hw := hw hmon
  refine lv_iadd hx hb dJ7_append_2_10 ?_
  refine lv_istore_n (i := 3) (lv' := [(3, .int ((gI G p0 3) + r2)), (2, .int (gI G p0 3)), (0, .ref p0), (1, .int p1)]) hx hb dJ7_append_2_11 rfl hl (by decide) rfl (fun ls hl => ?_)
  refine lv_aload_n hx hb dJ7_append_2_12 rfl (lv_at hl 2 rfl) ?_
  refine lv_iload_n hx hb dJ7_append_2_13 rfl (lv_at hl 0 rfl) ?_
  refine gc3v hA hG (va_runV (As := [.int ((gI G p0 3) + r2)]) (rest := []) ⟨hx, hb, hml, hown, hts⟩ (gm_J7_ensureCapacityInternal l E p0 ((gI G p0 3) + r2) _ G1 hw _) (gcwP 1 hts (lw_meth q223) rfl rfl rfl (hts _ q64) (hts _ q220) (hts _ q222) (gsel_pr hts hPF rfl q222 q221) hdn_J7_ensureCapacityInternal ⟨Nat.le_of_ble_eq_true rfl, Nat.le_of_ble_eq_true rfl⟩) ⟨gblind, grecv hPF hG (gC_of (gK_mon hG.1.2 h0p0 (by decide)) (by decide)) (by decide) (by decide) rfl, fun U hU hW => gpre hPF hA hG _ U hU hW⟩ rfl rfl hl.1 rfl (lv_room (Nat.le_of_ble_eq_true rfl)) dJ7_append_2_14 ⟨(Nat.le_of_ble_eq_true rfl), (Nat.le_of_ble_eq_true rfl)⟩) (fun G3 H locs hw hmon hG => ?_)
  replace hw := hw hmon
  refine lv_aload_n hx hb dJ7_append_2_17 rfl (lv_at hl 2 rfl) ?_
  refine gc3i hA hG (va_runV (As := []) (rest := []) ⟨hx, hb, hml, hown, hts⟩ (gm_J7_isLatin1 l E p0 _ G3 hw _) (gcwP 0 hts (lw_meth q259) rfl rfl rfl (hts _ q64) (hts _ q255) (hts _ q256) (hts _ q258) hdn_J7_isLatin1 ⟨Nat.le_of_ble_eq_true rfl, Nat.le_of_ble_eq_true rfl⟩) ⟨gblind, grecv hPF hG (gC_of (gK_mon hG.1.2 h0p0 (by decide)) (by decide)) (by decide) (by decide) rfl, fun U hU hW => gpre hPF hA hG _ U hU hW⟩ rfl rfl hl.1 rfl (lv_room (Nat.le_of_ble_eq_true rfl)) dJ7_append_2_18 ⟨(Nat.le_of_ble_eq_true rfl), (Nat.le_of_ble_eq_true rfl)⟩) (fun r5 G4 H locs hw hmon hG => ?_)
  replace hw := hw hmon
  refine lv_if_eq (tgt := 37) hx hb dJ7_append_2_21 (by decide) (fun c_ => ?_) (fun c_ => ?_)
  · replace hw := hw.1 c_
    refine lv_iload_n hx hb dJ7_append_2_37 rfl (lv_at hl 3 rfl) ?_
    refine lv_iload_n hx hb dJ7_append_2_38 rfl (lv_at hl 1 rfl) ?_
    refine lv_iload_n hx hb dJ7_append_2_39 rfl (lv_at hl 0 rfl) ?_
    refine lv_aload_n hx hb dJ7_append_2_40 rfl (lv_at hl 2 rfl) ?_
    refine gg hx hb hts hown hPF hG 16 0 rfl in_J8 (by decide) (by decide) (by decide) q194 (fun _ h9 => h9) (gC_of (gK_mon hG.1.2 h0p0 (by decide)) (by decide)) (v := va_rf (gR G4 p0 0)) rfl dJ7_append_2_41 ?_
    exact hw.elim
  · replace hw := hw.2 c_
    refine lv_iload_n hx hb dJ7_append_2_24 rfl (lv_at hl 3 rfl) ?_
    refine lv_iload_n hx hb dJ7_append_2_25 rfl (lv_at hl 0 rfl) ?_
    refine lv_aload_n hx hb dJ7_append_2_26 rfl (lv_at hl 2 rfl) ?_
    refine gg hx hb hts hown hPF hG 16 0 rfl in_J8 (by decide) (by decide) (by decide) q194 (fun _ h9 => h9) (gC_of (gK_mon hG.1.2 h0p0 (by decide)) (by decide)) (v := va_rf (gR G4 p0 0)) rfl dJ7_append_2_27 ?_
    obtain ⟨q6, hq6, hw⟩ := hw
    refine W.eq (g2 := F0 m 30 ls [.ref q6, .int ((gI G p0 3) + r2), .int p1]) (by rw [hq6]; rfl) ?_
    refine gc3i hA hG (va_runS (As := [.int p1, .int ((gI G p0 3) + r2), .ref q6]) (rest := []) ⟨hx, hb, hml, hown, hts⟩ (gm_J16_getChars l E p1 ((gI G p0 3) + r2) q6 _ G4 hw _) (va_cwS 3 hts (lw_S q339 q340 q75 q341) rfl rfl rfl hd_J16_getChars ⟨Nat.le_of_ble_eq_true rfl, Nat.le_of_ble_eq_true rfl⟩) ⟨gblind, fun U hU hW => gpre hPF hA hG _ U hU hW⟩ rfl rfl hl.1 rfl (lv_room (Nat.le_of_ble_eq_true rfl)) dJ7_append_2_30 ⟨(Nat.le_of_ble_eq_true rfl), (Nat.le_of_ble_eq_true rfl)⟩) (fun r8 G7 H locs hw hmon hG => ?_)
    replace hw := hw hmon
    refine lv_pop hx hb dJ7_append_2_33 rfl ?_
    refine lv_goto (tgt := 48) hx hb dJ7_append_2_34 (by decide) ?_
    refine lv_aload_n hx hb dJ7_append_2_48 rfl (lv_at hl 2 rfl) ?_
    refine lv_iload_n hx hb dJ7_append_2_49 rfl (lv_at hl 0 rfl) ?_
    refine gp hx hb hts hown hPF hG 16 3 rfl in_J8 tyJ8 tyJ8_ok nmJ8 (by decide) (by decide) (by decide) q197 (fun _ h9 => h9) rfl (gK_mon hG.1.2 h0p0 (by decide)) (v := .int ((gI G p0 3) + r2)) rfl rfl (G' := gsI G7 p0 3 ((gI G p0 3) + r2)) rfl rfl grI_off (Nat.le_of_ble_eq_true rfl) (gFs_I 16 3 (fun _ _ _ => rfl)) dJ7_append_2_50 (fun H locs hG => ?_)
    obtain ⟨G9, eG9⟩ : ∃ z, z = gsI G7 p0 3 ((gI G p0 3) + r2) := ⟨_, rfl⟩
    rw [← eG9] at hG
    replace hw := hw G9 eG9
    refine lv_aload_n hx hb dJ7_append_2_53 rfl (lv_at hl 2 rfl) ?_
    exact gretr (v := (some p0)) hx hb hr hlk hG (Or.inl ⟨_, rfl⟩) hw (Nat.le_of_ble_eq_true rfl) (Nat.le_of_ble_eq_true rfl) dJ7_append_2_54
def gw_J8_append_2 (E : gE) (post : Option Nat → Gh → Prop) (p0 : Nat) (p1 : Int32) (G : Gh) : Prop := gK G p0 = 16 ∧ (gw_J7_append_2 E (fun r2 G1 => gMon G G1 → (post (some p0) G1)) p0 p1 G)
theorem hd_J8_append_2 : yJ8_append_2.cls = RJ8 ∧ yJ8_append_2.cls ≠ "java/lang/invoke/MethodHandle" ∧ yJ8_append_2.cls ≠ "java/lang/invoke/VarHandle" ∧ (parseMethodDescriptor yJ8_append_2.desc).map (fun d => d.parameters.length) = some 1 := by decide +kernel
theorem hdn_J8_append_2 : yJ8_append_2.cls ≠ "java/lang/invoke/MethodHandle" ∧ yJ8_append_2.cls ≠ "java/lang/invoke/VarHandle" ∧ (parseMethodDescriptor yJ8_append_2.desc).map (fun d => d.parameters.length) = some 1 := hd_J8_append_2.2
theorem hdu_J8_append_2 : RJ8 ≠ "java/lang/invoke/MethodHandle" ∧ RJ8 ≠ "java/lang/invoke/VarHandle" ∧ (parseMethodDescriptor yJ8_append_2.desc).map (fun d => d.parameters.length) = some 1 := by decide +kernel
theorem hds_J8_append_2 : yJ8_append_2.name ≠ "<init>" ∧ (parseMethodDescriptor yJ8_append_2.desc).map (fun d => d.parameters.length) = some 1 := by decide +kernel
set_option maxHeartbeats 1000000 in
set_option maxRecDepth 100000 in
theorem gm_J8_append_2 (l : Launch) (E : gE) (p0 : Nat) (p1 : Int32) (post : Option Nat → Gh → Prop) (G : Gh) (hw : gw_J8_append_2 E post p0 p1 G) : gM l E yJ8_append_2 (ws_ yJ8_append_2 cJ8_append_2 2 (some (.object "java/lang/StringBuilder"))) ({ frames := 5, cells := 1, slots := 200, locals := 133 } : Room) 1 200 [.ref p0, .int p1] G (gpr post) := by
  refine gof (by decide) (Nat.le_of_ble_eq_true rfl) ?_
  intro p e s m below meth c A ls hx hb hr hlk hml hown hin hts hPF hA hG hl
  have hl : lv_has ls 2 [(0, .ref p0), (1, .int p1)] := hl
  unfold gw_J8_append_2 at hw
  obtain ⟨G0, hG0⟩ : ∃ G0, G0 = G := ⟨_, rfl⟩
  have hG : gS E A G0 s.heap G s.heap [] := by rw [hG0]; exact hG
  rw [show gQ E A G (gpr post) = gQ E A G0 (gpr post) by rw [hG0]]
  have h0p0 := hw.1; rw [← hG0] at h0p0
  replace hw := hw.2
  refine lv_aload_n hx hb dJ8_append_2_0 rfl (lv_at hl 0 rfl) ?_
  refine lv_iload_n hx hb dJ8_append_2_1 rfl (lv_at hl 1 rfl) ?_
  refine gc3r hA hG (va_runSU (hPF.K.1 16 _ rfl).2 (As := [.int p1]) (rest := []) ⟨hx, hb, hml, hown, hts⟩ (gm_J7_append_2 l E p0 p1 _ G hw _) (va_cwSU 1 hts (lw_SU q333 q2323 q206 q334 q64 q335) rfl rfl rfl hds_J7_append_2 ⟨Nat.le_of_ble_eq_true rfl, Nat.le_of_ble_eq_true rfl⟩) ⟨gblind, grecv hPF hG (gC_of (gK_mon hG.1.2 h0p0 (by decide)) (by decide)) (by decide) (by decide) rfl, fun U hU hW => gpre hPF hA hG _ U hU hW⟩ rfl rfl hl.1 rfl (lv_room (Nat.le_of_ble_eq_true rfl)) dJ8_append_2_2 ⟨(Nat.le_of_ble_eq_true rfl), (Nat.le_of_ble_eq_true rfl)⟩) (fun r2 G1 H locs hw hmon hG => ?_)
  replace hw := hw hmon
  refine lv_pop hx hb dJ8_append_2_5 (va_rf_cat _) ?_
  refine lv_aload_n hx hb dJ8_append_2_6 rfl (lv_at hl 0 rfl) ?_
  exact gretr (v := (some p0)) hx hb hr hlk hG (Or.inl ⟨_, rfl⟩) hw (Nat.le_of_ble_eq_true rfl) (Nat.le_of_ble_eq_true rfl) dJ8_append_2_7
def gw_J15_canEncode (E : gE) (post : Int32 → Gh → Prop) (p0 : Int32) (G : Gh) : Prop := (255 < p0 → (post 0 G)) ∧ (¬ 255 < p0 → (post 1 G))
theorem hd_J15_canEncode : yJ15_canEncode.cls ≠ "java/lang/invoke/MethodHandle" ∧ yJ15_canEncode.cls ≠ "java/lang/invoke/VarHandle" ∧ (parseMethodDescriptor yJ15_canEncode.desc).map (fun d => d.parameters.length) = some 1 := by decide +kernel
set_option maxHeartbeats 1000000 in
set_option maxRecDepth 100000 in
theorem gm_J15_canEncode (l : Launch) (E : gE) (p0 : Int32) (post : Int32 → Gh → Prop) (G : Gh) (hw : gw_J15_canEncode E post p0 G) : gM l E yJ15_canEncode (ws_ yJ15_canEncode cJ15_canEncode 1 (some .boolean)) ({ frames := 0, cells := 0, slots := 0, locals := 0 } : Room) 0 0 [.int p0] G (gpi post) := by
  refine gof (by decide) (Nat.le_of_ble_eq_true rfl) ?_
  intro p e s m below meth c A ls hx hb hr hlk hml hown hin hts hPF hA hG hl
  have hl : lv_has ls 1 [(0, .int p0)] := hl
  unfold gw_J15_canEncode at hw
  obtain ⟨G0, hG0⟩ : ∃ G0, G0 = G := ⟨_, rfl⟩
  have hG : gS E A G0 s.heap G s.heap [] := by rw [hG0]; exact hG
  rw [show gQ E A G (gpi post) = gQ E A G0 (gpi post) by rw [hG0]]
  refine lv_iload_n hx hb dJ15_canEncode_0 rfl (lv_at hl 0 rfl) ?_
  refine lv_sipush (v := 255) hx hb dJ15_canEncode_1 (by decide) ?_
  refine lv_icmp_gt (tgt := 11) hx hb dJ15_canEncode_4 (by decide) (fun c_ => ?_) (fun c_ => ?_)
  · replace hw := hw.1 c_
    refine lv_iconst (v := 0) hx hb dJ15_canEncode_11 (by decide) ?_
    exact greti hx hb hr hlk hG rfl hw (Nat.le_of_ble_eq_true rfl) (Nat.le_of_ble_eq_true rfl) dJ15_canEncode_12
  · replace hw := hw.2 c_
    refine lv_iconst (v := 1) hx hb dJ15_canEncode_7 (by decide) ?_
    refine lv_goto (tgt := 12) hx hb dJ15_canEncode_8 (by decide) ?_
    exact greti hx hb hr hlk hG rfl hw (Nat.le_of_ble_eq_true rfl) (Nat.le_of_ble_eq_true rfl) dJ15_canEncode_12
def gw_J7_append_3_L56 (E : gE) (p0 : Nat) (post : Option Nat → Gh → Prop) (x1 : Int32) (G : Gh) : Prop := ∀ G13, G13 = gsI G p0 3 ((gI G p0 3) + 1) → (False)
def gw_J7_append_3_L45 (E : gE) (p0 : Nat) (post : Option Nat → Gh → Prop) (x1 : Int32) (G : Gh) : Prop := gw_J7_isLatin1 E (fun r12 G11 => gMon G G11 → ((r12 = 0 → (gw_J7_append_3_L56 E p0 post  x1 G11)) ∧ (¬ r12 = 0 → (False)))) p0 G
def gw_J7_append_3 (E : gE) (post : Option Nat → Gh → Prop) (p0 : Nat) (p1 : Int32) (G : Gh) : Prop := gK G p0 = 16 ∧ (gw_J7_ensureCapacityInternal E (fun G1 => gMon G G1 → (gw_J7_isLatin1 E (fun r3 G2 => gMon G1 G2 → ((r3 = 0 → (gw_J7_append_3_L45 E p0 post  p1 G2)) ∧ (¬ r3 = 0 → (gw_J15_canEncode E (fun r5 G4 => gMon G2 G4 → ((r5 = 0 → (gw_J7_append_3_L45 E p0 post  p1 G4)) ∧ (¬ r5 = 0 → (∀ G6, G6 = gsI G4 p0 3 ((gI G4 p0 3) + 1) → (∃ q7, (gR G4 p0 0) = some q7 ∧ (gK G6 q7 = 32 ∧ (vp_in (gI G4 p0 3) (gL G6 q7) ∧ (∀ G10, G10 = grI G6 q7 (upd (gI G6 q7) (gI G4 p0 3).toNatClampNeg (vp_nar .byte p1.toInt8.toInt32)) → (post (some p0) G10))))))))) p1 G2)))) p0 G1)) p0 ((gI G p0 3) + 1) G)
theorem hd_J7_append_3 : yJ7_append_3.cls = RJ7 ∧ yJ7_append_3.cls ≠ "java/lang/invoke/MethodHandle" ∧ yJ7_append_3.cls ≠ "java/lang/invoke/VarHandle" ∧ (parseMethodDescriptor yJ7_append_3.desc).map (fun d => d.parameters.length) = some 1 := by decide +kernel
theorem hdn_J7_append_3 : yJ7_append_3.cls ≠ "java/lang/invoke/MethodHandle" ∧ yJ7_append_3.cls ≠ "java/lang/invoke/VarHandle" ∧ (parseMethodDescriptor yJ7_append_3.desc).map (fun d => d.parameters.length) = some 1 := hd_J7_append_3.2
theorem hdu_J7_append_3 : RJ7 ≠ "java/lang/invoke/MethodHandle" ∧ RJ7 ≠ "java/lang/invoke/VarHandle" ∧ (parseMethodDescriptor yJ7_append_3.desc).map (fun d => d.parameters.length) = some 1 := by decide +kernel
theorem hds_J7_append_3 : yJ7_append_3.name ≠ "<init>" ∧ (parseMethodDescriptor yJ7_append_3.desc).map (fun d => d.parameters.length) = some 1 := by decide +kernel
set_option maxHeartbeats 1000000 in
set_option maxRecDepth 100000 in
theorem gm_J7_append_3 (l : Launch) (E : gE) (p0 : Nat) (p1 : Int32) (post : Option Nat → Gh → Prop) (G : Gh) (hw : gw_J7_append_3 E post p0 p1 G) : gM l E yJ7_append_3 (ws_ yJ7_append_3 cJ7_append_3 2 (some (.object "java/lang/AbstractStringBuilder"))) ({ frames := 4, cells := 1, slots := 200, locals := 110 } : Room) 1 200 [.ref p0, .int p1] G (gpr post) := by
  refine gof (by decide) (Nat.le_of_ble_eq_true rfl) ?_
  intro p e s m below meth c A ls hx hb hr hlk hml hown hin hts hPF hA hG hl
  have hl : lv_has ls 2 [(0, .ref p0), (1, .int p1)] := hl
  unfold gw_J7_append_3 at hw
  obtain ⟨G0, hG0⟩ : ∃ G0, G0 = G := ⟨_, rfl⟩
  have hG : gS E A G0 s.heap G s.heap [] := by rw [hG0]; exact hG
  rw [show gQ E A G (gpr post) = gQ E A G0 (gpr post) by rw [hG0]]
  have h0p0 := hw.1; rw [← hG0] at h0p0
  replace hw := hw.2
  have hL56 : ∀ (x1 : Int32) (G : Gh) (H : Heap) (locs : List Loc) (ls : Array Slot), gS E A G0 s.heap G H locs → lv_has ls 2 [(0, .ref p0), (1, .int x1)] → gw_J7_append_3_L56 E p0 post x1 G → W p l e (headSpec (ws_ yJ7_append_3 cJ7_append_3 2 (some (.object "java/lang/AbstractStringBuilder"))) ({ frames := 4, cells := 1, slots := 200, locals := 110 } : Room)).room s m ([.ref p0, .int p1] : List Value).toArray below meth c H locs 1 200 (MQ below (gQ E A G0 (gpr post)) ([.ref p0, .int p1] : List Value).toArray s 1 200 A) (F0 m 56 ls []) := by
    intro x1 G H locs ls hG hl hw
    unfold gw_J7_append_3_L56 at hw
    refine lv_aload_n hx hb dJ7_append_3_56 rfl (lv_at hl 0 rfl) ?_
    refine gg hx hb hts hown hPF hG 16 0 rfl in_J8 (by decide) (by decide) (by decide) q194 (fun _ h9 => h9) (gC_of (gK_mon hG.1.2 h0p0 (by decide)) (by decide)) (v := va_rf (gR G p0 0)) rfl dJ7_append_3_57 ?_
    refine lv_aload_n hx hb dJ7_append_3_60 rfl (lv_at hl 0 rfl) ?_
    refine lv_dup hx hb dJ7_append_3_61 rfl ?_
    refine gg hx hb hts hown hPF hG 16 3 rfl in_J8 (by decide) (by decide) (by decide) q197 (fun _ h9 => h9) (gC_of (gK_mon hG.1.2 h0p0 (by decide)) (by decide)) (v := .int (gI G p0 3)) rfl dJ7_append_3_62 ?_
    refine lv_dup_x1 hx hb dJ7_append_3_65 rfl rfl ?_
    refine lv_iconst (v := 1) hx hb dJ7_append_3_66 (by decide) ?_
    refine lv_iadd hx hb dJ7_append_3_67 ?_
    refine gp hx hb hts hown hPF hG 16 3 rfl in_J8 tyJ8 tyJ8_ok nmJ8 (by decide) (by decide) (by decide) q197 (fun _ h9 => h9) rfl (gK_mon hG.1.2 h0p0 (by decide)) (v := .int ((gI G p0 3) + 1)) rfl rfl (G' := gsI G p0 3 ((gI G p0 3) + 1)) rfl rfl grI_off (Nat.le_of_ble_eq_true rfl) (gFs_I 16 3 (fun _ _ _ => rfl)) dJ7_append_3_68 (fun H locs hG => ?_)
    obtain ⟨G13, eG13⟩ : ∃ z, z = gsI G p0 3 ((gI G p0 3) + 1) := ⟨_, rfl⟩
    rw [← eG13] at hG
    replace hw := hw G13 eG13
    refine lv_iload_n hx hb dJ7_append_3_71 rfl (lv_at hl 1 rfl) ?_
    exact hw.elim
  have hL45 : ∀ (x1 : Int32) (G : Gh) (H : Heap) (locs : List Loc) (ls : Array Slot), gS E A G0 s.heap G H locs → lv_has ls 2 [(0, .ref p0), (1, .int x1)] → gw_J7_append_3_L45 E p0 post x1 G → W p l e (headSpec (ws_ yJ7_append_3 cJ7_append_3 2 (some (.object "java/lang/AbstractStringBuilder"))) ({ frames := 4, cells := 1, slots := 200, locals := 110 } : Room)).room s m ([.ref p0, .int p1] : List Value).toArray below meth c H locs 1 200 (MQ below (gQ E A G0 (gpr post)) ([.ref p0, .int p1] : List Value).toArray s 1 200 A) (F0 m 45 ls []) := by
    intro x1 G H locs ls hG hl hw
    unfold gw_J7_append_3_L45 at hw
    refine lv_aload_n hx hb dJ7_append_3_45 rfl (lv_at hl 0 rfl) ?_
    refine gc3i hA hG (va_runV (As := []) (rest := []) ⟨hx, hb, hml, hown, hts⟩ (gm_J7_isLatin1 l E p0 _ G hw _) (gcwP 0 hts (lw_meth q259) rfl rfl rfl (hts _ q64) (hts _ q255) (hts _ q256) (hts _ q258) hdn_J7_isLatin1 ⟨Nat.le_of_ble_eq_true rfl, Nat.le_of_ble_eq_true rfl⟩) ⟨gblind, grecv hPF hG (gC_of (gK_mon hG.1.2 h0p0 (by decide)) (by decide)) (by decide) (by decide) rfl, fun U hU hW => gpre hPF hA hG _ U hU hW⟩ rfl rfl hl.1 rfl (lv_room (Nat.le_of_ble_eq_true rfl)) dJ7_append_3_46 ⟨(Nat.le_of_ble_eq_true rfl), (Nat.le_of_ble_eq_true rfl)⟩) (fun r12 G11 H locs hw hmon hG => ?_)
    replace hw := hw hmon
    refine lv_if_eq (tgt := 56) hx hb dJ7_append_3_49 (by decide) (fun c_ => ?_) (fun c_ => ?_)
    · replace hw := hw.1 c_
      refine W.widen (k := 1) (n := 200) (Nat.le_of_ble_eq_true rfl) (Nat.le_of_ble_eq_true rfl) ?_
      exact hL56  x1 G11 _ _ ls hG (lv_sub hl [0, 1] rfl) hw
    · replace hw := hw.2 c_
      refine lv_aload_n hx hb dJ7_append_3_52 rfl (lv_at hl 0 rfl) ?_
      exact hw.elim
  refine lv_aload_n hx hb dJ7_append_3_0 rfl (lv_at hl 0 rfl) ?_
  refine lv_aload_n hx hb dJ7_append_3_1 rfl (lv_at hl 0 rfl) ?_
  refine gg hx hb hts hown hPF hG 16 3 rfl in_J8 (by decide) (by decide) (by decide) q197 (fun _ h9 => h9) (gC_of (gK_mon hG.1.2 h0p0 (by decide)) (by decide)) (v := .int (gI G p0 3)) rfl dJ7_append_3_2 ?_
  refine lv_iconst (v := 1) hx hb dJ7_append_3_5 (by decide) ?_
  refine lv_iadd hx hb dJ7_append_3_6 ?_
  refine gc3v hA hG (va_runV (As := [.int ((gI G p0 3) + 1)]) (rest := []) ⟨hx, hb, hml, hown, hts⟩ (gm_J7_ensureCapacityInternal l E p0 ((gI G p0 3) + 1) _ G hw _) (gcwP 1 hts (lw_meth q223) rfl rfl rfl (hts _ q64) (hts _ q220) (hts _ q222) (gsel_pr hts hPF rfl q222 q221) hdn_J7_ensureCapacityInternal ⟨Nat.le_of_ble_eq_true rfl, Nat.le_of_ble_eq_true rfl⟩) ⟨gblind, grecv hPF hG (gC_of (gK_mon hG.1.2 h0p0 (by decide)) (by decide)) (by decide) (by decide) rfl, fun U hU hW => gpre hPF hA hG _ U hU hW⟩ rfl rfl hl.1 rfl (lv_room (Nat.le_of_ble_eq_true rfl)) dJ7_append_3_7 ⟨(Nat.le_of_ble_eq_true rfl), (Nat.le_of_ble_eq_true rfl)⟩) (fun G1 H locs hw hmon hG => ?_)
  replace hw := hw hmon
  refine lv_aload_n hx hb dJ7_append_3_10 rfl (lv_at hl 0 rfl) ?_
  refine gc3i hA hG (va_runV (As := []) (rest := []) ⟨hx, hb, hml, hown, hts⟩ (gm_J7_isLatin1 l E p0 _ G1 hw _) (gcwP 0 hts (lw_meth q259) rfl rfl rfl (hts _ q64) (hts _ q255) (hts _ q256) (hts _ q258) hdn_J7_isLatin1 ⟨Nat.le_of_ble_eq_true rfl, Nat.le_of_ble_eq_true rfl⟩) ⟨gblind, grecv hPF hG (gC_of (gK_mon hG.1.2 h0p0 (by decide)) (by decide)) (by decide) (by decide) rfl, fun U hU hW => gpre hPF hA hG _ U hU hW⟩ rfl rfl hl.1 rfl (lv_room (Nat.le_of_ble_eq_true rfl)) dJ7_append_3_11 ⟨(Nat.le_of_ble_eq_true rfl), (Nat.le_of_ble_eq_true rfl)⟩) (fun r3 G2 H locs hw hmon hG => ?_)
  replace hw := hw hmon
  refine lv_if_eq (tgt := 45) hx hb dJ7_append_3_14 (by decide) (fun c_ => ?_) (fun c_ => ?_)
  · replace hw := hw.1 c_
    refine W.widen (k := 1) (n := 200) (Nat.le_of_ble_eq_true rfl) (Nat.le_of_ble_eq_true rfl) ?_
    exact hL45  p1 G2 _ _ ls hG (lv_sub hl [0, 1] rfl) hw
  · replace hw := hw.2 c_
    refine lv_iload_n hx hb dJ7_append_3_17 rfl (lv_at hl 1 rfl) ?_
    refine gc3i hA hG (va_runS (As := [.int p1]) (rest := []) ⟨hx, hb, hml, hown, hts⟩ (gm_J15_canEncode l E p1 _ G2 hw _) (va_cwS 1 hts (lw_S q1572 q1573 q73 q1574) rfl rfl rfl hd_J15_canEncode ⟨Nat.le_of_ble_eq_true rfl, Nat.le_of_ble_eq_true rfl⟩) ⟨gblind, fun U hU hW => gpre hPF hA hG _ U hU hW⟩ rfl rfl hl.1 rfl (lv_room (Nat.le_of_ble_eq_true rfl)) dJ7_append_3_18 ⟨(Nat.le_of_ble_eq_true rfl), (Nat.le_of_ble_eq_true rfl)⟩) (fun r5 G4 H locs hw hmon hG => ?_)
    replace hw := hw hmon
    refine lv_if_eq (tgt := 45) hx hb dJ7_append_3_21 (by decide) (fun c_ => ?_) (fun c_ => ?_)
    · replace hw := hw.1 c_
      refine W.widen (k := 1) (n := 200) (Nat.le_of_ble_eq_true rfl) (Nat.le_of_ble_eq_true rfl) ?_
      exact hL45  p1 G4 _ _ ls hG (lv_sub hl [0, 1] rfl) hw
    · replace hw := hw.2 c_
      refine lv_aload_n hx hb dJ7_append_3_24 rfl (lv_at hl 0 rfl) ?_
      refine gg hx hb hts hown hPF hG 16 0 rfl in_J8 (by decide) (by decide) (by decide) q194 (fun _ h9 => h9) (gC_of (gK_mon hG.1.2 h0p0 (by decide)) (by decide)) (v := va_rf (gR G4 p0 0)) rfl dJ7_append_3_25 ?_
      refine lv_aload_n hx hb dJ7_append_3_28 rfl (lv_at hl 0 rfl) ?_
      refine lv_dup hx hb dJ7_append_3_29 rfl ?_
      refine gg hx hb hts hown hPF hG 16 3 rfl in_J8 (by decide) (by decide) (by decide) q197 (fun _ h9 => h9) (gC_of (gK_mon hG.1.2 h0p0 (by decide)) (by decide)) (v := .int (gI G4 p0 3)) rfl dJ7_append_3_30 ?_
      refine lv_dup_x1 hx hb dJ7_append_3_33 rfl rfl ?_
      refine lv_iconst (v := 1) hx hb dJ7_append_3_34 (by decide) ?_
      refine lv_iadd hx hb dJ7_append_3_35 ?_
      refine gp hx hb hts hown hPF hG 16 3 rfl in_J8 tyJ8 tyJ8_ok nmJ8 (by decide) (by decide) (by decide) q197 (fun _ h9 => h9) rfl (gK_mon hG.1.2 h0p0 (by decide)) (v := .int ((gI G4 p0 3) + 1)) rfl rfl (G' := gsI G4 p0 3 ((gI G4 p0 3) + 1)) rfl rfl grI_off (Nat.le_of_ble_eq_true rfl) (gFs_I 16 3 (fun _ _ _ => rfl)) dJ7_append_3_36 (fun H locs hG => ?_)
      obtain ⟨G6, eG6⟩ : ∃ z, z = gsI G4 p0 3 ((gI G4 p0 3) + 1) := ⟨_, rfl⟩
      rw [← eG6] at hG
      replace hw := hw G6 eG6
      refine lv_iload_n hx hb dJ7_append_3_39 rfl (lv_at hl 1 rfl) ?_
      refine lv_i2b (v := p1.toInt8.toInt32) hx hb dJ7_append_3_40 rfl ?_
      obtain ⟨q7, hq7, hw⟩ := hw
      refine W.eq (g2 := F0 m 41 ls [.int p1.toInt8.toInt32, .int (gI G4 p0 3), .ref q7]) (by rw [hq7]; rfl) ?_
      have hk8 := hw.1
      replace hw := hw.2
      have hi9 := hw.1
      replace hw := hw.2
      refine gsb hx hb hPF hG hk8 hi9 rfl dJ7_append_3_41 (fun H locs hG => ?_)
      obtain ⟨G10, eG10⟩ : ∃ z, z = grI G6 q7 (upd (gI G6 q7) (gI G4 p0 3).toNatClampNeg (vp_nar .byte p1.toInt8.toInt32)) := ⟨_, rfl⟩
      rw [← eG10] at hG
      replace hw := hw G10 eG10
      have hk8 : gK G10 q7 = 32 := by rw [eG10]; exact hk8
      refine lv_goto (tgt := 75) hx hb dJ7_append_3_42 (by decide) ?_
      refine lv_aload_n hx hb dJ7_append_3_75 rfl (lv_at hl 0 rfl) ?_
      exact gretr (v := (some p0)) hx hb hr hlk hG (Or.inl ⟨_, rfl⟩) hw (Nat.le_of_ble_eq_true rfl) (Nat.le_of_ble_eq_true rfl) dJ7_append_3_76
def gw_J8_append_3 (E : gE) (post : Option Nat → Gh → Prop) (p0 : Nat) (p1 : Int32) (G : Gh) : Prop := gK G p0 = 16 ∧ (gw_J7_append_3 E (fun r2 G1 => gMon G G1 → (post (some p0) G1)) p0 p1 G)
theorem hd_J8_append_3 : yJ8_append_3.cls = RJ8 ∧ yJ8_append_3.cls ≠ "java/lang/invoke/MethodHandle" ∧ yJ8_append_3.cls ≠ "java/lang/invoke/VarHandle" ∧ (parseMethodDescriptor yJ8_append_3.desc).map (fun d => d.parameters.length) = some 1 := by decide +kernel
theorem hdn_J8_append_3 : yJ8_append_3.cls ≠ "java/lang/invoke/MethodHandle" ∧ yJ8_append_3.cls ≠ "java/lang/invoke/VarHandle" ∧ (parseMethodDescriptor yJ8_append_3.desc).map (fun d => d.parameters.length) = some 1 := hd_J8_append_3.2
theorem hdu_J8_append_3 : RJ8 ≠ "java/lang/invoke/MethodHandle" ∧ RJ8 ≠ "java/lang/invoke/VarHandle" ∧ (parseMethodDescriptor yJ8_append_3.desc).map (fun d => d.parameters.length) = some 1 := by decide +kernel
theorem hds_J8_append_3 : yJ8_append_3.name ≠ "<init>" ∧ (parseMethodDescriptor yJ8_append_3.desc).map (fun d => d.parameters.length) = some 1 := by decide +kernel
set_option maxHeartbeats 1000000 in
set_option maxRecDepth 100000 in
theorem gm_J8_append_3 (l : Launch) (E : gE) (p0 : Nat) (p1 : Int32) (post : Option Nat → Gh → Prop) (G : Gh) (hw : gw_J8_append_3 E post p0 p1 G) : gM l E yJ8_append_3 (ws_ yJ8_append_3 cJ8_append_3 2 (some (.object "java/lang/StringBuilder"))) ({ frames := 5, cells := 1, slots := 200, locals := 131 } : Room) 1 200 [.ref p0, .int p1] G (gpr post) := by
  refine gof (by decide) (Nat.le_of_ble_eq_true rfl) ?_
  intro p e s m below meth c A ls hx hb hr hlk hml hown hin hts hPF hA hG hl
  have hl : lv_has ls 2 [(0, .ref p0), (1, .int p1)] := hl
  unfold gw_J8_append_3 at hw
  obtain ⟨G0, hG0⟩ : ∃ G0, G0 = G := ⟨_, rfl⟩
  have hG : gS E A G0 s.heap G s.heap [] := by rw [hG0]; exact hG
  rw [show gQ E A G (gpr post) = gQ E A G0 (gpr post) by rw [hG0]]
  have h0p0 := hw.1; rw [← hG0] at h0p0
  replace hw := hw.2
  refine lv_aload_n hx hb dJ8_append_3_0 rfl (lv_at hl 0 rfl) ?_
  refine lv_iload_n hx hb dJ8_append_3_1 rfl (lv_at hl 1 rfl) ?_
  refine gc3r hA hG (va_runSU (hPF.K.1 16 _ rfl).2 (As := [.int p1]) (rest := []) ⟨hx, hb, hml, hown, hts⟩ (gm_J7_append_3 l E p0 p1 _ G hw _) (va_cwSU 1 hts (lw_SU q1569 q2324 q206 q1570 q64 q1571) rfl rfl rfl hds_J7_append_3 ⟨Nat.le_of_ble_eq_true rfl, Nat.le_of_ble_eq_true rfl⟩) ⟨gblind, grecv hPF hG (gC_of (gK_mon hG.1.2 h0p0 (by decide)) (by decide)) (by decide) (by decide) rfl, fun U hU hW => gpre hPF hA hG _ U hU hW⟩ rfl rfl hl.1 rfl (lv_room (Nat.le_of_ble_eq_true rfl)) dJ8_append_3_2 ⟨(Nat.le_of_ble_eq_true rfl), (Nat.le_of_ble_eq_true rfl)⟩) (fun r2 G1 H locs hw hmon hG => ?_)
  replace hw := hw hmon
  refine lv_pop hx hb dJ8_append_3_5 (va_rf_cat _) ?_
  refine lv_aload_n hx hb dJ8_append_3_6 rfl (lv_at hl 0 rfl) ?_
  exact gretr (v := (some p0)) hx hb hr hlk hG (Or.inl ⟨_, rfl⟩) hw (Nat.le_of_ble_eq_true rfl) (Nat.le_of_ble_eq_true rfl) dJ8_append_3_7
def gw_J7_charAt (E : gE) (post : Int32 → Gh → Prop) (p0 : Nat) (p1 : Int32) (G : Gh) : Prop := gK G p0 = 16 ∧ (∃ q1, (gR G p0 0) = some q1 ∧ (gC G q1 = 32 ∧ (gw_J9_checkIndex E (fun G3 => gMon G G3 → ((¬ (gI G p0 1) = 0 → (False)) ∧ ((gI G p0 1) = 0 → (vp_in p1 (gL G3 q1) ∧ (narrow .char (.int ((((gI G3 q1 p1.toNatClampNeg) &&& 255).toUInt32 % 65536).toInt32)) = .int ((((gI G3 q1 p1.toNatClampNeg) &&& 255).toUInt32 % 65536).toInt32) ∧ (post ((((gI G3 q1 p1.toNatClampNeg) &&& 255).toUInt32 % 65536).toInt32) G3)))))) p1 (if ((nI (gL G q1)) >>> ((gI G p0 1) &&& 31)) < (gI G p0 3) then ((nI (gL G q1)) >>> ((gI G p0 1) &&& 31)) else (gI G p0 3)) G)))
theorem hd_J7_charAt : yJ7_charAt.cls = RJ7 ∧ yJ7_charAt.cls ≠ "java/lang/invoke/MethodHandle" ∧ yJ7_charAt.cls ≠ "java/lang/invoke/VarHandle" ∧ (parseMethodDescriptor yJ7_charAt.desc).map (fun d => d.parameters.length) = some 1 := by decide +kernel
theorem hdn_J7_charAt : yJ7_charAt.cls ≠ "java/lang/invoke/MethodHandle" ∧ yJ7_charAt.cls ≠ "java/lang/invoke/VarHandle" ∧ (parseMethodDescriptor yJ7_charAt.desc).map (fun d => d.parameters.length) = some 1 := hd_J7_charAt.2
theorem hdu_J7_charAt : RJ7 ≠ "java/lang/invoke/MethodHandle" ∧ RJ7 ≠ "java/lang/invoke/VarHandle" ∧ (parseMethodDescriptor yJ7_charAt.desc).map (fun d => d.parameters.length) = some 1 := by decide +kernel
theorem hds_J7_charAt : yJ7_charAt.name ≠ "<init>" ∧ (parseMethodDescriptor yJ7_charAt.desc).map (fun d => d.parameters.length) = some 1 := by decide +kernel
set_option maxHeartbeats 1000000 in
set_option maxRecDepth 100000 in
theorem gm_J7_charAt (l : Launch) (E : gE) (p0 : Nat) (p1 : Int32) (post : Int32 → Gh → Prop) (G : Gh) (hw : gw_J7_charAt E post p0 p1 G) : gM l E yJ7_charAt (ws_ yJ7_charAt cJ7_charAt 5 (some .char)) ({ frames := 1, cells := 0, slots := 0, locals := 40 } : Room) 0 0 [.ref p0, .int p1] G (gpi post) := by
  refine gof (by decide) (Nat.le_of_ble_eq_true rfl) ?_
  intro p e s m below meth c A ls hx hb hr hlk hml hown hin hts hPF hA hG hl
  have hl : lv_has ls 5 [(0, .ref p0), (1, .int p1)] := hl
  unfold gw_J7_charAt at hw
  obtain ⟨G0, hG0⟩ : ∃ G0, G0 = G := ⟨_, rfl⟩
  have hG : gS E A G0 s.heap G s.heap [] := by rw [hG0]; exact hG
  rw [show gQ E A G (gpi post) = gQ E A G0 (gpi post) by rw [hG0]]
  have h0p0 := hw.1; rw [← hG0] at h0p0
  replace hw := hw.2
  refine lv_aload_n hx hb dJ7_charAt_0 rfl (lv_at hl 0 rfl) ?_
  refine gg hx hb hts hown hPF hG 16 1 rfl in_J8 (by decide) (by decide) (by decide) q195 (fun _ h9 => h9) (gC_of (gK_mon hG.1.2 h0p0 (by decide)) (by decide)) (v := .int (gI G p0 1)) rfl dJ7_charAt_1 ?_
  refine lv_istore_n (i := 2) (lv' := [(2, .int (gI G p0 1)), (0, .ref p0), (1, .int p1)]) hx hb dJ7_charAt_4 rfl hl (by decide) rfl (fun ls hl => ?_)
  refine lv_aload_n hx hb dJ7_charAt_5 rfl (lv_at hl 1 rfl) ?_
  refine gg hx hb hts hown hPF hG 16 0 rfl in_J8 (by decide) (by decide) (by decide) q194 (fun _ h9 => h9) (gC_of (gK_mon hG.1.2 h0p0 (by decide)) (by decide)) (v := va_rf (gR G p0 0)) rfl dJ7_charAt_6 ?_
  refine gt_n (i := 3) (lv' := [(3, va_rf (gR G p0 0)), (2, .int (gI G p0 1)), (0, .ref p0), (1, .int p1)]) hx hb dJ7_charAt_9 rfl hl (by decide) rfl (fun ls hl => ?_)
  refine lv_aload_n hx hb dJ7_charAt_10 rfl (lv_at hl 2 rfl) ?_
  refine gg hx hb hts hown hPF hG 16 3 rfl in_J8 (by decide) (by decide) (by decide) q197 (fun _ h9 => h9) (gC_of (gK_mon hG.1.2 h0p0 (by decide)) (by decide)) (v := .int (gI G p0 3)) rfl dJ7_charAt_11 ?_
  refine ga_n hx hb dJ7_charAt_14 rfl (lv_at hl 0 rfl) ?_
  obtain ⟨q1, hq1, hw⟩ := hw
  refine W.eq (g2 := F0 m 15 ls [.ref q1, .int (gI G p0 3)]) (by rw [hq1]; rfl) ?_
  have hk2 := hw.1
  replace hw := hw.2
  refine galen hx hb hPF hG hk2 (by decide) (by decide) dJ7_charAt_15 ?_
  refine lv_iload_n hx hb dJ7_charAt_16 rfl (lv_at hl 1 rfl) ?_
  refine lv_ishr hx hb dJ7_charAt_17 ?_
  refine va_mmin (rest := []) hx hb (hml.trans hl.1.symm) hown (hts _ q1814) (hts _ q250) (hts _ q69) (hts _ q251) (Nat.le_of_ble_eq_true rfl) (by (try simp only [List.map, va_rf_cat, gcat_i, gcat_r, gcat_l, gcat_d, gcat_f, gcat_n]); exact Nat.le_of_ble_eq_true rfl) (Nat.le_of_ble_eq_true rfl) (Nat.le_of_ble_eq_true rfl) dJ7_charAt_18 ?_
  refine lv_istore (lv' := [(4, .int (if ((nI (gL G q1)) >>> ((gI G p0 1) &&& 31)) < (gI G p0 3) then ((nI (gL G q1)) >>> ((gI G p0 1) &&& 31)) else (gI G p0 3))), (3, va_rf (gR G p0 0)), (2, .int (gI G p0 1)), (0, .ref p0), (1, .int p1)]) hx hb dJ7_charAt_21 hl (by decide) (by first | rfl | simp [List.filter, va_rf_cat, gcat_i, gcat_r, gcat_l, gcat_d, gcat_f, gcat_n]) (fun ls hl => ?_)
  refine lv_iload_n hx hb dJ7_charAt_23 rfl (lv_at hl 4 rfl) ?_
  refine lv_iload hx hb dJ7_charAt_24 (lv_at hl 0 rfl) ?_
  refine gc3v hA hG (va_runS (As := [.int p1, .int (if ((nI (gL G q1)) >>> ((gI G p0 1) &&& 31)) < (gI G p0 3) then ((nI (gL G q1)) >>> ((gI G p0 1) &&& 31)) else (gI G p0 3))]) (rest := []) ⟨hx, hb, hml, hown, hts⟩ (gm_J9_checkIndex l E p1 (if ((nI (gL G q1)) >>> ((gI G p0 1) &&& 31)) < (gI G p0 3) then ((nI (gL G q1)) >>> ((gI G p0 1) &&& 31)) else (gI G p0 3)) _ G hw _) (va_cwS 2 hts (lw_S q1815 q1582 q66 q1583) rfl rfl rfl hd_J9_checkIndex ⟨Nat.le_of_ble_eq_true rfl, Nat.le_of_ble_eq_true rfl⟩) ⟨gblind, fun U hU hW => gpre hPF hA hG _ U hU hW⟩ rfl rfl hl.1 rfl (lv_room (Nat.le_of_ble_eq_true rfl)) dJ7_charAt_26 ⟨(Nat.le_of_ble_eq_true rfl), (Nat.le_of_ble_eq_true rfl)⟩) (fun G3 H locs hw hmon hG => ?_)
  replace hw := hw hmon
  have hk2 : gC G3 q1 = 32 := gC_mon hmon hk2 (by decide)
  refine lv_iload_n hx hb dJ7_charAt_29 rfl (lv_at hl 2 rfl) ?_
  refine lv_if_ne (tgt := 42) hx hb dJ7_charAt_30 (by decide) (fun c_ => ?_) (fun c_ => ?_)
  · replace hw := hw.1 c_
    refine ga_n hx hb dJ7_charAt_42 rfl (lv_at hl 1 rfl) ?_
    refine lv_iload_n hx hb dJ7_charAt_43 rfl (lv_at hl 4 rfl) ?_
    exact hw.elim
  · replace hw := hw.2 c_
    refine ga_n hx hb dJ7_charAt_33 rfl (lv_at hl 1 rfl) ?_
    refine lv_iload_n hx hb dJ7_charAt_34 rfl (lv_at hl 4 rfl) ?_
    refine W.eq (g2 := F0 m 35 ls [.int p1, .ref q1]) (by rw [hq1]; rfl) ?_
    have hi4 := hw.1
    replace hw := hw.2
    refine glb hx hb hPF hG hk2 hi4 rfl dJ7_charAt_35 ?_
    refine lv_sipush (v := 255) hx hb dJ7_charAt_36 (by decide) ?_
    refine lv_iand hx hb dJ7_charAt_39 ?_
    refine lv_i2c (v := (((gI G3 q1 p1.toNatClampNeg) &&& 255).toUInt32 % 65536).toInt32) hx hb dJ7_charAt_40 rfl ?_
    have hn_ := hw.1
    replace hw := hw.2
    exact greti hx hb hr hlk hG hn_ hw (Nat.le_of_ble_eq_true rfl) (Nat.le_of_ble_eq_true rfl) dJ7_charAt_41
def gw_J8_charAt (E : gE) (post : Int32 → Gh → Prop) (p0 : Nat) (p1 : Int32) (G : Gh) : Prop := gK G p0 = 16 ∧ (gw_J7_charAt E (fun r2 G1 => gMon G G1 → (narrow .char (.int r2) = .int r2 ∧ (post r2 G1))) p0 p1 G)
theorem hd_J8_charAt : yJ8_charAt.cls = RJ8 ∧ yJ8_charAt.cls ≠ "java/lang/invoke/MethodHandle" ∧ yJ8_charAt.cls ≠ "java/lang/invoke/VarHandle" ∧ (parseMethodDescriptor yJ8_charAt.desc).map (fun d => d.parameters.length) = some 1 := by decide +kernel
theorem hdn_J8_charAt : yJ8_charAt.cls ≠ "java/lang/invoke/MethodHandle" ∧ yJ8_charAt.cls ≠ "java/lang/invoke/VarHandle" ∧ (parseMethodDescriptor yJ8_charAt.desc).map (fun d => d.parameters.length) = some 1 := hd_J8_charAt.2
theorem hdu_J8_charAt : RJ8 ≠ "java/lang/invoke/MethodHandle" ∧ RJ8 ≠ "java/lang/invoke/VarHandle" ∧ (parseMethodDescriptor yJ8_charAt.desc).map (fun d => d.parameters.length) = some 1 := by decide +kernel
theorem hds_J8_charAt : yJ8_charAt.name ≠ "<init>" ∧ (parseMethodDescriptor yJ8_charAt.desc).map (fun d => d.parameters.length) = some 1 := by decide +kernel
set_option maxHeartbeats 1000000 in
set_option maxRecDepth 100000 in
theorem gm_J8_charAt (l : Launch) (E : gE) (p0 : Nat) (p1 : Int32) (post : Int32 → Gh → Prop) (G : Gh) (hw : gw_J8_charAt E post p0 p1 G) : gM l E yJ8_charAt (ws_ yJ8_charAt cJ8_charAt 2 (some .char)) ({ frames := 2, cells := 0, slots := 0, locals := 64 } : Room) 0 0 [.ref p0, .int p1] G (gpi post) := by
  refine gof (by decide) (Nat.le_of_ble_eq_true rfl) ?_
  intro p e s m below meth c A ls hx hb hr hlk hml hown hin hts hPF hA hG hl
  have hl : lv_has ls 2 [(0, .ref p0), (1, .int p1)] := hl
  unfold gw_J8_charAt at hw
  obtain ⟨G0, hG0⟩ : ∃ G0, G0 = G := ⟨_, rfl⟩
  have hG : gS E A G0 s.heap G s.heap [] := by rw [hG0]; exact hG
  rw [show gQ E A G (gpi post) = gQ E A G0 (gpi post) by rw [hG0]]
  have h0p0 := hw.1; rw [← hG0] at h0p0
  replace hw := hw.2
  refine lv_aload_n hx hb dJ8_charAt_0 rfl (lv_at hl 0 rfl) ?_
  refine lv_iload_n hx hb dJ8_charAt_1 rfl (lv_at hl 1 rfl) ?_
  refine gc3i hA hG (va_runSU (hPF.K.1 16 _ rfl).2 (As := [.int p1]) (rest := []) ⟨hx, hb, hml, hown, hts⟩ (gm_J7_charAt l E p0 p1 _ G hw _) (va_cwSU 1 hts (lw_SU q1811 q2326 q206 q1812 q64 q1813) rfl rfl rfl hds_J7_charAt ⟨Nat.le_of_ble_eq_true rfl, Nat.le_of_ble_eq_true rfl⟩) ⟨gblind, grecv hPF hG (gC_of (gK_mon hG.1.2 h0p0 (by decide)) (by decide)) (by decide) (by decide) rfl, fun U hU hW => gpre hPF hA hG _ U hU hW⟩ rfl rfl hl.1 rfl (lv_room (Nat.le_of_ble_eq_true rfl)) dJ8_charAt_2 ⟨(Nat.le_of_ble_eq_true rfl), (Nat.le_of_ble_eq_true rfl)⟩) (fun r2 G1 H locs hw hmon hG => ?_)
  replace hw := hw hmon
  have hn_ := hw.1
  replace hw := hw.2
  exact greti hx hb hr hlk hG hn_ hw (Nat.le_of_ble_eq_true rfl) (Nat.le_of_ble_eq_true rfl) dJ8_charAt_5
def gw_J7_length (E : gE) (post : Int32 → Gh → Prop) (p0 : Nat) (G : Gh) : Prop := gK G p0 = 16 ∧ (post (gI G p0 3) G)
theorem hd_J7_length : yJ7_length.cls = RJ7 ∧ yJ7_length.cls ≠ "java/lang/invoke/MethodHandle" ∧ yJ7_length.cls ≠ "java/lang/invoke/VarHandle" ∧ (parseMethodDescriptor yJ7_length.desc).map (fun d => d.parameters.length) = some 0 := by decide +kernel
theorem hdn_J7_length : yJ7_length.cls ≠ "java/lang/invoke/MethodHandle" ∧ yJ7_length.cls ≠ "java/lang/invoke/VarHandle" ∧ (parseMethodDescriptor yJ7_length.desc).map (fun d => d.parameters.length) = some 0 := hd_J7_length.2
theorem hdu_J7_length : RJ7 ≠ "java/lang/invoke/MethodHandle" ∧ RJ7 ≠ "java/lang/invoke/VarHandle" ∧ (parseMethodDescriptor yJ7_length.desc).map (fun d => d.parameters.length) = some 0 := by decide +kernel
theorem hds_J7_length : yJ7_length.name ≠ "<init>" ∧ (parseMethodDescriptor yJ7_length.desc).map (fun d => d.parameters.length) = some 0 := by decide +kernel
set_option maxHeartbeats 1000000 in
set_option maxRecDepth 100000 in
theorem gm_J7_length (l : Launch) (E : gE) (p0 : Nat) (post : Int32 → Gh → Prop) (G : Gh) (hw : gw_J7_length E post p0 G) : gM l E yJ7_length (ws_ yJ7_length cJ7_length 1 (some .int)) ({ frames := 0, cells := 0, slots := 0, locals := 0 } : Room) 0 0 [.ref p0] G (gpi post) := by
  refine gof (by decide) (Nat.le_of_ble_eq_true rfl) ?_
  intro p e s m below meth c A ls hx hb hr hlk hml hown hin hts hPF hA hG hl
  have hl : lv_has ls 1 [(0, .ref p0)] := hl
  unfold gw_J7_length at hw
  obtain ⟨G0, hG0⟩ : ∃ G0, G0 = G := ⟨_, rfl⟩
  have hG : gS E A G0 s.heap G s.heap [] := by rw [hG0]; exact hG
  rw [show gQ E A G (gpi post) = gQ E A G0 (gpi post) by rw [hG0]]
  have h0p0 := hw.1; rw [← hG0] at h0p0
  replace hw := hw.2
  refine lv_aload_n hx hb dJ7_length_0 rfl (lv_at hl 0 rfl) ?_
  refine gg hx hb hts hown hPF hG 16 3 rfl in_J8 (by decide) (by decide) (by decide) q197 (fun _ h9 => h9) (gC_of (gK_mon hG.1.2 h0p0 (by decide)) (by decide)) (v := .int (gI G p0 3)) rfl dJ7_length_1 ?_
  exact greti hx hb hr hlk hG rfl hw (Nat.le_of_ble_eq_true rfl) (Nat.le_of_ble_eq_true rfl) dJ7_length_4
def gw_J8_length (E : gE) (post : Int32 → Gh → Prop) (p0 : Nat) (G : Gh) : Prop := gK G p0 = 16 ∧ (gw_J7_length E (fun r2 G1 => gMon G G1 → (post r2 G1)) p0 G)
theorem hd_J8_length : yJ8_length.cls = RJ8 ∧ yJ8_length.cls ≠ "java/lang/invoke/MethodHandle" ∧ yJ8_length.cls ≠ "java/lang/invoke/VarHandle" ∧ (parseMethodDescriptor yJ8_length.desc).map (fun d => d.parameters.length) = some 0 := by decide +kernel
theorem hdn_J8_length : yJ8_length.cls ≠ "java/lang/invoke/MethodHandle" ∧ yJ8_length.cls ≠ "java/lang/invoke/VarHandle" ∧ (parseMethodDescriptor yJ8_length.desc).map (fun d => d.parameters.length) = some 0 := hd_J8_length.2
theorem hdu_J8_length : RJ8 ≠ "java/lang/invoke/MethodHandle" ∧ RJ8 ≠ "java/lang/invoke/VarHandle" ∧ (parseMethodDescriptor yJ8_length.desc).map (fun d => d.parameters.length) = some 0 := by decide +kernel
theorem hds_J8_length : yJ8_length.name ≠ "<init>" ∧ (parseMethodDescriptor yJ8_length.desc).map (fun d => d.parameters.length) = some 0 := by decide +kernel
set_option maxHeartbeats 1000000 in
set_option maxRecDepth 100000 in
theorem gm_J8_length (l : Launch) (E : gE) (p0 : Nat) (post : Int32 → Gh → Prop) (G : Gh) (hw : gw_J8_length E post p0 G) : gM l E yJ8_length (ws_ yJ8_length cJ8_length 1 (some .int)) ({ frames := 1, cells := 0, slots := 0, locals := 20 } : Room) 0 0 [.ref p0] G (gpi post) := by
  refine gof (by decide) (Nat.le_of_ble_eq_true rfl) ?_
  intro p e s m below meth c A ls hx hb hr hlk hml hown hin hts hPF hA hG hl
  have hl : lv_has ls 1 [(0, .ref p0)] := hl
  unfold gw_J8_length at hw
  obtain ⟨G0, hG0⟩ : ∃ G0, G0 = G := ⟨_, rfl⟩
  have hG : gS E A G0 s.heap G s.heap [] := by rw [hG0]; exact hG
  rw [show gQ E A G (gpi post) = gQ E A G0 (gpi post) by rw [hG0]]
  have h0p0 := hw.1; rw [← hG0] at h0p0
  replace hw := hw.2
  refine lv_aload_n hx hb dJ8_length_0 rfl (lv_at hl 0 rfl) ?_
  refine gc3i hA hG (va_runSU (hPF.K.1 16 _ rfl).2 (As := []) (rest := []) ⟨hx, hb, hml, hown, hts⟩ (gm_J7_length l E p0 _ G hw _) (va_cwSU 0 hts (lw_SU q378 q374 q206 q373 q64 q379) rfl rfl rfl hds_J7_length ⟨Nat.le_of_ble_eq_true rfl, Nat.le_of_ble_eq_true rfl⟩) ⟨gblind, grecv hPF hG (gC_of (gK_mon hG.1.2 h0p0 (by decide)) (by decide)) (by decide) (by decide) rfl, fun U hU hW => gpre hPF hA hG _ U hU hW⟩ rfl rfl hl.1 rfl (lv_room (Nat.le_of_ble_eq_true rfl)) dJ8_length_1 ⟨(Nat.le_of_ble_eq_true rfl), (Nat.le_of_ble_eq_true rfl)⟩) (fun r2 G1 H locs hw hmon hG => ?_)
  replace hw := hw hmon
  exact greti hx hb hr hlk hG rfl hw (Nat.le_of_ble_eq_true rfl) (Nat.le_of_ble_eq_true rfl) dJ8_length_4
def gw_J7_init (E : gE) (post : Gh → Prop) (p0 : Nat) (p1 : Int32) (G : Gh) : Prop := gK G p0 = 16 ∧ ((¬ p1 < 0 ∧ p1.toNatClampNeg ≤ 200) ∧ (∀ q1, gK G q1 = 0 → ∀ G3, G3 = gN G q1 32 (p1.toNatClampNeg) → (∀ G4, G4 = gsR G3 p0 0 (some q1) → (∀ G5, G5 = gsI G4 p0 1 0 → (post G5)))))
theorem hd_J7_init : yJ7_init.cls ≠ "java/lang/invoke/MethodHandle" ∧ yJ7_init.cls ≠ "java/lang/invoke/VarHandle" ∧ (parseMethodDescriptor yJ7_init.desc).map (fun d => d.parameters.length) = some 1 := by decide +kernel
set_option maxHeartbeats 1000000 in
set_option maxRecDepth 100000 in
theorem gm_J7_init (l : Launch) (E : gE) (p0 : Nat) (p1 : Int32) (post : Gh → Prop) (G : Gh) (hw : gw_J7_init E post p0 p1 G) : gM l E yJ7_init (ws_ yJ7_init cJ7_init 2 none) ({ frames := 1, cells := 1, slots := 200, locals := 30 } : Room) 1 200 [.ref p0, .int p1] G (gpv post) := by
  refine gof (by decide) (Nat.le_of_ble_eq_true rfl) ?_
  intro p e s m below meth c A ls hx hb hr hlk hml hown hin hts hPF hA hG hl
  have hl : lv_has ls 2 [(0, .ref p0), (1, .int p1)] := hl
  unfold gw_J7_init at hw
  obtain ⟨G0, hG0⟩ : ∃ G0, G0 = G := ⟨_, rfl⟩
  have hG : gS E A G0 s.heap G s.heap [] := by rw [hG0]; exact hG
  rw [show gQ E A G (gpv post) = gQ E A G0 (gpv post) by rw [hG0]]
  have h0p0 := hw.1; rw [← hG0] at h0p0
  replace hw := hw.2
  refine lv_aload_n hx hb dJ7_init_0 rfl (lv_at hl 0 rfl) ?_
  refine W.objInit hx hb hown (hts _ q184) (hts _ q105) (hts _ q106) (g := F0 m 1 ls (.ref p0 :: [])) rfl (hl.1.trans hml.symm) rfl dJ7_init_1 (Nat.le_of_ble_eq_true rfl) (by (try simp only [List.map, va_rf_cat, gcat_i, gcat_r, gcat_l, gcat_d, gcat_f, gcat_n]); exact Nat.le_of_ble_eq_true rfl) ?_
  refine W.eq (g2 := F0 m 4 ls []) rfl ?_
  refine va_gets (v := .int 1) hx hb (hPF.z 0 rfl) hG.2 hown (hts _ q185) (fun _ h9 => h9) dJ7_init_4 ?_
  refine lv_if_eq (tgt := 25) hx hb dJ7_init_7 (by decide) (fun c_ => absurd c_ (by decide)) (fun c_ => ?_)
  refine lv_aload_n hx hb dJ7_init_10 rfl (lv_at hl 0 rfl) ?_
  refine lv_iload_n hx hb dJ7_init_11 rfl (lv_at hl 1 rfl) ?_
  have hn2 := hw.1
  replace hw := hw.2
  refine gnab hx hb hts q207 hPF hG hA hn2.1 rfl 200 hn2.2 (by decide) (Nat.le_of_ble_eq_true rfl) (Nat.le_of_ble_eq_true rfl) dJ7_init_12 (fun q1 H h0q1 hG => ?_)
  replace hw := hw q1 h0q1
  obtain ⟨G3, eG3⟩ : ∃ z, z = gN G q1 32 (p1.toNatClampNeg) := ⟨_, rfl⟩
  rw [← eG3] at hG
  replace hw := hw G3 eG3
  have hkq1 : gK G3 q1 = 32 := by rw [eG3]; exact gK_Nq
  refine gp hx hb hts hown hPF hG 16 0 rfl in_J8 tyJ8 tyJ8_ok nmJ8 (by decide) (by decide) (by decide) q194 (fun _ h9 => h9) rfl (gK_mon hG.1.2 h0p0 (by decide)) (v := va_rf (some q1)) (narrow_rf _) (fits_rf _ (by decide)) (G' := gsR G3 p0 0 (some q1)) rfl rfl grR_off (Nat.le_of_ble_eq_true rfl) (gFs_R 16 0 (fun _ _ _ => rfl)) dJ7_init_14 (fun H locs hG => ?_)
  obtain ⟨G4, eG4⟩ : ∃ z, z = gsR G3 p0 0 (some q1) := ⟨_, rfl⟩
  rw [← eG4] at hG
  replace hw := hw G4 eG4
  have hkq1 : gK G4 q1 = 32 := by rw [eG4]; exact hkq1
  refine lv_aload_n hx hb dJ7_init_17 rfl (lv_at hl 0 rfl) ?_
  refine lv_iconst (v := 0) hx hb dJ7_init_18 (by decide) ?_
  refine gp hx hb hts hown hPF hG 16 1 rfl in_J8 tyJ8 tyJ8_ok nmJ8 (by decide) (by decide) (by decide) q195 (fun _ h9 => h9) rfl (gK_mon hG.1.2 h0p0 (by decide)) (v := .int 0) (by decide) (by decide) (G' := gsI G4 p0 1 0) rfl rfl grI_off (Nat.le_of_ble_eq_true rfl) (gFs_I 16 1 (fun _ _ _ => rfl)) dJ7_init_19 (fun H locs hG => ?_)
  obtain ⟨G5, eG5⟩ : ∃ z, z = gsI G4 p0 1 0 := ⟨_, rfl⟩
  rw [← eG5] at hG
  replace hw := hw G5 eG5
  have hkq1 : gK G5 q1 = 32 := by rw [eG5]; exact hkq1
  refine lv_goto (tgt := 38) hx hb dJ7_init_22 (by decide) ?_
  exact gretv hx hb hr hlk hG hw (Nat.le_of_ble_eq_true rfl) (Nat.le_of_ble_eq_true rfl) dJ7_init_38
def gw_J8_init (E : gE) (post : Gh → Prop) (p0 : Nat) (G : Gh) : Prop := gK G p0 = 16 ∧ (gw_J7_init E (fun G1 => gMon G G1 → (post G1)) p0 16 G)
theorem hd_J8_init : yJ8_init.cls ≠ "java/lang/invoke/MethodHandle" ∧ yJ8_init.cls ≠ "java/lang/invoke/VarHandle" ∧ (parseMethodDescriptor yJ8_init.desc).map (fun d => d.parameters.length) = some 0 := by decide +kernel
set_option maxHeartbeats 1000000 in
set_option maxRecDepth 100000 in
theorem gm_J8_init (l : Launch) (E : gE) (p0 : Nat) (post : Gh → Prop) (G : Gh) (hw : gw_J8_init E post p0 G) : gM l E yJ8_init (ws_ yJ8_init cJ8_init 1 none) ({ frames := 2, cells := 1, slots := 200, locals := 51 } : Room) 1 200 [.ref p0] G (gpv post) := by
  refine gof (by decide) (Nat.le_of_ble_eq_true rfl) ?_
  intro p e s m below meth c A ls hx hb hr hlk hml hown hin hts hPF hA hG hl
  have hl : lv_has ls 1 [(0, .ref p0)] := hl
  unfold gw_J8_init at hw
  obtain ⟨G0, hG0⟩ : ∃ G0, G0 = G := ⟨_, rfl⟩
  have hG : gS E A G0 s.heap G s.heap [] := by rw [hG0]; exact hG
  rw [show gQ E A G (gpv post) = gQ E A G0 (gpv post) by rw [hG0]]
  have h0p0 := hw.1; rw [← hG0] at h0p0
  replace hw := hw.2
  refine lv_aload_n hx hb dJ8_init_0 rfl (lv_at hl 0 rfl) ?_
  refine lv_bipush (v := 16) hx hb dJ8_init_1 (by decide) ?_
  refine gc3v hA hG (va_runI (As := [.int 16]) (rest := []) ⟨hx, hb, hml, hown, hts⟩ (gm_J7_init l E p0 16 _ G hw _) (cwI 1 hts (lw_meth q183) rfl rfl rfl (hts _ q64) (hts _ q181) (hts _ q182) rfl hd_J7_init ⟨Nat.le_of_ble_eq_true rfl, Nat.le_of_ble_eq_true rfl⟩) ⟨gblind, fun U hU hW => gpre hPF hA hG _ U hU hW⟩ rfl rfl hl.1 rfl (lv_room (Nat.le_of_ble_eq_true rfl)) dJ8_init_3 ⟨(Nat.le_of_ble_eq_true rfl), (Nat.le_of_ble_eq_true rfl)⟩) (fun G1 H locs hw hmon hG => ?_)
  replace hw := hw hmon
  exact gretv hx hb hr hlk hG hw (Nat.le_of_ble_eq_true rfl) (Nat.le_of_ble_eq_true rfl) dJ8_init_6
def gw_J7_getValue (E : gE) (post : Option Nat → Gh → Prop) (p0 : Nat) (G : Gh) : Prop := gK G p0 = 16 ∧ (post (gR G p0 0) G)
theorem hd_J7_getValue : yJ7_getValue.cls = RJ7 ∧ yJ7_getValue.cls ≠ "java/lang/invoke/MethodHandle" ∧ yJ7_getValue.cls ≠ "java/lang/invoke/VarHandle" ∧ (parseMethodDescriptor yJ7_getValue.desc).map (fun d => d.parameters.length) = some 0 := by decide +kernel
theorem hdn_J7_getValue : yJ7_getValue.cls ≠ "java/lang/invoke/MethodHandle" ∧ yJ7_getValue.cls ≠ "java/lang/invoke/VarHandle" ∧ (parseMethodDescriptor yJ7_getValue.desc).map (fun d => d.parameters.length) = some 0 := hd_J7_getValue.2
theorem hdu_J7_getValue : RJ7 ≠ "java/lang/invoke/MethodHandle" ∧ RJ7 ≠ "java/lang/invoke/VarHandle" ∧ (parseMethodDescriptor yJ7_getValue.desc).map (fun d => d.parameters.length) = some 0 := by decide +kernel
theorem hds_J7_getValue : yJ7_getValue.name ≠ "<init>" ∧ (parseMethodDescriptor yJ7_getValue.desc).map (fun d => d.parameters.length) = some 0 := by decide +kernel
set_option maxHeartbeats 1000000 in
set_option maxRecDepth 100000 in
theorem gm_J7_getValue (l : Launch) (E : gE) (p0 : Nat) (post : Option Nat → Gh → Prop) (G : Gh) (hw : gw_J7_getValue E post p0 G) : gM l E yJ7_getValue (ws_ yJ7_getValue cJ7_getValue 1 (some (.array .byte))) ({ frames := 0, cells := 0, slots := 0, locals := 0 } : Room) 0 0 [.ref p0] G (gpr post) := by
  refine gof (by decide) (Nat.le_of_ble_eq_true rfl) ?_
  intro p e s m below meth c A ls hx hb hr hlk hml hown hin hts hPF hA hG hl
  have hl : lv_has ls 1 [(0, .ref p0)] := hl
  unfold gw_J7_getValue at hw
  obtain ⟨G0, hG0⟩ : ∃ G0, G0 = G := ⟨_, rfl⟩
  have hG : gS E A G0 s.heap G s.heap [] := by rw [hG0]; exact hG
  rw [show gQ E A G (gpr post) = gQ E A G0 (gpr post) by rw [hG0]]
  have h0p0 := hw.1; rw [← hG0] at h0p0
  replace hw := hw.2
  refine lv_aload_n hx hb dJ7_getValue_0 rfl (lv_at hl 0 rfl) ?_
  refine gg hx hb hts hown hPF hG 16 0 rfl in_J8 (by decide) (by decide) (by decide) q194 (fun _ h9 => h9) (gC_of (gK_mon hG.1.2 h0p0 (by decide)) (by decide)) (v := va_rf (gR G p0 0)) rfl dJ7_getValue_1 ?_
  exact gretr (v := (gR G p0 0)) hx hb hr hlk hG (Or.inr ⟨_, rfl⟩) hw (Nat.le_of_ble_eq_true rfl) (Nat.le_of_ble_eq_true rfl) dJ7_getValue_4
def gw_J13_copyOfRangeByte (E : gE) (post : Option Nat → Gh → Prop) (p0 : Nat) (p1 : Int32) (p2 : Int32) (G : Gh) : Prop := gC G p0 = 32 ∧ (False)
theorem hd_J13_copyOfRangeByte : yJ13_copyOfRangeByte.cls ≠ "java/lang/invoke/MethodHandle" ∧ yJ13_copyOfRangeByte.cls ≠ "java/lang/invoke/VarHandle" ∧ (parseMethodDescriptor yJ13_copyOfRangeByte.desc).map (fun d => d.parameters.length) = some 3 := by decide +kernel
set_option maxHeartbeats 1000000 in
set_option maxRecDepth 100000 in
theorem gm_J13_copyOfRangeByte (l : Launch) (E : gE) (p0 : Nat) (p1 : Int32) (p2 : Int32) (post : Option Nat → Gh → Prop) (G : Gh) (hw : gw_J13_copyOfRangeByte E post p0 p1 p2 G) : gM l E yJ13_copyOfRangeByte (ws_ yJ13_copyOfRangeByte cJ13_copyOfRangeByte 5 (some (.array .byte))) ({ frames := 0, cells := 0, slots := 0, locals := 0 } : Room) 0 0 [.ref p0, .int p1, .int p2] G (gpr post) := by
  refine gof (by decide) (Nat.le_of_ble_eq_true rfl) ?_
  intro p e s m below meth c A ls hx hb hr hlk hml hown hin hts hPF hA hG hl
  have hl : lv_has ls 5 [(0, .ref p0), (1, .int p1), (2, .int p2)] := hl
  unfold gw_J13_copyOfRangeByte at hw
  obtain ⟨G0, hG0⟩ : ∃ G0, G0 = G := ⟨_, rfl⟩
  have hG : gS E A G0 s.heap G s.heap [] := by rw [hG0]; exact hG
  rw [show gQ E A G (gpr post) = gQ E A G0 (gpr post) by rw [hG0]]
  have h0p0 := hw.1; rw [← hG0] at h0p0
  replace hw := hw.2
  refine lv_iload_n hx hb dJ13_copyOfRangeByte_0 rfl (lv_at hl 1 rfl) ?_
  refine lv_iload_n hx hb dJ13_copyOfRangeByte_1 rfl (lv_at hl 2 rfl) ?_
  exact hw.elim
def gw_J13_copyOfRange (E : gE) (post : Option Nat → Gh → Prop) (p0 : Nat) (p1 : Int32) (p2 : Int32) (G : Gh) : Prop := gC G p0 = 32 ∧ ((¬ p1 = 0 → (gw_J13_copyOfRangeByte E (fun r2 G1 => gMon G G1 → (post r2 G1)) p0 p1 p2 G)) ∧ (p1 = 0 → ((p2 = (nI (gL G p0)) → (((∀ i, i < gL G p0 → fits .byte (.int (gI G p0 i)) = true) ∧ gL G p0 ≤ 200) ∧ (∀ q3, gK G q3 = 0 → ∀ G5, G5 = grI (gN G q3 32 (gL G p0)) q3 (gI G p0) → (post (some q3) G5)))) ∧ (¬ p2 = (nI (gL G p0)) → (gw_J13_copyOfRangeByte E (fun r7 G6 => gMon G G6 → (post r7 G6)) p0 p1 p2 G)))))
theorem hd_J13_copyOfRange : yJ13_copyOfRange.cls ≠ "java/lang/invoke/MethodHandle" ∧ yJ13_copyOfRange.cls ≠ "java/lang/invoke/VarHandle" ∧ (parseMethodDescriptor yJ13_copyOfRange.desc).map (fun d => d.parameters.length) = some 3 := by decide +kernel
set_option maxHeartbeats 1000000 in
set_option maxRecDepth 100000 in
theorem gm_J13_copyOfRange (l : Launch) (E : gE) (p0 : Nat) (p1 : Int32) (p2 : Int32) (post : Option Nat → Gh → Prop) (G : Gh) (hw : gw_J13_copyOfRange E post p0 p1 p2 G) : gM l E yJ13_copyOfRange (ws_ yJ13_copyOfRange cJ13_copyOfRange 3 (some (.array .byte))) ({ frames := 1, cells := 1, slots := 200, locals := 60 } : Room) 1 200 [.ref p0, .int p1, .int p2] G (gpr post) := by
  refine gof (by decide) (Nat.le_of_ble_eq_true rfl) ?_
  intro p e s m below meth c A ls hx hb hr hlk hml hown hin hts hPF hA hG hl
  have hl : lv_has ls 3 [(0, .ref p0), (1, .int p1), (2, .int p2)] := hl
  unfold gw_J13_copyOfRange at hw
  obtain ⟨G0, hG0⟩ : ∃ G0, G0 = G := ⟨_, rfl⟩
  have hG : gS E A G0 s.heap G s.heap [] := by rw [hG0]; exact hG
  rw [show gQ E A G (gpr post) = gQ E A G0 (gpr post) by rw [hG0]]
  have h0p0 := hw.1; rw [← hG0] at h0p0
  replace hw := hw.2
  refine lv_iload_n hx hb dJ13_copyOfRange_0 rfl (lv_at hl 1 rfl) ?_
  refine lv_if_ne (tgt := 10) hx hb dJ13_copyOfRange_1 (by decide) (fun c_ => ?_) (fun c_ => ?_)
  · replace hw := hw.1 c_
    refine lv_aload_n hx hb dJ13_copyOfRange_10 rfl (lv_at hl 0 rfl) ?_
    refine lv_iload_n hx hb dJ13_copyOfRange_11 rfl (lv_at hl 1 rfl) ?_
    refine lv_iload_n hx hb dJ13_copyOfRange_12 rfl (lv_at hl 2 rfl) ?_
    refine gc3r hA hG (va_runS (As := [.ref p0, .int p1, .int p2]) (rest := []) ⟨hx, hb, hml, hown, hts⟩ (gm_J13_copyOfRangeByte l E p0 p1 p2 _ G hw _) (va_cwS 3 hts (lw_S q384 q385 q70 q386) rfl rfl rfl hd_J13_copyOfRangeByte ⟨Nat.le_of_ble_eq_true rfl, Nat.le_of_ble_eq_true rfl⟩) ⟨gblind, fun U hU hW => gpre hPF hA hG _ U hU hW⟩ rfl rfl hl.1 rfl (lv_room (Nat.le_of_ble_eq_true rfl)) dJ13_copyOfRange_13 ⟨(Nat.le_of_ble_eq_true rfl), (Nat.le_of_ble_eq_true rfl)⟩) (fun r2 G1 H locs hw hmon hG => ?_)
    replace hw := hw hmon
    exact gretr (v := r2) hx hb hr hlk hG (Or.inr ⟨_, rfl⟩) hw (Nat.le_of_ble_eq_true rfl) (Nat.le_of_ble_eq_true rfl) dJ13_copyOfRange_16
  · replace hw := hw.2 c_
    refine lv_iload_n hx hb dJ13_copyOfRange_4 rfl (lv_at hl 2 rfl) ?_
    refine lv_aload_n hx hb dJ13_copyOfRange_5 rfl (lv_at hl 0 rfl) ?_
    refine galen hx hb hPF hG (gC_mon hG.1.2 h0p0 (by decide)) (by decide) (by decide) dJ13_copyOfRange_6 ?_
    refine lv_icmp_eq (tgt := 17) hx hb dJ13_copyOfRange_7 (by decide) (fun c_ => ?_) (fun c_ => ?_)
    · replace hw := hw.1 c_
      refine lv_aload_n hx hb dJ13_copyOfRange_17 rfl (lv_at hl 0 rfl) ?_
      have hf4 := hw.1
      replace hw := hw.2
      refine gcloneB hx hb (hl.1.trans hml.symm) hts hown q242 q243 q244 q245 q246 q247 hPF hG hA (gC_mon hG.1.2 h0p0 (by decide)) hf4.1 200 hf4.2 (Nat.le_of_ble_eq_true rfl) (by (try simp only [List.map, va_rf_cat, gcat_i, gcat_r, gcat_l, gcat_d, gcat_f, gcat_n]); exact Nat.le_of_ble_eq_true rfl) (Nat.le_of_ble_eq_true rfl) (Nat.le_of_ble_eq_true rfl) dJ13_copyOfRange_18 (fun q3 H h0q3 hG => ?_)
      replace hw := hw q3 h0q3
      obtain ⟨G5, eG5⟩ : ∃ z, z = grI (gN G q3 32 (gL G p0)) q3 (gI G p0) := ⟨_, rfl⟩
      rw [← eG5] at hG
      replace hw := hw G5 eG5
      have hkq3 : gK G5 q3 = 32 := by rw [eG5]; exact gK_Nq (n := gL G p0)
      refine gcastA32 hx hb hown (hts _ q248) hPF hG (gC_of hkq3 (by decide)) dJ13_copyOfRange_21 ?_
      exact gretr (v := (some q3)) hx hb hr hlk hG (Or.inr ⟨_, rfl⟩) hw (Nat.le_of_ble_eq_true rfl) (Nat.le_of_ble_eq_true rfl) dJ13_copyOfRange_24
    · replace hw := hw.2 c_
      refine lv_aload_n hx hb dJ13_copyOfRange_10 rfl (lv_at hl 0 rfl) ?_
      refine lv_iload_n hx hb dJ13_copyOfRange_11 rfl (lv_at hl 1 rfl) ?_
      refine lv_iload_n hx hb dJ13_copyOfRange_12 rfl (lv_at hl 2 rfl) ?_
      refine gc3r hA hG (va_runS (As := [.ref p0, .int p1, .int p2]) (rest := []) ⟨hx, hb, hml, hown, hts⟩ (gm_J13_copyOfRangeByte l E p0 p1 p2 _ G hw _) (va_cwS 3 hts (lw_S q384 q385 q70 q386) rfl rfl rfl hd_J13_copyOfRangeByte ⟨Nat.le_of_ble_eq_true rfl, Nat.le_of_ble_eq_true rfl⟩) ⟨gblind, fun U hU hW => gpre hPF hA hG _ U hU hW⟩ rfl rfl hl.1 rfl (lv_room (Nat.le_of_ble_eq_true rfl)) dJ13_copyOfRange_13 ⟨(Nat.le_of_ble_eq_true rfl), (Nat.le_of_ble_eq_true rfl)⟩) (fun r7 G6 H locs hw hmon hG => ?_)
      replace hw := hw hmon
      exact gretr (v := r7) hx hb hr hlk hG (Or.inr ⟨_, rfl⟩) hw (Nat.le_of_ble_eq_true rfl) (Nat.le_of_ble_eq_true rfl) dJ13_copyOfRange_16
def gw_J9_init_2_L79 (E : gE) (p0 : Nat) (p1 : Nat) (p2 : Nat) (post : Gh → Prop) (x3 : Option Nat) (x4 : Int32) (G : Gh) : Prop := ∀ G12, G12 = gsI G p0 1 1 → (∃ q13, x3 = some q13 ∧ (gw_J13_copyOfRange E (fun r15 G14 => gMon G12 G14 → (∀ G16, G16 = gsR G14 p0 0 r15 → (post G16))) q13 0 (x4 <<< ((1 : Int32) &&& 31)) G12))
def gw_J9_init_2 (E : gE) (post : Gh → Prop) (p0 : Nat) (p1 : Nat) (p2 : Nat) (G : Gh) : Prop := gK G p0 = 17 ∧ (gK G p1 = 16 ∧ (gw_J7_getValue E (fun r2 G1 => gMon G G1 → (gw_J8_length E (fun r4 G3 => gMon G1 G3 → (gw_J7_isLatin1 E (fun r6 G5 => gMon G3 G5 → ((r6 = 0 → (((gI G5 p1 2) = 0 → (gw_J9_init_2_L79 E p0 p1 p2 post  r2 r4 G5)) ∧ (¬ (gI G5 p1 2) = 0 → (False)))) ∧ (¬ r6 = 0 → (∀ G7, G7 = gsI G5 p0 1 0 → (∃ q8, r2 = some q8 ∧ (gw_J13_copyOfRange E (fun r10 G9 => gMon G7 G9 → (∀ G11, G11 = gsR G9 p0 0 r10 → (post G11))) q8 0 r4 G7)))))) p1 G3)) p1 G1)) p1 G))
theorem hd_J9_init_2 : yJ9_init_2.cls ≠ "java/lang/invoke/MethodHandle" ∧ yJ9_init_2.cls ≠ "java/lang/invoke/VarHandle" ∧ (parseMethodDescriptor yJ9_init_2.desc).map (fun d => d.parameters.length) = some 2 := by decide +kernel
set_option maxHeartbeats 1000000 in
set_option maxRecDepth 100000 in
theorem gm_J9_init_2 (l : Launch) (E : gE) (p0 : Nat) (p1 : Nat) (p2 : Nat) (post : Gh → Prop) (G : Gh) (hw : gw_J9_init_2 E post p0 p1 p2 G) : gM l E yJ9_init_2 (ws_ yJ9_init_2 cJ9_init_2 5 none) ({ frames := 2, cells := 1, slots := 200, locals := 82 } : Room) 1 200 [.ref p0, .ref p1, .ref p2] G (gpv post) := by
  refine gof (by decide) (Nat.le_of_ble_eq_true rfl) ?_
  intro p e s m below meth c A ls hx hb hr hlk hml hown hin hts hPF hA hG hl
  have hl : lv_has ls 5 [(0, .ref p0), (1, .ref p1), (2, .ref p2)] := hl
  unfold gw_J9_init_2 at hw
  obtain ⟨G0, hG0⟩ : ∃ G0, G0 = G := ⟨_, rfl⟩
  have hG : gS E A G0 s.heap G s.heap [] := by rw [hG0]; exact hG
  rw [show gQ E A G (gpv post) = gQ E A G0 (gpv post) by rw [hG0]]
  have h0p0 := hw.1; rw [← hG0] at h0p0
  replace hw := hw.2
  have h0p1 := hw.1; rw [← hG0] at h0p1
  replace hw := hw.2
  have hL79 : ∀ (x3 : Option Nat) (x4 : Int32) (G : Gh) (H : Heap) (locs : List Loc) (ls : Array Slot), gS E A G0 s.heap G H locs → lv_has ls 5 [(0, .ref p0), (3, va_rf x3), (4, .int x4)] → gw_J9_init_2_L79 E p0 p1 p2 post x3 x4 G → W p l e (headSpec (ws_ yJ9_init_2 cJ9_init_2 5 none) ({ frames := 2, cells := 1, slots := 200, locals := 82 } : Room)).room s m ([.ref p0, .ref p1, .ref p2] : List Value).toArray below meth c H locs 0 0 (MQ below (gQ E A G0 (gpv post)) ([.ref p0, .ref p1, .ref p2] : List Value).toArray s 1 200 A) (F0 m 79 ls []) := by
    intro x3 x4 G H locs ls hG hl hw
    unfold gw_J9_init_2_L79 at hw
    refine lv_aload_n hx hb dJ9_init_2_79 rfl (lv_at hl 0 rfl) ?_
    refine lv_iconst (v := 1) hx hb dJ9_init_2_80 (by decide) ?_
    refine gpF hx hb hts hown hPF hG 17 1 rfl in_J9b tyJ9 tyJ9b_ok nmJ9b (by decide) (by decide) (by decide) q436 (fun _ h9 => h9) rfl hin.2 rfl (gK_mon hG.1.2 h0p0 (by decide)) (v := .int 1) (by decide) (by decide) (G' := gsI G p0 1 1) rfl rfl grI_off (Nat.le_of_ble_eq_true rfl) (gFs_I 17 1 (fun _ _ _ => rfl)) dJ9_init_2_81 (fun H locs hG => ?_)
    obtain ⟨G12, eG12⟩ : ∃ z, z = gsI G p0 1 1 := ⟨_, rfl⟩
    rw [← eG12] at hG
    replace hw := hw G12 eG12
    refine lv_aload_n hx hb dJ9_init_2_84 rfl (lv_at hl 0 rfl) ?_
    refine ga_n hx hb dJ9_init_2_85 rfl (lv_at hl 1 rfl) ?_
    refine lv_iconst (v := 0) hx hb dJ9_init_2_86 (by decide) ?_
    refine lv_iload hx hb dJ9_init_2_87 (lv_at hl 2 rfl) ?_
    refine lv_iconst (v := 1) hx hb dJ9_init_2_89 (by decide) ?_
    refine lv_ishl hx hb dJ9_init_2_90 ?_
    obtain ⟨q13, hq13, hw⟩ := hw
    refine W.eq (g2 := F0 m 91 ls [.int (x4 <<< ((1 : Int32) &&& 31)), .int 0, .ref q13, .ref p0]) (by rw [hq13]; rfl) ?_
    refine gc3r hA hG (va_runS (As := [.ref q13, .int 0, .int (x4 <<< ((1 : Int32) &&& 31))]) (rest := [.ref p0]) ⟨hx, hb, hml, hown, hts⟩ (gm_J13_copyOfRange l E q13 0 (x4 <<< ((1 : Int32) &&& 31)) _ G12 hw _) (va_cwS 3 hts (lw_S q381 q382 q70 q383) rfl rfl rfl hd_J13_copyOfRange ⟨Nat.le_of_ble_eq_true rfl, Nat.le_of_ble_eq_true rfl⟩) ⟨gblind, fun U hU hW => gpre hPF hA hG _ U hU hW⟩ rfl rfl hl.1 rfl (lv_room (Nat.le_of_ble_eq_true rfl)) dJ9_init_2_91 ⟨(Nat.le_of_ble_eq_true rfl), (Nat.le_of_ble_eq_true rfl)⟩) (fun r15 G14 H locs hw hmon hG => ?_)
    replace hw := hw hmon
    refine gpF hx hb hts hown hPF hG 17 0 rfl in_J9b tyJ9 tyJ9b_ok nmJ9b (by decide) (by decide) (by decide) q435 (fun _ h9 => h9) rfl hin.2 rfl (gK_mon hG.1.2 h0p0 (by decide)) (v := va_rf r15) (narrow_rf _) (fits_rf _ (by decide)) (G' := gsR G14 p0 0 r15) rfl rfl grR_off (Nat.le_of_ble_eq_true rfl) (gFs_R 17 0 (fun _ _ _ => rfl)) dJ9_init_2_94 (fun H locs hG => ?_)
    obtain ⟨G16, eG16⟩ : ∃ z, z = gsR G14 p0 0 r15 := ⟨_, rfl⟩
    rw [← eG16] at hG
    replace hw := hw G16 eG16
    exact gretv hx hb hr hlk hG hw (Nat.le_of_ble_eq_true rfl) (Nat.le_of_ble_eq_true rfl) dJ9_init_2_97
  refine lv_aload_n hx hb dJ9_init_2_0 rfl (lv_at hl 0 rfl) ?_
  refine W.objInit hx hb hown (hts _ q366) (hts _ q105) (hts _ q106) (g := F0 m 1 ls (.ref p0 :: [])) rfl (hl.1.trans hml.symm) rfl dJ9_init_2_1 (Nat.le_of_ble_eq_true rfl) (by (try simp only [List.map, va_rf_cat, gcat_i, gcat_r, gcat_l, gcat_d, gcat_f, gcat_n]); exact Nat.le_of_ble_eq_true rfl) ?_
  refine W.eq (g2 := F0 m 4 ls []) rfl ?_
  refine lv_aload_n hx hb dJ9_init_2_4 rfl (lv_at hl 1 rfl) ?_
  refine gc3r hA hG (va_runV (As := []) (rest := []) ⟨hx, hb, hml, hown, hts⟩ (gm_J7_getValue l E p1 _ G hw _) (gcwP 0 hts (lw_meth q371) rfl rfl rfl (hts _ q64) (hts _ q367) (hts _ q368) (hts _ q370) hdn_J7_getValue ⟨Nat.le_of_ble_eq_true rfl, Nat.le_of_ble_eq_true rfl⟩) ⟨gblind, grecv hPF hG (gC_of (gK_mon hG.1.2 h0p1 (by decide)) (by decide)) (by decide) (by decide) rfl, fun U hU hW => gpre hPF hA hG _ U hU hW⟩ rfl rfl hl.1 rfl (lv_room (Nat.le_of_ble_eq_true rfl)) dJ9_init_2_5 ⟨(Nat.le_of_ble_eq_true rfl), (Nat.le_of_ble_eq_true rfl)⟩) (fun r2 G1 H locs hw hmon hG => ?_)
  replace hw := hw hmon
  refine gt_n (i := 3) (lv' := [(3, va_rf r2), (0, .ref p0), (1, .ref p1), (2, .ref p2)]) hx hb dJ9_init_2_8 rfl hl (by decide) rfl (fun ls hl => ?_)
  refine lv_aload_n hx hb dJ9_init_2_9 rfl (lv_at hl 2 rfl) ?_
  refine gc3i hA hG (va_runU (As := []) (rest := []) ⟨hx, hb, hml, hown, hts⟩ (gm_J8_length l E p1 _ G1 hw _) (va_cwO 0 hts (lw_O q372 q374 q373 q375 q376 q65 q377) rfl rfl rfl q379 hdu_J7_length ⟨Nat.le_of_ble_eq_true rfl, Nat.le_of_ble_eq_true rfl⟩) ⟨gblind, grecv hPF hG (gC_of (gK_mon hG.1.2 h0p1 (by decide)) (by decide)) (by decide) (by decide) rfl, fun U hU hW => gpre hPF hA hG _ U hU hW⟩ rfl rfl hl.1 rfl (lv_room (Nat.le_of_ble_eq_true rfl)) dJ9_init_2_10 ⟨(Nat.le_of_ble_eq_true rfl), (Nat.le_of_ble_eq_true rfl)⟩) (fun r4 G3 H locs hw hmon hG => ?_)
  replace hw := hw hmon
  refine lv_istore (lv' := [(4, .int r4), (3, va_rf r2), (0, .ref p0), (1, .ref p1), (2, .ref p2)]) hx hb dJ9_init_2_13 hl (by decide) (by first | rfl | simp [List.filter, va_rf_cat, gcat_i, gcat_r, gcat_l, gcat_d, gcat_f, gcat_n]) (fun ls hl => ?_)
  refine lv_aload_n hx hb dJ9_init_2_15 rfl (lv_at hl 3 rfl) ?_
  refine gc3i hA hG (va_runV (As := []) (rest := []) ⟨hx, hb, hml, hown, hts⟩ (gm_J7_isLatin1 l E p1 _ G3 hw _) (gcwP 0 hts (lw_meth q259) rfl rfl rfl (hts _ q64) (hts _ q380) (hts _ q256) (hts _ q258) hdn_J7_isLatin1 ⟨Nat.le_of_ble_eq_true rfl, Nat.le_of_ble_eq_true rfl⟩) ⟨gblind, grecv hPF hG (gC_of (gK_mon hG.1.2 h0p1 (by decide)) (by decide)) (by decide) (by decide) rfl, fun U hU hW => gpre hPF hA hG _ U hU hW⟩ rfl rfl hl.1 rfl (lv_room (Nat.le_of_ble_eq_true rfl)) dJ9_init_2_16 ⟨(Nat.le_of_ble_eq_true rfl), (Nat.le_of_ble_eq_true rfl)⟩) (fun r6 G5 H locs hw hmon hG => ?_)
  replace hw := hw hmon
  refine lv_if_eq (tgt := 41) hx hb dJ9_init_2_19 (by decide) (fun c_ => ?_) (fun c_ => ?_)
  · replace hw := hw.1 c_
    refine va_gets (v := .int 1) hx hb (hPF.z 0 rfl) hG.2 hown (hts _ q294) (fun _ h9 => h9) dJ9_init_2_41 ?_
    refine lv_if_eq (tgt := 79) hx hb dJ9_init_2_44 (by decide) (fun c_ => absurd c_ (by decide)) (fun c_ => ?_)
    refine lv_aload_n hx hb dJ9_init_2_47 rfl (lv_at hl 3 rfl) ?_
    refine gg hx hb hts hown hPF hG 16 2 rfl in_J8 (by decide) (by decide) (by decide) q196 (fun _ h9 => h9) (gC_of (gK_mon hG.1.2 h0p1 (by decide)) (by decide)) (v := .int (gI G5 p1 2)) rfl dJ9_init_2_48 ?_
    refine lv_if_eq (tgt := 79) hx hb dJ9_init_2_51 (by decide) (fun c_ => ?_) (fun c_ => ?_)
    · replace hw := hw.1 c_
      refine W.widen (k := 0) (n := 0) (Nat.le_of_ble_eq_true rfl) (Nat.le_of_ble_eq_true rfl) ?_
      exact hL79  r2 r4 G5 _ _ ls hG (lv_sub hl [2, 1, 0] rfl) hw
    · replace hw := hw.2 c_
      refine lv_aload_n hx hb dJ9_init_2_54 rfl (lv_at hl 2 rfl) ?_
      refine ga_n hx hb dJ9_init_2_55 rfl (lv_at hl 1 rfl) ?_
      refine lv_iconst (v := 0) hx hb dJ9_init_2_56 (by decide) ?_
      refine lv_iload hx hb dJ9_init_2_57 (lv_at hl 0 rfl) ?_
      exact hw.elim
  · replace hw := hw.2 c_
    refine lv_aload_n hx hb dJ9_init_2_22 rfl (lv_at hl 2 rfl) ?_
    refine lv_iconst (v := 0) hx hb dJ9_init_2_23 (by decide) ?_
    refine gpF hx hb hts hown hPF hG 17 1 rfl in_J9b tyJ9 tyJ9b_ok nmJ9b (by decide) (by decide) (by decide) q436 (fun _ h9 => h9) rfl hin.2 rfl (gK_mon hG.1.2 h0p0 (by decide)) (v := .int 0) (by decide) (by decide) (G' := gsI G5 p0 1 0) rfl rfl grI_off (Nat.le_of_ble_eq_true rfl) (gFs_I 17 1 (fun _ _ _ => rfl)) dJ9_init_2_24 (fun H locs hG => ?_)
    obtain ⟨G7, eG7⟩ : ∃ z, z = gsI G5 p0 1 0 := ⟨_, rfl⟩
    rw [← eG7] at hG
    replace hw := hw G7 eG7
    refine lv_aload_n hx hb dJ9_init_2_27 rfl (lv_at hl 2 rfl) ?_
    refine ga_n hx hb dJ9_init_2_28 rfl (lv_at hl 1 rfl) ?_
    refine lv_iconst (v := 0) hx hb dJ9_init_2_29 (by decide) ?_
    refine lv_iload hx hb dJ9_init_2_30 (lv_at hl 0 rfl) ?_
    obtain ⟨q8, hq8, hw⟩ := hw
    refine W.eq (g2 := F0 m 32 ls [.int r4, .int 0, .ref q8, .ref p0]) (by rw [hq8]; rfl) ?_
    refine gc3r hA hG (va_runS (As := [.ref q8, .int 0, .int r4]) (rest := [.ref p0]) ⟨hx, hb, hml, hown, hts⟩ (gm_J13_copyOfRange l E q8 0 r4 _ G7 hw _) (va_cwS 3 hts (lw_S q381 q382 q70 q383) rfl rfl rfl hd_J13_copyOfRange ⟨Nat.le_of_ble_eq_true rfl, Nat.le_of_ble_eq_true rfl⟩) ⟨gblind, fun U hU hW => gpre hPF hA hG _ U hU hW⟩ rfl rfl hl.1 rfl (lv_room (Nat.le_of_ble_eq_true rfl)) dJ9_init_2_32 ⟨(Nat.le_of_ble_eq_true rfl), (Nat.le_of_ble_eq_true rfl)⟩) (fun r10 G9 H locs hw hmon hG => ?_)
    replace hw := hw hmon
    refine gpF hx hb hts hown hPF hG 17 0 rfl in_J9b tyJ9 tyJ9b_ok nmJ9b (by decide) (by decide) (by decide) q435 (fun _ h9 => h9) rfl hin.2 rfl (gK_mon hG.1.2 h0p0 (by decide)) (v := va_rf r10) (narrow_rf _) (fits_rf _ (by decide)) (G' := gsR G9 p0 0 r10) rfl rfl grR_off (Nat.le_of_ble_eq_true rfl) (gFs_R 17 0 (fun _ _ _ => rfl)) dJ9_init_2_35 (fun H locs hG => ?_)
    obtain ⟨G11, eG11⟩ : ∃ z, z = gsR G9 p0 0 r10 := ⟨_, rfl⟩
    rw [← eG11] at hG
    replace hw := hw G11 eG11
    refine lv_goto (tgt := 97) hx hb dJ9_init_2_38 (by decide) ?_
    exact gretv hx hb hr hlk hG hw (Nat.le_of_ble_eq_true rfl) (Nat.le_of_ble_eq_true rfl) dJ9_init_2_97
def gw_J9_init (E : gE) (post : Gh → Prop) (p0 : Nat) (p1 : Nat) (G : Gh) : Prop := gK G p0 = 17 ∧ (gK G p1 = 16 ∧ (False))
theorem hd_J9_init : yJ9_init.cls ≠ "java/lang/invoke/MethodHandle" ∧ yJ9_init.cls ≠ "java/lang/invoke/VarHandle" ∧ (parseMethodDescriptor yJ9_init.desc).map (fun d => d.parameters.length) = some 1 := by decide +kernel
set_option maxHeartbeats 1000000 in
set_option maxRecDepth 100000 in
theorem gm_J9_init (l : Launch) (E : gE) (p0 : Nat) (p1 : Nat) (post : Gh → Prop) (G : Gh) (hw : gw_J9_init E post p0 p1 G) : gM l E yJ9_init (ws_ yJ9_init cJ9_init 2 none) ({ frames := 0, cells := 0, slots := 0, locals := 0 } : Room) 0 0 [.ref p0, .ref p1] G (gpv post) := by
  refine gof (by decide) (Nat.le_of_ble_eq_true rfl) ?_
  intro p e s m below meth c A ls hx hb hr hlk hml hown hin hts hPF hA hG hl
  have hl : lv_has ls 2 [(0, .ref p0), (1, .ref p1)] := hl
  unfold gw_J9_init at hw
  obtain ⟨G0, hG0⟩ : ∃ G0, G0 = G := ⟨_, rfl⟩
  have hG : gS E A G0 s.heap G s.heap [] := by rw [hG0]; exact hG
  rw [show gQ E A G (gpv post) = gQ E A G0 (gpv post) by rw [hG0]]
  have h0p0 := hw.1; rw [← hG0] at h0p0
  replace hw := hw.2
  have h0p1 := hw.1; rw [← hG0] at h0p1
  replace hw := hw.2
  refine lv_aload_n hx hb dJ9_init_0 rfl (lv_at hl 0 rfl) ?_
  refine lv_aload_n hx hb dJ9_init_1 rfl (lv_at hl 1 rfl) ?_
  refine lv_null hx hb dJ9_init_2 ?_
  exact hw.elim
def gw_J8_toString (E : gE) (post : Option Nat → Gh → Prop) (p0 : Nat) (G : Gh) : Prop := gK G p0 = 16 ∧ (∀ q1, gK G q1 = 0 → ∀ G2, G2 = gN G q1 17 0 → (gw_J9_init E (fun G3 => gMon G2 G3 → (post (some q1) G3)) q1 p0 G2))
theorem hd_J8_toString : yJ8_toString.cls = RJ8 ∧ yJ8_toString.cls ≠ "java/lang/invoke/MethodHandle" ∧ yJ8_toString.cls ≠ "java/lang/invoke/VarHandle" ∧ (parseMethodDescriptor yJ8_toString.desc).map (fun d => d.parameters.length) = some 0 := by decide +kernel
theorem hdn_J8_toString : yJ8_toString.cls ≠ "java/lang/invoke/MethodHandle" ∧ yJ8_toString.cls ≠ "java/lang/invoke/VarHandle" ∧ (parseMethodDescriptor yJ8_toString.desc).map (fun d => d.parameters.length) = some 0 := hd_J8_toString.2
theorem hdu_J8_toString : RJ8 ≠ "java/lang/invoke/MethodHandle" ∧ RJ8 ≠ "java/lang/invoke/VarHandle" ∧ (parseMethodDescriptor yJ8_toString.desc).map (fun d => d.parameters.length) = some 0 := by decide +kernel
theorem hds_J8_toString : yJ8_toString.name ≠ "<init>" ∧ (parseMethodDescriptor yJ8_toString.desc).map (fun d => d.parameters.length) = some 0 := by decide +kernel
set_option maxHeartbeats 1000000 in
set_option maxRecDepth 100000 in
theorem gm_J8_toString (l : Launch) (E : gE) (p0 : Nat) (post : Option Nat → Gh → Prop) (G : Gh) (hw : gw_J8_toString E post p0 G) : gM l E yJ8_toString (ws_ yJ8_toString cJ8_toString 1 (some (.object "java/lang/String"))) ({ frames := 1, cells := 1, slots := 4, locals := 21 } : Room) 1 4 [.ref p0] G (gpr post) := by
  refine gof (by decide) (Nat.le_of_ble_eq_true rfl) ?_
  intro p e s m below meth c A ls hx hb hr hlk hml hown hin hts hPF hA hG hl
  have hl : lv_has ls 1 [(0, .ref p0)] := hl
  unfold gw_J8_toString at hw
  obtain ⟨G0, hG0⟩ : ∃ G0, G0 = G := ⟨_, rfl⟩
  have hG : gS E A G0 s.heap G s.heap [] := by rw [hG0]; exact hG
  rw [show gQ E A G (gpr post) = gQ E A G0 (gpr post) by rw [hG0]]
  have h0p0 := hw.1; rw [← hG0] at h0p0
  replace hw := hw.2
  refine gnew (ci := 17) hx hb hts in_J9b tyJ9 tyJ9b_ok hown q358 q359 q66 hPF hG hA rfl (by decide) (by decide) gborn_J9 (Nat.le_of_ble_eq_true rfl) (Nat.le_of_ble_eq_true rfl) dJ8_toString_0 (fun q1 H h0q1 hG => ?_)
  replace hw := hw q1 h0q1
  obtain ⟨G2, eG2⟩ : ∃ z, z = gN G q1 17 0 := ⟨_, rfl⟩
  rw [← eG2] at hG
  replace hw := hw G2 eG2
  have hkq1 : gK G2 q1 = 17 := by rw [eG2]; exact gK_Nq
  refine lv_dup hx hb dJ8_toString_3 rfl ?_
  refine lv_aload_n hx hb dJ8_toString_4 rfl (lv_at hl 0 rfl) ?_
  refine gc3v hA hG (va_runI (As := [.ref p0]) (rest := [.ref q1]) ⟨hx, hb, hml, hown, hts⟩ (gm_J9_init l E q1 p0 _ G2 hw _) (cwI 1 hts (lw_meth q362) rfl rfl rfl (hts _ q66) (hts _ q360) (hts _ q361) rfl hd_J9_init ⟨Nat.le_of_ble_eq_true rfl, Nat.le_of_ble_eq_true rfl⟩) ⟨gblind, fun U hU hW => gpre hPF hA hG _ U hU hW⟩ rfl rfl hl.1 rfl (lv_room (Nat.le_of_ble_eq_true rfl)) dJ8_toString_5 ⟨(Nat.le_of_ble_eq_true rfl), (Nat.le_of_ble_eq_true rfl)⟩) (fun G3 H locs hw hmon hG => ?_)
  replace hw := hw hmon
  have hkq1 : gK G3 q1 = 17 := gK_mon hmon hkq1 (by decide)
  exact gretr (v := (some q1)) hx hb hr hlk hG (Or.inl ⟨_, rfl⟩) hw (Nat.le_of_ble_eq_true rfl) (Nat.le_of_ble_eq_true rfl) dJ8_toString_8
