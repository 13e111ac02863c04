/-! the methods of the model, walked: by program (gen/genm.py) -/
set_option maxRecDepth 100000
theorem vi_0_125 : vp_in (0 : Int32) 125 := by unfold vp_in; decide +kernel
theorem vi_1_125 : vp_in (1 : Int32) 125 := by unfold vp_in; decide +kernel
theorem vi_2_125 : vp_in (2 : Int32) 125 := by unfold vp_in; decide +kernel
theorem vi_3_125 : vp_in (3 : Int32) 125 := by unfold vp_in; decide +kernel
theorem vi_4_125 : vp_in (4 : Int32) 125 := by unfold vp_in; decide +kernel
theorem vi_5_125 : vp_in (5 : Int32) 125 := by unfold vp_in; decide +kernel
theorem vi_6_125 : vp_in (6 : Int32) 125 := by unfold vp_in; decide +kernel
theorem vi_7_125 : vp_in (7 : Int32) 125 := by unfold vp_in; decide +kernel
theorem vi_8_125 : vp_in (8 : Int32) 125 := by unfold vp_in; decide +kernel
theorem vi_9_125 : vp_in (9 : Int32) 125 := by unfold vp_in; decide +kernel
theorem vi_10_125 : vp_in (10 : Int32) 125 := by unfold vp_in; decide +kernel
theorem vi_26_125 : vp_in (26 : Int32) 125 := by unfold vp_in; decide +kernel
theorem vi_87_125 : vp_in (87 : Int32) 125 := by unfold vp_in; decide +kernel
theorem vi_100_125 : vp_in (100 : Int32) 125 := by unfold vp_in; decide +kernel
theorem vc_0 : (0 : Int32).toNatClampNeg = 0 := by decide +kernel
theorem vc_1 : (1 : Int32).toNatClampNeg = 1 := by decide +kernel
theorem vc_2 : (2 : Int32).toNatClampNeg = 2 := by decide +kernel
theorem vc_3 : (3 : Int32).toNatClampNeg = 3 := by decide +kernel
theorem vc_4 : (4 : Int32).toNatClampNeg = 4 := by decide +kernel
theorem vc_5 : (5 : Int32).toNatClampNeg = 5 := by decide +kernel
theorem vc_6 : (6 : Int32).toNatClampNeg = 6 := by decide +kernel
theorem vc_7 : (7 : Int32).toNatClampNeg = 7 := by decide +kernel
theorem vc_8 : (8 : Int32).toNatClampNeg = 8 := by decide +kernel
theorem vc_9 : (9 : Int32).toNatClampNeg = 9 := by decide +kernel
theorem vc_10 : (10 : Int32).toNatClampNeg = 10 := by decide +kernel
theorem vc_26 : (26 : Int32).toNatClampNeg = 26 := by decide +kernel
theorem vc_87 : (87 : Int32).toNatClampNeg = 87 := by decide +kernel
theorem vc_100 : (100 : Int32).toNatClampNeg = 100 := by decide +kernel
def w3_begins_L2 (post : wS1 → wS2 → Prop) : Nat → Int32 → wS1 → wS2 → Prop
  | 0, _, _, _ => False
  | n + 1, x1, sc, ar => (125 ≤ x1 → (post (upd sc 5 0) (va_up ar 0 (upd (upd (upd (ar 0) 1 5) 2 40) 3 60)))) ∧ (¬ 125 ≤ x1 → (vp_in x1 125 ∧ (w3_begins_L2 post  n (x1 + 1) sc (va_up ar 0 (upd (ar 0) x1.toNatClampNeg 0)))))
def w3_begins (post : wS1 → wS2 → Prop) (sc : wS1) (ar : wS2)  : Prop := (∃ n, w3_begins_L2 post  n 0 sc ar)
theorem hd_X3_begins : yX3_begins.cls = RX3 ∧ yX3_begins.cls ≠ "java/lang/invoke/MethodHandle" ∧ yX3_begins.cls ≠ "java/lang/invoke/VarHandle" ∧ (parseMethodDescriptor yX3_begins.desc).map (fun d => d.parameters.length) = some 0 := by decide +kernel
set_option maxHeartbeats 4000000 in
set_option maxRecDepth 100000 in
theorem m3_begins (l : Launch) (D : va_G) (ac : Nat → ClassId) (mo : Nat) (ad : Nat → Nat) (sc : wS1) (ar : wS2)  (post : wS1 → wS2 → Prop) (hw : w3_begins post sc ar ) : wm_Mv l D ac mo ad yX3_begins (ws_ yX3_begins cX3_begins 2 none) ({ frames := 0, cells := 0, slots := 0, locals := 0 }) [.ref mo] sc ar post := by
  refine wm_ofv (by decide) (Nat.le_of_ble_eq_true rfl) ?_
  intro p e s m below meth c A ls hx hb hr hlk hml hown hts hK hN hAm hA hM hl
  have hl : lv_has ls 2 [(0, .ref mo)] := hl
  unfold w3_begins at hw
  have hL2 : ∀ (n : Nat) (x1 : Int32) (sc : wS1) (ar : wS2) (H : Heap) (locs : List Loc) (ls : Array Slot), wm_S D ac A s.heap mo ad sc ar H locs → lv_has ls 2 [(0, .ref mo), (1, .int x1)] → w3_begins_L2 post n x1 sc ar → W p l e (headSpec (ws_ yX3_begins cX3_begins 2 none) ({ frames := 0, cells := 0, slots := 0, locals := 0 })).room s m ([.ref mo] : List Value).toArray below meth c H locs 0 0 (MQ below (va_Qv (S := wU) (fun u => post u.1 u.2) (wm_B D ac mo ad) A) ([.ref mo] : List Value).toArray s 0 0 A) (F0 m 2 ls []) := by
    intro n
    induction n with
    | zero => exact fun _ _ _ _ _ _ _ _ hw => hw.elim
    | succ n ih =>
      intro x1 sc ar H locs ls hM hl hw
      unfold w3_begins_L2 at hw
      refine lv_iload_n hx hb dX3_begins_2 rfl (lv_at hl 1 rfl) ?_
      refine lv_bipush (v := 125) hx hb dX3_begins_3 (by decide) ?_
      refine lv_icmp_ge (tgt := 21) hx hb dX3_begins_5 (by decide) (fun c_ => ?_) (fun c_ => ?_)
      · replace hw := hw.1 c_
        refine lv_aload_n hx hb dX3_begins_21 rfl (lv_at hl 0 rfl) ?_
        refine wm_get hx hb hts hown hK hM 0 (by decide) q1933 (v := .ref (ad 0)) rfl dX3_begins_22 ?_
        refine lv_iconst (v := 1) hx hb dX3_begins_25 (by decide) ?_
        refine lv_iconst (v := 5) hx hb dX3_begins_26 (by decide) ?_
        refine wm_ast hx hb hK hN hAm hM (k := 0) rfl vi_1_125 vc_1 (f := ar 0) rfl dX3_begins_27 (fun H locs hM => ?_)
        refine lv_aload_n hx hb dX3_begins_28 rfl (lv_at hl 0 rfl) ?_
        refine wm_get hx hb hts hown hK hM 0 (by decide) q1933 (v := .ref (ad 0)) rfl dX3_begins_29 ?_
        refine lv_iconst (v := 2) hx hb dX3_begins_32 (by decide) ?_
        refine lv_bipush (v := 40) hx hb dX3_begins_33 (by decide) ?_
        refine wm_ast hx hb hK hN hAm hM (k := 0) rfl vi_2_125 vc_2 (f := upd (ar 0) 1 5) rfl dX3_begins_35 (fun H locs hM => ?_)
        rw [bx_uu] at hM
        refine lv_aload_n hx hb dX3_begins_36 rfl (lv_at hl 0 rfl) ?_
        refine wm_get hx hb hts hown hK hM 0 (by decide) q1933 (v := .ref (ad 0)) rfl dX3_begins_37 ?_
        refine lv_iconst (v := 3) hx hb dX3_begins_40 (by decide) ?_
        refine lv_bipush (v := 60) hx hb dX3_begins_41 (by decide) ?_
        refine wm_ast hx hb hK hN hAm hM (k := 0) rfl vi_3_125 vc_3 (f := upd (upd (ar 0) 1 5) 2 40) rfl dX3_begins_43 (fun H locs hM => ?_)
        rw [bx_uu] at hM
        refine lv_aload_n hx hb dX3_begins_44 rfl (lv_at hl 0 rfl) ?_
        refine lv_iconst (v := 0) hx hb dX3_begins_45 (by decide) ?_
        refine wm_put hx hb hts hown hK hN hAm hM 5 (by decide) rfl q1938 rfl rfl rfl dX3_begins_46 (fun H locs hM => ?_)
        exact wm_retv hx hb hr hlk hM hw dX3_begins_49
      · replace hw := hw.2 c_
        refine lv_aload_n hx hb dX3_begins_8 rfl (lv_at hl 0 rfl) ?_
        refine wm_get hx hb hts hown hK hM 0 (by decide) q1933 (v := .ref (ad 0)) rfl dX3_begins_9 ?_
        refine lv_iload_n hx hb dX3_begins_12 rfl (lv_at hl 1 rfl) ?_
        refine lv_iconst (v := 0) hx hb dX3_begins_13 (by decide) ?_
        refine wm_ast hx hb hK hN hAm hM (k := 0) rfl hw.1 rfl (f := ar 0) rfl dX3_begins_14 (fun H locs hM => ?_)
        replace hw := hw.2
        refine lv_iinc (v := x1 + 1) (lv' := [(1, .int (x1 + 1)), (0, .ref mo)]) hx hb dX3_begins_15 hl (k := 1) rfl rfl (by decide) rfl (fun ls hl => ?_)
        refine lv_goto (tgt := 2) hx hb dX3_begins_18 (by decide) ?_
        exact ih (x1 + 1) sc (va_up ar 0 (upd (ar 0) x1.toNatClampNeg 0)) _ _ ls hM (lv_sub hl [1, 0] rfl) hw
  refine lv_iconst (v := 0) hx hb dX3_begins_0 (by decide) ?_
  refine lv_istore_n (lv' := [(1, .int 0), (0, .ref mo)]) hx hb dX3_begins_1 rfl hl (by decide) rfl (fun ls hl => ?_)
  obtain ⟨n0, hw⟩ := hw
  exact hL2  n0 0 sc ar _ _ ls hM (lv_sub hl [1, 0] rfl) hw
def w3_thrown (post : Int32 → wS1 → wS2 → Prop) (sc : wS1) (ar : wS2)  : Prop := post (sc 7) sc ar
theorem hd_X3_thrown : yX3_thrown.cls = RX3 ∧ yX3_thrown.cls ≠ "java/lang/invoke/MethodHandle" ∧ yX3_thrown.cls ≠ "java/lang/invoke/VarHandle" ∧ (parseMethodDescriptor yX3_thrown.desc).map (fun d => d.parameters.length) = some 0 := by decide +kernel
set_option maxHeartbeats 4000000 in
set_option maxRecDepth 100000 in
theorem m3_thrown (l : Launch) (D : va_G) (ac : Nat → ClassId) (mo : Nat) (ad : Nat → Nat) (sc : wS1) (ar : wS2)  (post : Int32 → wS1 → wS2 → Prop) (hw : w3_thrown post sc ar ) : wm_Mi l D ac mo ad yX3_thrown (ws_ yX3_thrown cX3_thrown 1 (some .int)) ({ frames := 0, cells := 0, slots := 0, locals := 0 }) [.ref mo] sc ar post := by
  refine wm_ofi (by decide) (Nat.le_of_ble_eq_true rfl) ?_
  intro p e s m below meth c A ls hx hb hr hlk hml hown hts hK hN hAm hA hM hl
  have hl : lv_has ls 1 [(0, .ref mo)] := hl
  unfold w3_thrown at hw
  refine lv_aload_n hx hb dX3_thrown_0 rfl (lv_at hl 0 rfl) ?_
  refine wm_get hx hb hts hown hK hM 7 (by decide) q1940 (v := .int (sc 7)) rfl dX3_thrown_1 ?_
  exact wm_reti hx hb hr hlk hM rfl hw dX3_thrown_4
def w3_clear (post : Int32 → wS1 → wS2 → Prop) (sc : wS1) (ar : wS2)  : Prop := w3_begins (fun sc1 ar2 => post (ar 0 0) sc1 ar2) (upd sc 7 0) ar 
theorem hd_X3_clear : yX3_clear.cls = RX3 ∧ yX3_clear.cls ≠ "java/lang/invoke/MethodHandle" ∧ yX3_clear.cls ≠ "java/lang/invoke/VarHandle" ∧ (parseMethodDescriptor yX3_clear.desc).map (fun d => d.parameters.length) = some 0 := by decide +kernel
set_option maxHeartbeats 4000000 in
set_option maxRecDepth 100000 in
theorem m3_clear (l : Launch) (D : va_G) (ac : Nat → ClassId) (mo : Nat) (ad : Nat → Nat) (sc : wS1) (ar : wS2)  (post : Int32 → wS1 → wS2 → Prop) (hw : w3_clear post sc ar ) : wm_Mi l D ac mo ad yX3_clear (ws_ yX3_clear cX3_clear 2 (some .int)) ({ frames := 1, cells := 0, slots := 0, locals := 21 }) [.ref mo] sc ar post := by
  refine wm_ofi (by decide) (Nat.le_of_ble_eq_true rfl) ?_
  intro p e s m below meth c A ls hx hb hr hlk hml hown hts hK hN hAm hA hM hl
  have hl : lv_has ls 2 [(0, .ref mo)] := hl
  unfold w3_clear at hw
  refine lv_aload_n hx hb dX3_clear_0 rfl (lv_at hl 0 rfl) ?_
  refine lv_iconst (v := 0) hx hb dX3_clear_1 (by decide) ?_
  refine wm_put hx hb hts hown hK hN hAm hM 7 (by decide) rfl q1940 rfl rfl rfl dX3_clear_2 (fun H locs hM => ?_)
  refine lv_aload_n hx hb dX3_clear_5 rfl (lv_at hl 0 rfl) ?_
  refine wm_get hx hb hts hown hK hM 0 (by decide) q1933 (v := .ref (ad 0)) rfl dX3_clear_6 ?_
  refine lv_iconst (v := 0) hx hb dX3_clear_9 (by decide) ?_
  refine wm_ald hx hb hK hM (k := 0) rfl vi_0_125 vc_0 (v := ar 0 0) rfl dX3_clear_10 ?_
  refine lv_istore_n (lv' := [(1, .int (ar 0 0)), (0, .ref mo)]) hx hb dX3_clear_11 rfl hl (by decide) rfl (fun ls hl => ?_)
  refine lv_aload_n hx hb dX3_clear_12 rfl (lv_at hl 1 rfl) ?_
  refine wm_callVv (As := []) (rest := []) ⟨hx, hb, hml, hown, hts⟩ hK hN hAm hA hM (m3_begins l D ac mo ad (upd sc 7 0) ar  _ hw) (cwV 0 hts (lw_V q1929 q1931 qs18 q77 q1932) rfl rfl rfl hd_X3_begins ⟨Nat.le_of_ble_eq_true rfl, Nat.le_of_ble_eq_true rfl⟩) rfl hl.1 rfl (Nat.le_of_ble_eq_true rfl) dX3_clear_13 ⟨Nat.le_refl 0, Nat.le_refl 0⟩ (fun sc1 ar2 H locs hw hM => ?_)
  refine lv_iload_n hx hb dX3_clear_16 rfl (lv_at hl 0 rfl) ?_
  exact wm_reti hx hb hr hlk hM rfl hw dX3_clear_17
def w3_in (post : Int32 → Prop) (p0 : Int32) (p1 : Int32) (p2 : Int32) : Prop := (p0 < p1 → (post 0)) ∧ (¬ p0 < p1 → ((p2 < p0 → (post 0)) ∧ (¬ p2 < p0 → (post 1))))
theorem hd_X3_in : yX3_in.cls ≠ "java/lang/invoke/MethodHandle" ∧ yX3_in.cls ≠ "java/lang/invoke/VarHandle" ∧ (parseMethodDescriptor yX3_in.desc).map (fun d => d.parameters.length) = some 3 := by decide +kernel
set_option maxHeartbeats 4000000 in
set_option maxRecDepth 100000 in
theorem m3_in (l : Launch) (p0 : Int32) (p1 : Int32) (p2 : Int32) (post : Int32 → Prop) (hw : w3_in post p0 p1 p2) : wp_Mi l yX3_in (ws_ yX3_in cX3_in 3 (some .boolean)) ({ frames := 0, cells := 0, slots := 0, locals := 0 }) [.int p0, .int p1, .int p2] post := by
  refine wp_ofi (by decide) (Nat.le_of_ble_eq_true rfl) ?_
  intro p e s m below meth c A ls hx hb hr hlk hml hown hts hA hS hl
  have hl : lv_has ls 3 [(0, .int p0), (1, .int p1), (2, .int p2)] := hl
  unfold w3_in at hw
  refine lv_iload_n hx hb dX3_in_0 rfl (lv_at hl 0 rfl) ?_
  refine lv_iload_n hx hb dX3_in_1 rfl (lv_at hl 1 rfl) ?_
  refine lv_icmp_lt (tgt := 14) hx hb dX3_in_2 (by decide) (fun c_ => ?_) (fun c_ => ?_)
  · replace hw := hw.1 c_
    refine lv_iconst (v := 0) hx hb dX3_in_14 (by decide) ?_
    exact wp_reti hx hb hr hlk hS rfl hw dX3_in_15
  · replace hw := hw.2 c_
    refine lv_iload_n hx hb dX3_in_5 rfl (lv_at hl 0 rfl) ?_
    refine lv_iload_n hx hb dX3_in_6 rfl (lv_at hl 2 rfl) ?_
    refine lv_icmp_gt (tgt := 14) hx hb dX3_in_7 (by decide) (fun c_ => ?_) (fun c_ => ?_)
    · replace hw := hw.1 c_
      refine lv_iconst (v := 0) hx hb dX3_in_14 (by decide) ?_
      exact wp_reti hx hb hr hlk hS rfl hw dX3_in_15
    · replace hw := hw.2 c_
      refine lv_iconst (v := 1) hx hb dX3_in_10 (by decide) ?_
      refine lv_goto (tgt := 15) hx hb dX3_in_11 (by decide) ?_
      exact wp_reti hx hb hr hlk hS rfl hw dX3_in_15
def w3_fails (post : Int32 → wS1 → wS2 → Prop) (sc : wS1) (ar : wS2) (p1 : Int32) : Prop := (p1 ≤ 0 → (post 0 (upd sc 7 p1) ar)) ∧ (¬ p1 ≤ 0 → (post 1 (upd sc 7 p1) ar))
theorem hd_X3_fails : yX3_fails.cls = RX3 ∧ yX3_fails.cls ≠ "java/lang/invoke/MethodHandle" ∧ yX3_fails.cls ≠ "java/lang/invoke/VarHandle" ∧ (parseMethodDescriptor yX3_fails.desc).map (fun d => d.parameters.length) = some 1 := by decide +kernel
set_option maxHeartbeats 4000000 in
set_option maxRecDepth 100000 in
theorem m3_fails (l : Launch) (D : va_G) (ac : Nat → ClassId) (mo : Nat) (ad : Nat → Nat) (sc : wS1) (ar : wS2) (p1 : Int32) (post : Int32 → wS1 → wS2 → Prop) (hw : w3_fails post sc ar p1) : wm_Mi l D ac mo ad yX3_fails (ws_ yX3_fails cX3_fails 2 (some .boolean)) ({ frames := 0, cells := 0, slots := 0, locals := 0 }) [.ref mo, .int p1] sc ar post := by
  refine wm_ofi (by decide) (Nat.le_of_ble_eq_true rfl) ?_
  intro p e s m below meth c A ls hx hb hr hlk hml hown hts hK hN hAm hA hM hl
  have hl : lv_has ls 2 [(0, .ref mo), (1, .int p1)] := hl
  unfold w3_fails at hw
  refine lv_aload_n hx hb dX3_fails_0 rfl (lv_at hl 0 rfl) ?_
  refine lv_iload_n hx hb dX3_fails_1 rfl (lv_at hl 1 rfl) ?_
  refine wm_put hx hb hts hown hK hN hAm hM 7 (by decide) rfl q1940 rfl rfl rfl dX3_fails_2 (fun H locs hM => ?_)
  refine lv_iload_n hx hb dX3_fails_5 rfl (lv_at hl 1 rfl) ?_
  refine lv_if_le (tgt := 13) hx hb dX3_fails_6 (by decide) (fun c_ => ?_) (fun c_ => ?_)
  · replace hw := hw.1 c_
    refine lv_iconst (v := 0) hx hb dX3_fails_13 (by decide) ?_
    exact wm_reti hx hb hr hlk hM rfl hw dX3_fails_14
  · replace hw := hw.2 c_
    refine lv_iconst (v := 1) hx hb dX3_fails_9 (by decide) ?_
    refine lv_goto (tgt := 14) hx hb dX3_fails_10 (by decide) ?_
    exact wm_reti hx hb hr hlk hM rfl hw dX3_fails_14
def w3_refuses (post : Int32 → wS1 → wS2 → Prop) (sc : wS1) (ar : wS2) (p1 : Int32) (p2 : Int32) (p3 : Int32) : Prop := post 0 (upd (upd (upd sc 7 p1) 8 p2) 9 p3) ar
theorem hd_X3_refuses : yX3_refuses.cls = RX3 ∧ yX3_refuses.cls ≠ "java/lang/invoke/MethodHandle" ∧ yX3_refuses.cls ≠ "java/lang/invoke/VarHandle" ∧ (parseMethodDescriptor yX3_refuses.desc).map (fun d => d.parameters.length) = some 3 := by decide +kernel
set_option maxHeartbeats 4000000 in
set_option maxRecDepth 100000 in
theorem m3_refuses (l : Launch) (D : va_G) (ac : Nat → ClassId) (mo : Nat) (ad : Nat → Nat) (sc : wS1) (ar : wS2) (p1 : Int32) (p2 : Int32) (p3 : Int32) (post : Int32 → wS1 → wS2 → Prop) (hw : w3_refuses post sc ar p1 p2 p3) : wm_Mi l D ac mo ad yX3_refuses (ws_ yX3_refuses cX3_refuses 4 (some .int)) ({ frames := 0, cells := 0, slots := 0, locals := 0 }) [.ref mo, .int p1, .int p2, .int p3] sc ar post := by
  refine wm_ofi (by decide) (Nat.le_of_ble_eq_true rfl) ?_
  intro p e s m below meth c A ls hx hb hr hlk hml hown hts hK hN hAm hA hM hl
  have hl : lv_has ls 4 [(0, .ref mo), (1, .int p1), (2, .int p2), (3, .int p3)] := hl
  unfold w3_refuses at hw
  refine lv_aload_n hx hb dX3_refuses_0 rfl (lv_at hl 0 rfl) ?_
  refine lv_iload_n hx hb dX3_refuses_1 rfl (lv_at hl 1 rfl) ?_
  refine wm_put hx hb hts hown hK hN hAm hM 7 (by decide) rfl q1940 rfl rfl rfl dX3_refuses_2 (fun H locs hM => ?_)
  refine lv_aload_n hx hb dX3_refuses_5 rfl (lv_at hl 0 rfl) ?_
  refine lv_iload_n hx hb dX3_refuses_6 rfl (lv_at hl 2 rfl) ?_
  refine wm_put hx hb hts hown hK hN hAm hM 8 (by decide) rfl q1941 rfl rfl rfl dX3_refuses_7 (fun H locs hM => ?_)
  refine lv_aload_n hx hb dX3_refuses_10 rfl (lv_at hl 0 rfl) ?_
  refine lv_iload_n hx hb dX3_refuses_11 rfl (lv_at hl 3 rfl) ?_
  refine wm_put hx hb hts hown hK hN hAm hM 9 (by decide) rfl q1942 rfl rfl rfl dX3_refuses_12 (fun H locs hM => ?_)
  refine lv_iconst (v := 0) hx hb dX3_refuses_15 (by decide) ?_
  exact wm_reti hx hb hr hlk hM rfl hw dX3_refuses_16
def w3_copies_L3 (ka : Nat) (kc : Nat) (post : wS1 → wS2 → Prop) : Nat → Int32 → Int32 → Int32 → wS1 → wS2 → Prop
  | 0, _, _, _, _, _ => False
  | n + 1, x1, x3, x4, sc, ar => (125 ≤ x4 → (post sc ar)) ∧ (¬ 125 ≤ x4 → (vp_in (x1 + x4) (wm_len ka) ∧ (vp_in (x3 + x4) (wm_len kc) ∧ (w3_copies_L3 ka kc post  n x1 x3 (x4 + 1) sc (va_up ar kc (upd (ar kc) (x3 + x4).toNatClampNeg (ar ka (x1 + x4).toNatClampNeg)))))))
def w3_copies (post : wS1 → wS2 → Prop) (sc : wS1) (ar : wS2) (ka : Nat) (p1 : Int32) (kc : Nat) (p3 : Int32) : Prop := (∃ n, w3_copies_L3 ka kc post  n p1 p3 0 sc ar)
theorem hd_X3_copies : yX3_copies.cls ≠ "java/lang/invoke/MethodHandle" ∧ yX3_copies.cls ≠ "java/lang/invoke/VarHandle" ∧ (parseMethodDescriptor yX3_copies.desc).map (fun d => d.parameters.length) = some 4 := by decide +kernel
set_option maxHeartbeats 4000000 in
set_option maxRecDepth 100000 in
theorem m3_copies (l : Launch) (D : va_G) (ac : Nat → ClassId) (mo : Nat) (ad : Nat → Nat) (sc : wS1) (ar : wS2) (ka : Nat) (p1 : Int32) (kc : Nat) (p3 : Int32) (post : wS1 → wS2 → Prop) (hk_ka : wm_ia ka = true) (hk_kc : wm_ia kc = true) (hw : w3_copies post sc ar ka p1 kc p3) : wm_Mv l D ac mo ad yX3_copies (ws_ yX3_copies cX3_copies 5 none) ({ frames := 0, cells := 0, slots := 0, locals := 0 }) [.ref (ad ka), .int p1, .ref (ad kc), .int p3] sc ar post := by
  refine wm_ofv (by decide) (Nat.le_of_ble_eq_true rfl) ?_
  intro p e s m below meth c A ls hx hb hr hlk hml hown hts hK hN hAm hA hM hl
  have hl : lv_has ls 5 [(0, .ref (ad ka)), (1, .int p1), (2, .ref (ad kc)), (3, .int p3)] := hl
  unfold w3_copies at hw
  have hL3 : ∀ (n : Nat) (x1 : Int32) (x3 : Int32) (x4 : Int32) (sc : wS1) (ar : wS2) (H : Heap) (locs : List Loc) (ls : Array Slot), wm_S D ac A s.heap mo ad sc ar H locs → lv_has ls 5 [(0, .ref (ad ka)), (1, .int x1), (2, .ref (ad kc)), (3, .int x3), (4, .int x4)] → w3_copies_L3 ka kc post n x1 x3 x4 sc ar → W p l e (headSpec (ws_ yX3_copies cX3_copies 5 none) ({ frames := 0, cells := 0, slots := 0, locals := 0 })).room s m ([.ref (ad ka), .int p1, .ref (ad kc), .int p3] : List Value).toArray below meth c H locs 0 0 (MQ below (va_Qv (S := wU) (fun u => post u.1 u.2) (wm_B D ac mo ad) A) ([.ref (ad ka), .int p1, .ref (ad kc), .int p3] : List Value).toArray s 0 0 A) (F0 m 3 ls []) := by
    intro n
    induction n with
    | zero => exact fun _ _ _ _ _ _ _ _ _ _ hw => hw.elim
    | succ n ih =>
      intro x1 x3 x4 sc ar H locs ls hM hl hw
      unfold w3_copies_L3 at hw
      refine lv_iload hx hb dX3_copies_3 (lv_at hl 4 rfl) ?_
      refine lv_bipush (v := 125) hx hb dX3_copies_5 (by decide) ?_
      refine lv_icmp_ge (tgt := 28) hx hb dX3_copies_7 (by decide) (fun c_ => ?_) (fun c_ => ?_)
      · replace hw := hw.1 c_
        exact wm_retv hx hb hr hlk hM hw dX3_copies_28
      · replace hw := hw.2 c_
        refine lv_aload_n hx hb dX3_copies_10 rfl (lv_at hl 2 rfl) ?_
        refine lv_iload_n hx hb dX3_copies_11 rfl (lv_at hl 3 rfl) ?_
        refine lv_iload hx hb dX3_copies_12 (lv_at hl 4 rfl) ?_
        refine lv_iadd hx hb dX3_copies_14 ?_
        refine lv_aload_n hx hb dX3_copies_15 rfl (lv_at hl 0 rfl) ?_
        refine lv_iload_n hx hb dX3_copies_16 rfl (lv_at hl 1 rfl) ?_
        refine lv_iload hx hb dX3_copies_17 (lv_at hl 4 rfl) ?_
        refine lv_iadd hx hb dX3_copies_19 ?_
        refine wm_ald hx hb hK hM (k := ka) hk_ka hw.1 rfl (v := ar ka (x1 + x4).toNatClampNeg) rfl dX3_copies_20 ?_
        replace hw := hw.2
        refine wm_ast hx hb hK hN hAm hM (k := kc) hk_kc hw.1 rfl (f := ar kc) rfl dX3_copies_21 (fun H locs hM => ?_)
        replace hw := hw.2
        refine lv_iinc (v := x4 + 1) (lv' := [(4, .int (x4 + 1)), (0, .ref (ad ka)), (1, .int x1), (2, .ref (ad kc)), (3, .int x3)]) hx hb dX3_copies_22 hl (k := 4) rfl rfl (by decide) rfl (fun ls hl => ?_)
        refine lv_goto (tgt := 3) hx hb dX3_copies_25 (by decide) ?_
        exact ih x1 x3 (x4 + 1) sc (va_up ar kc (upd (ar kc) (x3 + x4).toNatClampNeg (ar ka (x1 + x4).toNatClampNeg))) _ _ ls hM (lv_sub hl [1, 2, 3, 4, 0] rfl) hw
  refine lv_iconst (v := 0) hx hb dX3_copies_0 (by decide) ?_
  refine lv_istore (lv' := [(4, .int 0), (0, .ref (ad ka)), (1, .int p1), (2, .ref (ad kc)), (3, .int p3)]) hx hb dX3_copies_1 hl (by decide) rfl (fun ls hl => ?_)
  obtain ⟨n0, hw⟩ := hw
  exact hL3  n0 p1 p3 0 sc ar _ _ ls hM (lv_sub hl [1, 2, 3, 4, 0] rfl) hw
def w3_pays (post : wS1 → wS2 → Prop) (sc : wS1) (ar : wS2) (p1 : Int32) : Prop := post sc (va_up ar 0 (upd (upd (ar 0) 3 ((ar 0 3) - p1)) 9 ((ar 0 9) + p1)))
theorem hd_X3_pays : yX3_pays.cls = RX3 ∧ yX3_pays.cls ≠ "java/lang/invoke/MethodHandle" ∧ yX3_pays.cls ≠ "java/lang/invoke/VarHandle" ∧ (parseMethodDescriptor yX3_pays.desc).map (fun d => d.parameters.length) = some 1 := by decide +kernel
set_option maxHeartbeats 4000000 in
set_option maxRecDepth 100000 in
theorem m3_pays (l : Launch) (D : va_G) (ac : Nat → ClassId) (mo : Nat) (ad : Nat → Nat) (sc : wS1) (ar : wS2) (p1 : Int32) (post : wS1 → wS2 → Prop) (hw : w3_pays post sc ar p1) : wm_Mv l D ac mo ad yX3_pays (ws_ yX3_pays cX3_pays 2 none) ({ frames := 0, cells := 0, slots := 0, locals := 0 }) [.ref mo, .int p1] sc ar post := by
  refine wm_ofv (by decide) (Nat.le_of_ble_eq_true rfl) ?_
  intro p e s m below meth c A ls hx hb hr hlk hml hown hts hK hN hAm hA hM hl
  have hl : lv_has ls 2 [(0, .ref mo), (1, .int p1)] := hl
  unfold w3_pays at hw
  refine lv_aload_n hx hb dX3_pays_0 rfl (lv_at hl 0 rfl) ?_
  refine wm_get hx hb hts hown hK hM 0 (by decide) q1933 (v := .ref (ad 0)) rfl dX3_pays_1 ?_
  refine lv_iconst (v := 3) hx hb dX3_pays_4 (by decide) ?_
  refine lv_dup2_11 hx hb dX3_pays_5 rfl rfl ?_
  refine wm_ald hx hb hK hM (k := 0) rfl vi_3_125 vc_3 (v := ar 0 3) rfl dX3_pays_6 ?_
  refine lv_iload_n hx hb dX3_pays_7 rfl (lv_at hl 1 rfl) ?_
  refine lv_isub hx hb dX3_pays_8 ?_
  refine wm_ast hx hb hK hN hAm hM (k := 0) rfl vi_3_125 vc_3 (f := ar 0) rfl dX3_pays_9 (fun H locs hM => ?_)
  refine lv_aload_n hx hb dX3_pays_10 rfl (lv_at hl 0 rfl) ?_
  refine wm_get hx hb hts hown hK hM 0 (by decide) q1933 (v := .ref (ad 0)) rfl dX3_pays_11 ?_
  refine lv_bipush (v := 9) hx hb dX3_pays_14 (by decide) ?_
  refine lv_dup2_11 hx hb dX3_pays_16 rfl rfl ?_
  refine wm_ald hx hb hK hM (k := 0) rfl vi_9_125 vc_9 (v := ar 0 9) rfl dX3_pays_17 ?_
  refine lv_iload_n hx hb dX3_pays_18 rfl (lv_at hl 1 rfl) ?_
  refine lv_iadd hx hb dX3_pays_19 ?_
  refine wm_ast hx hb hK hN hAm hM (k := 0) rfl vi_9_125 vc_9 (f := upd (ar 0) 3 ((ar 0 3) - p1)) rfl dX3_pays_20 (fun H locs hM => ?_)
  rw [bx_uu] at hM
  exact wm_retv hx hb hr hlk hM hw dX3_pays_21
def w3_isCopper (post : Int32 → wS1 → wS2 → Prop) (sc : wS1) (ar : wS2) (p1 : Int32) : Prop := w3_in (fun r1 => narrow .boolean (.int r1) = .int r1 ∧ post r1 sc ar) p1 0 ((ar 0 10) - 1)
theorem hd_X3_isCopper : yX3_isCopper.cls = RX3 ∧ yX3_isCopper.cls ≠ "java/lang/invoke/MethodHandle" ∧ yX3_isCopper.cls ≠ "java/lang/invoke/VarHandle" ∧ (parseMethodDescriptor yX3_isCopper.desc).map (fun d => d.parameters.length) = some 1 := by decide +kernel
set_option maxHeartbeats 4000000 in
set_option maxRecDepth 100000 in
theorem m3_isCopper (l : Launch) (D : va_G) (ac : Nat → ClassId) (mo : Nat) (ad : Nat → Nat) (sc : wS1) (ar : wS2) (p1 : Int32) (post : Int32 → wS1 → wS2 → Prop) (hw : w3_isCopper post sc ar p1) : wm_Mi l D ac mo ad yX3_isCopper (ws_ yX3_isCopper cX3_isCopper 2 (some .boolean)) ({ frames := 1, cells := 0, slots := 0, locals := 22 }) [.ref mo, .int p1] sc ar post := by
  refine wm_ofi (by decide) (Nat.le_of_ble_eq_true rfl) ?_
  intro p e s m below meth c A ls hx hb hr hlk hml hown hts hK hN hAm hA hM hl
  have hl : lv_has ls 2 [(0, .ref mo), (1, .int p1)] := hl
  unfold w3_isCopper at hw
  refine lv_iload_n hx hb dX3_isCopper_0 rfl (lv_at hl 1 rfl) ?_
  refine lv_iconst (v := 0) hx hb dX3_isCopper_1 (by decide) ?_
  refine lv_aload_n hx hb dX3_isCopper_2 rfl (lv_at hl 0 rfl) ?_
  refine wm_get hx hb hts hown hK hM 0 (by decide) q1933 (v := .ref (ad 0)) rfl dX3_isCopper_3 ?_
  refine lv_bipush (v := 10) hx hb dX3_isCopper_6 (by decide) ?_
  refine wm_ald hx hb hK hM (k := 0) rfl vi_10_125 vc_10 (v := ar 0 10) rfl dX3_isCopper_8 ?_
  refine lv_iconst (v := 1) hx hb dX3_isCopper_9 (by decide) ?_
  refine lv_isub hx hb dX3_isCopper_10 ?_
  refine wm_callPi (As := [.int p1, .int 0, .int ((ar 0 10) - 1)]) (rest := []) ⟨hx, hb, hml, hown, hts⟩ hA hM (m3_in l p1 0 ((ar 0 10) - 1) _ hw) (va_cwS 3 hts (lw_S q2005 q2006 q77 q2007) rfl rfl rfl hd_X3_in ⟨Nat.le_of_ble_eq_true rfl, Nat.le_of_ble_eq_true rfl⟩) rfl hl.1 rfl (Nat.le_of_ble_eq_true rfl) dX3_isCopper_11 ⟨Nat.le_refl 0, Nat.le_refl 0⟩ (fun r1 H locs hw hM => ?_)
  exact wm_reti hx hb hr hlk hM hw.1 hw.2 dX3_isCopper_14
def w3_ofCopper (post : Int32 → wS1 → wS2 → Prop) (sc : wS1) (ar : wS2) (p1 : Int32) (p2 : Int32) : Prop := vp_in ((11 + (3 * p1)) + p2) 125 ∧ (post (ar 0 ((11 + (3 * p1)) + p2).toNatClampNeg) sc ar)
theorem hd_X3_ofCopper : yX3_ofCopper.cls = RX3 ∧ yX3_ofCopper.cls ≠ "java/lang/invoke/MethodHandle" ∧ yX3_ofCopper.cls ≠ "java/lang/invoke/VarHandle" ∧ (parseMethodDescriptor yX3_ofCopper.desc).map (fun d => d.parameters.length) = some 2 := by decide +kernel
set_option maxHeartbeats 4000000 in
set_option maxRecDepth 100000 in
theorem m3_ofCopper (l : Launch) (D : va_G) (ac : Nat → ClassId) (mo : Nat) (ad : Nat → Nat) (sc : wS1) (ar : wS2) (p1 : Int32) (p2 : Int32) (post : Int32 → wS1 → wS2 → Prop) (hw : w3_ofCopper post sc ar p1 p2) : wm_Mi l D ac mo ad yX3_ofCopper (ws_ yX3_ofCopper cX3_ofCopper 3 (some .int)) ({ frames := 0, cells := 0, slots := 0, locals := 0 }) [.ref mo, .int p1, .int p2] sc ar post := by
  refine wm_ofi (by decide) (Nat.le_of_ble_eq_true rfl) ?_
  intro p e s m below meth c A ls hx hb hr hlk hml hown hts hK hN hAm hA hM hl
  have hl : lv_has ls 3 [(0, .ref mo), (1, .int p1), (2, .int p2)] := hl
  unfold w3_ofCopper at hw
  refine lv_aload_n hx hb dX3_ofCopper_0 rfl (lv_at hl 0 rfl) ?_
  refine wm_get hx hb hts hown hK hM 0 (by decide) q1933 (v := .ref (ad 0)) rfl dX3_ofCopper_1 ?_
  refine lv_bipush (v := 11) hx hb dX3_ofCopper_4 (by decide) ?_
  refine lv_iconst (v := 3) hx hb dX3_ofCopper_6 (by decide) ?_
  refine lv_iload_n hx hb dX3_ofCopper_7 rfl (lv_at hl 1 rfl) ?_
  refine lv_imul hx hb dX3_ofCopper_8 ?_
  refine lv_iadd hx hb dX3_ofCopper_9 ?_
  refine lv_iload_n hx hb dX3_ofCopper_10 rfl (lv_at hl 2 rfl) ?_
  refine lv_iadd hx hb dX3_ofCopper_11 ?_
  refine wm_ald hx hb hK hM (k := 0) rfl hw.1 rfl (v := ar 0 ((11 + (3 * p1)) + p2).toNatClampNeg) rfl dX3_ofCopper_12 ?_
  replace hw := hw.2
  exact wm_reti hx hb hr hlk hM rfl hw dX3_ofCopper_13
def w3_size (post : Int32 → Prop) (p0 : Int32) : Prop := (0 ≤ p0 → (post p0)) ∧ (¬ 0 ≤ p0 → (post (-p0)))
theorem hd_X3_size : yX3_size.cls ≠ "java/lang/invoke/MethodHandle" ∧ yX3_size.cls ≠ "java/lang/invoke/VarHandle" ∧ (parseMethodDescriptor yX3_size.desc).map (fun d => d.parameters.length) = some 1 := by decide +kernel
set_option maxHeartbeats 4000000 in
set_option maxRecDepth 100000 in
theorem m3_size (l : Launch) (p0 : Int32) (post : Int32 → Prop) (hw : w3_size post p0) : wp_Mi l yX3_size (ws_ yX3_size cX3_size 1 (some .int)) ({ frames := 0, cells := 0, slots := 0, locals := 0 }) [.int p0] post := by
  refine wp_ofi (by decide) (Nat.le_of_ble_eq_true rfl) ?_
  intro p e s m below meth c A ls hx hb hr hlk hml hown hts hA hS hl
  have hl : lv_has ls 1 [(0, .int p0)] := hl
  unfold w3_size at hw
  refine lv_iload_n hx hb dX3_size_0 rfl (lv_at hl 0 rfl) ?_
  refine lv_if_ge (tgt := 9) hx hb dX3_size_1 (by decide) (fun c_ => ?_) (fun c_ => ?_)
  · replace hw := hw.1 c_
    refine lv_iload_n hx hb dX3_size_9 rfl (lv_at hl 0 rfl) ?_
    exact wp_reti hx hb hr hlk hS rfl hw dX3_size_10
  · replace hw := hw.2 c_
    refine lv_iload_n hx hb dX3_size_4 rfl (lv_at hl 0 rfl) ?_
    refine lv_ineg hx hb dX3_size_5 ?_
    refine lv_goto (tgt := 10) hx hb dX3_size_6 (by decide) ?_
    exact wp_reti hx hb hr hlk hS rfl hw dX3_size_10
def w3_more (post : Int32 → Prop) (p0 : Int32) (p1 : Int32) : Prop := (p0 ≤ p1 → (post p1)) ∧ (¬ p0 ≤ p1 → (post p0))
theorem hd_X3_more : yX3_more.cls ≠ "java/lang/invoke/MethodHandle" ∧ yX3_more.cls ≠ "java/lang/invoke/VarHandle" ∧ (parseMethodDescriptor yX3_more.desc).map (fun d => d.parameters.length) = some 2 := by decide +kernel
set_option maxHeartbeats 4000000 in
set_option maxRecDepth 100000 in
theorem m3_more (l : Launch) (p0 : Int32) (p1 : Int32) (post : Int32 → Prop) (hw : w3_more post p0 p1) : wp_Mi l yX3_more (ws_ yX3_more cX3_more 2 (some .int)) ({ frames := 0, cells := 0, slots := 0, locals := 0 }) [.int p0, .int p1] post := by
  refine wp_ofi (by decide) (Nat.le_of_ble_eq_true rfl) ?_
  intro p e s m below meth c A ls hx hb hr hlk hml hown hts hA hS hl
  have hl : lv_has ls 2 [(0, .int p0), (1, .int p1)] := hl
  unfold w3_more at hw
  refine lv_iload_n hx hb dX3_more_0 rfl (lv_at hl 0 rfl) ?_
  refine lv_iload_n hx hb dX3_more_1 rfl (lv_at hl 1 rfl) ?_
  refine lv_icmp_le (tgt := 9) hx hb dX3_more_2 (by decide) (fun c_ => ?_) (fun c_ => ?_)
  · replace hw := hw.1 c_
    refine lv_iload_n hx hb dX3_more_9 rfl (lv_at hl 1 rfl) ?_
    exact wp_reti hx hb hr hlk hS rfl hw dX3_more_10
  · replace hw := hw.2 c_
    refine lv_iload_n hx hb dX3_more_5 rfl (lv_at hl 0 rfl) ?_
    refine lv_goto (tgt := 10) hx hb dX3_more_6 (by decide) ?_
    exact wp_reti hx hb hr hlk hS rfl hw dX3_more_10
def w3_wellAgain_L77 (post : Int32 → wS1 → wS2 → Prop) (k58 : Int32 → Int32 → wS1 → wS2 → Prop) (x2 : Int32) (t0 : Int32) (t1 : Int32) (sc : wS1) (ar : wS2) : Prop := k58 x2 (t1 + t0) sc ar
def w3_wellAgain_L58 (post : Int32 → wS1 → wS2 → Prop) : Nat → Int32 → Int32 → wS1 → wS2 → Prop
  | 0, _, _, _, _ => False
  | n + 1, x2, x3, sc, ar => (x3 = 5 → (w3_more (fun r13 => post r13 sc ar) 0 x2)) ∧ (¬ x3 = 5 → ((5 ≤ x3 → (w3_wellAgain_L77 post (fun x2' x3' sc' ar' => w3_wellAgain_L58 post  n x2' x3' sc' ar') (x2 + (-1)) (-1) x3 sc ar)) ∧ (¬ 5 ≤ x3 → (w3_wellAgain_L77 post (fun x2' x3' sc' ar' => w3_wellAgain_L58 post  n x2' x3' sc' ar') (x2 + (-1)) 1 x3 sc ar))))
def w3_wellAgain_L32 (post : Int32 → wS1 → wS2 → Prop) : Nat → Int32 → Int32 → Int32 → wS1 → wS2 → Prop
  | 0, _, _, _, _, _ => False
  | n + 1, x1, x2, x3, sc, ar => w3_ofCopper (fun r12 sc10 ar11 => (r12 < x3 → ((∃ n, w3_wellAgain_L58 post  n x2 (ar11 0 1) sc10 ar11))) ∧ (¬ r12 < x3 → (w3_wellAgain_L32 post  n x1 (x2 + (-1)) (x3 + 10) sc10 ar11))) sc ar x1 1
def w3_wellAgain_L14 (post : Int32 → wS1 → wS2 → Prop) (x1 : Int32) (t0 : Int32) (sc : wS1) (ar : wS2) : Prop := w3_fails (fun r6 sc4 ar5 => (r6 = 0 → (w3_ofCopper (fun r9 sc7 ar8 => (∃ n, w3_wellAgain_L32 post  n x1 r9 10 sc7 ar8)) sc4 ar5 x1 0)) ∧ (¬ r6 = 0 → (post 0 sc4 ar5))) sc ar t0
def w3_wellAgain (post : Int32 → wS1 → wS2 → Prop) (sc : wS1) (ar : wS2) (p1 : Int32) : Prop := w3_isCopper (fun r3 sc1 ar2 => (r3 = 0 → (w3_wellAgain_L14 post  p1 1 sc1 ar2)) ∧ (¬ r3 = 0 → (w3_wellAgain_L14 post  p1 0 sc1 ar2))) sc ar p1
theorem hd_X3_wellAgain : yX3_wellAgain.cls = RX3 ∧ yX3_wellAgain.cls ≠ "java/lang/invoke/MethodHandle" ∧ yX3_wellAgain.cls ≠ "java/lang/invoke/VarHandle" ∧ (parseMethodDescriptor yX3_wellAgain.desc).map (fun d => d.parameters.length) = some 1 := by decide +kernel
set_option maxHeartbeats 4000000 in
set_option maxRecDepth 100000 in
theorem m3_wellAgain (l : Launch) (D : va_G) (ac : Nat → ClassId) (mo : Nat) (ad : Nat → Nat) (sc : wS1) (ar : wS2) (p1 : Int32) (post : Int32 → wS1 → wS2 → Prop) (hw : w3_wellAgain post sc ar p1) : wm_Mi l D ac mo ad yX3_wellAgain (ws_ yX3_wellAgain cX3_wellAgain 4 (some .int)) ({ frames := 2, cells := 0, slots := 0, locals := 43 }) [.ref mo, .int p1] sc ar post := by
  refine wm_ofi (by decide) (Nat.le_of_ble_eq_true rfl) ?_
  intro p e s m below meth c A ls hx hb hr hlk hml hown hts hK hN hAm hA hM hl
  have hl : lv_has ls 4 [(0, .ref mo), (1, .int p1)] := hl
  unfold w3_wellAgain at hw
  have hL77 : ∀ (k58 : Int32 → Int32 → wS1 → wS2 → Prop) (hk58 : ∀ (x2 : Int32) (x3 : Int32) (sc : wS1) (ar : wS2) (H : Heap) (locs : List Loc) (ls : Array Slot), wm_S D ac A s.heap mo ad sc ar H locs → lv_has ls 4 [(2, .int x2), (3, .int x3)] → k58 x2 x3 sc ar → W p l e (headSpec (ws_ yX3_wellAgain cX3_wellAgain 4 (some .int)) ({ frames := 2, cells := 0, slots := 0, locals := 43 })).room s m ([.ref mo, .int p1] : List Value).toArray below meth c H locs 0 0 (MQ below (va_Qi (S := wU) (fun r u => post r u.1 u.2) (wm_B D ac mo ad) A) ([.ref mo, .int p1] : List Value).toArray s 0 0 A) (F0 m 58 ls [])) (x2 : Int32) (t0 : Int32) (t1 : Int32) (sc : wS1) (ar : wS2) (H : Heap) (locs : List Loc) (ls : Array Slot), wm_S D ac A s.heap mo ad sc ar H locs → lv_has ls 4 [(2, .int x2)] → w3_wellAgain_L77 post k58 x2 t0 t1 sc ar → W p l e (headSpec (ws_ yX3_wellAgain cX3_wellAgain 4 (some .int)) ({ frames := 2, cells := 0, slots := 0, locals := 43 })).room s m ([.ref mo, .int p1] : List Value).toArray below meth c H locs 0 0 (MQ below (va_Qi (S := wU) (fun r u => post r u.1 u.2) (wm_B D ac mo ad) A) ([.ref mo, .int p1] : List Value).toArray s 0 0 A) (F0 m 77 ls [.int t0, .int t1]) := by
    intro k58 hk58 x2 t0 t1 sc ar H locs ls hM hl hw
    unfold w3_wellAgain_L77 at hw
    refine lv_iadd hx hb dX3_wellAgain_77 ?_
    refine lv_istore_n (lv' := [(3, .int (t1 + t0)), (2, .int x2)]) hx hb dX3_wellAgain_78 rfl hl (by decide) rfl (fun ls hl => ?_)
    refine lv_goto (tgt := 58) hx hb dX3_wellAgain_79 (by decide) ?_
    exact hk58 x2 (t1 + t0) sc ar _ _ ls hM (lv_sub hl [1, 0] rfl) hw
  have hL58 : ∀ (n : Nat) (x2 : Int32) (x3 : Int32) (sc : wS1) (ar : wS2) (H : Heap) (locs : List Loc) (ls : Array Slot), wm_S D ac A s.heap mo ad sc ar H locs → lv_has ls 4 [(2, .int x2), (3, .int x3)] → w3_wellAgain_L58 post n x2 x3 sc ar → W p l e (headSpec (ws_ yX3_wellAgain cX3_wellAgain 4 (some .int)) ({ frames := 2, cells := 0, slots := 0, locals := 43 })).room s m ([.ref mo, .int p1] : List Value).toArray below meth c H locs 0 0 (MQ below (va_Qi (S := wU) (fun r u => post r u.1 u.2) (wm_B D ac mo ad) A) ([.ref mo, .int p1] : List Value).toArray s 0 0 A) (F0 m 58 ls []) := by
    intro n
    induction n with
    | zero => exact fun _ _ _ _ _ _ _ _ _ hw => hw.elim
    | succ n ih =>
      intro x2 x3 sc ar H locs ls hM hl hw
      unfold w3_wellAgain_L58 at hw
      refine lv_iload_n hx hb dX3_wellAgain_58 rfl (lv_at hl 1 rfl) ?_
      refine lv_iconst (v := 5) hx hb dX3_wellAgain_59 (by decide) ?_
      refine lv_icmp_eq (tgt := 82) hx hb dX3_wellAgain_60 (by decide) (fun c_ => ?_) (fun c_ => ?_)
      · replace hw := hw.1 c_
        refine lv_iconst (v := 0) hx hb dX3_wellAgain_82 (by decide) ?_
        refine lv_iload_n hx hb dX3_wellAgain_83 rfl (lv_at hl 0 rfl) ?_
        refine wm_callPi (As := [.int 0, .int x2]) (rest := []) ⟨hx, hb, hml, hown, hts⟩ hA hM (m3_more l 0 x2 _ hw) (va_cwS 2 hts (lw_S q2054 q2055 q77 q2056) rfl rfl rfl hd_X3_more ⟨Nat.le_of_ble_eq_true rfl, Nat.le_of_ble_eq_true rfl⟩) rfl hl.1 rfl (Nat.le_of_ble_eq_true rfl) dX3_wellAgain_84 ⟨Nat.le_refl 0, Nat.le_refl 0⟩ (fun r13 H locs hw hM => ?_)
        exact wm_reti hx hb hr hlk hM rfl hw dX3_wellAgain_87
      · replace hw := hw.2 c_
        refine lv_iinc (v := x2 + (-1)) (lv' := [(2, .int (x2 + (-1))), (3, .int x3)]) hx hb dX3_wellAgain_63 hl (k := 0) rfl rfl (by decide) rfl (fun ls hl => ?_)
        refine lv_iload_n hx hb dX3_wellAgain_66 rfl (lv_at hl 1 rfl) ?_
        refine lv_iload_n hx hb dX3_wellAgain_67 rfl (lv_at hl 1 rfl) ?_
        refine lv_iconst (v := 5) hx hb dX3_wellAgain_68 (by decide) ?_
        refine lv_icmp_ge (tgt := 76) hx hb dX3_wellAgain_69 (by decide) (fun c_ => ?_) (fun c_ => ?_)
        · replace hw := hw.1 c_
          refine lv_iconst (v := (-1)) hx hb dX3_wellAgain_76 (by decide) ?_
          exact hL77 (fun x2' x3' sc' ar' => w3_wellAgain_L58 post  n x2' x3' sc' ar') (fun x2' x3' sc' ar' H locs ls hM hl hw => ih x2' x3' sc' ar' H locs ls hM hl hw) (x2 + (-1)) (-1) x3 sc ar _ _ ls hM (lv_sub hl [0] rfl) hw
        · replace hw := hw.2 c_
          refine lv_iconst (v := 1) hx hb dX3_wellAgain_72 (by decide) ?_
          refine lv_goto (tgt := 77) hx hb dX3_wellAgain_73 (by decide) ?_
          exact hL77 (fun x2' x3' sc' ar' => w3_wellAgain_L58 post  n x2' x3' sc' ar') (fun x2' x3' sc' ar' H locs ls hM hl hw => ih x2' x3' sc' ar' H locs ls hM hl hw) (x2 + (-1)) 1 x3 sc ar _ _ ls hM (lv_sub hl [0] rfl) hw
  have hL32 : ∀ (n : Nat) (x1 : Int32) (x2 : Int32) (x3 : Int32) (sc : wS1) (ar : wS2) (H : Heap) (locs : List Loc) (ls : Array Slot), wm_S D ac A s.heap mo ad sc ar H locs → lv_has ls 4 [(0, .ref mo), (1, .int x1), (2, .int x2), (3, .int x3)] → w3_wellAgain_L32 post n x1 x2 x3 sc ar → W p l e (headSpec (ws_ yX3_wellAgain cX3_wellAgain 4 (some .int)) ({ frames := 2, cells := 0, slots := 0, locals := 43 })).room s m ([.ref mo, .int p1] : List Value).toArray below meth c H locs 0 0 (MQ below (va_Qi (S := wU) (fun r u => post r u.1 u.2) (wm_B D ac mo ad) A) ([.ref mo, .int p1] : List Value).toArray s 0 0 A) (F0 m 32 ls []) := by
    intro n
    induction n with
    | zero => exact fun _ _ _ _ _ _ _ _ _ _ hw => hw.elim
    | succ n ih =>
      intro x1 x2 x3 sc ar H locs ls hM hl hw
      unfold w3_wellAgain_L32 at hw
      refine lv_iload_n hx hb dX3_wellAgain_32 rfl (lv_at hl 3 rfl) ?_
      refine lv_aload_n hx hb dX3_wellAgain_33 rfl (lv_at hl 0 rfl) ?_
      refine lv_iload_n hx hb dX3_wellAgain_34 rfl (lv_at hl 1 rfl) ?_
      refine lv_iconst (v := 1) hx hb dX3_wellAgain_35 (by decide) ?_
      refine wm_callVi (As := [.int x1, .int 1]) (rest := [.int x3]) ⟨hx, hb, hml, hown, hts⟩ hK hN hAm hA hM (m3_ofCopper l D ac mo ad sc ar x1 1 _ hw) (cwV 2 hts (lw_V q2047 q2049 qs25 q77 q2050) rfl rfl rfl hd_X3_ofCopper ⟨Nat.le_of_ble_eq_true rfl, Nat.le_of_ble_eq_true rfl⟩) rfl hl.1 rfl (Nat.le_of_ble_eq_true rfl) dX3_wellAgain_36 ⟨Nat.le_refl 0, Nat.le_refl 0⟩ (fun r12 sc10 ar11 H locs hw hM => ?_)
      refine lv_icmp_gt (tgt := 51) hx hb dX3_wellAgain_39 (by decide) (fun c_ => ?_) (fun c_ => ?_)
      · replace hw := hw.1 c_
        refine lv_aload_n hx hb dX3_wellAgain_51 rfl (lv_at hl 0 rfl) ?_
        refine wm_get hx hb hts hown hK hM 0 (by decide) q1933 (v := .ref (ad 0)) rfl dX3_wellAgain_52 ?_
        refine lv_iconst (v := 1) hx hb dX3_wellAgain_55 (by decide) ?_
        refine wm_ald hx hb hK hM (k := 0) rfl vi_1_125 vc_1 (v := ar11 0 1) rfl dX3_wellAgain_56 ?_
        refine lv_istore_n (lv' := [(3, .int (ar11 0 1)), (0, .ref mo), (1, .int x1), (2, .int x2)]) hx hb dX3_wellAgain_57 rfl hl (by decide) rfl (fun ls hl => ?_)
        obtain ⟨n0, hw⟩ := hw
        exact hL58  n0 x2 (ar11 0 1) sc10 ar11 _ _ ls hM (lv_sub hl [3, 0] rfl) hw
      · replace hw := hw.2 c_
        refine lv_iinc (v := x2 + (-1)) (lv' := [(2, .int (x2 + (-1))), (0, .ref mo), (1, .int x1), (3, .int x3)]) hx hb dX3_wellAgain_42 hl (k := 2) rfl rfl (by decide) rfl (fun ls hl => ?_)
        refine lv_iinc (v := x3 + 10) (lv' := [(3, .int (x3 + 10)), (2, .int (x2 + (-1))), (0, .ref mo), (1, .int x1)]) hx hb dX3_wellAgain_45 hl (k := 3) rfl rfl (by decide) rfl (fun ls hl => ?_)
        refine lv_goto (tgt := 32) hx hb dX3_wellAgain_48 (by decide) ?_
        exact ih x1 (x2 + (-1)) (x3 + 10) sc10 ar11 _ _ ls hM (lv_sub hl [2, 3, 1, 0] rfl) hw
  have hL14 : ∀ (x1 : Int32) (t0 : Int32) (sc : wS1) (ar : wS2) (H : Heap) (locs : List Loc) (ls : Array Slot), wm_S D ac A s.heap mo ad sc ar H locs → lv_has ls 4 [(0, .ref mo), (1, .int x1)] → w3_wellAgain_L14 post x1 t0 sc ar → W p l e (headSpec (ws_ yX3_wellAgain cX3_wellAgain 4 (some .int)) ({ frames := 2, cells := 0, slots := 0, locals := 43 })).room s m ([.ref mo, .int p1] : List Value).toArray below meth c H locs 0 0 (MQ below (va_Qi (S := wU) (fun r u => post r u.1 u.2) (wm_B D ac mo ad) A) ([.ref mo, .int p1] : List Value).toArray s 0 0 A) (F0 m 14 ls [.int t0, .ref mo]) := by
    intro x1 t0 sc ar H locs ls hM hl hw
    unfold w3_wellAgain_L14 at hw
    refine wm_callVi (As := [.int t0]) (rest := []) ⟨hx, hb, hml, hown, hts⟩ hK hN hAm hA hM (m3_fails l D ac mo ad sc ar t0 _ hw) (cwV 1 hts (lw_V q2008 q2010 qs19 q77 q2011) rfl rfl rfl hd_X3_fails ⟨Nat.le_of_ble_eq_true rfl, Nat.le_of_ble_eq_true rfl⟩) rfl hl.1 rfl (Nat.le_of_ble_eq_true rfl) dX3_wellAgain_14 ⟨Nat.le_refl 0, Nat.le_refl 0⟩ (fun r6 sc4 ar5 H locs hw hM => ?_)
    refine lv_if_eq (tgt := 22) hx hb dX3_wellAgain_17 (by decide) (fun c_ => ?_) (fun c_ => ?_)
    · replace hw := hw.1 c_
      refine lv_aload_n hx hb dX3_wellAgain_22 rfl (lv_at hl 0 rfl) ?_
      refine lv_iload_n hx hb dX3_wellAgain_23 rfl (lv_at hl 1 rfl) ?_
      refine lv_iconst (v := 0) hx hb dX3_wellAgain_24 (by decide) ?_
      refine wm_callVi (As := [.int x1, .int 0]) (rest := []) ⟨hx, hb, hml, hown, hts⟩ hK hN hAm hA hM (m3_ofCopper l D ac mo ad sc4 ar5 x1 0 _ hw) (cwV 2 hts (lw_V q2047 q2049 qs25 q77 q2050) rfl rfl rfl hd_X3_ofCopper ⟨Nat.le_of_ble_eq_true rfl, Nat.le_of_ble_eq_true rfl⟩) rfl hl.1 rfl (Nat.le_of_ble_eq_true rfl) dX3_wellAgain_25 ⟨Nat.le_refl 0, Nat.le_refl 0⟩ (fun r9 sc7 ar8 H locs hw hM => ?_)
      refine lv_istore_n (lv' := [(2, .int r9), (0, .ref mo), (1, .int x1)]) hx hb dX3_wellAgain_28 rfl hl (by decide) rfl (fun ls hl => ?_)
      refine lv_bipush (v := 10) hx hb dX3_wellAgain_29 (by decide) ?_
      refine lv_istore_n (lv' := [(3, .int 10), (2, .int r9), (0, .ref mo), (1, .int x1)]) hx hb dX3_wellAgain_31 rfl hl (by decide) rfl (fun ls hl => ?_)
      obtain ⟨n0, hw⟩ := hw
      exact hL32  n0 x1 r9 10 sc7 ar8 _ _ ls hM (lv_sub hl [2, 3, 1, 0] rfl) hw
    · replace hw := hw.2 c_
      refine lv_iconst (v := 0) hx hb dX3_wellAgain_20 (by decide) ?_
      exact wm_reti hx hb hr hlk hM rfl hw dX3_wellAgain_21
  refine lv_aload_n hx hb dX3_wellAgain_0 rfl (lv_at hl 0 rfl) ?_
  refine lv_aload_n hx hb dX3_wellAgain_1 rfl (lv_at hl 0 rfl) ?_
  refine lv_iload_n hx hb dX3_wellAgain_2 rfl (lv_at hl 1 rfl) ?_
  refine wm_callVi (As := [.int p1]) (rest := [.ref mo]) ⟨hx, hb, hml, hown, hts⟩ hK hN hAm hA hM (m3_isCopper l D ac mo ad sc ar p1 _ hw) (cwV 1 hts (lw_V q2039 q2041 qs23 q77 q2042) rfl rfl rfl hd_X3_isCopper ⟨Nat.le_of_ble_eq_true rfl, Nat.le_of_ble_eq_true rfl⟩) rfl hl.1 rfl (Nat.le_of_ble_eq_true rfl) dX3_wellAgain_3 ⟨Nat.le_refl 0, Nat.le_refl 0⟩ (fun r3 sc1 ar2 H locs hw hM => ?_)
  refine lv_if_eq (tgt := 13) hx hb dX3_wellAgain_6 (by decide) (fun c_ => ?_) (fun c_ => ?_)
  · replace hw := hw.1 c_
    refine lv_iconst (v := 1) hx hb dX3_wellAgain_13 (by decide) ?_
    exact hL14  p1 1 sc1 ar2 _ _ ls hM (lv_sub hl [0, 1] rfl) hw
  · replace hw := hw.2 c_
    refine lv_iconst (v := 0) hx hb dX3_wellAgain_9 (by decide) ?_
    refine lv_goto (tgt := 14) hx hb dX3_wellAgain_10 (by decide) ?_
    exact hL14  p1 0 sc1 ar2 _ _ ls hM (lv_sub hl [0, 1] rfl) hw
def w3_isLot (post : Int32 → wS1 → wS2 → Prop) (sc : wS1) (ar : wS2) (p1 : Int32) : Prop := w3_in (fun r1 => narrow .boolean (.int r1) = .int r1 ∧ post r1 sc ar) p1 0 ((ar 0 26) - 1)
theorem hd_X3_isLot : yX3_isLot.cls = RX3 ∧ yX3_isLot.cls ≠ "java/lang/invoke/MethodHandle" ∧ yX3_isLot.cls ≠ "java/lang/invoke/VarHandle" ∧ (parseMethodDescriptor yX3_isLot.desc).map (fun d => d.parameters.length) = some 1 := by decide +kernel
set_option maxHeartbeats 4000000 in
set_option maxRecDepth 100000 in
theorem m3_isLot (l : Launch) (D : va_G) (ac : Nat → ClassId) (mo : Nat) (ad : Nat → Nat) (sc : wS1) (ar : wS2) (p1 : Int32) (post : Int32 → wS1 → wS2 → Prop) (hw : w3_isLot post sc ar p1) : wm_Mi l D ac mo ad yX3_isLot (ws_ yX3_isLot cX3_isLot 2 (some .boolean)) ({ frames := 1, cells := 0, slots := 0, locals := 22 }) [.ref mo, .int p1] sc ar post := by
  refine wm_ofi (by decide) (Nat.le_of_ble_eq_true rfl) ?_
  intro p e s m below meth c A ls hx hb hr hlk hml hown hts hK hN hAm hA hM hl
  have hl : lv_has ls 2 [(0, .ref mo), (1, .int p1)] := hl
  unfold w3_isLot at hw
  refine lv_iload_n hx hb dX3_isLot_0 rfl (lv_at hl 1 rfl) ?_
  refine lv_iconst (v := 0) hx hb dX3_isLot_1 (by decide) ?_
  refine lv_aload_n hx hb dX3_isLot_2 rfl (lv_at hl 0 rfl) ?_
  refine wm_get hx hb hts hown hK hM 0 (by decide) q1933 (v := .ref (ad 0)) rfl dX3_isLot_3 ?_
  refine lv_bipush (v := 26) hx hb dX3_isLot_6 (by decide) ?_
  refine wm_ald hx hb hK hM (k := 0) rfl vi_26_125 vc_26 (v := ar 0 26) rfl dX3_isLot_8 ?_
  refine lv_iconst (v := 1) hx hb dX3_isLot_9 (by decide) ?_
  refine lv_isub hx hb dX3_isLot_10 ?_
  refine wm_callPi (As := [.int p1, .int 0, .int ((ar 0 26) - 1)]) (rest := []) ⟨hx, hb, hml, hown, hts⟩ hA hM (m3_in l p1 0 ((ar 0 26) - 1) _ hw) (va_cwS 3 hts (lw_S q2005 q2006 q77 q2007) rfl rfl rfl hd_X3_in ⟨Nat.le_of_ble_eq_true rfl, Nat.le_of_ble_eq_true rfl⟩) rfl hl.1 rfl (Nat.le_of_ble_eq_true rfl) dX3_isLot_11 ⟨Nat.le_refl 0, Nat.le_refl 0⟩ (fun r1 H locs hw hM => ?_)
  exact wm_reti hx hb hr hlk hM hw.1 hw.2 dX3_isLot_14
def w3_of (post : Int32 → wS1 → wS2 → Prop) (sc : wS1) (ar : wS2) (p1 : Int32) (p2 : Int32) : Prop := vp_in ((27 + (5 * p1)) + p2) 125 ∧ (post (ar 0 ((27 + (5 * p1)) + p2).toNatClampNeg) sc ar)
theorem hd_X3_of : yX3_of.cls = RX3 ∧ yX3_of.cls ≠ "java/lang/invoke/MethodHandle" ∧ yX3_of.cls ≠ "java/lang/invoke/VarHandle" ∧ (parseMethodDescriptor yX3_of.desc).map (fun d => d.parameters.length) = some 2 := by decide +kernel
set_option maxHeartbeats 4000000 in
set_option maxRecDepth 100000 in
theorem m3_of (l : Launch) (D : va_G) (ac : Nat → ClassId) (mo : Nat) (ad : Nat → Nat) (sc : wS1) (ar : wS2) (p1 : Int32) (p2 : Int32) (post : Int32 → wS1 → wS2 → Prop) (hw : w3_of post sc ar p1 p2) : wm_Mi l D ac mo ad yX3_of (ws_ yX3_of cX3_of 3 (some .int)) ({ frames := 0, cells := 0, slots := 0, locals := 0 }) [.ref mo, .int p1, .int p2] sc ar post := by
  refine wm_ofi (by decide) (Nat.le_of_ble_eq_true rfl) ?_
  intro p e s m below meth c A ls hx hb hr hlk hml hown hts hK hN hAm hA hM hl
  have hl : lv_has ls 3 [(0, .ref mo), (1, .int p1), (2, .int p2)] := hl
  unfold w3_of at hw
  refine lv_aload_n hx hb dX3_of_0 rfl (lv_at hl 0 rfl) ?_
  refine wm_get hx hb hts hown hK hM 0 (by decide) q1933 (v := .ref (ad 0)) rfl dX3_of_1 ?_
  refine lv_bipush (v := 27) hx hb dX3_of_4 (by decide) ?_
  refine lv_iconst (v := 5) hx hb dX3_of_6 (by decide) ?_
  refine lv_iload_n hx hb dX3_of_7 rfl (lv_at hl 1 rfl) ?_
  refine lv_imul hx hb dX3_of_8 ?_
  refine lv_iadd hx hb dX3_of_9 ?_
  refine lv_iload_n hx hb dX3_of_10 rfl (lv_at hl 2 rfl) ?_
  refine lv_iadd hx hb dX3_of_11 ?_
  refine wm_ald hx hb hK hM (k := 0) rfl hw.1 rfl (v := ar 0 ((27 + (5 * p1)) + p2).toNatClampNeg) rfl dX3_of_12 ?_
  replace hw := hw.2
  exact wm_reti hx hb hr hlk hM rfl hw dX3_of_13
def w3_lays (post : wS1 → wS2 → Prop) (sc : wS1) (ar : wS2) (p1 : Int32) (p2 : Int32) (p3 : Int32) : Prop := vp_in ((27 + (5 * p1)) + p2) 125 ∧ (post sc (va_up ar 0 (upd (ar 0) ((27 + (5 * p1)) + p2).toNatClampNeg p3)))
theorem hd_X3_lays : yX3_lays.cls = RX3 ∧ yX3_lays.cls ≠ "java/lang/invoke/MethodHandle" ∧ yX3_lays.cls ≠ "java/lang/invoke/VarHandle" ∧ (parseMethodDescriptor yX3_lays.desc).map (fun d => d.parameters.length) = some 3 := by decide +kernel
set_option maxHeartbeats 4000000 in
set_option maxRecDepth 100000 in
theorem m3_lays (l : Launch) (D : va_G) (ac : Nat → ClassId) (mo : Nat) (ad : Nat → Nat) (sc : wS1) (ar : wS2) (p1 : Int32) (p2 : Int32) (p3 : Int32) (post : wS1 → wS2 → Prop) (hw : w3_lays post sc ar p1 p2 p3) : wm_Mv l D ac mo ad yX3_lays (ws_ yX3_lays cX3_lays 4 none) ({ frames := 0, cells := 0, slots := 0, locals := 0 }) [.ref mo, .int p1, .int p2, .int p3] sc ar post := by
  refine wm_ofv (by decide) (Nat.le_of_ble_eq_true rfl) ?_
  intro p e s m below meth c A ls hx hb hr hlk hml hown hts hK hN hAm hA hM hl
  have hl : lv_has ls 4 [(0, .ref mo), (1, .int p1), (2, .int p2), (3, .int p3)] := hl
  unfold w3_lays at hw
  refine lv_aload_n hx hb dX3_lays_0 rfl (lv_at hl 0 rfl) ?_
  refine wm_get hx hb hts hown hK hM 0 (by decide) q1933 (v := .ref (ad 0)) rfl dX3_lays_1 ?_
  refine lv_bipush (v := 27) hx hb dX3_lays_4 (by decide) ?_
  refine lv_iconst (v := 5) hx hb dX3_lays_6 (by decide) ?_
  refine lv_iload_n hx hb dX3_lays_7 rfl (lv_at hl 1 rfl) ?_
  refine lv_imul hx hb dX3_lays_8 ?_
  refine lv_iadd hx hb dX3_lays_9 ?_
  refine lv_iload_n hx hb dX3_lays_10 rfl (lv_at hl 2 rfl) ?_
  refine lv_iadd hx hb dX3_lays_11 ?_
  refine lv_iload_n hx hb dX3_lays_12 rfl (lv_at hl 3 rfl) ?_
  refine wm_ast hx hb hK hN hAm hM (k := 0) rfl hw.1 rfl (f := ar 0) rfl dX3_lays_13 (fun H locs hM => ?_)
  replace hw := hw.2
  exact wm_retv hx hb hr hlk hM hw dX3_lays_14
def w3_ofKiln (post : Int32 → wS1 → wS2 → Prop) (sc : wS1) (ar : wS2) (p1 : Int32) (p2 : Int32) : Prop := vp_in ((88 + (4 * p1)) + p2) 125 ∧ (post (ar 0 ((88 + (4 * p1)) + p2).toNatClampNeg) sc ar)
theorem hd_X3_ofKiln : yX3_ofKiln.cls = RX3 ∧ yX3_ofKiln.cls ≠ "java/lang/invoke/MethodHandle" ∧ yX3_ofKiln.cls ≠ "java/lang/invoke/VarHandle" ∧ (parseMethodDescriptor yX3_ofKiln.desc).map (fun d => d.parameters.length) = some 2 := by decide +kernel
set_option maxHeartbeats 4000000 in
set_option maxRecDepth 100000 in
theorem m3_ofKiln (l : Launch) (D : va_G) (ac : Nat → ClassId) (mo : Nat) (ad : Nat → Nat) (sc : wS1) (ar : wS2) (p1 : Int32) (p2 : Int32) (post : Int32 → wS1 → wS2 → Prop) (hw : w3_ofKiln post sc ar p1 p2) : wm_Mi l D ac mo ad yX3_ofKiln (ws_ yX3_ofKiln cX3_ofKiln 3 (some .int)) ({ frames := 0, cells := 0, slots := 0, locals := 0 }) [.ref mo, .int p1, .int p2] sc ar post := by
  refine wm_ofi (by decide) (Nat.le_of_ble_eq_true rfl) ?_
  intro p e s m below meth c A ls hx hb hr hlk hml hown hts hK hN hAm hA hM hl
  have hl : lv_has ls 3 [(0, .ref mo), (1, .int p1), (2, .int p2)] := hl
  unfold w3_ofKiln at hw
  refine lv_aload_n hx hb dX3_ofKiln_0 rfl (lv_at hl 0 rfl) ?_
  refine wm_get hx hb hts hown hK hM 0 (by decide) q1933 (v := .ref (ad 0)) rfl dX3_ofKiln_1 ?_
  refine lv_bipush (v := 88) hx hb dX3_ofKiln_4 (by decide) ?_
  refine lv_iconst (v := 4) hx hb dX3_ofKiln_6 (by decide) ?_
  refine lv_iload_n hx hb dX3_ofKiln_7 rfl (lv_at hl 1 rfl) ?_
  refine lv_imul hx hb dX3_ofKiln_8 ?_
  refine lv_iadd hx hb dX3_ofKiln_9 ?_
  refine lv_iload_n hx hb dX3_ofKiln_10 rfl (lv_at hl 2 rfl) ?_
  refine lv_iadd hx hb dX3_ofKiln_11 ?_
  refine wm_ald hx hb hK hM (k := 0) rfl hw.1 rfl (v := ar 0 ((88 + (4 * p1)) + p2).toNatClampNeg) rfl dX3_ofKiln_12 ?_
  replace hw := hw.2
  exact wm_reti hx hb hr hlk hM rfl hw dX3_ofKiln_13
def w3_laysKiln (post : wS1 → wS2 → Prop) (sc : wS1) (ar : wS2) (p1 : Int32) (p2 : Int32) (p3 : Int32) : Prop := vp_in ((88 + (4 * p1)) + p2) 125 ∧ (post sc (va_up ar 0 (upd (ar 0) ((88 + (4 * p1)) + p2).toNatClampNeg p3)))
theorem hd_X3_laysKiln : yX3_laysKiln.cls = RX3 ∧ yX3_laysKiln.cls ≠ "java/lang/invoke/MethodHandle" ∧ yX3_laysKiln.cls ≠ "java/lang/invoke/VarHandle" ∧ (parseMethodDescriptor yX3_laysKiln.desc).map (fun d => d.parameters.length) = some 3 := by decide +kernel
set_option maxHeartbeats 4000000 in
set_option maxRecDepth 100000 in
theorem m3_laysKiln (l : Launch) (D : va_G) (ac : Nat → ClassId) (mo : Nat) (ad : Nat → Nat) (sc : wS1) (ar : wS2) (p1 : Int32) (p2 : Int32) (p3 : Int32) (post : wS1 → wS2 → Prop) (hw : w3_laysKiln post sc ar p1 p2 p3) : wm_Mv l D ac mo ad yX3_laysKiln (ws_ yX3_laysKiln cX3_laysKiln 4 none) ({ frames := 0, cells := 0, slots := 0, locals := 0 }) [.ref mo, .int p1, .int p2, .int p3] sc ar post := by
  refine wm_ofv (by decide) (Nat.le_of_ble_eq_true rfl) ?_
  intro p e s m below meth c A ls hx hb hr hlk hml hown hts hK hN hAm hA hM hl
  have hl : lv_has ls 4 [(0, .ref mo), (1, .int p1), (2, .int p2), (3, .int p3)] := hl
  unfold w3_laysKiln at hw
  refine lv_aload_n hx hb dX3_laysKiln_0 rfl (lv_at hl 0 rfl) ?_
  refine wm_get hx hb hts hown hK hM 0 (by decide) q1933 (v := .ref (ad 0)) rfl dX3_laysKiln_1 ?_
  refine lv_bipush (v := 88) hx hb dX3_laysKiln_4 (by decide) ?_
  refine lv_iconst (v := 4) hx hb dX3_laysKiln_6 (by decide) ?_
  refine lv_iload_n hx hb dX3_laysKiln_7 rfl (lv_at hl 1 rfl) ?_
  refine lv_imul hx hb dX3_laysKiln_8 ?_
  refine lv_iadd hx hb dX3_laysKiln_9 ?_
  refine lv_iload_n hx hb dX3_laysKiln_10 rfl (lv_at hl 2 rfl) ?_
  refine lv_iadd hx hb dX3_laysKiln_11 ?_
  refine lv_iload_n hx hb dX3_laysKiln_12 rfl (lv_at hl 3 rfl) ?_
  refine wm_ast hx hb hK hN hAm hM (k := 0) rfl hw.1 rfl (f := ar 0) rfl dX3_laysKiln_13 (fun H locs hM => ?_)
  replace hw := hw.2
  exact wm_retv hx hb hr hlk hM hw dX3_laysKiln_14
def w3_isKiln (post : Int32 → wS1 → wS2 → Prop) (sc : wS1) (ar : wS2) (p1 : Int32) : Prop := w3_in (fun r1 => narrow .boolean (.int r1) = .int r1 ∧ post r1 sc ar) p1 0 ((ar 0 87) - 1)
theorem hd_X3_isKiln : yX3_isKiln.cls = RX3 ∧ yX3_isKiln.cls ≠ "java/lang/invoke/MethodHandle" ∧ yX3_isKiln.cls ≠ "java/lang/invoke/VarHandle" ∧ (parseMethodDescriptor yX3_isKiln.desc).map (fun d => d.parameters.length) = some 1 := by decide +kernel
set_option maxHeartbeats 4000000 in
set_option maxRecDepth 100000 in
theorem m3_isKiln (l : Launch) (D : va_G) (ac : Nat → ClassId) (mo : Nat) (ad : Nat → Nat) (sc : wS1) (ar : wS2) (p1 : Int32) (post : Int32 → wS1 → wS2 → Prop) (hw : w3_isKiln post sc ar p1) : wm_Mi l D ac mo ad yX3_isKiln (ws_ yX3_isKiln cX3_isKiln 2 (some .boolean)) ({ frames := 1, cells := 0, slots := 0, locals := 22 }) [.ref mo, .int p1] sc ar post := by
  refine wm_ofi (by decide) (Nat.le_of_ble_eq_true rfl) ?_
  intro p e s m below meth c A ls hx hb hr hlk hml hown hts hK hN hAm hA hM hl
  have hl : lv_has ls 2 [(0, .ref mo), (1, .int p1)] := hl
  unfold w3_isKiln at hw
  refine lv_iload_n hx hb dX3_isKiln_0 rfl (lv_at hl 1 rfl) ?_
  refine lv_iconst (v := 0) hx hb dX3_isKiln_1 (by decide) ?_
  refine lv_aload_n hx hb dX3_isKiln_2 rfl (lv_at hl 0 rfl) ?_
  refine wm_get hx hb hts hown hK hM 0 (by decide) q1933 (v := .ref (ad 0)) rfl dX3_isKiln_3 ?_
  refine lv_bipush (v := 87) hx hb dX3_isKiln_6 (by decide) ?_
  refine wm_ald hx hb hK hM (k := 0) rfl vi_87_125 vc_87 (v := ar 0 87) rfl dX3_isKiln_8 ?_
  refine lv_iconst (v := 1) hx hb dX3_isKiln_9 (by decide) ?_
  refine lv_isub hx hb dX3_isKiln_10 ?_
  refine wm_callPi (As := [.int p1, .int 0, .int ((ar 0 87) - 1)]) (rest := []) ⟨hx, hb, hml, hown, hts⟩ hA hM (m3_in l p1 0 ((ar 0 87) - 1) _ hw) (va_cwS 3 hts (lw_S q2005 q2006 q77 q2007) rfl rfl rfl hd_X3_in ⟨Nat.le_of_ble_eq_true rfl, Nat.le_of_ble_eq_true rfl⟩) rfl hl.1 rfl (Nat.le_of_ble_eq_true rfl) dX3_isKiln_11 ⟨Nat.le_refl 0, Nat.le_refl 0⟩ (fun r1 H locs hw hM => ?_)
  exact wm_reti hx hb hr hlk hM hw.1 hw.2 dX3_isKiln_14
def w3_chips (post : Int32 → wS1 → wS2 → Prop) (sc : wS1) (ar : wS2) (p1 : Int32) (p2 : Int32) : Prop := w3_of (fun r3 sc1 ar2 => w3_size (fun r4 => w3_more (fun r5 => post ((r3 * r5) / 10) sc1 ar2) 0 (r4 - 1)) (p2 - 6)) sc ar p1 0
theorem hd_X3_chips : yX3_chips.cls = RX3 ∧ yX3_chips.cls ≠ "java/lang/invoke/MethodHandle" ∧ yX3_chips.cls ≠ "java/lang/invoke/VarHandle" ∧ (parseMethodDescriptor yX3_chips.desc).map (fun d => d.parameters.length) = some 2 := by decide +kernel
set_option maxHeartbeats 4000000 in
set_option maxRecDepth 100000 in
theorem m3_chips (l : Launch) (D : va_G) (ac : Nat → ClassId) (mo : Nat) (ad : Nat → Nat) (sc : wS1) (ar : wS2) (p1 : Int32) (p2 : Int32) (post : Int32 → wS1 → wS2 → Prop) (hw : w3_chips post sc ar p1 p2) : wm_Mi l D ac mo ad yX3_chips (ws_ yX3_chips cX3_chips 3 (some .int)) ({ frames := 1, cells := 0, slots := 0, locals := 22 }) [.ref mo, .int p1, .int p2] sc ar post := by
  refine wm_ofi (by decide) (Nat.le_of_ble_eq_true rfl) ?_
  intro p e s m below meth c A ls hx hb hr hlk hml hown hts hK hN hAm hA hM hl
  have hl : lv_has ls 3 [(0, .ref mo), (1, .int p1), (2, .int p2)] := hl
  unfold w3_chips at hw
  refine lv_aload_n hx hb dX3_chips_0 rfl (lv_at hl 0 rfl) ?_
  refine lv_iload_n hx hb dX3_chips_1 rfl (lv_at hl 1 rfl) ?_
  refine lv_iconst (v := 0) hx hb dX3_chips_2 (by decide) ?_
  refine wm_callVi (As := [.int p1, .int 0]) (rest := []) ⟨hx, hb, hml, hown, hts⟩ hK hN hAm hA hM (m3_of l D ac mo ad sc ar p1 0 _ hw) (cwV 2 hts (lw_V q2069 q2071 qs27 q77 q2072) rfl rfl rfl hd_X3_of ⟨Nat.le_of_ble_eq_true rfl, Nat.le_of_ble_eq_true rfl⟩) rfl hl.1 rfl (Nat.le_of_ble_eq_true rfl) dX3_chips_3 ⟨Nat.le_refl 0, Nat.le_refl 0⟩ (fun r3 sc1 ar2 H locs hw hM => ?_)
  refine lv_iconst (v := 0) hx hb dX3_chips_6 (by decide) ?_
  refine lv_iload_n hx hb dX3_chips_7 rfl (lv_at hl 2 rfl) ?_
  refine lv_bipush (v := 6) hx hb dX3_chips_8 (by decide) ?_
  refine lv_isub hx hb dX3_chips_10 ?_
  refine wm_callPi (As := [.int (p2 - 6)]) (rest := [.int 0, .int r3]) ⟨hx, hb, hml, hown, hts⟩ hA hM (m3_size l (p2 - 6) _ hw) (va_cwS 1 hts (lw_S q2051 q2052 q77 q2053) rfl rfl rfl hd_X3_size ⟨Nat.le_of_ble_eq_true rfl, Nat.le_of_ble_eq_true rfl⟩) rfl hl.1 rfl (Nat.le_of_ble_eq_true rfl) dX3_chips_11 ⟨Nat.le_refl 0, Nat.le_refl 0⟩ (fun r4 H locs hw hM => ?_)
  refine lv_iconst (v := 1) hx hb dX3_chips_14 (by decide) ?_
  refine lv_isub hx hb dX3_chips_15 ?_
  refine wm_callPi (As := [.int 0, .int (r4 - 1)]) (rest := [.int r3]) ⟨hx, hb, hml, hown, hts⟩ hA hM (m3_more l 0 (r4 - 1) _ hw) (va_cwS 2 hts (lw_S q2054 q2055 q77 q2056) rfl rfl rfl hd_X3_more ⟨Nat.le_of_ble_eq_true rfl, Nat.le_of_ble_eq_true rfl⟩) rfl hl.1 rfl (Nat.le_of_ble_eq_true rfl) dX3_chips_16 ⟨Nat.le_refl 0, Nat.le_refl 0⟩ (fun r5 H locs hw hM => ?_)
  refine lv_imul hx hb dX3_chips_19 ?_
  refine lv_bipush (v := 10) hx hb dX3_chips_20 (by decide) ?_
  refine lv_idiv hx hb dX3_chips_22 (by decide) ?_
  exact wm_reti hx hb hr hlk hM rfl hw dX3_chips_23
def w3_firstDone_L45 (post : Int32 → wS1 → wS2 → Prop) (k4 : Int32 → Int32 → wS1 → wS2 → Prop) (x1 : Int32) (x2 : Int32) (sc : wS1) (ar : wS2) : Prop := k4 x1 (x2 + 1) sc ar
def w3_firstDone_L43 (post : Int32 → wS1 → wS2 → Prop) (k4 : Int32 → Int32 → wS1 → wS2 → Prop) (x2 : Int32) (sc : wS1) (ar : wS2) : Prop := w3_firstDone_L45 post k4 x2 x2 sc ar
def w3_firstDone_L61 (post : Int32 → wS1 → wS2 → Prop) (x1 : Int32) (t0 : Int32) (sc : wS1) (ar : wS2) : Prop := w3_fails (fun r12 sc10 ar11 => (r12 = 0 → (post x1 sc10 ar11)) ∧ (¬ r12 = 0 → (post 0 sc10 ar11))) sc ar t0
def w3_firstDone_L4 (post : Int32 → wS1 → wS2 → Prop) : Nat → Int32 → Int32 → wS1 → wS2 → Prop
  | 0, _, _, _, _ => False
  | n + 1, x1, x2, sc, ar => ((ar 0 87) ≤ x2 → ((0 ≤ x1 → (w3_firstDone_L61 post  x1 0 sc ar)) ∧ (¬ 0 ≤ x1 → (w3_firstDone_L61 post  x1 1 sc ar)))) ∧ (¬ (ar 0 87) ≤ x2 → (w3_ofKiln (fun r3 sc1 ar2 => (r3 < 0 → (w3_firstDone_L45 post (fun x1' x2' sc' ar' => w3_firstDone_L4 post  n x1' x2' sc' ar') x1 x2 sc1 ar2)) ∧ (¬ r3 < 0 → ((x1 < 0 → (w3_firstDone_L43 post (fun x1' x2' sc' ar' => w3_firstDone_L4 post  n x1' x2' sc' ar') x2 sc1 ar2)) ∧ (¬ x1 < 0 → (w3_ofKiln (fun r6 sc4 ar5 => w3_ofKiln (fun r9 sc7 ar8 => (r9 ≤ r6 → (w3_firstDone_L45 post (fun x1' x2' sc' ar' => w3_firstDone_L4 post  n x1' x2' sc' ar') x1 x2 sc7 ar8)) ∧ (¬ r9 ≤ r6 → (w3_firstDone_L43 post (fun x1' x2' sc' ar' => w3_firstDone_L4 post  n x1' x2' sc' ar') x2 sc7 ar8))) sc4 ar5 x1 2) sc1 ar2 x2 2))))) sc ar x2 1))
def w3_firstDone (post : Int32 → wS1 → wS2 → Prop) (sc : wS1) (ar : wS2)  : Prop := (∃ n, w3_firstDone_L4 post  n (-1) 0 sc ar)
theorem hd_X3_firstDone : yX3_firstDone.cls = RX3 ∧ yX3_firstDone.cls ≠ "java/lang/invoke/MethodHandle" ∧ yX3_firstDone.cls ≠ "java/lang/invoke/VarHandle" ∧ (parseMethodDescriptor yX3_firstDone.desc).map (fun d => d.parameters.length) = some 0 := by decide +kernel
set_option maxHeartbeats 4000000 in
set_option maxRecDepth 100000 in
theorem m3_firstDone (l : Launch) (D : va_G) (ac : Nat → ClassId) (mo : Nat) (ad : Nat → Nat) (sc : wS1) (ar : wS2)  (post : Int32 → wS1 → wS2 → Prop) (hw : w3_firstDone post sc ar ) : wm_Mi l D ac mo ad yX3_firstDone (ws_ yX3_firstDone cX3_firstDone 3 (some .int)) ({ frames := 1, cells := 0, slots := 0, locals := 22 }) [.ref mo] sc ar post := by
  refine wm_ofi (by decide) (Nat.le_of_ble_eq_true rfl) ?_
  intro p e s m below meth c A ls hx hb hr hlk hml hown hts hK hN hAm hA hM hl
  have hl : lv_has ls 3 [(0, .ref mo)] := hl
  unfold w3_firstDone at hw
  have hL45 : ∀ (k4 : Int32 → Int32 → wS1 → wS2 → Prop) (hk4 : ∀ (x1 : Int32) (x2 : Int32) (sc : wS1) (ar : wS2) (H : Heap) (locs : List Loc) (ls : Array Slot), wm_S D ac A s.heap mo ad sc ar H locs → lv_has ls 3 [(0, .ref mo), (1, .int x1), (2, .int x2)] → k4 x1 x2 sc ar → W p l e (headSpec (ws_ yX3_firstDone cX3_firstDone 3 (some .int)) ({ frames := 1, cells := 0, slots := 0, locals := 22 })).room s m ([.ref mo] : List Value).toArray below meth c H locs 0 0 (MQ below (va_Qi (S := wU) (fun r u => post r u.1 u.2) (wm_B D ac mo ad) A) ([.ref mo] : List Value).toArray s 0 0 A) (F0 m 4 ls [])) (x1 : Int32) (x2 : Int32) (sc : wS1) (ar : wS2) (H : Heap) (locs : List Loc) (ls : Array Slot), wm_S D ac A s.heap mo ad sc ar H locs → lv_has ls 3 [(0, .ref mo), (1, .int x1), (2, .int x2)] → w3_firstDone_L45 post k4 x1 x2 sc ar → W p l e (headSpec (ws_ yX3_firstDone cX3_firstDone 3 (some .int)) ({ frames := 1, cells := 0, slots := 0, locals := 22 })).room s m ([.ref mo] : List Value).toArray below meth c H locs 0 0 (MQ below (va_Qi (S := wU) (fun r u => post r u.1 u.2) (wm_B D ac mo ad) A) ([.ref mo] : List Value).toArray s 0 0 A) (F0 m 45 ls []) := by
    intro k4 hk4 x1 x2 sc ar H locs ls hM hl hw
    unfold w3_firstDone_L45 at hw
    refine lv_iinc (v := x2 + 1) (lv' := [(2, .int (x2 + 1)), (0, .ref mo), (1, .int x1)]) hx hb dX3_firstDone_45 hl (k := 2) rfl rfl (by decide) rfl (fun ls hl => ?_)
    refine lv_goto (tgt := 4) hx hb dX3_firstDone_48 (by decide) ?_
    exact hk4 x1 (x2 + 1) sc ar _ _ ls hM (lv_sub hl [1, 2, 0] rfl) hw
  have hL43 : ∀ (k4 : Int32 → Int32 → wS1 → wS2 → Prop) (hk4 : ∀ (x1 : Int32) (x2 : Int32) (sc : wS1) (ar : wS2) (H : Heap) (locs : List Loc) (ls : Array Slot), wm_S D ac A s.heap mo ad sc ar H locs → lv_has ls 3 [(0, .ref mo), (1, .int x1), (2, .int x2)] → k4 x1 x2 sc ar → W p l e (headSpec (ws_ yX3_firstDone cX3_firstDone 3 (some .int)) ({ frames := 1, cells := 0, slots := 0, locals := 22 })).room s m ([.ref mo] : List Value).toArray below meth c H locs 0 0 (MQ below (va_Qi (S := wU) (fun r u => post r u.1 u.2) (wm_B D ac mo ad) A) ([.ref mo] : List Value).toArray s 0 0 A) (F0 m 4 ls [])) (x2 : Int32) (sc : wS1) (ar : wS2) (H : Heap) (locs : List Loc) (ls : Array Slot), wm_S D ac A s.heap mo ad sc ar H locs → lv_has ls 3 [(0, .ref mo), (2, .int x2)] → w3_firstDone_L43 post k4 x2 sc ar → W p l e (headSpec (ws_ yX3_firstDone cX3_firstDone 3 (some .int)) ({ frames := 1, cells := 0, slots := 0, locals := 22 })).room s m ([.ref mo] : List Value).toArray below meth c H locs 0 0 (MQ below (va_Qi (S := wU) (fun r u => post r u.1 u.2) (wm_B D ac mo ad) A) ([.ref mo] : List Value).toArray s 0 0 A) (F0 m 43 ls []) := by
    intro k4 hk4 x2 sc ar H locs ls hM hl hw
    unfold w3_firstDone_L43 at hw
    refine lv_iload_n hx hb dX3_firstDone_43 rfl (lv_at hl 1 rfl) ?_
    refine lv_istore_n (lv' := [(1, .int x2), (0, .ref mo), (2, .int x2)]) hx hb dX3_firstDone_44 rfl hl (by decide) rfl (fun ls hl => ?_)
    exact hL45 k4 hk4 x2 x2 sc ar _ _ ls hM (lv_sub hl [1, 0, 2] rfl) hw
  have hL61 : ∀ (x1 : Int32) (t0 : Int32) (sc : wS1) (ar : wS2) (H : Heap) (locs : List Loc) (ls : Array Slot), wm_S D ac A s.heap mo ad sc ar H locs → lv_has ls 3 [(1, .int x1)] → w3_firstDone_L61 post x1 t0 sc ar → W p l e (headSpec (ws_ yX3_firstDone cX3_firstDone 3 (some .int)) ({ frames := 1, cells := 0, slots := 0, locals := 22 })).room s m ([.ref mo] : List Value).toArray below meth c H locs 0 0 (MQ below (va_Qi (S := wU) (fun r u => post r u.1 u.2) (wm_B D ac mo ad) A) ([.ref mo] : List Value).toArray s 0 0 A) (F0 m 61 ls [.int t0, .ref mo]) := by
    intro x1 t0 sc ar H locs ls hM hl hw
    unfold w3_firstDone_L61 at hw
    refine wm_callVi (As := [.int t0]) (rest := []) ⟨hx, hb, hml, hown, hts⟩ hK hN hAm hA hM (m3_fails l D ac mo ad sc ar t0 _ hw) (cwV 1 hts (lw_V q2008 q2010 qs19 q77 q2011) rfl rfl rfl hd_X3_fails ⟨Nat.le_of_ble_eq_true rfl, Nat.le_of_ble_eq_true rfl⟩) rfl hl.1 rfl (Nat.le_of_ble_eq_true rfl) dX3_firstDone_61 ⟨Nat.le_refl 0, Nat.le_refl 0⟩ (fun r12 sc10 ar11 H locs hw hM => ?_)
    refine lv_if_eq (tgt := 71) hx hb dX3_firstDone_64 (by decide) (fun c_ => ?_) (fun c_ => ?_)
    · replace hw := hw.1 c_
      refine lv_iload_n hx hb dX3_firstDone_71 rfl (lv_at hl 0 rfl) ?_
      exact wm_reti hx hb hr hlk hM rfl hw dX3_firstDone_72
    · replace hw := hw.2 c_
      refine lv_iconst (v := 0) hx hb dX3_firstDone_67 (by decide) ?_
      refine lv_goto (tgt := 72) hx hb dX3_firstDone_68 (by decide) ?_
      exact wm_reti hx hb hr hlk hM rfl hw dX3_firstDone_72
  have hL4 : ∀ (n : Nat) (x1 : Int32) (x2 : Int32) (sc : wS1) (ar : wS2) (H : Heap) (locs : List Loc) (ls : Array Slot), wm_S D ac A s.heap mo ad sc ar H locs → lv_has ls 3 [(0, .ref mo), (1, .int x1), (2, .int x2)] → w3_firstDone_L4 post n x1 x2 sc ar → W p l e (headSpec (ws_ yX3_firstDone cX3_firstDone 3 (some .int)) ({ frames := 1, cells := 0, slots := 0, locals := 22 })).room s m ([.ref mo] : List Value).toArray below meth c H locs 0 0 (MQ below (va_Qi (S := wU) (fun r u => post r u.1 u.2) (wm_B D ac mo ad) A) ([.ref mo] : List Value).toArray s 0 0 A) (F0 m 4 ls []) := by
    intro n
    induction n with
    | zero => exact fun _ _ _ _ _ _ _ _ _ hw => hw.elim
    | succ n ih =>
      intro x1 x2 sc ar H locs ls hM hl hw
      unfold w3_firstDone_L4 at hw
      refine lv_iload_n hx hb dX3_firstDone_4 rfl (lv_at hl 2 rfl) ?_
      refine lv_aload_n hx hb dX3_firstDone_5 rfl (lv_at hl 0 rfl) ?_
      refine wm_get hx hb hts hown hK hM 0 (by decide) q1933 (v := .ref (ad 0)) rfl dX3_firstDone_6 ?_
      refine lv_bipush (v := 87) hx hb dX3_firstDone_9 (by decide) ?_
      refine wm_ald hx hb hK hM (k := 0) rfl vi_87_125 vc_87 (v := ar 0 87) rfl dX3_firstDone_11 ?_
      refine lv_icmp_ge (tgt := 51) hx hb dX3_firstDone_12 (by decide) (fun c_ => ?_) (fun c_ => ?_)
      · replace hw := hw.1 c_
        refine lv_aload_n hx hb dX3_firstDone_51 rfl (lv_at hl 0 rfl) ?_
        refine lv_iload_n hx hb dX3_firstDone_52 rfl (lv_at hl 1 rfl) ?_
        refine lv_if_ge (tgt := 60) hx hb dX3_firstDone_53 (by decide) (fun c_ => ?_) (fun c_ => ?_)
        · replace hw := hw.1 c_
          refine lv_iconst (v := 0) hx hb dX3_firstDone_60 (by decide) ?_
          exact hL61  x1 0 sc ar _ _ ls hM (lv_sub hl [1] rfl) hw
        · replace hw := hw.2 c_
          refine lv_iconst (v := 1) hx hb dX3_firstDone_56 (by decide) ?_
          refine lv_goto (tgt := 61) hx hb dX3_firstDone_57 (by decide) ?_
          exact hL61  x1 1 sc ar _ _ ls hM (lv_sub hl [1] rfl) hw
      · replace hw := hw.2 c_
        refine lv_aload_n hx hb dX3_firstDone_15 rfl (lv_at hl 0 rfl) ?_
        refine lv_iload_n hx hb dX3_firstDone_16 rfl (lv_at hl 2 rfl) ?_
        refine lv_iconst (v := 1) hx hb dX3_firstDone_17 (by decide) ?_
        refine wm_callVi (As := [.int x2, .int 1]) (rest := []) ⟨hx, hb, hml, hown, hts⟩ hK hN hAm hA hM (m3_ofKiln l D ac mo ad sc ar x2 1 _ hw) (cwV 2 hts (lw_V q2085 q2087 qs29 q77 q2088) rfl rfl rfl hd_X3_ofKiln ⟨Nat.le_of_ble_eq_true rfl, Nat.le_of_ble_eq_true rfl⟩) rfl hl.1 rfl (Nat.le_of_ble_eq_true rfl) dX3_firstDone_18 ⟨Nat.le_refl 0, Nat.le_refl 0⟩ (fun r3 sc1 ar2 H locs hw hM => ?_)
        refine lv_if_lt (tgt := 45) hx hb dX3_firstDone_21 (by decide) (fun c_ => ?_) (fun c_ => ?_)
        · replace hw := hw.1 c_
          exact hL45 (fun x1' x2' sc' ar' => w3_firstDone_L4 post  n x1' x2' sc' ar') (fun x1' x2' sc' ar' H locs ls hM hl hw => ih x1' x2' sc' ar' H locs ls hM hl hw) x1 x2 sc1 ar2 _ _ ls hM (lv_sub hl [0, 1, 2] rfl) hw
        · replace hw := hw.2 c_
          refine lv_iload_n hx hb dX3_firstDone_24 rfl (lv_at hl 1 rfl) ?_
          refine lv_if_lt (tgt := 43) hx hb dX3_firstDone_25 (by decide) (fun c_ => ?_) (fun c_ => ?_)
          · replace hw := hw.1 c_
            exact hL43 (fun x1' x2' sc' ar' => w3_firstDone_L4 post  n x1' x2' sc' ar') (fun x1' x2' sc' ar' H locs ls hM hl hw => ih x1' x2' sc' ar' H locs ls hM hl hw) x2 sc1 ar2 _ _ ls hM (lv_sub hl [0, 2] rfl) hw
          · replace hw := hw.2 c_
            refine lv_aload_n hx hb dX3_firstDone_28 rfl (lv_at hl 0 rfl) ?_
            refine lv_iload_n hx hb dX3_firstDone_29 rfl (lv_at hl 2 rfl) ?_
            refine lv_iconst (v := 2) hx hb dX3_firstDone_30 (by decide) ?_
            refine wm_callVi (As := [.int x2, .int 2]) (rest := []) ⟨hx, hb, hml, hown, hts⟩ hK hN hAm hA hM (m3_ofKiln l D ac mo ad sc1 ar2 x2 2 _ hw) (cwV 2 hts (lw_V q2085 q2087 qs29 q77 q2088) rfl rfl rfl hd_X3_ofKiln ⟨Nat.le_of_ble_eq_true rfl, Nat.le_of_ble_eq_true rfl⟩) rfl hl.1 rfl (Nat.le_of_ble_eq_true rfl) dX3_firstDone_31 ⟨Nat.le_refl 0, Nat.le_refl 0⟩ (fun r6 sc4 ar5 H locs hw hM => ?_)
            refine lv_aload_n hx hb dX3_firstDone_34 rfl (lv_at hl 0 rfl) ?_
            refine lv_iload_n hx hb dX3_firstDone_35 rfl (lv_at hl 1 rfl) ?_
            refine lv_iconst (v := 2) hx hb dX3_firstDone_36 (by decide) ?_
            refine wm_callVi (As := [.int x1, .int 2]) (rest := [.int r6]) ⟨hx, hb, hml, hown, hts⟩ hK hN hAm hA hM (m3_ofKiln l D ac mo ad sc4 ar5 x1 2 _ hw) (cwV 2 hts (lw_V q2085 q2087 qs29 q77 q2088) rfl rfl rfl hd_X3_ofKiln ⟨Nat.le_of_ble_eq_true rfl, Nat.le_of_ble_eq_true rfl⟩) rfl hl.1 rfl (Nat.le_of_ble_eq_true rfl) dX3_firstDone_37 ⟨Nat.le_refl 0, Nat.le_refl 0⟩ (fun r9 sc7 ar8 H locs hw hM => ?_)
            refine lv_icmp_ge (tgt := 45) hx hb dX3_firstDone_40 (by decide) (fun c_ => ?_) (fun c_ => ?_)
            · replace hw := hw.1 c_
              exact hL45 (fun x1' x2' sc' ar' => w3_firstDone_L4 post  n x1' x2' sc' ar') (fun x1' x2' sc' ar' H locs ls hM hl hw => ih x1' x2' sc' ar' H locs ls hM hl hw) x1 x2 sc7 ar8 _ _ ls hM (lv_sub hl [0, 1, 2] rfl) hw
            · replace hw := hw.2 c_
              exact hL43 (fun x1' x2' sc' ar' => w3_firstDone_L4 post  n x1' x2' sc' ar') (fun x1' x2' sc' ar' H locs ls hM hl hw => ih x1' x2' sc' ar' H locs ls hM hl hw) x2 sc7 ar8 _ _ ls hM (lv_sub hl [0, 2] rfl) hw
  refine lv_iconst (v := (-1)) hx hb dX3_firstDone_0 (by decide) ?_
  refine lv_istore_n (lv' := [(1, .int (-1)), (0, .ref mo)]) hx hb dX3_firstDone_1 rfl hl (by decide) rfl (fun ls hl => ?_)
  refine lv_iconst (v := 0) hx hb dX3_firstDone_2 (by decide) ?_
  refine lv_istore_n (lv' := [(2, .int 0), (1, .int (-1)), (0, .ref mo)]) hx hb dX3_firstDone_3 rfl hl (by decide) rfl (fun ls hl => ?_)
  obtain ⟨n0, hw⟩ := hw
  exact hL4  n0 (-1) 0 sc ar _ _ ls hM (lv_sub hl [2, 1, 0] rfl) hw
def w3_laysCrate (post : wS1 → wS2 → Prop) (sc : wS1) (ar : wS2) (p1 : Int32) (p2 : Int32) (p3 : Int32) : Prop := vp_in ((101 + (4 * p1)) + p2) 125 ∧ (post sc (va_up ar 0 (upd (ar 0) ((101 + (4 * p1)) + p2).toNatClampNeg p3)))
theorem hd_X3_laysCrate : yX3_laysCrate.cls = RX3 ∧ yX3_laysCrate.cls ≠ "java/lang/invoke/MethodHandle" ∧ yX3_laysCrate.cls ≠ "java/lang/invoke/VarHandle" ∧ (parseMethodDescriptor yX3_laysCrate.desc).map (fun d => d.parameters.length) = some 3 := by decide +kernel
set_option maxHeartbeats 4000000 in
set_option maxRecDepth 100000 in
theorem m3_laysCrate (l : Launch) (D : va_G) (ac : Nat → ClassId) (mo : Nat) (ad : Nat → Nat) (sc : wS1) (ar : wS2) (p1 : Int32) (p2 : Int32) (p3 : Int32) (post : wS1 → wS2 → Prop) (hw : w3_laysCrate post sc ar p1 p2 p3) : wm_Mv l D ac mo ad yX3_laysCrate (ws_ yX3_laysCrate cX3_laysCrate 4 none) ({ frames := 0, cells := 0, slots := 0, locals := 0 }) [.ref mo, .int p1, .int p2, .int p3] sc ar post := by
  refine wm_ofv (by decide) (Nat.le_of_ble_eq_true rfl) ?_
  intro p e s m below meth c A ls hx hb hr hlk hml hown hts hK hN hAm hA hM hl
  have hl : lv_has ls 4 [(0, .ref mo), (1, .int p1), (2, .int p2), (3, .int p3)] := hl
  unfold w3_laysCrate at hw
  refine lv_aload_n hx hb dX3_laysCrate_0 rfl (lv_at hl 0 rfl) ?_
  refine wm_get hx hb hts hown hK hM 0 (by decide) q1933 (v := .ref (ad 0)) rfl dX3_laysCrate_1 ?_
  refine lv_bipush (v := 101) hx hb dX3_laysCrate_4 (by decide) ?_
  refine lv_iconst (v := 4) hx hb dX3_laysCrate_6 (by decide) ?_
  refine lv_iload_n hx hb dX3_laysCrate_7 rfl (lv_at hl 1 rfl) ?_
  refine lv_imul hx hb dX3_laysCrate_8 ?_
  refine lv_iadd hx hb dX3_laysCrate_9 ?_
  refine lv_iload_n hx hb dX3_laysCrate_10 rfl (lv_at hl 2 rfl) ?_
  refine lv_iadd hx hb dX3_laysCrate_11 ?_
  refine lv_iload_n hx hb dX3_laysCrate_12 rfl (lv_at hl 3 rfl) ?_
  refine wm_ast hx hb hK hN hAm hM (k := 0) rfl hw.1 rfl (f := ar 0) rfl dX3_laysCrate_13 (fun H locs hM => ?_)
  replace hw := hw.2
  exact wm_retv hx hb hr hlk hM hw dX3_laysCrate_14
def w3_isCrate (post : Int32 → wS1 → wS2 → Prop) (sc : wS1) (ar : wS2) (p1 : Int32) : Prop := w3_in (fun r1 => narrow .boolean (.int r1) = .int r1 ∧ post r1 sc ar) p1 0 ((ar 0 100) - 1)
theorem hd_X3_isCrate : yX3_isCrate.cls = RX3 ∧ yX3_isCrate.cls ≠ "java/lang/invoke/MethodHandle" ∧ yX3_isCrate.cls ≠ "java/lang/invoke/VarHandle" ∧ (parseMethodDescriptor yX3_isCrate.desc).map (fun d => d.parameters.length) = some 1 := by decide +kernel
set_option maxHeartbeats 4000000 in
set_option maxRecDepth 100000 in
theorem m3_isCrate (l : Launch) (D : va_G) (ac : Nat → ClassId) (mo : Nat) (ad : Nat → Nat) (sc : wS1) (ar : wS2) (p1 : Int32) (post : Int32 → wS1 → wS2 → Prop) (hw : w3_isCrate post sc ar p1) : wm_Mi l D ac mo ad yX3_isCrate (ws_ yX3_isCrate cX3_isCrate 2 (some .boolean)) ({ frames := 1, cells := 0, slots := 0, locals := 22 }) [.ref mo, .int p1] sc ar post := by
  refine wm_ofi (by decide) (Nat.le_of_ble_eq_true rfl) ?_
  intro p e s m below meth c A ls hx hb hr hlk hml hown hts hK hN hAm hA hM hl
  have hl : lv_has ls 2 [(0, .ref mo), (1, .int p1)] := hl
  unfold w3_isCrate at hw
  refine lv_iload_n hx hb dX3_isCrate_0 rfl (lv_at hl 1 rfl) ?_
  refine lv_iconst (v := 0) hx hb dX3_isCrate_1 (by decide) ?_
  refine lv_aload_n hx hb dX3_isCrate_2 rfl (lv_at hl 0 rfl) ?_
  refine wm_get hx hb hts hown hK hM 0 (by decide) q1933 (v := .ref (ad 0)) rfl dX3_isCrate_3 ?_
  refine lv_bipush (v := 100) hx hb dX3_isCrate_6 (by decide) ?_
  refine wm_ald hx hb hK hM (k := 0) rfl vi_100_125 vc_100 (v := ar 0 100) rfl dX3_isCrate_8 ?_
  refine lv_iconst (v := 1) hx hb dX3_isCrate_9 (by decide) ?_
  refine lv_isub hx hb dX3_isCrate_10 ?_
  refine wm_callPi (As := [.int p1, .int 0, .int ((ar 0 100) - 1)]) (rest := []) ⟨hx, hb, hml, hown, hts⟩ hA hM (m3_in l p1 0 ((ar 0 100) - 1) _ hw) (va_cwS 3 hts (lw_S q2005 q2006 q77 q2007) rfl rfl rfl hd_X3_in ⟨Nat.le_of_ble_eq_true rfl, Nat.le_of_ble_eq_true rfl⟩) rfl hl.1 rfl (Nat.le_of_ble_eq_true rfl) dX3_isCrate_11 ⟨Nat.le_refl 0, Nat.le_refl 0⟩ (fun r1 H locs hw hM => ?_)
  exact wm_reti hx hb hr hlk hM hw.1 hw.2 dX3_isCrate_14
def w3_ofCrate (post : Int32 → wS1 → wS2 → Prop) (sc : wS1) (ar : wS2) (p1 : Int32) (p2 : Int32) : Prop := vp_in ((101 + (4 * p1)) + p2) 125 ∧ (post (ar 0 ((101 + (4 * p1)) + p2).toNatClampNeg) sc ar)
theorem hd_X3_ofCrate : yX3_ofCrate.cls = RX3 ∧ yX3_ofCrate.cls ≠ "java/lang/invoke/MethodHandle" ∧ yX3_ofCrate.cls ≠ "java/lang/invoke/VarHandle" ∧ (parseMethodDescriptor yX3_ofCrate.desc).map (fun d => d.parameters.length) = some 2 := by decide +kernel
set_option maxHeartbeats 4000000 in
set_option maxRecDepth 100000 in
theorem m3_ofCrate (l : Launch) (D : va_G) (ac : Nat → ClassId) (mo : Nat) (ad : Nat → Nat) (sc : wS1) (ar : wS2) (p1 : Int32) (p2 : Int32) (post : Int32 → wS1 → wS2 → Prop) (hw : w3_ofCrate post sc ar p1 p2) : wm_Mi l D ac mo ad yX3_ofCrate (ws_ yX3_ofCrate cX3_ofCrate 3 (some .int)) ({ frames := 0, cells := 0, slots := 0, locals := 0 }) [.ref mo, .int p1, .int p2] sc ar post := by
  refine wm_ofi (by decide) (Nat.le_of_ble_eq_true rfl) ?_
  intro p e s m below meth c A ls hx hb hr hlk hml hown hts hK hN hAm hA hM hl
  have hl : lv_has ls 3 [(0, .ref mo), (1, .int p1), (2, .int p2)] := hl
  unfold w3_ofCrate at hw
  refine lv_aload_n hx hb dX3_ofCrate_0 rfl (lv_at hl 0 rfl) ?_
  refine wm_get hx hb hts hown hK hM 0 (by decide) q1933 (v := .ref (ad 0)) rfl dX3_ofCrate_1 ?_
  refine lv_bipush (v := 101) hx hb dX3_ofCrate_4 (by decide) ?_
  refine lv_iconst (v := 4) hx hb dX3_ofCrate_6 (by decide) ?_
  refine lv_iload_n hx hb dX3_ofCrate_7 rfl (lv_at hl 1 rfl) ?_
  refine lv_imul hx hb dX3_ofCrate_8 ?_
  refine lv_iadd hx hb dX3_ofCrate_9 ?_
  refine lv_iload_n hx hb dX3_ofCrate_10 rfl (lv_at hl 2 rfl) ?_
  refine lv_iadd hx hb dX3_ofCrate_11 ?_
  refine wm_ald hx hb hK hM (k := 0) rfl hw.1 rfl (v := ar 0 ((101 + (4 * p1)) + p2).toNatClampNeg) rfl dX3_ofCrate_12 ?_
  replace hw := hw.2
  exact wm_reti hx hb hr hlk hM rfl hw dX3_ofCrate_13
def w3_breaks (post : Int32 → wS1 → wS2 → Prop) (sc : wS1) (ar : wS2) (p1 : Int32) : Prop := w3_ofCrate (fun r3 sc1 ar2 => w3_ofCrate (fun r6 sc4 ar5 => w3_more (fun r7 => post r7 sc4 ar5) 0 ((r3 / 4) - r6)) sc1 ar2 p1 2) sc ar p1 1
theorem hd_X3_breaks : yX3_breaks.cls = RX3 ∧ yX3_breaks.cls ≠ "java/lang/invoke/MethodHandle" ∧ yX3_breaks.cls ≠ "java/lang/invoke/VarHandle" ∧ (parseMethodDescriptor yX3_breaks.desc).map (fun d => d.parameters.length) = some 1 := by decide +kernel
set_option maxHeartbeats 4000000 in
set_option maxRecDepth 100000 in
theorem m3_breaks (l : Launch) (D : va_G) (ac : Nat → ClassId) (mo : Nat) (ad : Nat → Nat) (sc : wS1) (ar : wS2) (p1 : Int32) (post : Int32 → wS1 → wS2 → Prop) (hw : w3_breaks post sc ar p1) : wm_Mi l D ac mo ad yX3_breaks (ws_ yX3_breaks cX3_breaks 2 (some .int)) ({ frames := 1, cells := 0, slots := 0, locals := 22 }) [.ref mo, .int p1] sc ar post := by
  refine wm_ofi (by decide) (Nat.le_of_ble_eq_true rfl) ?_
  intro p e s m below meth c A ls hx hb hr hlk hml hown hts hK hN hAm hA hM hl
  have hl : lv_has ls 2 [(0, .ref mo), (1, .int p1)] := hl
  unfold w3_breaks at hw
  refine lv_iconst (v := 0) hx hb dX3_breaks_0 (by decide) ?_
  refine lv_aload_n hx hb dX3_breaks_1 rfl (lv_at hl 0 rfl) ?_
  refine lv_iload_n hx hb dX3_breaks_2 rfl (lv_at hl 1 rfl) ?_
  refine lv_iconst (v := 1) hx hb dX3_breaks_3 (by decide) ?_
  refine wm_callVi (As := [.int p1, .int 1]) (rest := [.int 0]) ⟨hx, hb, hml, hown, hts⟩ hK hN hAm hA hM (m3_ofCrate l D ac mo ad sc ar p1 1 _ hw) (cwV 2 hts (lw_V q2141 q2143 qs35 q77 q2144) rfl rfl rfl hd_X3_ofCrate ⟨Nat.le_of_ble_eq_true rfl, Nat.le_of_ble_eq_true rfl⟩) rfl hl.1 rfl (Nat.le_of_ble_eq_true rfl) dX3_breaks_4 ⟨Nat.le_refl 0, Nat.le_refl 0⟩ (fun r3 sc1 ar2 H locs hw hM => ?_)
  refine lv_iconst (v := 4) hx hb dX3_breaks_7 (by decide) ?_
  refine lv_idiv hx hb dX3_breaks_8 (by decide) ?_
  refine lv_aload_n hx hb dX3_breaks_9 rfl (lv_at hl 0 rfl) ?_
  refine lv_iload_n hx hb dX3_breaks_10 rfl (lv_at hl 1 rfl) ?_
  refine lv_iconst (v := 2) hx hb dX3_breaks_11 (by decide) ?_
  refine wm_callVi (As := [.int p1, .int 2]) (rest := [.int (r3 / 4), .int 0]) ⟨hx, hb, hml, hown, hts⟩ hK hN hAm hA hM (m3_ofCrate l D ac mo ad sc1 ar2 p1 2 _ hw) (cwV 2 hts (lw_V q2141 q2143 qs35 q77 q2144) rfl rfl rfl hd_X3_ofCrate ⟨Nat.le_of_ble_eq_true rfl, Nat.le_of_ble_eq_true rfl⟩) rfl hl.1 rfl (Nat.le_of_ble_eq_true rfl) dX3_breaks_12 ⟨Nat.le_refl 0, Nat.le_refl 0⟩ (fun r6 sc4 ar5 H locs hw hM => ?_)
  refine lv_isub hx hb dX3_breaks_15 ?_
  refine wm_callPi (As := [.int 0, .int ((r3 / 4) - r6)]) (rest := []) ⟨hx, hb, hml, hown, hts⟩ hA hM (m3_more l 0 ((r3 / 4) - r6) _ hw) (va_cwS 2 hts (lw_S q2054 q2055 q77 q2056) rfl rfl rfl hd_X3_more ⟨Nat.le_of_ble_eq_true rfl, Nat.le_of_ble_eq_true rfl⟩) rfl hl.1 rfl (Nat.le_of_ble_eq_true rfl) dX3_breaks_16 ⟨Nat.le_refl 0, Nat.le_refl 0⟩ (fun r7 H locs hw hM => ?_)
  exact wm_reti hx hb hr hlk hM rfl hw dX3_breaks_19
def w3_gets (post : wS1 → wS2 → Prop) (sc : wS1) (ar : wS2) (p1 : Int32) : Prop := post sc (va_up ar 0 (upd (upd (ar 0) 3 ((ar 0 3) + p1)) 8 ((ar 0 8) + p1)))
theorem hd_X3_gets : yX3_gets.cls = RX3 ∧ yX3_gets.cls ≠ "java/lang/invoke/MethodHandle" ∧ yX3_gets.cls ≠ "java/lang/invoke/VarHandle" ∧ (parseMethodDescriptor yX3_gets.desc).map (fun d => d.parameters.length) = some 1 := by decide +kernel
set_option maxHeartbeats 4000000 in
set_option maxRecDepth 100000 in
theorem m3_gets (l : Launch) (D : va_G) (ac : Nat → ClassId) (mo : Nat) (ad : Nat → Nat) (sc : wS1) (ar : wS2) (p1 : Int32) (post : wS1 → wS2 → Prop) (hw : w3_gets post sc ar p1) : wm_Mv l D ac mo ad yX3_gets (ws_ yX3_gets cX3_gets 2 none) ({ frames := 0, cells := 0, slots := 0, locals := 0 }) [.ref mo, .int p1] sc ar post := by
  refine wm_ofv (by decide) (Nat.le_of_ble_eq_true rfl) ?_
  intro p e s m below meth c A ls hx hb hr hlk hml hown hts hK hN hAm hA hM hl
  have hl : lv_has ls 2 [(0, .ref mo), (1, .int p1)] := hl
  unfold w3_gets at hw
  refine lv_aload_n hx hb dX3_gets_0 rfl (lv_at hl 0 rfl) ?_
  refine wm_get hx hb hts hown hK hM 0 (by decide) q1933 (v := .ref (ad 0)) rfl dX3_gets_1 ?_
  refine lv_iconst (v := 3) hx hb dX3_gets_4 (by decide) ?_
  refine lv_dup2_11 hx hb dX3_gets_5 rfl rfl ?_
  refine wm_ald hx hb hK hM (k := 0) rfl vi_3_125 vc_3 (v := ar 0 3) rfl dX3_gets_6 ?_
  refine lv_iload_n hx hb dX3_gets_7 rfl (lv_at hl 1 rfl) ?_
  refine lv_iadd hx hb dX3_gets_8 ?_
  refine wm_ast hx hb hK hN hAm hM (k := 0) rfl vi_3_125 vc_3 (f := ar 0) rfl dX3_gets_9 (fun H locs hM => ?_)
  refine lv_aload_n hx hb dX3_gets_10 rfl (lv_at hl 0 rfl) ?_
  refine wm_get hx hb hts hown hK hM 0 (by decide) q1933 (v := .ref (ad 0)) rfl dX3_gets_11 ?_
  refine lv_bipush (v := 8) hx hb dX3_gets_14 (by decide) ?_
  refine lv_dup2_11 hx hb dX3_gets_16 rfl rfl ?_
  refine wm_ald hx hb hK hM (k := 0) rfl vi_8_125 vc_8 (v := ar 0 8) rfl dX3_gets_17 ?_
  refine lv_iload_n hx hb dX3_gets_18 rfl (lv_at hl 1 rfl) ?_
  refine lv_iadd hx hb dX3_gets_19 ?_
  refine wm_ast hx hb hK hN hAm hM (k := 0) rfl vi_8_125 vc_8 (f := upd (ar 0) 3 ((ar 0 3) + p1)) rfl dX3_gets_20 (fun H locs hM => ?_)
  rw [bx_uu] at hM
  exact wm_retv hx hb hr hlk hM hw dX3_gets_21
def w3_isFired (post : wS1 → wS2 → Prop) (sc : wS1) (ar : wS2) (p1 : Int32) : Prop := w3_ofKiln (fun r3 sc1 ar2 => w3_of (fun r6 sc4 ar5 => w3_chips (fun r9 sc7 ar8 => w3_of (fun r12 sc10 ar11 => w3_lays (fun sc13 ar14 => w3_lays (fun sc15 ar16 => w3_lays (fun sc17 ar18 => w3_laysKiln (fun sc19 ar20 => w3_ofKiln (fun r23 sc21 ar22 => w3_laysKiln (fun sc24 ar25 => post sc24 ar25) sc21 ar22 p1 3 (r23 + 1)) sc19 ar20 p1 3) sc17 (va_up ar18 0 (upd (ar18 0) 6 ((ar18 0 6) + r9))) p1 1 (-1)) sc15 ar16 r3 3 (-1)) sc13 ar14 r3 1 3) sc10 ar11 r3 0 (r12 - r9)) sc7 ar8 r3 0) sc4 ar5 r3 r6) sc1 ar2 r3 4) sc ar p1 1
theorem hd_X3_isFired : yX3_isFired.cls = RX3 ∧ yX3_isFired.cls ≠ "java/lang/invoke/MethodHandle" ∧ yX3_isFired.cls ≠ "java/lang/invoke/VarHandle" ∧ (parseMethodDescriptor yX3_isFired.desc).map (fun d => d.parameters.length) = some 1 := by decide +kernel
set_option maxHeartbeats 4000000 in
set_option maxRecDepth 100000 in
theorem m3_isFired (l : Launch) (D : va_G) (ac : Nat → ClassId) (mo : Nat) (ad : Nat → Nat) (sc : wS1) (ar : wS2) (p1 : Int32) (post : wS1 → wS2 → Prop) (hw : w3_isFired post sc ar p1) : wm_Mv l D ac mo ad yX3_isFired (ws_ yX3_isFired cX3_isFired 4 none) ({ frames := 2, cells := 0, slots := 0, locals := 44 }) [.ref mo, .int p1] sc ar post := by
  refine wm_ofv (by decide) (Nat.le_of_ble_eq_true rfl) ?_
  intro p e s m below meth c A ls hx hb hr hlk hml hown hts hK hN hAm hA hM hl
  have hl : lv_has ls 4 [(0, .ref mo), (1, .int p1)] := hl
  unfold w3_isFired at hw
  refine lv_aload_n hx hb dX3_isFired_0 rfl (lv_at hl 0 rfl) ?_
  refine lv_iload_n hx hb dX3_isFired_1 rfl (lv_at hl 1 rfl) ?_
  refine lv_iconst (v := 1) hx hb dX3_isFired_2 (by decide) ?_
  refine wm_callVi (As := [.int p1, .int 1]) (rest := []) ⟨hx, hb, hml, hown, hts⟩ hK hN hAm hA hM (m3_ofKiln l D ac mo ad sc ar p1 1 _ hw) (cwV 2 hts (lw_V q2085 q2087 qs29 q77 q2088) rfl rfl rfl hd_X3_ofKiln ⟨Nat.le_of_ble_eq_true rfl, Nat.le_of_ble_eq_true rfl⟩) rfl hl.1 rfl (Nat.le_of_ble_eq_true rfl) dX3_isFired_3 ⟨Nat.le_refl 0, Nat.le_refl 0⟩ (fun r3 sc1 ar2 H locs hw hM => ?_)
  refine lv_istore_n (lv' := [(2, .int r3), (0, .ref mo), (1, .int p1)]) hx hb dX3_isFired_6 rfl hl (by decide) rfl (fun ls hl => ?_)
  refine lv_aload_n hx hb dX3_isFired_7 rfl (lv_at hl 1 rfl) ?_
  refine lv_iload_n hx hb dX3_isFired_8 rfl (lv_at hl 0 rfl) ?_
  refine lv_aload_n hx hb dX3_isFired_9 rfl (lv_at hl 1 rfl) ?_
  refine lv_iload_n hx hb dX3_isFired_10 rfl (lv_at hl 0 rfl) ?_
  refine lv_iconst (v := 4) hx hb dX3_isFired_11 (by decide) ?_
  refine wm_callVi (As := [.int r3, .int 4]) (rest := [.int r3, .ref mo]) ⟨hx, hb, hml, hown, hts⟩ hK hN hAm hA hM (m3_of l D ac mo ad sc1 ar2 r3 4 _ hw) (cwV 2 hts (lw_V q2069 q2071 qs27 q77 q2072) rfl rfl rfl hd_X3_of ⟨Nat.le_of_ble_eq_true rfl, Nat.le_of_ble_eq_true rfl⟩) rfl hl.1 rfl (Nat.le_of_ble_eq_true rfl) dX3_isFired_12 ⟨Nat.le_refl 0, Nat.le_refl 0⟩ (fun r6 sc4 ar5 H locs hw hM => ?_)
  refine wm_callVi (As := [.int r3, .int r6]) (rest := []) ⟨hx, hb, hml, hown, hts⟩ hK hN hAm hA hM (m3_chips l D ac mo ad sc4 ar5 r3 r6 _ hw) (cwV 2 hts (lw_V q2117 q2119 qs32 q77 q2120) rfl rfl rfl hd_X3_chips ⟨Nat.le_of_ble_eq_true rfl, Nat.le_of_ble_eq_true rfl⟩) rfl hl.1 rfl (Nat.le_of_ble_eq_true rfl) dX3_isFired_15 ⟨Nat.le_refl 0, Nat.le_refl 0⟩ (fun r9 sc7 ar8 H locs hw hM => ?_)
  refine lv_istore_n (lv' := [(3, .int r9), (2, .int r3), (0, .ref mo), (1, .int p1)]) hx hb dX3_isFired_18 rfl hl (by decide) rfl (fun ls hl => ?_)
  refine lv_aload_n hx hb dX3_isFired_19 rfl (lv_at hl 2 rfl) ?_
  refine lv_iload_n hx hb dX3_isFired_20 rfl (lv_at hl 1 rfl) ?_
  refine lv_iconst (v := 0) hx hb dX3_isFired_21 (by decide) ?_
  refine lv_aload_n hx hb dX3_isFired_22 rfl (lv_at hl 2 rfl) ?_
  refine lv_iload_n hx hb dX3_isFired_23 rfl (lv_at hl 1 rfl) ?_
  refine lv_iconst (v := 0) hx hb dX3_isFired_24 (by decide) ?_
  refine wm_callVi (As := [.int r3, .int 0]) (rest := [.int 0, .int r3, .ref mo]) ⟨hx, hb, hml, hown, hts⟩ hK hN hAm hA hM (m3_of l D ac mo ad sc7 ar8 r3 0 _ hw) (cwV 2 hts (lw_V q2069 q2071 qs27 q77 q2072) rfl rfl rfl hd_X3_of ⟨Nat.le_of_ble_eq_true rfl, Nat.le_of_ble_eq_true rfl⟩) rfl hl.1 rfl (Nat.le_of_ble_eq_true rfl) dX3_isFired_25 ⟨Nat.le_refl 0, Nat.le_refl 0⟩ (fun r12 sc10 ar11 H locs hw hM => ?_)
  refine lv_iload_n hx hb dX3_isFired_28 rfl (lv_at hl 0 rfl) ?_
  refine lv_isub hx hb dX3_isFired_29 ?_
  refine wm_callVv (As := [.int r3, .int 0, .int (r12 - r9)]) (rest := []) ⟨hx, hb, hml, hown, hts⟩ hK hN hAm hA hM (m3_lays l D ac mo ad sc10 ar11 r3 0 (r12 - r9) _ hw) (cwV 3 hts (lw_V q2077 q2079 qs28 q77 q2080) rfl rfl rfl hd_X3_lays ⟨Nat.le_of_ble_eq_true rfl, Nat.le_of_ble_eq_true rfl⟩) rfl hl.1 rfl (Nat.le_of_ble_eq_true rfl) dX3_isFired_30 ⟨Nat.le_refl 0, Nat.le_refl 0⟩ (fun sc13 ar14 H locs hw hM => ?_)
  refine lv_aload_n hx hb dX3_isFired_33 rfl (lv_at hl 2 rfl) ?_
  refine lv_iload_n hx hb dX3_isFired_34 rfl (lv_at hl 1 rfl) ?_
  refine lv_iconst (v := 1) hx hb dX3_isFired_35 (by decide) ?_
  refine lv_iconst (v := 3) hx hb dX3_isFired_36 (by decide) ?_
  refine wm_callVv (As := [.int r3, .int 1, .int 3]) (rest := []) ⟨hx, hb, hml, hown, hts⟩ hK hN hAm hA hM (m3_lays l D ac mo ad sc13 ar14 r3 1 3 _ hw) (cwV 3 hts (lw_V q2077 q2079 qs28 q77 q2080) rfl rfl rfl hd_X3_lays ⟨Nat.le_of_ble_eq_true rfl, Nat.le_of_ble_eq_true rfl⟩) rfl hl.1 rfl (Nat.le_of_ble_eq_true rfl) dX3_isFired_37 ⟨Nat.le_refl 0, Nat.le_refl 0⟩ (fun sc15 ar16 H locs hw hM => ?_)
  refine lv_aload_n hx hb dX3_isFired_40 rfl (lv_at hl 2 rfl) ?_
  refine lv_iload_n hx hb dX3_isFired_41 rfl (lv_at hl 1 rfl) ?_
  refine lv_iconst (v := 3) hx hb dX3_isFired_42 (by decide) ?_
  refine lv_iconst (v := (-1)) hx hb dX3_isFired_43 (by decide) ?_
  refine wm_callVv (As := [.int r3, .int 3, .int (-1)]) (rest := []) ⟨hx, hb, hml, hown, hts⟩ hK hN hAm hA hM (m3_lays l D ac mo ad sc15 ar16 r3 3 (-1) _ hw) (cwV 3 hts (lw_V q2077 q2079 qs28 q77 q2080) rfl rfl rfl hd_X3_lays ⟨Nat.le_of_ble_eq_true rfl, Nat.le_of_ble_eq_true rfl⟩) rfl hl.1 rfl (Nat.le_of_ble_eq_true rfl) dX3_isFired_44 ⟨Nat.le_refl 0, Nat.le_refl 0⟩ (fun sc17 ar18 H locs hw hM => ?_)
  refine lv_aload_n hx hb dX3_isFired_47 rfl (lv_at hl 2 rfl) ?_
  refine wm_get hx hb hts hown hK hM 0 (by decide) q1933 (v := .ref (ad 0)) rfl dX3_isFired_48 ?_
  refine lv_bipush (v := 6) hx hb dX3_isFired_51 (by decide) ?_
  refine lv_dup2_11 hx hb dX3_isFired_53 rfl rfl ?_
  refine wm_ald hx hb hK hM (k := 0) rfl vi_6_125 vc_6 (v := ar18 0 6) rfl dX3_isFired_54 ?_
  refine lv_iload_n hx hb dX3_isFired_55 rfl (lv_at hl 0 rfl) ?_
  refine lv_iadd hx hb dX3_isFired_56 ?_
  refine wm_ast hx hb hK hN hAm hM (k := 0) rfl vi_6_125 vc_6 (f := ar18 0) rfl dX3_isFired_57 (fun H locs hM => ?_)
  refine lv_aload_n hx hb dX3_isFired_58 rfl (lv_at hl 2 rfl) ?_
  refine lv_iload_n hx hb dX3_isFired_59 rfl (lv_at hl 3 rfl) ?_
  refine lv_iconst (v := 1) hx hb dX3_isFired_60 (by decide) ?_
  refine lv_iconst (v := (-1)) hx hb dX3_isFired_61 (by decide) ?_
  refine wm_callVv (As := [.int p1, .int 1, .int (-1)]) (rest := []) ⟨hx, hb, hml, hown, hts⟩ hK hN hAm hA hM (m3_laysKiln l D ac mo ad sc17 (va_up ar18 0 (upd (ar18 0) 6 ((ar18 0 6) + r9))) p1 1 (-1) _ hw) (cwV 3 hts (lw_V q2097 q2099 qs30 q77 q2100) rfl rfl rfl hd_X3_laysKiln ⟨Nat.le_of_ble_eq_true rfl, Nat.le_of_ble_eq_true rfl⟩) rfl hl.1 rfl (Nat.le_of_ble_eq_true rfl) dX3_isFired_62 ⟨Nat.le_refl 0, Nat.le_refl 0⟩ (fun sc19 ar20 H locs hw hM => ?_)
  refine lv_aload_n hx hb dX3_isFired_65 rfl (lv_at hl 2 rfl) ?_
  refine lv_iload_n hx hb dX3_isFired_66 rfl (lv_at hl 3 rfl) ?_
  refine lv_iconst (v := 3) hx hb dX3_isFired_67 (by decide) ?_
  refine lv_aload_n hx hb dX3_isFired_68 rfl (lv_at hl 2 rfl) ?_
  refine lv_iload_n hx hb dX3_isFired_69 rfl (lv_at hl 3 rfl) ?_
  refine lv_iconst (v := 3) hx hb dX3_isFired_70 (by decide) ?_
  refine wm_callVi (As := [.int p1, .int 3]) (rest := [.int 3, .int p1, .ref mo]) ⟨hx, hb, hml, hown, hts⟩ hK hN hAm hA hM (m3_ofKiln l D ac mo ad sc19 ar20 p1 3 _ hw) (cwV 2 hts (lw_V q2085 q2087 qs29 q77 q2088) rfl rfl rfl hd_X3_ofKiln ⟨Nat.le_of_ble_eq_true rfl, Nat.le_of_ble_eq_true rfl⟩) rfl hl.1 rfl (Nat.le_of_ble_eq_true rfl) dX3_isFired_71 ⟨Nat.le_refl 0, Nat.le_refl 0⟩ (fun r23 sc21 ar22 H locs hw hM => ?_)
  refine lv_iconst (v := 1) hx hb dX3_isFired_74 (by decide) ?_
  refine lv_iadd hx hb dX3_isFired_75 ?_
  refine wm_callVv (As := [.int p1, .int 3, .int (r23 + 1)]) (rest := []) ⟨hx, hb, hml, hown, hts⟩ hK hN hAm hA hM (m3_laysKiln l D ac mo ad sc21 ar22 p1 3 (r23 + 1) _ hw) (cwV 3 hts (lw_V q2097 q2099 qs30 q77 q2100) rfl rfl rfl hd_X3_laysKiln ⟨Nat.le_of_ble_eq_true rfl, Nat.le_of_ble_eq_true rfl⟩) rfl hl.1 rfl (Nat.le_of_ble_eq_true rfl) dX3_isFired_76 ⟨Nat.le_refl 0, Nat.le_refl 0⟩ (fun sc24 ar25 H locs hw hM => ?_)
  exact wm_retv hx hb hr hlk hM hw dX3_isFired_79
def w3_writes (post : wS1 → wS2 → Prop) (sc : wS1) (ar : wS2) (p1 : Int32) : Prop := vp_in (sc 15) 60 ∧ (post (upd sc 15 ((sc 15) + 1)) (va_up ar 14 (upd (ar 14) (sc 15).toNatClampNeg (vp_nar .char ((p1.toUInt32 % 65536).toInt32)))))
theorem hd_X3_writes : yX3_writes.cls = RX3 ∧ yX3_writes.cls ≠ "java/lang/invoke/MethodHandle" ∧ yX3_writes.cls ≠ "java/lang/invoke/VarHandle" ∧ (parseMethodDescriptor yX3_writes.desc).map (fun d => d.parameters.length) = some 1 := by decide +kernel
set_option maxHeartbeats 4000000 in
set_option maxRecDepth 100000 in
theorem m3_writes (l : Launch) (D : va_G) (ac : Nat → ClassId) (mo : Nat) (ad : Nat → Nat) (sc : wS1) (ar : wS2) (p1 : Int32) (post : wS1 → wS2 → Prop) (hw : w3_writes post sc ar p1) : wm_Mv l D ac mo ad yX3_writes (ws_ yX3_writes cX3_writes 2 none) ({ frames := 0, cells := 0, slots := 0, locals := 0 }) [.ref mo, .int p1] sc ar post := by
  refine wm_ofv (by decide) (Nat.le_of_ble_eq_true rfl) ?_
  intro p e s m below meth c A ls hx hb hr hlk hml hown hts hK hN hAm hA hM hl
  have hl : lv_has ls 2 [(0, .ref mo), (1, .int p1)] := hl
  unfold w3_writes at hw
  refine lv_aload_n hx hb dX3_writes_0 rfl (lv_at hl 0 rfl) ?_
  refine wm_get hx hb hts hown hK hM 14 (by decide) q1947 (v := .ref (ad 14)) rfl dX3_writes_1 ?_
  refine lv_aload_n hx hb dX3_writes_4 rfl (lv_at hl 0 rfl) ?_
  refine wm_get hx hb hts hown hK hM 15 (by decide) q1948 (v := .int (sc 15)) rfl dX3_writes_5 ?_
  refine lv_iload_n hx hb dX3_writes_8 rfl (lv_at hl 1 rfl) ?_
  refine lv_i2c (v := (p1.toUInt32 % 65536).toInt32) hx hb dX3_writes_9 rfl ?_
  refine wm_cst hx hb hK hN hAm hM hw.1 rfl (f := ar 14) rfl dX3_writes_10 (fun H locs hM => ?_)
  replace hw := hw.2
  refine lv_aload_n hx hb dX3_writes_11 rfl (lv_at hl 0 rfl) ?_
  refine lv_dup hx hb dX3_writes_12 rfl ?_
  refine wm_get hx hb hts hown hK hM 15 (by decide) q1948 (v := .int (sc 15)) rfl dX3_writes_13 ?_
  refine lv_iconst (v := 1) hx hb dX3_writes_16 (by decide) ?_
  refine lv_iadd hx hb dX3_writes_17 ?_
  refine wm_put hx hb hts hown hK hN hAm hM 15 (by decide) rfl q1948 rfl rfl rfl dX3_writes_18 (fun H locs hM => ?_)
  exact wm_retv hx hb hr hlk hM hw dX3_writes_21
def w3_crateLine_L57 (post : Int32 → wS1 → wS2 → Prop) (k29 : Int32 → Int32 → wS1 → wS2 → Prop) (x1 : Int32) (x2 : Int32) (t0 : Int32) (sc : wS1) (ar : wS2) : Prop := w3_writes (fun sc18 ar19 => k29 x1 (x2 + 1) sc18 ar19) sc ar t0
def w3_crateLine_L68 (post : Int32 → wS1 → wS2 → Prop) : Nat → Int32 → Int32 → wS1 → wS2 → Prop
  | 0, _, _, _, _ => False
  | n + 1, x1, x2, sc, ar => w3_ofCrate (fun r15 sc13 ar14 => (r15 ≤ x2 → (post (sc13 15) sc13 ar14)) ∧ (¬ r15 ≤ x2 → (w3_writes (fun sc16 ar17 => w3_crateLine_L68 post  n x1 (x2 + 1) sc16 ar17) sc13 ar14 58))) sc ar x1 2
def w3_crateLine_L29 (post : Int32 → wS1 → wS2 → Prop) : Nat → Int32 → Int32 → wS1 → wS2 → Prop
  | 0, _, _, _, _ => False
  | n + 1, x1, x2, sc, ar => w3_ofCrate (fun r9 sc7 ar8 => (r9 ≤ x2 → ((∃ n, w3_crateLine_L68 post  n x1 0 sc7 ar8))) ∧ (¬ r9 ≤ x2 → (w3_ofCrate (fun r12 sc10 ar11 => (r12 ≤ x2 → (w3_crateLine_L57 post (fun x1' x2' sc' ar' => w3_crateLine_L29 post  n x1' x2' sc' ar') x1 x2 46 sc10 ar11)) ∧ (¬ r12 ≤ x2 → (w3_crateLine_L57 post (fun x1' x2' sc' ar' => w3_crateLine_L29 post  n x1' x2' sc' ar') x1 x2 35 sc10 ar11))) sc7 ar8 x1 1))) sc ar x1 0
def w3_crateLine_L14 (post : Int32 → wS1 → wS2 → Prop) (x1 : Int32) (t0 : Int32) (sc : wS1) (ar : wS2) : Prop := w3_fails (fun r6 sc4 ar5 => (r6 = 0 → ((∃ n, w3_crateLine_L29 post  n x1 0 (upd sc4 15 0) ar5))) ∧ (¬ r6 = 0 → (post 0 sc4 ar5))) sc ar t0
def w3_crateLine (post : Int32 → wS1 → wS2 → Prop) (sc : wS1) (ar : wS2) (p1 : Int32) : Prop := w3_isCrate (fun r3 sc1 ar2 => (r3 = 0 → (w3_crateLine_L14 post  p1 1 sc1 ar2)) ∧ (¬ r3 = 0 → (w3_crateLine_L14 post  p1 0 sc1 ar2))) sc ar p1
theorem hd_X3_crateLine : yX3_crateLine.cls = RX3 ∧ yX3_crateLine.cls ≠ "java/lang/invoke/MethodHandle" ∧ yX3_crateLine.cls ≠ "java/lang/invoke/VarHandle" ∧ (parseMethodDescriptor yX3_crateLine.desc).map (fun d => d.parameters.length) = some 1 := by decide +kernel
set_option maxHeartbeats 4000000 in
set_option maxRecDepth 100000 in
theorem m3_crateLine (l : Launch) (D : va_G) (ac : Nat → ClassId) (mo : Nat) (ad : Nat → Nat) (sc : wS1) (ar : wS2) (p1 : Int32) (post : Int32 → wS1 → wS2 → Prop) (hw : w3_crateLine post sc ar p1) : wm_Mi l D ac mo ad yX3_crateLine (ws_ yX3_crateLine cX3_crateLine 3 (some .int)) ({ frames := 2, cells := 0, slots := 0, locals := 43 }) [.ref mo, .int p1] sc ar post := by
  refine wm_ofi (by decide) (Nat.le_of_ble_eq_true rfl) ?_
  intro p e s m below meth c A ls hx hb hr hlk hml hown hts hK hN hAm hA hM hl
  have hl : lv_has ls 3 [(0, .ref mo), (1, .int p1)] := hl
  unfold w3_crateLine at hw
  have hL57 : ∀ (k29 : Int32 → Int32 → wS1 → wS2 → Prop) (hk29 : ∀ (x1 : Int32) (x2 : Int32) (sc : wS1) (ar : wS2) (H : Heap) (locs : List Loc) (ls : Array Slot), wm_S D ac A s.heap mo ad sc ar H locs → lv_has ls 3 [(0, .ref mo), (1, .int x1), (2, .int x2)] → k29 x1 x2 sc ar → W p l e (headSpec (ws_ yX3_crateLine cX3_crateLine 3 (some .int)) ({ frames := 2, cells := 0, slots := 0, locals := 43 })).room s m ([.ref mo, .int p1] : List Value).toArray below meth c H locs 0 0 (MQ below (va_Qi (S := wU) (fun r u => post r u.1 u.2) (wm_B D ac mo ad) A) ([.ref mo, .int p1] : List Value).toArray s 0 0 A) (F0 m 29 ls [])) (x1 : Int32) (x2 : Int32) (t0 : Int32) (sc : wS1) (ar : wS2) (H : Heap) (locs : List Loc) (ls : Array Slot), wm_S D ac A s.heap mo ad sc ar H locs → lv_has ls 3 [(0, .ref mo), (1, .int x1), (2, .int x2)] → w3_crateLine_L57 post k29 x1 x2 t0 sc ar → W p l e (headSpec (ws_ yX3_crateLine cX3_crateLine 3 (some .int)) ({ frames := 2, cells := 0, slots := 0, locals := 43 })).room s m ([.ref mo, .int p1] : List Value).toArray below meth c H locs 0 0 (MQ below (va_Qi (S := wU) (fun r u => post r u.1 u.2) (wm_B D ac mo ad) A) ([.ref mo, .int p1] : List Value).toArray s 0 0 A) (F0 m 57 ls [.int t0, .ref mo]) := by
    intro k29 hk29 x1 x2 t0 sc ar H locs ls hM hl hw
    unfold w3_crateLine_L57 at hw
    refine wm_callVv (As := [.int t0]) (rest := []) ⟨hx, hb, hml, hown, hts⟩ hK hN hAm hA hM (m3_writes l D ac mo ad sc ar t0 _ hw) (cwV 1 hts (lw_V q2193 q2195 qs42 q77 q2196) rfl rfl rfl hd_X3_writes ⟨Nat.le_of_ble_eq_true rfl, Nat.le_of_ble_eq_true rfl⟩) rfl hl.1 rfl (Nat.le_of_ble_eq_true rfl) dX3_crateLine_57 ⟨Nat.le_refl 0, Nat.le_refl 0⟩ (fun sc18 ar19 H locs hw hM => ?_)
    refine lv_iinc (v := x2 + 1) (lv' := [(2, .int (x2 + 1)), (0, .ref mo), (1, .int x1)]) hx hb dX3_crateLine_60 hl (k := 2) rfl rfl (by decide) rfl (fun ls hl => ?_)
    refine lv_goto (tgt := 29) hx hb dX3_crateLine_63 (by decide) ?_
    exact hk29 x1 (x2 + 1) sc18 ar19 _ _ ls hM (lv_sub hl [1, 2, 0] rfl) hw
  have hL68 : ∀ (n : Nat) (x1 : Int32) (x2 : Int32) (sc : wS1) (ar : wS2) (H : Heap) (locs : List Loc) (ls : Array Slot), wm_S D ac A s.heap mo ad sc ar H locs → lv_has ls 3 [(0, .ref mo), (1, .int x1), (2, .int x2)] → w3_crateLine_L68 post n x1 x2 sc ar → W p l e (headSpec (ws_ yX3_crateLine cX3_crateLine 3 (some .int)) ({ frames := 2, cells := 0, slots := 0, locals := 43 })).room s m ([.ref mo, .int p1] : List Value).toArray below meth c H locs 0 0 (MQ below (va_Qi (S := wU) (fun r u => post r u.1 u.2) (wm_B D ac mo ad) A) ([.ref mo, .int p1] : List Value).toArray s 0 0 A) (F0 m 68 ls []) := by
    intro n
    induction n with
    | zero => exact fun _ _ _ _ _ _ _ _ _ hw => hw.elim
    | succ n ih =>
      intro x1 x2 sc ar H locs ls hM hl hw
      unfold w3_crateLine_L68 at hw
      refine lv_iload_n hx hb dX3_crateLine_68 rfl (lv_at hl 2 rfl) ?_
      refine lv_aload_n hx hb dX3_crateLine_69 rfl (lv_at hl 0 rfl) ?_
      refine lv_iload_n hx hb dX3_crateLine_70 rfl (lv_at hl 1 rfl) ?_
      refine lv_iconst (v := 2) hx hb dX3_crateLine_71 (by decide) ?_
      refine wm_callVi (As := [.int x1, .int 2]) (rest := [.int x2]) ⟨hx, hb, hml, hown, hts⟩ hK hN hAm hA hM (m3_ofCrate l D ac mo ad sc ar x1 2 _ hw) (cwV 2 hts (lw_V q2141 q2143 qs35 q77 q2144) rfl rfl rfl hd_X3_ofCrate ⟨Nat.le_of_ble_eq_true rfl, Nat.le_of_ble_eq_true rfl⟩) rfl hl.1 rfl (Nat.le_of_ble_eq_true rfl) dX3_crateLine_72 ⟨Nat.le_refl 0, Nat.le_refl 0⟩ (fun r15 sc13 ar14 H locs hw hM => ?_)
      refine lv_icmp_ge (tgt := 90) hx hb dX3_crateLine_75 (by decide) (fun c_ => ?_) (fun c_ => ?_)
      · replace hw := hw.1 c_
        refine lv_aload_n hx hb dX3_crateLine_90 rfl (lv_at hl 0 rfl) ?_
        refine wm_get hx hb hts hown hK hM 15 (by decide) q1948 (v := .int (sc13 15)) rfl dX3_crateLine_91 ?_
        exact wm_reti hx hb hr hlk hM rfl hw dX3_crateLine_94
      · replace hw := hw.2 c_
        refine lv_aload_n hx hb dX3_crateLine_78 rfl (lv_at hl 0 rfl) ?_
        refine lv_bipush (v := 58) hx hb dX3_crateLine_79 (by decide) ?_
        refine wm_callVv (As := [.int 58]) (rest := []) ⟨hx, hb, hml, hown, hts⟩ hK hN hAm hA hM (m3_writes l D ac mo ad sc13 ar14 58 _ hw) (cwV 1 hts (lw_V q2193 q2195 qs42 q77 q2196) rfl rfl rfl hd_X3_writes ⟨Nat.le_of_ble_eq_true rfl, Nat.le_of_ble_eq_true rfl⟩) rfl hl.1 rfl (Nat.le_of_ble_eq_true rfl) dX3_crateLine_81 ⟨Nat.le_refl 0, Nat.le_refl 0⟩ (fun sc16 ar17 H locs hw hM => ?_)
        refine lv_iinc (v := x2 + 1) (lv' := [(2, .int (x2 + 1)), (0, .ref mo), (1, .int x1)]) hx hb dX3_crateLine_84 hl (k := 2) rfl rfl (by decide) rfl (fun ls hl => ?_)
        refine lv_goto (tgt := 68) hx hb dX3_crateLine_87 (by decide) ?_
        exact ih x1 (x2 + 1) sc16 ar17 _ _ ls hM (lv_sub hl [1, 2, 0] rfl) hw
  have hL29 : ∀ (n : Nat) (x1 : Int32) (x2 : Int32) (sc : wS1) (ar : wS2) (H : Heap) (locs : List Loc) (ls : Array Slot), wm_S D ac A s.heap mo ad sc ar H locs → lv_has ls 3 [(0, .ref mo), (1, .int x1), (2, .int x2)] → w3_crateLine_L29 post n x1 x2 sc ar → W p l e (headSpec (ws_ yX3_crateLine cX3_crateLine 3 (some .int)) ({ frames := 2, cells := 0, slots := 0, locals := 43 })).room s m ([.ref mo, .int p1] : List Value).toArray below meth c H locs 0 0 (MQ below (va_Qi (S := wU) (fun r u => post r u.1 u.2) (wm_B D ac mo ad) A) ([.ref mo, .int p1] : List Value).toArray s 0 0 A) (F0 m 29 ls []) := by
    intro n
    induction n with
    | zero => exact fun _ _ _ _ _ _ _ _ _ hw => hw.elim
    | succ n ih =>
      intro x1 x2 sc ar H locs ls hM hl hw
      unfold w3_crateLine_L29 at hw
      refine lv_iload_n hx hb dX3_crateLine_29 rfl (lv_at hl 2 rfl) ?_
      refine lv_aload_n hx hb dX3_crateLine_30 rfl (lv_at hl 0 rfl) ?_
      refine lv_iload_n hx hb dX3_crateLine_31 rfl (lv_at hl 1 rfl) ?_
      refine lv_iconst (v := 0) hx hb dX3_crateLine_32 (by decide) ?_
      refine wm_callVi (As := [.int x1, .int 0]) (rest := [.int x2]) ⟨hx, hb, hml, hown, hts⟩ hK hN hAm hA hM (m3_ofCrate l D ac mo ad sc ar x1 0 _ hw) (cwV 2 hts (lw_V q2141 q2143 qs35 q77 q2144) rfl rfl rfl hd_X3_ofCrate ⟨Nat.le_of_ble_eq_true rfl, Nat.le_of_ble_eq_true rfl⟩) rfl hl.1 rfl (Nat.le_of_ble_eq_true rfl) dX3_crateLine_33 ⟨Nat.le_refl 0, Nat.le_refl 0⟩ (fun r9 sc7 ar8 H locs hw hM => ?_)
      refine lv_icmp_ge (tgt := 66) hx hb dX3_crateLine_36 (by decide) (fun c_ => ?_) (fun c_ => ?_)
      · replace hw := hw.1 c_
        refine lv_iconst (v := 0) hx hb dX3_crateLine_66 (by decide) ?_
        refine lv_istore_n (lv' := [(2, .int 0), (0, .ref mo), (1, .int x1)]) hx hb dX3_crateLine_67 rfl hl (by decide) rfl (fun ls hl => ?_)
        obtain ⟨n0, hw⟩ := hw
        exact hL68  n0 x1 0 sc7 ar8 _ _ ls hM (lv_sub hl [1, 2, 0] rfl) hw
      · replace hw := hw.2 c_
        refine lv_aload_n hx hb dX3_crateLine_39 rfl (lv_at hl 0 rfl) ?_
        refine lv_iload_n hx hb dX3_crateLine_40 rfl (lv_at hl 2 rfl) ?_
        refine lv_aload_n hx hb dX3_crateLine_41 rfl (lv_at hl 0 rfl) ?_
        refine lv_iload_n hx hb dX3_crateLine_42 rfl (lv_at hl 1 rfl) ?_
        refine lv_iconst (v := 1) hx hb dX3_crateLine_43 (by decide) ?_
        refine wm_callVi (As := [.int x1, .int 1]) (rest := [.int x2, .ref mo]) ⟨hx, hb, hml, hown, hts⟩ hK hN hAm hA hM (m3_ofCrate l D ac mo ad sc7 ar8 x1 1 _ hw) (cwV 2 hts (lw_V q2141 q2143 qs35 q77 q2144) rfl rfl rfl hd_X3_ofCrate ⟨Nat.le_of_ble_eq_true rfl, Nat.le_of_ble_eq_true rfl⟩) rfl hl.1 rfl (Nat.le_of_ble_eq_true rfl) dX3_crateLine_44 ⟨Nat.le_refl 0, Nat.le_refl 0⟩ (fun r12 sc10 ar11 H locs hw hM => ?_)
        refine lv_icmp_ge (tgt := 55) hx hb dX3_crateLine_47 (by decide) (fun c_ => ?_) (fun c_ => ?_)
        · replace hw := hw.1 c_
          refine lv_bipush (v := 46) hx hb dX3_crateLine_55 (by decide) ?_
          exact hL57 (fun x1' x2' sc' ar' => w3_crateLine_L29 post  n x1' x2' sc' ar') (fun x1' x2' sc' ar' H locs ls hM hl hw => ih x1' x2' sc' ar' H locs ls hM hl hw) x1 x2 46 sc10 ar11 _ _ ls hM (lv_sub hl [0, 1, 2] rfl) hw
        · replace hw := hw.2 c_
          refine lv_bipush (v := 35) hx hb dX3_crateLine_50 (by decide) ?_
          refine lv_goto (tgt := 57) hx hb dX3_crateLine_52 (by decide) ?_
          exact hL57 (fun x1' x2' sc' ar' => w3_crateLine_L29 post  n x1' x2' sc' ar') (fun x1' x2' sc' ar' H locs ls hM hl hw => ih x1' x2' sc' ar' H locs ls hM hl hw) x1 x2 35 sc10 ar11 _ _ ls hM (lv_sub hl [0, 1, 2] rfl) hw
  have hL14 : ∀ (x1 : Int32) (t0 : Int32) (sc : wS1) (ar : wS2) (H : Heap) (locs : List Loc) (ls : Array Slot), wm_S D ac A s.heap mo ad sc ar H locs → lv_has ls 3 [(0, .ref mo), (1, .int x1)] → w3_crateLine_L14 post x1 t0 sc ar → W p l e (headSpec (ws_ yX3_crateLine cX3_crateLine 3 (some .int)) ({ frames := 2, cells := 0, slots := 0, locals := 43 })).room s m ([.ref mo, .int p1] : List Value).toArray below meth c H locs 0 0 (MQ below (va_Qi (S := wU) (fun r u => post r u.1 u.2) (wm_B D ac mo ad) A) ([.ref mo, .int p1] : List Value).toArray s 0 0 A) (F0 m 14 ls [.int t0, .ref mo]) := by
    intro x1 t0 sc ar H locs ls hM hl hw
    unfold w3_crateLine_L14 at hw
    refine wm_callVi (As := [.int t0]) (rest := []) ⟨hx, hb, hml, hown, hts⟩ hK hN hAm hA hM (m3_fails l D ac mo ad sc ar t0 _ hw) (cwV 1 hts (lw_V q2008 q2010 qs19 q77 q2011) rfl rfl rfl hd_X3_fails ⟨Nat.le_of_ble_eq_true rfl, Nat.le_of_ble_eq_true rfl⟩) rfl hl.1 rfl (Nat.le_of_ble_eq_true rfl) dX3_crateLine_14 ⟨Nat.le_refl 0, Nat.le_refl 0⟩ (fun r6 sc4 ar5 H locs hw hM => ?_)
    refine lv_if_eq (tgt := 22) hx hb dX3_crateLine_17 (by decide) (fun c_ => ?_) (fun c_ => ?_)
    · replace hw := hw.1 c_
      refine lv_aload_n hx hb dX3_crateLine_22 rfl (lv_at hl 0 rfl) ?_
      refine lv_iconst (v := 0) hx hb dX3_crateLine_23 (by decide) ?_
      refine wm_put hx hb hts hown hK hN hAm hM 15 (by decide) rfl q1948 rfl rfl rfl dX3_crateLine_24 (fun H locs hM => ?_)
      refine lv_iconst (v := 0) hx hb dX3_crateLine_27 (by decide) ?_
      refine lv_istore_n (lv' := [(2, .int 0), (0, .ref mo), (1, .int x1)]) hx hb dX3_crateLine_28 rfl hl (by decide) rfl (fun ls hl => ?_)
      obtain ⟨n0, hw⟩ := hw
      exact hL29  n0 x1 0 (upd sc4 15 0) ar5 _ _ ls hM (lv_sub hl [1, 2, 0] rfl) hw
    · replace hw := hw.2 c_
      refine lv_iconst (v := 0) hx hb dX3_crateLine_20 (by decide) ?_
      exact wm_reti hx hb hr hlk hM rfl hw dX3_crateLine_21
  refine lv_aload_n hx hb dX3_crateLine_0 rfl (lv_at hl 0 rfl) ?_
  refine lv_aload_n hx hb dX3_crateLine_1 rfl (lv_at hl 0 rfl) ?_
  refine lv_iload_n hx hb dX3_crateLine_2 rfl (lv_at hl 1 rfl) ?_
  refine wm_callVi (As := [.int p1]) (rest := [.ref mo]) ⟨hx, hb, hml, hown, hts⟩ hK hN hAm hA hM (m3_isCrate l D ac mo ad sc ar p1 _ hw) (cwV 1 hts (lw_V q2137 q2139 qs34 q77 q2140) rfl rfl rfl hd_X3_isCrate ⟨Nat.le_of_ble_eq_true rfl, Nat.le_of_ble_eq_true rfl⟩) rfl hl.1 rfl (Nat.le_of_ble_eq_true rfl) dX3_crateLine_3 ⟨Nat.le_refl 0, Nat.le_refl 0⟩ (fun r3 sc1 ar2 H locs hw hM => ?_)
  refine lv_if_eq (tgt := 13) hx hb dX3_crateLine_6 (by decide) (fun c_ => ?_) (fun c_ => ?_)
  · replace hw := hw.1 c_
    refine lv_iconst (v := 1) hx hb dX3_crateLine_13 (by decide) ?_
    exact hL14  p1 1 sc1 ar2 _ _ ls hM (lv_sub hl [0, 1] rfl) hw
  · replace hw := hw.2 c_
    refine lv_iconst (v := 0) hx hb dX3_crateLine_9 (by decide) ?_
    refine lv_goto (tgt := 14) hx hb dX3_crateLine_10 (by decide) ?_
    exact hL14  p1 0 sc1 ar2 _ _ ls hM (lv_sub hl [0, 1] rfl) hw
def w3_character_L20 (post : Int32 → wS1 → wS2 → Prop) (x1 : Int32) (t0 : Int32) (sc : wS1) (ar : wS2) : Prop := w3_fails (fun r4 sc2 ar3 => (r4 = 0 → (vp_in x1 60 ∧ (narrow .char (.int (ar3 14 x1.toNatClampNeg)) = .int (ar3 14 x1.toNatClampNeg) ∧ post (ar3 14 x1.toNatClampNeg) sc2 ar3))) ∧ (¬ r4 = 0 → (narrow .char (.int 32) = .int 32 ∧ post 32 sc2 ar3))) sc ar t0
def w3_character (post : Int32 → wS1 → wS2 → Prop) (sc : wS1) (ar : wS2) (p1 : Int32) : Prop := w3_in (fun r1 => (r1 = 0 → (w3_character_L20 post  p1 1 sc ar)) ∧ (¬ r1 = 0 → (w3_character_L20 post  p1 0 sc ar))) p1 0 ((sc 15) - 1)
theorem hd_X3_character : yX3_character.cls = RX3 ∧ yX3_character.cls ≠ "java/lang/invoke/MethodHandle" ∧ yX3_character.cls ≠ "java/lang/invoke/VarHandle" ∧ (parseMethodDescriptor yX3_character.desc).map (fun d => d.parameters.length) = some 1 := by decide +kernel
set_option maxHeartbeats 4000000 in
set_option maxRecDepth 100000 in
theorem m3_character (l : Launch) (D : va_G) (ac : Nat → ClassId) (mo : Nat) (ad : Nat → Nat) (sc : wS1) (ar : wS2) (p1 : Int32) (post : Int32 → wS1 → wS2 → Prop) (hw : w3_character post sc ar p1) : wm_Mi l D ac mo ad yX3_character (ws_ yX3_character cX3_character 2 (some .char)) ({ frames := 1, cells := 0, slots := 0, locals := 22 }) [.ref mo, .int p1] sc ar post := by
  refine wm_ofi (by decide) (Nat.le_of_ble_eq_true rfl) ?_
  intro p e s m below meth c A ls hx hb hr hlk hml hown hts hK hN hAm hA hM hl
  have hl : lv_has ls 2 [(0, .ref mo), (1, .int p1)] := hl
  unfold w3_character at hw
  have hL20 : ∀ (x1 : Int32) (t0 : Int32) (sc : wS1) (ar : wS2) (H : Heap) (locs : List Loc) (ls : Array Slot), wm_S D ac A s.heap mo ad sc ar H locs → lv_has ls 2 [(0, .ref mo), (1, .int x1)] → w3_character_L20 post x1 t0 sc ar → W p l e (headSpec (ws_ yX3_character cX3_character 2 (some .char)) ({ frames := 1, cells := 0, slots := 0, locals := 22 })).room s m ([.ref mo, .int p1] : List Value).toArray below meth c H locs 0 0 (MQ below (va_Qi (S := wU) (fun r u => post r u.1 u.2) (wm_B D ac mo ad) A) ([.ref mo, .int p1] : List Value).toArray s 0 0 A) (F0 m 20 ls [.int t0, .ref mo]) := by
    intro x1 t0 sc ar H locs ls hM hl hw
    unfold w3_character_L20 at hw
    refine wm_callVi (As := [.int t0]) (rest := []) ⟨hx, hb, hml, hown, hts⟩ hK hN hAm hA hM (m3_fails l D ac mo ad sc ar t0 _ hw) (cwV 1 hts (lw_V q2008 q2010 qs19 q77 q2011) rfl rfl rfl hd_X3_fails ⟨Nat.le_of_ble_eq_true rfl, Nat.le_of_ble_eq_true rfl⟩) rfl hl.1 rfl (Nat.le_of_ble_eq_true rfl) dX3_character_20 ⟨Nat.le_refl 0, Nat.le_refl 0⟩ (fun r4 sc2 ar3 H locs hw hM => ?_)
    refine lv_if_eq (tgt := 31) hx hb dX3_character_23 (by decide) (fun c_ => ?_) (fun c_ => ?_)
    · replace hw := hw.1 c_
      refine lv_aload_n hx hb dX3_character_31 rfl (lv_at hl 0 rfl) ?_
      refine wm_get hx hb hts hown hK hM 14 (by decide) q1947 (v := .ref (ad 14)) rfl dX3_character_32 ?_
      refine lv_iload_n hx hb dX3_character_35 rfl (lv_at hl 1 rfl) ?_
      refine wm_cld hx hb hK hM hw.1 rfl (v := ar3 14 x1.toNatClampNeg) rfl dX3_character_36 ?_
      replace hw := hw.2
      exact wm_reti hx hb hr hlk hM hw.1 hw.2 dX3_character_37
    · replace hw := hw.2 c_
      refine lv_bipush (v := 32) hx hb dX3_character_26 (by decide) ?_
      refine lv_goto (tgt := 37) hx hb dX3_character_28 (by decide) ?_
      exact wm_reti hx hb hr hlk hM hw.1 hw.2 dX3_character_37
  refine lv_aload_n hx hb dX3_character_0 rfl (lv_at hl 0 rfl) ?_
  refine lv_iload_n hx hb dX3_character_1 rfl (lv_at hl 1 rfl) ?_
  refine lv_iconst (v := 0) hx hb dX3_character_2 (by decide) ?_
  refine lv_aload_n hx hb dX3_character_3 rfl (lv_at hl 0 rfl) ?_
  refine wm_get hx hb hts hown hK hM 15 (by decide) q1948 (v := .int (sc 15)) rfl dX3_character_4 ?_
  refine lv_iconst (v := 1) hx hb dX3_character_7 (by decide) ?_
  refine lv_isub hx hb dX3_character_8 ?_
  refine wm_callPi (As := [.int p1, .int 0, .int ((sc 15) - 1)]) (rest := [.ref mo]) ⟨hx, hb, hml, hown, hts⟩ hA hM (m3_in l p1 0 ((sc 15) - 1) _ hw) (va_cwS 3 hts (lw_S q2005 q2006 q77 q2007) rfl rfl rfl hd_X3_in ⟨Nat.le_of_ble_eq_true rfl, Nat.le_of_ble_eq_true rfl⟩) rfl hl.1 rfl (Nat.le_of_ble_eq_true rfl) dX3_character_9 ⟨Nat.le_refl 0, Nat.le_refl 0⟩ (fun r1 H locs hw hM => ?_)
  refine lv_if_eq (tgt := 19) hx hb dX3_character_12 (by decide) (fun c_ => ?_) (fun c_ => ?_)
  · replace hw := hw.1 c_
    refine lv_iconst (v := 1) hx hb dX3_character_19 (by decide) ?_
    exact hL20  p1 1 sc ar _ _ ls hM (lv_sub hl [0, 1] rfl) hw
  · replace hw := hw.2 c_
    refine lv_iconst (v := 0) hx hb dX3_character_15 (by decide) ?_
    refine lv_goto (tgt := 20) hx hb dX3_character_16 (by decide) ?_
    exact hL20  p1 0 sc ar _ _ ls hM (lv_sub hl [0, 1] rfl) hw
def w3_refusal_L13 (post : Int32 → wS1 → wS2 → Prop) (x1 : Int32) (t0 : Int32) (sc : wS1) (ar : wS2) : Prop := w3_fails (fun r3 sc1 ar2 => (r3 = 0 → ((x1 = 0 → (post (sc1 8) sc1 ar2)) ∧ (¬ x1 = 0 → (post (sc1 9) sc1 ar2)))) ∧ (¬ r3 = 0 → (post 0 sc1 ar2))) sc ar t0
def w3_refusal (post : Int32 → wS1 → wS2 → Prop) (sc : wS1) (ar : wS2) (p1 : Int32) : Prop := (¬ (sc 8) = 0 → (w3_refusal_L13 post  p1 0 sc ar)) ∧ ((sc 8) = 0 → (w3_refusal_L13 post  p1 1 sc ar))
theorem hd_X3_refusal : yX3_refusal.cls = RX3 ∧ yX3_refusal.cls ≠ "java/lang/invoke/MethodHandle" ∧ yX3_refusal.cls ≠ "java/lang/invoke/VarHandle" ∧ (parseMethodDescriptor yX3_refusal.desc).map (fun d => d.parameters.length) = some 1 := by decide +kernel
set_option maxHeartbeats 4000000 in
set_option maxRecDepth 100000 in
theorem m3_refusal (l : Launch) (D : va_G) (ac : Nat → ClassId) (mo : Nat) (ad : Nat → Nat) (sc : wS1) (ar : wS2) (p1 : Int32) (post : Int32 → wS1 → wS2 → Prop) (hw : w3_refusal post sc ar p1) : wm_Mi l D ac mo ad yX3_refusal (ws_ yX3_refusal cX3_refusal 2 (some .int)) ({ frames := 1, cells := 0, slots := 0, locals := 21 }) [.ref mo, .int p1] sc ar post := by
  refine wm_ofi (by decide) (Nat.le_of_ble_eq_true rfl) ?_
  intro p e s m below meth c A ls hx hb hr hlk hml hown hts hK hN hAm hA hM hl
  have hl : lv_has ls 2 [(0, .ref mo), (1, .int p1)] := hl
  unfold w3_refusal at hw
  have hL13 : ∀ (x1 : Int32) (t0 : Int32) (sc : wS1) (ar : wS2) (H : Heap) (locs : List Loc) (ls : Array Slot), wm_S D ac A s.heap mo ad sc ar H locs → lv_has ls 2 [(0, .ref mo), (1, .int x1)] → w3_refusal_L13 post x1 t0 sc ar → W p l e (headSpec (ws_ yX3_refusal cX3_refusal 2 (some .int)) ({ frames := 1, cells := 0, slots := 0, locals := 21 })).room s m ([.ref mo, .int p1] : List Value).toArray below meth c H locs 0 0 (MQ below (va_Qi (S := wU) (fun r u => post r u.1 u.2) (wm_B D ac mo ad) A) ([.ref mo, .int p1] : List Value).toArray s 0 0 A) (F0 m 13 ls [.int t0, .ref mo]) := by
    intro x1 t0 sc ar H locs ls hM hl hw
    unfold w3_refusal_L13 at hw
    refine wm_callVi (As := [.int t0]) (rest := []) ⟨hx, hb, hml, hown, hts⟩ hK hN hAm hA hM (m3_fails l D ac mo ad sc ar t0 _ hw) (cwV 1 hts (lw_V q2008 q2010 qs19 q77 q2011) rfl rfl rfl hd_X3_fails ⟨Nat.le_of_ble_eq_true rfl, Nat.le_of_ble_eq_true rfl⟩) rfl hl.1 rfl (Nat.le_of_ble_eq_true rfl) dX3_refusal_13 ⟨Nat.le_refl 0, Nat.le_refl 0⟩ (fun r3 sc1 ar2 H locs hw hM => ?_)
    refine lv_if_eq (tgt := 23) hx hb dX3_refusal_16 (by decide) (fun c_ => ?_) (fun c_ => ?_)
    · replace hw := hw.1 c_
      refine lv_iload_n hx hb dX3_refusal_23 rfl (lv_at hl 1 rfl) ?_
      refine lv_if_eq (tgt := 34) hx hb dX3_refusal_24 (by decide) (fun c_ => ?_) (fun c_ => ?_)
      · replace hw := hw.1 c_
        refine lv_aload_n hx hb dX3_refusal_34 rfl (lv_at hl 0 rfl) ?_
        refine wm_get hx hb hts hown hK hM 8 (by decide) q1941 (v := .int (sc1 8)) rfl dX3_refusal_35 ?_
        exact wm_reti hx hb hr hlk hM rfl hw dX3_refusal_38
      · replace hw := hw.2 c_
        refine lv_aload_n hx hb dX3_refusal_27 rfl (lv_at hl 0 rfl) ?_
        refine wm_get hx hb hts hown hK hM 9 (by decide) q1942 (v := .int (sc1 9)) rfl dX3_refusal_28 ?_
        refine lv_goto (tgt := 38) hx hb dX3_refusal_31 (by decide) ?_
        exact wm_reti hx hb hr hlk hM rfl hw dX3_refusal_38
    · replace hw := hw.2 c_
      refine lv_iconst (v := 0) hx hb dX3_refusal_19 (by decide) ?_
      refine lv_goto (tgt := 38) hx hb dX3_refusal_20 (by decide) ?_
      exact wm_reti hx hb hr hlk hM rfl hw dX3_refusal_38
  refine lv_aload_n hx hb dX3_refusal_0 rfl (lv_at hl 0 rfl) ?_
  refine lv_aload_n hx hb dX3_refusal_1 rfl (lv_at hl 0 rfl) ?_
  refine wm_get hx hb hts hown hK hM 8 (by decide) q1941 (v := .int (sc 8)) rfl dX3_refusal_2 ?_
  refine lv_if_ne (tgt := 12) hx hb dX3_refusal_5 (by decide) (fun c_ => ?_) (fun c_ => ?_)
  · replace hw := hw.1 c_
    refine lv_iconst (v := 0) hx hb dX3_refusal_12 (by decide) ?_
    exact hL13  p1 0 sc ar _ _ ls hM (lv_sub hl [0, 1] rfl) hw
  · replace hw := hw.2 c_
    refine lv_iconst (v := 1) hx hb dX3_refusal_8 (by decide) ?_
    refine lv_goto (tgt := 13) hx hb dX3_refusal_9 (by decide) ?_
    exact hL13  p1 1 sc ar _ _ ls hM (lv_sub hl [0, 1] rfl) hw
def w3_allPlates_L36 (post : Int32 → wS1 → wS2 → Prop) (k4 : Int32 → Int32 → Int32 → wS1 → wS2 → Prop) (x1 : Int32) (x3 : Int32) (t0 : Int32) (t1 : Int32) (sc : wS1) (ar : wS2) : Prop := k4 x1 (t1 + t0) (x3 + 1) sc ar
def w3_allPlates_L4 (post : Int32 → wS1 → wS2 → Prop) : Nat → Int32 → Int32 → Int32 → wS1 → wS2 → Prop
  | 0, _, _, _, _, _ => False
  | n + 1, x1, x2, x3, sc, ar => ((ar 0 26) ≤ x3 → (post x2 sc ar)) ∧ (¬ (ar 0 26) ≤ x3 → (w3_of (fun r3 sc1 ar2 => (r3 < x1 → (w3_allPlates_L36 post (fun x1' x2' x3' sc' ar' => w3_allPlates_L4 post  n x1' x2' x3' sc' ar') x1 x3 0 x2 sc1 ar2)) ∧ (¬ r3 < x1 → (w3_of (fun r6 sc4 ar5 => w3_allPlates_L36 post (fun x1' x2' x3' sc' ar' => w3_allPlates_L4 post  n x1' x2' x3' sc' ar') x1 x3 r6 x2 sc4 ar5) sc1 ar2 x3 0))) sc ar x3 1))
def w3_allPlates (post : Int32 → wS1 → wS2 → Prop) (sc : wS1) (ar : wS2) (p1 : Int32) : Prop := (∃ n, w3_allPlates_L4 post  n p1 0 0 sc ar)
theorem hd_X3_allPlates : yX3_allPlates.cls = RX3 ∧ yX3_allPlates.cls ≠ "java/lang/invoke/MethodHandle" ∧ yX3_allPlates.cls ≠ "java/lang/invoke/VarHandle" ∧ (parseMethodDescriptor yX3_allPlates.desc).map (fun d => d.parameters.length) = some 1 := by decide +kernel
set_option maxHeartbeats 4000000 in
set_option maxRecDepth 100000 in
theorem m3_allPlates (l : Launch) (D : va_G) (ac : Nat → ClassId) (mo : Nat) (ad : Nat → Nat) (sc : wS1) (ar : wS2) (p1 : Int32) (post : Int32 → wS1 → wS2 → Prop) (hw : w3_allPlates post sc ar p1) : wm_Mi l D ac mo ad yX3_allPlates (ws_ yX3_allPlates cX3_allPlates 4 (some .int)) ({ frames := 1, cells := 0, slots := 0, locals := 22 }) [.ref mo, .int p1] sc ar post := by
  refine wm_ofi (by decide) (Nat.le_of_ble_eq_true rfl) ?_
  intro p e s m below meth c A ls hx hb hr hlk hml hown hts hK hN hAm hA hM hl
  have hl : lv_has ls 4 [(0, .ref mo), (1, .int p1)] := hl
  unfold w3_allPlates at hw
  have hL36 : ∀ (k4 : Int32 → Int32 → Int32 → wS1 → wS2 → Prop) (hk4 : ∀ (x1 : Int32) (x2 : Int32) (x3 : Int32) (sc : wS1) (ar : wS2) (H : Heap) (locs : List Loc) (ls : Array Slot), wm_S D ac A s.heap mo ad sc ar H locs → lv_has ls 4 [(0, .ref mo), (1, .int x1), (2, .int x2), (3, .int x3)] → k4 x1 x2 x3 sc ar → W p l e (headSpec (ws_ yX3_allPlates cX3_allPlates 4 (some .int)) ({ frames := 1, cells := 0, slots := 0, locals := 22 })).room s m ([.ref mo, .int p1] : List Value).toArray below meth c H locs 0 0 (MQ below (va_Qi (S := wU) (fun r u => post r u.1 u.2) (wm_B D ac mo ad) A) ([.ref mo, .int p1] : List Value).toArray s 0 0 A) (F0 m 4 ls [])) (x1 : Int32) (x3 : Int32) (t0 : Int32) (t1 : Int32) (sc : wS1) (ar : wS2) (H : Heap) (locs : List Loc) (ls : Array Slot), wm_S D ac A s.heap mo ad sc ar H locs → lv_has ls 4 [(0, .ref mo), (1, .int x1), (3, .int x3)] → w3_allPlates_L36 post k4 x1 x3 t0 t1 sc ar → W p l e (headSpec (ws_ yX3_allPlates cX3_allPlates 4 (some .int)) ({ frames := 1, cells := 0, slots := 0, locals := 22 })).room s m ([.ref mo, .int p1] : List Value).toArray below meth c H locs 0 0 (MQ below (va_Qi (S := wU) (fun r u => post r u.1 u.2) (wm_B D ac mo ad) A) ([.ref mo, .int p1] : List Value).toArray s 0 0 A) (F0 m 36 ls [.int t0, .int t1]) := by
    intro k4 hk4 x1 x3 t0 t1 sc ar H locs ls hM hl hw
    unfold w3_allPlates_L36 at hw
    refine lv_iadd hx hb dX3_allPlates_36 ?_
    refine lv_istore_n (lv' := [(2, .int (t1 + t0)), (0, .ref mo), (1, .int x1), (3, .int x3)]) hx hb dX3_allPlates_37 rfl hl (by decide) rfl (fun ls hl => ?_)
    refine lv_iinc (v := x3 + 1) (lv' := [(3, .int (x3 + 1)), (2, .int (t1 + t0)), (0, .ref mo), (1, .int x1)]) hx hb dX3_allPlates_38 hl (k := 3) rfl rfl (by decide) rfl (fun ls hl => ?_)
    refine lv_goto (tgt := 4) hx hb dX3_allPlates_41 (by decide) ?_
    exact hk4 x1 (t1 + t0) (x3 + 1) sc ar _ _ ls hM (lv_sub hl [2, 3, 1, 0] rfl) hw
  have hL4 : ∀ (n : Nat) (x1 : Int32) (x2 : Int32) (x3 : Int32) (sc : wS1) (ar : wS2) (H : Heap) (locs : List Loc) (ls : Array Slot), wm_S D ac A s.heap mo ad sc ar H locs → lv_has ls 4 [(0, .ref mo), (1, .int x1), (2, .int x2), (3, .int x3)] → w3_allPlates_L4 post n x1 x2 x3 sc ar → W p l e (headSpec (ws_ yX3_allPlates cX3_allPlates 4 (some .int)) ({ frames := 1, cells := 0, slots := 0, locals := 22 })).room s m ([.ref mo, .int p1] : List Value).toArray below meth c H locs 0 0 (MQ below (va_Qi (S := wU) (fun r u => post r u.1 u.2) (wm_B D ac mo ad) A) ([.ref mo, .int p1] : List Value).toArray s 0 0 A) (F0 m 4 ls []) := by
    intro n
    induction n with
    | zero => exact fun _ _ _ _ _ _ _ _ _ _ hw => hw.elim
    | succ n ih =>
      intro x1 x2 x3 sc ar H locs ls hM hl hw
      unfold w3_allPlates_L4 at hw
      refine lv_iload_n hx hb dX3_allPlates_4 rfl (lv_at hl 3 rfl) ?_
      refine lv_aload_n hx hb dX3_allPlates_5 rfl (lv_at hl 0 rfl) ?_
      refine wm_get hx hb hts hown hK hM 0 (by decide) q1933 (v := .ref (ad 0)) rfl dX3_allPlates_6 ?_
      refine lv_bipush (v := 26) hx hb dX3_allPlates_9 (by decide) ?_
      refine wm_ald hx hb hK hM (k := 0) rfl vi_26_125 vc_26 (v := ar 0 26) rfl dX3_allPlates_11 ?_
      refine lv_icmp_ge (tgt := 44) hx hb dX3_allPlates_12 (by decide) (fun c_ => ?_) (fun c_ => ?_)
      · replace hw := hw.1 c_
        refine lv_iload_n hx hb dX3_allPlates_44 rfl (lv_at hl 2 rfl) ?_
        exact wm_reti hx hb hr hlk hM rfl hw dX3_allPlates_45
      · replace hw := hw.2 c_
        refine lv_iload_n hx hb dX3_allPlates_15 rfl (lv_at hl 2 rfl) ?_
        refine lv_aload_n hx hb dX3_allPlates_16 rfl (lv_at hl 0 rfl) ?_
        refine lv_iload_n hx hb dX3_allPlates_17 rfl (lv_at hl 3 rfl) ?_
        refine lv_iconst (v := 1) hx hb dX3_allPlates_18 (by decide) ?_
        refine wm_callVi (As := [.int x3, .int 1]) (rest := [.int x2]) ⟨hx, hb, hml, hown, hts⟩ hK hN hAm hA hM (m3_of l D ac mo ad sc ar x3 1 _ hw) (cwV 2 hts (lw_V q2069 q2071 qs27 q77 q2072) rfl rfl rfl hd_X3_of ⟨Nat.le_of_ble_eq_true rfl, Nat.le_of_ble_eq_true rfl⟩) rfl hl.1 rfl (Nat.le_of_ble_eq_true rfl) dX3_allPlates_19 ⟨Nat.le_refl 0, Nat.le_refl 0⟩ (fun r3 sc1 ar2 H locs hw hM => ?_)
        refine lv_iload_n hx hb dX3_allPlates_22 rfl (lv_at hl 1 rfl) ?_
        refine lv_icmp_lt (tgt := 35) hx hb dX3_allPlates_23 (by decide) (fun c_ => ?_) (fun c_ => ?_)
        · replace hw := hw.1 c_
          refine lv_iconst (v := 0) hx hb dX3_allPlates_35 (by decide) ?_
          exact hL36 (fun x1' x2' x3' sc' ar' => w3_allPlates_L4 post  n x1' x2' x3' sc' ar') (fun x1' x2' x3' sc' ar' H locs ls hM hl hw => ih x1' x2' x3' sc' ar' H locs ls hM hl hw) x1 x3 0 x2 sc1 ar2 _ _ ls hM (lv_sub hl [0, 1, 3] rfl) hw
        · replace hw := hw.2 c_
          refine lv_aload_n hx hb dX3_allPlates_26 rfl (lv_at hl 0 rfl) ?_
          refine lv_iload_n hx hb dX3_allPlates_27 rfl (lv_at hl 3 rfl) ?_
          refine lv_iconst (v := 0) hx hb dX3_allPlates_28 (by decide) ?_
          refine wm_callVi (As := [.int x3, .int 0]) (rest := [.int x2]) ⟨hx, hb, hml, hown, hts⟩ hK hN hAm hA hM (m3_of l D ac mo ad sc1 ar2 x3 0 _ hw) (cwV 2 hts (lw_V q2069 q2071 qs27 q77 q2072) rfl rfl rfl hd_X3_of ⟨Nat.le_of_ble_eq_true rfl, Nat.le_of_ble_eq_true rfl⟩) rfl hl.1 rfl (Nat.le_of_ble_eq_true rfl) dX3_allPlates_29 ⟨Nat.le_refl 0, Nat.le_refl 0⟩ (fun r6 sc4 ar5 H locs hw hM => ?_)
          refine lv_goto (tgt := 36) hx hb dX3_allPlates_32 (by decide) ?_
          exact hL36 (fun x1' x2' x3' sc' ar' => w3_allPlates_L4 post  n x1' x2' x3' sc' ar') (fun x1' x2' x3' sc' ar' H locs ls hM hl hw => ih x1' x2' x3' sc' ar' H locs ls hM hl hw) x1 x3 r6 x2 sc4 ar5 _ _ ls hM (lv_sub hl [0, 1, 3] rfl) hw
  refine lv_iconst (v := 0) hx hb dX3_allPlates_0 (by decide) ?_
  refine lv_istore_n (lv' := [(2, .int 0), (0, .ref mo), (1, .int p1)]) hx hb dX3_allPlates_1 rfl hl (by decide) rfl (fun ls hl => ?_)
  refine lv_iconst (v := 0) hx hb dX3_allPlates_2 (by decide) ?_
  refine lv_istore_n (lv' := [(3, .int 0), (2, .int 0), (0, .ref mo), (1, .int p1)]) hx hb dX3_allPlates_3 rfl hl (by decide) rfl (fun ls hl => ?_)
  obtain ⟨n0, hw⟩ := hw
  exact hL4  n0 p1 0 0 sc ar _ _ ls hM (lv_sub hl [2, 3, 1, 0] rfl) hw
def w3_packed_L4 (post : Int32 → wS1 → wS2 → Prop) : Nat → Int32 → Int32 → wS1 → wS2 → Prop
  | 0, _, _, _, _ => False
  | n + 1, x1, x2, sc, ar => ((ar 0 100) ≤ x2 → (post x1 sc ar)) ∧ (¬ (ar 0 100) ≤ x2 → (w3_ofCrate (fun r3 sc1 ar2 => w3_packed_L4 post  n (x1 + r3) (x2 + 1) sc1 ar2) sc ar x2 1))
def w3_packed (post : Int32 → wS1 → wS2 → Prop) (sc : wS1) (ar : wS2)  : Prop := (∃ n, w3_packed_L4 post  n 0 0 sc ar)
theorem hd_X3_packed : yX3_packed.cls = RX3 ∧ yX3_packed.cls ≠ "java/lang/invoke/MethodHandle" ∧ yX3_packed.cls ≠ "java/lang/invoke/VarHandle" ∧ (parseMethodDescriptor yX3_packed.desc).map (fun d => d.parameters.length) = some 0 := by decide +kernel
set_option maxHeartbeats 4000000 in
set_option maxRecDepth 100000 in
theorem m3_packed (l : Launch) (D : va_G) (ac : Nat → ClassId) (mo : Nat) (ad : Nat → Nat) (sc : wS1) (ar : wS2)  (post : Int32 → wS1 → wS2 → Prop) (hw : w3_packed post sc ar ) : wm_Mi l D ac mo ad yX3_packed (ws_ yX3_packed cX3_packed 3 (some .int)) ({ frames := 1, cells := 0, slots := 0, locals := 22 }) [.ref mo] sc ar post := by
  refine wm_ofi (by decide) (Nat.le_of_ble_eq_true rfl) ?_
  intro p e s m below meth c A ls hx hb hr hlk hml hown hts hK hN hAm hA hM hl
  have hl : lv_has ls 3 [(0, .ref mo)] := hl
  unfold w3_packed at hw
  have hL4 : ∀ (n : Nat) (x1 : Int32) (x2 : Int32) (sc : wS1) (ar : wS2) (H : Heap) (locs : List Loc) (ls : Array Slot), wm_S D ac A s.heap mo ad sc ar H locs → lv_has ls 3 [(0, .ref mo), (1, .int x1), (2, .int x2)] → w3_packed_L4 post n x1 x2 sc ar → W p l e (headSpec (ws_ yX3_packed cX3_packed 3 (some .int)) ({ frames := 1, cells := 0, slots := 0, locals := 22 })).room s m ([.ref mo] : List Value).toArray below meth c H locs 0 0 (MQ below (va_Qi (S := wU) (fun r u => post r u.1 u.2) (wm_B D ac mo ad) A) ([.ref mo] : List Value).toArray s 0 0 A) (F0 m 4 ls []) := by
    intro n
    induction n with
    | zero => exact fun _ _ _ _ _ _ _ _ _ hw => hw.elim
    | succ n ih =>
      intro x1 x2 sc ar H locs ls hM hl hw
      unfold w3_packed_L4 at hw
      refine lv_iload_n hx hb dX3_packed_4 rfl (lv_at hl 2 rfl) ?_
      refine lv_aload_n hx hb dX3_packed_5 rfl (lv_at hl 0 rfl) ?_
      refine wm_get hx hb hts hown hK hM 0 (by decide) q1933 (v := .ref (ad 0)) rfl dX3_packed_6 ?_
      refine lv_bipush (v := 100) hx hb dX3_packed_9 (by decide) ?_
      refine wm_ald hx hb hK hM (k := 0) rfl vi_100_125 vc_100 (v := ar 0 100) rfl dX3_packed_11 ?_
      refine lv_icmp_ge (tgt := 30) hx hb dX3_packed_12 (by decide) (fun c_ => ?_) (fun c_ => ?_)
      · replace hw := hw.1 c_
        refine lv_iload_n hx hb dX3_packed_30 rfl (lv_at hl 1 rfl) ?_
        exact wm_reti hx hb hr hlk hM rfl hw dX3_packed_31
      · replace hw := hw.2 c_
        refine lv_iload_n hx hb dX3_packed_15 rfl (lv_at hl 1 rfl) ?_
        refine lv_aload_n hx hb dX3_packed_16 rfl (lv_at hl 0 rfl) ?_
        refine lv_iload_n hx hb dX3_packed_17 rfl (lv_at hl 2 rfl) ?_
        refine lv_iconst (v := 1) hx hb dX3_packed_18 (by decide) ?_
        refine wm_callVi (As := [.int x2, .int 1]) (rest := [.int x1]) ⟨hx, hb, hml, hown, hts⟩ hK hN hAm hA hM (m3_ofCrate l D ac mo ad sc ar x2 1 _ hw) (cwV 2 hts (lw_V q2141 q2143 qs35 q77 q2144) rfl rfl rfl hd_X3_ofCrate ⟨Nat.le_of_ble_eq_true rfl, Nat.le_of_ble_eq_true rfl⟩) rfl hl.1 rfl (Nat.le_of_ble_eq_true rfl) dX3_packed_19 ⟨Nat.le_refl 0, Nat.le_refl 0⟩ (fun r3 sc1 ar2 H locs hw hM => ?_)
        refine lv_iadd hx hb dX3_packed_22 ?_
        refine lv_istore_n (lv' := [(1, .int (x1 + r3)), (0, .ref mo), (2, .int x2)]) hx hb dX3_packed_23 rfl hl (by decide) rfl (fun ls hl => ?_)
        refine lv_iinc (v := x2 + 1) (lv' := [(2, .int (x2 + 1)), (1, .int (x1 + r3)), (0, .ref mo)]) hx hb dX3_packed_24 hl (k := 2) rfl rfl (by decide) rfl (fun ls hl => ?_)
        refine lv_goto (tgt := 4) hx hb dX3_packed_27 (by decide) ?_
        exact ih (x1 + r3) (x2 + 1) sc1 ar2 _ _ ls hM (lv_sub hl [2, 1, 0] rfl) hw
  refine lv_iconst (v := 0) hx hb dX3_packed_0 (by decide) ?_
  refine lv_istore_n (lv' := [(1, .int 0), (0, .ref mo)]) hx hb dX3_packed_1 rfl hl (by decide) rfl (fun ls hl => ?_)
  refine lv_iconst (v := 0) hx hb dX3_packed_2 (by decide) ?_
  refine lv_istore_n (lv' := [(2, .int 0), (1, .int 0), (0, .ref mo)]) hx hb dX3_packed_3 rfl hl (by decide) rfl (fun ls hl => ?_)
  obtain ⟨n0, hw⟩ := hw
  exact hL4  n0 0 0 sc ar _ _ ls hM (lv_sub hl [2, 1, 0] rfl) hw
def w3_burning_L30 (post : Int32 → wS1 → wS2 → Prop) (k4 : Int32 → Int32 → wS1 → wS2 → Prop) (x2 : Int32) (t0 : Int32) (t1 : Int32) (sc : wS1) (ar : wS2) : Prop := k4 (t1 + t0) (x2 + 1) sc ar
def w3_burning_L4 (post : Int32 → wS1 → wS2 → Prop) : Nat → Int32 → Int32 → wS1 → wS2 → Prop
  | 0, _, _, _, _ => False
  | n + 1, x1, x2, sc, ar => ((ar 0 87) ≤ x2 → (post x1 sc ar)) ∧ (¬ (ar 0 87) ≤ x2 → (w3_ofKiln (fun r3 sc1 ar2 => (r3 < 0 → (w3_burning_L30 post (fun x1' x2' sc' ar' => w3_burning_L4 post  n x1' x2' sc' ar') x2 0 x1 sc1 ar2)) ∧ (¬ r3 < 0 → (w3_burning_L30 post (fun x1' x2' sc' ar' => w3_burning_L4 post  n x1' x2' sc' ar') x2 1 x1 sc1 ar2))) sc ar x2 1))
def w3_burning (post : Int32 → wS1 → wS2 → Prop) (sc : wS1) (ar : wS2)  : Prop := (∃ n, w3_burning_L4 post  n 0 0 sc ar)
theorem hd_X3_burning : yX3_burning.cls = RX3 ∧ yX3_burning.cls ≠ "java/lang/invoke/MethodHandle" ∧ yX3_burning.cls ≠ "java/lang/invoke/VarHandle" ∧ (parseMethodDescriptor yX3_burning.desc).map (fun d => d.parameters.length) = some 0 := by decide +kernel
set_option maxHeartbeats 4000000 in
set_option maxRecDepth 100000 in
theorem m3_burning (l : Launch) (D : va_G) (ac : Nat → ClassId) (mo : Nat) (ad : Nat → Nat) (sc : wS1) (ar : wS2)  (post : Int32 → wS1 → wS2 → Prop) (hw : w3_burning post sc ar ) : wm_Mi l D ac mo ad yX3_burning (ws_ yX3_burning cX3_burning 3 (some .int)) ({ frames := 1, cells := 0, slots := 0, locals := 22 }) [.ref mo] sc ar post := by
  refine wm_ofi (by decide) (Nat.le_of_ble_eq_true rfl) ?_
  intro p e s m below meth c A ls hx hb hr hlk hml hown hts hK hN hAm hA hM hl
  have hl : lv_has ls 3 [(0, .ref mo)] := hl
  unfold w3_burning at hw
  have hL30 : ∀ (k4 : Int32 → Int32 → wS1 → wS2 → Prop) (hk4 : ∀ (x1 : Int32) (x2 : Int32) (sc : wS1) (ar : wS2) (H : Heap) (locs : List Loc) (ls : Array Slot), wm_S D ac A s.heap mo ad sc ar H locs → lv_has ls 3 [(0, .ref mo), (1, .int x1), (2, .int x2)] → k4 x1 x2 sc ar → W p l e (headSpec (ws_ yX3_burning cX3_burning 3 (some .int)) ({ frames := 1, cells := 0, slots := 0, locals := 22 })).room s m ([.ref mo] : List Value).toArray below meth c H locs 0 0 (MQ below (va_Qi (S := wU) (fun r u => post r u.1 u.2) (wm_B D ac mo ad) A) ([.ref mo] : List Value).toArray s 0 0 A) (F0 m 4 ls [])) (x2 : Int32) (t0 : Int32) (t1 : Int32) (sc : wS1) (ar : wS2) (H : Heap) (locs : List Loc) (ls : Array Slot), wm_S D ac A s.heap mo ad sc ar H locs → lv_has ls 3 [(0, .ref mo), (2, .int x2)] → w3_burning_L30 post k4 x2 t0 t1 sc ar → W p l e (headSpec (ws_ yX3_burning cX3_burning 3 (some .int)) ({ frames := 1, cells := 0, slots := 0, locals := 22 })).room s m ([.ref mo] : List Value).toArray below meth c H locs 0 0 (MQ below (va_Qi (S := wU) (fun r u => post r u.1 u.2) (wm_B D ac mo ad) A) ([.ref mo] : List Value).toArray s 0 0 A) (F0 m 30 ls [.int t0, .int t1]) := by
    intro k4 hk4 x2 t0 t1 sc ar H locs ls hM hl hw
    unfold w3_burning_L30 at hw
    refine lv_iadd hx hb dX3_burning_30 ?_
    refine lv_istore_n (lv' := [(1, .int (t1 + t0)), (0, .ref mo), (2, .int x2)]) hx hb dX3_burning_31 rfl hl (by decide) rfl (fun ls hl => ?_)
    refine lv_iinc (v := x2 + 1) (lv' := [(2, .int (x2 + 1)), (1, .int (t1 + t0)), (0, .ref mo)]) hx hb dX3_burning_32 hl (k := 2) rfl rfl (by decide) rfl (fun ls hl => ?_)
    refine lv_goto (tgt := 4) hx hb dX3_burning_35 (by decide) ?_
    exact hk4 (t1 + t0) (x2 + 1) sc ar _ _ ls hM (lv_sub hl [2, 1, 0] rfl) hw
  have hL4 : ∀ (n : Nat) (x1 : Int32) (x2 : Int32) (sc : wS1) (ar : wS2) (H : Heap) (locs : List Loc) (ls : Array Slot), wm_S D ac A s.heap mo ad sc ar H locs → lv_has ls 3 [(0, .ref mo), (1, .int x1), (2, .int x2)] → w3_burning_L4 post n x1 x2 sc ar → W p l e (headSpec (ws_ yX3_burning cX3_burning 3 (some .int)) ({ frames := 1, cells := 0, slots := 0, locals := 22 })).room s m ([.ref mo] : List Value).toArray below meth c H locs 0 0 (MQ below (va_Qi (S := wU) (fun r u => post r u.1 u.2) (wm_B D ac mo ad) A) ([.ref mo] : List Value).toArray s 0 0 A) (F0 m 4 ls []) := by
    intro n
    induction n with
    | zero => exact fun _ _ _ _ _ _ _ _ _ hw => hw.elim
    | succ n ih =>
      intro x1 x2 sc ar H locs ls hM hl hw
      unfold w3_burning_L4 at hw
      refine lv_iload_n hx hb dX3_burning_4 rfl (lv_at hl 2 rfl) ?_
      refine lv_aload_n hx hb dX3_burning_5 rfl (lv_at hl 0 rfl) ?_
      refine wm_get hx hb hts hown hK hM 0 (by decide) q1933 (v := .ref (ad 0)) rfl dX3_burning_6 ?_
      refine lv_bipush (v := 87) hx hb dX3_burning_9 (by decide) ?_
      refine wm_ald hx hb hK hM (k := 0) rfl vi_87_125 vc_87 (v := ar 0 87) rfl dX3_burning_11 ?_
      refine lv_icmp_ge (tgt := 38) hx hb dX3_burning_12 (by decide) (fun c_ => ?_) (fun c_ => ?_)
      · replace hw := hw.1 c_
        refine lv_iload_n hx hb dX3_burning_38 rfl (lv_at hl 1 rfl) ?_
        exact wm_reti hx hb hr hlk hM rfl hw dX3_burning_39
      · replace hw := hw.2 c_
        refine lv_iload_n hx hb dX3_burning_15 rfl (lv_at hl 1 rfl) ?_
        refine lv_aload_n hx hb dX3_burning_16 rfl (lv_at hl 0 rfl) ?_
        refine lv_iload_n hx hb dX3_burning_17 rfl (lv_at hl 2 rfl) ?_
        refine lv_iconst (v := 1) hx hb dX3_burning_18 (by decide) ?_
        refine wm_callVi (As := [.int x2, .int 1]) (rest := [.int x1]) ⟨hx, hb, hml, hown, hts⟩ hK hN hAm hA hM (m3_ofKiln l D ac mo ad sc ar x2 1 _ hw) (cwV 2 hts (lw_V q2085 q2087 qs29 q77 q2088) rfl rfl rfl hd_X3_ofKiln ⟨Nat.le_of_ble_eq_true rfl, Nat.le_of_ble_eq_true rfl⟩) rfl hl.1 rfl (Nat.le_of_ble_eq_true rfl) dX3_burning_19 ⟨Nat.le_refl 0, Nat.le_refl 0⟩ (fun r3 sc1 ar2 H locs hw hM => ?_)
        refine lv_if_lt (tgt := 29) hx hb dX3_burning_22 (by decide) (fun c_ => ?_) (fun c_ => ?_)
        · replace hw := hw.1 c_
          refine lv_iconst (v := 0) hx hb dX3_burning_29 (by decide) ?_
          exact hL30 (fun x1' x2' sc' ar' => w3_burning_L4 post  n x1' x2' sc' ar') (fun x1' x2' sc' ar' H locs ls hM hl hw => ih x1' x2' sc' ar' H locs ls hM hl hw) x2 0 x1 sc1 ar2 _ _ ls hM (lv_sub hl [0, 2] rfl) hw
        · replace hw := hw.2 c_
          refine lv_iconst (v := 1) hx hb dX3_burning_25 (by decide) ?_
          refine lv_goto (tgt := 30) hx hb dX3_burning_26 (by decide) ?_
          exact hL30 (fun x1' x2' sc' ar' => w3_burning_L4 post  n x1' x2' sc' ar') (fun x1' x2' sc' ar' H locs ls hM hl hw => ih x1' x2' sc' ar' H locs ls hM hl hw) x2 1 x1 sc1 ar2 _ _ ls hM (lv_sub hl [0, 2] rfl) hw
  refine lv_iconst (v := 0) hx hb dX3_burning_0 (by decide) ?_
  refine lv_istore_n (lv' := [(1, .int 0), (0, .ref mo)]) hx hb dX3_burning_1 rfl hl (by decide) rfl (fun ls hl => ?_)
  refine lv_iconst (v := 0) hx hb dX3_burning_2 (by decide) ?_
  refine lv_istore_n (lv' := [(2, .int 0), (1, .int 0), (0, .ref mo)]) hx hb dX3_burning_3 rfl hl (by decide) rfl (fun ls hl => ?_)
  obtain ⟨n0, hw⟩ := hw
  exact hL4  n0 0 0 sc ar _ _ ls hM (lv_sub hl [2, 1, 0] rfl) hw
def w3_platesAgain (post : Int32 → wS1 → wS2 → Prop) (sc : wS1) (ar : wS2)  : Prop := w3_packed (fun r3 sc1 ar2 => post (((((ar 0 4) - r3) - (ar2 0 5)) - (ar2 0 6)) - (ar2 0 7)) sc1 ar2) (upd sc 7 0) ar 
theorem hd_X3_platesAgain : yX3_platesAgain.cls = RX3 ∧ yX3_platesAgain.cls ≠ "java/lang/invoke/MethodHandle" ∧ yX3_platesAgain.cls ≠ "java/lang/invoke/VarHandle" ∧ (parseMethodDescriptor yX3_platesAgain.desc).map (fun d => d.parameters.length) = some 0 := by decide +kernel
set_option maxHeartbeats 4000000 in
set_option maxRecDepth 100000 in
theorem m3_platesAgain (l : Launch) (D : va_G) (ac : Nat → ClassId) (mo : Nat) (ad : Nat → Nat) (sc : wS1) (ar : wS2)  (post : Int32 → wS1 → wS2 → Prop) (hw : w3_platesAgain post sc ar ) : wm_Mi l D ac mo ad yX3_platesAgain (ws_ yX3_platesAgain cX3_platesAgain 1 (some .int)) ({ frames := 2, cells := 0, slots := 0, locals := 44 }) [.ref mo] sc ar post := by
  refine wm_ofi (by decide) (Nat.le_of_ble_eq_true rfl) ?_
  intro p e s m below meth c A ls hx hb hr hlk hml hown hts hK hN hAm hA hM hl
  have hl : lv_has ls 1 [(0, .ref mo)] := hl
  unfold w3_platesAgain at hw
  refine lv_aload_n hx hb dX3_platesAgain_0 rfl (lv_at hl 0 rfl) ?_
  refine lv_iconst (v := 0) hx hb dX3_platesAgain_1 (by decide) ?_
  refine wm_put hx hb hts hown hK hN hAm hM 7 (by decide) rfl q1940 rfl rfl rfl dX3_platesAgain_2 (fun H locs hM => ?_)
  refine lv_aload_n hx hb dX3_platesAgain_5 rfl (lv_at hl 0 rfl) ?_
  refine wm_get hx hb hts hown hK hM 0 (by decide) q1933 (v := .ref (ad 0)) rfl dX3_platesAgain_6 ?_
  refine lv_iconst (v := 4) hx hb dX3_platesAgain_9 (by decide) ?_
  refine wm_ald hx hb hK hM (k := 0) rfl vi_4_125 vc_4 (v := ar 0 4) rfl dX3_platesAgain_10 ?_
  refine lv_aload_n hx hb dX3_platesAgain_11 rfl (lv_at hl 0 rfl) ?_
  refine wm_callVi (As := []) (rest := [.int (ar 0 4)]) ⟨hx, hb, hml, hown, hts⟩ hK hN hAm hA hM (m3_packed l D ac mo ad (upd sc 7 0) ar  _ hw) (cwV 0 hts (lw_V q2229 q2231 qs45 q77 q2232) rfl rfl rfl hd_X3_packed ⟨Nat.le_of_ble_eq_true rfl, Nat.le_of_ble_eq_true rfl⟩) rfl hl.1 rfl (Nat.le_of_ble_eq_true rfl) dX3_platesAgain_12 ⟨Nat.le_refl 0, Nat.le_refl 0⟩ (fun r3 sc1 ar2 H locs hw hM => ?_)
  refine lv_isub hx hb dX3_platesAgain_15 ?_
  refine lv_aload_n hx hb dX3_platesAgain_16 rfl (lv_at hl 0 rfl) ?_
  refine wm_get hx hb hts hown hK hM 0 (by decide) q1933 (v := .ref (ad 0)) rfl dX3_platesAgain_17 ?_
  refine lv_iconst (v := 5) hx hb dX3_platesAgain_20 (by decide) ?_
  refine wm_ald hx hb hK hM (k := 0) rfl vi_5_125 vc_5 (v := ar2 0 5) rfl dX3_platesAgain_21 ?_
  refine lv_isub hx hb dX3_platesAgain_22 ?_
  refine lv_aload_n hx hb dX3_platesAgain_23 rfl (lv_at hl 0 rfl) ?_
  refine wm_get hx hb hts hown hK hM 0 (by decide) q1933 (v := .ref (ad 0)) rfl dX3_platesAgain_24 ?_
  refine lv_bipush (v := 6) hx hb dX3_platesAgain_27 (by decide) ?_
  refine wm_ald hx hb hK hM (k := 0) rfl vi_6_125 vc_6 (v := ar2 0 6) rfl dX3_platesAgain_29 ?_
  refine lv_isub hx hb dX3_platesAgain_30 ?_
  refine lv_aload_n hx hb dX3_platesAgain_31 rfl (lv_at hl 0 rfl) ?_
  refine wm_get hx hb hts hown hK hM 0 (by decide) q1933 (v := .ref (ad 0)) rfl dX3_platesAgain_32 ?_
  refine lv_bipush (v := 7) hx hb dX3_platesAgain_35 (by decide) ?_
  refine wm_ald hx hb hK hM (k := 0) rfl vi_7_125 vc_7 (v := ar2 0 7) rfl dX3_platesAgain_37 ?_
  refine lv_isub hx hb dX3_platesAgain_38 ?_
  exact wm_reti hx hb hr hlk hM rfl hw dX3_platesAgain_39
def w3_meanWell_L41 (post : UInt64 → wS1 → wS2 → Prop) (k6 : Int32 → Int32 → Int32 → wS1 → wS2 → Prop) (x1 : Int32) (x2 : Int32) (x3 : Int32) (sc : wS1) (ar : wS2) : Prop := k6 x1 x2 (x3 + 1) sc ar
def w3_meanWell_L57 (post : UInt64 → wS1 → wS2 → Prop) (x1 : Int32) (x2 : Int32) (t0 : Int32) (sc : wS1) (ar : wS2) : Prop := w3_fails (fun r9 sc7 ar8 => (r9 = 0 → (vf_n64 (FP.ddiv (FP.i2d x2) (FP.i2d x1)) ∧ (post (FP.ddiv (FP.i2d x2) (FP.i2d x1)) sc7 ar8))) ∧ (¬ r9 = 0 → (post FP.dconst0 sc7 ar8))) sc ar t0
def w3_meanWell_L6 (post : UInt64 → wS1 → wS2 → Prop) : Nat → Int32 → Int32 → Int32 → wS1 → wS2 → Prop
  | 0, _, _, _, _, _ => False
  | n + 1, x1, x2, x3, sc, ar => ((ar 0 26) ≤ x3 → ((¬ x1 = 0 → (w3_meanWell_L57 post  x1 x2 0 sc ar)) ∧ (x1 = 0 → (w3_meanWell_L57 post  x1 x2 1 sc ar)))) ∧ (¬ (ar 0 26) ≤ x3 → (w3_of (fun r3 sc1 ar2 => (¬ r3 = 0 → (w3_of (fun r6 sc4 ar5 => w3_meanWell_L41 post (fun x1' x2' x3' sc' ar' => w3_meanWell_L6 post  n x1' x2' x3' sc' ar') (x1 + 1) (x2 + r6) x3 sc4 ar5) sc1 ar2 x3 2)) ∧ (r3 = 0 → (w3_meanWell_L41 post (fun x1' x2' x3' sc' ar' => w3_meanWell_L6 post  n x1' x2' x3' sc' ar') x1 x2 x3 sc1 ar2))) sc ar x3 1))
def w3_meanWell (post : UInt64 → wS1 → wS2 → Prop) (sc : wS1) (ar : wS2)  : Prop := (∃ n, w3_meanWell_L6 post  n 0 0 0 sc ar)
theorem hd_X3_meanWell : yX3_meanWell.cls = RX3 ∧ yX3_meanWell.cls ≠ "java/lang/invoke/MethodHandle" ∧ yX3_meanWell.cls ≠ "java/lang/invoke/VarHandle" ∧ (parseMethodDescriptor yX3_meanWell.desc).map (fun d => d.parameters.length) = some 0 := by decide +kernel
set_option maxHeartbeats 4000000 in
set_option maxRecDepth 100000 in
theorem m3_meanWell (l : Launch) (D : va_G) (ac : Nat → ClassId) (mo : Nat) (ad : Nat → Nat) (sc : wS1) (ar : wS2)  (post : UInt64 → wS1 → wS2 → Prop) (hw : w3_meanWell post sc ar ) : wm_Md l D ac mo ad yX3_meanWell (ws_ yX3_meanWell cX3_meanWell 4 (some .double)) ({ frames := 1, cells := 0, slots := 0, locals := 22 }) [.ref mo] sc ar post := by
  refine wm_ofd (by decide) (Nat.le_of_ble_eq_true rfl) ?_
  intro p e s m below meth c A ls hx hb hr hlk hml hown hts hK hN hAm hA hM hl
  have hl : lv_has ls 4 [(0, .ref mo)] := hl
  unfold w3_meanWell at hw
  have hL41 : ∀ (k6 : Int32 → Int32 → Int32 → wS1 → wS2 → Prop) (hk6 : ∀ (x1 : Int32) (x2 : Int32) (x3 : Int32) (sc : wS1) (ar : wS2) (H : Heap) (locs : List Loc) (ls : Array Slot), wm_S D ac A s.heap mo ad sc ar H locs → lv_has ls 4 [(0, .ref mo), (1, .int x1), (2, .int x2), (3, .int x3)] → k6 x1 x2 x3 sc ar → W p l e (headSpec (ws_ yX3_meanWell cX3_meanWell 4 (some .double)) ({ frames := 1, cells := 0, slots := 0, locals := 22 })).room s m ([.ref mo] : List Value).toArray below meth c H locs 0 0 (MQ below (va_Qd (S := wU) (fun r u => post r u.1 u.2) (wm_B D ac mo ad) A) ([.ref mo] : List Value).toArray s 0 0 A) (F0 m 6 ls [])) (x1 : Int32) (x2 : Int32) (x3 : Int32) (sc : wS1) (ar : wS2) (H : Heap) (locs : List Loc) (ls : Array Slot), wm_S D ac A s.heap mo ad sc ar H locs → lv_has ls 4 [(0, .ref mo), (1, .int x1), (2, .int x2), (3, .int x3)] → w3_meanWell_L41 post k6 x1 x2 x3 sc ar → W p l e (headSpec (ws_ yX3_meanWell cX3_meanWell 4 (some .double)) ({ frames := 1, cells := 0, slots := 0, locals := 22 })).room s m ([.ref mo] : List Value).toArray below meth c H locs 0 0 (MQ below (va_Qd (S := wU) (fun r u => post r u.1 u.2) (wm_B D ac mo ad) A) ([.ref mo] : List Value).toArray s 0 0 A) (F0 m 41 ls []) := by
    intro k6 hk6 x1 x2 x3 sc ar H locs ls hM hl hw
    unfold w3_meanWell_L41 at hw
    refine lv_iinc (v := x3 + 1) (lv' := [(3, .int (x3 + 1)), (0, .ref mo), (1, .int x1), (2, .int x2)]) hx hb dX3_meanWell_41 hl (k := 3) rfl rfl (by decide) rfl (fun ls hl => ?_)
    refine lv_goto (tgt := 6) hx hb dX3_meanWell_44 (by decide) ?_
    exact hk6 x1 x2 (x3 + 1) sc ar _ _ ls hM (lv_sub hl [1, 2, 3, 0] rfl) hw
  have hL57 : ∀ (x1 : Int32) (x2 : Int32) (t0 : Int32) (sc : wS1) (ar : wS2) (H : Heap) (locs : List Loc) (ls : Array Slot), wm_S D ac A s.heap mo ad sc ar H locs → lv_has ls 4 [(1, .int x1), (2, .int x2)] → w3_meanWell_L57 post x1 x2 t0 sc ar → W p l e (headSpec (ws_ yX3_meanWell cX3_meanWell 4 (some .double)) ({ frames := 1, cells := 0, slots := 0, locals := 22 })).room s m ([.ref mo] : List Value).toArray below meth c H locs 0 0 (MQ below (va_Qd (S := wU) (fun r u => post r u.1 u.2) (wm_B D ac mo ad) A) ([.ref mo] : List Value).toArray s 0 0 A) (F0 m 57 ls [.int t0, .ref mo]) := by
    intro x1 x2 t0 sc ar H locs ls hM hl hw
    unfold w3_meanWell_L57 at hw
    refine wm_callVi (As := [.int t0]) (rest := []) ⟨hx, hb, hml, hown, hts⟩ hK hN hAm hA hM (m3_fails l D ac mo ad sc ar t0 _ hw) (cwV 1 hts (lw_V q2008 q2010 qs19 q77 q2011) rfl rfl rfl hd_X3_fails ⟨Nat.le_of_ble_eq_true rfl, Nat.le_of_ble_eq_true rfl⟩) rfl hl.1 rfl (Nat.le_of_ble_eq_true rfl) dX3_meanWell_57 ⟨Nat.le_refl 0, Nat.le_refl 0⟩ (fun r9 sc7 ar8 H locs hw hM => ?_)
    refine lv_if_eq (tgt := 67) hx hb dX3_meanWell_60 (by decide) (fun c_ => ?_) (fun c_ => ?_)
    · replace hw := hw.1 c_
      refine lv_iload_n hx hb dX3_meanWell_67 rfl (lv_at hl 1 rfl) ?_
      refine lv_i2d hx hb dX3_meanWell_68 ?_
      refine lv_iload_n hx hb dX3_meanWell_69 rfl (lv_at hl 0 rfl) ?_
      refine lv_i2d hx hb dX3_meanWell_70 ?_
      refine lv_ddiv hx hb dX3_meanWell_71 hw.1 ?_
      replace hw := hw.2
      exact wm_retd hx hb hr hlk hM hw dX3_meanWell_72
    · replace hw := hw.2 c_
      refine lv_dconst0 hx hb dX3_meanWell_63 ?_
      refine lv_goto (tgt := 72) hx hb dX3_meanWell_64 (by decide) ?_
      exact wm_retd hx hb hr hlk hM hw dX3_meanWell_72
  have hL6 : ∀ (n : Nat) (x1 : Int32) (x2 : Int32) (x3 : Int32) (sc : wS1) (ar : wS2) (H : Heap) (locs : List Loc) (ls : Array Slot), wm_S D ac A s.heap mo ad sc ar H locs → lv_has ls 4 [(0, .ref mo), (1, .int x1), (2, .int x2), (3, .int x3)] → w3_meanWell_L6 post n x1 x2 x3 sc ar → W p l e (headSpec (ws_ yX3_meanWell cX3_meanWell 4 (some .double)) ({ frames := 1, cells := 0, slots := 0, locals := 22 })).room s m ([.ref mo] : List Value).toArray below meth c H locs 0 0 (MQ below (va_Qd (S := wU) (fun r u => post r u.1 u.2) (wm_B D ac mo ad) A) ([.ref mo] : List Value).toArray s 0 0 A) (F0 m 6 ls []) := by
    intro n
    induction n with
    | zero => exact fun _ _ _ _ _ _ _ _ _ _ hw => hw.elim
    | succ n ih =>
      intro x1 x2 x3 sc ar H locs ls hM hl hw
      unfold w3_meanWell_L6 at hw
      refine lv_iload_n hx hb dX3_meanWell_6 rfl (lv_at hl 3 rfl) ?_
      refine lv_aload_n hx hb dX3_meanWell_7 rfl (lv_at hl 0 rfl) ?_
      refine wm_get hx hb hts hown hK hM 0 (by decide) q1933 (v := .ref (ad 0)) rfl dX3_meanWell_8 ?_
      refine lv_bipush (v := 26) hx hb dX3_meanWell_11 (by decide) ?_
      refine wm_ald hx hb hK hM (k := 0) rfl vi_26_125 vc_26 (v := ar 0 26) rfl dX3_meanWell_13 ?_
      refine lv_icmp_ge (tgt := 47) hx hb dX3_meanWell_14 (by decide) (fun c_ => ?_) (fun c_ => ?_)
      · replace hw := hw.1 c_
        refine lv_aload_n hx hb dX3_meanWell_47 rfl (lv_at hl 0 rfl) ?_
        refine lv_iload_n hx hb dX3_meanWell_48 rfl (lv_at hl 1 rfl) ?_
        refine lv_if_ne (tgt := 56) hx hb dX3_meanWell_49 (by decide) (fun c_ => ?_) (fun c_ => ?_)
        · replace hw := hw.1 c_
          refine lv_iconst (v := 0) hx hb dX3_meanWell_56 (by decide) ?_
          exact hL57  x1 x2 0 sc ar _ _ ls hM (lv_sub hl [1, 2] rfl) hw
        · replace hw := hw.2 c_
          refine lv_iconst (v := 1) hx hb dX3_meanWell_52 (by decide) ?_
          refine lv_goto (tgt := 57) hx hb dX3_meanWell_53 (by decide) ?_
          exact hL57  x1 x2 1 sc ar _ _ ls hM (lv_sub hl [1, 2] rfl) hw
      · replace hw := hw.2 c_
        refine lv_aload_n hx hb dX3_meanWell_17 rfl (lv_at hl 0 rfl) ?_
        refine lv_iload_n hx hb dX3_meanWell_18 rfl (lv_at hl 3 rfl) ?_
        refine lv_iconst (v := 1) hx hb dX3_meanWell_19 (by decide) ?_
        refine wm_callVi (As := [.int x3, .int 1]) (rest := []) ⟨hx, hb, hml, hown, hts⟩ hK hN hAm hA hM (m3_of l D ac mo ad sc ar x3 1 _ hw) (cwV 2 hts (lw_V q2069 q2071 qs27 q77 q2072) rfl rfl rfl hd_X3_of ⟨Nat.le_of_ble_eq_true rfl, Nat.le_of_ble_eq_true rfl⟩) rfl hl.1 rfl (Nat.le_of_ble_eq_true rfl) dX3_meanWell_20 ⟨Nat.le_refl 0, Nat.le_refl 0⟩ (fun r3 sc1 ar2 H locs hw hM => ?_)
        refine lv_if_ne (tgt := 29) hx hb dX3_meanWell_23 (by decide) (fun c_ => ?_) (fun c_ => ?_)
        · replace hw := hw.1 c_
          refine lv_iinc (v := x1 + 1) (lv' := [(1, .int (x1 + 1)), (0, .ref mo), (2, .int x2), (3, .int x3)]) hx hb dX3_meanWell_29 hl (k := 1) rfl rfl (by decide) rfl (fun ls hl => ?_)
          refine lv_iload_n hx hb dX3_meanWell_32 rfl (lv_at hl 2 rfl) ?_
          refine lv_aload_n hx hb dX3_meanWell_33 rfl (lv_at hl 1 rfl) ?_
          refine lv_iload_n hx hb dX3_meanWell_34 rfl (lv_at hl 3 rfl) ?_
          refine lv_iconst (v := 2) hx hb dX3_meanWell_35 (by decide) ?_
          refine wm_callVi (As := [.int x3, .int 2]) (rest := [.int x2]) ⟨hx, hb, hml, hown, hts⟩ hK hN hAm hA hM (m3_of l D ac mo ad sc1 ar2 x3 2 _ hw) (cwV 2 hts (lw_V q2069 q2071 qs27 q77 q2072) rfl rfl rfl hd_X3_of ⟨Nat.le_of_ble_eq_true rfl, Nat.le_of_ble_eq_true rfl⟩) rfl hl.1 rfl (Nat.le_of_ble_eq_true rfl) dX3_meanWell_36 ⟨Nat.le_refl 0, Nat.le_refl 0⟩ (fun r6 sc4 ar5 H locs hw hM => ?_)
          refine lv_iadd hx hb dX3_meanWell_39 ?_
          refine lv_istore_n (lv' := [(2, .int (x2 + r6)), (1, .int (x1 + 1)), (0, .ref mo), (3, .int x3)]) hx hb dX3_meanWell_40 rfl hl (by decide) rfl (fun ls hl => ?_)
          exact hL41 (fun x1' x2' x3' sc' ar' => w3_meanWell_L6 post  n x1' x2' x3' sc' ar') (fun x1' x2' x3' sc' ar' H locs ls hM hl hw => ih x1' x2' x3' sc' ar' H locs ls hM hl hw) (x1 + 1) (x2 + r6) x3 sc4 ar5 _ _ ls hM (lv_sub hl [2, 1, 0, 3] rfl) hw
        · replace hw := hw.2 c_
          refine lv_goto (tgt := 41) hx hb dX3_meanWell_26 (by decide) ?_
          exact hL41 (fun x1' x2' x3' sc' ar' => w3_meanWell_L6 post  n x1' x2' x3' sc' ar') (fun x1' x2' x3' sc' ar' H locs ls hM hl hw => ih x1' x2' x3' sc' ar' H locs ls hM hl hw) x1 x2 x3 sc1 ar2 _ _ ls hM (lv_sub hl [0, 1, 2, 3] rfl) hw
  refine lv_iconst (v := 0) hx hb dX3_meanWell_0 (by decide) ?_
  refine lv_istore_n (lv' := [(1, .int 0), (0, .ref mo)]) hx hb dX3_meanWell_1 rfl hl (by decide) rfl (fun ls hl => ?_)
  refine lv_iconst (v := 0) hx hb dX3_meanWell_2 (by decide) ?_
  refine lv_istore_n (lv' := [(2, .int 0), (1, .int 0), (0, .ref mo)]) hx hb dX3_meanWell_3 rfl hl (by decide) rfl (fun ls hl => ?_)
  refine lv_iconst (v := 0) hx hb dX3_meanWell_4 (by decide) ?_
  refine lv_istore_n (lv' := [(3, .int 0), (2, .int 0), (1, .int 0), (0, .ref mo)]) hx hb dX3_meanWell_5 rfl hl (by decide) rfl (fun ls hl => ?_)
  obtain ⟨n0, hw⟩ := hw
  exact hL6  n0 0 0 0 sc ar _ _ ls hM (lv_sub hl [3, 2, 1, 0] rfl) hw
def w3_secondShare_L15 (post : UInt32 → wS1 → wS2 → Prop) (t0 : Int32) (sc : wS1) (ar : wS2) : Prop := w3_fails (fun r3 sc1 ar2 => (r3 = 0 → (vf_n32 (FP.fdiv (FP.i2f ((ar2 0 6) + (ar2 0 7))) (FP.i2f (ar2 0 4))) ∧ (post (FP.fdiv (FP.i2f ((ar2 0 6) + (ar2 0 7))) (FP.i2f (ar2 0 4))) sc1 ar2))) ∧ (¬ r3 = 0 → (post FP.fconst0 sc1 ar2))) sc ar t0
def w3_secondShare (post : UInt32 → wS1 → wS2 → Prop) (sc : wS1) (ar : wS2)  : Prop := (¬ (ar 0 4) = 0 → (w3_secondShare_L15 post  0 sc ar)) ∧ ((ar 0 4) = 0 → (w3_secondShare_L15 post  1 sc ar))
theorem hd_X3_secondShare : yX3_secondShare.cls = RX3 ∧ yX3_secondShare.cls ≠ "java/lang/invoke/MethodHandle" ∧ yX3_secondShare.cls ≠ "java/lang/invoke/VarHandle" ∧ (parseMethodDescriptor yX3_secondShare.desc).map (fun d => d.parameters.length) = some 0 := by decide +kernel
set_option maxHeartbeats 4000000 in
set_option maxRecDepth 100000 in
theorem m3_secondShare (l : Launch) (D : va_G) (ac : Nat → ClassId) (mo : Nat) (ad : Nat → Nat) (sc : wS1) (ar : wS2)  (post : UInt32 → wS1 → wS2 → Prop) (hw : w3_secondShare post sc ar ) : wm_Mf l D ac mo ad yX3_secondShare (ws_ yX3_secondShare cX3_secondShare 1 (some .float)) ({ frames := 1, cells := 0, slots := 0, locals := 21 }) [.ref mo] sc ar post := by
  refine wm_off (by decide) (Nat.le_of_ble_eq_true rfl) ?_
  intro p e s m below meth c A ls hx hb hr hlk hml hown hts hK hN hAm hA hM hl
  have hl : lv_has ls 1 [(0, .ref mo)] := hl
  unfold w3_secondShare at hw
  have hL15 : ∀ (t0 : Int32) (sc : wS1) (ar : wS2) (H : Heap) (locs : List Loc) (ls : Array Slot), wm_S D ac A s.heap mo ad sc ar H locs → lv_has ls 1 [(0, .ref mo)] → w3_secondShare_L15 post t0 sc ar → W p l e (headSpec (ws_ yX3_secondShare cX3_secondShare 1 (some .float)) ({ frames := 1, cells := 0, slots := 0, locals := 21 })).room s m ([.ref mo] : List Value).toArray below meth c H locs 0 0 (MQ below (va_Qf (S := wU) (fun r u => post r u.1 u.2) (wm_B D ac mo ad) A) ([.ref mo] : List Value).toArray s 0 0 A) (F0 m 15 ls [.int t0, .ref mo]) := by
    intro t0 sc ar H locs ls hM hl hw
    unfold w3_secondShare_L15 at hw
    refine wm_callVi (As := [.int t0]) (rest := []) ⟨hx, hb, hml, hown, hts⟩ hK hN hAm hA hM (m3_fails l D ac mo ad sc ar t0 _ hw) (cwV 1 hts (lw_V q2008 q2010 qs19 q77 q2011) rfl rfl rfl hd_X3_fails ⟨Nat.le_of_ble_eq_true rfl, Nat.le_of_ble_eq_true rfl⟩) rfl hl.1 rfl (Nat.le_of_ble_eq_true rfl) dX3_secondShare_15 ⟨Nat.le_refl 0, Nat.le_refl 0⟩ (fun r3 sc1 ar2 H locs hw hM => ?_)
    refine lv_if_eq (tgt := 25) hx hb dX3_secondShare_18 (by decide) (fun c_ => ?_) (fun c_ => ?_)
    · replace hw := hw.1 c_
      refine lv_aload_n hx hb dX3_secondShare_25 rfl (lv_at hl 0 rfl) ?_
      refine wm_get hx hb hts hown hK hM 0 (by decide) q1933 (v := .ref (ad 0)) rfl dX3_secondShare_26 ?_
      refine lv_bipush (v := 6) hx hb dX3_secondShare_29 (by decide) ?_
      refine wm_ald hx hb hK hM (k := 0) rfl vi_6_125 vc_6 (v := ar2 0 6) rfl dX3_secondShare_31 ?_
      refine lv_aload_n hx hb dX3_secondShare_32 rfl (lv_at hl 0 rfl) ?_
      refine wm_get hx hb hts hown hK hM 0 (by decide) q1933 (v := .ref (ad 0)) rfl dX3_secondShare_33 ?_
      refine lv_bipush (v := 7) hx hb dX3_secondShare_36 (by decide) ?_
      refine wm_ald hx hb hK hM (k := 0) rfl vi_7_125 vc_7 (v := ar2 0 7) rfl dX3_secondShare_38 ?_
      refine lv_iadd hx hb dX3_secondShare_39 ?_
      refine lv_i2f hx hb dX3_secondShare_40 ?_
      refine lv_aload_n hx hb dX3_secondShare_41 rfl (lv_at hl 0 rfl) ?_
      refine wm_get hx hb hts hown hK hM 0 (by decide) q1933 (v := .ref (ad 0)) rfl dX3_secondShare_42 ?_
      refine lv_iconst (v := 4) hx hb dX3_secondShare_45 (by decide) ?_
      refine wm_ald hx hb hK hM (k := 0) rfl vi_4_125 vc_4 (v := ar2 0 4) rfl dX3_secondShare_46 ?_
      refine lv_i2f hx hb dX3_secondShare_47 ?_
      refine lv_fdiv hx hb dX3_secondShare_48 hw.1 ?_
      replace hw := hw.2
      exact wm_retf hx hb hr hlk hM hw dX3_secondShare_49
    · replace hw := hw.2 c_
      refine lv_fconst0 hx hb dX3_secondShare_21 ?_
      refine lv_goto (tgt := 49) hx hb dX3_secondShare_22 (by decide) ?_
      exact wm_retf hx hb hr hlk hM hw dX3_secondShare_49
  refine lv_aload_n hx hb dX3_secondShare_0 rfl (lv_at hl 0 rfl) ?_
  refine lv_aload_n hx hb dX3_secondShare_1 rfl (lv_at hl 0 rfl) ?_
  refine wm_get hx hb hts hown hK hM 0 (by decide) q1933 (v := .ref (ad 0)) rfl dX3_secondShare_2 ?_
  refine lv_iconst (v := 4) hx hb dX3_secondShare_5 (by decide) ?_
  refine wm_ald hx hb hK hM (k := 0) rfl vi_4_125 vc_4 (v := ar 0 4) rfl dX3_secondShare_6 ?_
  refine lv_if_ne (tgt := 14) hx hb dX3_secondShare_7 (by decide) (fun c_ => ?_) (fun c_ => ?_)
  · replace hw := hw.1 c_
    refine lv_iconst (v := 0) hx hb dX3_secondShare_14 (by decide) ?_
    exact hL15  0 sc ar _ _ ls hM (lv_sub hl [0] rfl) hw
  · replace hw := hw.2 c_
    refine lv_iconst (v := 1) hx hb dX3_secondShare_10 (by decide) ?_
    refine lv_goto (tgt := 15) hx hb dX3_secondShare_11 (by decide) ?_
    exact hL15  1 sc ar _ _ ls hM (lv_sub hl [0] rfl) hw
def w3_append_L59 (post : Int32 → wS1 → wS2 → Prop) (k8 : Int32 → Int32 → Int32 → Int32 → wS1 → wS2 → Prop) (x1 : Int32) (x2 : Int32) (x4 : Int32) (t0 : Int32) (t1 : Int32) (sc : wS1) (ar : wS2) : Prop := k8 x1 x2 (t1 &&& t0) (x4 + (-8)) sc ar
def w3_append_L54 (post : Int32 → wS1 → wS2 → Prop) (k8 : Int32 → Int32 → Int32 → Int32 → wS1 → wS2 → Prop) (x1 : Int32) (x2 : Int32) (x4 : Int32) (t0 : Int32) (sc : wS1) (ar : wS2) : Prop := w3_append_L59 post k8 x1 x2 x4 1 t0 sc ar
def w3_append_L34 (post : Int32 → wS1 → wS2 → Prop) (k8 : Int32 → Int32 → Int32 → Int32 → wS1 → wS2 → Prop) (x1 : Int32) (x3 : Int32) (x4 : Int32) (x5 : Int32) (t0 : Int32) (t1 : Int32) (sc : wS1) (ar : wS2) : Prop := (x5 = 0 → (w3_append_L54 post k8 x1 (t1 + t0) x4 x3 sc ar)) ∧ (¬ x5 = 0 → (w3_in (fun r4 => (r4 = 0 → (w3_append_L59 post k8 x1 (t1 + t0) x4 0 x3 sc ar)) ∧ (¬ r4 = 0 → (w3_append_L54 post k8 x1 (t1 + t0) x4 x3 sc ar))) x5 32 126))
def w3_append_L148 (post : Int32 → wS1 → wS2 → Prop) (k104 : Int32 → Int32 → wS1 → wS2 → Prop) (x1 : Int32) (x4 : Int32) (sc : wS1) (ar : wS2) : Prop := k104 x1 (x4 + (-8)) sc ar
def w3_append_L104 (post : Int32 → wS1 → wS2 → Prop) : Nat → Int32 → Int32 → wS1 → wS2 → Prop
  | 0, _, _, _, _ => False
  | n + 1, x1, x4, sc, ar => (x4 < 0 → (post (sc 11) sc ar)) ∧ (¬ x4 < 0 → ((¬ (((x1.toUInt32 >>> (x4.toUInt32 &&& Int32.toUInt32 31)).toInt32) &&& 255) = 0 → (vp_in (sc 11) 60 ∧ (w3_append_L148 post (fun x1' x4' sc' ar' => w3_append_L104 post  n x1' x4' sc' ar') x1 x4 (upd sc 11 ((sc 11) + 1)) (va_up ar 10 (upd (ar 10) (sc 11).toNatClampNeg (((x1.toUInt32 >>> (x4.toUInt32 &&& Int32.toUInt32 31)).toInt32) &&& 255)))))) ∧ ((((x1.toUInt32 >>> (x4.toUInt32 &&& Int32.toUInt32 31)).toInt32) &&& 255) = 0 → (w3_append_L148 post (fun x1' x4' sc' ar' => w3_append_L104 post  n x1' x4' sc' ar') x1 x4 sc ar))))
def w3_append_L92 (post : Int32 → wS1 → wS2 → Prop) (x1 : Int32) (t0 : Int32) (sc : wS1) (ar : wS2) : Prop := w3_fails (fun r3 sc1 ar2 => (r3 = 0 → ((∃ n, w3_append_L104 post  n x1 24 sc1 ar2))) ∧ (¬ r3 = 0 → (post 0 sc1 ar2))) sc ar t0
def w3_append_L8 (post : Int32 → wS1 → wS2 → Prop) : Nat → Int32 → Int32 → Int32 → Int32 → wS1 → wS2 → Prop
  | 0, _, _, _, _, _, _ => False
  | n + 1, x1, x2, x3, x4, sc, ar => (x4 < 0 → ((¬ x3 = 0 → ((((sc 11) + x2) ≤ 60 → (w3_append_L92 post  x1 0 sc ar)) ∧ (¬ ((sc 11) + x2) ≤ 60 → (w3_append_L92 post  x1 2 sc ar)))) ∧ (x3 = 0 → (w3_append_L92 post  x1 1 sc ar)))) ∧ (¬ x4 < 0 → ((¬ (((x1.toUInt32 >>> (x4.toUInt32 &&& Int32.toUInt32 31)).toInt32) &&& 255) = 0 → (w3_append_L34 post (fun x1' x2' x3' x4' sc' ar' => w3_append_L8 post  n x1' x2' x3' x4' sc' ar') x1 x3 x4 (((x1.toUInt32 >>> (x4.toUInt32 &&& Int32.toUInt32 31)).toInt32) &&& 255) 1 x2 sc ar)) ∧ ((((x1.toUInt32 >>> (x4.toUInt32 &&& Int32.toUInt32 31)).toInt32) &&& 255) = 0 → (w3_append_L34 post (fun x1' x2' x3' x4' sc' ar' => w3_append_L8 post  n x1' x2' x3' x4' sc' ar') x1 x3 x4 (((x1.toUInt32 >>> (x4.toUInt32 &&& Int32.toUInt32 31)).toInt32) &&& 255) 0 x2 sc ar))))
def w3_append (post : Int32 → wS1 → wS2 → Prop) (sc : wS1) (ar : wS2) (p1 : Int32) : Prop := (∃ n, w3_append_L8 post  n p1 0 1 24 sc ar)
theorem hd_X3_append : yX3_append.cls = RX3 ∧ yX3_append.cls ≠ "java/lang/invoke/MethodHandle" ∧ yX3_append.cls ≠ "java/lang/invoke/VarHandle" ∧ (parseMethodDescriptor yX3_append.desc).map (fun d => d.parameters.length) = some 1 := by decide +kernel
set_option maxHeartbeats 4000000 in
set_option maxRecDepth 100000 in
theorem m3_append (l : Launch) (D : va_G) (ac : Nat → ClassId) (mo : Nat) (ad : Nat → Nat) (sc : wS1) (ar : wS2) (p1 : Int32) (post : Int32 → wS1 → wS2 → Prop) (hw : w3_append post sc ar p1) : wm_Mi l D ac mo ad yX3_append (ws_ yX3_append cX3_append 6 (some .int)) ({ frames := 1, cells := 0, slots := 0, locals := 22 }) [.ref mo, .int p1] sc ar post := by
  refine wm_ofi (by decide) (Nat.le_of_ble_eq_true rfl) ?_
  intro p e s m below meth c A ls hx hb hr hlk hml hown hts hK hN hAm hA hM hl
  have hl : lv_has ls 6 [(0, .ref mo), (1, .int p1)] := hl
  unfold w3_append at hw
  have hL59 : ∀ (k8 : Int32 → Int32 → Int32 → Int32 → wS1 → wS2 → Prop) (hk8 : ∀ (x1 : Int32) (x2 : Int32) (x3 : Int32) (x4 : Int32) (sc : wS1) (ar : wS2) (H : Heap) (locs : List Loc) (ls : Array Slot), wm_S D ac A s.heap mo ad sc ar H locs → lv_has ls 6 [(0, .ref mo), (1, .int x1), (2, .int x2), (3, .int x3), (4, .int x4)] → k8 x1 x2 x3 x4 sc ar → W p l e (headSpec (ws_ yX3_append cX3_append 6 (some .int)) ({ frames := 1, cells := 0, slots := 0, locals := 22 })).room s m ([.ref mo, .int p1] : List Value).toArray below meth c H locs 0 0 (MQ below (va_Qi (S := wU) (fun r u => post r u.1 u.2) (wm_B D ac mo ad) A) ([.ref mo, .int p1] : List Value).toArray s 0 0 A) (F0 m 8 ls [])) (x1 : Int32) (x2 : Int32) (x4 : Int32) (t0 : Int32) (t1 : Int32) (sc : wS1) (ar : wS2) (H : Heap) (locs : List Loc) (ls : Array Slot), wm_S D ac A s.heap mo ad sc ar H locs → lv_has ls 6 [(0, .ref mo), (1, .int x1), (2, .int x2), (4, .int x4)] → w3_append_L59 post k8 x1 x2 x4 t0 t1 sc ar → W p l e (headSpec (ws_ yX3_append cX3_append 6 (some .int)) ({ frames := 1, cells := 0, slots := 0, locals := 22 })).room s m ([.ref mo, .int p1] : List Value).toArray below meth c H locs 0 0 (MQ below (va_Qi (S := wU) (fun r u => post r u.1 u.2) (wm_B D ac mo ad) A) ([.ref mo, .int p1] : List Value).toArray s 0 0 A) (F0 m 59 ls [.int t0, .int t1]) := by
    intro k8 hk8 x1 x2 x4 t0 t1 sc ar H locs ls hM hl hw
    unfold w3_append_L59 at hw
    refine lv_iand hx hb dX3_append_59 ?_
    refine lv_istore_n (lv' := [(3, .int (t1 &&& t0)), (0, .ref mo), (1, .int x1), (2, .int x2), (4, .int x4)]) hx hb dX3_append_60 rfl hl (by decide) rfl (fun ls hl => ?_)
    refine lv_iinc (v := x4 + (-8)) (lv' := [(4, .int (x4 + (-8))), (3, .int (t1 &&& t0)), (0, .ref mo), (1, .int x1), (2, .int x2)]) hx hb dX3_append_61 hl (k := 4) rfl rfl (by decide) rfl (fun ls hl => ?_)
    refine lv_goto (tgt := 8) hx hb dX3_append_64 (by decide) ?_
    exact hk8 x1 x2 (t1 &&& t0) (x4 + (-8)) sc ar _ _ ls hM (lv_sub hl [2, 3, 4, 1, 0] rfl) hw
  have hL54 : ∀ (k8 : Int32 → Int32 → Int32 → Int32 → wS1 → wS2 → Prop) (hk8 : ∀ (x1 : Int32) (x2 : Int32) (x3 : Int32) (x4 : Int32) (sc : wS1) (ar : wS2) (H : Heap) (locs : List Loc) (ls : Array Slot), wm_S D ac A s.heap mo ad sc ar H locs → lv_has ls 6 [(0, .ref mo), (1, .int x1), (2, .int x2), (3, .int x3), (4, .int x4)] → k8 x1 x2 x3 x4 sc ar → W p l e (headSpec (ws_ yX3_append cX3_append 6 (some .int)) ({ frames := 1, cells := 0, slots := 0, locals := 22 })).room s m ([.ref mo, .int p1] : List Value).toArray below meth c H locs 0 0 (MQ below (va_Qi (S := wU) (fun r u => post r u.1 u.2) (wm_B D ac mo ad) A) ([.ref mo, .int p1] : List Value).toArray s 0 0 A) (F0 m 8 ls [])) (x1 : Int32) (x2 : Int32) (x4 : Int32) (t0 : Int32) (sc : wS1) (ar : wS2) (H : Heap) (locs : List Loc) (ls : Array Slot), wm_S D ac A s.heap mo ad sc ar H locs → lv_has ls 6 [(0, .ref mo), (1, .int x1), (2, .int x2), (4, .int x4)] → w3_append_L54 post k8 x1 x2 x4 t0 sc ar → W p l e (headSpec (ws_ yX3_append cX3_append 6 (some .int)) ({ frames := 1, cells := 0, slots := 0, locals := 22 })).room s m ([.ref mo, .int p1] : List Value).toArray below meth c H locs 0 0 (MQ below (va_Qi (S := wU) (fun r u => post r u.1 u.2) (wm_B D ac mo ad) A) ([.ref mo, .int p1] : List Value).toArray s 0 0 A) (F0 m 54 ls [.int t0]) := by
    intro k8 hk8 x1 x2 x4 t0 sc ar H locs ls hM hl hw
    unfold w3_append_L54 at hw
    refine lv_iconst (v := 1) hx hb dX3_append_54 (by decide) ?_
    refine lv_goto (tgt := 59) hx hb dX3_append_55 (by decide) ?_
    exact hL59 k8 hk8 x1 x2 x4 1 t0 sc ar _ _ ls hM (lv_sub hl [0, 1, 2, 3] rfl) hw
  have hL34 : ∀ (k8 : Int32 → Int32 → Int32 → Int32 → wS1 → wS2 → Prop) (hk8 : ∀ (x1 : Int32) (x2 : Int32) (x3 : Int32) (x4 : Int32) (sc : wS1) (ar : wS2) (H : Heap) (locs : List Loc) (ls : Array Slot), wm_S D ac A s.heap mo ad sc ar H locs → lv_has ls 6 [(0, .ref mo), (1, .int x1), (2, .int x2), (3, .int x3), (4, .int x4)] → k8 x1 x2 x3 x4 sc ar → W p l e (headSpec (ws_ yX3_append cX3_append 6 (some .int)) ({ frames := 1, cells := 0, slots := 0, locals := 22 })).room s m ([.ref mo, .int p1] : List Value).toArray below meth c H locs 0 0 (MQ below (va_Qi (S := wU) (fun r u => post r u.1 u.2) (wm_B D ac mo ad) A) ([.ref mo, .int p1] : List Value).toArray s 0 0 A) (F0 m 8 ls [])) (x1 : Int32) (x3 : Int32) (x4 : Int32) (x5 : Int32) (t0 : Int32) (t1 : Int32) (sc : wS1) (ar : wS2) (H : Heap) (locs : List Loc) (ls : Array Slot), wm_S D ac A s.heap mo ad sc ar H locs → lv_has ls 6 [(0, .ref mo), (1, .int x1), (3, .int x3), (4, .int x4), (5, .int x5)] → w3_append_L34 post k8 x1 x3 x4 x5 t0 t1 sc ar → W p l e (headSpec (ws_ yX3_append cX3_append 6 (some .int)) ({ frames := 1, cells := 0, slots := 0, locals := 22 })).room s m ([.ref mo, .int p1] : List Value).toArray below meth c H locs 0 0 (MQ below (va_Qi (S := wU) (fun r u => post r u.1 u.2) (wm_B D ac mo ad) A) ([.ref mo, .int p1] : List Value).toArray s 0 0 A) (F0 m 34 ls [.int t0, .int t1]) := by
    intro k8 hk8 x1 x3 x4 x5 t0 t1 sc ar H locs ls hM hl hw
    unfold w3_append_L34 at hw
    refine lv_iadd hx hb dX3_append_34 ?_
    refine lv_istore_n (lv' := [(2, .int (t1 + t0)), (0, .ref mo), (1, .int x1), (3, .int x3), (4, .int x4), (5, .int x5)]) hx hb dX3_append_35 rfl hl (by decide) rfl (fun ls hl => ?_)
    refine lv_iload_n hx hb dX3_append_36 rfl (lv_at hl 3 rfl) ?_
    refine lv_iload hx hb dX3_append_37 (lv_at hl 5 rfl) ?_
    refine lv_if_eq (tgt := 54) hx hb dX3_append_39 (by decide) (fun c_ => ?_) (fun c_ => ?_)
    · replace hw := hw.1 c_
      exact hL54 k8 hk8 x1 (t1 + t0) x4 x3 sc ar _ _ ls hM (lv_sub hl [1, 2, 0, 4] rfl) hw
    · replace hw := hw.2 c_
      refine lv_iload hx hb dX3_append_42 (lv_at hl 5 rfl) ?_
      refine lv_bipush (v := 32) hx hb dX3_append_44 (by decide) ?_
      refine lv_bipush (v := 126) hx hb dX3_append_46 (by decide) ?_
      refine wm_callPi (As := [.int x5, .int 32, .int 126]) (rest := [.int x3]) ⟨hx, hb, hml, hown, hts⟩ hA hM (m3_in l x5 32 126 _ hw) (va_cwS 3 hts (lw_S q2005 q2006 q77 q2007) rfl rfl rfl hd_X3_in ⟨Nat.le_of_ble_eq_true rfl, Nat.le_of_ble_eq_true rfl⟩) rfl hl.1 rfl (Nat.le_of_ble_eq_true rfl) dX3_append_48 ⟨Nat.le_refl 0, Nat.le_refl 0⟩ (fun r4 H locs hw hM => ?_)
      refine lv_if_eq (tgt := 58) hx hb dX3_append_51 (by decide) (fun c_ => ?_) (fun c_ => ?_)
      · replace hw := hw.1 c_
        refine lv_iconst (v := 0) hx hb dX3_append_58 (by decide) ?_
        exact hL59 k8 hk8 x1 (t1 + t0) x4 0 x3 sc ar _ _ ls hM (lv_sub hl [1, 2, 0, 4] rfl) hw
      · replace hw := hw.2 c_
        exact hL54 k8 hk8 x1 (t1 + t0) x4 x3 sc ar _ _ ls hM (lv_sub hl [1, 2, 0, 4] rfl) hw
  have hL148 : ∀ (k104 : Int32 → Int32 → wS1 → wS2 → Prop) (hk104 : ∀ (x1 : Int32) (x4 : Int32) (sc : wS1) (ar : wS2) (H : Heap) (locs : List Loc) (ls : Array Slot), wm_S D ac A s.heap mo ad sc ar H locs → lv_has ls 6 [(0, .ref mo), (1, .int x1), (4, .int x4)] → k104 x1 x4 sc ar → W p l e (headSpec (ws_ yX3_append cX3_append 6 (some .int)) ({ frames := 1, cells := 0, slots := 0, locals := 22 })).room s m ([.ref mo, .int p1] : List Value).toArray below meth c H locs 0 0 (MQ below (va_Qi (S := wU) (fun r u => post r u.1 u.2) (wm_B D ac mo ad) A) ([.ref mo, .int p1] : List Value).toArray s 0 0 A) (F0 m 104 ls [])) (x1 : Int32) (x4 : Int32) (sc : wS1) (ar : wS2) (H : Heap) (locs : List Loc) (ls : Array Slot), wm_S D ac A s.heap mo ad sc ar H locs → lv_has ls 6 [(0, .ref mo), (1, .int x1), (4, .int x4)] → w3_append_L148 post k104 x1 x4 sc ar → W p l e (headSpec (ws_ yX3_append cX3_append 6 (some .int)) ({ frames := 1, cells := 0, slots := 0, locals := 22 })).room s m ([.ref mo, .int p1] : List Value).toArray below meth c H locs 0 0 (MQ below (va_Qi (S := wU) (fun r u => post r u.1 u.2) (wm_B D ac mo ad) A) ([.ref mo, .int p1] : List Value).toArray s 0 0 A) (F0 m 148 ls []) := by
    intro k104 hk104 x1 x4 sc ar H locs ls hM hl hw
    unfold w3_append_L148 at hw
    refine lv_iinc (v := x4 + (-8)) (lv' := [(4, .int (x4 + (-8))), (0, .ref mo), (1, .int x1)]) hx hb dX3_append_148 hl (k := 2) rfl rfl (by decide) rfl (fun ls hl => ?_)
    refine lv_goto (tgt := 104) hx hb dX3_append_151 (by decide) ?_
    exact hk104 x1 (x4 + (-8)) sc ar _ _ ls hM (lv_sub hl [1, 2, 0] rfl) hw
  have hL104 : ∀ (n : Nat) (x1 : Int32) (x4 : Int32) (sc : wS1) (ar : wS2) (H : Heap) (locs : List Loc) (ls : Array Slot), wm_S D ac A s.heap mo ad sc ar H locs → lv_has ls 6 [(0, .ref mo), (1, .int x1), (4, .int x4)] → w3_append_L104 post n x1 x4 sc ar → W p l e (headSpec (ws_ yX3_append cX3_append 6 (some .int)) ({ frames := 1, cells := 0, slots := 0, locals := 22 })).room s m ([.ref mo, .int p1] : List Value).toArray below meth c H locs 0 0 (MQ below (va_Qi (S := wU) (fun r u => post r u.1 u.2) (wm_B D ac mo ad) A) ([.ref mo, .int p1] : List Value).toArray s 0 0 A) (F0 m 104 ls []) := by
    intro n
    induction n with
    | zero => exact fun _ _ _ _ _ _ _ _ _ hw => hw.elim
    | succ n ih =>
      intro x1 x4 sc ar H locs ls hM hl hw
      unfold w3_append_L104 at hw
      refine lv_iload hx hb dX3_append_104 (lv_at hl 2 rfl) ?_
      refine lv_if_lt (tgt := 154) hx hb dX3_append_106 (by decide) (fun c_ => ?_) (fun c_ => ?_)
      · replace hw := hw.1 c_
        refine lv_aload_n hx hb dX3_append_154 rfl (lv_at hl 0 rfl) ?_
        refine wm_get hx hb hts hown hK hM 11 (by decide) q1944 (v := .int (sc 11)) rfl dX3_append_155 ?_
        exact wm_reti hx hb hr hlk hM rfl hw dX3_append_158
      · replace hw := hw.2 c_
        refine lv_iload_n hx hb dX3_append_109 rfl (lv_at hl 1 rfl) ?_
        refine lv_iload hx hb dX3_append_110 (lv_at hl 2 rfl) ?_
        refine lv_iushr (v := (x1.toUInt32 >>> (x4.toUInt32 &&& Int32.toUInt32 31)).toInt32) hx hb dX3_append_112 rfl ?_
        refine lv_sipush (v := 255) hx hb dX3_append_113 (by decide) ?_
        refine lv_iand hx hb dX3_append_116 ?_
        refine lv_istore (lv' := [(5, .int (((x1.toUInt32 >>> (x4.toUInt32 &&& Int32.toUInt32 31)).toInt32) &&& 255)), (0, .ref mo), (1, .int x1), (4, .int x4)]) hx hb dX3_append_117 hl (by decide) rfl (fun ls hl => ?_)
        refine lv_iload hx hb dX3_append_119 (lv_at hl 0 rfl) ?_
        refine lv_if_ne (tgt := 127) hx hb dX3_append_121 (by decide) (fun c_ => ?_) (fun c_ => ?_)
        · replace hw := hw.1 c_
          refine lv_aload_n hx hb dX3_append_127 rfl (lv_at hl 1 rfl) ?_
          refine wm_get hx hb hts hown hK hM 10 (by decide) q1943 (v := .ref (ad 10)) rfl dX3_append_128 ?_
          refine lv_aload_n hx hb dX3_append_131 rfl (lv_at hl 1 rfl) ?_
          refine wm_get hx hb hts hown hK hM 11 (by decide) q1944 (v := .int (sc 11)) rfl dX3_append_132 ?_
          refine lv_iload hx hb dX3_append_135 (lv_at hl 0 rfl) ?_
          refine wm_ast hx hb hK hN hAm hM (k := 10) rfl hw.1 rfl (f := ar 10) rfl dX3_append_137 (fun H locs hM => ?_)
          replace hw := hw.2
          refine lv_aload_n hx hb dX3_append_138 rfl (lv_at hl 1 rfl) ?_
          refine lv_dup hx hb dX3_append_139 rfl ?_
          refine wm_get hx hb hts hown hK hM 11 (by decide) q1944 (v := .int (sc 11)) rfl dX3_append_140 ?_
          refine lv_iconst (v := 1) hx hb dX3_append_143 (by decide) ?_
          refine lv_iadd hx hb dX3_append_144 ?_
          refine wm_put hx hb hts hown hK hN hAm hM 11 (by decide) rfl q1944 rfl rfl rfl dX3_append_145 (fun H locs hM => ?_)
          exact hL148 (fun x1' x4' sc' ar' => w3_append_L104 post  n x1' x4' sc' ar') (fun x1' x4' sc' ar' H locs ls hM hl hw => ih x1' x4' sc' ar' H locs ls hM hl hw) x1 x4 (upd sc 11 ((sc 11) + 1)) (va_up ar 10 (upd (ar 10) (sc 11).toNatClampNeg (((x1.toUInt32 >>> (x4.toUInt32 &&& Int32.toUInt32 31)).toInt32) &&& 255))) _ _ ls hM (lv_sub hl [1, 2, 3] rfl) hw
        · replace hw := hw.2 c_
          refine lv_goto (tgt := 148) hx hb dX3_append_124 (by decide) ?_
          exact hL148 (fun x1' x4' sc' ar' => w3_append_L104 post  n x1' x4' sc' ar') (fun x1' x4' sc' ar' H locs ls hM hl hw => ih x1' x4' sc' ar' H locs ls hM hl hw) x1 x4 sc ar _ _ ls hM (lv_sub hl [1, 2, 3] rfl) hw
  have hL92 : ∀ (x1 : Int32) (t0 : Int32) (sc : wS1) (ar : wS2) (H : Heap) (locs : List Loc) (ls : Array Slot), wm_S D ac A s.heap mo ad sc ar H locs → lv_has ls 6 [(0, .ref mo), (1, .int x1)] → w3_append_L92 post x1 t0 sc ar → W p l e (headSpec (ws_ yX3_append cX3_append 6 (some .int)) ({ frames := 1, cells := 0, slots := 0, locals := 22 })).room s m ([.ref mo, .int p1] : List Value).toArray below meth c H locs 0 0 (MQ below (va_Qi (S := wU) (fun r u => post r u.1 u.2) (wm_B D ac mo ad) A) ([.ref mo, .int p1] : List Value).toArray s 0 0 A) (F0 m 92 ls [.int t0, .ref mo]) := by
    intro x1 t0 sc ar H locs ls hM hl hw
    unfold w3_append_L92 at hw
    refine wm_callVi (As := [.int t0]) (rest := []) ⟨hx, hb, hml, hown, hts⟩ hK hN hAm hA hM (m3_fails l D ac mo ad sc ar t0 _ hw) (cwV 1 hts (lw_V q2008 q2010 qs19 q77 q2011) rfl rfl rfl hd_X3_fails ⟨Nat.le_of_ble_eq_true rfl, Nat.le_of_ble_eq_true rfl⟩) rfl hl.1 rfl (Nat.le_of_ble_eq_true rfl) dX3_append_92 ⟨Nat.le_refl 0, Nat.le_refl 0⟩ (fun r3 sc1 ar2 H locs hw hM => ?_)
    refine lv_if_eq (tgt := 100) hx hb dX3_append_95 (by decide) (fun c_ => ?_) (fun c_ => ?_)
    · replace hw := hw.1 c_
      refine lv_bipush (v := 24) hx hb dX3_append_100 (by decide) ?_
      refine lv_istore (lv' := [(4, .int 24), (0, .ref mo), (1, .int x1)]) hx hb dX3_append_102 hl (by decide) rfl (fun ls hl => ?_)
      obtain ⟨n0, hw⟩ := hw
      exact hL104  n0 x1 24 sc1 ar2 _ _ ls hM (lv_sub hl [1, 2, 0] rfl) hw
    · replace hw := hw.2 c_
      refine lv_iconst (v := 0) hx hb dX3_append_98 (by decide) ?_
      exact wm_reti hx hb hr hlk hM rfl hw dX3_append_99
  have hL8 : ∀ (n : Nat) (x1 : Int32) (x2 : Int32) (x3 : Int32) (x4 : Int32) (sc : wS1) (ar : wS2) (H : Heap) (locs : List Loc) (ls : Array Slot), wm_S D ac A s.heap mo ad sc ar H locs → lv_has ls 6 [(0, .ref mo), (1, .int x1), (2, .int x2), (3, .int x3), (4, .int x4)] → w3_append_L8 post n x1 x2 x3 x4 sc ar → W p l e (headSpec (ws_ yX3_append cX3_append 6 (some .int)) ({ frames := 1, cells := 0, slots := 0, locals := 22 })).room s m ([.ref mo, .int p1] : List Value).toArray below meth c H locs 0 0 (MQ below (va_Qi (S := wU) (fun r u => post r u.1 u.2) (wm_B D ac mo ad) A) ([.ref mo, .int p1] : List Value).toArray s 0 0 A) (F0 m 8 ls []) := by
    intro n
    induction n with
    | zero => exact fun _ _ _ _ _ _ _ _ _ _ _ hw => hw.elim
    | succ n ih =>
      intro x1 x2 x3 x4 sc ar H locs ls hM hl hw
      unfold w3_append_L8 at hw
      refine lv_iload hx hb dX3_append_8 (lv_at hl 4 rfl) ?_
      refine lv_if_lt (tgt := 67) hx hb dX3_append_10 (by decide) (fun c_ => ?_) (fun c_ => ?_)
      · replace hw := hw.1 c_
        refine lv_aload_n hx hb dX3_append_67 rfl (lv_at hl 0 rfl) ?_
        refine lv_iload_n hx hb dX3_append_68 rfl (lv_at hl 3 rfl) ?_
        refine lv_if_ne (tgt := 76) hx hb dX3_append_69 (by decide) (fun c_ => ?_) (fun c_ => ?_)
        · replace hw := hw.1 c_
          refine lv_aload_n hx hb dX3_append_76 rfl (lv_at hl 0 rfl) ?_
          refine wm_get hx hb hts hown hK hM 11 (by decide) q1944 (v := .int (sc 11)) rfl dX3_append_77 ?_
          refine lv_iload_n hx hb dX3_append_80 rfl (lv_at hl 2 rfl) ?_
          refine lv_iadd hx hb dX3_append_81 ?_
          refine lv_bipush (v := 60) hx hb dX3_append_82 (by decide) ?_
          refine lv_icmp_le (tgt := 91) hx hb dX3_append_84 (by decide) (fun c_ => ?_) (fun c_ => ?_)
          · replace hw := hw.1 c_
            refine lv_iconst (v := 0) hx hb dX3_append_91 (by decide) ?_
            exact hL92  x1 0 sc ar _ _ ls hM (lv_sub hl [0, 1] rfl) hw
          · replace hw := hw.2 c_
            refine lv_iconst (v := 2) hx hb dX3_append_87 (by decide) ?_
            refine lv_goto (tgt := 92) hx hb dX3_append_88 (by decide) ?_
            exact hL92  x1 2 sc ar _ _ ls hM (lv_sub hl [0, 1] rfl) hw
        · replace hw := hw.2 c_
          refine lv_iconst (v := 1) hx hb dX3_append_72 (by decide) ?_
          refine lv_goto (tgt := 92) hx hb dX3_append_73 (by decide) ?_
          exact hL92  x1 1 sc ar _ _ ls hM (lv_sub hl [0, 1] rfl) hw
      · replace hw := hw.2 c_
        refine lv_iload_n hx hb dX3_append_13 rfl (lv_at hl 1 rfl) ?_
        refine lv_iload hx hb dX3_append_14 (lv_at hl 4 rfl) ?_
        refine lv_iushr (v := (x1.toUInt32 >>> (x4.toUInt32 &&& Int32.toUInt32 31)).toInt32) hx hb dX3_append_16 rfl ?_
        refine lv_sipush (v := 255) hx hb dX3_append_17 (by decide) ?_
        refine lv_iand hx hb dX3_append_20 ?_
        refine lv_istore (lv' := [(5, .int (((x1.toUInt32 >>> (x4.toUInt32 &&& Int32.toUInt32 31)).toInt32) &&& 255)), (0, .ref mo), (1, .int x1), (2, .int x2), (3, .int x3), (4, .int x4)]) hx hb dX3_append_21 hl (by decide) rfl (fun ls hl => ?_)
        refine lv_iload_n hx hb dX3_append_23 rfl (lv_at hl 3 rfl) ?_
        refine lv_iload hx hb dX3_append_24 (lv_at hl 0 rfl) ?_
        refine lv_if_ne (tgt := 33) hx hb dX3_append_26 (by decide) (fun c_ => ?_) (fun c_ => ?_)
        · replace hw := hw.1 c_
          refine lv_iconst (v := 1) hx hb dX3_append_33 (by decide) ?_
          exact hL34 (fun x1' x2' x3' x4' sc' ar' => w3_append_L8 post  n x1' x2' x3' x4' sc' ar') (fun x1' x2' x3' x4' sc' ar' H locs ls hM hl hw => ih x1' x2' x3' x4' sc' ar' H locs ls hM hl hw) x1 x3 x4 (((x1.toUInt32 >>> (x4.toUInt32 &&& Int32.toUInt32 31)).toInt32) &&& 255) 1 x2 sc ar _ _ ls hM (lv_sub hl [1, 2, 4, 5, 0] rfl) hw
        · replace hw := hw.2 c_
          refine lv_iconst (v := 0) hx hb dX3_append_29 (by decide) ?_
          refine lv_goto (tgt := 34) hx hb dX3_append_30 (by decide) ?_
          exact hL34 (fun x1' x2' x3' x4' sc' ar' => w3_append_L8 post  n x1' x2' x3' x4' sc' ar') (fun x1' x2' x3' x4' sc' ar' H locs ls hM hl hw => ih x1' x2' x3' x4' sc' ar' H locs ls hM hl hw) x1 x3 x4 (((x1.toUInt32 >>> (x4.toUInt32 &&& Int32.toUInt32 31)).toInt32) &&& 255) 0 x2 sc ar _ _ ls hM (lv_sub hl [1, 2, 4, 5, 0] rfl) hw
  refine lv_iconst (v := 0) hx hb dX3_append_0 (by decide) ?_
  refine lv_istore_n (lv' := [(2, .int 0), (0, .ref mo), (1, .int p1)]) hx hb dX3_append_1 rfl hl (by decide) rfl (fun ls hl => ?_)
  refine lv_iconst (v := 1) hx hb dX3_append_2 (by decide) ?_
  refine lv_istore_n (lv' := [(3, .int 1), (2, .int 0), (0, .ref mo), (1, .int p1)]) hx hb dX3_append_3 rfl hl (by decide) rfl (fun ls hl => ?_)
  refine lv_bipush (v := 24) hx hb dX3_append_4 (by decide) ?_
  refine lv_istore (lv' := [(4, .int 24), (3, .int 1), (2, .int 0), (0, .ref mo), (1, .int p1)]) hx hb dX3_append_6 hl (by decide) rfl (fun ls hl => ?_)
  obtain ⟨n0, hw⟩ := hw
  exact hL8  n0 p1 0 1 24 sc ar _ _ ls hM (lv_sub hl [3, 4, 2, 1, 0] rfl) hw
def w3_here (post : Int32 → wS1 → wS2 → Prop) (sc : wS1) (ar : wS2)  : Prop := ((sc 11) ≤ (sc 16) → (post (-1) sc ar)) ∧ (¬ (sc 11) ≤ (sc 16) → (vp_in (sc 16) 60 ∧ (post (ar 10 (sc 16).toNatClampNeg) sc ar)))
theorem hd_X3_here : yX3_here.cls = RX3 ∧ yX3_here.cls ≠ "java/lang/invoke/MethodHandle" ∧ yX3_here.cls ≠ "java/lang/invoke/VarHandle" ∧ (parseMethodDescriptor yX3_here.desc).map (fun d => d.parameters.length) = some 0 := by decide +kernel
set_option maxHeartbeats 4000000 in
set_option maxRecDepth 100000 in
theorem m3_here (l : Launch) (D : va_G) (ac : Nat → ClassId) (mo : Nat) (ad : Nat → Nat) (sc : wS1) (ar : wS2)  (post : Int32 → wS1 → wS2 → Prop) (hw : w3_here post sc ar ) : wm_Mi l D ac mo ad yX3_here (ws_ yX3_here cX3_here 1 (some .int)) ({ frames := 0, cells := 0, slots := 0, locals := 0 }) [.ref mo] sc ar post := by
  refine wm_ofi (by decide) (Nat.le_of_ble_eq_true rfl) ?_
  intro p e s m below meth c A ls hx hb hr hlk hml hown hts hK hN hAm hA hM hl
  have hl : lv_has ls 1 [(0, .ref mo)] := hl
  unfold w3_here at hw
  refine lv_aload_n hx hb dX3_here_0 rfl (lv_at hl 0 rfl) ?_
  refine wm_get hx hb hts hown hK hM 16 (by decide) q1949 (v := .int (sc 16)) rfl dX3_here_1 ?_
  refine lv_aload_n hx hb dX3_here_4 rfl (lv_at hl 0 rfl) ?_
  refine wm_get hx hb hts hown hK hM 11 (by decide) q1944 (v := .int (sc 11)) rfl dX3_here_5 ?_
  refine lv_icmp_ge (tgt := 23) hx hb dX3_here_8 (by decide) (fun c_ => ?_) (fun c_ => ?_)
  · replace hw := hw.1 c_
    refine lv_iconst (v := (-1)) hx hb dX3_here_23 (by decide) ?_
    exact wm_reti hx hb hr hlk hM rfl hw dX3_here_24
  · replace hw := hw.2 c_
    refine lv_aload_n hx hb dX3_here_11 rfl (lv_at hl 0 rfl) ?_
    refine wm_get hx hb hts hown hK hM 10 (by decide) q1943 (v := .ref (ad 10)) rfl dX3_here_12 ?_
    refine lv_aload_n hx hb dX3_here_15 rfl (lv_at hl 0 rfl) ?_
    refine wm_get hx hb hts hown hK hM 16 (by decide) q1949 (v := .int (sc 16)) rfl dX3_here_16 ?_
    refine wm_ald hx hb hK hM (k := 10) rfl hw.1 rfl (v := ar 10 (sc 16).toNatClampNeg) rfl dX3_here_19 ?_
    replace hw := hw.2
    refine lv_goto (tgt := 24) hx hb dX3_here_20 (by decide) ?_
    exact wm_reti hx hb hr hlk hM rfl hw dX3_here_24
def w3_skips (post : Int32 → wS1 → wS2 → Prop) (sc : wS1) (ar : wS2) (p1 : Int32) : Prop := w3_here (fun r3 sc1 ar2 => (r3 = p1 → (post 1 (upd sc1 16 ((sc1 16) + 1)) ar2)) ∧ (¬ r3 = p1 → (post 0 sc1 ar2))) sc ar 
theorem hd_X3_skips : yX3_skips.cls = RX3 ∧ yX3_skips.cls ≠ "java/lang/invoke/MethodHandle" ∧ yX3_skips.cls ≠ "java/lang/invoke/VarHandle" ∧ (parseMethodDescriptor yX3_skips.desc).map (fun d => d.parameters.length) = some 1 := by decide +kernel
set_option maxHeartbeats 4000000 in
set_option maxRecDepth 100000 in
theorem m3_skips (l : Launch) (D : va_G) (ac : Nat → ClassId) (mo : Nat) (ad : Nat → Nat) (sc : wS1) (ar : wS2) (p1 : Int32) (post : Int32 → wS1 → wS2 → Prop) (hw : w3_skips post sc ar p1) : wm_Mi l D ac mo ad yX3_skips (ws_ yX3_skips cX3_skips 2 (some .boolean)) ({ frames := 1, cells := 0, slots := 0, locals := 20 }) [.ref mo, .int p1] sc ar post := by
  refine wm_ofi (by decide) (Nat.le_of_ble_eq_true rfl) ?_
  intro p e s m below meth c A ls hx hb hr hlk hml hown hts hK hN hAm hA hM hl
  have hl : lv_has ls 2 [(0, .ref mo), (1, .int p1)] := hl
  unfold w3_skips at hw
  refine lv_aload_n hx hb dX3_skips_0 rfl (lv_at hl 0 rfl) ?_
  refine wm_callVi (As := []) (rest := []) ⟨hx, hb, hml, hown, hts⟩ hK hN hAm hA hM (m3_here l D ac mo ad sc ar  _ hw) (cwV 0 hts (lw_V q2265 q2267 qs49 q77 q2268) rfl rfl rfl hd_X3_here ⟨Nat.le_of_ble_eq_true rfl, Nat.le_of_ble_eq_true rfl⟩) rfl hl.1 rfl (Nat.le_of_ble_eq_true rfl) dX3_skips_1 ⟨Nat.le_refl 0, Nat.le_refl 0⟩ (fun r3 sc1 ar2 H locs hw hM => ?_)
  refine lv_iload_n hx hb dX3_skips_4 rfl (lv_at hl 1 rfl) ?_
  refine lv_icmp_eq (tgt := 10) hx hb dX3_skips_5 (by decide) (fun c_ => ?_) (fun c_ => ?_)
  · replace hw := hw.1 c_
    refine lv_aload_n hx hb dX3_skips_10 rfl (lv_at hl 0 rfl) ?_
    refine lv_dup hx hb dX3_skips_11 rfl ?_
    refine wm_get hx hb hts hown hK hM 16 (by decide) q1949 (v := .int (sc1 16)) rfl dX3_skips_12 ?_
    refine lv_iconst (v := 1) hx hb dX3_skips_15 (by decide) ?_
    refine lv_iadd hx hb dX3_skips_16 ?_
    refine wm_put hx hb hts hown hK hN hAm hM 16 (by decide) rfl q1949 rfl rfl rfl dX3_skips_17 (fun H locs hM => ?_)
    refine lv_iconst (v := 1) hx hb dX3_skips_20 (by decide) ?_
    exact wm_reti hx hb hr hlk hM rfl hw dX3_skips_21
  · replace hw := hw.2 c_
    refine lv_iconst (v := 0) hx hb dX3_skips_8 (by decide) ?_
    exact wm_reti hx hb hr hlk hM rfl hw dX3_skips_9
def w3_digit (post : Int32 → wS1 → wS2 → Prop) (sc : wS1) (ar : wS2) (p1 : Int32) : Prop := w3_here (fun r3 sc1 ar2 => w3_in (fun r4 => (¬ r4 = 0 → (w3_here (fun r7 sc5 ar6 => vp_in p1 128 ∧ (post 1 (upd sc5 16 ((sc5 16) + 1)) (va_up ar6 17 (upd (ar6 17) p1.toNatClampNeg (r7 - 48))))) sc1 ar2 )) ∧ (r4 = 0 → (post 0 sc1 ar2))) r3 48 57) sc ar 
theorem hd_X3_digit : yX3_digit.cls = RX3 ∧ yX3_digit.cls ≠ "java/lang/invoke/MethodHandle" ∧ yX3_digit.cls ≠ "java/lang/invoke/VarHandle" ∧ (parseMethodDescriptor yX3_digit.desc).map (fun d => d.parameters.length) = some 1 := by decide +kernel
set_option maxHeartbeats 4000000 in
set_option maxRecDepth 100000 in
theorem m3_digit (l : Launch) (D : va_G) (ac : Nat → ClassId) (mo : Nat) (ad : Nat → Nat) (sc : wS1) (ar : wS2) (p1 : Int32) (post : Int32 → wS1 → wS2 → Prop) (hw : w3_digit post sc ar p1) : wm_Mi l D ac mo ad yX3_digit (ws_ yX3_digit cX3_digit 2 (some .boolean)) ({ frames := 1, cells := 0, slots := 0, locals := 22 }) [.ref mo, .int p1] sc ar post := by
  refine wm_ofi (by decide) (Nat.le_of_ble_eq_true rfl) ?_
  intro p e s m below meth c A ls hx hb hr hlk hml hown hts hK hN hAm hA hM hl
  have hl : lv_has ls 2 [(0, .ref mo), (1, .int p1)] := hl
  unfold w3_digit at hw
  refine lv_aload_n hx hb dX3_digit_0 rfl (lv_at hl 0 rfl) ?_
  refine wm_callVi (As := []) (rest := []) ⟨hx, hb, hml, hown, hts⟩ hK hN hAm hA hM (m3_here l D ac mo ad sc ar  _ hw) (cwV 0 hts (lw_V q2265 q2267 qs49 q77 q2268) rfl rfl rfl hd_X3_here ⟨Nat.le_of_ble_eq_true rfl, Nat.le_of_ble_eq_true rfl⟩) rfl hl.1 rfl (Nat.le_of_ble_eq_true rfl) dX3_digit_1 ⟨Nat.le_refl 0, Nat.le_refl 0⟩ (fun r3 sc1 ar2 H locs hw hM => ?_)
  refine lv_bipush (v := 48) hx hb dX3_digit_4 (by decide) ?_
  refine lv_bipush (v := 57) hx hb dX3_digit_6 (by decide) ?_
  refine wm_callPi (As := [.int r3, .int 48, .int 57]) (rest := []) ⟨hx, hb, hml, hown, hts⟩ hA hM (m3_in l r3 48 57 _ hw) (va_cwS 3 hts (lw_S q2005 q2006 q77 q2007) rfl rfl rfl hd_X3_in ⟨Nat.le_of_ble_eq_true rfl, Nat.le_of_ble_eq_true rfl⟩) rfl hl.1 rfl (Nat.le_of_ble_eq_true rfl) dX3_digit_8 ⟨Nat.le_refl 0, Nat.le_refl 0⟩ (fun r4 H locs hw hM => ?_)
  refine lv_if_ne (tgt := 16) hx hb dX3_digit_11 (by decide) (fun c_ => ?_) (fun c_ => ?_)
  · replace hw := hw.1 c_
    refine lv_aload_n hx hb dX3_digit_16 rfl (lv_at hl 0 rfl) ?_
    refine wm_get hx hb hts hown hK hM 17 (by decide) q1950 (v := .ref (ad 17)) rfl dX3_digit_17 ?_
    refine lv_iload_n hx hb dX3_digit_20 rfl (lv_at hl 1 rfl) ?_
    refine lv_aload_n hx hb dX3_digit_21 rfl (lv_at hl 0 rfl) ?_
    refine wm_callVi (As := []) (rest := [.int p1, .ref (ad 17)]) ⟨hx, hb, hml, hown, hts⟩ hK hN hAm hA hM (m3_here l D ac mo ad sc1 ar2  _ hw) (cwV 0 hts (lw_V q2265 q2267 qs49 q77 q2268) rfl rfl rfl hd_X3_here ⟨Nat.le_of_ble_eq_true rfl, Nat.le_of_ble_eq_true rfl⟩) rfl hl.1 rfl (Nat.le_of_ble_eq_true rfl) dX3_digit_22 ⟨Nat.le_refl 0, Nat.le_refl 0⟩ (fun r7 sc5 ar6 H locs hw hM => ?_)
    refine lv_bipush (v := 48) hx hb dX3_digit_25 (by decide) ?_
    refine lv_isub hx hb dX3_digit_27 ?_
    refine wm_ast hx hb hK hN hAm hM (k := 17) rfl hw.1 rfl (f := ar6 17) rfl dX3_digit_28 (fun H locs hM => ?_)
    replace hw := hw.2
    refine lv_aload_n hx hb dX3_digit_29 rfl (lv_at hl 0 rfl) ?_
    refine lv_dup hx hb dX3_digit_30 rfl ?_
    refine wm_get hx hb hts hown hK hM 16 (by decide) q1949 (v := .int (sc5 16)) rfl dX3_digit_31 ?_
    refine lv_iconst (v := 1) hx hb dX3_digit_34 (by decide) ?_
    refine lv_iadd hx hb dX3_digit_35 ?_
    refine wm_put hx hb hts hown hK hN hAm hM 16 (by decide) rfl q1949 rfl rfl rfl dX3_digit_36 (fun H locs hM => ?_)
    refine lv_iconst (v := 1) hx hb dX3_digit_39 (by decide) ?_
    exact wm_reti hx hb hr hlk hM rfl hw dX3_digit_40
  · replace hw := hw.2 c_
    refine lv_iconst (v := 0) hx hb dX3_digit_14 (by decide) ?_
    exact wm_reti hx hb hr hlk hM rfl hw dX3_digit_15
def w3_errorPosition_L13 (post : Int32 → wS1 → wS2 → Prop) (t0 : Int32) (sc : wS1) (ar : wS2) : Prop := w3_fails (fun r3 sc1 ar2 => (r3 = 0 → (post (sc1 12) sc1 ar2)) ∧ (¬ r3 = 0 → (post 0 sc1 ar2))) sc ar t0
def w3_errorPosition (post : Int32 → wS1 → wS2 → Prop) (sc : wS1) (ar : wS2)  : Prop := (0 ≤ (sc 12) → (w3_errorPosition_L13 post  0 sc ar)) ∧ (¬ 0 ≤ (sc 12) → (w3_errorPosition_L13 post  1 sc ar))
theorem hd_X3_errorPosition : yX3_errorPosition.cls = RX3 ∧ yX3_errorPosition.cls ≠ "java/lang/invoke/MethodHandle" ∧ yX3_errorPosition.cls ≠ "java/lang/invoke/VarHandle" ∧ (parseMethodDescriptor yX3_errorPosition.desc).map (fun d => d.parameters.length) = some 0 := by decide +kernel
set_option maxHeartbeats 4000000 in
set_option maxRecDepth 100000 in
theorem m3_errorPosition (l : Launch) (D : va_G) (ac : Nat → ClassId) (mo : Nat) (ad : Nat → Nat) (sc : wS1) (ar : wS2)  (post : Int32 → wS1 → wS2 → Prop) (hw : w3_errorPosition post sc ar ) : wm_Mi l D ac mo ad yX3_errorPosition (ws_ yX3_errorPosition cX3_errorPosition 1 (some .int)) ({ frames := 1, cells := 0, slots := 0, locals := 21 }) [.ref mo] sc ar post := by
  refine wm_ofi (by decide) (Nat.le_of_ble_eq_true rfl) ?_
  intro p e s m below meth c A ls hx hb hr hlk hml hown hts hK hN hAm hA hM hl
  have hl : lv_has ls 1 [(0, .ref mo)] := hl
  unfold w3_errorPosition at hw
  have hL13 : ∀ (t0 : Int32) (sc : wS1) (ar : wS2) (H : Heap) (locs : List Loc) (ls : Array Slot), wm_S D ac A s.heap mo ad sc ar H locs → lv_has ls 1 [(0, .ref mo)] → w3_errorPosition_L13 post t0 sc ar → W p l e (headSpec (ws_ yX3_errorPosition cX3_errorPosition 1 (some .int)) ({ frames := 1, cells := 0, slots := 0, locals := 21 })).room s m ([.ref mo] : List Value).toArray below meth c H locs 0 0 (MQ below (va_Qi (S := wU) (fun r u => post r u.1 u.2) (wm_B D ac mo ad) A) ([.ref mo] : List Value).toArray s 0 0 A) (F0 m 13 ls [.int t0, .ref mo]) := by
    intro t0 sc ar H locs ls hM hl hw
    unfold w3_errorPosition_L13 at hw
    refine wm_callVi (As := [.int t0]) (rest := []) ⟨hx, hb, hml, hown, hts⟩ hK hN hAm hA hM (m3_fails l D ac mo ad sc ar t0 _ hw) (cwV 1 hts (lw_V q2008 q2010 qs19 q77 q2011) rfl rfl rfl hd_X3_fails ⟨Nat.le_of_ble_eq_true rfl, Nat.le_of_ble_eq_true rfl⟩) rfl hl.1 rfl (Nat.le_of_ble_eq_true rfl) dX3_errorPosition_13 ⟨Nat.le_refl 0, Nat.le_refl 0⟩ (fun r3 sc1 ar2 H locs hw hM => ?_)
    refine lv_if_eq (tgt := 23) hx hb dX3_errorPosition_16 (by decide) (fun c_ => ?_) (fun c_ => ?_)
    · replace hw := hw.1 c_
      refine lv_aload_n hx hb dX3_errorPosition_23 rfl (lv_at hl 0 rfl) ?_
      refine wm_get hx hb hts hown hK hM 12 (by decide) q1945 (v := .int (sc1 12)) rfl dX3_errorPosition_24 ?_
      exact wm_reti hx hb hr hlk hM rfl hw dX3_errorPosition_27
    · replace hw := hw.2 c_
      refine lv_iconst (v := 0) hx hb dX3_errorPosition_19 (by decide) ?_
      refine lv_goto (tgt := 27) hx hb dX3_errorPosition_20 (by decide) ?_
      exact wm_reti hx hb hr hlk hM rfl hw dX3_errorPosition_27
  refine lv_aload_n hx hb dX3_errorPosition_0 rfl (lv_at hl 0 rfl) ?_
  refine lv_aload_n hx hb dX3_errorPosition_1 rfl (lv_at hl 0 rfl) ?_
  refine wm_get hx hb hts hown hK hM 12 (by decide) q1945 (v := .int (sc 12)) rfl dX3_errorPosition_2 ?_
  refine lv_if_ge (tgt := 12) hx hb dX3_errorPosition_5 (by decide) (fun c_ => ?_) (fun c_ => ?_)
  · replace hw := hw.1 c_
    refine lv_iconst (v := 0) hx hb dX3_errorPosition_12 (by decide) ?_
    exact hL13  0 sc ar _ _ ls hM (lv_sub hl [0] rfl) hw
  · replace hw := hw.2 c_
    refine lv_iconst (v := 1) hx hb dX3_errorPosition_8 (by decide) ?_
    refine lv_goto (tgt := 13) hx hb dX3_errorPosition_9 (by decide) ?_
    exact hL13  1 sc ar _ _ ls hM (lv_sub hl [0] rfl) hw
def w3_refusedItem_L13 (post : Int32 → wS1 → wS2 → Prop) (t0 : Int32) (sc : wS1) (ar : wS2) : Prop := w3_fails (fun r3 sc1 ar2 => (r3 = 0 → (post (sc1 13) sc1 ar2)) ∧ (¬ r3 = 0 → (post 0 sc1 ar2))) sc ar t0
def w3_refusedItem (post : Int32 → wS1 → wS2 → Prop) (sc : wS1) (ar : wS2)  : Prop := (0 ≤ (sc 13) → (w3_refusedItem_L13 post  0 sc ar)) ∧ (¬ 0 ≤ (sc 13) → (w3_refusedItem_L13 post  1 sc ar))
theorem hd_X3_refusedItem : yX3_refusedItem.cls = RX3 ∧ yX3_refusedItem.cls ≠ "java/lang/invoke/MethodHandle" ∧ yX3_refusedItem.cls ≠ "java/lang/invoke/VarHandle" ∧ (parseMethodDescriptor yX3_refusedItem.desc).map (fun d => d.parameters.length) = some 0 := by decide +kernel
set_option maxHeartbeats 4000000 in
set_option maxRecDepth 100000 in
theorem m3_refusedItem (l : Launch) (D : va_G) (ac : Nat → ClassId) (mo : Nat) (ad : Nat → Nat) (sc : wS1) (ar : wS2)  (post : Int32 → wS1 → wS2 → Prop) (hw : w3_refusedItem post sc ar ) : wm_Mi l D ac mo ad yX3_refusedItem (ws_ yX3_refusedItem cX3_refusedItem 1 (some .int)) ({ frames := 1, cells := 0, slots := 0, locals := 21 }) [.ref mo] sc ar post := by
  refine wm_ofi (by decide) (Nat.le_of_ble_eq_true rfl) ?_
  intro p e s m below meth c A ls hx hb hr hlk hml hown hts hK hN hAm hA hM hl
  have hl : lv_has ls 1 [(0, .ref mo)] := hl
  unfold w3_refusedItem at hw
  have hL13 : ∀ (t0 : Int32) (sc : wS1) (ar : wS2) (H : Heap) (locs : List Loc) (ls : Array Slot), wm_S D ac A s.heap mo ad sc ar H locs → lv_has ls 1 [(0, .ref mo)] → w3_refusedItem_L13 post t0 sc ar → W p l e (headSpec (ws_ yX3_refusedItem cX3_refusedItem 1 (some .int)) ({ frames := 1, cells := 0, slots := 0, locals := 21 })).room s m ([.ref mo] : List Value).toArray below meth c H locs 0 0 (MQ below (va_Qi (S := wU) (fun r u => post r u.1 u.2) (wm_B D ac mo ad) A) ([.ref mo] : List Value).toArray s 0 0 A) (F0 m 13 ls [.int t0, .ref mo]) := by
    intro t0 sc ar H locs ls hM hl hw
    unfold w3_refusedItem_L13 at hw
    refine wm_callVi (As := [.int t0]) (rest := []) ⟨hx, hb, hml, hown, hts⟩ hK hN hAm hA hM (m3_fails l D ac mo ad sc ar t0 _ hw) (cwV 1 hts (lw_V q2008 q2010 qs19 q77 q2011) rfl rfl rfl hd_X3_fails ⟨Nat.le_of_ble_eq_true rfl, Nat.le_of_ble_eq_true rfl⟩) rfl hl.1 rfl (Nat.le_of_ble_eq_true rfl) dX3_refusedItem_13 ⟨Nat.le_refl 0, Nat.le_refl 0⟩ (fun r3 sc1 ar2 H locs hw hM => ?_)
    refine lv_if_eq (tgt := 23) hx hb dX3_refusedItem_16 (by decide) (fun c_ => ?_) (fun c_ => ?_)
    · replace hw := hw.1 c_
      refine lv_aload_n hx hb dX3_refusedItem_23 rfl (lv_at hl 0 rfl) ?_
      refine wm_get hx hb hts hown hK hM 13 (by decide) q1946 (v := .int (sc1 13)) rfl dX3_refusedItem_24 ?_
      exact wm_reti hx hb hr hlk hM rfl hw dX3_refusedItem_27
    · replace hw := hw.2 c_
      refine lv_iconst (v := 0) hx hb dX3_refusedItem_19 (by decide) ?_
      refine lv_goto (tgt := 27) hx hb dX3_refusedItem_20 (by decide) ?_
      exact wm_reti hx hb hr hlk hM rfl hw dX3_refusedItem_27
  refine lv_aload_n hx hb dX3_refusedItem_0 rfl (lv_at hl 0 rfl) ?_
  refine lv_aload_n hx hb dX3_refusedItem_1 rfl (lv_at hl 0 rfl) ?_
  refine wm_get hx hb hts hown hK hM 13 (by decide) q1946 (v := .int (sc 13)) rfl dX3_refusedItem_2 ?_
  refine lv_if_ge (tgt := 12) hx hb dX3_refusedItem_5 (by decide) (fun c_ => ?_) (fun c_ => ?_)
  · replace hw := hw.1 c_
    refine lv_iconst (v := 0) hx hb dX3_refusedItem_12 (by decide) ?_
    exact hL13  0 sc ar _ _ ls hM (lv_sub hl [0] rfl) hw
  · replace hw := hw.2 c_
    refine lv_iconst (v := 1) hx hb dX3_refusedItem_8 (by decide) ?_
    refine lv_goto (tgt := 13) hx hb dX3_refusedItem_9 (by decide) ?_
    exact hL13  1 sc ar _ _ ls hM (lv_sub hl [0] rfl) hw
def w3_undo_L13 (post : Int32 → wS1 → wS2 → Prop) (t0 : Int32) (sc : wS1) (ar : wS2) : Prop := w3_fails (fun r3 sc1 ar2 => (r3 = 0 → (w3_copies (fun sc4 ar5 => post (sc4 5) sc4 ar5) (upd sc1 5 ((sc1 5) - 1)) ar2 1 (125 * ((sc1 5) - 1)) 0 0)) ∧ (¬ r3 = 0 → (post 0 sc1 ar2))) sc ar t0
def w3_undo (post : Int32 → wS1 → wS2 → Prop) (sc : wS1) (ar : wS2)  : Prop := (¬ (sc 5) = 0 → (w3_undo_L13 post  0 sc ar)) ∧ ((sc 5) = 0 → (w3_undo_L13 post  1 sc ar))
theorem hd_X3_undo : yX3_undo.cls = RX3 ∧ yX3_undo.cls ≠ "java/lang/invoke/MethodHandle" ∧ yX3_undo.cls ≠ "java/lang/invoke/VarHandle" ∧ (parseMethodDescriptor yX3_undo.desc).map (fun d => d.parameters.length) = some 0 := by decide +kernel
set_option maxHeartbeats 4000000 in
set_option maxRecDepth 100000 in
theorem m3_undo (l : Launch) (D : va_G) (ac : Nat → ClassId) (mo : Nat) (ad : Nat → Nat) (sc : wS1) (ar : wS2)  (post : Int32 → wS1 → wS2 → Prop) (hw : w3_undo post sc ar ) : wm_Mi l D ac mo ad yX3_undo (ws_ yX3_undo cX3_undo 1 (some .int)) ({ frames := 1, cells := 0, slots := 0, locals := 24 }) [.ref mo] sc ar post := by
  refine wm_ofi (by decide) (Nat.le_of_ble_eq_true rfl) ?_
  intro p e s m below meth c A ls hx hb hr hlk hml hown hts hK hN hAm hA hM hl
  have hl : lv_has ls 1 [(0, .ref mo)] := hl
  unfold w3_undo at hw
  have hL13 : ∀ (t0 : Int32) (sc : wS1) (ar : wS2) (H : Heap) (locs : List Loc) (ls : Array Slot), wm_S D ac A s.heap mo ad sc ar H locs → lv_has ls 1 [(0, .ref mo)] → w3_undo_L13 post t0 sc ar → W p l e (headSpec (ws_ yX3_undo cX3_undo 1 (some .int)) ({ frames := 1, cells := 0, slots := 0, locals := 24 })).room s m ([.ref mo] : List Value).toArray below meth c H locs 0 0 (MQ below (va_Qi (S := wU) (fun r u => post r u.1 u.2) (wm_B D ac mo ad) A) ([.ref mo] : List Value).toArray s 0 0 A) (F0 m 13 ls [.int t0, .ref mo]) := by
    intro t0 sc ar H locs ls hM hl hw
    unfold w3_undo_L13 at hw
    refine wm_callVi (As := [.int t0]) (rest := []) ⟨hx, hb, hml, hown, hts⟩ hK hN hAm hA hM (m3_fails l D ac mo ad sc ar t0 _ hw) (cwV 1 hts (lw_V q2008 q2010 qs19 q77 q2011) rfl rfl rfl hd_X3_fails ⟨Nat.le_of_ble_eq_true rfl, Nat.le_of_ble_eq_true rfl⟩) rfl hl.1 rfl (Nat.le_of_ble_eq_true rfl) dX3_undo_13 ⟨Nat.le_refl 0, Nat.le_refl 0⟩ (fun r3 sc1 ar2 H locs hw hM => ?_)
    refine lv_if_eq (tgt := 21) hx hb dX3_undo_16 (by decide) (fun c_ => ?_) (fun c_ => ?_)
    · replace hw := hw.1 c_
      refine lv_aload_n hx hb dX3_undo_21 rfl (lv_at hl 0 rfl) ?_
      refine lv_dup hx hb dX3_undo_22 rfl ?_
      refine wm_get hx hb hts hown hK hM 5 (by decide) q1938 (v := .int (sc1 5)) rfl dX3_undo_23 ?_
      refine lv_iconst (v := 1) hx hb dX3_undo_26 (by decide) ?_
      refine lv_isub hx hb dX3_undo_27 ?_
      refine wm_put hx hb hts hown hK hN hAm hM 5 (by decide) rfl q1938 rfl rfl rfl dX3_undo_28 (fun H locs hM => ?_)
      refine lv_aload_n hx hb dX3_undo_31 rfl (lv_at hl 0 rfl) ?_
      refine wm_get hx hb hts hown hK hM 1 (by decide) q1934 (v := .ref (ad 1)) rfl dX3_undo_32 ?_
      refine lv_bipush (v := 125) hx hb dX3_undo_35 (by decide) ?_
      refine lv_aload_n hx hb dX3_undo_37 rfl (lv_at hl 0 rfl) ?_
      refine wm_get hx hb hts hown hK hM 5 (by decide) q1938 (v := .int ((sc1 5) - 1)) rfl dX3_undo_38 ?_
      refine lv_imul hx hb dX3_undo_41 ?_
      refine lv_aload_n hx hb dX3_undo_42 rfl (lv_at hl 0 rfl) ?_
      refine wm_get hx hb hts hown hK hM 0 (by decide) q1933 (v := .ref (ad 0)) rfl dX3_undo_43 ?_
      refine lv_iconst (v := 0) hx hb dX3_undo_46 (by decide) ?_
      refine wm_callSv (As := [.ref (ad 1), .int (125 * ((sc1 5) - 1)), .ref (ad 0), .int 0]) (rest := []) ⟨hx, hb, hml, hown, hts⟩ hK hN hAm hA hM (m3_copies l D ac mo ad (upd sc1 5 ((sc1 5) - 1)) ar2 1 (125 * ((sc1 5) - 1)) 0 0 _ rfl rfl hw) (va_cwS 4 hts (lw_S q2020 q2021 q77 q2022) rfl rfl rfl hd_X3_copies ⟨Nat.le_of_ble_eq_true rfl, Nat.le_of_ble_eq_true rfl⟩) rfl hl.1 rfl (Nat.le_of_ble_eq_true rfl) dX3_undo_47 ⟨Nat.le_refl 0, Nat.le_refl 0⟩ (fun sc4 ar5 H locs hw hM => ?_)
      refine lv_aload_n hx hb dX3_undo_50 rfl (lv_at hl 0 rfl) ?_
      refine wm_get hx hb hts hown hK hM 5 (by decide) q1938 (v := .int (sc4 5)) rfl dX3_undo_51 ?_
      exact wm_reti hx hb hr hlk hM rfl hw dX3_undo_54
    · replace hw := hw.2 c_
      refine lv_iconst (v := 0) hx hb dX3_undo_19 (by decide) ?_
      exact wm_reti hx hb hr hlk hM rfl hw dX3_undo_20
  refine lv_aload_n hx hb dX3_undo_0 rfl (lv_at hl 0 rfl) ?_
  refine lv_aload_n hx hb dX3_undo_1 rfl (lv_at hl 0 rfl) ?_
  refine wm_get hx hb hts hown hK hM 5 (by decide) q1938 (v := .int (sc 5)) rfl dX3_undo_2 ?_
  refine lv_if_ne (tgt := 12) hx hb dX3_undo_5 (by decide) (fun c_ => ?_) (fun c_ => ?_)
  · replace hw := hw.1 c_
    refine lv_iconst (v := 0) hx hb dX3_undo_12 (by decide) ?_
    exact hL13  0 sc ar _ _ ls hM (lv_sub hl [0] rfl) hw
  · replace hw := hw.2 c_
    refine lv_iconst (v := 1) hx hb dX3_undo_8 (by decide) ?_
    refine lv_goto (tgt := 13) hx hb dX3_undo_9 (by decide) ?_
    exact hL13  1 sc ar _ _ ls hM (lv_sub hl [0] rfl) hw
def w3_snapshot (post : Int32 → wS1 → wS2 → Prop) (sc : wS1) (ar : wS2)  : Prop := w3_copies (fun sc1 ar2 => post (ar2 0 0) sc1 ar2) (upd (upd sc 7 0) 4 1) ar 0 0 2 0
theorem hd_X3_snapshot : yX3_snapshot.cls = RX3 ∧ yX3_snapshot.cls ≠ "java/lang/invoke/MethodHandle" ∧ yX3_snapshot.cls ≠ "java/lang/invoke/VarHandle" ∧ (parseMethodDescriptor yX3_snapshot.desc).map (fun d => d.parameters.length) = some 0 := by decide +kernel
set_option maxHeartbeats 4000000 in
set_option maxRecDepth 100000 in
theorem m3_snapshot (l : Launch) (D : va_G) (ac : Nat → ClassId) (mo : Nat) (ad : Nat → Nat) (sc : wS1) (ar : wS2)  (post : Int32 → wS1 → wS2 → Prop) (hw : w3_snapshot post sc ar ) : wm_Mi l D ac mo ad yX3_snapshot (ws_ yX3_snapshot cX3_snapshot 1 (some .int)) ({ frames := 1, cells := 0, slots := 0, locals := 24 }) [.ref mo] sc ar post := by
  refine wm_ofi (by decide) (Nat.le_of_ble_eq_true rfl) ?_
  intro p e s m below meth c A ls hx hb hr hlk hml hown hts hK hN hAm hA hM hl
  have hl : lv_has ls 1 [(0, .ref mo)] := hl
  unfold w3_snapshot at hw
  refine lv_aload_n hx hb dX3_snapshot_0 rfl (lv_at hl 0 rfl) ?_
  refine lv_iconst (v := 0) hx hb dX3_snapshot_1 (by decide) ?_
  refine wm_put hx hb hts hown hK hN hAm hM 7 (by decide) rfl q1940 rfl rfl rfl dX3_snapshot_2 (fun H locs hM => ?_)
  refine lv_aload_n hx hb dX3_snapshot_5 rfl (lv_at hl 0 rfl) ?_
  refine lv_iconst (v := 1) hx hb dX3_snapshot_6 (by decide) ?_
  refine wm_put hx hb hts hown hK hN hAm hM 4 (by decide) rfl q1937 rfl (by decide) rfl dX3_snapshot_7 (fun H locs hM => ?_)
  refine lv_aload_n hx hb dX3_snapshot_10 rfl (lv_at hl 0 rfl) ?_
  refine wm_get hx hb hts hown hK hM 0 (by decide) q1933 (v := .ref (ad 0)) rfl dX3_snapshot_11 ?_
  refine lv_iconst (v := 0) hx hb dX3_snapshot_14 (by decide) ?_
  refine lv_aload_n hx hb dX3_snapshot_15 rfl (lv_at hl 0 rfl) ?_
  refine wm_get hx hb hts hown hK hM 2 (by decide) q1935 (v := .ref (ad 2)) rfl dX3_snapshot_16 ?_
  refine lv_iconst (v := 0) hx hb dX3_snapshot_19 (by decide) ?_
  refine wm_callSv (As := [.ref (ad 0), .int 0, .ref (ad 2), .int 0]) (rest := []) ⟨hx, hb, hml, hown, hts⟩ hK hN hAm hA hM (m3_copies l D ac mo ad (upd (upd sc 7 0) 4 1) ar 0 0 2 0 _ rfl rfl hw) (va_cwS 4 hts (lw_S q2020 q2021 q77 q2022) rfl rfl rfl hd_X3_copies ⟨Nat.le_of_ble_eq_true rfl, Nat.le_of_ble_eq_true rfl⟩) rfl hl.1 rfl (Nat.le_of_ble_eq_true rfl) dX3_snapshot_20 ⟨Nat.le_refl 0, Nat.le_refl 0⟩ (fun sc1 ar2 H locs hw hM => ?_)
  refine lv_aload_n hx hb dX3_snapshot_23 rfl (lv_at hl 0 rfl) ?_
  refine wm_get hx hb hts hown hK hM 0 (by decide) q1933 (v := .ref (ad 0)) rfl dX3_snapshot_24 ?_
  refine lv_iconst (v := 0) hx hb dX3_snapshot_27 (by decide) ?_
  refine wm_ald hx hb hK hM (k := 0) rfl vi_0_125 vc_0 (v := ar2 0 0) rfl dX3_snapshot_28 ?_
  exact wm_reti hx hb hr hlk hM rfl hw dX3_snapshot_29
def w3_restore_L13 (post : Int32 → wS1 → wS2 → Prop) (t0 : Int32) (sc : wS1) (ar : wS2) : Prop := w3_fails (fun r3 sc1 ar2 => (r3 = 0 → (w3_copies (fun sc4 ar5 => post (ar5 0 0) (upd sc4 5 0) ar5) sc1 ar2 2 0 0 0)) ∧ (¬ r3 = 0 → (post 0 sc1 ar2))) sc ar t0
def w3_restore (post : Int32 → wS1 → wS2 → Prop) (sc : wS1) (ar : wS2)  : Prop := ((sc 4) = 0 → (w3_restore_L13 post  1 sc ar)) ∧ (¬ (sc 4) = 0 → (w3_restore_L13 post  0 sc ar))
theorem hd_X3_restore : yX3_restore.cls = RX3 ∧ yX3_restore.cls ≠ "java/lang/invoke/MethodHandle" ∧ yX3_restore.cls ≠ "java/lang/invoke/VarHandle" ∧ (parseMethodDescriptor yX3_restore.desc).map (fun d => d.parameters.length) = some 0 := by decide +kernel
set_option maxHeartbeats 4000000 in
set_option maxRecDepth 100000 in
theorem m3_restore (l : Launch) (D : va_G) (ac : Nat → ClassId) (mo : Nat) (ad : Nat → Nat) (sc : wS1) (ar : wS2)  (post : Int32 → wS1 → wS2 → Prop) (hw : w3_restore post sc ar ) : wm_Mi l D ac mo ad yX3_restore (ws_ yX3_restore cX3_restore 1 (some .int)) ({ frames := 1, cells := 0, slots := 0, locals := 24 }) [.ref mo] sc ar post := by
  refine wm_ofi (by decide) (Nat.le_of_ble_eq_true rfl) ?_
  intro p e s m below meth c A ls hx hb hr hlk hml hown hts hK hN hAm hA hM hl
  have hl : lv_has ls 1 [(0, .ref mo)] := hl
  unfold w3_restore at hw
  have hL13 : ∀ (t0 : Int32) (sc : wS1) (ar : wS2) (H : Heap) (locs : List Loc) (ls : Array Slot), wm_S D ac A s.heap mo ad sc ar H locs → lv_has ls 1 [(0, .ref mo)] → w3_restore_L13 post t0 sc ar → W p l e (headSpec (ws_ yX3_restore cX3_restore 1 (some .int)) ({ frames := 1, cells := 0, slots := 0, locals := 24 })).room s m ([.ref mo] : List Value).toArray below meth c H locs 0 0 (MQ below (va_Qi (S := wU) (fun r u => post r u.1 u.2) (wm_B D ac mo ad) A) ([.ref mo] : List Value).toArray s 0 0 A) (F0 m 13 ls [.int t0, .ref mo]) := by
    intro t0 sc ar H locs ls hM hl hw
    unfold w3_restore_L13 at hw
    refine wm_callVi (As := [.int t0]) (rest := []) ⟨hx, hb, hml, hown, hts⟩ hK hN hAm hA hM (m3_fails l D ac mo ad sc ar t0 _ hw) (cwV 1 hts (lw_V q2008 q2010 qs19 q77 q2011) rfl rfl rfl hd_X3_fails ⟨Nat.le_of_ble_eq_true rfl, Nat.le_of_ble_eq_true rfl⟩) rfl hl.1 rfl (Nat.le_of_ble_eq_true rfl) dX3_restore_13 ⟨Nat.le_refl 0, Nat.le_refl 0⟩ (fun r3 sc1 ar2 H locs hw hM => ?_)
    refine lv_if_eq (tgt := 21) hx hb dX3_restore_16 (by decide) (fun c_ => ?_) (fun c_ => ?_)
    · replace hw := hw.1 c_
      refine lv_aload_n hx hb dX3_restore_21 rfl (lv_at hl 0 rfl) ?_
      refine wm_get hx hb hts hown hK hM 2 (by decide) q1935 (v := .ref (ad 2)) rfl dX3_restore_22 ?_
      refine lv_iconst (v := 0) hx hb dX3_restore_25 (by decide) ?_
      refine lv_aload_n hx hb dX3_restore_26 rfl (lv_at hl 0 rfl) ?_
      refine wm_get hx hb hts hown hK hM 0 (by decide) q1933 (v := .ref (ad 0)) rfl dX3_restore_27 ?_
      refine lv_iconst (v := 0) hx hb dX3_restore_30 (by decide) ?_
      refine wm_callSv (As := [.ref (ad 2), .int 0, .ref (ad 0), .int 0]) (rest := []) ⟨hx, hb, hml, hown, hts⟩ hK hN hAm hA hM (m3_copies l D ac mo ad sc1 ar2 2 0 0 0 _ rfl rfl hw) (va_cwS 4 hts (lw_S q2020 q2021 q77 q2022) rfl rfl rfl hd_X3_copies ⟨Nat.le_of_ble_eq_true rfl, Nat.le_of_ble_eq_true rfl⟩) rfl hl.1 rfl (Nat.le_of_ble_eq_true rfl) dX3_restore_31 ⟨Nat.le_refl 0, Nat.le_refl 0⟩ (fun sc4 ar5 H locs hw hM => ?_)
      refine lv_aload_n hx hb dX3_restore_34 rfl (lv_at hl 0 rfl) ?_
      refine lv_iconst (v := 0) hx hb dX3_restore_35 (by decide) ?_
      refine wm_put hx hb hts hown hK hN hAm hM 5 (by decide) rfl q1938 rfl rfl rfl dX3_restore_36 (fun H locs hM => ?_)
      refine lv_aload_n hx hb dX3_restore_39 rfl (lv_at hl 0 rfl) ?_
      refine wm_get hx hb hts hown hK hM 0 (by decide) q1933 (v := .ref (ad 0)) rfl dX3_restore_40 ?_
      refine lv_iconst (v := 0) hx hb dX3_restore_43 (by decide) ?_
      refine wm_ald hx hb hK hM (k := 0) rfl vi_0_125 vc_0 (v := ar5 0 0) rfl dX3_restore_44 ?_
      exact wm_reti hx hb hr hlk hM rfl hw dX3_restore_45
    · replace hw := hw.2 c_
      refine lv_iconst (v := 0) hx hb dX3_restore_19 (by decide) ?_
      exact wm_reti hx hb hr hlk hM rfl hw dX3_restore_20
  refine lv_aload_n hx hb dX3_restore_0 rfl (lv_at hl 0 rfl) ?_
  refine lv_aload_n hx hb dX3_restore_1 rfl (lv_at hl 0 rfl) ?_
  refine wm_get hx hb hts hown hK hM 4 (by decide) q1937 (v := .int (sc 4)) rfl dX3_restore_2 ?_
  refine lv_if_eq (tgt := 12) hx hb dX3_restore_5 (by decide) (fun c_ => ?_) (fun c_ => ?_)
  · replace hw := hw.1 c_
    refine lv_iconst (v := 1) hx hb dX3_restore_12 (by decide) ?_
    exact hL13  1 sc ar _ _ ls hM (lv_sub hl [0] rfl) hw
  · replace hw := hw.2 c_
    refine lv_iconst (v := 0) hx hb dX3_restore_8 (by decide) ?_
    refine lv_goto (tgt := 13) hx hb dX3_restore_9 (by decide) ?_
    exact hL13  0 sc ar _ _ ls hM (lv_sub hl [0] rfl) hw
def w3_keeps_L57 (ka : Nat) (post : wS1 → wS2 → Prop)  (sc : wS1) (ar : wS2) : Prop := w3_copies (fun sc1 ar2 => post (upd sc1 5 ((sc1 5) + 1)) ar2) sc ar ka 0 1 (125 * (sc 5))
def w3_keeps_L19 (ka : Nat) (post : wS1 → wS2 → Prop) : Nat → Int32 → wS1 → wS2 → Prop
  | 0, _, _, _ => False
  | n + 1, x2, sc, ar => (875 ≤ x2 → (w3_keeps_L57 ka post  (upd sc 5 ((sc 5) - 1)) ar)) ∧ (¬ 875 ≤ x2 → (vp_in (x2 + 125) 1000 ∧ (vp_in x2 1000 ∧ (w3_keeps_L19 ka post  n (x2 + 1) sc (va_up ar 1 (upd (ar 1) x2.toNatClampNeg (ar 1 (x2 + 125).toNatClampNeg)))))))
def w3_keeps (post : wS1 → wS2 → Prop) (sc : wS1) (ar : wS2) (ka : Nat) : Prop := ((sc 6) = 0 → ((¬ (sc 5) = 8 → (w3_keeps_L57 ka post  sc ar)) ∧ ((sc 5) = 8 → ((∃ n, w3_keeps_L19 ka post  n 0 sc ar))))) ∧ (¬ (sc 6) = 0 → (post sc ar))
theorem hd_X3_keeps : yX3_keeps.cls = RX3 ∧ yX3_keeps.cls ≠ "java/lang/invoke/MethodHandle" ∧ yX3_keeps.cls ≠ "java/lang/invoke/VarHandle" ∧ (parseMethodDescriptor yX3_keeps.desc).map (fun d => d.parameters.length) = some 1 := by decide +kernel
set_option maxHeartbeats 4000000 in
set_option maxRecDepth 100000 in
theorem m3_keeps (l : Launch) (D : va_G) (ac : Nat → ClassId) (mo : Nat) (ad : Nat → Nat) (sc : wS1) (ar : wS2) (ka : Nat) (post : wS1 → wS2 → Prop) (hk_ka : wm_ia ka = true) (hw : w3_keeps post sc ar ka) : wm_Mv l D ac mo ad yX3_keeps (ws_ yX3_keeps cX3_keeps 3 none) ({ frames := 1, cells := 0, slots := 0, locals := 24 }) [.ref mo, .ref (ad ka)] sc ar post := by
  refine wm_ofv (by decide) (Nat.le_of_ble_eq_true rfl) ?_
  intro p e s m below meth c A ls hx hb hr hlk hml hown hts hK hN hAm hA hM hl
  have hl : lv_has ls 3 [(0, .ref mo), (1, .ref (ad ka))] := hl
  unfold w3_keeps at hw
  have hL57 : ∀ (sc : wS1) (ar : wS2) (H : Heap) (locs : List Loc) (ls : Array Slot), wm_S D ac A s.heap mo ad sc ar H locs → lv_has ls 3 [(0, .ref mo), (1, .ref (ad ka))] → w3_keeps_L57 ka post sc ar → W p l e (headSpec (ws_ yX3_keeps cX3_keeps 3 none) ({ frames := 1, cells := 0, slots := 0, locals := 24 })).room s m ([.ref mo, .ref (ad ka)] : List Value).toArray below meth c H locs 0 0 (MQ below (va_Qv (S := wU) (fun u => post u.1 u.2) (wm_B D ac mo ad) A) ([.ref mo, .ref (ad ka)] : List Value).toArray s 0 0 A) (F0 m 57 ls []) := by
    intro sc ar H locs ls hM hl hw
    unfold w3_keeps_L57 at hw
    refine lv_aload_n hx hb dX3_keeps_57 rfl (lv_at hl 1 rfl) ?_
    refine lv_iconst (v := 0) hx hb dX3_keeps_58 (by decide) ?_
    refine lv_aload_n hx hb dX3_keeps_59 rfl (lv_at hl 0 rfl) ?_
    refine wm_get hx hb hts hown hK hM 1 (by decide) q1934 (v := .ref (ad 1)) rfl dX3_keeps_60 ?_
    refine lv_bipush (v := 125) hx hb dX3_keeps_63 (by decide) ?_
    refine lv_aload_n hx hb dX3_keeps_65 rfl (lv_at hl 0 rfl) ?_
    refine wm_get hx hb hts hown hK hM 5 (by decide) q1938 (v := .int (sc 5)) rfl dX3_keeps_66 ?_
    refine lv_imul hx hb dX3_keeps_69 ?_
    refine wm_callSv (As := [.ref (ad ka), .int 0, .ref (ad 1), .int (125 * (sc 5))]) (rest := []) ⟨hx, hb, hml, hown, hts⟩ hK hN hAm hA hM (m3_copies l D ac mo ad sc ar ka 0 1 (125 * (sc 5)) _ hk_ka rfl hw) (va_cwS 4 hts (lw_S q2020 q2021 q77 q2022) rfl rfl rfl hd_X3_copies ⟨Nat.le_of_ble_eq_true rfl, Nat.le_of_ble_eq_true rfl⟩) rfl hl.1 rfl (Nat.le_of_ble_eq_true rfl) dX3_keeps_70 ⟨Nat.le_refl 0, Nat.le_refl 0⟩ (fun sc1 ar2 H locs hw hM => ?_)
    refine lv_aload_n hx hb dX3_keeps_73 rfl (lv_at hl 0 rfl) ?_
    refine lv_dup hx hb dX3_keeps_74 rfl ?_
    refine wm_get hx hb hts hown hK hM 5 (by decide) q1938 (v := .int (sc1 5)) rfl dX3_keeps_75 ?_
    refine lv_iconst (v := 1) hx hb dX3_keeps_78 (by decide) ?_
    refine lv_iadd hx hb dX3_keeps_79 ?_
    refine wm_put hx hb hts hown hK hN hAm hM 5 (by decide) rfl q1938 rfl rfl rfl dX3_keeps_80 (fun H locs hM => ?_)
    exact wm_retv hx hb hr hlk hM hw dX3_keeps_83
  have hL19 : ∀ (n : Nat) (x2 : Int32) (sc : wS1) (ar : wS2) (H : Heap) (locs : List Loc) (ls : Array Slot), wm_S D ac A s.heap mo ad sc ar H locs → lv_has ls 3 [(0, .ref mo), (1, .ref (ad ka)), (2, .int x2)] → w3_keeps_L19 ka post n x2 sc ar → W p l e (headSpec (ws_ yX3_keeps cX3_keeps 3 none) ({ frames := 1, cells := 0, slots := 0, locals := 24 })).room s m ([.ref mo, .ref (ad ka)] : List Value).toArray below meth c H locs 0 0 (MQ below (va_Qv (S := wU) (fun u => post u.1 u.2) (wm_B D ac mo ad) A) ([.ref mo, .ref (ad ka)] : List Value).toArray s 0 0 A) (F0 m 19 ls []) := by
    intro n
    induction n with
    | zero => exact fun _ _ _ _ _ _ _ _ hw => hw.elim
    | succ n ih =>
      intro x2 sc ar H locs ls hM hl hw
      unfold w3_keeps_L19 at hw
      refine lv_iload_n hx hb dX3_keeps_19 rfl (lv_at hl 2 rfl) ?_
      refine lv_sipush (v := 875) hx hb dX3_keeps_20 (by decide) ?_
      refine lv_icmp_ge (tgt := 47) hx hb dX3_keeps_23 (by decide) (fun c_ => ?_) (fun c_ => ?_)
      · replace hw := hw.1 c_
        refine lv_aload_n hx hb dX3_keeps_47 rfl (lv_at hl 0 rfl) ?_
        refine lv_dup hx hb dX3_keeps_48 rfl ?_
        refine wm_get hx hb hts hown hK hM 5 (by decide) q1938 (v := .int (sc 5)) rfl dX3_keeps_49 ?_
        refine lv_iconst (v := 1) hx hb dX3_keeps_52 (by decide) ?_
        refine lv_isub hx hb dX3_keeps_53 ?_
        refine wm_put hx hb hts hown hK hN hAm hM 5 (by decide) rfl q1938 rfl rfl rfl dX3_keeps_54 (fun H locs hM => ?_)
        exact hL57  (upd sc 5 ((sc 5) - 1)) ar _ _ ls hM (lv_sub hl [0, 1] rfl) hw
      · replace hw := hw.2 c_
        refine lv_aload_n hx hb dX3_keeps_26 rfl (lv_at hl 0 rfl) ?_
        refine wm_get hx hb hts hown hK hM 1 (by decide) q1934 (v := .ref (ad 1)) rfl dX3_keeps_27 ?_
        refine lv_iload_n hx hb dX3_keeps_30 rfl (lv_at hl 2 rfl) ?_
        refine lv_aload_n hx hb dX3_keeps_31 rfl (lv_at hl 0 rfl) ?_
        refine wm_get hx hb hts hown hK hM 1 (by decide) q1934 (v := .ref (ad 1)) rfl dX3_keeps_32 ?_
        refine lv_iload_n hx hb dX3_keeps_35 rfl (lv_at hl 2 rfl) ?_
        refine lv_bipush (v := 125) hx hb dX3_keeps_36 (by decide) ?_
        refine lv_iadd hx hb dX3_keeps_38 ?_
        refine wm_ald hx hb hK hM (k := 1) rfl hw.1 rfl (v := ar 1 (x2 + 125).toNatClampNeg) rfl dX3_keeps_39 ?_
        replace hw := hw.2
        refine wm_ast hx hb hK hN hAm hM (k := 1) rfl hw.1 rfl (f := ar 1) rfl dX3_keeps_40 (fun H locs hM => ?_)
        replace hw := hw.2
        refine lv_iinc (v := x2 + 1) (lv' := [(2, .int (x2 + 1)), (0, .ref mo), (1, .ref (ad ka))]) hx hb dX3_keeps_41 hl (k := 2) rfl rfl (by decide) rfl (fun ls hl => ?_)
        refine lv_goto (tgt := 19) hx hb dX3_keeps_44 (by decide) ?_
        exact ih (x2 + 1) sc (va_up ar 1 (upd (ar 1) x2.toNatClampNeg (ar 1 (x2 + 125).toNatClampNeg))) _ _ ls hM (lv_sub hl [1, 2, 0] rfl) hw
  refine lv_aload_n hx hb dX3_keeps_0 rfl (lv_at hl 0 rfl) ?_
  refine wm_get hx hb hts hown hK hM 6 (by decide) q1939 (v := .int (sc 6)) rfl dX3_keeps_1 ?_
  refine lv_if_eq (tgt := 8) hx hb dX3_keeps_4 (by decide) (fun c_ => ?_) (fun c_ => ?_)
  · replace hw := hw.1 c_
    refine lv_aload_n hx hb dX3_keeps_8 rfl (lv_at hl 0 rfl) ?_
    refine wm_get hx hb hts hown hK hM 5 (by decide) q1938 (v := .int (sc 5)) rfl dX3_keeps_9 ?_
    refine lv_bipush (v := 8) hx hb dX3_keeps_12 (by decide) ?_
    refine lv_icmp_ne (tgt := 57) hx hb dX3_keeps_14 (by decide) (fun c_ => ?_) (fun c_ => ?_)
    · replace hw := hw.1 c_
      exact hL57  sc ar _ _ ls hM (lv_sub hl [0, 1] rfl) hw
    · replace hw := hw.2 c_
      refine lv_iconst (v := 0) hx hb dX3_keeps_17 (by decide) ?_
      refine lv_istore_n (lv' := [(2, .int 0), (0, .ref mo), (1, .ref (ad ka))]) hx hb dX3_keeps_18 rfl hl (by decide) rfl (fun ls hl => ?_)
      obtain ⟨n0, hw⟩ := hw
      exact hL19  n0 0 sc ar _ _ ls hM (lv_sub hl [1, 2, 0] rfl) hw
  · replace hw := hw.2 c_
    exact wm_retv hx hb hr hlk hM hw dX3_keeps_7
def w3_damp_L16 (post : Int32 → wS1 → wS2 → Prop) (x1 : Int32) (t0 : Int32) (sc : wS1) (ar : wS2) : Prop := w3_fails (fun r4 sc2 ar3 => (r4 = 0 → (w3_keeps (fun sc5 ar6 => post (ar6 0 1) sc5 (va_up ar6 0 (upd (ar6 0) 1 x1))) sc2 ar3 0)) ∧ (¬ r4 = 0 → (post 0 sc2 ar3))) sc ar t0
def w3_damp (post : Int32 → wS1 → wS2 → Prop) (sc : wS1) (ar : wS2) (p1 : Int32) : Prop := w3_in (fun r1 => (r1 = 0 → (w3_damp_L16 post  p1 1 sc ar)) ∧ (¬ r1 = 0 → (w3_damp_L16 post  p1 0 sc ar))) p1 0 9
theorem hd_X3_damp : yX3_damp.cls = RX3 ∧ yX3_damp.cls ≠ "java/lang/invoke/MethodHandle" ∧ yX3_damp.cls ≠ "java/lang/invoke/VarHandle" ∧ (parseMethodDescriptor yX3_damp.desc).map (fun d => d.parameters.length) = some 1 := by decide +kernel
set_option maxHeartbeats 4000000 in
set_option maxRecDepth 100000 in
theorem m3_damp (l : Launch) (D : va_G) (ac : Nat → ClassId) (mo : Nat) (ad : Nat → Nat) (sc : wS1) (ar : wS2) (p1 : Int32) (post : Int32 → wS1 → wS2 → Prop) (hw : w3_damp post sc ar p1) : wm_Mi l D ac mo ad yX3_damp (ws_ yX3_damp cX3_damp 3 (some .int)) ({ frames := 2, cells := 0, slots := 0, locals := 46 }) [.ref mo, .int p1] sc ar post := by
  refine wm_ofi (by decide) (Nat.le_of_ble_eq_true rfl) ?_
  intro p e s m below meth c A ls hx hb hr hlk hml hown hts hK hN hAm hA hM hl
  have hl : lv_has ls 3 [(0, .ref mo), (1, .int p1)] := hl
  unfold w3_damp at hw
  have hL16 : ∀ (x1 : Int32) (t0 : Int32) (sc : wS1) (ar : wS2) (H : Heap) (locs : List Loc) (ls : Array Slot), wm_S D ac A s.heap mo ad sc ar H locs → lv_has ls 3 [(0, .ref mo), (1, .int x1)] → w3_damp_L16 post x1 t0 sc ar → W p l e (headSpec (ws_ yX3_damp cX3_damp 3 (some .int)) ({ frames := 2, cells := 0, slots := 0, locals := 46 })).room s m ([.ref mo, .int p1] : List Value).toArray below meth c H locs 0 0 (MQ below (va_Qi (S := wU) (fun r u => post r u.1 u.2) (wm_B D ac mo ad) A) ([.ref mo, .int p1] : List Value).toArray s 0 0 A) (F0 m 16 ls [.int t0, .ref mo]) := by
    intro x1 t0 sc ar H locs ls hM hl hw
    unfold w3_damp_L16 at hw
    refine wm_callVi (As := [.int t0]) (rest := []) ⟨hx, hb, hml, hown, hts⟩ hK hN hAm hA hM (m3_fails l D ac mo ad sc ar t0 _ hw) (cwV 1 hts (lw_V q2008 q2010 qs19 q77 q2011) rfl rfl rfl hd_X3_fails ⟨Nat.le_of_ble_eq_true rfl, Nat.le_of_ble_eq_true rfl⟩) rfl hl.1 rfl (Nat.le_of_ble_eq_true rfl) dX3_damp_16 ⟨Nat.le_refl 0, Nat.le_refl 0⟩ (fun r4 sc2 ar3 H locs hw hM => ?_)
    refine lv_if_eq (tgt := 24) hx hb dX3_damp_19 (by decide) (fun c_ => ?_) (fun c_ => ?_)
    · replace hw := hw.1 c_
      refine lv_aload_n hx hb dX3_damp_24 rfl (lv_at hl 0 rfl) ?_
      refine lv_aload_n hx hb dX3_damp_25 rfl (lv_at hl 0 rfl) ?_
      refine wm_get hx hb hts hown hK hM 0 (by decide) q1933 (v := .ref (ad 0)) rfl dX3_damp_26 ?_
      refine wm_callVv (As := [.ref (ad 0)]) (rest := []) ⟨hx, hb, hml, hown, hts⟩ hK hN hAm hA hM (m3_keeps l D ac mo ad sc2 ar3 0 _ rfl hw) (cwV 1 hts (lw_V q2016 q2018 qs21 q77 q2019) rfl rfl rfl hd_X3_keeps ⟨Nat.le_of_ble_eq_true rfl, Nat.le_of_ble_eq_true rfl⟩) rfl hl.1 rfl (Nat.le_of_ble_eq_true rfl) dX3_damp_29 ⟨Nat.le_refl 0, Nat.le_refl 0⟩ (fun sc5 ar6 H locs hw hM => ?_)
      refine lv_aload_n hx hb dX3_damp_32 rfl (lv_at hl 0 rfl) ?_
      refine wm_get hx hb hts hown hK hM 0 (by decide) q1933 (v := .ref (ad 0)) rfl dX3_damp_33 ?_
      refine lv_iconst (v := 1) hx hb dX3_damp_36 (by decide) ?_
      refine wm_ald hx hb hK hM (k := 0) rfl vi_1_125 vc_1 (v := ar6 0 1) rfl dX3_damp_37 ?_
      refine lv_istore_n (lv' := [(2, .int (ar6 0 1)), (0, .ref mo), (1, .int x1)]) hx hb dX3_damp_38 rfl hl (by decide) rfl (fun ls hl => ?_)
      refine lv_aload_n hx hb dX3_damp_39 rfl (lv_at hl 1 rfl) ?_
      refine wm_get hx hb hts hown hK hM 0 (by decide) q1933 (v := .ref (ad 0)) rfl dX3_damp_40 ?_
      refine lv_iconst (v := 1) hx hb dX3_damp_43 (by decide) ?_
      refine lv_iload_n hx hb dX3_damp_44 rfl (lv_at hl 2 rfl) ?_
      refine wm_ast hx hb hK hN hAm hM (k := 0) rfl vi_1_125 vc_1 (f := ar6 0) rfl dX3_damp_45 (fun H locs hM => ?_)
      refine lv_iload_n hx hb dX3_damp_46 rfl (lv_at hl 0 rfl) ?_
      exact wm_reti hx hb hr hlk hM rfl hw dX3_damp_47
    · replace hw := hw.2 c_
      refine lv_iconst (v := 0) hx hb dX3_damp_22 (by decide) ?_
      exact wm_reti hx hb hr hlk hM rfl hw dX3_damp_23
  refine lv_aload_n hx hb dX3_damp_0 rfl (lv_at hl 0 rfl) ?_
  refine lv_iload_n hx hb dX3_damp_1 rfl (lv_at hl 1 rfl) ?_
  refine lv_iconst (v := 0) hx hb dX3_damp_2 (by decide) ?_
  refine lv_bipush (v := 9) hx hb dX3_damp_3 (by decide) ?_
  refine wm_callPi (As := [.int p1, .int 0, .int 9]) (rest := [.ref mo]) ⟨hx, hb, hml, hown, hts⟩ hA hM (m3_in l p1 0 9 _ hw) (va_cwS 3 hts (lw_S q2005 q2006 q77 q2007) rfl rfl rfl hd_X3_in ⟨Nat.le_of_ble_eq_true rfl, Nat.le_of_ble_eq_true rfl⟩) rfl hl.1 rfl (Nat.le_of_ble_eq_true rfl) dX3_damp_5 ⟨Nat.le_refl 0, Nat.le_refl 0⟩ (fun r1 H locs hw hM => ?_)
  refine lv_if_eq (tgt := 15) hx hb dX3_damp_8 (by decide) (fun c_ => ?_) (fun c_ => ?_)
  · replace hw := hw.1 c_
    refine lv_iconst (v := 1) hx hb dX3_damp_15 (by decide) ?_
    exact hL16  p1 1 sc ar _ _ ls hM (lv_sub hl [0, 1] rfl) hw
  · replace hw := hw.2 c_
    refine lv_iconst (v := 0) hx hb dX3_damp_11 (by decide) ?_
    refine lv_goto (tgt := 16) hx hb dX3_damp_12 (by decide) ?_
    exact hL16  p1 0 sc ar _ _ ls hM (lv_sub hl [0, 1] rfl) hw
def w3_copper_L31 (post : Int32 → wS1 → wS2 → Prop) (x1 : Int32) (t0 : Int32) (sc : wS1) (ar : wS2) : Prop := w3_fails (fun r4 sc2 ar3 => (r4 = 0 → (w3_keeps (fun sc5 ar6 => vp_in (11 + (3 * (ar6 0 10))) 125 ∧ (vp_in ((11 + (3 * (ar6 0 10))) + 1) 125 ∧ (vp_in ((11 + (3 * (ar6 0 10))) + 2) 125 ∧ (post ((((upd (upd (upd (ar6 0) (11 + (3 * (ar6 0 10))).toNatClampNeg x1) ((11 + (3 * (ar6 0 10))) + 1).toNatClampNeg 0) ((11 + (3 * (ar6 0 10))) + 2).toNatClampNeg 0) 10) + 1) - 1) sc5 (va_up ar6 0 (upd (upd (upd (upd (ar6 0) (11 + (3 * (ar6 0 10))).toNatClampNeg x1) ((11 + (3 * (ar6 0 10))) + 1).toNatClampNeg 0) ((11 + (3 * (ar6 0 10))) + 2).toNatClampNeg 0) 10 (((upd (upd (upd (ar6 0) (11 + (3 * (ar6 0 10))).toNatClampNeg x1) ((11 + (3 * (ar6 0 10))) + 1).toNatClampNeg 0) ((11 + (3 * (ar6 0 10))) + 2).toNatClampNeg 0) 10) + 1))))))) sc2 ar3 0)) ∧ (¬ r4 = 0 → (post 0 sc2 ar3))) sc ar t0
def w3_copper (post : Int32 → wS1 → wS2 → Prop) (sc : wS1) (ar : wS2) (p1 : Int32) : Prop := w3_in (fun r1 => (¬ r1 = 0 → ((¬ (ar 0 10) = 5 → (w3_copper_L31 post  p1 0 sc ar)) ∧ ((ar 0 10) = 5 → (w3_copper_L31 post  p1 2 sc ar)))) ∧ (r1 = 0 → (w3_copper_L31 post  p1 1 sc ar))) p1 1 9
theorem hd_X3_copper : yX3_copper.cls = RX3 ∧ yX3_copper.cls ≠ "java/lang/invoke/MethodHandle" ∧ yX3_copper.cls ≠ "java/lang/invoke/VarHandle" ∧ (parseMethodDescriptor yX3_copper.desc).map (fun d => d.parameters.length) = some 1 := by decide +kernel
set_option maxHeartbeats 4000000 in
set_option maxRecDepth 100000 in
theorem m3_copper (l : Launch) (D : va_G) (ac : Nat → ClassId) (mo : Nat) (ad : Nat → Nat) (sc : wS1) (ar : wS2) (p1 : Int32) (post : Int32 → wS1 → wS2 → Prop) (hw : w3_copper post sc ar p1) : wm_Mi l D ac mo ad yX3_copper (ws_ yX3_copper cX3_copper 3 (some .int)) ({ frames := 2, cells := 0, slots := 0, locals := 46 }) [.ref mo, .int p1] sc ar post := by
  refine wm_ofi (by decide) (Nat.le_of_ble_eq_true rfl) ?_
  intro p e s m below meth c A ls hx hb hr hlk hml hown hts hK hN hAm hA hM hl
  have hl : lv_has ls 3 [(0, .ref mo), (1, .int p1)] := hl
  unfold w3_copper at hw
  have hL31 : ∀ (x1 : Int32) (t0 : Int32) (sc : wS1) (ar : wS2) (H : Heap) (locs : List Loc) (ls : Array Slot), wm_S D ac A s.heap mo ad sc ar H locs → lv_has ls 3 [(0, .ref mo), (1, .int x1)] → w3_copper_L31 post x1 t0 sc ar → W p l e (headSpec (ws_ yX3_copper cX3_copper 3 (some .int)) ({ frames := 2, cells := 0, slots := 0, locals := 46 })).room s m ([.ref mo, .int p1] : List Value).toArray below meth c H locs 0 0 (MQ below (va_Qi (S := wU) (fun r u => post r u.1 u.2) (wm_B D ac mo ad) A) ([.ref mo, .int p1] : List Value).toArray s 0 0 A) (F0 m 31 ls [.int t0, .ref mo]) := by
    intro x1 t0 sc ar H locs ls hM hl hw
    unfold w3_copper_L31 at hw
    refine wm_callVi (As := [.int t0]) (rest := []) ⟨hx, hb, hml, hown, hts⟩ hK hN hAm hA hM (m3_fails l D ac mo ad sc ar t0 _ hw) (cwV 1 hts (lw_V q2008 q2010 qs19 q77 q2011) rfl rfl rfl hd_X3_fails ⟨Nat.le_of_ble_eq_true rfl, Nat.le_of_ble_eq_true rfl⟩) rfl hl.1 rfl (Nat.le_of_ble_eq_true rfl) dX3_copper_31 ⟨Nat.le_refl 0, Nat.le_refl 0⟩ (fun r4 sc2 ar3 H locs hw hM => ?_)
    refine lv_if_eq (tgt := 39) hx hb dX3_copper_34 (by decide) (fun c_ => ?_) (fun c_ => ?_)
    · replace hw := hw.1 c_
      refine lv_aload_n hx hb dX3_copper_39 rfl (lv_at hl 0 rfl) ?_
      refine lv_aload_n hx hb dX3_copper_40 rfl (lv_at hl 0 rfl) ?_
      refine wm_get hx hb hts hown hK hM 0 (by decide) q1933 (v := .ref (ad 0)) rfl dX3_copper_41 ?_
      refine wm_callVv (As := [.ref (ad 0)]) (rest := []) ⟨hx, hb, hml, hown, hts⟩ hK hN hAm hA hM (m3_keeps l D ac mo ad sc2 ar3 0 _ rfl hw) (cwV 1 hts (lw_V q2016 q2018 qs21 q77 q2019) rfl rfl rfl hd_X3_keeps ⟨Nat.le_of_ble_eq_true rfl, Nat.le_of_ble_eq_true rfl⟩) rfl hl.1 rfl (Nat.le_of_ble_eq_true rfl) dX3_copper_44 ⟨Nat.le_refl 0, Nat.le_refl 0⟩ (fun sc5 ar6 H locs hw hM => ?_)
      refine lv_bipush (v := 11) hx hb dX3_copper_47 (by decide) ?_
      refine lv_iconst (v := 3) hx hb dX3_copper_49 (by decide) ?_
      refine lv_aload_n hx hb dX3_copper_50 rfl (lv_at hl 0 rfl) ?_
      refine wm_get hx hb hts hown hK hM 0 (by decide) q1933 (v := .ref (ad 0)) rfl dX3_copper_51 ?_
      refine lv_bipush (v := 10) hx hb dX3_copper_54 (by decide) ?_
      refine wm_ald hx hb hK hM (k := 0) rfl vi_10_125 vc_10 (v := ar6 0 10) rfl dX3_copper_56 ?_
      refine lv_imul hx hb dX3_copper_57 ?_
      refine lv_iadd hx hb dX3_copper_58 ?_
      refine lv_istore_n (lv' := [(2, .int (11 + (3 * (ar6 0 10)))), (0, .ref mo), (1, .int x1)]) hx hb dX3_copper_59 rfl hl (by decide) rfl (fun ls hl => ?_)
      refine lv_aload_n hx hb dX3_copper_60 rfl (lv_at hl 1 rfl) ?_
      refine wm_get hx hb hts hown hK hM 0 (by decide) q1933 (v := .ref (ad 0)) rfl dX3_copper_61 ?_
      refine lv_iload_n hx hb dX3_copper_64 rfl (lv_at hl 0 rfl) ?_
      refine lv_iload_n hx hb dX3_copper_65 rfl (lv_at hl 2 rfl) ?_
      refine wm_ast hx hb hK hN hAm hM (k := 0) rfl hw.1 rfl (f := ar6 0) rfl dX3_copper_66 (fun H locs hM => ?_)
      replace hw := hw.2
      refine lv_aload_n hx hb dX3_copper_67 rfl (lv_at hl 1 rfl) ?_
      refine wm_get hx hb hts hown hK hM 0 (by decide) q1933 (v := .ref (ad 0)) rfl dX3_copper_68 ?_
      refine lv_iload_n hx hb dX3_copper_71 rfl (lv_at hl 0 rfl) ?_
      refine lv_iconst (v := 1) hx hb dX3_copper_72 (by decide) ?_
      refine lv_iadd hx hb dX3_copper_73 ?_
      refine lv_iconst (v := 0) hx hb dX3_copper_74 (by decide) ?_
      refine wm_ast hx hb hK hN hAm hM (k := 0) rfl hw.1 rfl (f := upd (ar6 0) (11 + (3 * (ar6 0 10))).toNatClampNeg x1) rfl dX3_copper_75 (fun H locs hM => ?_)
      replace hw := hw.2
      rw [bx_uu] at hM
      refine lv_aload_n hx hb dX3_copper_76 rfl (lv_at hl 1 rfl) ?_
      refine wm_get hx hb hts hown hK hM 0 (by decide) q1933 (v := .ref (ad 0)) rfl dX3_copper_77 ?_
      refine lv_iload_n hx hb dX3_copper_80 rfl (lv_at hl 0 rfl) ?_
      refine lv_iconst (v := 2) hx hb dX3_copper_81 (by decide) ?_
      refine lv_iadd hx hb dX3_copper_82 ?_
      refine lv_iconst (v := 0) hx hb dX3_copper_83 (by decide) ?_
      refine wm_ast hx hb hK hN hAm hM (k := 0) rfl hw.1 rfl (f := upd (upd (ar6 0) (11 + (3 * (ar6 0 10))).toNatClampNeg x1) ((11 + (3 * (ar6 0 10))) + 1).toNatClampNeg 0) rfl dX3_copper_84 (fun H locs hM => ?_)
      replace hw := hw.2
      rw [bx_uu] at hM
      refine lv_aload_n hx hb dX3_copper_85 rfl (lv_at hl 1 rfl) ?_
      refine wm_get hx hb hts hown hK hM 0 (by decide) q1933 (v := .ref (ad 0)) rfl dX3_copper_86 ?_
      refine lv_bipush (v := 10) hx hb dX3_copper_89 (by decide) ?_
      refine lv_dup2_11 hx hb dX3_copper_91 rfl rfl ?_
      refine wm_ald hx hb hK hM (k := 0) rfl vi_10_125 vc_10 (v := (upd (upd (upd (ar6 0) (11 + (3 * (ar6 0 10))).toNatClampNeg x1) ((11 + (3 * (ar6 0 10))) + 1).toNatClampNeg 0) ((11 + (3 * (ar6 0 10))) + 2).toNatClampNeg 0) 10) rfl dX3_copper_92 ?_
      refine lv_iconst (v := 1) hx hb dX3_copper_93 (by decide) ?_
      refine lv_iadd hx hb dX3_copper_94 ?_
      refine wm_ast hx hb hK hN hAm hM (k := 0) rfl vi_10_125 vc_10 (f := upd (upd (upd (ar6 0) (11 + (3 * (ar6 0 10))).toNatClampNeg x1) ((11 + (3 * (ar6 0 10))) + 1).toNatClampNeg 0) ((11 + (3 * (ar6 0 10))) + 2).toNatClampNeg 0) rfl dX3_copper_95 (fun H locs hM => ?_)
      rw [bx_uu] at hM
      refine lv_aload_n hx hb dX3_copper_96 rfl (lv_at hl 1 rfl) ?_
      refine wm_get hx hb hts hown hK hM 0 (by decide) q1933 (v := .ref (ad 0)) rfl dX3_copper_97 ?_
      refine lv_bipush (v := 10) hx hb dX3_copper_100 (by decide) ?_
      refine wm_ald hx hb hK hM (k := 0) rfl vi_10_125 vc_10 (v := (((upd (upd (upd (ar6 0) (11 + (3 * (ar6 0 10))).toNatClampNeg x1) ((11 + (3 * (ar6 0 10))) + 1).toNatClampNeg 0) ((11 + (3 * (ar6 0 10))) + 2).toNatClampNeg 0) 10) + 1)) rfl dX3_copper_102 ?_
      refine lv_iconst (v := 1) hx hb dX3_copper_103 (by decide) ?_
      refine lv_isub hx hb dX3_copper_104 ?_
      exact wm_reti hx hb hr hlk hM rfl hw dX3_copper_105
    · replace hw := hw.2 c_
      refine lv_iconst (v := 0) hx hb dX3_copper_37 (by decide) ?_
      exact wm_reti hx hb hr hlk hM rfl hw dX3_copper_38
  refine lv_aload_n hx hb dX3_copper_0 rfl (lv_at hl 0 rfl) ?_
  refine lv_iload_n hx hb dX3_copper_1 rfl (lv_at hl 1 rfl) ?_
  refine lv_iconst (v := 1) hx hb dX3_copper_2 (by decide) ?_
  refine lv_bipush (v := 9) hx hb dX3_copper_3 (by decide) ?_
  refine wm_callPi (As := [.int p1, .int 1, .int 9]) (rest := [.ref mo]) ⟨hx, hb, hml, hown, hts⟩ hA hM (m3_in l p1 1 9 _ hw) (va_cwS 3 hts (lw_S q2005 q2006 q77 q2007) rfl rfl rfl hd_X3_in ⟨Nat.le_of_ble_eq_true rfl, Nat.le_of_ble_eq_true rfl⟩) rfl hl.1 rfl (Nat.le_of_ble_eq_true rfl) dX3_copper_5 ⟨Nat.le_refl 0, Nat.le_refl 0⟩ (fun r1 H locs hw hM => ?_)
  refine lv_if_ne (tgt := 15) hx hb dX3_copper_8 (by decide) (fun c_ => ?_) (fun c_ => ?_)
  · replace hw := hw.1 c_
    refine lv_aload_n hx hb dX3_copper_15 rfl (lv_at hl 0 rfl) ?_
    refine wm_get hx hb hts hown hK hM 0 (by decide) q1933 (v := .ref (ad 0)) rfl dX3_copper_16 ?_
    refine lv_bipush (v := 10) hx hb dX3_copper_19 (by decide) ?_
    refine wm_ald hx hb hK hM (k := 0) rfl vi_10_125 vc_10 (v := ar 0 10) rfl dX3_copper_21 ?_
    refine lv_iconst (v := 5) hx hb dX3_copper_22 (by decide) ?_
    refine lv_icmp_ne (tgt := 30) hx hb dX3_copper_23 (by decide) (fun c_ => ?_) (fun c_ => ?_)
    · replace hw := hw.1 c_
      refine lv_iconst (v := 0) hx hb dX3_copper_30 (by decide) ?_
      exact hL31  p1 0 sc ar _ _ ls hM (lv_sub hl [0, 1] rfl) hw
    · replace hw := hw.2 c_
      refine lv_iconst (v := 2) hx hb dX3_copper_26 (by decide) ?_
      refine lv_goto (tgt := 31) hx hb dX3_copper_27 (by decide) ?_
      exact hL31  p1 2 sc ar _ _ ls hM (lv_sub hl [0, 1] rfl) hw
  · replace hw := hw.2 c_
    refine lv_iconst (v := 1) hx hb dX3_copper_11 (by decide) ?_
    refine lv_goto (tgt := 31) hx hb dX3_copper_12 (by decide) ?_
    exact hL31  p1 1 sc ar _ _ ls hM (lv_sub hl [0, 1] rfl) hw
def w3_wellBy (post : Int32 → wS1 → wS2 → Prop) (sc : wS1) (ar : wS2) (p1 : Int32) : Prop := w3_ofCopper (fun r3 sc1 ar2 => w3_ofCopper (fun r6 sc4 ar5 => w3_size (fun r7 => w3_more (fun r8 => post r8 sc4 ar5) 0 ((r3 - (r6 / 10)) - r7)) ((ar5 0 1) - 5)) sc1 ar2 p1 1) sc ar p1 0
theorem hd_X3_wellBy : yX3_wellBy.cls = RX3 ∧ yX3_wellBy.cls ≠ "java/lang/invoke/MethodHandle" ∧ yX3_wellBy.cls ≠ "java/lang/invoke/VarHandle" ∧ (parseMethodDescriptor yX3_wellBy.desc).map (fun d => d.parameters.length) = some 1 := by decide +kernel
set_option maxHeartbeats 4000000 in
set_option maxRecDepth 100000 in
theorem m3_wellBy (l : Launch) (D : va_G) (ac : Nat → ClassId) (mo : Nat) (ad : Nat → Nat) (sc : wS1) (ar : wS2) (p1 : Int32) (post : Int32 → wS1 → wS2 → Prop) (hw : w3_wellBy post sc ar p1) : wm_Mi l D ac mo ad yX3_wellBy (ws_ yX3_wellBy cX3_wellBy 2 (some .int)) ({ frames := 1, cells := 0, slots := 0, locals := 22 }) [.ref mo, .int p1] sc ar post := by
  refine wm_ofi (by decide) (Nat.le_of_ble_eq_true rfl) ?_
  intro p e s m below meth c A ls hx hb hr hlk hml hown hts hK hN hAm hA hM hl
  have hl : lv_has ls 2 [(0, .ref mo), (1, .int p1)] := hl
  unfold w3_wellBy at hw
  refine lv_iconst (v := 0) hx hb dX3_wellBy_0 (by decide) ?_
  refine lv_aload_n hx hb dX3_wellBy_1 rfl (lv_at hl 0 rfl) ?_
  refine lv_iload_n hx hb dX3_wellBy_2 rfl (lv_at hl 1 rfl) ?_
  refine lv_iconst (v := 0) hx hb dX3_wellBy_3 (by decide) ?_
  refine wm_callVi (As := [.int p1, .int 0]) (rest := [.int 0]) ⟨hx, hb, hml, hown, hts⟩ hK hN hAm hA hM (m3_ofCopper l D ac mo ad sc ar p1 0 _ hw) (cwV 2 hts (lw_V q2047 q2049 qs25 q77 q2050) rfl rfl rfl hd_X3_ofCopper ⟨Nat.le_of_ble_eq_true rfl, Nat.le_of_ble_eq_true rfl⟩) rfl hl.1 rfl (Nat.le_of_ble_eq_true rfl) dX3_wellBy_4 ⟨Nat.le_refl 0, Nat.le_refl 0⟩ (fun r3 sc1 ar2 H locs hw hM => ?_)
  refine lv_aload_n hx hb dX3_wellBy_7 rfl (lv_at hl 0 rfl) ?_
  refine lv_iload_n hx hb dX3_wellBy_8 rfl (lv_at hl 1 rfl) ?_
  refine lv_iconst (v := 1) hx hb dX3_wellBy_9 (by decide) ?_
  refine wm_callVi (As := [.int p1, .int 1]) (rest := [.int r3, .int 0]) ⟨hx, hb, hml, hown, hts⟩ hK hN hAm hA hM (m3_ofCopper l D ac mo ad sc1 ar2 p1 1 _ hw) (cwV 2 hts (lw_V q2047 q2049 qs25 q77 q2050) rfl rfl rfl hd_X3_ofCopper ⟨Nat.le_of_ble_eq_true rfl, Nat.le_of_ble_eq_true rfl⟩) rfl hl.1 rfl (Nat.le_of_ble_eq_true rfl) dX3_wellBy_10 ⟨Nat.le_refl 0, Nat.le_refl 0⟩ (fun r6 sc4 ar5 H locs hw hM => ?_)
  refine lv_bipush (v := 10) hx hb dX3_wellBy_13 (by decide) ?_
  refine lv_idiv hx hb dX3_wellBy_15 (by decide) ?_
  refine lv_isub hx hb dX3_wellBy_16 ?_
  refine lv_aload_n hx hb dX3_wellBy_17 rfl (lv_at hl 0 rfl) ?_
  refine wm_get hx hb hts hown hK hM 0 (by decide) q1933 (v := .ref (ad 0)) rfl dX3_wellBy_18 ?_
  refine lv_iconst (v := 1) hx hb dX3_wellBy_21 (by decide) ?_
  refine wm_ald hx hb hK hM (k := 0) rfl vi_1_125 vc_1 (v := ar5 0 1) rfl dX3_wellBy_22 ?_
  refine lv_iconst (v := 5) hx hb dX3_wellBy_23 (by decide) ?_
  refine lv_isub hx hb dX3_wellBy_24 ?_
  refine wm_callPi (As := [.int ((ar5 0 1) - 5)]) (rest := [.int (r3 - (r6 / 10)), .int 0]) ⟨hx, hb, hml, hown, hts⟩ hA hM (m3_size l ((ar5 0 1) - 5) _ hw) (va_cwS 1 hts (lw_S q2051 q2052 q77 q2053) rfl rfl rfl hd_X3_size ⟨Nat.le_of_ble_eq_true rfl, Nat.le_of_ble_eq_true rfl⟩) rfl hl.1 rfl (Nat.le_of_ble_eq_true rfl) dX3_wellBy_25 ⟨Nat.le_refl 0, Nat.le_refl 0⟩ (fun r7 H locs hw hM => ?_)
  refine lv_isub hx hb dX3_wellBy_28 ?_
  refine wm_callPi (As := [.int 0, .int ((r3 - (r6 / 10)) - r7)]) (rest := []) ⟨hx, hb, hml, hown, hts⟩ hA hM (m3_more l 0 ((r3 - (r6 / 10)) - r7) _ hw) (va_cwS 2 hts (lw_S q2054 q2055 q77 q2056) rfl rfl rfl hd_X3_more ⟨Nat.le_of_ble_eq_true rfl, Nat.le_of_ble_eq_true rfl⟩) rfl hl.1 rfl (Nat.le_of_ble_eq_true rfl) dX3_wellBy_29 ⟨Nat.le_refl 0, Nat.le_refl 0⟩ (fun r8 H locs hw hM => ?_)
  exact wm_reti hx hb hr hlk hM rfl hw dX3_wellBy_32
def w3_bestCopper_L105 (post : Int32 → wS1 → wS2 → Prop) (k26 : Int32 → Int32 → Int32 → wS1 → wS2 → Prop) (x1 : Int32) (x2 : Int32) (x3 : Int32) (sc : wS1) (ar : wS2) : Prop := k26 x1 x2 (x3 + 1) sc ar
def w3_bestCopper_L103 (post : Int32 → wS1 → wS2 → Prop) (k26 : Int32 → Int32 → Int32 → wS1 → wS2 → Prop) (x1 : Int32) (x3 : Int32) (sc : wS1) (ar : wS2) : Prop := w3_bestCopper_L105 post k26 x1 x3 x3 sc ar
def w3_bestCopper_L121 (post : Int32 → wS1 → wS2 → Prop) (x2 : Int32) (t0 : Int32) (sc : wS1) (ar : wS2) : Prop := w3_fails (fun r33 sc31 ar32 => (r33 = 0 → (post x2 sc31 ar32)) ∧ (¬ r33 = 0 → (post 0 sc31 ar32))) sc ar t0
def w3_bestCopper_L26 (post : Int32 → wS1 → wS2 → Prop) : Nat → Int32 → Int32 → Int32 → wS1 → wS2 → Prop
  | 0, _, _, _, _, _ => False
  | n + 1, x1, x2, x3, sc, ar => ((ar 0 10) ≤ x3 → ((0 ≤ x2 → (w3_bestCopper_L121 post  x2 0 sc ar)) ∧ (¬ 0 ≤ x2 → (w3_bestCopper_L121 post  x2 2 sc ar)))) ∧ (¬ (ar 0 10) ≤ x3 → (w3_ofCopper (fun r9 sc7 ar8 => w3_of (fun r12 sc10 ar11 => ((r9 + r12) ≤ 80 → ((x2 < 0 → (w3_bestCopper_L103 post (fun x1' x2' x3' sc' ar' => w3_bestCopper_L26 post  n x1' x2' x3' sc' ar') x1 x3 sc10 ar11)) ∧ (¬ x2 < 0 → (w3_wellBy (fun r15 sc13 ar14 => w3_wellBy (fun r18 sc16 ar17 => (r18 < r15 → (w3_bestCopper_L103 post (fun x1' x2' x3' sc' ar' => w3_bestCopper_L26 post  n x1' x2' x3' sc' ar') x1 x3 sc16 ar17)) ∧ (¬ r18 < r15 → (w3_wellBy (fun r21 sc19 ar20 => w3_wellBy (fun r24 sc22 ar23 => (¬ r21 = r24 → (w3_bestCopper_L105 post (fun x1' x2' x3' sc' ar' => w3_bestCopper_L26 post  n x1' x2' x3' sc' ar') x1 x2 x3 sc22 ar23)) ∧ (r21 = r24 → (w3_ofCopper (fun r27 sc25 ar26 => w3_ofCopper (fun r30 sc28 ar29 => (r30 ≤ r27 → (w3_bestCopper_L105 post (fun x1' x2' x3' sc' ar' => w3_bestCopper_L26 post  n x1' x2' x3' sc' ar') x1 x2 x3 sc28 ar29)) ∧ (¬ r30 ≤ r27 → (w3_bestCopper_L103 post (fun x1' x2' x3' sc' ar' => w3_bestCopper_L26 post  n x1' x2' x3' sc' ar') x1 x3 sc28 ar29))) sc25 ar26 x2 1) sc22 ar23 x3 1))) sc19 ar20 x2) sc16 ar17 x3))) sc13 ar14 x2) sc10 ar11 x3)))) ∧ (¬ (r9 + r12) ≤ 80 → (w3_bestCopper_L105 post (fun x1' x2' x3' sc' ar' => w3_bestCopper_L26 post  n x1' x2' x3' sc' ar') x1 x2 x3 sc10 ar11))) sc7 ar8 x1 0) sc ar x3 1))
def w3_bestCopper_L14 (post : Int32 → wS1 → wS2 → Prop) (x1 : Int32) (t0 : Int32) (sc : wS1) (ar : wS2) : Prop := w3_fails (fun r6 sc4 ar5 => (r6 = 0 → ((∃ n, w3_bestCopper_L26 post  n x1 (-1) 0 sc4 ar5))) ∧ (¬ r6 = 0 → (post 0 sc4 ar5))) sc ar t0
def w3_bestCopper (post : Int32 → wS1 → wS2 → Prop) (sc : wS1) (ar : wS2) (p1 : Int32) : Prop := w3_isLot (fun r3 sc1 ar2 => (r3 = 0 → (w3_bestCopper_L14 post  p1 1 sc1 ar2)) ∧ (¬ r3 = 0 → (w3_bestCopper_L14 post  p1 0 sc1 ar2))) sc ar p1
theorem hd_X3_bestCopper : yX3_bestCopper.cls = RX3 ∧ yX3_bestCopper.cls ≠ "java/lang/invoke/MethodHandle" ∧ yX3_bestCopper.cls ≠ "java/lang/invoke/VarHandle" ∧ (parseMethodDescriptor yX3_bestCopper.desc).map (fun d => d.parameters.length) = some 1 := by decide +kernel
set_option maxHeartbeats 4000000 in
set_option maxRecDepth 100000 in
theorem m3_bestCopper (l : Launch) (D : va_G) (ac : Nat → ClassId) (mo : Nat) (ad : Nat → Nat) (sc : wS1) (ar : wS2) (p1 : Int32) (post : Int32 → wS1 → wS2 → Prop) (hw : w3_bestCopper post sc ar p1) : wm_Mi l D ac mo ad yX3_bestCopper (ws_ yX3_bestCopper cX3_bestCopper 4 (some .int)) ({ frames := 2, cells := 0, slots := 0, locals := 43 }) [.ref mo, .int p1] sc ar post := by
  refine wm_ofi (by decide) (Nat.le_of_ble_eq_true rfl) ?_
  intro p e s m below meth c A ls hx hb hr hlk hml hown hts hK hN hAm hA hM hl
  have hl : lv_has ls 4 [(0, .ref mo), (1, .int p1)] := hl
  unfold w3_bestCopper at hw
  have hL105 : ∀ (k26 : Int32 → Int32 → Int32 → wS1 → wS2 → Prop) (hk26 : ∀ (x1 : Int32) (x2 : Int32) (x3 : Int32) (sc : wS1) (ar : wS2) (H : Heap) (locs : List Loc) (ls : Array Slot), wm_S D ac A s.heap mo ad sc ar H locs → lv_has ls 4 [(0, .ref mo), (1, .int x1), (2, .int x2), (3, .int x3)] → k26 x1 x2 x3 sc ar → W p l e (headSpec (ws_ yX3_bestCopper cX3_bestCopper 4 (some .int)) ({ frames := 2, cells := 0, slots := 0, locals := 43 })).room s m ([.ref mo, .int p1] : List Value).toArray below meth c H locs 0 0 (MQ below (va_Qi (S := wU) (fun r u => post r u.1 u.2) (wm_B D ac mo ad) A) ([.ref mo, .int p1] : List Value).toArray s 0 0 A) (F0 m 26 ls [])) (x1 : Int32) (x2 : Int32) (x3 : Int32) (sc : wS1) (ar : wS2) (H : Heap) (locs : List Loc) (ls : Array Slot), wm_S D ac A s.heap mo ad sc ar H locs → lv_has ls 4 [(0, .ref mo), (1, .int x1), (2, .int x2), (3, .int x3)] → w3_bestCopper_L105 post k26 x1 x2 x3 sc ar → W p l e (headSpec (ws_ yX3_bestCopper cX3_bestCopper 4 (some .int)) ({ frames := 2, cells := 0, slots := 0, locals := 43 })).room s m ([.ref mo, .int p1] : List Value).toArray below meth c H locs 0 0 (MQ below (va_Qi (S := wU) (fun r u => post r u.1 u.2) (wm_B D ac mo ad) A) ([.ref mo, .int p1] : List Value).toArray s 0 0 A) (F0 m 105 ls []) := by
    intro k26 hk26 x1 x2 x3 sc ar H locs ls hM hl hw
    unfold w3_bestCopper_L105 at hw
    refine lv_iinc (v := x3 + 1) (lv' := [(3, .int (x3 + 1)), (0, .ref mo), (1, .int x1), (2, .int x2)]) hx hb dX3_bestCopper_105 hl (k := 3) rfl rfl (by decide) rfl (fun ls hl => ?_)
    refine lv_goto (tgt := 26) hx hb dX3_bestCopper_108 (by decide) ?_
    exact hk26 x1 x2 (x3 + 1) sc ar _ _ ls hM (lv_sub hl [1, 2, 3, 0] rfl) hw
  have hL103 : ∀ (k26 : Int32 → Int32 → Int32 → wS1 → wS2 → Prop) (hk26 : ∀ (x1 : Int32) (x2 : Int32) (x3 : Int32) (sc : wS1) (ar : wS2) (H : Heap) (locs : List Loc) (ls : Array Slot), wm_S D ac A s.heap mo ad sc ar H locs → lv_has ls 4 [(0, .ref mo), (1, .int x1), (2, .int x2), (3, .int x3)] → k26 x1 x2 x3 sc ar → W p l e (headSpec (ws_ yX3_bestCopper cX3_bestCopper 4 (some .int)) ({ frames := 2, cells := 0, slots := 0, locals := 43 })).room s m ([.ref mo, .int p1] : List Value).toArray below meth c H locs 0 0 (MQ below (va_Qi (S := wU) (fun r u => post r u.1 u.2) (wm_B D ac mo ad) A) ([.ref mo, .int p1] : List Value).toArray s 0 0 A) (F0 m 26 ls [])) (x1 : Int32) (x3 : Int32) (sc : wS1) (ar : wS2) (H : Heap) (locs : List Loc) (ls : Array Slot), wm_S D ac A s.heap mo ad sc ar H locs → lv_has ls 4 [(0, .ref mo), (1, .int x1), (3, .int x3)] → w3_bestCopper_L103 post k26 x1 x3 sc ar → W p l e (headSpec (ws_ yX3_bestCopper cX3_bestCopper 4 (some .int)) ({ frames := 2, cells := 0, slots := 0, locals := 43 })).room s m ([.ref mo, .int p1] : List Value).toArray below meth c H locs 0 0 (MQ below (va_Qi (S := wU) (fun r u => post r u.1 u.2) (wm_B D ac mo ad) A) ([.ref mo, .int p1] : List Value).toArray s 0 0 A) (F0 m 103 ls []) := by
    intro k26 hk26 x1 x3 sc ar H locs ls hM hl hw
    unfold w3_bestCopper_L103 at hw
    refine lv_iload_n hx hb dX3_bestCopper_103 rfl (lv_at hl 2 rfl) ?_
    refine lv_istore_n (lv' := [(2, .int x3), (0, .ref mo), (1, .int x1), (3, .int x3)]) hx hb dX3_bestCopper_104 rfl hl (by decide) rfl (fun ls hl => ?_)
    exact hL105 k26 hk26 x1 x3 x3 sc ar _ _ ls hM (lv_sub hl [1, 2, 0, 3] rfl) hw
  have hL121 : ∀ (x2 : Int32) (t0 : Int32) (sc : wS1) (ar : wS2) (H : Heap) (locs : List Loc) (ls : Array Slot), wm_S D ac A s.heap mo ad sc ar H locs → lv_has ls 4 [(2, .int x2)] → w3_bestCopper_L121 post x2 t0 sc ar → W p l e (headSpec (ws_ yX3_bestCopper cX3_bestCopper 4 (some .int)) ({ frames := 2, cells := 0, slots := 0, locals := 43 })).room s m ([.ref mo, .int p1] : List Value).toArray below meth c H locs 0 0 (MQ below (va_Qi (S := wU) (fun r u => post r u.1 u.2) (wm_B D ac mo ad) A) ([.ref mo, .int p1] : List Value).toArray s 0 0 A) (F0 m 121 ls [.int t0, .ref mo]) := by
    intro x2 t0 sc ar H locs ls hM hl hw
    unfold w3_bestCopper_L121 at hw
    refine wm_callVi (As := [.int t0]) (rest := []) ⟨hx, hb, hml, hown, hts⟩ hK hN hAm hA hM (m3_fails l D ac mo ad sc ar t0 _ hw) (cwV 1 hts (lw_V q2008 q2010 qs19 q77 q2011) rfl rfl rfl hd_X3_fails ⟨Nat.le_of_ble_eq_true rfl, Nat.le_of_ble_eq_true rfl⟩) rfl hl.1 rfl (Nat.le_of_ble_eq_true rfl) dX3_bestCopper_121 ⟨Nat.le_refl 0, Nat.le_refl 0⟩ (fun r33 sc31 ar32 H locs hw hM => ?_)
    refine lv_if_eq (tgt := 131) hx hb dX3_bestCopper_124 (by decide) (fun c_ => ?_) (fun c_ => ?_)
    · replace hw := hw.1 c_
      refine lv_iload_n hx hb dX3_bestCopper_131 rfl (lv_at hl 0 rfl) ?_
      exact wm_reti hx hb hr hlk hM rfl hw dX3_bestCopper_132
    · replace hw := hw.2 c_
      refine lv_iconst (v := 0) hx hb dX3_bestCopper_127 (by decide) ?_
      refine lv_goto (tgt := 132) hx hb dX3_bestCopper_128 (by decide) ?_
      exact wm_reti hx hb hr hlk hM rfl hw dX3_bestCopper_132
  have hL26 : ∀ (n : Nat) (x1 : Int32) (x2 : Int32) (x3 : Int32) (sc : wS1) (ar : wS2) (H : Heap) (locs : List Loc) (ls : Array Slot), wm_S D ac A s.heap mo ad sc ar H locs → lv_has ls 4 [(0, .ref mo), (1, .int x1), (2, .int x2), (3, .int x3)] → w3_bestCopper_L26 post n x1 x2 x3 sc ar → W p l e (headSpec (ws_ yX3_bestCopper cX3_bestCopper 4 (some .int)) ({ frames := 2, cells := 0, slots := 0, locals := 43 })).room s m ([.ref mo, .int p1] : List Value).toArray below meth c H locs 0 0 (MQ below (va_Qi (S := wU) (fun r u => post r u.1 u.2) (wm_B D ac mo ad) A) ([.ref mo, .int p1] : List Value).toArray s 0 0 A) (F0 m 26 ls []) := by
    intro n
    induction n with
    | zero => exact fun _ _ _ _ _ _ _ _ _ _ hw => hw.elim
    | succ n ih =>
      intro x1 x2 x3 sc ar H locs ls hM hl hw
      unfold w3_bestCopper_L26 at hw
      refine lv_iload_n hx hb dX3_bestCopper_26 rfl (lv_at hl 3 rfl) ?_
      refine lv_aload_n hx hb dX3_bestCopper_27 rfl (lv_at hl 0 rfl) ?_
      refine wm_get hx hb hts hown hK hM 0 (by decide) q1933 (v := .ref (ad 0)) rfl dX3_bestCopper_28 ?_
      refine lv_bipush (v := 10) hx hb dX3_bestCopper_31 (by decide) ?_
      refine wm_ald hx hb hK hM (k := 0) rfl vi_10_125 vc_10 (v := ar 0 10) rfl dX3_bestCopper_33 ?_
      refine lv_icmp_ge (tgt := 111) hx hb dX3_bestCopper_34 (by decide) (fun c_ => ?_) (fun c_ => ?_)
      · replace hw := hw.1 c_
        refine lv_aload_n hx hb dX3_bestCopper_111 rfl (lv_at hl 0 rfl) ?_
        refine lv_iload_n hx hb dX3_bestCopper_112 rfl (lv_at hl 2 rfl) ?_
        refine lv_if_ge (tgt := 120) hx hb dX3_bestCopper_113 (by decide) (fun c_ => ?_) (fun c_ => ?_)
        · replace hw := hw.1 c_
          refine lv_iconst (v := 0) hx hb dX3_bestCopper_120 (by decide) ?_
          exact hL121  x2 0 sc ar _ _ ls hM (lv_sub hl [2] rfl) hw
        · replace hw := hw.2 c_
          refine lv_iconst (v := 2) hx hb dX3_bestCopper_116 (by decide) ?_
          refine lv_goto (tgt := 121) hx hb dX3_bestCopper_117 (by decide) ?_
          exact hL121  x2 2 sc ar _ _ ls hM (lv_sub hl [2] rfl) hw
      · replace hw := hw.2 c_
        refine lv_aload_n hx hb dX3_bestCopper_37 rfl (lv_at hl 0 rfl) ?_
        refine lv_iload_n hx hb dX3_bestCopper_38 rfl (lv_at hl 3 rfl) ?_
        refine lv_iconst (v := 1) hx hb dX3_bestCopper_39 (by decide) ?_
        refine wm_callVi (As := [.int x3, .int 1]) (rest := []) ⟨hx, hb, hml, hown, hts⟩ hK hN hAm hA hM (m3_ofCopper l D ac mo ad sc ar x3 1 _ hw) (cwV 2 hts (lw_V q2047 q2049 qs25 q77 q2050) rfl rfl rfl hd_X3_ofCopper ⟨Nat.le_of_ble_eq_true rfl, Nat.le_of_ble_eq_true rfl⟩) rfl hl.1 rfl (Nat.le_of_ble_eq_true rfl) dX3_bestCopper_40 ⟨Nat.le_refl 0, Nat.le_refl 0⟩ (fun r9 sc7 ar8 H locs hw hM => ?_)
        refine lv_aload_n hx hb dX3_bestCopper_43 rfl (lv_at hl 0 rfl) ?_
        refine lv_iload_n hx hb dX3_bestCopper_44 rfl (lv_at hl 1 rfl) ?_
        refine lv_iconst (v := 0) hx hb dX3_bestCopper_45 (by decide) ?_
        refine wm_callVi (As := [.int x1, .int 0]) (rest := [.int r9]) ⟨hx, hb, hml, hown, hts⟩ hK hN hAm hA hM (m3_of l D ac mo ad sc7 ar8 x1 0 _ hw) (cwV 2 hts (lw_V q2069 q2071 qs27 q77 q2072) rfl rfl rfl hd_X3_of ⟨Nat.le_of_ble_eq_true rfl, Nat.le_of_ble_eq_true rfl⟩) rfl hl.1 rfl (Nat.le_of_ble_eq_true rfl) dX3_bestCopper_46 ⟨Nat.le_refl 0, Nat.le_refl 0⟩ (fun r12 sc10 ar11 H locs hw hM => ?_)
        refine lv_iadd hx hb dX3_bestCopper_49 ?_
        refine lv_bipush (v := 80) hx hb dX3_bestCopper_50 (by decide) ?_
        refine lv_icmp_le (tgt := 58) hx hb dX3_bestCopper_52 (by decide) (fun c_ => ?_) (fun c_ => ?_)
        · replace hw := hw.1 c_
          refine lv_iload_n hx hb dX3_bestCopper_58 rfl (lv_at hl 2 rfl) ?_
          refine lv_if_lt (tgt := 103) hx hb dX3_bestCopper_59 (by decide) (fun c_ => ?_) (fun c_ => ?_)
          · replace hw := hw.1 c_
            exact hL103 (fun x1' x2' x3' sc' ar' => w3_bestCopper_L26 post  n x1' x2' x3' sc' ar') (fun x1' x2' x3' sc' ar' H locs ls hM hl hw => ih x1' x2' x3' sc' ar' H locs ls hM hl hw) x1 x3 sc10 ar11 _ _ ls hM (lv_sub hl [0, 1, 3] rfl) hw
          · replace hw := hw.2 c_
            refine lv_aload_n hx hb dX3_bestCopper_62 rfl (lv_at hl 0 rfl) ?_
            refine lv_iload_n hx hb dX3_bestCopper_63 rfl (lv_at hl 3 rfl) ?_
            refine wm_callVi (As := [.int x3]) (rest := []) ⟨hx, hb, hml, hown, hts⟩ hK hN hAm hA hM (m3_wellBy l D ac mo ad sc10 ar11 x3 _ hw) (cwV 1 hts (lw_V q2043 q2045 qs24 q77 q2046) rfl rfl rfl hd_X3_wellBy ⟨Nat.le_of_ble_eq_true rfl, Nat.le_of_ble_eq_true rfl⟩) rfl hl.1 rfl (Nat.le_of_ble_eq_true rfl) dX3_bestCopper_64 ⟨Nat.le_refl 0, Nat.le_refl 0⟩ (fun r15 sc13 ar14 H locs hw hM => ?_)
            refine lv_aload_n hx hb dX3_bestCopper_67 rfl (lv_at hl 0 rfl) ?_
            refine lv_iload_n hx hb dX3_bestCopper_68 rfl (lv_at hl 2 rfl) ?_
            refine wm_callVi (As := [.int x2]) (rest := [.int r15]) ⟨hx, hb, hml, hown, hts⟩ hK hN hAm hA hM (m3_wellBy l D ac mo ad sc13 ar14 x2 _ hw) (cwV 1 hts (lw_V q2043 q2045 qs24 q77 q2046) rfl rfl rfl hd_X3_wellBy ⟨Nat.le_of_ble_eq_true rfl, Nat.le_of_ble_eq_true rfl⟩) rfl hl.1 rfl (Nat.le_of_ble_eq_true rfl) dX3_bestCopper_69 ⟨Nat.le_refl 0, Nat.le_refl 0⟩ (fun r18 sc16 ar17 H locs hw hM => ?_)
            refine lv_icmp_gt (tgt := 103) hx hb dX3_bestCopper_72 (by decide) (fun c_ => ?_) (fun c_ => ?_)
            · replace hw := hw.1 c_
              exact hL103 (fun x1' x2' x3' sc' ar' => w3_bestCopper_L26 post  n x1' x2' x3' sc' ar') (fun x1' x2' x3' sc' ar' H locs ls hM hl hw => ih x1' x2' x3' sc' ar' H locs ls hM hl hw) x1 x3 sc16 ar17 _ _ ls hM (lv_sub hl [0, 1, 3] rfl) hw
            · replace hw := hw.2 c_
              refine lv_aload_n hx hb dX3_bestCopper_75 rfl (lv_at hl 0 rfl) ?_
              refine lv_iload_n hx hb dX3_bestCopper_76 rfl (lv_at hl 3 rfl) ?_
              refine wm_callVi (As := [.int x3]) (rest := []) ⟨hx, hb, hml, hown, hts⟩ hK hN hAm hA hM (m3_wellBy l D ac mo ad sc16 ar17 x3 _ hw) (cwV 1 hts (lw_V q2043 q2045 qs24 q77 q2046) rfl rfl rfl hd_X3_wellBy ⟨Nat.le_of_ble_eq_true rfl, Nat.le_of_ble_eq_true rfl⟩) rfl hl.1 rfl (Nat.le_of_ble_eq_true rfl) dX3_bestCopper_77 ⟨Nat.le_refl 0, Nat.le_refl 0⟩ (fun r21 sc19 ar20 H locs hw hM => ?_)
              refine lv_aload_n hx hb dX3_bestCopper_80 rfl (lv_at hl 0 rfl) ?_
              refine lv_iload_n hx hb dX3_bestCopper_81 rfl (lv_at hl 2 rfl) ?_
              refine wm_callVi (As := [.int x2]) (rest := [.int r21]) ⟨hx, hb, hml, hown, hts⟩ hK hN hAm hA hM (m3_wellBy l D ac mo ad sc19 ar20 x2 _ hw) (cwV 1 hts (lw_V q2043 q2045 qs24 q77 q2046) rfl rfl rfl hd_X3_wellBy ⟨Nat.le_of_ble_eq_true rfl, Nat.le_of_ble_eq_true rfl⟩) rfl hl.1 rfl (Nat.le_of_ble_eq_true rfl) dX3_bestCopper_82 ⟨Nat.le_refl 0, Nat.le_refl 0⟩ (fun r24 sc22 ar23 H locs hw hM => ?_)
              refine lv_icmp_ne (tgt := 105) hx hb dX3_bestCopper_85 (by decide) (fun c_ => ?_) (fun c_ => ?_)
              · replace hw := hw.1 c_
                exact hL105 (fun x1' x2' x3' sc' ar' => w3_bestCopper_L26 post  n x1' x2' x3' sc' ar') (fun x1' x2' x3' sc' ar' H locs ls hM hl hw => ih x1' x2' x3' sc' ar' H locs ls hM hl hw) x1 x2 x3 sc22 ar23 _ _ ls hM (lv_sub hl [0, 1, 2, 3] rfl) hw
              · replace hw := hw.2 c_
                refine lv_aload_n hx hb dX3_bestCopper_88 rfl (lv_at hl 0 rfl) ?_
                refine lv_iload_n hx hb dX3_bestCopper_89 rfl (lv_at hl 3 rfl) ?_
                refine lv_iconst (v := 1) hx hb dX3_bestCopper_90 (by decide) ?_
                refine wm_callVi (As := [.int x3, .int 1]) (rest := []) ⟨hx, hb, hml, hown, hts⟩ hK hN hAm hA hM (m3_ofCopper l D ac mo ad sc22 ar23 x3 1 _ hw) (cwV 2 hts (lw_V q2047 q2049 qs25 q77 q2050) rfl rfl rfl hd_X3_ofCopper ⟨Nat.le_of_ble_eq_true rfl, Nat.le_of_ble_eq_true rfl⟩) rfl hl.1 rfl (Nat.le_of_ble_eq_true rfl) dX3_bestCopper_91 ⟨Nat.le_refl 0, Nat.le_refl 0⟩ (fun r27 sc25 ar26 H locs hw hM => ?_)
                refine lv_aload_n hx hb dX3_bestCopper_94 rfl (lv_at hl 0 rfl) ?_
                refine lv_iload_n hx hb dX3_bestCopper_95 rfl (lv_at hl 2 rfl) ?_
                refine lv_iconst (v := 1) hx hb dX3_bestCopper_96 (by decide) ?_
                refine wm_callVi (As := [.int x2, .int 1]) (rest := [.int r27]) ⟨hx, hb, hml, hown, hts⟩ hK hN hAm hA hM (m3_ofCopper l D ac mo ad sc25 ar26 x2 1 _ hw) (cwV 2 hts (lw_V q2047 q2049 qs25 q77 q2050) rfl rfl rfl hd_X3_ofCopper ⟨Nat.le_of_ble_eq_true rfl, Nat.le_of_ble_eq_true rfl⟩) rfl hl.1 rfl (Nat.le_of_ble_eq_true rfl) dX3_bestCopper_97 ⟨Nat.le_refl 0, Nat.le_refl 0⟩ (fun r30 sc28 ar29 H locs hw hM => ?_)
                refine lv_icmp_ge (tgt := 105) hx hb dX3_bestCopper_100 (by decide) (fun c_ => ?_) (fun c_ => ?_)
                · replace hw := hw.1 c_
                  exact hL105 (fun x1' x2' x3' sc' ar' => w3_bestCopper_L26 post  n x1' x2' x3' sc' ar') (fun x1' x2' x3' sc' ar' H locs ls hM hl hw => ih x1' x2' x3' sc' ar' H locs ls hM hl hw) x1 x2 x3 sc28 ar29 _ _ ls hM (lv_sub hl [0, 1, 2, 3] rfl) hw
                · replace hw := hw.2 c_
                  exact hL103 (fun x1' x2' x3' sc' ar' => w3_bestCopper_L26 post  n x1' x2' x3' sc' ar') (fun x1' x2' x3' sc' ar' H locs ls hM hl hw => ih x1' x2' x3' sc' ar' H locs ls hM hl hw) x1 x3 sc28 ar29 _ _ ls hM (lv_sub hl [0, 1, 3] rfl) hw
        · replace hw := hw.2 c_
          refine lv_goto (tgt := 105) hx hb dX3_bestCopper_55 (by decide) ?_
          exact hL105 (fun x1' x2' x3' sc' ar' => w3_bestCopper_L26 post  n x1' x2' x3' sc' ar') (fun x1' x2' x3' sc' ar' H locs ls hM hl hw => ih x1' x2' x3' sc' ar' H locs ls hM hl hw) x1 x2 x3 sc10 ar11 _ _ ls hM (lv_sub hl [0, 1, 2, 3] rfl) hw
  have hL14 : ∀ (x1 : Int32) (t0 : Int32) (sc : wS1) (ar : wS2) (H : Heap) (locs : List Loc) (ls : Array Slot), wm_S D ac A s.heap mo ad sc ar H locs → lv_has ls 4 [(0, .ref mo), (1, .int x1)] → w3_bestCopper_L14 post x1 t0 sc ar → W p l e (headSpec (ws_ yX3_bestCopper cX3_bestCopper 4 (some .int)) ({ frames := 2, cells := 0, slots := 0, locals := 43 })).room s m ([.ref mo, .int p1] : List Value).toArray below meth c H locs 0 0 (MQ below (va_Qi (S := wU) (fun r u => post r u.1 u.2) (wm_B D ac mo ad) A) ([.ref mo, .int p1] : List Value).toArray s 0 0 A) (F0 m 14 ls [.int t0, .ref mo]) := by
    intro x1 t0 sc ar H locs ls hM hl hw
    unfold w3_bestCopper_L14 at hw
    refine wm_callVi (As := [.int t0]) (rest := []) ⟨hx, hb, hml, hown, hts⟩ hK hN hAm hA hM (m3_fails l D ac mo ad sc ar t0 _ hw) (cwV 1 hts (lw_V q2008 q2010 qs19 q77 q2011) rfl rfl rfl hd_X3_fails ⟨Nat.le_of_ble_eq_true rfl, Nat.le_of_ble_eq_true rfl⟩) rfl hl.1 rfl (Nat.le_of_ble_eq_true rfl) dX3_bestCopper_14 ⟨Nat.le_refl 0, Nat.le_refl 0⟩ (fun r6 sc4 ar5 H locs hw hM => ?_)
    refine lv_if_eq (tgt := 22) hx hb dX3_bestCopper_17 (by decide) (fun c_ => ?_) (fun c_ => ?_)
    · replace hw := hw.1 c_
      refine lv_iconst (v := (-1)) hx hb dX3_bestCopper_22 (by decide) ?_
      refine lv_istore_n (lv' := [(2, .int (-1)), (0, .ref mo), (1, .int x1)]) hx hb dX3_bestCopper_23 rfl hl (by decide) rfl (fun ls hl => ?_)
      refine lv_iconst (v := 0) hx hb dX3_bestCopper_24 (by decide) ?_
      refine lv_istore_n (lv' := [(3, .int 0), (2, .int (-1)), (0, .ref mo), (1, .int x1)]) hx hb dX3_bestCopper_25 rfl hl (by decide) rfl (fun ls hl => ?_)
      obtain ⟨n0, hw⟩ := hw
      exact hL26  n0 x1 (-1) 0 sc4 ar5 _ _ ls hM (lv_sub hl [2, 3, 1, 0] rfl) hw
    · replace hw := hw.2 c_
      refine lv_iconst (v := 0) hx hb dX3_bestCopper_20 (by decide) ?_
      exact wm_reti hx hb hr hlk hM rfl hw dX3_bestCopper_21
  refine lv_aload_n hx hb dX3_bestCopper_0 rfl (lv_at hl 0 rfl) ?_
  refine lv_aload_n hx hb dX3_bestCopper_1 rfl (lv_at hl 0 rfl) ?_
  refine lv_iload_n hx hb dX3_bestCopper_2 rfl (lv_at hl 1 rfl) ?_
  refine wm_callVi (As := [.int p1]) (rest := [.ref mo]) ⟨hx, hb, hml, hown, hts⟩ hK hN hAm hA hM (m3_isLot l D ac mo ad sc ar p1 _ hw) (cwV 1 hts (lw_V q2065 q2067 qs26 q77 q2068) rfl rfl rfl hd_X3_isLot ⟨Nat.le_of_ble_eq_true rfl, Nat.le_of_ble_eq_true rfl⟩) rfl hl.1 rfl (Nat.le_of_ble_eq_true rfl) dX3_bestCopper_3 ⟨Nat.le_refl 0, Nat.le_refl 0⟩ (fun r3 sc1 ar2 H locs hw hM => ?_)
  refine lv_if_eq (tgt := 13) hx hb dX3_bestCopper_6 (by decide) (fun c_ => ?_) (fun c_ => ?_)
  · replace hw := hw.1 c_
    refine lv_iconst (v := 1) hx hb dX3_bestCopper_13 (by decide) ?_
    exact hL14  p1 1 sc1 ar2 _ _ ls hM (lv_sub hl [0, 1] rfl) hw
  · replace hw := hw.2 c_
    refine lv_iconst (v := 0) hx hb dX3_bestCopper_9 (by decide) ?_
    refine lv_goto (tgt := 14) hx hb dX3_bestCopper_10 (by decide) ?_
    exact hL14  p1 0 sc1 ar2 _ _ ls hM (lv_sub hl [0, 1] rfl) hw
def w3_lot_L32 (post : Int32 → wS1 → wS2 → Prop) (x1 : Int32) (t0 : Int32) (sc : wS1) (ar : wS2) : Prop := w3_fails (fun r4 sc2 ar3 => (r4 = 0 → ((((x1 + 3) / 4) ≤ (ar3 0 3) → (w3_keeps (fun sc5 ar6 => w3_pays (fun sc7 ar8 => w3_lays (fun sc9 ar10 => w3_lays (fun sc11 ar12 => w3_lays (fun sc13 ar14 => w3_lays (fun sc15 ar16 => w3_lays (fun sc17 ar18 => post (ar8 0 26) sc17 ar18) sc15 ar16 (ar8 0 26) 4 (-1)) sc13 ar14 (ar8 0 26) 3 (-1)) sc11 ar12 (ar8 0 26) 2 (-1)) sc9 ar10 (ar8 0 26) 1 0) sc7 (va_up ar8 0 (upd (upd (ar8 0) 26 ((ar8 0 26) + 1)) 4 ((ar8 0 4) + x1))) (ar8 0 26) 0 x1) sc5 ar6 ((x1 + 3) / 4)) sc2 ar3 0)) ∧ (¬ ((x1 + 3) / 4) ≤ (ar3 0 3) → (w3_refuses (fun r21 sc19 ar20 => post r21 sc19 ar20) sc2 ar3 3 6 (((x1 + 3) / 4) - (ar3 0 3)))))) ∧ (¬ r4 = 0 → (post 0 sc2 ar3))) sc ar t0
def w3_lot (post : Int32 → wS1 → wS2 → Prop) (sc : wS1) (ar : wS2) (p1 : Int32) : Prop := w3_in (fun r1 => (¬ r1 = 0 → ((¬ (ar 0 26) = 12 → (w3_lot_L32 post  p1 0 sc ar)) ∧ ((ar 0 26) = 12 → (w3_lot_L32 post  p1 2 sc ar)))) ∧ (r1 = 0 → (w3_lot_L32 post  p1 1 sc ar))) p1 1 30
theorem hd_X3_lot : yX3_lot.cls = RX3 ∧ yX3_lot.cls ≠ "java/lang/invoke/MethodHandle" ∧ yX3_lot.cls ≠ "java/lang/invoke/VarHandle" ∧ (parseMethodDescriptor yX3_lot.desc).map (fun d => d.parameters.length) = some 1 := by decide +kernel
set_option maxHeartbeats 4000000 in
set_option maxRecDepth 100000 in
theorem m3_lot (l : Launch) (D : va_G) (ac : Nat → ClassId) (mo : Nat) (ad : Nat → Nat) (sc : wS1) (ar : wS2) (p1 : Int32) (post : Int32 → wS1 → wS2 → Prop) (hw : w3_lot post sc ar p1) : wm_Mi l D ac mo ad yX3_lot (ws_ yX3_lot cX3_lot 4 (some .int)) ({ frames := 2, cells := 0, slots := 0, locals := 46 }) [.ref mo, .int p1] sc ar post := by
  refine wm_ofi (by decide) (Nat.le_of_ble_eq_true rfl) ?_
  intro p e s m below meth c A ls hx hb hr hlk hml hown hts hK hN hAm hA hM hl
  have hl : lv_has ls 4 [(0, .ref mo), (1, .int p1)] := hl
  unfold w3_lot at hw
  have hL32 : ∀ (x1 : Int32) (t0 : Int32) (sc : wS1) (ar : wS2) (H : Heap) (locs : List Loc) (ls : Array Slot), wm_S D ac A s.heap mo ad sc ar H locs → lv_has ls 4 [(0, .ref mo), (1, .int x1)] → w3_lot_L32 post x1 t0 sc ar → W p l e (headSpec (ws_ yX3_lot cX3_lot 4 (some .int)) ({ frames := 2, cells := 0, slots := 0, locals := 46 })).room s m ([.ref mo, .int p1] : List Value).toArray below meth c H locs 0 0 (MQ below (va_Qi (S := wU) (fun r u => post r u.1 u.2) (wm_B D ac mo ad) A) ([.ref mo, .int p1] : List Value).toArray s 0 0 A) (F0 m 32 ls [.int t0, .ref mo]) := by
    intro x1 t0 sc ar H locs ls hM hl hw
    unfold w3_lot_L32 at hw
    refine wm_callVi (As := [.int t0]) (rest := []) ⟨hx, hb, hml, hown, hts⟩ hK hN hAm hA hM (m3_fails l D ac mo ad sc ar t0 _ hw) (cwV 1 hts (lw_V q2008 q2010 qs19 q77 q2011) rfl rfl rfl hd_X3_fails ⟨Nat.le_of_ble_eq_true rfl, Nat.le_of_ble_eq_true rfl⟩) rfl hl.1 rfl (Nat.le_of_ble_eq_true rfl) dX3_lot_32 ⟨Nat.le_refl 0, Nat.le_refl 0⟩ (fun r4 sc2 ar3 H locs hw hM => ?_)
    refine lv_if_eq (tgt := 40) hx hb dX3_lot_35 (by decide) (fun c_ => ?_) (fun c_ => ?_)
    · replace hw := hw.1 c_
      refine lv_iload_n hx hb dX3_lot_40 rfl (lv_at hl 1 rfl) ?_
      refine lv_iconst (v := 3) hx hb dX3_lot_41 (by decide) ?_
      refine lv_iadd hx hb dX3_lot_42 ?_
      refine lv_iconst (v := 4) hx hb dX3_lot_43 (by decide) ?_
      refine lv_idiv hx hb dX3_lot_44 (by decide) ?_
      refine lv_istore_n (lv' := [(2, .int ((x1 + 3) / 4)), (0, .ref mo), (1, .int x1)]) hx hb dX3_lot_45 rfl hl (by decide) rfl (fun ls hl => ?_)
      refine lv_aload_n hx hb dX3_lot_46 rfl (lv_at hl 1 rfl) ?_
      refine wm_get hx hb hts hown hK hM 0 (by decide) q1933 (v := .ref (ad 0)) rfl dX3_lot_47 ?_
      refine lv_iconst (v := 3) hx hb dX3_lot_50 (by decide) ?_
      refine wm_ald hx hb hK hM (k := 0) rfl vi_3_125 vc_3 (v := ar3 0 3) rfl dX3_lot_51 ?_
      refine lv_iload_n hx hb dX3_lot_52 rfl (lv_at hl 0 rfl) ?_
      refine lv_icmp_ge (tgt := 72) hx hb dX3_lot_53 (by decide) (fun c_ => ?_) (fun c_ => ?_)
      · replace hw := hw.1 c_
        refine lv_aload_n hx hb dX3_lot_72 rfl (lv_at hl 1 rfl) ?_
        refine lv_aload_n hx hb dX3_lot_73 rfl (lv_at hl 1 rfl) ?_
        refine wm_get hx hb hts hown hK hM 0 (by decide) q1933 (v := .ref (ad 0)) rfl dX3_lot_74 ?_
        refine wm_callVv (As := [.ref (ad 0)]) (rest := []) ⟨hx, hb, hml, hown, hts⟩ hK hN hAm hA hM (m3_keeps l D ac mo ad sc2 ar3 0 _ rfl hw) (cwV 1 hts (lw_V q2016 q2018 qs21 q77 q2019) rfl rfl rfl hd_X3_keeps ⟨Nat.le_of_ble_eq_true rfl, Nat.le_of_ble_eq_true rfl⟩) rfl hl.1 rfl (Nat.le_of_ble_eq_true rfl) dX3_lot_77 ⟨Nat.le_refl 0, Nat.le_refl 0⟩ (fun sc5 ar6 H locs hw hM => ?_)
        refine lv_aload_n hx hb dX3_lot_80 rfl (lv_at hl 1 rfl) ?_
        refine lv_iload_n hx hb dX3_lot_81 rfl (lv_at hl 0 rfl) ?_
        refine wm_callVv (As := [.int ((x1 + 3) / 4)]) (rest := []) ⟨hx, hb, hml, hown, hts⟩ hK hN hAm hA hM (m3_pays l D ac mo ad sc5 ar6 ((x1 + 3) / 4) _ hw) (cwV 1 hts (lw_V q2023 q2025 qs22 q77 q2026) rfl rfl rfl hd_X3_pays ⟨Nat.le_of_ble_eq_true rfl, Nat.le_of_ble_eq_true rfl⟩) rfl hl.1 rfl (Nat.le_of_ble_eq_true rfl) dX3_lot_82 ⟨Nat.le_refl 0, Nat.le_refl 0⟩ (fun sc7 ar8 H locs hw hM => ?_)
        refine lv_aload_n hx hb dX3_lot_85 rfl (lv_at hl 1 rfl) ?_
        refine wm_get hx hb hts hown hK hM 0 (by decide) q1933 (v := .ref (ad 0)) rfl dX3_lot_86 ?_
        refine lv_bipush (v := 26) hx hb dX3_lot_89 (by decide) ?_
        refine wm_ald hx hb hK hM (k := 0) rfl vi_26_125 vc_26 (v := ar8 0 26) rfl dX3_lot_91 ?_
        refine lv_istore_n (lv' := [(3, .int (ar8 0 26)), (2, .int ((x1 + 3) / 4)), (0, .ref mo), (1, .int x1)]) hx hb dX3_lot_92 rfl hl (by decide) rfl (fun ls hl => ?_)
        refine lv_aload_n hx hb dX3_lot_93 rfl (lv_at hl 2 rfl) ?_
        refine wm_get hx hb hts hown hK hM 0 (by decide) q1933 (v := .ref (ad 0)) rfl dX3_lot_94 ?_
        refine lv_bipush (v := 26) hx hb dX3_lot_97 (by decide) ?_
        refine lv_dup2_11 hx hb dX3_lot_99 rfl rfl ?_
        refine wm_ald hx hb hK hM (k := 0) rfl vi_26_125 vc_26 (v := ar8 0 26) rfl dX3_lot_100 ?_
        refine lv_iconst (v := 1) hx hb dX3_lot_101 (by decide) ?_
        refine lv_iadd hx hb dX3_lot_102 ?_
        refine wm_ast hx hb hK hN hAm hM (k := 0) rfl vi_26_125 vc_26 (f := ar8 0) rfl dX3_lot_103 (fun H locs hM => ?_)
        refine lv_aload_n hx hb dX3_lot_104 rfl (lv_at hl 2 rfl) ?_
        refine wm_get hx hb hts hown hK hM 0 (by decide) q1933 (v := .ref (ad 0)) rfl dX3_lot_105 ?_
        refine lv_iconst (v := 4) hx hb dX3_lot_108 (by decide) ?_
        refine lv_dup2_11 hx hb dX3_lot_109 rfl rfl ?_
        refine wm_ald hx hb hK hM (k := 0) rfl vi_4_125 vc_4 (v := ar8 0 4) rfl dX3_lot_110 ?_
        refine lv_iload_n hx hb dX3_lot_111 rfl (lv_at hl 3 rfl) ?_
        refine lv_iadd hx hb dX3_lot_112 ?_
        refine wm_ast hx hb hK hN hAm hM (k := 0) rfl vi_4_125 vc_4 (f := upd (ar8 0) 26 ((ar8 0 26) + 1)) rfl dX3_lot_113 (fun H locs hM => ?_)
        rw [bx_uu] at hM
        refine lv_aload_n hx hb dX3_lot_114 rfl (lv_at hl 2 rfl) ?_
        refine lv_iload_n hx hb dX3_lot_115 rfl (lv_at hl 0 rfl) ?_
        refine lv_iconst (v := 0) hx hb dX3_lot_116 (by decide) ?_
        refine lv_iload_n hx hb dX3_lot_117 rfl (lv_at hl 3 rfl) ?_
        refine wm_callVv (As := [.int (ar8 0 26), .int 0, .int x1]) (rest := []) ⟨hx, hb, hml, hown, hts⟩ hK hN hAm hA hM (m3_lays l D ac mo ad sc7 (va_up ar8 0 (upd (upd (ar8 0) 26 ((ar8 0 26) + 1)) 4 ((ar8 0 4) + x1))) (ar8 0 26) 0 x1 _ hw) (cwV 3 hts (lw_V q2077 q2079 qs28 q77 q2080) rfl rfl rfl hd_X3_lays ⟨Nat.le_of_ble_eq_true rfl, Nat.le_of_ble_eq_true rfl⟩) rfl hl.1 rfl (Nat.le_of_ble_eq_true rfl) dX3_lot_118 ⟨Nat.le_refl 0, Nat.le_refl 0⟩ (fun sc9 ar10 H locs hw hM => ?_)
        refine lv_aload_n hx hb dX3_lot_121 rfl (lv_at hl 2 rfl) ?_
        refine lv_iload_n hx hb dX3_lot_122 rfl (lv_at hl 0 rfl) ?_
        refine lv_iconst (v := 1) hx hb dX3_lot_123 (by decide) ?_
        refine lv_iconst (v := 0) hx hb dX3_lot_124 (by decide) ?_
        refine wm_callVv (As := [.int (ar8 0 26), .int 1, .int 0]) (rest := []) ⟨hx, hb, hml, hown, hts⟩ hK hN hAm hA hM (m3_lays l D ac mo ad sc9 ar10 (ar8 0 26) 1 0 _ hw) (cwV 3 hts (lw_V q2077 q2079 qs28 q77 q2080) rfl rfl rfl hd_X3_lays ⟨Nat.le_of_ble_eq_true rfl, Nat.le_of_ble_eq_true rfl⟩) rfl hl.1 rfl (Nat.le_of_ble_eq_true rfl) dX3_lot_125 ⟨Nat.le_refl 0, Nat.le_refl 0⟩ (fun sc11 ar12 H locs hw hM => ?_)
        refine lv_aload_n hx hb dX3_lot_128 rfl (lv_at hl 2 rfl) ?_
        refine lv_iload_n hx hb dX3_lot_129 rfl (lv_at hl 0 rfl) ?_
        refine lv_iconst (v := 2) hx hb dX3_lot_130 (by decide) ?_
        refine lv_iconst (v := (-1)) hx hb dX3_lot_131 (by decide) ?_
        refine wm_callVv (As := [.int (ar8 0 26), .int 2, .int (-1)]) (rest := []) ⟨hx, hb, hml, hown, hts⟩ hK hN hAm hA hM (m3_lays l D ac mo ad sc11 ar12 (ar8 0 26) 2 (-1) _ hw) (cwV 3 hts (lw_V q2077 q2079 qs28 q77 q2080) rfl rfl rfl hd_X3_lays ⟨Nat.le_of_ble_eq_true rfl, Nat.le_of_ble_eq_true rfl⟩) rfl hl.1 rfl (Nat.le_of_ble_eq_true rfl) dX3_lot_132 ⟨Nat.le_refl 0, Nat.le_refl 0⟩ (fun sc13 ar14 H locs hw hM => ?_)
        refine lv_aload_n hx hb dX3_lot_135 rfl (lv_at hl 2 rfl) ?_
        refine lv_iload_n hx hb dX3_lot_136 rfl (lv_at hl 0 rfl) ?_
        refine lv_iconst (v := 3) hx hb dX3_lot_137 (by decide) ?_
        refine lv_iconst (v := (-1)) hx hb dX3_lot_138 (by decide) ?_
        refine wm_callVv (As := [.int (ar8 0 26), .int 3, .int (-1)]) (rest := []) ⟨hx, hb, hml, hown, hts⟩ hK hN hAm hA hM (m3_lays l D ac mo ad sc13 ar14 (ar8 0 26) 3 (-1) _ hw) (cwV 3 hts (lw_V q2077 q2079 qs28 q77 q2080) rfl rfl rfl hd_X3_lays ⟨Nat.le_of_ble_eq_true rfl, Nat.le_of_ble_eq_true rfl⟩) rfl hl.1 rfl (Nat.le_of_ble_eq_true rfl) dX3_lot_139 ⟨Nat.le_refl 0, Nat.le_refl 0⟩ (fun sc15 ar16 H locs hw hM => ?_)
        refine lv_aload_n hx hb dX3_lot_142 rfl (lv_at hl 2 rfl) ?_
        refine lv_iload_n hx hb dX3_lot_143 rfl (lv_at hl 0 rfl) ?_
        refine lv_iconst (v := 4) hx hb dX3_lot_144 (by decide) ?_
        refine lv_iconst (v := (-1)) hx hb dX3_lot_145 (by decide) ?_
        refine wm_callVv (As := [.int (ar8 0 26), .int 4, .int (-1)]) (rest := []) ⟨hx, hb, hml, hown, hts⟩ hK hN hAm hA hM (m3_lays l D ac mo ad sc15 ar16 (ar8 0 26) 4 (-1) _ hw) (cwV 3 hts (lw_V q2077 q2079 qs28 q77 q2080) rfl rfl rfl hd_X3_lays ⟨Nat.le_of_ble_eq_true rfl, Nat.le_of_ble_eq_true rfl⟩) rfl hl.1 rfl (Nat.le_of_ble_eq_true rfl) dX3_lot_146 ⟨Nat.le_refl 0, Nat.le_refl 0⟩ (fun sc17 ar18 H locs hw hM => ?_)
        refine lv_iload_n hx hb dX3_lot_149 rfl (lv_at hl 0 rfl) ?_
        exact wm_reti hx hb hr hlk hM rfl hw dX3_lot_150
      · replace hw := hw.2 c_
        refine lv_aload_n hx hb dX3_lot_56 rfl (lv_at hl 1 rfl) ?_
        refine lv_iconst (v := 3) hx hb dX3_lot_57 (by decide) ?_
        refine lv_bipush (v := 6) hx hb dX3_lot_58 (by decide) ?_
        refine lv_iload_n hx hb dX3_lot_60 rfl (lv_at hl 0 rfl) ?_
        refine lv_aload_n hx hb dX3_lot_61 rfl (lv_at hl 1 rfl) ?_
        refine wm_get hx hb hts hown hK hM 0 (by decide) q1933 (v := .ref (ad 0)) rfl dX3_lot_62 ?_
        refine lv_iconst (v := 3) hx hb dX3_lot_65 (by decide) ?_
        refine wm_ald hx hb hK hM (k := 0) rfl vi_3_125 vc_3 (v := ar3 0 3) rfl dX3_lot_66 ?_
        refine lv_isub hx hb dX3_lot_67 ?_
        refine wm_callVi (As := [.int 3, .int 6, .int (((x1 + 3) / 4) - (ar3 0 3))]) (rest := []) ⟨hx, hb, hml, hown, hts⟩ hK hN hAm hA hM (m3_refuses l D ac mo ad sc2 ar3 3 6 (((x1 + 3) / 4) - (ar3 0 3)) _ hw) (cwV 3 hts (lw_V q2012 q2014 qs20 q77 q2015) rfl rfl rfl hd_X3_refuses ⟨Nat.le_of_ble_eq_true rfl, Nat.le_of_ble_eq_true rfl⟩) rfl hl.1 rfl (Nat.le_of_ble_eq_true rfl) dX3_lot_68 ⟨Nat.le_refl 0, Nat.le_refl 0⟩ (fun r21 sc19 ar20 H locs hw hM => ?_)
        exact wm_reti hx hb hr hlk hM rfl hw dX3_lot_71
    · replace hw := hw.2 c_
      refine lv_iconst (v := 0) hx hb dX3_lot_38 (by decide) ?_
      exact wm_reti hx hb hr hlk hM rfl hw dX3_lot_39
  refine lv_aload_n hx hb dX3_lot_0 rfl (lv_at hl 0 rfl) ?_
  refine lv_iload_n hx hb dX3_lot_1 rfl (lv_at hl 1 rfl) ?_
  refine lv_iconst (v := 1) hx hb dX3_lot_2 (by decide) ?_
  refine lv_bipush (v := 30) hx hb dX3_lot_3 (by decide) ?_
  refine wm_callPi (As := [.int p1, .int 1, .int 30]) (rest := [.ref mo]) ⟨hx, hb, hml, hown, hts⟩ hA hM (m3_in l p1 1 30 _ hw) (va_cwS 3 hts (lw_S q2005 q2006 q77 q2007) rfl rfl rfl hd_X3_in ⟨Nat.le_of_ble_eq_true rfl, Nat.le_of_ble_eq_true rfl⟩) rfl hl.1 rfl (Nat.le_of_ble_eq_true rfl) dX3_lot_5 ⟨Nat.le_refl 0, Nat.le_refl 0⟩ (fun r1 H locs hw hM => ?_)
  refine lv_if_ne (tgt := 15) hx hb dX3_lot_8 (by decide) (fun c_ => ?_) (fun c_ => ?_)
  · replace hw := hw.1 c_
    refine lv_aload_n hx hb dX3_lot_15 rfl (lv_at hl 0 rfl) ?_
    refine wm_get hx hb hts hown hK hM 0 (by decide) q1933 (v := .ref (ad 0)) rfl dX3_lot_16 ?_
    refine lv_bipush (v := 26) hx hb dX3_lot_19 (by decide) ?_
    refine wm_ald hx hb hK hM (k := 0) rfl vi_26_125 vc_26 (v := ar 0 26) rfl dX3_lot_21 ?_
    refine lv_bipush (v := 12) hx hb dX3_lot_22 (by decide) ?_
    refine lv_icmp_ne (tgt := 31) hx hb dX3_lot_24 (by decide) (fun c_ => ?_) (fun c_ => ?_)
    · replace hw := hw.1 c_
      refine lv_iconst (v := 0) hx hb dX3_lot_31 (by decide) ?_
      exact hL32  p1 0 sc ar _ _ ls hM (lv_sub hl [0, 1] rfl) hw
    · replace hw := hw.2 c_
      refine lv_iconst (v := 2) hx hb dX3_lot_27 (by decide) ?_
      refine lv_goto (tgt := 32) hx hb dX3_lot_28 (by decide) ?_
      exact hL32  p1 2 sc ar _ _ ls hM (lv_sub hl [0, 1] rfl) hw
  · replace hw := hw.2 c_
    refine lv_iconst (v := 1) hx hb dX3_lot_11 (by decide) ?_
    refine lv_goto (tgt := 32) hx hb dX3_lot_12 (by decide) ?_
    exact hL32  p1 1 sc ar _ _ ls hM (lv_sub hl [0, 1] rfl) hw
def w3_lotOf_L27 (post : Int32 → wS1 → wS2 → Prop) (x1 : Int32) (x2 : Int32) (t0 : Int32) (sc : wS1) (ar : wS2) : Prop := w3_fails (fun r7 sc5 ar6 => (r7 = 0 → ((5 ≤ x2 → (w3_of (fun r10 sc8 ar9 => (0 ≤ r10 → (w3_of (fun r13 sc11 ar12 => w3_ofKiln (fun r16 sc14 ar15 => post r16 sc14 ar15) sc11 ar12 r13 2) sc8 ar9 x1 3)) ∧ (¬ 0 ≤ r10 → (post (-1) sc8 ar9))) sc5 ar6 x1 3)) ∧ (¬ 5 ≤ x2 → (w3_of (fun r19 sc17 ar18 => post r19 sc17 ar18) sc5 ar6 x1 x2)))) ∧ (¬ r7 = 0 → (post 0 sc5 ar6))) sc ar t0
def w3_lotOf (post : Int32 → wS1 → wS2 → Prop) (sc : wS1) (ar : wS2) (p1 : Int32) (p2 : Int32) : Prop := w3_isLot (fun r3 sc1 ar2 => (¬ r3 = 0 → (w3_in (fun r4 => (r4 = 0 → (w3_lotOf_L27 post  p1 p2 2 sc1 ar2)) ∧ (¬ r4 = 0 → (w3_lotOf_L27 post  p1 p2 0 sc1 ar2))) p2 0 5)) ∧ (r3 = 0 → (w3_lotOf_L27 post  p1 p2 1 sc1 ar2))) sc ar p1
theorem hd_X3_lotOf : yX3_lotOf.cls = RX3 ∧ yX3_lotOf.cls ≠ "java/lang/invoke/MethodHandle" ∧ yX3_lotOf.cls ≠ "java/lang/invoke/VarHandle" ∧ (parseMethodDescriptor yX3_lotOf.desc).map (fun d => d.parameters.length) = some 2 := by decide +kernel
set_option maxHeartbeats 4000000 in
set_option maxRecDepth 100000 in
theorem m3_lotOf (l : Launch) (D : va_G) (ac : Nat → ClassId) (mo : Nat) (ad : Nat → Nat) (sc : wS1) (ar : wS2) (p1 : Int32) (p2 : Int32) (post : Int32 → wS1 → wS2 → Prop) (hw : w3_lotOf post sc ar p1 p2) : wm_Mi l D ac mo ad yX3_lotOf (ws_ yX3_lotOf cX3_lotOf 3 (some .int)) ({ frames := 2, cells := 0, slots := 0, locals := 43 }) [.ref mo, .int p1, .int p2] sc ar post := by
  refine wm_ofi (by decide) (Nat.le_of_ble_eq_true rfl) ?_
  intro p e s m below meth c A ls hx hb hr hlk hml hown hts hK hN hAm hA hM hl
  have hl : lv_has ls 3 [(0, .ref mo), (1, .int p1), (2, .int p2)] := hl
  unfold w3_lotOf at hw
  have hL27 : ∀ (x1 : Int32) (x2 : Int32) (t0 : Int32) (sc : wS1) (ar : wS2) (H : Heap) (locs : List Loc) (ls : Array Slot), wm_S D ac A s.heap mo ad sc ar H locs → lv_has ls 3 [(0, .ref mo), (1, .int x1), (2, .int x2)] → w3_lotOf_L27 post x1 x2 t0 sc ar → W p l e (headSpec (ws_ yX3_lotOf cX3_lotOf 3 (some .int)) ({ frames := 2, cells := 0, slots := 0, locals := 43 })).room s m ([.ref mo, .int p1, .int p2] : List Value).toArray below meth c H locs 0 0 (MQ below (va_Qi (S := wU) (fun r u => post r u.1 u.2) (wm_B D ac mo ad) A) ([.ref mo, .int p1, .int p2] : List Value).toArray s 0 0 A) (F0 m 27 ls [.int t0, .ref mo]) := by
    intro x1 x2 t0 sc ar H locs ls hM hl hw
    unfold w3_lotOf_L27 at hw
    refine wm_callVi (As := [.int t0]) (rest := []) ⟨hx, hb, hml, hown, hts⟩ hK hN hAm hA hM (m3_fails l D ac mo ad sc ar t0 _ hw) (cwV 1 hts (lw_V q2008 q2010 qs19 q77 q2011) rfl rfl rfl hd_X3_fails ⟨Nat.le_of_ble_eq_true rfl, Nat.le_of_ble_eq_true rfl⟩) rfl hl.1 rfl (Nat.le_of_ble_eq_true rfl) dX3_lotOf_27 ⟨Nat.le_refl 0, Nat.le_refl 0⟩ (fun r7 sc5 ar6 H locs hw hM => ?_)
    refine lv_if_eq (tgt := 35) hx hb dX3_lotOf_30 (by decide) (fun c_ => ?_) (fun c_ => ?_)
    · replace hw := hw.1 c_
      refine lv_iload_n hx hb dX3_lotOf_35 rfl (lv_at hl 2 rfl) ?_
      refine lv_iconst (v := 5) hx hb dX3_lotOf_36 (by decide) ?_
      refine lv_icmp_ge (tgt := 47) hx hb dX3_lotOf_37 (by decide) (fun c_ => ?_) (fun c_ => ?_)
      · replace hw := hw.1 c_
        refine lv_aload_n hx hb dX3_lotOf_47 rfl (lv_at hl 0 rfl) ?_
        refine lv_iload_n hx hb dX3_lotOf_48 rfl (lv_at hl 1 rfl) ?_
        refine lv_iconst (v := 3) hx hb dX3_lotOf_49 (by decide) ?_
        refine wm_callVi (As := [.int x1, .int 3]) (rest := []) ⟨hx, hb, hml, hown, hts⟩ hK hN hAm hA hM (m3_of l D ac mo ad sc5 ar6 x1 3 _ hw) (cwV 2 hts (lw_V q2069 q2071 qs27 q77 q2072) rfl rfl rfl hd_X3_of ⟨Nat.le_of_ble_eq_true rfl, Nat.le_of_ble_eq_true rfl⟩) rfl hl.1 rfl (Nat.le_of_ble_eq_true rfl) dX3_lotOf_50 ⟨Nat.le_refl 0, Nat.le_refl 0⟩ (fun r10 sc8 ar9 H locs hw hM => ?_)
        refine lv_if_ge (tgt := 60) hx hb dX3_lotOf_53 (by decide) (fun c_ => ?_) (fun c_ => ?_)
        · replace hw := hw.1 c_
          refine lv_aload_n hx hb dX3_lotOf_60 rfl (lv_at hl 0 rfl) ?_
          refine lv_aload_n hx hb dX3_lotOf_61 rfl (lv_at hl 0 rfl) ?_
          refine lv_iload_n hx hb dX3_lotOf_62 rfl (lv_at hl 1 rfl) ?_
          refine lv_iconst (v := 3) hx hb dX3_lotOf_63 (by decide) ?_
          refine wm_callVi (As := [.int x1, .int 3]) (rest := [.ref mo]) ⟨hx, hb, hml, hown, hts⟩ hK hN hAm hA hM (m3_of l D ac mo ad sc8 ar9 x1 3 _ hw) (cwV 2 hts (lw_V q2069 q2071 qs27 q77 q2072) rfl rfl rfl hd_X3_of ⟨Nat.le_of_ble_eq_true rfl, Nat.le_of_ble_eq_true rfl⟩) rfl hl.1 rfl (Nat.le_of_ble_eq_true rfl) dX3_lotOf_64 ⟨Nat.le_refl 0, Nat.le_refl 0⟩ (fun r13 sc11 ar12 H locs hw hM => ?_)
          refine lv_iconst (v := 2) hx hb dX3_lotOf_67 (by decide) ?_
          refine wm_callVi (As := [.int r13, .int 2]) (rest := []) ⟨hx, hb, hml, hown, hts⟩ hK hN hAm hA hM (m3_ofKiln l D ac mo ad sc11 ar12 r13 2 _ hw) (cwV 2 hts (lw_V q2085 q2087 qs29 q77 q2088) rfl rfl rfl hd_X3_ofKiln ⟨Nat.le_of_ble_eq_true rfl, Nat.le_of_ble_eq_true rfl⟩) rfl hl.1 rfl (Nat.le_of_ble_eq_true rfl) dX3_lotOf_68 ⟨Nat.le_refl 0, Nat.le_refl 0⟩ (fun r16 sc14 ar15 H locs hw hM => ?_)
          exact wm_reti hx hb hr hlk hM rfl hw dX3_lotOf_71
        · replace hw := hw.2 c_
          refine lv_iconst (v := (-1)) hx hb dX3_lotOf_56 (by decide) ?_
          refine lv_goto (tgt := 71) hx hb dX3_lotOf_57 (by decide) ?_
          exact wm_reti hx hb hr hlk hM rfl hw dX3_lotOf_71
      · replace hw := hw.2 c_
        refine lv_aload_n hx hb dX3_lotOf_40 rfl (lv_at hl 0 rfl) ?_
        refine lv_iload_n hx hb dX3_lotOf_41 rfl (lv_at hl 1 rfl) ?_
        refine lv_iload_n hx hb dX3_lotOf_42 rfl (lv_at hl 2 rfl) ?_
        refine wm_callVi (As := [.int x1, .int x2]) (rest := []) ⟨hx, hb, hml, hown, hts⟩ hK hN hAm hA hM (m3_of l D ac mo ad sc5 ar6 x1 x2 _ hw) (cwV 2 hts (lw_V q2069 q2071 qs27 q77 q2072) rfl rfl rfl hd_X3_of ⟨Nat.le_of_ble_eq_true rfl, Nat.le_of_ble_eq_true rfl⟩) rfl hl.1 rfl (Nat.le_of_ble_eq_true rfl) dX3_lotOf_43 ⟨Nat.le_refl 0, Nat.le_refl 0⟩ (fun r19 sc17 ar18 H locs hw hM => ?_)
        exact wm_reti hx hb hr hlk hM rfl hw dX3_lotOf_46
    · replace hw := hw.2 c_
      refine lv_iconst (v := 0) hx hb dX3_lotOf_33 (by decide) ?_
      exact wm_reti hx hb hr hlk hM rfl hw dX3_lotOf_34
  refine lv_aload_n hx hb dX3_lotOf_0 rfl (lv_at hl 0 rfl) ?_
  refine lv_aload_n hx hb dX3_lotOf_1 rfl (lv_at hl 0 rfl) ?_
  refine lv_iload_n hx hb dX3_lotOf_2 rfl (lv_at hl 1 rfl) ?_
  refine wm_callVi (As := [.int p1]) (rest := [.ref mo]) ⟨hx, hb, hml, hown, hts⟩ hK hN hAm hA hM (m3_isLot l D ac mo ad sc ar p1 _ hw) (cwV 1 hts (lw_V q2065 q2067 qs26 q77 q2068) rfl rfl rfl hd_X3_isLot ⟨Nat.le_of_ble_eq_true rfl, Nat.le_of_ble_eq_true rfl⟩) rfl hl.1 rfl (Nat.le_of_ble_eq_true rfl) dX3_lotOf_3 ⟨Nat.le_refl 0, Nat.le_refl 0⟩ (fun r3 sc1 ar2 H locs hw hM => ?_)
  refine lv_if_ne (tgt := 13) hx hb dX3_lotOf_6 (by decide) (fun c_ => ?_) (fun c_ => ?_)
  · replace hw := hw.1 c_
    refine lv_iload_n hx hb dX3_lotOf_13 rfl (lv_at hl 2 rfl) ?_
    refine lv_iconst (v := 0) hx hb dX3_lotOf_14 (by decide) ?_
    refine lv_iconst (v := 5) hx hb dX3_lotOf_15 (by decide) ?_
    refine wm_callPi (As := [.int p2, .int 0, .int 5]) (rest := [.ref mo]) ⟨hx, hb, hml, hown, hts⟩ hA hM (m3_in l p2 0 5 _ hw) (va_cwS 3 hts (lw_S q2005 q2006 q77 q2007) rfl rfl rfl hd_X3_in ⟨Nat.le_of_ble_eq_true rfl, Nat.le_of_ble_eq_true rfl⟩) rfl hl.1 rfl (Nat.le_of_ble_eq_true rfl) dX3_lotOf_16 ⟨Nat.le_refl 0, Nat.le_refl 0⟩ (fun r4 H locs hw hM => ?_)
    refine lv_if_eq (tgt := 26) hx hb dX3_lotOf_19 (by decide) (fun c_ => ?_) (fun c_ => ?_)
    · replace hw := hw.1 c_
      refine lv_iconst (v := 2) hx hb dX3_lotOf_26 (by decide) ?_
      exact hL27  p1 p2 2 sc1 ar2 _ _ ls hM (lv_sub hl [0, 1, 2] rfl) hw
    · replace hw := hw.2 c_
      refine lv_iconst (v := 0) hx hb dX3_lotOf_22 (by decide) ?_
      refine lv_goto (tgt := 27) hx hb dX3_lotOf_23 (by decide) ?_
      exact hL27  p1 p2 0 sc1 ar2 _ _ ls hM (lv_sub hl [0, 1, 2] rfl) hw
  · replace hw := hw.2 c_
    refine lv_iconst (v := 1) hx hb dX3_lotOf_9 (by decide) ?_
    refine lv_goto (tgt := 27) hx hb dX3_lotOf_10 (by decide) ?_
    exact hL27  p1 p2 1 sc1 ar2 _ _ ls hM (lv_sub hl [0, 1, 2] rfl) hw
def w3_print_L22 (post : Int32 → wS1 → wS2 → Prop) (x1 : Int32) (x2 : Int32) (t0 : Int32) (sc : wS1) (ar : wS2) : Prop := w3_fails (fun r9 sc7 ar8 => (r9 = 0 → (w3_of (fun r12 sc10 ar11 => w3_of (fun r15 sc13 ar14 => (r15 = 0 → ((r12 ≤ (ar14 0 2) → (w3_ofCopper (fun r18 sc16 ar17 => ((r18 + r12) ≤ 80 → (w3_keeps (fun sc19 ar20 => w3_wellBy (fun r23 sc21 ar22 => vp_in ((11 + (3 * x2)) + 1) 125 ∧ (vp_in ((11 + (3 * x2)) + 1) 125 ∧ (vp_in ((11 + (3 * x2)) + 2) 125 ∧ (vp_in ((11 + (3 * x2)) + 2) 125 ∧ (w3_lays (fun sc24 ar25 => w3_lays (fun sc26 ar27 => post r23 sc26 ar27) sc24 ar25 x1 2 r23) sc21 (va_up ar22 0 (upd (upd (upd (ar22 0) 2 ((ar22 0 2) - r12)) ((11 + (3 * x2)) + 1).toNatClampNeg (((upd (ar22 0) 2 ((ar22 0 2) - r12)) ((11 + (3 * x2)) + 1).toNatClampNeg) + r12)) ((11 + (3 * x2)) + 2).toNatClampNeg (((upd (upd (ar22 0) 2 ((ar22 0 2) - r12)) ((11 + (3 * x2)) + 1).toNatClampNeg (((upd (ar22 0) 2 ((ar22 0 2) - r12)) ((11 + (3 * x2)) + 1).toNatClampNeg) + r12)) ((11 + (3 * x2)) + 2).toNatClampNeg) + 1))) x1 1 1))))) sc19 ar20 x2) sc16 ar17 0)) ∧ (¬ (r18 + r12) ≤ 80 → (w3_ofCopper (fun r30 sc28 ar29 => w3_refuses (fun r33 sc31 ar32 => post r33 sc31 ar32) sc28 ar29 2 3 r30) sc16 ar17 x2 1))) sc13 ar14 x2 1)) ∧ (¬ r12 ≤ (ar14 0 2) → (w3_refuses (fun r36 sc34 ar35 => post r36 sc34 ar35) sc13 ar14 2 2 (r12 - (ar14 0 2)))))) ∧ (¬ r15 = 0 → (w3_of (fun r39 sc37 ar38 => w3_refuses (fun r42 sc40 ar41 => post r42 sc40 ar41) sc37 ar38 2 1 r39) sc13 ar14 x1 1))) sc10 ar11 x1 1) sc7 ar8 x1 0)) ∧ (¬ r9 = 0 → (post 0 sc7 ar8))) sc ar t0
def w3_print_L21 (post : Int32 → wS1 → wS2 → Prop) (x1 : Int32) (x2 : Int32) (sc : wS1) (ar : wS2) : Prop := w3_print_L22 post  x1 x2 1 sc ar
def w3_print (post : Int32 → wS1 → wS2 → Prop) (sc : wS1) (ar : wS2) (p1 : Int32) (p2 : Int32) : Prop := w3_isLot (fun r3 sc1 ar2 => (r3 = 0 → (w3_print_L21 post  p1 p2 sc1 ar2)) ∧ (¬ r3 = 0 → (w3_isCopper (fun r6 sc4 ar5 => (r6 = 0 → (w3_print_L21 post  p1 p2 sc4 ar5)) ∧ (¬ r6 = 0 → (w3_print_L22 post  p1 p2 0 sc4 ar5))) sc1 ar2 p2))) sc ar p1
theorem hd_X3_print : yX3_print.cls = RX3 ∧ yX3_print.cls ≠ "java/lang/invoke/MethodHandle" ∧ yX3_print.cls ≠ "java/lang/invoke/VarHandle" ∧ (parseMethodDescriptor yX3_print.desc).map (fun d => d.parameters.length) = some 2 := by decide +kernel
set_option maxHeartbeats 4000000 in
set_option maxRecDepth 100000 in
theorem m3_print (l : Launch) (D : va_G) (ac : Nat → ClassId) (mo : Nat) (ad : Nat → Nat) (sc : wS1) (ar : wS2) (p1 : Int32) (p2 : Int32) (post : Int32 → wS1 → wS2 → Prop) (hw : w3_print post sc ar p1 p2) : wm_Mi l D ac mo ad yX3_print (ws_ yX3_print cX3_print 5 (some .int)) ({ frames := 2, cells := 0, slots := 0, locals := 46 }) [.ref mo, .int p1, .int p2] sc ar post := by
  refine wm_ofi (by decide) (Nat.le_of_ble_eq_true rfl) ?_
  intro p e s m below meth c A ls hx hb hr hlk hml hown hts hK hN hAm hA hM hl
  have hl : lv_has ls 5 [(0, .ref mo), (1, .int p1), (2, .int p2)] := hl
  unfold w3_print at hw
  have hL22 : ∀ (x1 : Int32) (x2 : Int32) (t0 : Int32) (sc : wS1) (ar : wS2) (H : Heap) (locs : List Loc) (ls : Array Slot), wm_S D ac A s.heap mo ad sc ar H locs → lv_has ls 5 [(0, .ref mo), (1, .int x1), (2, .int x2)] → w3_print_L22 post x1 x2 t0 sc ar → W p l e (headSpec (ws_ yX3_print cX3_print 5 (some .int)) ({ frames := 2, cells := 0, slots := 0, locals := 46 })).room s m ([.ref mo, .int p1, .int p2] : List Value).toArray below meth c H locs 0 0 (MQ below (va_Qi (S := wU) (fun r u => post r u.1 u.2) (wm_B D ac mo ad) A) ([.ref mo, .int p1, .int p2] : List Value).toArray s 0 0 A) (F0 m 22 ls [.int t0, .ref mo]) := by
    intro x1 x2 t0 sc ar H locs ls hM hl hw
    unfold w3_print_L22 at hw
    refine wm_callVi (As := [.int t0]) (rest := []) ⟨hx, hb, hml, hown, hts⟩ hK hN hAm hA hM (m3_fails l D ac mo ad sc ar t0 _ hw) (cwV 1 hts (lw_V q2008 q2010 qs19 q77 q2011) rfl rfl rfl hd_X3_fails ⟨Nat.le_of_ble_eq_true rfl, Nat.le_of_ble_eq_true rfl⟩) rfl hl.1 rfl (Nat.le_of_ble_eq_true rfl) dX3_print_22 ⟨Nat.le_refl 0, Nat.le_refl 0⟩ (fun r9 sc7 ar8 H locs hw hM => ?_)
    refine lv_if_eq (tgt := 30) hx hb dX3_print_25 (by decide) (fun c_ => ?_) (fun c_ => ?_)
    · replace hw := hw.1 c_
      refine lv_aload_n hx hb dX3_print_30 rfl (lv_at hl 0 rfl) ?_
      refine lv_iload_n hx hb dX3_print_31 rfl (lv_at hl 1 rfl) ?_
      refine lv_iconst (v := 0) hx hb dX3_print_32 (by decide) ?_
      refine wm_callVi (As := [.int x1, .int 0]) (rest := []) ⟨hx, hb, hml, hown, hts⟩ hK hN hAm hA hM (m3_of l D ac mo ad sc7 ar8 x1 0 _ hw) (cwV 2 hts (lw_V q2069 q2071 qs27 q77 q2072) rfl rfl rfl hd_X3_of ⟨Nat.le_of_ble_eq_true rfl, Nat.le_of_ble_eq_true rfl⟩) rfl hl.1 rfl (Nat.le_of_ble_eq_true rfl) dX3_print_33 ⟨Nat.le_refl 0, Nat.le_refl 0⟩ (fun r12 sc10 ar11 H locs hw hM => ?_)
      refine lv_istore_n (lv' := [(3, .int r12), (0, .ref mo), (1, .int x1), (2, .int x2)]) hx hb dX3_print_36 rfl hl (by decide) rfl (fun ls hl => ?_)
      refine lv_aload_n hx hb dX3_print_37 rfl (lv_at hl 1 rfl) ?_
      refine lv_iload_n hx hb dX3_print_38 rfl (lv_at hl 2 rfl) ?_
      refine lv_iconst (v := 1) hx hb dX3_print_39 (by decide) ?_
      refine wm_callVi (As := [.int x1, .int 1]) (rest := []) ⟨hx, hb, hml, hown, hts⟩ hK hN hAm hA hM (m3_of l D ac mo ad sc10 ar11 x1 1 _ hw) (cwV 2 hts (lw_V q2069 q2071 qs27 q77 q2072) rfl rfl rfl hd_X3_of ⟨Nat.le_of_ble_eq_true rfl, Nat.le_of_ble_eq_true rfl⟩) rfl hl.1 rfl (Nat.le_of_ble_eq_true rfl) dX3_print_40 ⟨Nat.le_refl 0, Nat.le_refl 0⟩ (fun r15 sc13 ar14 H locs hw hM => ?_)
      refine lv_if_eq (tgt := 59) hx hb dX3_print_43 (by decide) (fun c_ => ?_) (fun c_ => ?_)
      · replace hw := hw.1 c_
        refine lv_aload_n hx hb dX3_print_59 rfl (lv_at hl 1 rfl) ?_
        refine wm_get hx hb hts hown hK hM 0 (by decide) q1933 (v := .ref (ad 0)) rfl dX3_print_60 ?_
        refine lv_iconst (v := 2) hx hb dX3_print_63 (by decide) ?_
        refine wm_ald hx hb hK hM (k := 0) rfl vi_2_125 vc_2 (v := ar14 0 2) rfl dX3_print_64 ?_
        refine lv_iload_n hx hb dX3_print_65 rfl (lv_at hl 0 rfl) ?_
        refine lv_icmp_ge (tgt := 84) hx hb dX3_print_66 (by decide) (fun c_ => ?_) (fun c_ => ?_)
        · replace hw := hw.1 c_
          refine lv_aload_n hx hb dX3_print_84 rfl (lv_at hl 1 rfl) ?_
          refine lv_iload_n hx hb dX3_print_85 rfl (lv_at hl 3 rfl) ?_
          refine lv_iconst (v := 1) hx hb dX3_print_86 (by decide) ?_
          refine wm_callVi (As := [.int x2, .int 1]) (rest := []) ⟨hx, hb, hml, hown, hts⟩ hK hN hAm hA hM (m3_ofCopper l D ac mo ad sc13 ar14 x2 1 _ hw) (cwV 2 hts (lw_V q2047 q2049 qs25 q77 q2050) rfl rfl rfl hd_X3_ofCopper ⟨Nat.le_of_ble_eq_true rfl, Nat.le_of_ble_eq_true rfl⟩) rfl hl.1 rfl (Nat.le_of_ble_eq_true rfl) dX3_print_87 ⟨Nat.le_refl 0, Nat.le_refl 0⟩ (fun r18 sc16 ar17 H locs hw hM => ?_)
          refine lv_iload_n hx hb dX3_print_90 rfl (lv_at hl 0 rfl) ?_
          refine lv_iadd hx hb dX3_print_91 ?_
          refine lv_bipush (v := 80) hx hb dX3_print_92 (by decide) ?_
          refine lv_icmp_le (tgt := 110) hx hb dX3_print_94 (by decide) (fun c_ => ?_) (fun c_ => ?_)
          · replace hw := hw.1 c_
            refine lv_aload_n hx hb dX3_print_110 rfl (lv_at hl 1 rfl) ?_
            refine lv_aload_n hx hb dX3_print_111 rfl (lv_at hl 1 rfl) ?_
            refine wm_get hx hb hts hown hK hM 0 (by decide) q1933 (v := .ref (ad 0)) rfl dX3_print_112 ?_
            refine wm_callVv (As := [.ref (ad 0)]) (rest := []) ⟨hx, hb, hml, hown, hts⟩ hK hN hAm hA hM (m3_keeps l D ac mo ad sc16 ar17 0 _ rfl hw) (cwV 1 hts (lw_V q2016 q2018 qs21 q77 q2019) rfl rfl rfl hd_X3_keeps ⟨Nat.le_of_ble_eq_true rfl, Nat.le_of_ble_eq_true rfl⟩) rfl hl.1 rfl (Nat.le_of_ble_eq_true rfl) dX3_print_115 ⟨Nat.le_refl 0, Nat.le_refl 0⟩ (fun sc19 ar20 H locs hw hM => ?_)
            refine lv_aload_n hx hb dX3_print_118 rfl (lv_at hl 1 rfl) ?_
            refine lv_iload_n hx hb dX3_print_119 rfl (lv_at hl 3 rfl) ?_
            refine wm_callVi (As := [.int x2]) (rest := []) ⟨hx, hb, hml, hown, hts⟩ hK hN hAm hA hM (m3_wellBy l D ac mo ad sc19 ar20 x2 _ hw) (cwV 1 hts (lw_V q2043 q2045 qs24 q77 q2046) rfl rfl rfl hd_X3_wellBy ⟨Nat.le_of_ble_eq_true rfl, Nat.le_of_ble_eq_true rfl⟩) rfl hl.1 rfl (Nat.le_of_ble_eq_true rfl) dX3_print_120 ⟨Nat.le_refl 0, Nat.le_refl 0⟩ (fun r23 sc21 ar22 H locs hw hM => ?_)
            refine lv_istore (lv' := [(4, .int r23), (3, .int r12), (0, .ref mo), (1, .int x1), (2, .int x2)]) hx hb dX3_print_123 hl (by decide) rfl (fun ls hl => ?_)
            refine lv_aload_n hx hb dX3_print_125 rfl (lv_at hl 2 rfl) ?_
            refine wm_get hx hb hts hown hK hM 0 (by decide) q1933 (v := .ref (ad 0)) rfl dX3_print_126 ?_
            refine lv_iconst (v := 2) hx hb dX3_print_129 (by decide) ?_
            refine lv_dup2_11 hx hb dX3_print_130 rfl rfl ?_
            refine wm_ald hx hb hK hM (k := 0) rfl vi_2_125 vc_2 (v := ar22 0 2) rfl dX3_print_131 ?_
            refine lv_iload_n hx hb dX3_print_132 rfl (lv_at hl 1 rfl) ?_
            refine lv_isub hx hb dX3_print_133 ?_
            refine wm_ast hx hb hK hN hAm hM (k := 0) rfl vi_2_125 vc_2 (f := ar22 0) rfl dX3_print_134 (fun H locs hM => ?_)
            refine lv_aload_n hx hb dX3_print_135 rfl (lv_at hl 2 rfl) ?_
            refine wm_get hx hb hts hown hK hM 0 (by decide) q1933 (v := .ref (ad 0)) rfl dX3_print_136 ?_
            refine lv_bipush (v := 11) hx hb dX3_print_139 (by decide) ?_
            refine lv_iconst (v := 3) hx hb dX3_print_141 (by decide) ?_
            refine lv_iload_n hx hb dX3_print_142 rfl (lv_at hl 4 rfl) ?_
            refine lv_imul hx hb dX3_print_143 ?_
            refine lv_iadd hx hb dX3_print_144 ?_
            refine lv_iconst (v := 1) hx hb dX3_print_145 (by decide) ?_
            refine lv_iadd hx hb dX3_print_146 ?_
            refine lv_dup2_11 hx hb dX3_print_147 rfl rfl ?_
            refine wm_ald hx hb hK hM (k := 0) rfl hw.1 rfl (v := (upd (ar22 0) 2 ((ar22 0 2) - r12)) ((11 + (3 * x2)) + 1).toNatClampNeg) rfl dX3_print_148 ?_
            replace hw := hw.2
            refine lv_iload_n hx hb dX3_print_149 rfl (lv_at hl 1 rfl) ?_
            refine lv_iadd hx hb dX3_print_150 ?_
            refine wm_ast hx hb hK hN hAm hM (k := 0) rfl hw.1 rfl (f := upd (ar22 0) 2 ((ar22 0 2) - r12)) rfl dX3_print_151 (fun H locs hM => ?_)
            replace hw := hw.2
            rw [bx_uu] at hM
            refine lv_aload_n hx hb dX3_print_152 rfl (lv_at hl 2 rfl) ?_
            refine wm_get hx hb hts hown hK hM 0 (by decide) q1933 (v := .ref (ad 0)) rfl dX3_print_153 ?_
            refine lv_bipush (v := 11) hx hb dX3_print_156 (by decide) ?_
            refine lv_iconst (v := 3) hx hb dX3_print_158 (by decide) ?_
            refine lv_iload_n hx hb dX3_print_159 rfl (lv_at hl 4 rfl) ?_
            refine lv_imul hx hb dX3_print_160 ?_
            refine lv_iadd hx hb dX3_print_161 ?_
            refine lv_iconst (v := 2) hx hb dX3_print_162 (by decide) ?_
            refine lv_iadd hx hb dX3_print_163 ?_
            refine lv_dup2_11 hx hb dX3_print_164 rfl rfl ?_
            refine wm_ald hx hb hK hM (k := 0) rfl hw.1 rfl (v := (upd (upd (ar22 0) 2 ((ar22 0 2) - r12)) ((11 + (3 * x2)) + 1).toNatClampNeg (((upd (ar22 0) 2 ((ar22 0 2) - r12)) ((11 + (3 * x2)) + 1).toNatClampNeg) + r12)) ((11 + (3 * x2)) + 2).toNatClampNeg) rfl dX3_print_165 ?_
            replace hw := hw.2
            refine lv_iconst (v := 1) hx hb dX3_print_166 (by decide) ?_
            refine lv_iadd hx hb dX3_print_167 ?_
            refine wm_ast hx hb hK hN hAm hM (k := 0) rfl hw.1 rfl (f := upd (upd (ar22 0) 2 ((ar22 0 2) - r12)) ((11 + (3 * x2)) + 1).toNatClampNeg (((upd (ar22 0) 2 ((ar22 0 2) - r12)) ((11 + (3 * x2)) + 1).toNatClampNeg) + r12)) rfl dX3_print_168 (fun H locs hM => ?_)
            replace hw := hw.2
            rw [bx_uu] at hM
            refine lv_aload_n hx hb dX3_print_169 rfl (lv_at hl 2 rfl) ?_
            refine lv_iload_n hx hb dX3_print_170 rfl (lv_at hl 3 rfl) ?_
            refine lv_iconst (v := 1) hx hb dX3_print_171 (by decide) ?_
            refine lv_iconst (v := 1) hx hb dX3_print_172 (by decide) ?_
            refine wm_callVv (As := [.int x1, .int 1, .int 1]) (rest := []) ⟨hx, hb, hml, hown, hts⟩ hK hN hAm hA hM (m3_lays l D ac mo ad sc21 (va_up ar22 0 (upd (upd (upd (ar22 0) 2 ((ar22 0 2) - r12)) ((11 + (3 * x2)) + 1).toNatClampNeg (((upd (ar22 0) 2 ((ar22 0 2) - r12)) ((11 + (3 * x2)) + 1).toNatClampNeg) + r12)) ((11 + (3 * x2)) + 2).toNatClampNeg (((upd (upd (ar22 0) 2 ((ar22 0 2) - r12)) ((11 + (3 * x2)) + 1).toNatClampNeg (((upd (ar22 0) 2 ((ar22 0 2) - r12)) ((11 + (3 * x2)) + 1).toNatClampNeg) + r12)) ((11 + (3 * x2)) + 2).toNatClampNeg) + 1))) x1 1 1 _ hw) (cwV 3 hts (lw_V q2077 q2079 qs28 q77 q2080) rfl rfl rfl hd_X3_lays ⟨Nat.le_of_ble_eq_true rfl, Nat.le_of_ble_eq_true rfl⟩) rfl hl.1 rfl (Nat.le_of_ble_eq_true rfl) dX3_print_173 ⟨Nat.le_refl 0, Nat.le_refl 0⟩ (fun sc24 ar25 H locs hw hM => ?_)
            refine lv_aload_n hx hb dX3_print_176 rfl (lv_at hl 2 rfl) ?_
            refine lv_iload_n hx hb dX3_print_177 rfl (lv_at hl 3 rfl) ?_
            refine lv_iconst (v := 2) hx hb dX3_print_178 (by decide) ?_
            refine lv_iload hx hb dX3_print_179 (lv_at hl 0 rfl) ?_
            refine wm_callVv (As := [.int x1, .int 2, .int r23]) (rest := []) ⟨hx, hb, hml, hown, hts⟩ hK hN hAm hA hM (m3_lays l D ac mo ad sc24 ar25 x1 2 r23 _ hw) (cwV 3 hts (lw_V q2077 q2079 qs28 q77 q2080) rfl rfl rfl hd_X3_lays ⟨Nat.le_of_ble_eq_true rfl, Nat.le_of_ble_eq_true rfl⟩) rfl hl.1 rfl (Nat.le_of_ble_eq_true rfl) dX3_print_181 ⟨Nat.le_refl 0, Nat.le_refl 0⟩ (fun sc26 ar27 H locs hw hM => ?_)
            refine lv_iload hx hb dX3_print_184 (lv_at hl 0 rfl) ?_
            exact wm_reti hx hb hr hlk hM rfl hw dX3_print_186
          · replace hw := hw.2 c_
            refine lv_aload_n hx hb dX3_print_97 rfl (lv_at hl 1 rfl) ?_
            refine lv_iconst (v := 2) hx hb dX3_print_98 (by decide) ?_
            refine lv_iconst (v := 3) hx hb dX3_print_99 (by decide) ?_
            refine lv_aload_n hx hb dX3_print_100 rfl (lv_at hl 1 rfl) ?_
            refine lv_iload_n hx hb dX3_print_101 rfl (lv_at hl 3 rfl) ?_
            refine lv_iconst (v := 1) hx hb dX3_print_102 (by decide) ?_
            refine wm_callVi (As := [.int x2, .int 1]) (rest := [.int 3, .int 2, .ref mo]) ⟨hx, hb, hml, hown, hts⟩ hK hN hAm hA hM (m3_ofCopper l D ac mo ad sc16 ar17 x2 1 _ hw) (cwV 2 hts (lw_V q2047 q2049 qs25 q77 q2050) rfl rfl rfl hd_X3_ofCopper ⟨Nat.le_of_ble_eq_true rfl, Nat.le_of_ble_eq_true rfl⟩) rfl hl.1 rfl (Nat.le_of_ble_eq_true rfl) dX3_print_103 ⟨Nat.le_refl 0, Nat.le_refl 0⟩ (fun r30 sc28 ar29 H locs hw hM => ?_)
            refine wm_callVi (As := [.int 2, .int 3, .int r30]) (rest := []) ⟨hx, hb, hml, hown, hts⟩ hK hN hAm hA hM (m3_refuses l D ac mo ad sc28 ar29 2 3 r30 _ hw) (cwV 3 hts (lw_V q2012 q2014 qs20 q77 q2015) rfl rfl rfl hd_X3_refuses ⟨Nat.le_of_ble_eq_true rfl, Nat.le_of_ble_eq_true rfl⟩) rfl hl.1 rfl (Nat.le_of_ble_eq_true rfl) dX3_print_106 ⟨Nat.le_refl 0, Nat.le_refl 0⟩ (fun r33 sc31 ar32 H locs hw hM => ?_)
            exact wm_reti hx hb hr hlk hM rfl hw dX3_print_109
        · replace hw := hw.2 c_
          refine lv_aload_n hx hb dX3_print_69 rfl (lv_at hl 1 rfl) ?_
          refine lv_iconst (v := 2) hx hb dX3_print_70 (by decide) ?_
          refine lv_iconst (v := 2) hx hb dX3_print_71 (by decide) ?_
          refine lv_iload_n hx hb dX3_print_72 rfl (lv_at hl 0 rfl) ?_
          refine lv_aload_n hx hb dX3_print_73 rfl (lv_at hl 1 rfl) ?_
          refine wm_get hx hb hts hown hK hM 0 (by decide) q1933 (v := .ref (ad 0)) rfl dX3_print_74 ?_
          refine lv_iconst (v := 2) hx hb dX3_print_77 (by decide) ?_
          refine wm_ald hx hb hK hM (k := 0) rfl vi_2_125 vc_2 (v := ar14 0 2) rfl dX3_print_78 ?_
          refine lv_isub hx hb dX3_print_79 ?_
          refine wm_callVi (As := [.int 2, .int 2, .int (r12 - (ar14 0 2))]) (rest := []) ⟨hx, hb, hml, hown, hts⟩ hK hN hAm hA hM (m3_refuses l D ac mo ad sc13 ar14 2 2 (r12 - (ar14 0 2)) _ hw) (cwV 3 hts (lw_V q2012 q2014 qs20 q77 q2015) rfl rfl rfl hd_X3_refuses ⟨Nat.le_of_ble_eq_true rfl, Nat.le_of_ble_eq_true rfl⟩) rfl hl.1 rfl (Nat.le_of_ble_eq_true rfl) dX3_print_80 ⟨Nat.le_refl 0, Nat.le_refl 0⟩ (fun r36 sc34 ar35 H locs hw hM => ?_)
          exact wm_reti hx hb hr hlk hM rfl hw dX3_print_83
      · replace hw := hw.2 c_
        refine lv_aload_n hx hb dX3_print_46 rfl (lv_at hl 1 rfl) ?_
        refine lv_iconst (v := 2) hx hb dX3_print_47 (by decide) ?_
        refine lv_iconst (v := 1) hx hb dX3_print_48 (by decide) ?_
        refine lv_aload_n hx hb dX3_print_49 rfl (lv_at hl 1 rfl) ?_
        refine lv_iload_n hx hb dX3_print_50 rfl (lv_at hl 2 rfl) ?_
        refine lv_iconst (v := 1) hx hb dX3_print_51 (by decide) ?_
        refine wm_callVi (As := [.int x1, .int 1]) (rest := [.int 1, .int 2, .ref mo]) ⟨hx, hb, hml, hown, hts⟩ hK hN hAm hA hM (m3_of l D ac mo ad sc13 ar14 x1 1 _ hw) (cwV 2 hts (lw_V q2069 q2071 qs27 q77 q2072) rfl rfl rfl hd_X3_of ⟨Nat.le_of_ble_eq_true rfl, Nat.le_of_ble_eq_true rfl⟩) rfl hl.1 rfl (Nat.le_of_ble_eq_true rfl) dX3_print_52 ⟨Nat.le_refl 0, Nat.le_refl 0⟩ (fun r39 sc37 ar38 H locs hw hM => ?_)
        refine wm_callVi (As := [.int 2, .int 1, .int r39]) (rest := []) ⟨hx, hb, hml, hown, hts⟩ hK hN hAm hA hM (m3_refuses l D ac mo ad sc37 ar38 2 1 r39 _ hw) (cwV 3 hts (lw_V q2012 q2014 qs20 q77 q2015) rfl rfl rfl hd_X3_refuses ⟨Nat.le_of_ble_eq_true rfl, Nat.le_of_ble_eq_true rfl⟩) rfl hl.1 rfl (Nat.le_of_ble_eq_true rfl) dX3_print_55 ⟨Nat.le_refl 0, Nat.le_refl 0⟩ (fun r42 sc40 ar41 H locs hw hM => ?_)
        exact wm_reti hx hb hr hlk hM rfl hw dX3_print_58
    · replace hw := hw.2 c_
      refine lv_iconst (v := 0) hx hb dX3_print_28 (by decide) ?_
      exact wm_reti hx hb hr hlk hM rfl hw dX3_print_29
  have hL21 : ∀ (x1 : Int32) (x2 : Int32) (sc : wS1) (ar : wS2) (H : Heap) (locs : List Loc) (ls : Array Slot), wm_S D ac A s.heap mo ad sc ar H locs → lv_has ls 5 [(0, .ref mo), (1, .int x1), (2, .int x2)] → w3_print_L21 post x1 x2 sc ar → W p l e (headSpec (ws_ yX3_print cX3_print 5 (some .int)) ({ frames := 2, cells := 0, slots := 0, locals := 46 })).room s m ([.ref mo, .int p1, .int p2] : List Value).toArray below meth c H locs 0 0 (MQ below (va_Qi (S := wU) (fun r u => post r u.1 u.2) (wm_B D ac mo ad) A) ([.ref mo, .int p1, .int p2] : List Value).toArray s 0 0 A) (F0 m 21 ls [.ref mo]) := by
    intro x1 x2 sc ar H locs ls hM hl hw
    unfold w3_print_L21 at hw
    refine lv_iconst (v := 1) hx hb dX3_print_21 (by decide) ?_
    exact hL22  x1 x2 1 sc ar _ _ ls hM (lv_sub hl [0, 1, 2] rfl) hw
  refine lv_aload_n hx hb dX3_print_0 rfl (lv_at hl 0 rfl) ?_
  refine lv_aload_n hx hb dX3_print_1 rfl (lv_at hl 0 rfl) ?_
  refine lv_iload_n hx hb dX3_print_2 rfl (lv_at hl 1 rfl) ?_
  refine wm_callVi (As := [.int p1]) (rest := [.ref mo]) ⟨hx, hb, hml, hown, hts⟩ hK hN hAm hA hM (m3_isLot l D ac mo ad sc ar p1 _ hw) (cwV 1 hts (lw_V q2065 q2067 qs26 q77 q2068) rfl rfl rfl hd_X3_isLot ⟨Nat.le_of_ble_eq_true rfl, Nat.le_of_ble_eq_true rfl⟩) rfl hl.1 rfl (Nat.le_of_ble_eq_true rfl) dX3_print_3 ⟨Nat.le_refl 0, Nat.le_refl 0⟩ (fun r3 sc1 ar2 H locs hw hM => ?_)
  refine lv_if_eq (tgt := 21) hx hb dX3_print_6 (by decide) (fun c_ => ?_) (fun c_ => ?_)
  · replace hw := hw.1 c_
    exact hL21  p1 p2 sc1 ar2 _ _ ls hM (lv_sub hl [0, 1, 2] rfl) hw
  · replace hw := hw.2 c_
    refine lv_aload_n hx hb dX3_print_9 rfl (lv_at hl 0 rfl) ?_
    refine lv_iload_n hx hb dX3_print_10 rfl (lv_at hl 2 rfl) ?_
    refine wm_callVi (As := [.int p2]) (rest := [.ref mo]) ⟨hx, hb, hml, hown, hts⟩ hK hN hAm hA hM (m3_isCopper l D ac mo ad sc1 ar2 p2 _ hw) (cwV 1 hts (lw_V q2039 q2041 qs23 q77 q2042) rfl rfl rfl hd_X3_isCopper ⟨Nat.le_of_ble_eq_true rfl, Nat.le_of_ble_eq_true rfl⟩) rfl hl.1 rfl (Nat.le_of_ble_eq_true rfl) dX3_print_11 ⟨Nat.le_refl 0, Nat.le_refl 0⟩ (fun r6 sc4 ar5 H locs hw hM => ?_)
    refine lv_if_eq (tgt := 21) hx hb dX3_print_14 (by decide) (fun c_ => ?_) (fun c_ => ?_)
    · replace hw := hw.1 c_
      exact hL21  p1 p2 sc4 ar5 _ _ ls hM (lv_sub hl [0, 1, 2] rfl) hw
    · replace hw := hw.2 c_
      refine lv_iconst (v := 0) hx hb dX3_print_17 (by decide) ?_
      refine lv_goto (tgt := 22) hx hb dX3_print_18 (by decide) ?_
      exact hL22  p1 p2 0 sc4 ar5 _ _ ls hM (lv_sub hl [0, 1, 2] rfl) hw
def w3_kiln_L31 (post : Int32 → wS1 → wS2 → Prop) (x1 : Int32) (t0 : Int32) (sc : wS1) (ar : wS2) : Prop := w3_fails (fun r4 sc2 ar3 => (r4 = 0 → (w3_keeps (fun sc5 ar6 => w3_laysKiln (fun sc7 ar8 => w3_laysKiln (fun sc9 ar10 => w3_laysKiln (fun sc11 ar12 => w3_laysKiln (fun sc13 ar14 => post (ar6 0 87) sc13 ar14) sc11 ar12 (ar6 0 87) 3 0) sc9 ar10 (ar6 0 87) 2 0) sc7 ar8 (ar6 0 87) 1 (-1)) sc5 (va_up ar6 0 (upd (ar6 0) 87 ((ar6 0 87) + 1))) (ar6 0 87) 0 x1) sc2 ar3 0)) ∧ (¬ r4 = 0 → (post 0 sc2 ar3))) sc ar t0
def w3_kiln (post : Int32 → wS1 → wS2 → Prop) (sc : wS1) (ar : wS2) (p1 : Int32) : Prop := w3_in (fun r1 => (¬ r1 = 0 → ((¬ (ar 0 87) = 3 → (w3_kiln_L31 post  p1 0 sc ar)) ∧ ((ar 0 87) = 3 → (w3_kiln_L31 post  p1 2 sc ar)))) ∧ (r1 = 0 → (w3_kiln_L31 post  p1 1 sc ar))) p1 4 40
theorem hd_X3_kiln : yX3_kiln.cls = RX3 ∧ yX3_kiln.cls ≠ "java/lang/invoke/MethodHandle" ∧ yX3_kiln.cls ≠ "java/lang/invoke/VarHandle" ∧ (parseMethodDescriptor yX3_kiln.desc).map (fun d => d.parameters.length) = some 1 := by decide +kernel
set_option maxHeartbeats 4000000 in
set_option maxRecDepth 100000 in
theorem m3_kiln (l : Launch) (D : va_G) (ac : Nat → ClassId) (mo : Nat) (ad : Nat → Nat) (sc : wS1) (ar : wS2) (p1 : Int32) (post : Int32 → wS1 → wS2 → Prop) (hw : w3_kiln post sc ar p1) : wm_Mi l D ac mo ad yX3_kiln (ws_ yX3_kiln cX3_kiln 3 (some .int)) ({ frames := 2, cells := 0, slots := 0, locals := 46 }) [.ref mo, .int p1] sc ar post := by
  refine wm_ofi (by decide) (Nat.le_of_ble_eq_true rfl) ?_
  intro p e s m below meth c A ls hx hb hr hlk hml hown hts hK hN hAm hA hM hl
  have hl : lv_has ls 3 [(0, .ref mo), (1, .int p1)] := hl
  unfold w3_kiln at hw
  have hL31 : ∀ (x1 : Int32) (t0 : Int32) (sc : wS1) (ar : wS2) (H : Heap) (locs : List Loc) (ls : Array Slot), wm_S D ac A s.heap mo ad sc ar H locs → lv_has ls 3 [(0, .ref mo), (1, .int x1)] → w3_kiln_L31 post x1 t0 sc ar → W p l e (headSpec (ws_ yX3_kiln cX3_kiln 3 (some .int)) ({ frames := 2, cells := 0, slots := 0, locals := 46 })).room s m ([.ref mo, .int p1] : List Value).toArray below meth c H locs 0 0 (MQ below (va_Qi (S := wU) (fun r u => post r u.1 u.2) (wm_B D ac mo ad) A) ([.ref mo, .int p1] : List Value).toArray s 0 0 A) (F0 m 31 ls [.int t0, .ref mo]) := by
    intro x1 t0 sc ar H locs ls hM hl hw
    unfold w3_kiln_L31 at hw
    refine wm_callVi (As := [.int t0]) (rest := []) ⟨hx, hb, hml, hown, hts⟩ hK hN hAm hA hM (m3_fails l D ac mo ad sc ar t0 _ hw) (cwV 1 hts (lw_V q2008 q2010 qs19 q77 q2011) rfl rfl rfl hd_X3_fails ⟨Nat.le_of_ble_eq_true rfl, Nat.le_of_ble_eq_true rfl⟩) rfl hl.1 rfl (Nat.le_of_ble_eq_true rfl) dX3_kiln_31 ⟨Nat.le_refl 0, Nat.le_refl 0⟩ (fun r4 sc2 ar3 H locs hw hM => ?_)
    refine lv_if_eq (tgt := 39) hx hb dX3_kiln_34 (by decide) (fun c_ => ?_) (fun c_ => ?_)
    · replace hw := hw.1 c_
      refine lv_aload_n hx hb dX3_kiln_39 rfl (lv_at hl 0 rfl) ?_
      refine lv_aload_n hx hb dX3_kiln_40 rfl (lv_at hl 0 rfl) ?_
      refine wm_get hx hb hts hown hK hM 0 (by decide) q1933 (v := .ref (ad 0)) rfl dX3_kiln_41 ?_
      refine wm_callVv (As := [.ref (ad 0)]) (rest := []) ⟨hx, hb, hml, hown, hts⟩ hK hN hAm hA hM (m3_keeps l D ac mo ad sc2 ar3 0 _ rfl hw) (cwV 1 hts (lw_V q2016 q2018 qs21 q77 q2019) rfl rfl rfl hd_X3_keeps ⟨Nat.le_of_ble_eq_true rfl, Nat.le_of_ble_eq_true rfl⟩) rfl hl.1 rfl (Nat.le_of_ble_eq_true rfl) dX3_kiln_44 ⟨Nat.le_refl 0, Nat.le_refl 0⟩ (fun sc5 ar6 H locs hw hM => ?_)
      refine lv_aload_n hx hb dX3_kiln_47 rfl (lv_at hl 0 rfl) ?_
      refine wm_get hx hb hts hown hK hM 0 (by decide) q1933 (v := .ref (ad 0)) rfl dX3_kiln_48 ?_
      refine lv_bipush (v := 87) hx hb dX3_kiln_51 (by decide) ?_
      refine wm_ald hx hb hK hM (k := 0) rfl vi_87_125 vc_87 (v := ar6 0 87) rfl dX3_kiln_53 ?_
      refine lv_istore_n (lv' := [(2, .int (ar6 0 87)), (0, .ref mo), (1, .int x1)]) hx hb dX3_kiln_54 rfl hl (by decide) rfl (fun ls hl => ?_)
      refine lv_aload_n hx hb dX3_kiln_55 rfl (lv_at hl 1 rfl) ?_
      refine wm_get hx hb hts hown hK hM 0 (by decide) q1933 (v := .ref (ad 0)) rfl dX3_kiln_56 ?_
      refine lv_bipush (v := 87) hx hb dX3_kiln_59 (by decide) ?_
      refine lv_dup2_11 hx hb dX3_kiln_61 rfl rfl ?_
      refine wm_ald hx hb hK hM (k := 0) rfl vi_87_125 vc_87 (v := ar6 0 87) rfl dX3_kiln_62 ?_
      refine lv_iconst (v := 1) hx hb dX3_kiln_63 (by decide) ?_
      refine lv_iadd hx hb dX3_kiln_64 ?_
      refine wm_ast hx hb hK hN hAm hM (k := 0) rfl vi_87_125 vc_87 (f := ar6 0) rfl dX3_kiln_65 (fun H locs hM => ?_)
      refine lv_aload_n hx hb dX3_kiln_66 rfl (lv_at hl 1 rfl) ?_
      refine lv_iload_n hx hb dX3_kiln_67 rfl (lv_at hl 0 rfl) ?_
      refine lv_iconst (v := 0) hx hb dX3_kiln_68 (by decide) ?_
      refine lv_iload_n hx hb dX3_kiln_69 rfl (lv_at hl 2 rfl) ?_
      refine wm_callVv (As := [.int (ar6 0 87), .int 0, .int x1]) (rest := []) ⟨hx, hb, hml, hown, hts⟩ hK hN hAm hA hM (m3_laysKiln l D ac mo ad sc5 (va_up ar6 0 (upd (ar6 0) 87 ((ar6 0 87) + 1))) (ar6 0 87) 0 x1 _ hw) (cwV 3 hts (lw_V q2097 q2099 qs30 q77 q2100) rfl rfl rfl hd_X3_laysKiln ⟨Nat.le_of_ble_eq_true rfl, Nat.le_of_ble_eq_true rfl⟩) rfl hl.1 rfl (Nat.le_of_ble_eq_true rfl) dX3_kiln_70 ⟨Nat.le_refl 0, Nat.le_refl 0⟩ (fun sc7 ar8 H locs hw hM => ?_)
      refine lv_aload_n hx hb dX3_kiln_73 rfl (lv_at hl 1 rfl) ?_
      refine lv_iload_n hx hb dX3_kiln_74 rfl (lv_at hl 0 rfl) ?_
      refine lv_iconst (v := 1) hx hb dX3_kiln_75 (by decide) ?_
      refine lv_iconst (v := (-1)) hx hb dX3_kiln_76 (by decide) ?_
      refine wm_callVv (As := [.int (ar6 0 87), .int 1, .int (-1)]) (rest := []) ⟨hx, hb, hml, hown, hts⟩ hK hN hAm hA hM (m3_laysKiln l D ac mo ad sc7 ar8 (ar6 0 87) 1 (-1) _ hw) (cwV 3 hts (lw_V q2097 q2099 qs30 q77 q2100) rfl rfl rfl hd_X3_laysKiln ⟨Nat.le_of_ble_eq_true rfl, Nat.le_of_ble_eq_true rfl⟩) rfl hl.1 rfl (Nat.le_of_ble_eq_true rfl) dX3_kiln_77 ⟨Nat.le_refl 0, Nat.le_refl 0⟩ (fun sc9 ar10 H locs hw hM => ?_)
      refine lv_aload_n hx hb dX3_kiln_80 rfl (lv_at hl 1 rfl) ?_
      refine lv_iload_n hx hb dX3_kiln_81 rfl (lv_at hl 0 rfl) ?_
      refine lv_iconst (v := 2) hx hb dX3_kiln_82 (by decide) ?_
      refine lv_iconst (v := 0) hx hb dX3_kiln_83 (by decide) ?_
      refine wm_callVv (As := [.int (ar6 0 87), .int 2, .int 0]) (rest := []) ⟨hx, hb, hml, hown, hts⟩ hK hN hAm hA hM (m3_laysKiln l D ac mo ad sc9 ar10 (ar6 0 87) 2 0 _ hw) (cwV 3 hts (lw_V q2097 q2099 qs30 q77 q2100) rfl rfl rfl hd_X3_laysKiln ⟨Nat.le_of_ble_eq_true rfl, Nat.le_of_ble_eq_true rfl⟩) rfl hl.1 rfl (Nat.le_of_ble_eq_true rfl) dX3_kiln_84 ⟨Nat.le_refl 0, Nat.le_refl 0⟩ (fun sc11 ar12 H locs hw hM => ?_)
      refine lv_aload_n hx hb dX3_kiln_87 rfl (lv_at hl 1 rfl) ?_
      refine lv_iload_n hx hb dX3_kiln_88 rfl (lv_at hl 0 rfl) ?_
      refine lv_iconst (v := 3) hx hb dX3_kiln_89 (by decide) ?_
      refine lv_iconst (v := 0) hx hb dX3_kiln_90 (by decide) ?_
      refine wm_callVv (As := [.int (ar6 0 87), .int 3, .int 0]) (rest := []) ⟨hx, hb, hml, hown, hts⟩ hK hN hAm hA hM (m3_laysKiln l D ac mo ad sc11 ar12 (ar6 0 87) 3 0 _ hw) (cwV 3 hts (lw_V q2097 q2099 qs30 q77 q2100) rfl rfl rfl hd_X3_laysKiln ⟨Nat.le_of_ble_eq_true rfl, Nat.le_of_ble_eq_true rfl⟩) rfl hl.1 rfl (Nat.le_of_ble_eq_true rfl) dX3_kiln_91 ⟨Nat.le_refl 0, Nat.le_refl 0⟩ (fun sc13 ar14 H locs hw hM => ?_)
      refine lv_iload_n hx hb dX3_kiln_94 rfl (lv_at hl 0 rfl) ?_
      exact wm_reti hx hb hr hlk hM rfl hw dX3_kiln_95
    · replace hw := hw.2 c_
      refine lv_iconst (v := 0) hx hb dX3_kiln_37 (by decide) ?_
      exact wm_reti hx hb hr hlk hM rfl hw dX3_kiln_38
  refine lv_aload_n hx hb dX3_kiln_0 rfl (lv_at hl 0 rfl) ?_
  refine lv_iload_n hx hb dX3_kiln_1 rfl (lv_at hl 1 rfl) ?_
  refine lv_iconst (v := 4) hx hb dX3_kiln_2 (by decide) ?_
  refine lv_bipush (v := 40) hx hb dX3_kiln_3 (by decide) ?_
  refine wm_callPi (As := [.int p1, .int 4, .int 40]) (rest := [.ref mo]) ⟨hx, hb, hml, hown, hts⟩ hA hM (m3_in l p1 4 40 _ hw) (va_cwS 3 hts (lw_S q2005 q2006 q77 q2007) rfl rfl rfl hd_X3_in ⟨Nat.le_of_ble_eq_true rfl, Nat.le_of_ble_eq_true rfl⟩) rfl hl.1 rfl (Nat.le_of_ble_eq_true rfl) dX3_kiln_5 ⟨Nat.le_refl 0, Nat.le_refl 0⟩ (fun r1 H locs hw hM => ?_)
  refine lv_if_ne (tgt := 15) hx hb dX3_kiln_8 (by decide) (fun c_ => ?_) (fun c_ => ?_)
  · replace hw := hw.1 c_
    refine lv_aload_n hx hb dX3_kiln_15 rfl (lv_at hl 0 rfl) ?_
    refine wm_get hx hb hts hown hK hM 0 (by decide) q1933 (v := .ref (ad 0)) rfl dX3_kiln_16 ?_
    refine lv_bipush (v := 87) hx hb dX3_kiln_19 (by decide) ?_
    refine wm_ald hx hb hK hM (k := 0) rfl vi_87_125 vc_87 (v := ar 0 87) rfl dX3_kiln_21 ?_
    refine lv_iconst (v := 3) hx hb dX3_kiln_22 (by decide) ?_
    refine lv_icmp_ne (tgt := 30) hx hb dX3_kiln_23 (by decide) (fun c_ => ?_) (fun c_ => ?_)
    · replace hw := hw.1 c_
      refine lv_iconst (v := 0) hx hb dX3_kiln_30 (by decide) ?_
      exact hL31  p1 0 sc ar _ _ ls hM (lv_sub hl [0, 1] rfl) hw
    · replace hw := hw.2 c_
      refine lv_iconst (v := 2) hx hb dX3_kiln_26 (by decide) ?_
      refine lv_goto (tgt := 31) hx hb dX3_kiln_27 (by decide) ?_
      exact hL31  p1 2 sc ar _ _ ls hM (lv_sub hl [0, 1] rfl) hw
  · replace hw := hw.2 c_
    refine lv_iconst (v := 1) hx hb dX3_kiln_11 (by decide) ?_
    refine lv_goto (tgt := 31) hx hb dX3_kiln_12 (by decide) ?_
    exact hL31  p1 1 sc ar _ _ ls hM (lv_sub hl [0, 1] rfl) hw
def w3_kilnOf_L27 (post : Int32 → wS1 → wS2 → Prop) (x1 : Int32) (x2 : Int32) (t0 : Int32) (sc : wS1) (ar : wS2) : Prop := w3_fails (fun r7 sc5 ar6 => (r7 = 0 → (w3_ofKiln (fun r10 sc8 ar9 => post r10 sc8 ar9) sc5 ar6 x1 x2)) ∧ (¬ r7 = 0 → (post 0 sc5 ar6))) sc ar t0
def w3_kilnOf (post : Int32 → wS1 → wS2 → Prop) (sc : wS1) (ar : wS2) (p1 : Int32) (p2 : Int32) : Prop := w3_isKiln (fun r3 sc1 ar2 => (¬ r3 = 0 → (w3_in (fun r4 => (r4 = 0 → (w3_kilnOf_L27 post  p1 p2 2 sc1 ar2)) ∧ (¬ r4 = 0 → (w3_kilnOf_L27 post  p1 p2 0 sc1 ar2))) p2 0 3)) ∧ (r3 = 0 → (w3_kilnOf_L27 post  p1 p2 1 sc1 ar2))) sc ar p1
theorem hd_X3_kilnOf : yX3_kilnOf.cls = RX3 ∧ yX3_kilnOf.cls ≠ "java/lang/invoke/MethodHandle" ∧ yX3_kilnOf.cls ≠ "java/lang/invoke/VarHandle" ∧ (parseMethodDescriptor yX3_kilnOf.desc).map (fun d => d.parameters.length) = some 2 := by decide +kernel
set_option maxHeartbeats 4000000 in
set_option maxRecDepth 100000 in
theorem m3_kilnOf (l : Launch) (D : va_G) (ac : Nat → ClassId) (mo : Nat) (ad : Nat → Nat) (sc : wS1) (ar : wS2) (p1 : Int32) (p2 : Int32) (post : Int32 → wS1 → wS2 → Prop) (hw : w3_kilnOf post sc ar p1 p2) : wm_Mi l D ac mo ad yX3_kilnOf (ws_ yX3_kilnOf cX3_kilnOf 3 (some .int)) ({ frames := 2, cells := 0, slots := 0, locals := 43 }) [.ref mo, .int p1, .int p2] sc ar post := by
  refine wm_ofi (by decide) (Nat.le_of_ble_eq_true rfl) ?_
  intro p e s m below meth c A ls hx hb hr hlk hml hown hts hK hN hAm hA hM hl
  have hl : lv_has ls 3 [(0, .ref mo), (1, .int p1), (2, .int p2)] := hl
  unfold w3_kilnOf at hw
  have hL27 : ∀ (x1 : Int32) (x2 : Int32) (t0 : Int32) (sc : wS1) (ar : wS2) (H : Heap) (locs : List Loc) (ls : Array Slot), wm_S D ac A s.heap mo ad sc ar H locs → lv_has ls 3 [(0, .ref mo), (1, .int x1), (2, .int x2)] → w3_kilnOf_L27 post x1 x2 t0 sc ar → W p l e (headSpec (ws_ yX3_kilnOf cX3_kilnOf 3 (some .int)) ({ frames := 2, cells := 0, slots := 0, locals := 43 })).room s m ([.ref mo, .int p1, .int p2] : List Value).toArray below meth c H locs 0 0 (MQ below (va_Qi (S := wU) (fun r u => post r u.1 u.2) (wm_B D ac mo ad) A) ([.ref mo, .int p1, .int p2] : List Value).toArray s 0 0 A) (F0 m 27 ls [.int t0, .ref mo]) := by
    intro x1 x2 t0 sc ar H locs ls hM hl hw
    unfold w3_kilnOf_L27 at hw
    refine wm_callVi (As := [.int t0]) (rest := []) ⟨hx, hb, hml, hown, hts⟩ hK hN hAm hA hM (m3_fails l D ac mo ad sc ar t0 _ hw) (cwV 1 hts (lw_V q2008 q2010 qs19 q77 q2011) rfl rfl rfl hd_X3_fails ⟨Nat.le_of_ble_eq_true rfl, Nat.le_of_ble_eq_true rfl⟩) rfl hl.1 rfl (Nat.le_of_ble_eq_true rfl) dX3_kilnOf_27 ⟨Nat.le_refl 0, Nat.le_refl 0⟩ (fun r7 sc5 ar6 H locs hw hM => ?_)
    refine lv_if_eq (tgt := 37) hx hb dX3_kilnOf_30 (by decide) (fun c_ => ?_) (fun c_ => ?_)
    · replace hw := hw.1 c_
      refine lv_aload_n hx hb dX3_kilnOf_37 rfl (lv_at hl 0 rfl) ?_
      refine lv_iload_n hx hb dX3_kilnOf_38 rfl (lv_at hl 1 rfl) ?_
      refine lv_iload_n hx hb dX3_kilnOf_39 rfl (lv_at hl 2 rfl) ?_
      refine wm_callVi (As := [.int x1, .int x2]) (rest := []) ⟨hx, hb, hml, hown, hts⟩ hK hN hAm hA hM (m3_ofKiln l D ac mo ad sc5 ar6 x1 x2 _ hw) (cwV 2 hts (lw_V q2085 q2087 qs29 q77 q2088) rfl rfl rfl hd_X3_ofKiln ⟨Nat.le_of_ble_eq_true rfl, Nat.le_of_ble_eq_true rfl⟩) rfl hl.1 rfl (Nat.le_of_ble_eq_true rfl) dX3_kilnOf_40 ⟨Nat.le_refl 0, Nat.le_refl 0⟩ (fun r10 sc8 ar9 H locs hw hM => ?_)
      exact wm_reti hx hb hr hlk hM rfl hw dX3_kilnOf_43
    · replace hw := hw.2 c_
      refine lv_iconst (v := 0) hx hb dX3_kilnOf_33 (by decide) ?_
      refine lv_goto (tgt := 43) hx hb dX3_kilnOf_34 (by decide) ?_
      exact wm_reti hx hb hr hlk hM rfl hw dX3_kilnOf_43
  refine lv_aload_n hx hb dX3_kilnOf_0 rfl (lv_at hl 0 rfl) ?_
  refine lv_aload_n hx hb dX3_kilnOf_1 rfl (lv_at hl 0 rfl) ?_
  refine lv_iload_n hx hb dX3_kilnOf_2 rfl (lv_at hl 1 rfl) ?_
  refine wm_callVi (As := [.int p1]) (rest := [.ref mo]) ⟨hx, hb, hml, hown, hts⟩ hK hN hAm hA hM (m3_isKiln l D ac mo ad sc ar p1 _ hw) (cwV 1 hts (lw_V q2105 q2107 qs31 q77 q2108) rfl rfl rfl hd_X3_isKiln ⟨Nat.le_of_ble_eq_true rfl, Nat.le_of_ble_eq_true rfl⟩) rfl hl.1 rfl (Nat.le_of_ble_eq_true rfl) dX3_kilnOf_3 ⟨Nat.le_refl 0, Nat.le_refl 0⟩ (fun r3 sc1 ar2 H locs hw hM => ?_)
  refine lv_if_ne (tgt := 13) hx hb dX3_kilnOf_6 (by decide) (fun c_ => ?_) (fun c_ => ?_)
  · replace hw := hw.1 c_
    refine lv_iload_n hx hb dX3_kilnOf_13 rfl (lv_at hl 2 rfl) ?_
    refine lv_iconst (v := 0) hx hb dX3_kilnOf_14 (by decide) ?_
    refine lv_iconst (v := 3) hx hb dX3_kilnOf_15 (by decide) ?_
    refine wm_callPi (As := [.int p2, .int 0, .int 3]) (rest := [.ref mo]) ⟨hx, hb, hml, hown, hts⟩ hA hM (m3_in l p2 0 3 _ hw) (va_cwS 3 hts (lw_S q2005 q2006 q77 q2007) rfl rfl rfl hd_X3_in ⟨Nat.le_of_ble_eq_true rfl, Nat.le_of_ble_eq_true rfl⟩) rfl hl.1 rfl (Nat.le_of_ble_eq_true rfl) dX3_kilnOf_16 ⟨Nat.le_refl 0, Nat.le_refl 0⟩ (fun r4 H locs hw hM => ?_)
    refine lv_if_eq (tgt := 26) hx hb dX3_kilnOf_19 (by decide) (fun c_ => ?_) (fun c_ => ?_)
    · replace hw := hw.1 c_
      refine lv_iconst (v := 2) hx hb dX3_kilnOf_26 (by decide) ?_
      exact hL27  p1 p2 2 sc1 ar2 _ _ ls hM (lv_sub hl [0, 1, 2] rfl) hw
    · replace hw := hw.2 c_
      refine lv_iconst (v := 0) hx hb dX3_kilnOf_22 (by decide) ?_
      refine lv_goto (tgt := 27) hx hb dX3_kilnOf_23 (by decide) ?_
      exact hL27  p1 p2 0 sc1 ar2 _ _ ls hM (lv_sub hl [0, 1, 2] rfl) hw
  · replace hw := hw.2 c_
    refine lv_iconst (v := 1) hx hb dX3_kilnOf_9 (by decide) ?_
    refine lv_goto (tgt := 27) hx hb dX3_kilnOf_10 (by decide) ?_
    exact hL27  p1 p2 1 sc1 ar2 _ _ ls hM (lv_sub hl [0, 1, 2] rfl) hw
def w3_fire_L36 (post : Int32 → wS1 → wS2 → Prop) (x1 : Int32) (x2 : Int32) (x3 : Int32) (t0 : Int32) (sc : wS1) (ar : wS2) : Prop := w3_fails (fun r10 sc8 ar9 => (r10 = 0 → (w3_of (fun r13 sc11 ar12 => (r13 = 1 → (w3_ofKiln (fun r16 sc14 ar15 => (r16 < 0 → (w3_ofKiln (fun r19 sc17 ar18 => w3_of (fun r22 sc20 ar21 => (r22 ≤ r19 → (((x3 + 2) ≤ (ar21 0 3) → (w3_keeps (fun sc23 ar24 => w3_pays (fun sc25 ar26 => w3_lays (fun sc27 ar28 => w3_lays (fun sc29 ar30 => w3_lays (fun sc31 ar32 => w3_laysKiln (fun sc33 ar34 => w3_laysKiln (fun sc35 ar36 => post (8 + (2 * x3)) sc35 ar36) sc33 ar34 x2 2 (8 + (2 * x3))) sc31 ar32 x2 1 x1) sc29 ar30 x1 4 x3) sc27 ar28 x1 3 x2) sc25 ar26 x1 1 2) sc23 ar24 (x3 + 2)) sc20 ar21 0)) ∧ (¬ (x3 + 2) ≤ (ar21 0 3) → (w3_refuses (fun r39 sc37 ar38 => post r39 sc37 ar38) sc20 ar21 3 6 ((x3 + 2) - (ar21 0 3)))))) ∧ (¬ r22 ≤ r19 → (w3_ofKiln (fun r42 sc40 ar41 => w3_refuses (fun r45 sc43 ar44 => post r45 sc43 ar44) sc40 ar41 3 5 r42) sc20 ar21 x2 0))) sc17 ar18 x1 0) sc14 ar15 x2 0)) ∧ (¬ r16 < 0 → (w3_ofKiln (fun r48 sc46 ar47 => w3_refuses (fun r51 sc49 ar50 => post r51 sc49 ar50) sc46 ar47 3 4 r48) sc14 ar15 x2 1))) sc11 ar12 x2 1)) ∧ (¬ r13 = 1 → (w3_of (fun r54 sc52 ar53 => w3_refuses (fun r57 sc55 ar56 => post r57 sc55 ar56) sc52 ar53 3 1 r54) sc11 ar12 x1 1))) sc8 ar9 x1 1)) ∧ (¬ r10 = 0 → (post 0 sc8 ar9))) sc ar t0
def w3_fire_L17 (post : Int32 → wS1 → wS2 → Prop) (x1 : Int32) (x2 : Int32) (x3 : Int32) (sc : wS1) (ar : wS2) : Prop := w3_fire_L36 post  x1 x2 x3 1 sc ar
def w3_fire (post : Int32 → wS1 → wS2 → Prop) (sc : wS1) (ar : wS2) (p1 : Int32) (p2 : Int32) (p3 : Int32) : Prop := w3_isLot (fun r3 sc1 ar2 => (r3 = 0 → (w3_fire_L17 post  p1 p2 p3 sc1 ar2)) ∧ (¬ r3 = 0 → (w3_isKiln (fun r6 sc4 ar5 => (¬ r6 = 0 → (w3_in (fun r7 => (r7 = 0 → (w3_fire_L36 post  p1 p2 p3 2 sc4 ar5)) ∧ (¬ r7 = 0 → (w3_fire_L36 post  p1 p2 p3 0 sc4 ar5))) p3 0 9)) ∧ (r6 = 0 → (w3_fire_L17 post  p1 p2 p3 sc4 ar5))) sc1 ar2 p2))) sc ar p1
theorem hd_X3_fire : yX3_fire.cls = RX3 ∧ yX3_fire.cls ≠ "java/lang/invoke/MethodHandle" ∧ yX3_fire.cls ≠ "java/lang/invoke/VarHandle" ∧ (parseMethodDescriptor yX3_fire.desc).map (fun d => d.parameters.length) = some 3 := by decide +kernel
set_option maxHeartbeats 4000000 in
set_option maxRecDepth 100000 in
theorem m3_fire (l : Launch) (D : va_G) (ac : Nat → ClassId) (mo : Nat) (ad : Nat → Nat) (sc : wS1) (ar : wS2) (p1 : Int32) (p2 : Int32) (p3 : Int32) (post : Int32 → wS1 → wS2 → Prop) (hw : w3_fire post sc ar p1 p2 p3) : wm_Mi l D ac mo ad yX3_fire (ws_ yX3_fire cX3_fire 5 (some .int)) ({ frames := 2, cells := 0, slots := 0, locals := 46 }) [.ref mo, .int p1, .int p2, .int p3] sc ar post := by
  refine wm_ofi (by decide) (Nat.le_of_ble_eq_true rfl) ?_
  intro p e s m below meth c A ls hx hb hr hlk hml hown hts hK hN hAm hA hM hl
  have hl : lv_has ls 5 [(0, .ref mo), (1, .int p1), (2, .int p2), (3, .int p3)] := hl
  unfold w3_fire at hw
  have hL36 : ∀ (x1 : Int32) (x2 : Int32) (x3 : Int32) (t0 : Int32) (sc : wS1) (ar : wS2) (H : Heap) (locs : List Loc) (ls : Array Slot), wm_S D ac A s.heap mo ad sc ar H locs → lv_has ls 5 [(0, .ref mo), (1, .int x1), (2, .int x2), (3, .int x3)] → w3_fire_L36 post x1 x2 x3 t0 sc ar → W p l e (headSpec (ws_ yX3_fire cX3_fire 5 (some .int)) ({ frames := 2, cells := 0, slots := 0, locals := 46 })).room s m ([.ref mo, .int p1, .int p2, .int p3] : List Value).toArray below meth c H locs 0 0 (MQ below (va_Qi (S := wU) (fun r u => post r u.1 u.2) (wm_B D ac mo ad) A) ([.ref mo, .int p1, .int p2, .int p3] : List Value).toArray s 0 0 A) (F0 m 36 ls [.int t0, .ref mo]) := by
    intro x1 x2 x3 t0 sc ar H locs ls hM hl hw
    unfold w3_fire_L36 at hw
    refine wm_callVi (As := [.int t0]) (rest := []) ⟨hx, hb, hml, hown, hts⟩ hK hN hAm hA hM (m3_fails l D ac mo ad sc ar t0 _ hw) (cwV 1 hts (lw_V q2008 q2010 qs19 q77 q2011) rfl rfl rfl hd_X3_fails ⟨Nat.le_of_ble_eq_true rfl, Nat.le_of_ble_eq_true rfl⟩) rfl hl.1 rfl (Nat.le_of_ble_eq_true rfl) dX3_fire_36 ⟨Nat.le_refl 0, Nat.le_refl 0⟩ (fun r10 sc8 ar9 H locs hw hM => ?_)
    refine lv_if_eq (tgt := 44) hx hb dX3_fire_39 (by decide) (fun c_ => ?_) (fun c_ => ?_)
    · replace hw := hw.1 c_
      refine lv_iload_n hx hb dX3_fire_44 rfl (lv_at hl 3 rfl) ?_
      refine lv_iconst (v := 2) hx hb dX3_fire_45 (by decide) ?_
      refine lv_iadd hx hb dX3_fire_46 ?_
      refine lv_istore (lv' := [(4, .int (x3 + 2)), (0, .ref mo), (1, .int x1), (2, .int x2), (3, .int x3)]) hx hb dX3_fire_47 hl (by decide) rfl (fun ls hl => ?_)
      refine lv_aload_n hx hb dX3_fire_49 rfl (lv_at hl 1 rfl) ?_
      refine lv_iload_n hx hb dX3_fire_50 rfl (lv_at hl 2 rfl) ?_
      refine lv_iconst (v := 1) hx hb dX3_fire_51 (by decide) ?_
      refine wm_callVi (As := [.int x1, .int 1]) (rest := []) ⟨hx, hb, hml, hown, hts⟩ hK hN hAm hA hM (m3_of l D ac mo ad sc8 ar9 x1 1 _ hw) (cwV 2 hts (lw_V q2069 q2071 qs27 q77 q2072) rfl rfl rfl hd_X3_of ⟨Nat.le_of_ble_eq_true rfl, Nat.le_of_ble_eq_true rfl⟩) rfl hl.1 rfl (Nat.le_of_ble_eq_true rfl) dX3_fire_52 ⟨Nat.le_refl 0, Nat.le_refl 0⟩ (fun r13 sc11 ar12 H locs hw hM => ?_)
      refine lv_iconst (v := 1) hx hb dX3_fire_55 (by decide) ?_
      refine lv_icmp_eq (tgt := 72) hx hb dX3_fire_56 (by decide) (fun c_ => ?_) (fun c_ => ?_)
      · replace hw := hw.1 c_
        refine lv_aload_n hx hb dX3_fire_72 rfl (lv_at hl 1 rfl) ?_
        refine lv_iload_n hx hb dX3_fire_73 rfl (lv_at hl 3 rfl) ?_
        refine lv_iconst (v := 1) hx hb dX3_fire_74 (by decide) ?_
        refine wm_callVi (As := [.int x2, .int 1]) (rest := []) ⟨hx, hb, hml, hown, hts⟩ hK hN hAm hA hM (m3_ofKiln l D ac mo ad sc11 ar12 x2 1 _ hw) (cwV 2 hts (lw_V q2085 q2087 qs29 q77 q2088) rfl rfl rfl hd_X3_ofKiln ⟨Nat.le_of_ble_eq_true rfl, Nat.le_of_ble_eq_true rfl⟩) rfl hl.1 rfl (Nat.le_of_ble_eq_true rfl) dX3_fire_75 ⟨Nat.le_refl 0, Nat.le_refl 0⟩ (fun r16 sc14 ar15 H locs hw hM => ?_)
        refine lv_if_lt (tgt := 94) hx hb dX3_fire_78 (by decide) (fun c_ => ?_) (fun c_ => ?_)
        · replace hw := hw.1 c_
          refine lv_aload_n hx hb dX3_fire_94 rfl (lv_at hl 1 rfl) ?_
          refine lv_iload_n hx hb dX3_fire_95 rfl (lv_at hl 3 rfl) ?_
          refine lv_iconst (v := 0) hx hb dX3_fire_96 (by decide) ?_
          refine wm_callVi (As := [.int x2, .int 0]) (rest := []) ⟨hx, hb, hml, hown, hts⟩ hK hN hAm hA hM (m3_ofKiln l D ac mo ad sc14 ar15 x2 0 _ hw) (cwV 2 hts (lw_V q2085 q2087 qs29 q77 q2088) rfl rfl rfl hd_X3_ofKiln ⟨Nat.le_of_ble_eq_true rfl, Nat.le_of_ble_eq_true rfl⟩) rfl hl.1 rfl (Nat.le_of_ble_eq_true rfl) dX3_fire_97 ⟨Nat.le_refl 0, Nat.le_refl 0⟩ (fun r19 sc17 ar18 H locs hw hM => ?_)
          refine lv_aload_n hx hb dX3_fire_100 rfl (lv_at hl 1 rfl) ?_
          refine lv_iload_n hx hb dX3_fire_101 rfl (lv_at hl 2 rfl) ?_
          refine lv_iconst (v := 0) hx hb dX3_fire_102 (by decide) ?_
          refine wm_callVi (As := [.int x1, .int 0]) (rest := [.int r19]) ⟨hx, hb, hml, hown, hts⟩ hK hN hAm hA hM (m3_of l D ac mo ad sc17 ar18 x1 0 _ hw) (cwV 2 hts (lw_V q2069 q2071 qs27 q77 q2072) rfl rfl rfl hd_X3_of ⟨Nat.le_of_ble_eq_true rfl, Nat.le_of_ble_eq_true rfl⟩) rfl hl.1 rfl (Nat.le_of_ble_eq_true rfl) dX3_fire_103 ⟨Nat.le_refl 0, Nat.le_refl 0⟩ (fun r22 sc20 ar21 H locs hw hM => ?_)
          refine lv_icmp_ge (tgt := 122) hx hb dX3_fire_106 (by decide) (fun c_ => ?_) (fun c_ => ?_)
          · replace hw := hw.1 c_
            refine lv_aload_n hx hb dX3_fire_122 rfl (lv_at hl 1 rfl) ?_
            refine wm_get hx hb hts hown hK hM 0 (by decide) q1933 (v := .ref (ad 0)) rfl dX3_fire_123 ?_
            refine lv_iconst (v := 3) hx hb dX3_fire_126 (by decide) ?_
            refine wm_ald hx hb hK hM (k := 0) rfl vi_3_125 vc_3 (v := ar21 0 3) rfl dX3_fire_127 ?_
            refine lv_iload hx hb dX3_fire_128 (lv_at hl 0 rfl) ?_
            refine lv_icmp_ge (tgt := 150) hx hb dX3_fire_130 (by decide) (fun c_ => ?_) (fun c_ => ?_)
            · replace hw := hw.1 c_
              refine lv_aload_n hx hb dX3_fire_150 rfl (lv_at hl 1 rfl) ?_
              refine lv_aload_n hx hb dX3_fire_151 rfl (lv_at hl 1 rfl) ?_
              refine wm_get hx hb hts hown hK hM 0 (by decide) q1933 (v := .ref (ad 0)) rfl dX3_fire_152 ?_
              refine wm_callVv (As := [.ref (ad 0)]) (rest := []) ⟨hx, hb, hml, hown, hts⟩ hK hN hAm hA hM (m3_keeps l D ac mo ad sc20 ar21 0 _ rfl hw) (cwV 1 hts (lw_V q2016 q2018 qs21 q77 q2019) rfl rfl rfl hd_X3_keeps ⟨Nat.le_of_ble_eq_true rfl, Nat.le_of_ble_eq_true rfl⟩) rfl hl.1 rfl (Nat.le_of_ble_eq_true rfl) dX3_fire_155 ⟨Nat.le_refl 0, Nat.le_refl 0⟩ (fun sc23 ar24 H locs hw hM => ?_)
              refine lv_aload_n hx hb dX3_fire_158 rfl (lv_at hl 1 rfl) ?_
              refine lv_iload hx hb dX3_fire_159 (lv_at hl 0 rfl) ?_
              refine wm_callVv (As := [.int (x3 + 2)]) (rest := []) ⟨hx, hb, hml, hown, hts⟩ hK hN hAm hA hM (m3_pays l D ac mo ad sc23 ar24 (x3 + 2) _ hw) (cwV 1 hts (lw_V q2023 q2025 qs22 q77 q2026) rfl rfl rfl hd_X3_pays ⟨Nat.le_of_ble_eq_true rfl, Nat.le_of_ble_eq_true rfl⟩) rfl hl.1 rfl (Nat.le_of_ble_eq_true rfl) dX3_fire_161 ⟨Nat.le_refl 0, Nat.le_refl 0⟩ (fun sc25 ar26 H locs hw hM => ?_)
              refine lv_aload_n hx hb dX3_fire_164 rfl (lv_at hl 1 rfl) ?_
              refine lv_iload_n hx hb dX3_fire_165 rfl (lv_at hl 2 rfl) ?_
              refine lv_iconst (v := 1) hx hb dX3_fire_166 (by decide) ?_
              refine lv_iconst (v := 2) hx hb dX3_fire_167 (by decide) ?_
              refine wm_callVv (As := [.int x1, .int 1, .int 2]) (rest := []) ⟨hx, hb, hml, hown, hts⟩ hK hN hAm hA hM (m3_lays l D ac mo ad sc25 ar26 x1 1 2 _ hw) (cwV 3 hts (lw_V q2077 q2079 qs28 q77 q2080) rfl rfl rfl hd_X3_lays ⟨Nat.le_of_ble_eq_true rfl, Nat.le_of_ble_eq_true rfl⟩) rfl hl.1 rfl (Nat.le_of_ble_eq_true rfl) dX3_fire_168 ⟨Nat.le_refl 0, Nat.le_refl 0⟩ (fun sc27 ar28 H locs hw hM => ?_)
              refine lv_aload_n hx hb dX3_fire_171 rfl (lv_at hl 1 rfl) ?_
              refine lv_iload_n hx hb dX3_fire_172 rfl (lv_at hl 2 rfl) ?_
              refine lv_iconst (v := 3) hx hb dX3_fire_173 (by decide) ?_
              refine lv_iload_n hx hb dX3_fire_174 rfl (lv_at hl 3 rfl) ?_
              refine wm_callVv (As := [.int x1, .int 3, .int x2]) (rest := []) ⟨hx, hb, hml, hown, hts⟩ hK hN hAm hA hM (m3_lays l D ac mo ad sc27 ar28 x1 3 x2 _ hw) (cwV 3 hts (lw_V q2077 q2079 qs28 q77 q2080) rfl rfl rfl hd_X3_lays ⟨Nat.le_of_ble_eq_true rfl, Nat.le_of_ble_eq_true rfl⟩) rfl hl.1 rfl (Nat.le_of_ble_eq_true rfl) dX3_fire_175 ⟨Nat.le_refl 0, Nat.le_refl 0⟩ (fun sc29 ar30 H locs hw hM => ?_)
              refine lv_aload_n hx hb dX3_fire_178 rfl (lv_at hl 1 rfl) ?_
              refine lv_iload_n hx hb dX3_fire_179 rfl (lv_at hl 2 rfl) ?_
              refine lv_iconst (v := 4) hx hb dX3_fire_180 (by decide) ?_
              refine lv_iload_n hx hb dX3_fire_181 rfl (lv_at hl 4 rfl) ?_
              refine wm_callVv (As := [.int x1, .int 4, .int x3]) (rest := []) ⟨hx, hb, hml, hown, hts⟩ hK hN hAm hA hM (m3_lays l D ac mo ad sc29 ar30 x1 4 x3 _ hw) (cwV 3 hts (lw_V q2077 q2079 qs28 q77 q2080) rfl rfl rfl hd_X3_lays ⟨Nat.le_of_ble_eq_true rfl, Nat.le_of_ble_eq_true rfl⟩) rfl hl.1 rfl (Nat.le_of_ble_eq_true rfl) dX3_fire_182 ⟨Nat.le_refl 0, Nat.le_refl 0⟩ (fun sc31 ar32 H locs hw hM => ?_)
              refine lv_aload_n hx hb dX3_fire_185 rfl (lv_at hl 1 rfl) ?_
              refine lv_iload_n hx hb dX3_fire_186 rfl (lv_at hl 3 rfl) ?_
              refine lv_iconst (v := 1) hx hb dX3_fire_187 (by decide) ?_
              refine lv_iload_n hx hb dX3_fire_188 rfl (lv_at hl 2 rfl) ?_
              refine wm_callVv (As := [.int x2, .int 1, .int x1]) (rest := []) ⟨hx, hb, hml, hown, hts⟩ hK hN hAm hA hM (m3_laysKiln l D ac mo ad sc31 ar32 x2 1 x1 _ hw) (cwV 3 hts (lw_V q2097 q2099 qs30 q77 q2100) rfl rfl rfl hd_X3_laysKiln ⟨Nat.le_of_ble_eq_true rfl, Nat.le_of_ble_eq_true rfl⟩) rfl hl.1 rfl (Nat.le_of_ble_eq_true rfl) dX3_fire_189 ⟨Nat.le_refl 0, Nat.le_refl 0⟩ (fun sc33 ar34 H locs hw hM => ?_)
              refine lv_aload_n hx hb dX3_fire_192 rfl (lv_at hl 1 rfl) ?_
              refine lv_iload_n hx hb dX3_fire_193 rfl (lv_at hl 3 rfl) ?_
              refine lv_iconst (v := 2) hx hb dX3_fire_194 (by decide) ?_
              refine lv_bipush (v := 8) hx hb dX3_fire_195 (by decide) ?_
              refine lv_iconst (v := 2) hx hb dX3_fire_197 (by decide) ?_
              refine lv_iload_n hx hb dX3_fire_198 rfl (lv_at hl 4 rfl) ?_
              refine lv_imul hx hb dX3_fire_199 ?_
              refine lv_iadd hx hb dX3_fire_200 ?_
              refine wm_callVv (As := [.int x2, .int 2, .int (8 + (2 * x3))]) (rest := []) ⟨hx, hb, hml, hown, hts⟩ hK hN hAm hA hM (m3_laysKiln l D ac mo ad sc33 ar34 x2 2 (8 + (2 * x3)) _ hw) (cwV 3 hts (lw_V q2097 q2099 qs30 q77 q2100) rfl rfl rfl hd_X3_laysKiln ⟨Nat.le_of_ble_eq_true rfl, Nat.le_of_ble_eq_true rfl⟩) rfl hl.1 rfl (Nat.le_of_ble_eq_true rfl) dX3_fire_201 ⟨Nat.le_refl 0, Nat.le_refl 0⟩ (fun sc35 ar36 H locs hw hM => ?_)
              refine lv_bipush (v := 8) hx hb dX3_fire_204 (by decide) ?_
              refine lv_iconst (v := 2) hx hb dX3_fire_206 (by decide) ?_
              refine lv_iload_n hx hb dX3_fire_207 rfl (lv_at hl 4 rfl) ?_
              refine lv_imul hx hb dX3_fire_208 ?_
              refine lv_iadd hx hb dX3_fire_209 ?_
              exact wm_reti hx hb hr hlk hM rfl hw dX3_fire_210
            · replace hw := hw.2 c_
              refine lv_aload_n hx hb dX3_fire_133 rfl (lv_at hl 1 rfl) ?_
              refine lv_iconst (v := 3) hx hb dX3_fire_134 (by decide) ?_
              refine lv_bipush (v := 6) hx hb dX3_fire_135 (by decide) ?_
              refine lv_iload hx hb dX3_fire_137 (lv_at hl 0 rfl) ?_
              refine lv_aload_n hx hb dX3_fire_139 rfl (lv_at hl 1 rfl) ?_
              refine wm_get hx hb hts hown hK hM 0 (by decide) q1933 (v := .ref (ad 0)) rfl dX3_fire_140 ?_
              refine lv_iconst (v := 3) hx hb dX3_fire_143 (by decide) ?_
              refine wm_ald hx hb hK hM (k := 0) rfl vi_3_125 vc_3 (v := ar21 0 3) rfl dX3_fire_144 ?_
              refine lv_isub hx hb dX3_fire_145 ?_
              refine wm_callVi (As := [.int 3, .int 6, .int ((x3 + 2) - (ar21 0 3))]) (rest := []) ⟨hx, hb, hml, hown, hts⟩ hK hN hAm hA hM (m3_refuses l D ac mo ad sc20 ar21 3 6 ((x3 + 2) - (ar21 0 3)) _ hw) (cwV 3 hts (lw_V q2012 q2014 qs20 q77 q2015) rfl rfl rfl hd_X3_refuses ⟨Nat.le_of_ble_eq_true rfl, Nat.le_of_ble_eq_true rfl⟩) rfl hl.1 rfl (Nat.le_of_ble_eq_true rfl) dX3_fire_146 ⟨Nat.le_refl 0, Nat.le_refl 0⟩ (fun r39 sc37 ar38 H locs hw hM => ?_)
              exact wm_reti hx hb hr hlk hM rfl hw dX3_fire_149
          · replace hw := hw.2 c_
            refine lv_aload_n hx hb dX3_fire_109 rfl (lv_at hl 1 rfl) ?_
            refine lv_iconst (v := 3) hx hb dX3_fire_110 (by decide) ?_
            refine lv_iconst (v := 5) hx hb dX3_fire_111 (by decide) ?_
            refine lv_aload_n hx hb dX3_fire_112 rfl (lv_at hl 1 rfl) ?_
            refine lv_iload_n hx hb dX3_fire_113 rfl (lv_at hl 3 rfl) ?_
            refine lv_iconst (v := 0) hx hb dX3_fire_114 (by decide) ?_
            refine wm_callVi (As := [.int x2, .int 0]) (rest := [.int 5, .int 3, .ref mo]) ⟨hx, hb, hml, hown, hts⟩ hK hN hAm hA hM (m3_ofKiln l D ac mo ad sc20 ar21 x2 0 _ hw) (cwV 2 hts (lw_V q2085 q2087 qs29 q77 q2088) rfl rfl rfl hd_X3_ofKiln ⟨Nat.le_of_ble_eq_true rfl, Nat.le_of_ble_eq_true rfl⟩) rfl hl.1 rfl (Nat.le_of_ble_eq_true rfl) dX3_fire_115 ⟨Nat.le_refl 0, Nat.le_refl 0⟩ (fun r42 sc40 ar41 H locs hw hM => ?_)
            refine wm_callVi (As := [.int 3, .int 5, .int r42]) (rest := []) ⟨hx, hb, hml, hown, hts⟩ hK hN hAm hA hM (m3_refuses l D ac mo ad sc40 ar41 3 5 r42 _ hw) (cwV 3 hts (lw_V q2012 q2014 qs20 q77 q2015) rfl rfl rfl hd_X3_refuses ⟨Nat.le_of_ble_eq_true rfl, Nat.le_of_ble_eq_true rfl⟩) rfl hl.1 rfl (Nat.le_of_ble_eq_true rfl) dX3_fire_118 ⟨Nat.le_refl 0, Nat.le_refl 0⟩ (fun r45 sc43 ar44 H locs hw hM => ?_)
            exact wm_reti hx hb hr hlk hM rfl hw dX3_fire_121
        · replace hw := hw.2 c_
          refine lv_aload_n hx hb dX3_fire_81 rfl (lv_at hl 1 rfl) ?_
          refine lv_iconst (v := 3) hx hb dX3_fire_82 (by decide) ?_
          refine lv_iconst (v := 4) hx hb dX3_fire_83 (by decide) ?_
          refine lv_aload_n hx hb dX3_fire_84 rfl (lv_at hl 1 rfl) ?_
          refine lv_iload_n hx hb dX3_fire_85 rfl (lv_at hl 3 rfl) ?_
          refine lv_iconst (v := 1) hx hb dX3_fire_86 (by decide) ?_
          refine wm_callVi (As := [.int x2, .int 1]) (rest := [.int 4, .int 3, .ref mo]) ⟨hx, hb, hml, hown, hts⟩ hK hN hAm hA hM (m3_ofKiln l D ac mo ad sc14 ar15 x2 1 _ hw) (cwV 2 hts (lw_V q2085 q2087 qs29 q77 q2088) rfl rfl rfl hd_X3_ofKiln ⟨Nat.le_of_ble_eq_true rfl, Nat.le_of_ble_eq_true rfl⟩) rfl hl.1 rfl (Nat.le_of_ble_eq_true rfl) dX3_fire_87 ⟨Nat.le_refl 0, Nat.le_refl 0⟩ (fun r48 sc46 ar47 H locs hw hM => ?_)
          refine wm_callVi (As := [.int 3, .int 4, .int r48]) (rest := []) ⟨hx, hb, hml, hown, hts⟩ hK hN hAm hA hM (m3_refuses l D ac mo ad sc46 ar47 3 4 r48 _ hw) (cwV 3 hts (lw_V q2012 q2014 qs20 q77 q2015) rfl rfl rfl hd_X3_refuses ⟨Nat.le_of_ble_eq_true rfl, Nat.le_of_ble_eq_true rfl⟩) rfl hl.1 rfl (Nat.le_of_ble_eq_true rfl) dX3_fire_90 ⟨Nat.le_refl 0, Nat.le_refl 0⟩ (fun r51 sc49 ar50 H locs hw hM => ?_)
          exact wm_reti hx hb hr hlk hM rfl hw dX3_fire_93
      · replace hw := hw.2 c_
        refine lv_aload_n hx hb dX3_fire_59 rfl (lv_at hl 1 rfl) ?_
        refine lv_iconst (v := 3) hx hb dX3_fire_60 (by decide) ?_
        refine lv_iconst (v := 1) hx hb dX3_fire_61 (by decide) ?_
        refine lv_aload_n hx hb dX3_fire_62 rfl (lv_at hl 1 rfl) ?_
        refine lv_iload_n hx hb dX3_fire_63 rfl (lv_at hl 2 rfl) ?_
        refine lv_iconst (v := 1) hx hb dX3_fire_64 (by decide) ?_
        refine wm_callVi (As := [.int x1, .int 1]) (rest := [.int 1, .int 3, .ref mo]) ⟨hx, hb, hml, hown, hts⟩ hK hN hAm hA hM (m3_of l D ac mo ad sc11 ar12 x1 1 _ hw) (cwV 2 hts (lw_V q2069 q2071 qs27 q77 q2072) rfl rfl rfl hd_X3_of ⟨Nat.le_of_ble_eq_true rfl, Nat.le_of_ble_eq_true rfl⟩) rfl hl.1 rfl (Nat.le_of_ble_eq_true rfl) dX3_fire_65 ⟨Nat.le_refl 0, Nat.le_refl 0⟩ (fun r54 sc52 ar53 H locs hw hM => ?_)
        refine wm_callVi (As := [.int 3, .int 1, .int r54]) (rest := []) ⟨hx, hb, hml, hown, hts⟩ hK hN hAm hA hM (m3_refuses l D ac mo ad sc52 ar53 3 1 r54 _ hw) (cwV 3 hts (lw_V q2012 q2014 qs20 q77 q2015) rfl rfl rfl hd_X3_refuses ⟨Nat.le_of_ble_eq_true rfl, Nat.le_of_ble_eq_true rfl⟩) rfl hl.1 rfl (Nat.le_of_ble_eq_true rfl) dX3_fire_68 ⟨Nat.le_refl 0, Nat.le_refl 0⟩ (fun r57 sc55 ar56 H locs hw hM => ?_)
        exact wm_reti hx hb hr hlk hM rfl hw dX3_fire_71
    · replace hw := hw.2 c_
      refine lv_iconst (v := 0) hx hb dX3_fire_42 (by decide) ?_
      exact wm_reti hx hb hr hlk hM rfl hw dX3_fire_43
  have hL17 : ∀ (x1 : Int32) (x2 : Int32) (x3 : Int32) (sc : wS1) (ar : wS2) (H : Heap) (locs : List Loc) (ls : Array Slot), wm_S D ac A s.heap mo ad sc ar H locs → lv_has ls 5 [(0, .ref mo), (1, .int x1), (2, .int x2), (3, .int x3)] → w3_fire_L17 post x1 x2 x3 sc ar → W p l e (headSpec (ws_ yX3_fire cX3_fire 5 (some .int)) ({ frames := 2, cells := 0, slots := 0, locals := 46 })).room s m ([.ref mo, .int p1, .int p2, .int p3] : List Value).toArray below meth c H locs 0 0 (MQ below (va_Qi (S := wU) (fun r u => post r u.1 u.2) (wm_B D ac mo ad) A) ([.ref mo, .int p1, .int p2, .int p3] : List Value).toArray s 0 0 A) (F0 m 17 ls [.ref mo]) := by
    intro x1 x2 x3 sc ar H locs ls hM hl hw
    unfold w3_fire_L17 at hw
    refine lv_iconst (v := 1) hx hb dX3_fire_17 (by decide) ?_
    refine lv_goto (tgt := 36) hx hb dX3_fire_18 (by decide) ?_
    exact hL36  x1 x2 x3 1 sc ar _ _ ls hM (lv_sub hl [0, 1, 2, 3] rfl) hw
  refine lv_aload_n hx hb dX3_fire_0 rfl (lv_at hl 0 rfl) ?_
  refine lv_aload_n hx hb dX3_fire_1 rfl (lv_at hl 0 rfl) ?_
  refine lv_iload_n hx hb dX3_fire_2 rfl (lv_at hl 1 rfl) ?_
  refine wm_callVi (As := [.int p1]) (rest := [.ref mo]) ⟨hx, hb, hml, hown, hts⟩ hK hN hAm hA hM (m3_isLot l D ac mo ad sc ar p1 _ hw) (cwV 1 hts (lw_V q2065 q2067 qs26 q77 q2068) rfl rfl rfl hd_X3_isLot ⟨Nat.le_of_ble_eq_true rfl, Nat.le_of_ble_eq_true rfl⟩) rfl hl.1 rfl (Nat.le_of_ble_eq_true rfl) dX3_fire_3 ⟨Nat.le_refl 0, Nat.le_refl 0⟩ (fun r3 sc1 ar2 H locs hw hM => ?_)
  refine lv_if_eq (tgt := 17) hx hb dX3_fire_6 (by decide) (fun c_ => ?_) (fun c_ => ?_)
  · replace hw := hw.1 c_
    exact hL17  p1 p2 p3 sc1 ar2 _ _ ls hM (lv_sub hl [0, 1, 2, 3] rfl) hw
  · replace hw := hw.2 c_
    refine lv_aload_n hx hb dX3_fire_9 rfl (lv_at hl 0 rfl) ?_
    refine lv_iload_n hx hb dX3_fire_10 rfl (lv_at hl 2 rfl) ?_
    refine wm_callVi (As := [.int p2]) (rest := [.ref mo]) ⟨hx, hb, hml, hown, hts⟩ hK hN hAm hA hM (m3_isKiln l D ac mo ad sc1 ar2 p2 _ hw) (cwV 1 hts (lw_V q2105 q2107 qs31 q77 q2108) rfl rfl rfl hd_X3_isKiln ⟨Nat.le_of_ble_eq_true rfl, Nat.le_of_ble_eq_true rfl⟩) rfl hl.1 rfl (Nat.le_of_ble_eq_true rfl) dX3_fire_11 ⟨Nat.le_refl 0, Nat.le_refl 0⟩ (fun r6 sc4 ar5 H locs hw hM => ?_)
    refine lv_if_ne (tgt := 21) hx hb dX3_fire_14 (by decide) (fun c_ => ?_) (fun c_ => ?_)
    · replace hw := hw.1 c_
      refine lv_iload_n hx hb dX3_fire_21 rfl (lv_at hl 3 rfl) ?_
      refine lv_iconst (v := 0) hx hb dX3_fire_22 (by decide) ?_
      refine lv_bipush (v := 9) hx hb dX3_fire_23 (by decide) ?_
      refine wm_callPi (As := [.int p3, .int 0, .int 9]) (rest := [.ref mo]) ⟨hx, hb, hml, hown, hts⟩ hA hM (m3_in l p3 0 9 _ hw) (va_cwS 3 hts (lw_S q2005 q2006 q77 q2007) rfl rfl rfl hd_X3_in ⟨Nat.le_of_ble_eq_true rfl, Nat.le_of_ble_eq_true rfl⟩) rfl hl.1 rfl (Nat.le_of_ble_eq_true rfl) dX3_fire_25 ⟨Nat.le_refl 0, Nat.le_refl 0⟩ (fun r7 H locs hw hM => ?_)
      refine lv_if_eq (tgt := 35) hx hb dX3_fire_28 (by decide) (fun c_ => ?_) (fun c_ => ?_)
      · replace hw := hw.1 c_
        refine lv_iconst (v := 2) hx hb dX3_fire_35 (by decide) ?_
        exact hL36  p1 p2 p3 2 sc4 ar5 _ _ ls hM (lv_sub hl [0, 1, 2, 3] rfl) hw
      · replace hw := hw.2 c_
        refine lv_iconst (v := 0) hx hb dX3_fire_31 (by decide) ?_
        refine lv_goto (tgt := 36) hx hb dX3_fire_32 (by decide) ?_
        exact hL36  p1 p2 p3 0 sc4 ar5 _ _ ls hM (lv_sub hl [0, 1, 2, 3] rfl) hw
    · replace hw := hw.2 c_
      exact hL17  p1 p2 p3 sc4 ar5 _ _ ls hM (lv_sub hl [0, 1, 2, 3] rfl) hw
def w3_wouldChip_L28 (post : Int32 → wS1 → wS2 → Prop) (x1 : Int32) (x2 : Int32) (t0 : Int32) (sc : wS1) (ar : wS2) : Prop := w3_fails (fun r7 sc5 ar6 => (r7 = 0 → (w3_chips (fun r10 sc8 ar9 => post r10 sc8 ar9) sc5 ar6 x1 x2)) ∧ (¬ r7 = 0 → (post 0 sc5 ar6))) sc ar t0
def w3_wouldChip (post : Int32 → wS1 → wS2 → Prop) (sc : wS1) (ar : wS2) (p1 : Int32) (p2 : Int32) : Prop := w3_isLot (fun r3 sc1 ar2 => (¬ r3 = 0 → (w3_in (fun r4 => (r4 = 0 → (w3_wouldChip_L28 post  p1 p2 2 sc1 ar2)) ∧ (¬ r4 = 0 → (w3_wouldChip_L28 post  p1 p2 0 sc1 ar2))) p2 0 9)) ∧ (r3 = 0 → (w3_wouldChip_L28 post  p1 p2 1 sc1 ar2))) sc ar p1
theorem hd_X3_wouldChip : yX3_wouldChip.cls = RX3 ∧ yX3_wouldChip.cls ≠ "java/lang/invoke/MethodHandle" ∧ yX3_wouldChip.cls ≠ "java/lang/invoke/VarHandle" ∧ (parseMethodDescriptor yX3_wouldChip.desc).map (fun d => d.parameters.length) = some 2 := by decide +kernel
set_option maxHeartbeats 4000000 in
set_option maxRecDepth 100000 in
theorem m3_wouldChip (l : Launch) (D : va_G) (ac : Nat → ClassId) (mo : Nat) (ad : Nat → Nat) (sc : wS1) (ar : wS2) (p1 : Int32) (p2 : Int32) (post : Int32 → wS1 → wS2 → Prop) (hw : w3_wouldChip post sc ar p1 p2) : wm_Mi l D ac mo ad yX3_wouldChip (ws_ yX3_wouldChip cX3_wouldChip 3 (some .int)) ({ frames := 2, cells := 0, slots := 0, locals := 44 }) [.ref mo, .int p1, .int p2] sc ar post := by
  refine wm_ofi (by decide) (Nat.le_of_ble_eq_true rfl) ?_
  intro p e s m below meth c A ls hx hb hr hlk hml hown hts hK hN hAm hA hM hl
  have hl : lv_has ls 3 [(0, .ref mo), (1, .int p1), (2, .int p2)] := hl
  unfold w3_wouldChip at hw
  have hL28 : ∀ (x1 : Int32) (x2 : Int32) (t0 : Int32) (sc : wS1) (ar : wS2) (H : Heap) (locs : List Loc) (ls : Array Slot), wm_S D ac A s.heap mo ad sc ar H locs → lv_has ls 3 [(0, .ref mo), (1, .int x1), (2, .int x2)] → w3_wouldChip_L28 post x1 x2 t0 sc ar → W p l e (headSpec (ws_ yX3_wouldChip cX3_wouldChip 3 (some .int)) ({ frames := 2, cells := 0, slots := 0, locals := 44 })).room s m ([.ref mo, .int p1, .int p2] : List Value).toArray below meth c H locs 0 0 (MQ below (va_Qi (S := wU) (fun r u => post r u.1 u.2) (wm_B D ac mo ad) A) ([.ref mo, .int p1, .int p2] : List Value).toArray s 0 0 A) (F0 m 28 ls [.int t0, .ref mo]) := by
    intro x1 x2 t0 sc ar H locs ls hM hl hw
    unfold w3_wouldChip_L28 at hw
    refine wm_callVi (As := [.int t0]) (rest := []) ⟨hx, hb, hml, hown, hts⟩ hK hN hAm hA hM (m3_fails l D ac mo ad sc ar t0 _ hw) (cwV 1 hts (lw_V q2008 q2010 qs19 q77 q2011) rfl rfl rfl hd_X3_fails ⟨Nat.le_of_ble_eq_true rfl, Nat.le_of_ble_eq_true rfl⟩) rfl hl.1 rfl (Nat.le_of_ble_eq_true rfl) dX3_wouldChip_28 ⟨Nat.le_refl 0, Nat.le_refl 0⟩ (fun r7 sc5 ar6 H locs hw hM => ?_)
    refine lv_if_eq (tgt := 38) hx hb dX3_wouldChip_31 (by decide) (fun c_ => ?_) (fun c_ => ?_)
    · replace hw := hw.1 c_
      refine lv_aload_n hx hb dX3_wouldChip_38 rfl (lv_at hl 0 rfl) ?_
      refine lv_iload_n hx hb dX3_wouldChip_39 rfl (lv_at hl 1 rfl) ?_
      refine lv_iload_n hx hb dX3_wouldChip_40 rfl (lv_at hl 2 rfl) ?_
      refine wm_callVi (As := [.int x1, .int x2]) (rest := []) ⟨hx, hb, hml, hown, hts⟩ hK hN hAm hA hM (m3_chips l D ac mo ad sc5 ar6 x1 x2 _ hw) (cwV 2 hts (lw_V q2117 q2119 qs32 q77 q2120) rfl rfl rfl hd_X3_chips ⟨Nat.le_of_ble_eq_true rfl, Nat.le_of_ble_eq_true rfl⟩) rfl hl.1 rfl (Nat.le_of_ble_eq_true rfl) dX3_wouldChip_41 ⟨Nat.le_refl 0, Nat.le_refl 0⟩ (fun r10 sc8 ar9 H locs hw hM => ?_)
      exact wm_reti hx hb hr hlk hM rfl hw dX3_wouldChip_44
    · replace hw := hw.2 c_
      refine lv_iconst (v := 0) hx hb dX3_wouldChip_34 (by decide) ?_
      refine lv_goto (tgt := 44) hx hb dX3_wouldChip_35 (by decide) ?_
      exact wm_reti hx hb hr hlk hM rfl hw dX3_wouldChip_44
  refine lv_aload_n hx hb dX3_wouldChip_0 rfl (lv_at hl 0 rfl) ?_
  refine lv_aload_n hx hb dX3_wouldChip_1 rfl (lv_at hl 0 rfl) ?_
  refine lv_iload_n hx hb dX3_wouldChip_2 rfl (lv_at hl 1 rfl) ?_
  refine wm_callVi (As := [.int p1]) (rest := [.ref mo]) ⟨hx, hb, hml, hown, hts⟩ hK hN hAm hA hM (m3_isLot l D ac mo ad sc ar p1 _ hw) (cwV 1 hts (lw_V q2065 q2067 qs26 q77 q2068) rfl rfl rfl hd_X3_isLot ⟨Nat.le_of_ble_eq_true rfl, Nat.le_of_ble_eq_true rfl⟩) rfl hl.1 rfl (Nat.le_of_ble_eq_true rfl) dX3_wouldChip_3 ⟨Nat.le_refl 0, Nat.le_refl 0⟩ (fun r3 sc1 ar2 H locs hw hM => ?_)
  refine lv_if_ne (tgt := 13) hx hb dX3_wouldChip_6 (by decide) (fun c_ => ?_) (fun c_ => ?_)
  · replace hw := hw.1 c_
    refine lv_iload_n hx hb dX3_wouldChip_13 rfl (lv_at hl 2 rfl) ?_
    refine lv_iconst (v := 0) hx hb dX3_wouldChip_14 (by decide) ?_
    refine lv_bipush (v := 9) hx hb dX3_wouldChip_15 (by decide) ?_
    refine wm_callPi (As := [.int p2, .int 0, .int 9]) (rest := [.ref mo]) ⟨hx, hb, hml, hown, hts⟩ hA hM (m3_in l p2 0 9 _ hw) (va_cwS 3 hts (lw_S q2005 q2006 q77 q2007) rfl rfl rfl hd_X3_in ⟨Nat.le_of_ble_eq_true rfl, Nat.le_of_ble_eq_true rfl⟩) rfl hl.1 rfl (Nat.le_of_ble_eq_true rfl) dX3_wouldChip_17 ⟨Nat.le_refl 0, Nat.le_refl 0⟩ (fun r4 H locs hw hM => ?_)
    refine lv_if_eq (tgt := 27) hx hb dX3_wouldChip_20 (by decide) (fun c_ => ?_) (fun c_ => ?_)
    · replace hw := hw.1 c_
      refine lv_iconst (v := 2) hx hb dX3_wouldChip_27 (by decide) ?_
      exact hL28  p1 p2 2 sc1 ar2 _ _ ls hM (lv_sub hl [0, 1, 2] rfl) hw
    · replace hw := hw.2 c_
      refine lv_iconst (v := 0) hx hb dX3_wouldChip_23 (by decide) ?_
      refine lv_goto (tgt := 28) hx hb dX3_wouldChip_24 (by decide) ?_
      exact hL28  p1 p2 0 sc1 ar2 _ _ ls hM (lv_sub hl [0, 1, 2] rfl) hw
  · replace hw := hw.2 c_
    refine lv_iconst (v := 1) hx hb dX3_wouldChip_9 (by decide) ?_
    refine lv_goto (tgt := 28) hx hb dX3_wouldChip_10 (by decide) ?_
    exact hL28  p1 p2 1 sc1 ar2 _ _ ls hM (lv_sub hl [0, 1, 2] rfl) hw
def w3_crate_L76 (post : Int32 → wS1 → wS2 → Prop) : Nat → Int32 → Int32 → wS1 → wS2 → Prop
  | 0, _, _, _, _ => False
  | n + 1, x2, x3, sc, ar => (4 ≤ x3 → (post x2 sc ar)) ∧ (¬ 4 ≤ x3 → (w3_laysCrate (fun sc9 ar10 => w3_crate_L76 post  n x2 (x3 + 1) sc9 ar10) sc ar x2 x3 0))
def w3_crate_L32 (post : Int32 → wS1 → wS2 → Prop) (x1 : Int32) (t0 : Int32) (sc : wS1) (ar : wS2) : Prop := w3_fails (fun r4 sc2 ar3 => (r4 = 0 → (w3_keeps (fun sc5 ar6 => w3_laysCrate (fun sc7 ar8 => (∃ n, w3_crate_L76 post  n (ar6 0 100) 1 sc7 ar8)) sc5 (va_up ar6 0 (upd (ar6 0) 100 ((ar6 0 100) + 1))) (ar6 0 100) 0 x1) sc2 ar3 0)) ∧ (¬ r4 = 0 → (post 0 sc2 ar3))) sc ar t0
def w3_crate (post : Int32 → wS1 → wS2 → Prop) (sc : wS1) (ar : wS2) (p1 : Int32) : Prop := w3_in (fun r1 => (¬ r1 = 0 → ((¬ (ar 0 100) = 6 → (w3_crate_L32 post  p1 0 sc ar)) ∧ ((ar 0 100) = 6 → (w3_crate_L32 post  p1 2 sc ar)))) ∧ (r1 = 0 → (w3_crate_L32 post  p1 1 sc ar))) p1 4 24
theorem hd_X3_crate : yX3_crate.cls = RX3 ∧ yX3_crate.cls ≠ "java/lang/invoke/MethodHandle" ∧ yX3_crate.cls ≠ "java/lang/invoke/VarHandle" ∧ (parseMethodDescriptor yX3_crate.desc).map (fun d => d.parameters.length) = some 1 := by decide +kernel
set_option maxHeartbeats 4000000 in
set_option maxRecDepth 100000 in
theorem m3_crate (l : Launch) (D : va_G) (ac : Nat → ClassId) (mo : Nat) (ad : Nat → Nat) (sc : wS1) (ar : wS2) (p1 : Int32) (post : Int32 → wS1 → wS2 → Prop) (hw : w3_crate post sc ar p1) : wm_Mi l D ac mo ad yX3_crate (ws_ yX3_crate cX3_crate 4 (some .int)) ({ frames := 2, cells := 0, slots := 0, locals := 46 }) [.ref mo, .int p1] sc ar post := by
  refine wm_ofi (by decide) (Nat.le_of_ble_eq_true rfl) ?_
  intro p e s m below meth c A ls hx hb hr hlk hml hown hts hK hN hAm hA hM hl
  have hl : lv_has ls 4 [(0, .ref mo), (1, .int p1)] := hl
  unfold w3_crate at hw
  have hL76 : ∀ (n : Nat) (x2 : Int32) (x3 : Int32) (sc : wS1) (ar : wS2) (H : Heap) (locs : List Loc) (ls : Array Slot), wm_S D ac A s.heap mo ad sc ar H locs → lv_has ls 4 [(0, .ref mo), (2, .int x2), (3, .int x3)] → w3_crate_L76 post n x2 x3 sc ar → W p l e (headSpec (ws_ yX3_crate cX3_crate 4 (some .int)) ({ frames := 2, cells := 0, slots := 0, locals := 46 })).room s m ([.ref mo, .int p1] : List Value).toArray below meth c H locs 0 0 (MQ below (va_Qi (S := wU) (fun r u => post r u.1 u.2) (wm_B D ac mo ad) A) ([.ref mo, .int p1] : List Value).toArray s 0 0 A) (F0 m 76 ls []) := by
    intro n
    induction n with
    | zero => exact fun _ _ _ _ _ _ _ _ _ hw => hw.elim
    | succ n ih =>
      intro x2 x3 sc ar H locs ls hM hl hw
      unfold w3_crate_L76 at hw
      refine lv_iload_n hx hb dX3_crate_76 rfl (lv_at hl 2 rfl) ?_
      refine lv_iconst (v := 4) hx hb dX3_crate_77 (by decide) ?_
      refine lv_icmp_ge (tgt := 94) hx hb dX3_crate_78 (by decide) (fun c_ => ?_) (fun c_ => ?_)
      · replace hw := hw.1 c_
        refine lv_iload_n hx hb dX3_crate_94 rfl (lv_at hl 1 rfl) ?_
        exact wm_reti hx hb hr hlk hM rfl hw dX3_crate_95
      · replace hw := hw.2 c_
        refine lv_aload_n hx hb dX3_crate_81 rfl (lv_at hl 0 rfl) ?_
        refine lv_iload_n hx hb dX3_crate_82 rfl (lv_at hl 1 rfl) ?_
        refine lv_iload_n hx hb dX3_crate_83 rfl (lv_at hl 2 rfl) ?_
        refine lv_iconst (v := 0) hx hb dX3_crate_84 (by decide) ?_
        refine wm_callVv (As := [.int x2, .int x3, .int 0]) (rest := []) ⟨hx, hb, hml, hown, hts⟩ hK hN hAm hA hM (m3_laysCrate l D ac mo ad sc ar x2 x3 0 _ hw) (cwV 3 hts (lw_V q2129 q2131 qs33 q77 q2132) rfl rfl rfl hd_X3_laysCrate ⟨Nat.le_of_ble_eq_true rfl, Nat.le_of_ble_eq_true rfl⟩) rfl hl.1 rfl (Nat.le_of_ble_eq_true rfl) dX3_crate_85 ⟨Nat.le_refl 0, Nat.le_refl 0⟩ (fun sc9 ar10 H locs hw hM => ?_)
        refine lv_iinc (v := x3 + 1) (lv' := [(3, .int (x3 + 1)), (0, .ref mo), (2, .int x2)]) hx hb dX3_crate_88 hl (k := 2) rfl rfl (by decide) rfl (fun ls hl => ?_)
        refine lv_goto (tgt := 76) hx hb dX3_crate_91 (by decide) ?_
        exact ih x2 (x3 + 1) sc9 ar10 _ _ ls hM (lv_sub hl [1, 2, 0] rfl) hw
  have hL32 : ∀ (x1 : Int32) (t0 : Int32) (sc : wS1) (ar : wS2) (H : Heap) (locs : List Loc) (ls : Array Slot), wm_S D ac A s.heap mo ad sc ar H locs → lv_has ls 4 [(0, .ref mo), (1, .int x1)] → w3_crate_L32 post x1 t0 sc ar → W p l e (headSpec (ws_ yX3_crate cX3_crate 4 (some .int)) ({ frames := 2, cells := 0, slots := 0, locals := 46 })).room s m ([.ref mo, .int p1] : List Value).toArray below meth c H locs 0 0 (MQ below (va_Qi (S := wU) (fun r u => post r u.1 u.2) (wm_B D ac mo ad) A) ([.ref mo, .int p1] : List Value).toArray s 0 0 A) (F0 m 32 ls [.int t0, .ref mo]) := by
    intro x1 t0 sc ar H locs ls hM hl hw
    unfold w3_crate_L32 at hw
    refine wm_callVi (As := [.int t0]) (rest := []) ⟨hx, hb, hml, hown, hts⟩ hK hN hAm hA hM (m3_fails l D ac mo ad sc ar t0 _ hw) (cwV 1 hts (lw_V q2008 q2010 qs19 q77 q2011) rfl rfl rfl hd_X3_fails ⟨Nat.le_of_ble_eq_true rfl, Nat.le_of_ble_eq_true rfl⟩) rfl hl.1 rfl (Nat.le_of_ble_eq_true rfl) dX3_crate_32 ⟨Nat.le_refl 0, Nat.le_refl 0⟩ (fun r4 sc2 ar3 H locs hw hM => ?_)
    refine lv_if_eq (tgt := 40) hx hb dX3_crate_35 (by decide) (fun c_ => ?_) (fun c_ => ?_)
    · replace hw := hw.1 c_
      refine lv_aload_n hx hb dX3_crate_40 rfl (lv_at hl 0 rfl) ?_
      refine lv_aload_n hx hb dX3_crate_41 rfl (lv_at hl 0 rfl) ?_
      refine wm_get hx hb hts hown hK hM 0 (by decide) q1933 (v := .ref (ad 0)) rfl dX3_crate_42 ?_
      refine wm_callVv (As := [.ref (ad 0)]) (rest := []) ⟨hx, hb, hml, hown, hts⟩ hK hN hAm hA hM (m3_keeps l D ac mo ad sc2 ar3 0 _ rfl hw) (cwV 1 hts (lw_V q2016 q2018 qs21 q77 q2019) rfl rfl rfl hd_X3_keeps ⟨Nat.le_of_ble_eq_true rfl, Nat.le_of_ble_eq_true rfl⟩) rfl hl.1 rfl (Nat.le_of_ble_eq_true rfl) dX3_crate_45 ⟨Nat.le_refl 0, Nat.le_refl 0⟩ (fun sc5 ar6 H locs hw hM => ?_)
      refine lv_aload_n hx hb dX3_crate_48 rfl (lv_at hl 0 rfl) ?_
      refine wm_get hx hb hts hown hK hM 0 (by decide) q1933 (v := .ref (ad 0)) rfl dX3_crate_49 ?_
      refine lv_bipush (v := 100) hx hb dX3_crate_52 (by decide) ?_
      refine wm_ald hx hb hK hM (k := 0) rfl vi_100_125 vc_100 (v := ar6 0 100) rfl dX3_crate_54 ?_
      refine lv_istore_n (lv' := [(2, .int (ar6 0 100)), (0, .ref mo), (1, .int x1)]) hx hb dX3_crate_55 rfl hl (by decide) rfl (fun ls hl => ?_)
      refine lv_aload_n hx hb dX3_crate_56 rfl (lv_at hl 1 rfl) ?_
      refine wm_get hx hb hts hown hK hM 0 (by decide) q1933 (v := .ref (ad 0)) rfl dX3_crate_57 ?_
      refine lv_bipush (v := 100) hx hb dX3_crate_60 (by decide) ?_
      refine lv_dup2_11 hx hb dX3_crate_62 rfl rfl ?_
      refine wm_ald hx hb hK hM (k := 0) rfl vi_100_125 vc_100 (v := ar6 0 100) rfl dX3_crate_63 ?_
      refine lv_iconst (v := 1) hx hb dX3_crate_64 (by decide) ?_
      refine lv_iadd hx hb dX3_crate_65 ?_
      refine wm_ast hx hb hK hN hAm hM (k := 0) rfl vi_100_125 vc_100 (f := ar6 0) rfl dX3_crate_66 (fun H locs hM => ?_)
      refine lv_aload_n hx hb dX3_crate_67 rfl (lv_at hl 1 rfl) ?_
      refine lv_iload_n hx hb dX3_crate_68 rfl (lv_at hl 0 rfl) ?_
      refine lv_iconst (v := 0) hx hb dX3_crate_69 (by decide) ?_
      refine lv_iload_n hx hb dX3_crate_70 rfl (lv_at hl 2 rfl) ?_
      refine wm_callVv (As := [.int (ar6 0 100), .int 0, .int x1]) (rest := []) ⟨hx, hb, hml, hown, hts⟩ hK hN hAm hA hM (m3_laysCrate l D ac mo ad sc5 (va_up ar6 0 (upd (ar6 0) 100 ((ar6 0 100) + 1))) (ar6 0 100) 0 x1 _ hw) (cwV 3 hts (lw_V q2129 q2131 qs33 q77 q2132) rfl rfl rfl hd_X3_laysCrate ⟨Nat.le_of_ble_eq_true rfl, Nat.le_of_ble_eq_true rfl⟩) rfl hl.1 rfl (Nat.le_of_ble_eq_true rfl) dX3_crate_71 ⟨Nat.le_refl 0, Nat.le_refl 0⟩ (fun sc7 ar8 H locs hw hM => ?_)
      refine lv_iconst (v := 1) hx hb dX3_crate_74 (by decide) ?_
      refine lv_istore_n (lv' := [(3, .int 1), (2, .int (ar6 0 100)), (0, .ref mo), (1, .int x1)]) hx hb dX3_crate_75 rfl hl (by decide) rfl (fun ls hl => ?_)
      obtain ⟨n0, hw⟩ := hw
      exact hL76  n0 (ar6 0 100) 1 sc7 ar8 _ _ ls hM (lv_sub hl [2, 1, 0] rfl) hw
    · replace hw := hw.2 c_
      refine lv_iconst (v := 0) hx hb dX3_crate_38 (by decide) ?_
      exact wm_reti hx hb hr hlk hM rfl hw dX3_crate_39
  refine lv_aload_n hx hb dX3_crate_0 rfl (lv_at hl 0 rfl) ?_
  refine lv_iload_n hx hb dX3_crate_1 rfl (lv_at hl 1 rfl) ?_
  refine lv_iconst (v := 4) hx hb dX3_crate_2 (by decide) ?_
  refine lv_bipush (v := 24) hx hb dX3_crate_3 (by decide) ?_
  refine wm_callPi (As := [.int p1, .int 4, .int 24]) (rest := [.ref mo]) ⟨hx, hb, hml, hown, hts⟩ hA hM (m3_in l p1 4 24 _ hw) (va_cwS 3 hts (lw_S q2005 q2006 q77 q2007) rfl rfl rfl hd_X3_in ⟨Nat.le_of_ble_eq_true rfl, Nat.le_of_ble_eq_true rfl⟩) rfl hl.1 rfl (Nat.le_of_ble_eq_true rfl) dX3_crate_5 ⟨Nat.le_refl 0, Nat.le_refl 0⟩ (fun r1 H locs hw hM => ?_)
  refine lv_if_ne (tgt := 15) hx hb dX3_crate_8 (by decide) (fun c_ => ?_) (fun c_ => ?_)
  · replace hw := hw.1 c_
    refine lv_aload_n hx hb dX3_crate_15 rfl (lv_at hl 0 rfl) ?_
    refine wm_get hx hb hts hown hK hM 0 (by decide) q1933 (v := .ref (ad 0)) rfl dX3_crate_16 ?_
    refine lv_bipush (v := 100) hx hb dX3_crate_19 (by decide) ?_
    refine wm_ald hx hb hK hM (k := 0) rfl vi_100_125 vc_100 (v := ar 0 100) rfl dX3_crate_21 ?_
    refine lv_bipush (v := 6) hx hb dX3_crate_22 (by decide) ?_
    refine lv_icmp_ne (tgt := 31) hx hb dX3_crate_24 (by decide) (fun c_ => ?_) (fun c_ => ?_)
    · replace hw := hw.1 c_
      refine lv_iconst (v := 0) hx hb dX3_crate_31 (by decide) ?_
      exact hL32  p1 0 sc ar _ _ ls hM (lv_sub hl [0, 1] rfl) hw
    · replace hw := hw.2 c_
      refine lv_iconst (v := 2) hx hb dX3_crate_27 (by decide) ?_
      refine lv_goto (tgt := 32) hx hb dX3_crate_28 (by decide) ?_
      exact hL32  p1 2 sc ar _ _ ls hM (lv_sub hl [0, 1] rfl) hw
  · replace hw := hw.2 c_
    refine lv_iconst (v := 1) hx hb dX3_crate_11 (by decide) ?_
    refine lv_goto (tgt := 32) hx hb dX3_crate_12 (by decide) ?_
    exact hL32  p1 1 sc ar _ _ ls hM (lv_sub hl [0, 1] rfl) hw
def w3_paid (post : Int32 → wS1 → wS2 → Prop) (sc : wS1) (ar : wS2) (p1 : Int32) : Prop := w3_ofCrate (fun r3 sc1 ar2 => (¬ r3 = 0 → (w3_ofCrate (fun r6 sc4 ar5 => w3_ofCrate (fun r9 sc7 ar8 => w3_breaks (fun r12 sc10 ar11 => w3_ofCrate (fun r15 sc13 ar14 => (¬ r15 = 0) ∧ (post ((r6 * (r9 - r12)) / r15) sc13 ar14)) sc10 ar11 p1 1) sc7 ar8 p1) sc4 ar5 p1 1) sc1 ar2 p1 3)) ∧ (r3 = 0 → (post 0 sc1 ar2))) sc ar p1 1
theorem hd_X3_paid : yX3_paid.cls = RX3 ∧ yX3_paid.cls ≠ "java/lang/invoke/MethodHandle" ∧ yX3_paid.cls ≠ "java/lang/invoke/VarHandle" ∧ (parseMethodDescriptor yX3_paid.desc).map (fun d => d.parameters.length) = some 1 := by decide +kernel
set_option maxHeartbeats 4000000 in
set_option maxRecDepth 100000 in
theorem m3_paid (l : Launch) (D : va_G) (ac : Nat → ClassId) (mo : Nat) (ad : Nat → Nat) (sc : wS1) (ar : wS2) (p1 : Int32) (post : Int32 → wS1 → wS2 → Prop) (hw : w3_paid post sc ar p1) : wm_Mi l D ac mo ad yX3_paid (ws_ yX3_paid cX3_paid 2 (some .int)) ({ frames := 2, cells := 0, slots := 0, locals := 43 }) [.ref mo, .int p1] sc ar post := by
  refine wm_ofi (by decide) (Nat.le_of_ble_eq_true rfl) ?_
  intro p e s m below meth c A ls hx hb hr hlk hml hown hts hK hN hAm hA hM hl
  have hl : lv_has ls 2 [(0, .ref mo), (1, .int p1)] := hl
  unfold w3_paid at hw
  refine lv_aload_n hx hb dX3_paid_0 rfl (lv_at hl 0 rfl) ?_
  refine lv_iload_n hx hb dX3_paid_1 rfl (lv_at hl 1 rfl) ?_
  refine lv_iconst (v := 1) hx hb dX3_paid_2 (by decide) ?_
  refine wm_callVi (As := [.int p1, .int 1]) (rest := []) ⟨hx, hb, hml, hown, hts⟩ hK hN hAm hA hM (m3_ofCrate l D ac mo ad sc ar p1 1 _ hw) (cwV 2 hts (lw_V q2141 q2143 qs35 q77 q2144) rfl rfl rfl hd_X3_ofCrate ⟨Nat.le_of_ble_eq_true rfl, Nat.le_of_ble_eq_true rfl⟩) rfl hl.1 rfl (Nat.le_of_ble_eq_true rfl) dX3_paid_3 ⟨Nat.le_refl 0, Nat.le_refl 0⟩ (fun r3 sc1 ar2 H locs hw hM => ?_)
  refine lv_if_ne (tgt := 13) hx hb dX3_paid_6 (by decide) (fun c_ => ?_) (fun c_ => ?_)
  · replace hw := hw.1 c_
    refine lv_aload_n hx hb dX3_paid_13 rfl (lv_at hl 0 rfl) ?_
    refine lv_iload_n hx hb dX3_paid_14 rfl (lv_at hl 1 rfl) ?_
    refine lv_iconst (v := 3) hx hb dX3_paid_15 (by decide) ?_
    refine wm_callVi (As := [.int p1, .int 3]) (rest := []) ⟨hx, hb, hml, hown, hts⟩ hK hN hAm hA hM (m3_ofCrate l D ac mo ad sc1 ar2 p1 3 _ hw) (cwV 2 hts (lw_V q2141 q2143 qs35 q77 q2144) rfl rfl rfl hd_X3_ofCrate ⟨Nat.le_of_ble_eq_true rfl, Nat.le_of_ble_eq_true rfl⟩) rfl hl.1 rfl (Nat.le_of_ble_eq_true rfl) dX3_paid_16 ⟨Nat.le_refl 0, Nat.le_refl 0⟩ (fun r6 sc4 ar5 H locs hw hM => ?_)
    refine lv_aload_n hx hb dX3_paid_19 rfl (lv_at hl 0 rfl) ?_
    refine lv_iload_n hx hb dX3_paid_20 rfl (lv_at hl 1 rfl) ?_
    refine lv_iconst (v := 1) hx hb dX3_paid_21 (by decide) ?_
    refine wm_callVi (As := [.int p1, .int 1]) (rest := [.int r6]) ⟨hx, hb, hml, hown, hts⟩ hK hN hAm hA hM (m3_ofCrate l D ac mo ad sc4 ar5 p1 1 _ hw) (cwV 2 hts (lw_V q2141 q2143 qs35 q77 q2144) rfl rfl rfl hd_X3_ofCrate ⟨Nat.le_of_ble_eq_true rfl, Nat.le_of_ble_eq_true rfl⟩) rfl hl.1 rfl (Nat.le_of_ble_eq_true rfl) dX3_paid_22 ⟨Nat.le_refl 0, Nat.le_refl 0⟩ (fun r9 sc7 ar8 H locs hw hM => ?_)
    refine lv_aload_n hx hb dX3_paid_25 rfl (lv_at hl 0 rfl) ?_
    refine lv_iload_n hx hb dX3_paid_26 rfl (lv_at hl 1 rfl) ?_
    refine wm_callVi (As := [.int p1]) (rest := [.int r9, .int r6]) ⟨hx, hb, hml, hown, hts⟩ hK hN hAm hA hM (m3_breaks l D ac mo ad sc7 ar8 p1 _ hw) (cwV 1 hts (lw_V q2149 q2151 qs37 q77 q2152) rfl rfl rfl hd_X3_breaks ⟨Nat.le_of_ble_eq_true rfl, Nat.le_of_ble_eq_true rfl⟩) rfl hl.1 rfl (Nat.le_of_ble_eq_true rfl) dX3_paid_27 ⟨Nat.le_refl 0, Nat.le_refl 0⟩ (fun r12 sc10 ar11 H locs hw hM => ?_)
    refine lv_isub hx hb dX3_paid_30 ?_
    refine lv_imul hx hb dX3_paid_31 ?_
    refine lv_aload_n hx hb dX3_paid_32 rfl (lv_at hl 0 rfl) ?_
    refine lv_iload_n hx hb dX3_paid_33 rfl (lv_at hl 1 rfl) ?_
    refine lv_iconst (v := 1) hx hb dX3_paid_34 (by decide) ?_
    refine wm_callVi (As := [.int p1, .int 1]) (rest := [.int (r6 * (r9 - r12))]) ⟨hx, hb, hml, hown, hts⟩ hK hN hAm hA hM (m3_ofCrate l D ac mo ad sc10 ar11 p1 1 _ hw) (cwV 2 hts (lw_V q2141 q2143 qs35 q77 q2144) rfl rfl rfl hd_X3_ofCrate ⟨Nat.le_of_ble_eq_true rfl, Nat.le_of_ble_eq_true rfl⟩) rfl hl.1 rfl (Nat.le_of_ble_eq_true rfl) dX3_paid_35 ⟨Nat.le_refl 0, Nat.le_refl 0⟩ (fun r15 sc13 ar14 H locs hw hM => ?_)
    refine lv_idiv hx hb dX3_paid_38 hw.1 ?_
    replace hw := hw.2
    exact wm_reti hx hb hr hlk hM rfl hw dX3_paid_39
  · replace hw := hw.2 c_
    refine lv_iconst (v := 0) hx hb dX3_paid_9 (by decide) ?_
    refine lv_goto (tgt := 39) hx hb dX3_paid_10 (by decide) ?_
    exact wm_reti hx hb hr hlk hM rfl hw dX3_paid_39
def w3_straw_L28 (post : Int32 → wS1 → wS2 → Prop) (x1 : Int32) (x2 : Int32) (t0 : Int32) (sc : wS1) (ar : wS2) : Prop := w3_fails (fun r7 sc5 ar6 => (r7 = 0 → (w3_ofCrate (fun r10 sc8 ar9 => ((r10 + x2) ≤ 9 → (w3_keeps (fun sc11 ar12 => w3_ofCrate (fun r15 sc13 ar14 => w3_laysCrate (fun sc16 ar17 => w3_ofCrate (fun r20 sc18 ar19 => post r20 sc18 ar19) sc16 ar17 x1 2) sc13 ar14 x1 2 (r15 + x2)) sc11 ar12 x1 2) sc8 ar9 0)) ∧ (¬ (r10 + x2) ≤ 9 → (w3_ofCrate (fun r23 sc21 ar22 => w3_refuses (fun r26 sc24 ar25 => post r26 sc24 ar25) sc21 ar22 3 11 r23) sc8 ar9 x1 2))) sc5 ar6 x1 2)) ∧ (¬ r7 = 0 → (post 0 sc5 ar6))) sc ar t0
def w3_straw (post : Int32 → wS1 → wS2 → Prop) (sc : wS1) (ar : wS2) (p1 : Int32) (p2 : Int32) : Prop := w3_isCrate (fun r3 sc1 ar2 => (¬ r3 = 0 → (w3_in (fun r4 => (r4 = 0 → (w3_straw_L28 post  p1 p2 2 sc1 ar2)) ∧ (¬ r4 = 0 → (w3_straw_L28 post  p1 p2 0 sc1 ar2))) p2 1 9)) ∧ (r3 = 0 → (w3_straw_L28 post  p1 p2 1 sc1 ar2))) sc ar p1
theorem hd_X3_straw : yX3_straw.cls = RX3 ∧ yX3_straw.cls ≠ "java/lang/invoke/MethodHandle" ∧ yX3_straw.cls ≠ "java/lang/invoke/VarHandle" ∧ (parseMethodDescriptor yX3_straw.desc).map (fun d => d.parameters.length) = some 2 := by decide +kernel
set_option maxHeartbeats 4000000 in
set_option maxRecDepth 100000 in
theorem m3_straw (l : Launch) (D : va_G) (ac : Nat → ClassId) (mo : Nat) (ad : Nat → Nat) (sc : wS1) (ar : wS2) (p1 : Int32) (p2 : Int32) (post : Int32 → wS1 → wS2 → Prop) (hw : w3_straw post sc ar p1 p2) : wm_Mi l D ac mo ad yX3_straw (ws_ yX3_straw cX3_straw 3 (some .int)) ({ frames := 2, cells := 0, slots := 0, locals := 46 }) [.ref mo, .int p1, .int p2] sc ar post := by
  refine wm_ofi (by decide) (Nat.le_of_ble_eq_true rfl) ?_
  intro p e s m below meth c A ls hx hb hr hlk hml hown hts hK hN hAm hA hM hl
  have hl : lv_has ls 3 [(0, .ref mo), (1, .int p1), (2, .int p2)] := hl
  unfold w3_straw at hw
  have hL28 : ∀ (x1 : Int32) (x2 : Int32) (t0 : Int32) (sc : wS1) (ar : wS2) (H : Heap) (locs : List Loc) (ls : Array Slot), wm_S D ac A s.heap mo ad sc ar H locs → lv_has ls 3 [(0, .ref mo), (1, .int x1), (2, .int x2)] → w3_straw_L28 post x1 x2 t0 sc ar → W p l e (headSpec (ws_ yX3_straw cX3_straw 3 (some .int)) ({ frames := 2, cells := 0, slots := 0, locals := 46 })).room s m ([.ref mo, .int p1, .int p2] : List Value).toArray below meth c H locs 0 0 (MQ below (va_Qi (S := wU) (fun r u => post r u.1 u.2) (wm_B D ac mo ad) A) ([.ref mo, .int p1, .int p2] : List Value).toArray s 0 0 A) (F0 m 28 ls [.int t0, .ref mo]) := by
    intro x1 x2 t0 sc ar H locs ls hM hl hw
    unfold w3_straw_L28 at hw
    refine wm_callVi (As := [.int t0]) (rest := []) ⟨hx, hb, hml, hown, hts⟩ hK hN hAm hA hM (m3_fails l D ac mo ad sc ar t0 _ hw) (cwV 1 hts (lw_V q2008 q2010 qs19 q77 q2011) rfl rfl rfl hd_X3_fails ⟨Nat.le_of_ble_eq_true rfl, Nat.le_of_ble_eq_true rfl⟩) rfl hl.1 rfl (Nat.le_of_ble_eq_true rfl) dX3_straw_28 ⟨Nat.le_refl 0, Nat.le_refl 0⟩ (fun r7 sc5 ar6 H locs hw hM => ?_)
    refine lv_if_eq (tgt := 36) hx hb dX3_straw_31 (by decide) (fun c_ => ?_) (fun c_ => ?_)
    · replace hw := hw.1 c_
      refine lv_aload_n hx hb dX3_straw_36 rfl (lv_at hl 0 rfl) ?_
      refine lv_iload_n hx hb dX3_straw_37 rfl (lv_at hl 1 rfl) ?_
      refine lv_iconst (v := 2) hx hb dX3_straw_38 (by decide) ?_
      refine wm_callVi (As := [.int x1, .int 2]) (rest := []) ⟨hx, hb, hml, hown, hts⟩ hK hN hAm hA hM (m3_ofCrate l D ac mo ad sc5 ar6 x1 2 _ hw) (cwV 2 hts (lw_V q2141 q2143 qs35 q77 q2144) rfl rfl rfl hd_X3_ofCrate ⟨Nat.le_of_ble_eq_true rfl, Nat.le_of_ble_eq_true rfl⟩) rfl hl.1 rfl (Nat.le_of_ble_eq_true rfl) dX3_straw_39 ⟨Nat.le_refl 0, Nat.le_refl 0⟩ (fun r10 sc8 ar9 H locs hw hM => ?_)
      refine lv_iload_n hx hb dX3_straw_42 rfl (lv_at hl 2 rfl) ?_
      refine lv_iadd hx hb dX3_straw_43 ?_
      refine lv_bipush (v := 9) hx hb dX3_straw_44 (by decide) ?_
      refine lv_icmp_le (tgt := 63) hx hb dX3_straw_46 (by decide) (fun c_ => ?_) (fun c_ => ?_)
      · replace hw := hw.1 c_
        refine lv_aload_n hx hb dX3_straw_63 rfl (lv_at hl 0 rfl) ?_
        refine lv_aload_n hx hb dX3_straw_64 rfl (lv_at hl 0 rfl) ?_
        refine wm_get hx hb hts hown hK hM 0 (by decide) q1933 (v := .ref (ad 0)) rfl dX3_straw_65 ?_
        refine wm_callVv (As := [.ref (ad 0)]) (rest := []) ⟨hx, hb, hml, hown, hts⟩ hK hN hAm hA hM (m3_keeps l D ac mo ad sc8 ar9 0 _ rfl hw) (cwV 1 hts (lw_V q2016 q2018 qs21 q77 q2019) rfl rfl rfl hd_X3_keeps ⟨Nat.le_of_ble_eq_true rfl, Nat.le_of_ble_eq_true rfl⟩) rfl hl.1 rfl (Nat.le_of_ble_eq_true rfl) dX3_straw_68 ⟨Nat.le_refl 0, Nat.le_refl 0⟩ (fun sc11 ar12 H locs hw hM => ?_)
        refine lv_aload_n hx hb dX3_straw_71 rfl (lv_at hl 0 rfl) ?_
        refine lv_iload_n hx hb dX3_straw_72 rfl (lv_at hl 1 rfl) ?_
        refine lv_iconst (v := 2) hx hb dX3_straw_73 (by decide) ?_
        refine lv_aload_n hx hb dX3_straw_74 rfl (lv_at hl 0 rfl) ?_
        refine lv_iload_n hx hb dX3_straw_75 rfl (lv_at hl 1 rfl) ?_
        refine lv_iconst (v := 2) hx hb dX3_straw_76 (by decide) ?_
        refine wm_callVi (As := [.int x1, .int 2]) (rest := [.int 2, .int x1, .ref mo]) ⟨hx, hb, hml, hown, hts⟩ hK hN hAm hA hM (m3_ofCrate l D ac mo ad sc11 ar12 x1 2 _ hw) (cwV 2 hts (lw_V q2141 q2143 qs35 q77 q2144) rfl rfl rfl hd_X3_ofCrate ⟨Nat.le_of_ble_eq_true rfl, Nat.le_of_ble_eq_true rfl⟩) rfl hl.1 rfl (Nat.le_of_ble_eq_true rfl) dX3_straw_77 ⟨Nat.le_refl 0, Nat.le_refl 0⟩ (fun r15 sc13 ar14 H locs hw hM => ?_)
        refine lv_iload_n hx hb dX3_straw_80 rfl (lv_at hl 2 rfl) ?_
        refine lv_iadd hx hb dX3_straw_81 ?_
        refine wm_callVv (As := [.int x1, .int 2, .int (r15 + x2)]) (rest := []) ⟨hx, hb, hml, hown, hts⟩ hK hN hAm hA hM (m3_laysCrate l D ac mo ad sc13 ar14 x1 2 (r15 + x2) _ hw) (cwV 3 hts (lw_V q2129 q2131 qs33 q77 q2132) rfl rfl rfl hd_X3_laysCrate ⟨Nat.le_of_ble_eq_true rfl, Nat.le_of_ble_eq_true rfl⟩) rfl hl.1 rfl (Nat.le_of_ble_eq_true rfl) dX3_straw_82 ⟨Nat.le_refl 0, Nat.le_refl 0⟩ (fun sc16 ar17 H locs hw hM => ?_)
        refine lv_aload_n hx hb dX3_straw_85 rfl (lv_at hl 0 rfl) ?_
        refine lv_iload_n hx hb dX3_straw_86 rfl (lv_at hl 1 rfl) ?_
        refine lv_iconst (v := 2) hx hb dX3_straw_87 (by decide) ?_
        refine wm_callVi (As := [.int x1, .int 2]) (rest := []) ⟨hx, hb, hml, hown, hts⟩ hK hN hAm hA hM (m3_ofCrate l D ac mo ad sc16 ar17 x1 2 _ hw) (cwV 2 hts (lw_V q2141 q2143 qs35 q77 q2144) rfl rfl rfl hd_X3_ofCrate ⟨Nat.le_of_ble_eq_true rfl, Nat.le_of_ble_eq_true rfl⟩) rfl hl.1 rfl (Nat.le_of_ble_eq_true rfl) dX3_straw_88 ⟨Nat.le_refl 0, Nat.le_refl 0⟩ (fun r20 sc18 ar19 H locs hw hM => ?_)
        exact wm_reti hx hb hr hlk hM rfl hw dX3_straw_91
      · replace hw := hw.2 c_
        refine lv_aload_n hx hb dX3_straw_49 rfl (lv_at hl 0 rfl) ?_
        refine lv_iconst (v := 3) hx hb dX3_straw_50 (by decide) ?_
        refine lv_bipush (v := 11) hx hb dX3_straw_51 (by decide) ?_
        refine lv_aload_n hx hb dX3_straw_53 rfl (lv_at hl 0 rfl) ?_
        refine lv_iload_n hx hb dX3_straw_54 rfl (lv_at hl 1 rfl) ?_
        refine lv_iconst (v := 2) hx hb dX3_straw_55 (by decide) ?_
        refine wm_callVi (As := [.int x1, .int 2]) (rest := [.int 11, .int 3, .ref mo]) ⟨hx, hb, hml, hown, hts⟩ hK hN hAm hA hM (m3_ofCrate l D ac mo ad sc8 ar9 x1 2 _ hw) (cwV 2 hts (lw_V q2141 q2143 qs35 q77 q2144) rfl rfl rfl hd_X3_ofCrate ⟨Nat.le_of_ble_eq_true rfl, Nat.le_of_ble_eq_true rfl⟩) rfl hl.1 rfl (Nat.le_of_ble_eq_true rfl) dX3_straw_56 ⟨Nat.le_refl 0, Nat.le_refl 0⟩ (fun r23 sc21 ar22 H locs hw hM => ?_)
        refine wm_callVi (As := [.int 3, .int 11, .int r23]) (rest := []) ⟨hx, hb, hml, hown, hts⟩ hK hN hAm hA hM (m3_refuses l D ac mo ad sc21 ar22 3 11 r23 _ hw) (cwV 3 hts (lw_V q2012 q2014 qs20 q77 q2015) rfl rfl rfl hd_X3_refuses ⟨Nat.le_of_ble_eq_true rfl, Nat.le_of_ble_eq_true rfl⟩) rfl hl.1 rfl (Nat.le_of_ble_eq_true rfl) dX3_straw_59 ⟨Nat.le_refl 0, Nat.le_refl 0⟩ (fun r26 sc24 ar25 H locs hw hM => ?_)
        exact wm_reti hx hb hr hlk hM rfl hw dX3_straw_62
    · replace hw := hw.2 c_
      refine lv_iconst (v := 0) hx hb dX3_straw_34 (by decide) ?_
      exact wm_reti hx hb hr hlk hM rfl hw dX3_straw_35
  refine lv_aload_n hx hb dX3_straw_0 rfl (lv_at hl 0 rfl) ?_
  refine lv_aload_n hx hb dX3_straw_1 rfl (lv_at hl 0 rfl) ?_
  refine lv_iload_n hx hb dX3_straw_2 rfl (lv_at hl 1 rfl) ?_
  refine wm_callVi (As := [.int p1]) (rest := [.ref mo]) ⟨hx, hb, hml, hown, hts⟩ hK hN hAm hA hM (m3_isCrate l D ac mo ad sc ar p1 _ hw) (cwV 1 hts (lw_V q2137 q2139 qs34 q77 q2140) rfl rfl rfl hd_X3_isCrate ⟨Nat.le_of_ble_eq_true rfl, Nat.le_of_ble_eq_true rfl⟩) rfl hl.1 rfl (Nat.le_of_ble_eq_true rfl) dX3_straw_3 ⟨Nat.le_refl 0, Nat.le_refl 0⟩ (fun r3 sc1 ar2 H locs hw hM => ?_)
  refine lv_if_ne (tgt := 13) hx hb dX3_straw_6 (by decide) (fun c_ => ?_) (fun c_ => ?_)
  · replace hw := hw.1 c_
    refine lv_iload_n hx hb dX3_straw_13 rfl (lv_at hl 2 rfl) ?_
    refine lv_iconst (v := 1) hx hb dX3_straw_14 (by decide) ?_
    refine lv_bipush (v := 9) hx hb dX3_straw_15 (by decide) ?_
    refine wm_callPi (As := [.int p2, .int 1, .int 9]) (rest := [.ref mo]) ⟨hx, hb, hml, hown, hts⟩ hA hM (m3_in l p2 1 9 _ hw) (va_cwS 3 hts (lw_S q2005 q2006 q77 q2007) rfl rfl rfl hd_X3_in ⟨Nat.le_of_ble_eq_true rfl, Nat.le_of_ble_eq_true rfl⟩) rfl hl.1 rfl (Nat.le_of_ble_eq_true rfl) dX3_straw_17 ⟨Nat.le_refl 0, Nat.le_refl 0⟩ (fun r4 H locs hw hM => ?_)
    refine lv_if_eq (tgt := 27) hx hb dX3_straw_20 (by decide) (fun c_ => ?_) (fun c_ => ?_)
    · replace hw := hw.1 c_
      refine lv_iconst (v := 2) hx hb dX3_straw_27 (by decide) ?_
      exact hL28  p1 p2 2 sc1 ar2 _ _ ls hM (lv_sub hl [0, 1, 2] rfl) hw
    · replace hw := hw.2 c_
      refine lv_iconst (v := 0) hx hb dX3_straw_23 (by decide) ?_
      refine lv_goto (tgt := 28) hx hb dX3_straw_24 (by decide) ?_
      exact hL28  p1 p2 0 sc1 ar2 _ _ ls hM (lv_sub hl [0, 1, 2] rfl) hw
  · replace hw := hw.2 c_
    refine lv_iconst (v := 1) hx hb dX3_straw_9 (by decide) ?_
    refine lv_goto (tgt := 28) hx hb dX3_straw_10 (by decide) ?_
    exact hL28  p1 p2 1 sc1 ar2 _ _ ls hM (lv_sub hl [0, 1, 2] rfl) hw
def w3_pack_L36 (post : Int32 → wS1 → wS2 → Prop) (x1 : Int32) (x2 : Int32) (x3 : Int32) (t0 : Int32) (sc : wS1) (ar : wS2) : Prop := w3_fails (fun r10 sc8 ar9 => (r10 = 0 → (w3_ofCrate (fun r13 sc11 ar12 => w3_ofCrate (fun r16 sc14 ar15 => w3_of (fun r19 sc17 ar18 => (r19 = 3 → (w3_of (fun r22 sc20 ar21 => (x3 ≤ r22 → ((x3 ≤ (r13 - r16) → (w3_keeps (fun sc23 ar24 => w3_of (fun r27 sc25 ar26 => w3_lays (fun sc28 ar29 => w3_ofCrate (fun r32 sc30 ar31 => w3_laysCrate (fun sc33 ar34 => w3_ofCrate (fun r37 sc35 ar36 => w3_of (fun r40 sc38 ar39 => w3_laysCrate (fun sc41 ar42 => w3_ofCrate (fun r45 sc43 ar44 => post r45 sc43 ar44) sc41 ar42 x1 1) sc38 ar39 x1 3 (r37 + (x3 * (2 + r40)))) sc35 ar36 x2 2) sc33 ar34 x1 3) sc30 ar31 x1 1 (r32 + x3)) sc28 ar29 x1 1) sc25 ar26 x2 0 (r27 - x3)) sc23 ar24 x2 0) sc20 ar21 0)) ∧ (¬ x3 ≤ (r13 - r16) → (w3_refuses (fun r48 sc46 ar47 => post r48 sc46 ar47) sc20 ar21 3 8 (r13 - r16))))) ∧ (¬ x3 ≤ r22 → (w3_of (fun r51 sc49 ar50 => w3_refuses (fun r54 sc52 ar53 => post r54 sc52 ar53) sc49 ar50 3 7 r51) sc20 ar21 x2 0))) sc17 ar18 x2 0)) ∧ (¬ r19 = 3 → (w3_of (fun r57 sc55 ar56 => w3_refuses (fun r60 sc58 ar59 => post r60 sc58 ar59) sc55 ar56 3 1 r57) sc17 ar18 x2 1))) sc14 ar15 x2 1) sc11 ar12 x1 1) sc8 ar9 x1 0)) ∧ (¬ r10 = 0 → (post 0 sc8 ar9))) sc ar t0
def w3_pack_L17 (post : Int32 → wS1 → wS2 → Prop) (x1 : Int32) (x2 : Int32) (x3 : Int32) (sc : wS1) (ar : wS2) : Prop := w3_pack_L36 post  x1 x2 x3 1 sc ar
def w3_pack (post : Int32 → wS1 → wS2 → Prop) (sc : wS1) (ar : wS2) (p1 : Int32) (p2 : Int32) (p3 : Int32) : Prop := w3_isCrate (fun r3 sc1 ar2 => (r3 = 0 → (w3_pack_L17 post  p1 p2 p3 sc1 ar2)) ∧ (¬ r3 = 0 → (w3_isLot (fun r6 sc4 ar5 => (¬ r6 = 0 → (w3_in (fun r7 => (r7 = 0 → (w3_pack_L36 post  p1 p2 p3 2 sc4 ar5)) ∧ (¬ r7 = 0 → (w3_pack_L36 post  p1 p2 p3 0 sc4 ar5))) p3 1 24)) ∧ (r6 = 0 → (w3_pack_L17 post  p1 p2 p3 sc4 ar5))) sc1 ar2 p2))) sc ar p1
theorem hd_X3_pack : yX3_pack.cls = RX3 ∧ yX3_pack.cls ≠ "java/lang/invoke/MethodHandle" ∧ yX3_pack.cls ≠ "java/lang/invoke/VarHandle" ∧ (parseMethodDescriptor yX3_pack.desc).map (fun d => d.parameters.length) = some 3 := by decide +kernel
set_option maxHeartbeats 4000000 in
set_option maxRecDepth 100000 in
theorem m3_pack (l : Launch) (D : va_G) (ac : Nat → ClassId) (mo : Nat) (ad : Nat → Nat) (sc : wS1) (ar : wS2) (p1 : Int32) (p2 : Int32) (p3 : Int32) (post : Int32 → wS1 → wS2 → Prop) (hw : w3_pack post sc ar p1 p2 p3) : wm_Mi l D ac mo ad yX3_pack (ws_ yX3_pack cX3_pack 5 (some .int)) ({ frames := 2, cells := 0, slots := 0, locals := 46 }) [.ref mo, .int p1, .int p2, .int p3] sc ar post := by
  refine wm_ofi (by decide) (Nat.le_of_ble_eq_true rfl) ?_
  intro p e s m below meth c A ls hx hb hr hlk hml hown hts hK hN hAm hA hM hl
  have hl : lv_has ls 5 [(0, .ref mo), (1, .int p1), (2, .int p2), (3, .int p3)] := hl
  unfold w3_pack at hw
  have hL36 : ∀ (x1 : Int32) (x2 : Int32) (x3 : Int32) (t0 : Int32) (sc : wS1) (ar : wS2) (H : Heap) (locs : List Loc) (ls : Array Slot), wm_S D ac A s.heap mo ad sc ar H locs → lv_has ls 5 [(0, .ref mo), (1, .int x1), (2, .int x2), (3, .int x3)] → w3_pack_L36 post x1 x2 x3 t0 sc ar → W p l e (headSpec (ws_ yX3_pack cX3_pack 5 (some .int)) ({ frames := 2, cells := 0, slots := 0, locals := 46 })).room s m ([.ref mo, .int p1, .int p2, .int p3] : List Value).toArray below meth c H locs 0 0 (MQ below (va_Qi (S := wU) (fun r u => post r u.1 u.2) (wm_B D ac mo ad) A) ([.ref mo, .int p1, .int p2, .int p3] : List Value).toArray s 0 0 A) (F0 m 36 ls [.int t0, .ref mo]) := by
    intro x1 x2 x3 t0 sc ar H locs ls hM hl hw
    unfold w3_pack_L36 at hw
    refine wm_callVi (As := [.int t0]) (rest := []) ⟨hx, hb, hml, hown, hts⟩ hK hN hAm hA hM (m3_fails l D ac mo ad sc ar t0 _ hw) (cwV 1 hts (lw_V q2008 q2010 qs19 q77 q2011) rfl rfl rfl hd_X3_fails ⟨Nat.le_of_ble_eq_true rfl, Nat.le_of_ble_eq_true rfl⟩) rfl hl.1 rfl (Nat.le_of_ble_eq_true rfl) dX3_pack_36 ⟨Nat.le_refl 0, Nat.le_refl 0⟩ (fun r10 sc8 ar9 H locs hw hM => ?_)
    refine lv_if_eq (tgt := 44) hx hb dX3_pack_39 (by decide) (fun c_ => ?_) (fun c_ => ?_)
    · replace hw := hw.1 c_
      refine lv_aload_n hx hb dX3_pack_44 rfl (lv_at hl 0 rfl) ?_
      refine lv_iload_n hx hb dX3_pack_45 rfl (lv_at hl 1 rfl) ?_
      refine lv_iconst (v := 0) hx hb dX3_pack_46 (by decide) ?_
      refine wm_callVi (As := [.int x1, .int 0]) (rest := []) ⟨hx, hb, hml, hown, hts⟩ hK hN hAm hA hM (m3_ofCrate l D ac mo ad sc8 ar9 x1 0 _ hw) (cwV 2 hts (lw_V q2141 q2143 qs35 q77 q2144) rfl rfl rfl hd_X3_ofCrate ⟨Nat.le_of_ble_eq_true rfl, Nat.le_of_ble_eq_true rfl⟩) rfl hl.1 rfl (Nat.le_of_ble_eq_true rfl) dX3_pack_47 ⟨Nat.le_refl 0, Nat.le_refl 0⟩ (fun r13 sc11 ar12 H locs hw hM => ?_)
      refine lv_aload_n hx hb dX3_pack_50 rfl (lv_at hl 0 rfl) ?_
      refine lv_iload_n hx hb dX3_pack_51 rfl (lv_at hl 1 rfl) ?_
      refine lv_iconst (v := 1) hx hb dX3_pack_52 (by decide) ?_
      refine wm_callVi (As := [.int x1, .int 1]) (rest := [.int r13]) ⟨hx, hb, hml, hown, hts⟩ hK hN hAm hA hM (m3_ofCrate l D ac mo ad sc11 ar12 x1 1 _ hw) (cwV 2 hts (lw_V q2141 q2143 qs35 q77 q2144) rfl rfl rfl hd_X3_ofCrate ⟨Nat.le_of_ble_eq_true rfl, Nat.le_of_ble_eq_true rfl⟩) rfl hl.1 rfl (Nat.le_of_ble_eq_true rfl) dX3_pack_53 ⟨Nat.le_refl 0, Nat.le_refl 0⟩ (fun r16 sc14 ar15 H locs hw hM => ?_)
      refine lv_isub hx hb dX3_pack_56 ?_
      refine lv_istore (lv' := [(4, .int (r13 - r16)), (0, .ref mo), (1, .int x1), (2, .int x2), (3, .int x3)]) hx hb dX3_pack_57 hl (by decide) rfl (fun ls hl => ?_)
      refine lv_aload_n hx hb dX3_pack_59 rfl (lv_at hl 1 rfl) ?_
      refine lv_iload_n hx hb dX3_pack_60 rfl (lv_at hl 3 rfl) ?_
      refine lv_iconst (v := 1) hx hb dX3_pack_61 (by decide) ?_
      refine wm_callVi (As := [.int x2, .int 1]) (rest := []) ⟨hx, hb, hml, hown, hts⟩ hK hN hAm hA hM (m3_of l D ac mo ad sc14 ar15 x2 1 _ hw) (cwV 2 hts (lw_V q2069 q2071 qs27 q77 q2072) rfl rfl rfl hd_X3_of ⟨Nat.le_of_ble_eq_true rfl, Nat.le_of_ble_eq_true rfl⟩) rfl hl.1 rfl (Nat.le_of_ble_eq_true rfl) dX3_pack_62 ⟨Nat.le_refl 0, Nat.le_refl 0⟩ (fun r19 sc17 ar18 H locs hw hM => ?_)
      refine lv_iconst (v := 3) hx hb dX3_pack_65 (by decide) ?_
      refine lv_icmp_eq (tgt := 82) hx hb dX3_pack_66 (by decide) (fun c_ => ?_) (fun c_ => ?_)
      · replace hw := hw.1 c_
        refine lv_aload_n hx hb dX3_pack_82 rfl (lv_at hl 1 rfl) ?_
        refine lv_iload_n hx hb dX3_pack_83 rfl (lv_at hl 3 rfl) ?_
        refine lv_iconst (v := 0) hx hb dX3_pack_84 (by decide) ?_
        refine wm_callVi (As := [.int x2, .int 0]) (rest := []) ⟨hx, hb, hml, hown, hts⟩ hK hN hAm hA hM (m3_of l D ac mo ad sc17 ar18 x2 0 _ hw) (cwV 2 hts (lw_V q2069 q2071 qs27 q77 q2072) rfl rfl rfl hd_X3_of ⟨Nat.le_of_ble_eq_true rfl, Nat.le_of_ble_eq_true rfl⟩) rfl hl.1 rfl (Nat.le_of_ble_eq_true rfl) dX3_pack_85 ⟨Nat.le_refl 0, Nat.le_refl 0⟩ (fun r22 sc20 ar21 H locs hw hM => ?_)
        refine lv_iload_n hx hb dX3_pack_88 rfl (lv_at hl 4 rfl) ?_
        refine lv_icmp_ge (tgt := 106) hx hb dX3_pack_89 (by decide) (fun c_ => ?_) (fun c_ => ?_)
        · replace hw := hw.1 c_
          refine lv_iload hx hb dX3_pack_106 (lv_at hl 0 rfl) ?_
          refine lv_iload_n hx hb dX3_pack_108 rfl (lv_at hl 4 rfl) ?_
          refine lv_icmp_ge (tgt := 122) hx hb dX3_pack_109 (by decide) (fun c_ => ?_) (fun c_ => ?_)
          · replace hw := hw.1 c_
            refine lv_aload_n hx hb dX3_pack_122 rfl (lv_at hl 1 rfl) ?_
            refine lv_aload_n hx hb dX3_pack_123 rfl (lv_at hl 1 rfl) ?_
            refine wm_get hx hb hts hown hK hM 0 (by decide) q1933 (v := .ref (ad 0)) rfl dX3_pack_124 ?_
            refine wm_callVv (As := [.ref (ad 0)]) (rest := []) ⟨hx, hb, hml, hown, hts⟩ hK hN hAm hA hM (m3_keeps l D ac mo ad sc20 ar21 0 _ rfl hw) (cwV 1 hts (lw_V q2016 q2018 qs21 q77 q2019) rfl rfl rfl hd_X3_keeps ⟨Nat.le_of_ble_eq_true rfl, Nat.le_of_ble_eq_true rfl⟩) rfl hl.1 rfl (Nat.le_of_ble_eq_true rfl) dX3_pack_127 ⟨Nat.le_refl 0, Nat.le_refl 0⟩ (fun sc23 ar24 H locs hw hM => ?_)
            refine lv_aload_n hx hb dX3_pack_130 rfl (lv_at hl 1 rfl) ?_
            refine lv_iload_n hx hb dX3_pack_131 rfl (lv_at hl 3 rfl) ?_
            refine lv_iconst (v := 0) hx hb dX3_pack_132 (by decide) ?_
            refine lv_aload_n hx hb dX3_pack_133 rfl (lv_at hl 1 rfl) ?_
            refine lv_iload_n hx hb dX3_pack_134 rfl (lv_at hl 3 rfl) ?_
            refine lv_iconst (v := 0) hx hb dX3_pack_135 (by decide) ?_
            refine wm_callVi (As := [.int x2, .int 0]) (rest := [.int 0, .int x2, .ref mo]) ⟨hx, hb, hml, hown, hts⟩ hK hN hAm hA hM (m3_of l D ac mo ad sc23 ar24 x2 0 _ hw) (cwV 2 hts (lw_V q2069 q2071 qs27 q77 q2072) rfl rfl rfl hd_X3_of ⟨Nat.le_of_ble_eq_true rfl, Nat.le_of_ble_eq_true rfl⟩) rfl hl.1 rfl (Nat.le_of_ble_eq_true rfl) dX3_pack_136 ⟨Nat.le_refl 0, Nat.le_refl 0⟩ (fun r27 sc25 ar26 H locs hw hM => ?_)
            refine lv_iload_n hx hb dX3_pack_139 rfl (lv_at hl 4 rfl) ?_
            refine lv_isub hx hb dX3_pack_140 ?_
            refine wm_callVv (As := [.int x2, .int 0, .int (r27 - x3)]) (rest := []) ⟨hx, hb, hml, hown, hts⟩ hK hN hAm hA hM (m3_lays l D ac mo ad sc25 ar26 x2 0 (r27 - x3) _ hw) (cwV 3 hts (lw_V q2077 q2079 qs28 q77 q2080) rfl rfl rfl hd_X3_lays ⟨Nat.le_of_ble_eq_true rfl, Nat.le_of_ble_eq_true rfl⟩) rfl hl.1 rfl (Nat.le_of_ble_eq_true rfl) dX3_pack_141 ⟨Nat.le_refl 0, Nat.le_refl 0⟩ (fun sc28 ar29 H locs hw hM => ?_)
            refine lv_aload_n hx hb dX3_pack_144 rfl (lv_at hl 1 rfl) ?_
            refine lv_iload_n hx hb dX3_pack_145 rfl (lv_at hl 2 rfl) ?_
            refine lv_iconst (v := 1) hx hb dX3_pack_146 (by decide) ?_
            refine lv_aload_n hx hb dX3_pack_147 rfl (lv_at hl 1 rfl) ?_
            refine lv_iload_n hx hb dX3_pack_148 rfl (lv_at hl 2 rfl) ?_
            refine lv_iconst (v := 1) hx hb dX3_pack_149 (by decide) ?_
            refine wm_callVi (As := [.int x1, .int 1]) (rest := [.int 1, .int x1, .ref mo]) ⟨hx, hb, hml, hown, hts⟩ hK hN hAm hA hM (m3_ofCrate l D ac mo ad sc28 ar29 x1 1 _ hw) (cwV 2 hts (lw_V q2141 q2143 qs35 q77 q2144) rfl rfl rfl hd_X3_ofCrate ⟨Nat.le_of_ble_eq_true rfl, Nat.le_of_ble_eq_true rfl⟩) rfl hl.1 rfl (Nat.le_of_ble_eq_true rfl) dX3_pack_150 ⟨Nat.le_refl 0, Nat.le_refl 0⟩ (fun r32 sc30 ar31 H locs hw hM => ?_)
            refine lv_iload_n hx hb dX3_pack_153 rfl (lv_at hl 4 rfl) ?_
            refine lv_iadd hx hb dX3_pack_154 ?_
            refine wm_callVv (As := [.int x1, .int 1, .int (r32 + x3)]) (rest := []) ⟨hx, hb, hml, hown, hts⟩ hK hN hAm hA hM (m3_laysCrate l D ac mo ad sc30 ar31 x1 1 (r32 + x3) _ hw) (cwV 3 hts (lw_V q2129 q2131 qs33 q77 q2132) rfl rfl rfl hd_X3_laysCrate ⟨Nat.le_of_ble_eq_true rfl, Nat.le_of_ble_eq_true rfl⟩) rfl hl.1 rfl (Nat.le_of_ble_eq_true rfl) dX3_pack_155 ⟨Nat.le_refl 0, Nat.le_refl 0⟩ (fun sc33 ar34 H locs hw hM => ?_)
            refine lv_aload_n hx hb dX3_pack_158 rfl (lv_at hl 1 rfl) ?_
            refine lv_iload_n hx hb dX3_pack_159 rfl (lv_at hl 2 rfl) ?_
            refine lv_iconst (v := 3) hx hb dX3_pack_160 (by decide) ?_
            refine lv_aload_n hx hb dX3_pack_161 rfl (lv_at hl 1 rfl) ?_
            refine lv_iload_n hx hb dX3_pack_162 rfl (lv_at hl 2 rfl) ?_
            refine lv_iconst (v := 3) hx hb dX3_pack_163 (by decide) ?_
            refine wm_callVi (As := [.int x1, .int 3]) (rest := [.int 3, .int x1, .ref mo]) ⟨hx, hb, hml, hown, hts⟩ hK hN hAm hA hM (m3_ofCrate l D ac mo ad sc33 ar34 x1 3 _ hw) (cwV 2 hts (lw_V q2141 q2143 qs35 q77 q2144) rfl rfl rfl hd_X3_ofCrate ⟨Nat.le_of_ble_eq_true rfl, Nat.le_of_ble_eq_true rfl⟩) rfl hl.1 rfl (Nat.le_of_ble_eq_true rfl) dX3_pack_164 ⟨Nat.le_refl 0, Nat.le_refl 0⟩ (fun r37 sc35 ar36 H locs hw hM => ?_)
            refine lv_iload_n hx hb dX3_pack_167 rfl (lv_at hl 4 rfl) ?_
            refine lv_iconst (v := 2) hx hb dX3_pack_168 (by decide) ?_
            refine lv_aload_n hx hb dX3_pack_169 rfl (lv_at hl 1 rfl) ?_
            refine lv_iload_n hx hb dX3_pack_170 rfl (lv_at hl 3 rfl) ?_
            refine lv_iconst (v := 2) hx hb dX3_pack_171 (by decide) ?_
            refine wm_callVi (As := [.int x2, .int 2]) (rest := [.int 2, .int x3, .int r37, .int 3, .int x1, .ref mo]) ⟨hx, hb, hml, hown, hts⟩ hK hN hAm hA hM (m3_of l D ac mo ad sc35 ar36 x2 2 _ hw) (cwV 2 hts (lw_V q2069 q2071 qs27 q77 q2072) rfl rfl rfl hd_X3_of ⟨Nat.le_of_ble_eq_true rfl, Nat.le_of_ble_eq_true rfl⟩) rfl hl.1 rfl (Nat.le_of_ble_eq_true rfl) dX3_pack_172 ⟨Nat.le_refl 0, Nat.le_refl 0⟩ (fun r40 sc38 ar39 H locs hw hM => ?_)
            refine lv_iadd hx hb dX3_pack_175 ?_
            refine lv_imul hx hb dX3_pack_176 ?_
            refine lv_iadd hx hb dX3_pack_177 ?_
            refine wm_callVv (As := [.int x1, .int 3, .int (r37 + (x3 * (2 + r40)))]) (rest := []) ⟨hx, hb, hml, hown, hts⟩ hK hN hAm hA hM (m3_laysCrate l D ac mo ad sc38 ar39 x1 3 (r37 + (x3 * (2 + r40))) _ hw) (cwV 3 hts (lw_V q2129 q2131 qs33 q77 q2132) rfl rfl rfl hd_X3_laysCrate ⟨Nat.le_of_ble_eq_true rfl, Nat.le_of_ble_eq_true rfl⟩) rfl hl.1 rfl (Nat.le_of_ble_eq_true rfl) dX3_pack_178 ⟨Nat.le_refl 0, Nat.le_refl 0⟩ (fun sc41 ar42 H locs hw hM => ?_)
            refine lv_aload_n hx hb dX3_pack_181 rfl (lv_at hl 1 rfl) ?_
            refine lv_iload_n hx hb dX3_pack_182 rfl (lv_at hl 2 rfl) ?_
            refine lv_iconst (v := 1) hx hb dX3_pack_183 (by decide) ?_
            refine wm_callVi (As := [.int x1, .int 1]) (rest := []) ⟨hx, hb, hml, hown, hts⟩ hK hN hAm hA hM (m3_ofCrate l D ac mo ad sc41 ar42 x1 1 _ hw) (cwV 2 hts (lw_V q2141 q2143 qs35 q77 q2144) rfl rfl rfl hd_X3_ofCrate ⟨Nat.le_of_ble_eq_true rfl, Nat.le_of_ble_eq_true rfl⟩) rfl hl.1 rfl (Nat.le_of_ble_eq_true rfl) dX3_pack_184 ⟨Nat.le_refl 0, Nat.le_refl 0⟩ (fun r45 sc43 ar44 H locs hw hM => ?_)
            exact wm_reti hx hb hr hlk hM rfl hw dX3_pack_187
          · replace hw := hw.2 c_
            refine lv_aload_n hx hb dX3_pack_112 rfl (lv_at hl 1 rfl) ?_
            refine lv_iconst (v := 3) hx hb dX3_pack_113 (by decide) ?_
            refine lv_bipush (v := 8) hx hb dX3_pack_114 (by decide) ?_
            refine lv_iload hx hb dX3_pack_116 (lv_at hl 0 rfl) ?_
            refine wm_callVi (As := [.int 3, .int 8, .int (r13 - r16)]) (rest := []) ⟨hx, hb, hml, hown, hts⟩ hK hN hAm hA hM (m3_refuses l D ac mo ad sc20 ar21 3 8 (r13 - r16) _ hw) (cwV 3 hts (lw_V q2012 q2014 qs20 q77 q2015) rfl rfl rfl hd_X3_refuses ⟨Nat.le_of_ble_eq_true rfl, Nat.le_of_ble_eq_true rfl⟩) rfl hl.1 rfl (Nat.le_of_ble_eq_true rfl) dX3_pack_118 ⟨Nat.le_refl 0, Nat.le_refl 0⟩ (fun r48 sc46 ar47 H locs hw hM => ?_)
            exact wm_reti hx hb hr hlk hM rfl hw dX3_pack_121
        · replace hw := hw.2 c_
          refine lv_aload_n hx hb dX3_pack_92 rfl (lv_at hl 1 rfl) ?_
          refine lv_iconst (v := 3) hx hb dX3_pack_93 (by decide) ?_
          refine lv_bipush (v := 7) hx hb dX3_pack_94 (by decide) ?_
          refine lv_aload_n hx hb dX3_pack_96 rfl (lv_at hl 1 rfl) ?_
          refine lv_iload_n hx hb dX3_pack_97 rfl (lv_at hl 3 rfl) ?_
          refine lv_iconst (v := 0) hx hb dX3_pack_98 (by decide) ?_
          refine wm_callVi (As := [.int x2, .int 0]) (rest := [.int 7, .int 3, .ref mo]) ⟨hx, hb, hml, hown, hts⟩ hK hN hAm hA hM (m3_of l D ac mo ad sc20 ar21 x2 0 _ hw) (cwV 2 hts (lw_V q2069 q2071 qs27 q77 q2072) rfl rfl rfl hd_X3_of ⟨Nat.le_of_ble_eq_true rfl, Nat.le_of_ble_eq_true rfl⟩) rfl hl.1 rfl (Nat.le_of_ble_eq_true rfl) dX3_pack_99 ⟨Nat.le_refl 0, Nat.le_refl 0⟩ (fun r51 sc49 ar50 H locs hw hM => ?_)
          refine wm_callVi (As := [.int 3, .int 7, .int r51]) (rest := []) ⟨hx, hb, hml, hown, hts⟩ hK hN hAm hA hM (m3_refuses l D ac mo ad sc49 ar50 3 7 r51 _ hw) (cwV 3 hts (lw_V q2012 q2014 qs20 q77 q2015) rfl rfl rfl hd_X3_refuses ⟨Nat.le_of_ble_eq_true rfl, Nat.le_of_ble_eq_true rfl⟩) rfl hl.1 rfl (Nat.le_of_ble_eq_true rfl) dX3_pack_102 ⟨Nat.le_refl 0, Nat.le_refl 0⟩ (fun r54 sc52 ar53 H locs hw hM => ?_)
          exact wm_reti hx hb hr hlk hM rfl hw dX3_pack_105
      · replace hw := hw.2 c_
        refine lv_aload_n hx hb dX3_pack_69 rfl (lv_at hl 1 rfl) ?_
        refine lv_iconst (v := 3) hx hb dX3_pack_70 (by decide) ?_
        refine lv_iconst (v := 1) hx hb dX3_pack_71 (by decide) ?_
        refine lv_aload_n hx hb dX3_pack_72 rfl (lv_at hl 1 rfl) ?_
        refine lv_iload_n hx hb dX3_pack_73 rfl (lv_at hl 3 rfl) ?_
        refine lv_iconst (v := 1) hx hb dX3_pack_74 (by decide) ?_
        refine wm_callVi (As := [.int x2, .int 1]) (rest := [.int 1, .int 3, .ref mo]) ⟨hx, hb, hml, hown, hts⟩ hK hN hAm hA hM (m3_of l D ac mo ad sc17 ar18 x2 1 _ hw) (cwV 2 hts (lw_V q2069 q2071 qs27 q77 q2072) rfl rfl rfl hd_X3_of ⟨Nat.le_of_ble_eq_true rfl, Nat.le_of_ble_eq_true rfl⟩) rfl hl.1 rfl (Nat.le_of_ble_eq_true rfl) dX3_pack_75 ⟨Nat.le_refl 0, Nat.le_refl 0⟩ (fun r57 sc55 ar56 H locs hw hM => ?_)
        refine wm_callVi (As := [.int 3, .int 1, .int r57]) (rest := []) ⟨hx, hb, hml, hown, hts⟩ hK hN hAm hA hM (m3_refuses l D ac mo ad sc55 ar56 3 1 r57 _ hw) (cwV 3 hts (lw_V q2012 q2014 qs20 q77 q2015) rfl rfl rfl hd_X3_refuses ⟨Nat.le_of_ble_eq_true rfl, Nat.le_of_ble_eq_true rfl⟩) rfl hl.1 rfl (Nat.le_of_ble_eq_true rfl) dX3_pack_78 ⟨Nat.le_refl 0, Nat.le_refl 0⟩ (fun r60 sc58 ar59 H locs hw hM => ?_)
        exact wm_reti hx hb hr hlk hM rfl hw dX3_pack_81
    · replace hw := hw.2 c_
      refine lv_iconst (v := 0) hx hb dX3_pack_42 (by decide) ?_
      exact wm_reti hx hb hr hlk hM rfl hw dX3_pack_43
  have hL17 : ∀ (x1 : Int32) (x2 : Int32) (x3 : Int32) (sc : wS1) (ar : wS2) (H : Heap) (locs : List Loc) (ls : Array Slot), wm_S D ac A s.heap mo ad sc ar H locs → lv_has ls 5 [(0, .ref mo), (1, .int x1), (2, .int x2), (3, .int x3)] → w3_pack_L17 post x1 x2 x3 sc ar → W p l e (headSpec (ws_ yX3_pack cX3_pack 5 (some .int)) ({ frames := 2, cells := 0, slots := 0, locals := 46 })).room s m ([.ref mo, .int p1, .int p2, .int p3] : List Value).toArray below meth c H locs 0 0 (MQ below (va_Qi (S := wU) (fun r u => post r u.1 u.2) (wm_B D ac mo ad) A) ([.ref mo, .int p1, .int p2, .int p3] : List Value).toArray s 0 0 A) (F0 m 17 ls [.ref mo]) := by
    intro x1 x2 x3 sc ar H locs ls hM hl hw
    unfold w3_pack_L17 at hw
    refine lv_iconst (v := 1) hx hb dX3_pack_17 (by decide) ?_
    refine lv_goto (tgt := 36) hx hb dX3_pack_18 (by decide) ?_
    exact hL36  x1 x2 x3 1 sc ar _ _ ls hM (lv_sub hl [0, 1, 2, 3] rfl) hw
  refine lv_aload_n hx hb dX3_pack_0 rfl (lv_at hl 0 rfl) ?_
  refine lv_aload_n hx hb dX3_pack_1 rfl (lv_at hl 0 rfl) ?_
  refine lv_iload_n hx hb dX3_pack_2 rfl (lv_at hl 1 rfl) ?_
  refine wm_callVi (As := [.int p1]) (rest := [.ref mo]) ⟨hx, hb, hml, hown, hts⟩ hK hN hAm hA hM (m3_isCrate l D ac mo ad sc ar p1 _ hw) (cwV 1 hts (lw_V q2137 q2139 qs34 q77 q2140) rfl rfl rfl hd_X3_isCrate ⟨Nat.le_of_ble_eq_true rfl, Nat.le_of_ble_eq_true rfl⟩) rfl hl.1 rfl (Nat.le_of_ble_eq_true rfl) dX3_pack_3 ⟨Nat.le_refl 0, Nat.le_refl 0⟩ (fun r3 sc1 ar2 H locs hw hM => ?_)
  refine lv_if_eq (tgt := 17) hx hb dX3_pack_6 (by decide) (fun c_ => ?_) (fun c_ => ?_)
  · replace hw := hw.1 c_
    exact hL17  p1 p2 p3 sc1 ar2 _ _ ls hM (lv_sub hl [0, 1, 2, 3] rfl) hw
  · replace hw := hw.2 c_
    refine lv_aload_n hx hb dX3_pack_9 rfl (lv_at hl 0 rfl) ?_
    refine lv_iload_n hx hb dX3_pack_10 rfl (lv_at hl 2 rfl) ?_
    refine wm_callVi (As := [.int p2]) (rest := [.ref mo]) ⟨hx, hb, hml, hown, hts⟩ hK hN hAm hA hM (m3_isLot l D ac mo ad sc1 ar2 p2 _ hw) (cwV 1 hts (lw_V q2065 q2067 qs26 q77 q2068) rfl rfl rfl hd_X3_isLot ⟨Nat.le_of_ble_eq_true rfl, Nat.le_of_ble_eq_true rfl⟩) rfl hl.1 rfl (Nat.le_of_ble_eq_true rfl) dX3_pack_11 ⟨Nat.le_refl 0, Nat.le_refl 0⟩ (fun r6 sc4 ar5 H locs hw hM => ?_)
    refine lv_if_ne (tgt := 21) hx hb dX3_pack_14 (by decide) (fun c_ => ?_) (fun c_ => ?_)
    · replace hw := hw.1 c_
      refine lv_iload_n hx hb dX3_pack_21 rfl (lv_at hl 3 rfl) ?_
      refine lv_iconst (v := 1) hx hb dX3_pack_22 (by decide) ?_
      refine lv_bipush (v := 24) hx hb dX3_pack_23 (by decide) ?_
      refine wm_callPi (As := [.int p3, .int 1, .int 24]) (rest := [.ref mo]) ⟨hx, hb, hml, hown, hts⟩ hA hM (m3_in l p3 1 24 _ hw) (va_cwS 3 hts (lw_S q2005 q2006 q77 q2007) rfl rfl rfl hd_X3_in ⟨Nat.le_of_ble_eq_true rfl, Nat.le_of_ble_eq_true rfl⟩) rfl hl.1 rfl (Nat.le_of_ble_eq_true rfl) dX3_pack_25 ⟨Nat.le_refl 0, Nat.le_refl 0⟩ (fun r7 H locs hw hM => ?_)
      refine lv_if_eq (tgt := 35) hx hb dX3_pack_28 (by decide) (fun c_ => ?_) (fun c_ => ?_)
      · replace hw := hw.1 c_
        refine lv_iconst (v := 2) hx hb dX3_pack_35 (by decide) ?_
        exact hL36  p1 p2 p3 2 sc4 ar5 _ _ ls hM (lv_sub hl [0, 1, 2, 3] rfl) hw
      · replace hw := hw.2 c_
        refine lv_iconst (v := 0) hx hb dX3_pack_31 (by decide) ?_
        refine lv_goto (tgt := 36) hx hb dX3_pack_32 (by decide) ?_
        exact hL36  p1 p2 p3 0 sc4 ar5 _ _ ls hM (lv_sub hl [0, 1, 2, 3] rfl) hw
    · replace hw := hw.2 c_
      exact hL17  p1 p2 p3 sc4 ar5 _ _ ls hM (lv_sub hl [0, 1, 2, 3] rfl) hw
def w3_carry_L96 (post : Int32 → wS1 → wS2 → Prop) : Nat → Int32 → Int32 → Int32 → wS1 → wS2 → Prop
  | 0, _, _, _, _, _ => False
  | n + 1, x1, x2, x4, sc, ar => (4 ≤ x4 → (post x2 sc ar)) ∧ (¬ 4 ≤ x4 → (w3_laysCrate (fun sc26 ar27 => w3_carry_L96 post  n x1 x2 (x4 + 1) sc26 ar27) sc ar x1 x4 0))
def w3_carry_L14 (post : Int32 → wS1 → wS2 → Prop) (x1 : Int32) (t0 : Int32) (sc : wS1) (ar : wS2) : Prop := w3_fails (fun r6 sc4 ar5 => (r6 = 0 → (w3_ofCrate (fun r9 sc7 ar8 => (¬ r9 = 0 → (w3_keeps (fun sc10 ar11 => w3_paid (fun r14 sc12 ar13 => w3_breaks (fun r17 sc15 ar16 => w3_gets (fun sc18 ar19 => w3_ofCrate (fun r22 sc20 ar21 => (∃ n, w3_carry_L96 post  n x1 r14 1 sc20 (va_up ar21 0 (upd (upd (ar21 0) 5 ((ar19 0 5) + (r22 - r17))) 6 ((ar21 0 6) + r17))))) sc18 ar19 x1 1) sc15 ar16 r14) sc12 ar13 x1) sc10 ar11 x1) sc7 ar8 0)) ∧ (r9 = 0 → (w3_refuses (fun r25 sc23 ar24 => post r25 sc23 ar24) sc7 ar8 2 9 x1))) sc4 ar5 x1 1)) ∧ (¬ r6 = 0 → (post 0 sc4 ar5))) sc ar t0
def w3_carry (post : Int32 → wS1 → wS2 → Prop) (sc : wS1) (ar : wS2) (p1 : Int32) : Prop := w3_isCrate (fun r3 sc1 ar2 => (r3 = 0 → (w3_carry_L14 post  p1 1 sc1 ar2)) ∧ (¬ r3 = 0 → (w3_carry_L14 post  p1 0 sc1 ar2))) sc ar p1
theorem hd_X3_carry : yX3_carry.cls = RX3 ∧ yX3_carry.cls ≠ "java/lang/invoke/MethodHandle" ∧ yX3_carry.cls ≠ "java/lang/invoke/VarHandle" ∧ (parseMethodDescriptor yX3_carry.desc).map (fun d => d.parameters.length) = some 1 := by decide +kernel
set_option maxHeartbeats 4000000 in
set_option maxRecDepth 100000 in
theorem m3_carry (l : Launch) (D : va_G) (ac : Nat → ClassId) (mo : Nat) (ad : Nat → Nat) (sc : wS1) (ar : wS2) (p1 : Int32) (post : Int32 → wS1 → wS2 → Prop) (hw : w3_carry post sc ar p1) : wm_Mi l D ac mo ad yX3_carry (ws_ yX3_carry cX3_carry 5 (some .int)) ({ frames := 3, cells := 0, slots := 0, locals := 64 }) [.ref mo, .int p1] sc ar post := by
  refine wm_ofi (by decide) (Nat.le_of_ble_eq_true rfl) ?_
  intro p e s m below meth c A ls hx hb hr hlk hml hown hts hK hN hAm hA hM hl
  have hl : lv_has ls 5 [(0, .ref mo), (1, .int p1)] := hl
  unfold w3_carry at hw
  have hL96 : ∀ (n : Nat) (x1 : Int32) (x2 : Int32) (x4 : Int32) (sc : wS1) (ar : wS2) (H : Heap) (locs : List Loc) (ls : Array Slot), wm_S D ac A s.heap mo ad sc ar H locs → lv_has ls 5 [(0, .ref mo), (1, .int x1), (2, .int x2), (4, .int x4)] → w3_carry_L96 post n x1 x2 x4 sc ar → W p l e (headSpec (ws_ yX3_carry cX3_carry 5 (some .int)) ({ frames := 3, cells := 0, slots := 0, locals := 64 })).room s m ([.ref mo, .int p1] : List Value).toArray below meth c H locs 0 0 (MQ below (va_Qi (S := wU) (fun r u => post r u.1 u.2) (wm_B D ac mo ad) A) ([.ref mo, .int p1] : List Value).toArray s 0 0 A) (F0 m 96 ls []) := by
    intro n
    induction n with
    | zero => exact fun _ _ _ _ _ _ _ _ _ _ hw => hw.elim
    | succ n ih =>
      intro x1 x2 x4 sc ar H locs ls hM hl hw
      unfold w3_carry_L96 at hw
      refine lv_iload hx hb dX3_carry_96 (lv_at hl 3 rfl) ?_
      refine lv_iconst (v := 4) hx hb dX3_carry_98 (by decide) ?_
      refine lv_icmp_ge (tgt := 116) hx hb dX3_carry_99 (by decide) (fun c_ => ?_) (fun c_ => ?_)
      · replace hw := hw.1 c_
        refine lv_iload_n hx hb dX3_carry_116 rfl (lv_at hl 2 rfl) ?_
        exact wm_reti hx hb hr hlk hM rfl hw dX3_carry_117
      · replace hw := hw.2 c_
        refine lv_aload_n hx hb dX3_carry_102 rfl (lv_at hl 0 rfl) ?_
        refine lv_iload_n hx hb dX3_carry_103 rfl (lv_at hl 1 rfl) ?_
        refine lv_iload hx hb dX3_carry_104 (lv_at hl 3 rfl) ?_
        refine lv_iconst (v := 0) hx hb dX3_carry_106 (by decide) ?_
        refine wm_callVv (As := [.int x1, .int x4, .int 0]) (rest := []) ⟨hx, hb, hml, hown, hts⟩ hK hN hAm hA hM (m3_laysCrate l D ac mo ad sc ar x1 x4 0 _ hw) (cwV 3 hts (lw_V q2129 q2131 qs33 q77 q2132) rfl rfl rfl hd_X3_laysCrate ⟨Nat.le_of_ble_eq_true rfl, Nat.le_of_ble_eq_true rfl⟩) rfl hl.1 rfl (Nat.le_of_ble_eq_true rfl) dX3_carry_107 ⟨Nat.le_refl 0, Nat.le_refl 0⟩ (fun sc26 ar27 H locs hw hM => ?_)
        refine lv_iinc (v := x4 + 1) (lv' := [(4, .int (x4 + 1)), (0, .ref mo), (1, .int x1), (2, .int x2)]) hx hb dX3_carry_110 hl (k := 3) rfl rfl (by decide) rfl (fun ls hl => ?_)
        refine lv_goto (tgt := 96) hx hb dX3_carry_113 (by decide) ?_
        exact ih x1 x2 (x4 + 1) sc26 ar27 _ _ ls hM (lv_sub hl [1, 2, 3, 0] rfl) hw
  have hL14 : ∀ (x1 : Int32) (t0 : Int32) (sc : wS1) (ar : wS2) (H : Heap) (locs : List Loc) (ls : Array Slot), wm_S D ac A s.heap mo ad sc ar H locs → lv_has ls 5 [(0, .ref mo), (1, .int x1)] → w3_carry_L14 post x1 t0 sc ar → W p l e (headSpec (ws_ yX3_carry cX3_carry 5 (some .int)) ({ frames := 3, cells := 0, slots := 0, locals := 64 })).room s m ([.ref mo, .int p1] : List Value).toArray below meth c H locs 0 0 (MQ below (va_Qi (S := wU) (fun r u => post r u.1 u.2) (wm_B D ac mo ad) A) ([.ref mo, .int p1] : List Value).toArray s 0 0 A) (F0 m 14 ls [.int t0, .ref mo]) := by
    intro x1 t0 sc ar H locs ls hM hl hw
    unfold w3_carry_L14 at hw
    refine wm_callVi (As := [.int t0]) (rest := []) ⟨hx, hb, hml, hown, hts⟩ hK hN hAm hA hM (m3_fails l D ac mo ad sc ar t0 _ hw) (cwV 1 hts (lw_V q2008 q2010 qs19 q77 q2011) rfl rfl rfl hd_X3_fails ⟨Nat.le_of_ble_eq_true rfl, Nat.le_of_ble_eq_true rfl⟩) rfl hl.1 rfl (Nat.le_of_ble_eq_true rfl) dX3_carry_14 ⟨Nat.le_refl 0, Nat.le_refl 0⟩ (fun r6 sc4 ar5 H locs hw hM => ?_)
    refine lv_if_eq (tgt := 22) hx hb dX3_carry_17 (by decide) (fun c_ => ?_) (fun c_ => ?_)
    · replace hw := hw.1 c_
      refine lv_aload_n hx hb dX3_carry_22 rfl (lv_at hl 0 rfl) ?_
      refine lv_iload_n hx hb dX3_carry_23 rfl (lv_at hl 1 rfl) ?_
      refine lv_iconst (v := 1) hx hb dX3_carry_24 (by decide) ?_
      refine wm_callVi (As := [.int x1, .int 1]) (rest := []) ⟨hx, hb, hml, hown, hts⟩ hK hN hAm hA hM (m3_ofCrate l D ac mo ad sc4 ar5 x1 1 _ hw) (cwV 2 hts (lw_V q2141 q2143 qs35 q77 q2144) rfl rfl rfl hd_X3_ofCrate ⟨Nat.le_of_ble_eq_true rfl, Nat.le_of_ble_eq_true rfl⟩) rfl hl.1 rfl (Nat.le_of_ble_eq_true rfl) dX3_carry_25 ⟨Nat.le_refl 0, Nat.le_refl 0⟩ (fun r9 sc7 ar8 H locs hw hM => ?_)
      refine lv_if_ne (tgt := 40) hx hb dX3_carry_28 (by decide) (fun c_ => ?_) (fun c_ => ?_)
      · replace hw := hw.1 c_
        refine lv_aload_n hx hb dX3_carry_40 rfl (lv_at hl 0 rfl) ?_
        refine lv_aload_n hx hb dX3_carry_41 rfl (lv_at hl 0 rfl) ?_
        refine wm_get hx hb hts hown hK hM 0 (by decide) q1933 (v := .ref (ad 0)) rfl dX3_carry_42 ?_
        refine wm_callVv (As := [.ref (ad 0)]) (rest := []) ⟨hx, hb, hml, hown, hts⟩ hK hN hAm hA hM (m3_keeps l D ac mo ad sc7 ar8 0 _ rfl hw) (cwV 1 hts (lw_V q2016 q2018 qs21 q77 q2019) rfl rfl rfl hd_X3_keeps ⟨Nat.le_of_ble_eq_true rfl, Nat.le_of_ble_eq_true rfl⟩) rfl hl.1 rfl (Nat.le_of_ble_eq_true rfl) dX3_carry_45 ⟨Nat.le_refl 0, Nat.le_refl 0⟩ (fun sc10 ar11 H locs hw hM => ?_)
        refine lv_aload_n hx hb dX3_carry_48 rfl (lv_at hl 0 rfl) ?_
        refine lv_iload_n hx hb dX3_carry_49 rfl (lv_at hl 1 rfl) ?_
        refine wm_callVi (As := [.int x1]) (rest := []) ⟨hx, hb, hml, hown, hts⟩ hK hN hAm hA hM (m3_paid l D ac mo ad sc10 ar11 x1 _ hw) (cwV 1 hts (lw_V q2145 q2147 qs36 q77 q2148) rfl rfl rfl hd_X3_paid ⟨Nat.le_of_ble_eq_true rfl, Nat.le_of_ble_eq_true rfl⟩) rfl hl.1 rfl (Nat.le_of_ble_eq_true rfl) dX3_carry_50 ⟨Nat.le_refl 0, Nat.le_refl 0⟩ (fun r14 sc12 ar13 H locs hw hM => ?_)
        refine lv_istore_n (lv' := [(2, .int r14), (0, .ref mo), (1, .int x1)]) hx hb dX3_carry_53 rfl hl (by decide) rfl (fun ls hl => ?_)
        refine lv_aload_n hx hb dX3_carry_54 rfl (lv_at hl 1 rfl) ?_
        refine lv_iload_n hx hb dX3_carry_55 rfl (lv_at hl 2 rfl) ?_
        refine wm_callVi (As := [.int x1]) (rest := []) ⟨hx, hb, hml, hown, hts⟩ hK hN hAm hA hM (m3_breaks l D ac mo ad sc12 ar13 x1 _ hw) (cwV 1 hts (lw_V q2149 q2151 qs37 q77 q2152) rfl rfl rfl hd_X3_breaks ⟨Nat.le_of_ble_eq_true rfl, Nat.le_of_ble_eq_true rfl⟩) rfl hl.1 rfl (Nat.le_of_ble_eq_true rfl) dX3_carry_56 ⟨Nat.le_refl 0, Nat.le_refl 0⟩ (fun r17 sc15 ar16 H locs hw hM => ?_)
        refine lv_istore_n (lv' := [(3, .int r17), (2, .int r14), (0, .ref mo), (1, .int x1)]) hx hb dX3_carry_59 rfl hl (by decide) rfl (fun ls hl => ?_)
        refine lv_aload_n hx hb dX3_carry_60 rfl (lv_at hl 2 rfl) ?_
        refine lv_iload_n hx hb dX3_carry_61 rfl (lv_at hl 1 rfl) ?_
        refine wm_callVv (As := [.int r14]) (rest := []) ⟨hx, hb, hml, hown, hts⟩ hK hN hAm hA hM (m3_gets l D ac mo ad sc15 ar16 r14 _ hw) (cwV 1 hts (lw_V q2165 q2167 qs38 q77 q2168) rfl rfl rfl hd_X3_gets ⟨Nat.le_of_ble_eq_true rfl, Nat.le_of_ble_eq_true rfl⟩) rfl hl.1 rfl (Nat.le_of_ble_eq_true rfl) dX3_carry_62 ⟨Nat.le_refl 0, Nat.le_refl 0⟩ (fun sc18 ar19 H locs hw hM => ?_)
        refine lv_aload_n hx hb dX3_carry_65 rfl (lv_at hl 2 rfl) ?_
        refine wm_get hx hb hts hown hK hM 0 (by decide) q1933 (v := .ref (ad 0)) rfl dX3_carry_66 ?_
        refine lv_iconst (v := 5) hx hb dX3_carry_69 (by decide) ?_
        refine lv_dup2_11 hx hb dX3_carry_70 rfl rfl ?_
        refine wm_ald hx hb hK hM (k := 0) rfl vi_5_125 vc_5 (v := ar19 0 5) rfl dX3_carry_71 ?_
        refine lv_aload_n hx hb dX3_carry_72 rfl (lv_at hl 2 rfl) ?_
        refine lv_iload_n hx hb dX3_carry_73 rfl (lv_at hl 3 rfl) ?_
        refine lv_iconst (v := 1) hx hb dX3_carry_74 (by decide) ?_
        refine wm_callVi (As := [.int x1, .int 1]) (rest := [.int (ar19 0 5), .int 5, .ref (ad 0)]) ⟨hx, hb, hml, hown, hts⟩ hK hN hAm hA hM (m3_ofCrate l D ac mo ad sc18 ar19 x1 1 _ hw) (cwV 2 hts (lw_V q2141 q2143 qs35 q77 q2144) rfl rfl rfl hd_X3_ofCrate ⟨Nat.le_of_ble_eq_true rfl, Nat.le_of_ble_eq_true rfl⟩) rfl hl.1 rfl (Nat.le_of_ble_eq_true rfl) dX3_carry_75 ⟨Nat.le_refl 0, Nat.le_refl 0⟩ (fun r22 sc20 ar21 H locs hw hM => ?_)
        refine lv_iload_n hx hb dX3_carry_78 rfl (lv_at hl 0 rfl) ?_
        refine lv_isub hx hb dX3_carry_79 ?_
        refine lv_iadd hx hb dX3_carry_80 ?_
        refine wm_ast hx hb hK hN hAm hM (k := 0) rfl vi_5_125 vc_5 (f := ar21 0) rfl dX3_carry_81 (fun H locs hM => ?_)
        refine lv_aload_n hx hb dX3_carry_82 rfl (lv_at hl 2 rfl) ?_
        refine wm_get hx hb hts hown hK hM 0 (by decide) q1933 (v := .ref (ad 0)) rfl dX3_carry_83 ?_
        refine lv_bipush (v := 6) hx hb dX3_carry_86 (by decide) ?_
        refine lv_dup2_11 hx hb dX3_carry_88 rfl rfl ?_
        refine wm_ald hx hb hK hM (k := 0) rfl vi_6_125 vc_6 (v := ar21 0 6) rfl dX3_carry_89 ?_
        refine lv_iload_n hx hb dX3_carry_90 rfl (lv_at hl 0 rfl) ?_
        refine lv_iadd hx hb dX3_carry_91 ?_
        refine wm_ast hx hb hK hN hAm hM (k := 0) rfl vi_6_125 vc_6 (f := upd (ar21 0) 5 ((ar19 0 5) + (r22 - r17))) rfl dX3_carry_92 (fun H locs hM => ?_)
        rw [bx_uu] at hM
        refine lv_iconst (v := 1) hx hb dX3_carry_93 (by decide) ?_
        refine lv_istore (lv' := [(4, .int 1), (3, .int r17), (2, .int r14), (0, .ref mo), (1, .int x1)]) hx hb dX3_carry_94 hl (by decide) rfl (fun ls hl => ?_)
        obtain ⟨n0, hw⟩ := hw
        exact hL96  n0 x1 r14 1 sc20 (va_up ar21 0 (upd (upd (ar21 0) 5 ((ar19 0 5) + (r22 - r17))) 6 ((ar21 0 6) + r17))) _ _ ls hM (lv_sub hl [3, 4, 2, 0] rfl) hw
      · replace hw := hw.2 c_
        refine lv_aload_n hx hb dX3_carry_31 rfl (lv_at hl 0 rfl) ?_
        refine lv_iconst (v := 2) hx hb dX3_carry_32 (by decide) ?_
        refine lv_bipush (v := 9) hx hb dX3_carry_33 (by decide) ?_
        refine lv_iload_n hx hb dX3_carry_35 rfl (lv_at hl 1 rfl) ?_
        refine wm_callVi (As := [.int 2, .int 9, .int x1]) (rest := []) ⟨hx, hb, hml, hown, hts⟩ hK hN hAm hA hM (m3_refuses l D ac mo ad sc7 ar8 2 9 x1 _ hw) (cwV 3 hts (lw_V q2012 q2014 qs20 q77 q2015) rfl rfl rfl hd_X3_refuses ⟨Nat.le_of_ble_eq_true rfl, Nat.le_of_ble_eq_true rfl⟩) rfl hl.1 rfl (Nat.le_of_ble_eq_true rfl) dX3_carry_36 ⟨Nat.le_refl 0, Nat.le_refl 0⟩ (fun r25 sc23 ar24 H locs hw hM => ?_)
        exact wm_reti hx hb hr hlk hM rfl hw dX3_carry_39
    · replace hw := hw.2 c_
      refine lv_iconst (v := 0) hx hb dX3_carry_20 (by decide) ?_
      exact wm_reti hx hb hr hlk hM rfl hw dX3_carry_21
  refine lv_aload_n hx hb dX3_carry_0 rfl (lv_at hl 0 rfl) ?_
  refine lv_aload_n hx hb dX3_carry_1 rfl (lv_at hl 0 rfl) ?_
  refine lv_iload_n hx hb dX3_carry_2 rfl (lv_at hl 1 rfl) ?_
  refine wm_callVi (As := [.int p1]) (rest := [.ref mo]) ⟨hx, hb, hml, hown, hts⟩ hK hN hAm hA hM (m3_isCrate l D ac mo ad sc ar p1 _ hw) (cwV 1 hts (lw_V q2137 q2139 qs34 q77 q2140) rfl rfl rfl hd_X3_isCrate ⟨Nat.le_of_ble_eq_true rfl, Nat.le_of_ble_eq_true rfl⟩) rfl hl.1 rfl (Nat.le_of_ble_eq_true rfl) dX3_carry_3 ⟨Nat.le_refl 0, Nat.le_refl 0⟩ (fun r3 sc1 ar2 H locs hw hM => ?_)
  refine lv_if_eq (tgt := 13) hx hb dX3_carry_6 (by decide) (fun c_ => ?_) (fun c_ => ?_)
  · replace hw := hw.1 c_
    refine lv_iconst (v := 1) hx hb dX3_carry_13 (by decide) ?_
    exact hL14  p1 1 sc1 ar2 _ _ ls hM (lv_sub hl [0, 1] rfl) hw
  · replace hw := hw.2 c_
    refine lv_iconst (v := 0) hx hb dX3_carry_9 (by decide) ?_
    refine lv_goto (tgt := 14) hx hb dX3_carry_10 (by decide) ?_
    exact hL14  p1 0 sc1 ar2 _ _ ls hM (lv_sub hl [0, 1] rfl) hw
def w3_sell (post : Int32 → wS1 → wS2 → Prop) (sc : wS1) (ar : wS2)  : Prop := (¬ (ar 0 6) = 0 → (w3_keeps (fun sc1 ar2 => w3_gets (fun sc3 ar4 => post (((ar2 0 6) + 1) / 2) sc3 (va_up ar4 0 (upd (upd (ar4 0) 7 ((ar4 0 7) + (ar4 0 6))) 6 0))) sc1 ar2 (((ar2 0 6) + 1) / 2)) (upd sc 7 0) ar 0)) ∧ ((ar 0 6) = 0 → (w3_refuses (fun r7 sc5 ar6 => post r7 sc5 ar6) (upd sc 7 0) ar 1 10 (ar 0 7)))
theorem hd_X3_sell : yX3_sell.cls = RX3 ∧ yX3_sell.cls ≠ "java/lang/invoke/MethodHandle" ∧ yX3_sell.cls ≠ "java/lang/invoke/VarHandle" ∧ (parseMethodDescriptor yX3_sell.desc).map (fun d => d.parameters.length) = some 0 := by decide +kernel
set_option maxHeartbeats 4000000 in
set_option maxRecDepth 100000 in
theorem m3_sell (l : Launch) (D : va_G) (ac : Nat → ClassId) (mo : Nat) (ad : Nat → Nat) (sc : wS1) (ar : wS2)  (post : Int32 → wS1 → wS2 → Prop) (hw : w3_sell post sc ar ) : wm_Mi l D ac mo ad yX3_sell (ws_ yX3_sell cX3_sell 2 (some .int)) ({ frames := 2, cells := 0, slots := 0, locals := 46 }) [.ref mo] sc ar post := by
  refine wm_ofi (by decide) (Nat.le_of_ble_eq_true rfl) ?_
  intro p e s m below meth c A ls hx hb hr hlk hml hown hts hK hN hAm hA hM hl
  have hl : lv_has ls 2 [(0, .ref mo)] := hl
  unfold w3_sell at hw
  refine lv_aload_n hx hb dX3_sell_0 rfl (lv_at hl 0 rfl) ?_
  refine lv_iconst (v := 0) hx hb dX3_sell_1 (by decide) ?_
  refine wm_put hx hb hts hown hK hN hAm hM 7 (by decide) rfl q1940 rfl rfl rfl dX3_sell_2 (fun H locs hM => ?_)
  refine lv_aload_n hx hb dX3_sell_5 rfl (lv_at hl 0 rfl) ?_
  refine wm_get hx hb hts hown hK hM 0 (by decide) q1933 (v := .ref (ad 0)) rfl dX3_sell_6 ?_
  refine lv_bipush (v := 6) hx hb dX3_sell_9 (by decide) ?_
  refine wm_ald hx hb hK hM (k := 0) rfl vi_6_125 vc_6 (v := ar 0 6) rfl dX3_sell_11 ?_
  refine lv_if_ne (tgt := 30) hx hb dX3_sell_12 (by decide) (fun c_ => ?_) (fun c_ => ?_)
  · replace hw := hw.1 c_
    refine lv_aload_n hx hb dX3_sell_30 rfl (lv_at hl 0 rfl) ?_
    refine lv_aload_n hx hb dX3_sell_31 rfl (lv_at hl 0 rfl) ?_
    refine wm_get hx hb hts hown hK hM 0 (by decide) q1933 (v := .ref (ad 0)) rfl dX3_sell_32 ?_
    refine wm_callVv (As := [.ref (ad 0)]) (rest := []) ⟨hx, hb, hml, hown, hts⟩ hK hN hAm hA hM (m3_keeps l D ac mo ad (upd sc 7 0) ar 0 _ rfl hw) (cwV 1 hts (lw_V q2016 q2018 qs21 q77 q2019) rfl rfl rfl hd_X3_keeps ⟨Nat.le_of_ble_eq_true rfl, Nat.le_of_ble_eq_true rfl⟩) rfl hl.1 rfl (Nat.le_of_ble_eq_true rfl) dX3_sell_35 ⟨Nat.le_refl 0, Nat.le_refl 0⟩ (fun sc1 ar2 H locs hw hM => ?_)
    refine lv_aload_n hx hb dX3_sell_38 rfl (lv_at hl 0 rfl) ?_
    refine wm_get hx hb hts hown hK hM 0 (by decide) q1933 (v := .ref (ad 0)) rfl dX3_sell_39 ?_
    refine lv_bipush (v := 6) hx hb dX3_sell_42 (by decide) ?_
    refine wm_ald hx hb hK hM (k := 0) rfl vi_6_125 vc_6 (v := ar2 0 6) rfl dX3_sell_44 ?_
    refine lv_iconst (v := 1) hx hb dX3_sell_45 (by decide) ?_
    refine lv_iadd hx hb dX3_sell_46 ?_
    refine lv_iconst (v := 2) hx hb dX3_sell_47 (by decide) ?_
    refine lv_idiv hx hb dX3_sell_48 (by decide) ?_
    refine lv_istore_n (lv' := [(1, .int (((ar2 0 6) + 1) / 2)), (0, .ref mo)]) hx hb dX3_sell_49 rfl hl (by decide) rfl (fun ls hl => ?_)
    refine lv_aload_n hx hb dX3_sell_50 rfl (lv_at hl 1 rfl) ?_
    refine lv_iload_n hx hb dX3_sell_51 rfl (lv_at hl 0 rfl) ?_
    refine wm_callVv (As := [.int (((ar2 0 6) + 1) / 2)]) (rest := []) ⟨hx, hb, hml, hown, hts⟩ hK hN hAm hA hM (m3_gets l D ac mo ad sc1 ar2 (((ar2 0 6) + 1) / 2) _ hw) (cwV 1 hts (lw_V q2165 q2167 qs38 q77 q2168) rfl rfl rfl hd_X3_gets ⟨Nat.le_of_ble_eq_true rfl, Nat.le_of_ble_eq_true rfl⟩) rfl hl.1 rfl (Nat.le_of_ble_eq_true rfl) dX3_sell_52 ⟨Nat.le_refl 0, Nat.le_refl 0⟩ (fun sc3 ar4 H locs hw hM => ?_)
    refine lv_aload_n hx hb dX3_sell_55 rfl (lv_at hl 1 rfl) ?_
    refine wm_get hx hb hts hown hK hM 0 (by decide) q1933 (v := .ref (ad 0)) rfl dX3_sell_56 ?_
    refine lv_bipush (v := 7) hx hb dX3_sell_59 (by decide) ?_
    refine lv_dup2_11 hx hb dX3_sell_61 rfl rfl ?_
    refine wm_ald hx hb hK hM (k := 0) rfl vi_7_125 vc_7 (v := ar4 0 7) rfl dX3_sell_62 ?_
    refine lv_aload_n hx hb dX3_sell_63 rfl (lv_at hl 1 rfl) ?_
    refine wm_get hx hb hts hown hK hM 0 (by decide) q1933 (v := .ref (ad 0)) rfl dX3_sell_64 ?_
    refine lv_bipush (v := 6) hx hb dX3_sell_67 (by decide) ?_
    refine wm_ald hx hb hK hM (k := 0) rfl vi_6_125 vc_6 (v := ar4 0 6) rfl dX3_sell_69 ?_
    refine lv_iadd hx hb dX3_sell_70 ?_
    refine wm_ast hx hb hK hN hAm hM (k := 0) rfl vi_7_125 vc_7 (f := ar4 0) rfl dX3_sell_71 (fun H locs hM => ?_)
    refine lv_aload_n hx hb dX3_sell_72 rfl (lv_at hl 1 rfl) ?_
    refine wm_get hx hb hts hown hK hM 0 (by decide) q1933 (v := .ref (ad 0)) rfl dX3_sell_73 ?_
    refine lv_bipush (v := 6) hx hb dX3_sell_76 (by decide) ?_
    refine lv_iconst (v := 0) hx hb dX3_sell_78 (by decide) ?_
    refine wm_ast hx hb hK hN hAm hM (k := 0) rfl vi_6_125 vc_6 (f := upd (ar4 0) 7 ((ar4 0 7) + (ar4 0 6))) rfl dX3_sell_79 (fun H locs hM => ?_)
    rw [bx_uu] at hM
    refine lv_iload_n hx hb dX3_sell_80 rfl (lv_at hl 0 rfl) ?_
    exact wm_reti hx hb hr hlk hM rfl hw dX3_sell_81
  · replace hw := hw.2 c_
    refine lv_aload_n hx hb dX3_sell_15 rfl (lv_at hl 0 rfl) ?_
    refine lv_iconst (v := 1) hx hb dX3_sell_16 (by decide) ?_
    refine lv_bipush (v := 10) hx hb dX3_sell_17 (by decide) ?_
    refine lv_aload_n hx hb dX3_sell_19 rfl (lv_at hl 0 rfl) ?_
    refine wm_get hx hb hts hown hK hM 0 (by decide) q1933 (v := .ref (ad 0)) rfl dX3_sell_20 ?_
    refine lv_bipush (v := 7) hx hb dX3_sell_23 (by decide) ?_
    refine wm_ald hx hb hK hM (k := 0) rfl vi_7_125 vc_7 (v := ar 0 7) rfl dX3_sell_25 ?_
    refine wm_callVi (As := [.int 1, .int 10, .int (ar 0 7)]) (rest := []) ⟨hx, hb, hml, hown, hts⟩ hK hN hAm hA hM (m3_refuses l D ac mo ad (upd sc 7 0) ar 1 10 (ar 0 7) _ hw) (cwV 3 hts (lw_V q2012 q2014 qs20 q77 q2015) rfl rfl rfl hd_X3_refuses ⟨Nat.le_of_ble_eq_true rfl, Nat.le_of_ble_eq_true rfl⟩) rfl hl.1 rfl (Nat.le_of_ble_eq_true rfl) dX3_sell_26 ⟨Nat.le_refl 0, Nat.le_refl 0⟩ (fun r7 sc5 ar6 H locs hw hM => ?_)
    exact wm_reti hx hb hr hlk hM rfl hw dX3_sell_29
def w3_hourGoes_L90 (post : Int32 → wS1 → wS2 → Prop) (k33 : Int32 → Int32 → wS1 → wS2 → Prop) (x1 : Int32) (x2 : Int32) (sc : wS1) (ar : wS2) : Prop := k33 x1 (x2 + 1) sc ar
def w3_hourGoes_L33 (post : Int32 → wS1 → wS2 → Prop) : Nat → Int32 → Int32 → wS1 → wS2 → Prop
  | 0, _, _, _, _ => False
  | n + 1, x1, x2, sc, ar => ((ar 0 87) ≤ x2 → (post x1 sc (va_up ar 0 (upd (ar 0) 0 ((ar 0 0) + 1))))) ∧ (¬ (ar 0 87) ≤ x2 → (w3_ofKiln (fun r4 sc2 ar3 => (0 ≤ r4 → (w3_ofKiln (fun r7 sc5 ar6 => w3_laysKiln (fun sc8 ar9 => w3_ofKiln (fun r12 sc10 ar11 => (r12 ≤ 0 → (w3_isFired (fun sc13 ar14 => w3_hourGoes_L90 post (fun x1' x2' sc' ar' => w3_hourGoes_L33 post  n x1' x2' sc' ar') (x1 + 1) x2 sc13 ar14) sc10 ar11 x2)) ∧ (¬ r12 ≤ 0 → (w3_hourGoes_L90 post (fun x1' x2' sc' ar' => w3_hourGoes_L33 post  n x1' x2' sc' ar') x1 x2 sc10 ar11))) sc8 ar9 x2 2) sc5 ar6 x2 2 (r7 - 1)) sc2 ar3 x2 2)) ∧ (¬ 0 ≤ r4 → (w3_hourGoes_L90 post (fun x1' x2' sc' ar' => w3_hourGoes_L33 post  n x1' x2' sc' ar') x1 x2 sc2 ar3))) sc ar x2 1))
def w3_hourGoes_L29 (post : Int32 → wS1 → wS2 → Prop)  (sc : wS1) (ar : wS2) : Prop := (∃ n, w3_hourGoes_L33 post  n 0 0 sc ar)
def w3_hourGoes (post : Int32 → wS1 → wS2 → Prop) (sc : wS1) (ar : wS2)  : Prop := (¬ ((ar 0 0) - (ar 0 0) / 3 * 3) = 0 → (w3_hourGoes_L29 post  sc ar)) ∧ (((ar 0 0) - (ar 0 0) / 3 * 3) = 0 → (w3_more (fun r1 => w3_hourGoes_L29 post  sc (va_up ar 0 (upd (ar 0) 1 r1))) 0 ((ar 0 1) - 1)))
theorem hd_X3_hourGoes : yX3_hourGoes.cls = RX3 ∧ yX3_hourGoes.cls ≠ "java/lang/invoke/MethodHandle" ∧ yX3_hourGoes.cls ≠ "java/lang/invoke/VarHandle" ∧ (parseMethodDescriptor yX3_hourGoes.desc).map (fun d => d.parameters.length) = some 0 := by decide +kernel
set_option maxHeartbeats 4000000 in
set_option maxRecDepth 100000 in
theorem m3_hourGoes (l : Launch) (D : va_G) (ac : Nat → ClassId) (mo : Nat) (ad : Nat → Nat) (sc : wS1) (ar : wS2)  (post : Int32 → wS1 → wS2 → Prop) (hw : w3_hourGoes post sc ar ) : wm_Mi l D ac mo ad yX3_hourGoes (ws_ yX3_hourGoes cX3_hourGoes 3 (some .int)) ({ frames := 3, cells := 0, slots := 0, locals := 67 }) [.ref mo] sc ar post := by
  refine wm_ofi (by decide) (Nat.le_of_ble_eq_true rfl) ?_
  intro p e s m below meth c A ls hx hb hr hlk hml hown hts hK hN hAm hA hM hl
  have hl : lv_has ls 3 [(0, .ref mo)] := hl
  unfold w3_hourGoes at hw
  have hL90 : ∀ (k33 : Int32 → Int32 → wS1 → wS2 → Prop) (hk33 : ∀ (x1 : Int32) (x2 : Int32) (sc : wS1) (ar : wS2) (H : Heap) (locs : List Loc) (ls : Array Slot), wm_S D ac A s.heap mo ad sc ar H locs → lv_has ls 3 [(0, .ref mo), (1, .int x1), (2, .int x2)] → k33 x1 x2 sc ar → W p l e (headSpec (ws_ yX3_hourGoes cX3_hourGoes 3 (some .int)) ({ frames := 3, cells := 0, slots := 0, locals := 67 })).room s m ([.ref mo] : List Value).toArray below meth c H locs 0 0 (MQ below (va_Qi (S := wU) (fun r u => post r u.1 u.2) (wm_B D ac mo ad) A) ([.ref mo] : List Value).toArray s 0 0 A) (F0 m 33 ls [])) (x1 : Int32) (x2 : Int32) (sc : wS1) (ar : wS2) (H : Heap) (locs : List Loc) (ls : Array Slot), wm_S D ac A s.heap mo ad sc ar H locs → lv_has ls 3 [(0, .ref mo), (1, .int x1), (2, .int x2)] → w3_hourGoes_L90 post k33 x1 x2 sc ar → W p l e (headSpec (ws_ yX3_hourGoes cX3_hourGoes 3 (some .int)) ({ frames := 3, cells := 0, slots := 0, locals := 67 })).room s m ([.ref mo] : List Value).toArray below meth c H locs 0 0 (MQ below (va_Qi (S := wU) (fun r u => post r u.1 u.2) (wm_B D ac mo ad) A) ([.ref mo] : List Value).toArray s 0 0 A) (F0 m 90 ls []) := by
    intro k33 hk33 x1 x2 sc ar H locs ls hM hl hw
    unfold w3_hourGoes_L90 at hw
    refine lv_iinc (v := x2 + 1) (lv' := [(2, .int (x2 + 1)), (0, .ref mo), (1, .int x1)]) hx hb dX3_hourGoes_90 hl (k := 2) rfl rfl (by decide) rfl (fun ls hl => ?_)
    refine lv_goto (tgt := 33) hx hb dX3_hourGoes_93 (by decide) ?_
    exact hk33 x1 (x2 + 1) sc ar _ _ ls hM (lv_sub hl [1, 2, 0] rfl) hw
  have hL33 : ∀ (n : Nat) (x1 : Int32) (x2 : Int32) (sc : wS1) (ar : wS2) (H : Heap) (locs : List Loc) (ls : Array Slot), wm_S D ac A s.heap mo ad sc ar H locs → lv_has ls 3 [(0, .ref mo), (1, .int x1), (2, .int x2)] → w3_hourGoes_L33 post n x1 x2 sc ar → W p l e (headSpec (ws_ yX3_hourGoes cX3_hourGoes 3 (some .int)) ({ frames := 3, cells := 0, slots := 0, locals := 67 })).room s m ([.ref mo] : List Value).toArray below meth c H locs 0 0 (MQ below (va_Qi (S := wU) (fun r u => post r u.1 u.2) (wm_B D ac mo ad) A) ([.ref mo] : List Value).toArray s 0 0 A) (F0 m 33 ls []) := by
    intro n
    induction n with
    | zero => exact fun _ _ _ _ _ _ _ _ _ hw => hw.elim
    | succ n ih =>
      intro x1 x2 sc ar H locs ls hM hl hw
      unfold w3_hourGoes_L33 at hw
      refine lv_iload_n hx hb dX3_hourGoes_33 rfl (lv_at hl 2 rfl) ?_
      refine lv_aload_n hx hb dX3_hourGoes_34 rfl (lv_at hl 0 rfl) ?_
      refine wm_get hx hb hts hown hK hM 0 (by decide) q1933 (v := .ref (ad 0)) rfl dX3_hourGoes_35 ?_
      refine lv_bipush (v := 87) hx hb dX3_hourGoes_38 (by decide) ?_
      refine wm_ald hx hb hK hM (k := 0) rfl vi_87_125 vc_87 (v := ar 0 87) rfl dX3_hourGoes_40 ?_
      refine lv_icmp_ge (tgt := 96) hx hb dX3_hourGoes_41 (by decide) (fun c_ => ?_) (fun c_ => ?_)
      · replace hw := hw.1 c_
        refine lv_aload_n hx hb dX3_hourGoes_96 rfl (lv_at hl 0 rfl) ?_
        refine wm_get hx hb hts hown hK hM 0 (by decide) q1933 (v := .ref (ad 0)) rfl dX3_hourGoes_97 ?_
        refine lv_iconst (v := 0) hx hb dX3_hourGoes_100 (by decide) ?_
        refine lv_dup2_11 hx hb dX3_hourGoes_101 rfl rfl ?_
        refine wm_ald hx hb hK hM (k := 0) rfl vi_0_125 vc_0 (v := ar 0 0) rfl dX3_hourGoes_102 ?_
        refine lv_iconst (v := 1) hx hb dX3_hourGoes_103 (by decide) ?_
        refine lv_iadd hx hb dX3_hourGoes_104 ?_
        refine wm_ast hx hb hK hN hAm hM (k := 0) rfl vi_0_125 vc_0 (f := ar 0) rfl dX3_hourGoes_105 (fun H locs hM => ?_)
        refine lv_iload_n hx hb dX3_hourGoes_106 rfl (lv_at hl 1 rfl) ?_
        exact wm_reti hx hb hr hlk hM rfl hw dX3_hourGoes_107
      · replace hw := hw.2 c_
        refine lv_aload_n hx hb dX3_hourGoes_44 rfl (lv_at hl 0 rfl) ?_
        refine lv_iload_n hx hb dX3_hourGoes_45 rfl (lv_at hl 2 rfl) ?_
        refine lv_iconst (v := 1) hx hb dX3_hourGoes_46 (by decide) ?_
        refine wm_callVi (As := [.int x2, .int 1]) (rest := []) ⟨hx, hb, hml, hown, hts⟩ hK hN hAm hA hM (m3_ofKiln l D ac mo ad sc ar x2 1 _ hw) (cwV 2 hts (lw_V q2085 q2087 qs29 q77 q2088) rfl rfl rfl hd_X3_ofKiln ⟨Nat.le_of_ble_eq_true rfl, Nat.le_of_ble_eq_true rfl⟩) rfl hl.1 rfl (Nat.le_of_ble_eq_true rfl) dX3_hourGoes_47 ⟨Nat.le_refl 0, Nat.le_refl 0⟩ (fun r4 sc2 ar3 H locs hw hM => ?_)
        refine lv_if_ge (tgt := 56) hx hb dX3_hourGoes_50 (by decide) (fun c_ => ?_) (fun c_ => ?_)
        · replace hw := hw.1 c_
          refine lv_aload_n hx hb dX3_hourGoes_56 rfl (lv_at hl 0 rfl) ?_
          refine lv_iload_n hx hb dX3_hourGoes_57 rfl (lv_at hl 2 rfl) ?_
          refine lv_iconst (v := 2) hx hb dX3_hourGoes_58 (by decide) ?_
          refine lv_aload_n hx hb dX3_hourGoes_59 rfl (lv_at hl 0 rfl) ?_
          refine lv_iload_n hx hb dX3_hourGoes_60 rfl (lv_at hl 2 rfl) ?_
          refine lv_iconst (v := 2) hx hb dX3_hourGoes_61 (by decide) ?_
          refine wm_callVi (As := [.int x2, .int 2]) (rest := [.int 2, .int x2, .ref mo]) ⟨hx, hb, hml, hown, hts⟩ hK hN hAm hA hM (m3_ofKiln l D ac mo ad sc2 ar3 x2 2 _ hw) (cwV 2 hts (lw_V q2085 q2087 qs29 q77 q2088) rfl rfl rfl hd_X3_ofKiln ⟨Nat.le_of_ble_eq_true rfl, Nat.le_of_ble_eq_true rfl⟩) rfl hl.1 rfl (Nat.le_of_ble_eq_true rfl) dX3_hourGoes_62 ⟨Nat.le_refl 0, Nat.le_refl 0⟩ (fun r7 sc5 ar6 H locs hw hM => ?_)
          refine lv_iconst (v := 1) hx hb dX3_hourGoes_65 (by decide) ?_
          refine lv_isub hx hb dX3_hourGoes_66 ?_
          refine wm_callVv (As := [.int x2, .int 2, .int (r7 - 1)]) (rest := []) ⟨hx, hb, hml, hown, hts⟩ hK hN hAm hA hM (m3_laysKiln l D ac mo ad sc5 ar6 x2 2 (r7 - 1) _ hw) (cwV 3 hts (lw_V q2097 q2099 qs30 q77 q2100) rfl rfl rfl hd_X3_laysKiln ⟨Nat.le_of_ble_eq_true rfl, Nat.le_of_ble_eq_true rfl⟩) rfl hl.1 rfl (Nat.le_of_ble_eq_true rfl) dX3_hourGoes_67 ⟨Nat.le_refl 0, Nat.le_refl 0⟩ (fun sc8 ar9 H locs hw hM => ?_)
          refine lv_aload_n hx hb dX3_hourGoes_70 rfl (lv_at hl 0 rfl) ?_
          refine lv_iload_n hx hb dX3_hourGoes_71 rfl (lv_at hl 2 rfl) ?_
          refine lv_iconst (v := 2) hx hb dX3_hourGoes_72 (by decide) ?_
          refine wm_callVi (As := [.int x2, .int 2]) (rest := []) ⟨hx, hb, hml, hown, hts⟩ hK hN hAm hA hM (m3_ofKiln l D ac mo ad sc8 ar9 x2 2 _ hw) (cwV 2 hts (lw_V q2085 q2087 qs29 q77 q2088) rfl rfl rfl hd_X3_ofKiln ⟨Nat.le_of_ble_eq_true rfl, Nat.le_of_ble_eq_true rfl⟩) rfl hl.1 rfl (Nat.le_of_ble_eq_true rfl) dX3_hourGoes_73 ⟨Nat.le_refl 0, Nat.le_refl 0⟩ (fun r12 sc10 ar11 H locs hw hM => ?_)
          refine lv_if_le (tgt := 82) hx hb dX3_hourGoes_76 (by decide) (fun c_ => ?_) (fun c_ => ?_)
          · replace hw := hw.1 c_
            refine lv_aload_n hx hb dX3_hourGoes_82 rfl (lv_at hl 0 rfl) ?_
            refine lv_iload_n hx hb dX3_hourGoes_83 rfl (lv_at hl 2 rfl) ?_
            refine wm_callVv (As := [.int x2]) (rest := []) ⟨hx, hb, hml, hown, hts⟩ hK hN hAm hA hM (m3_isFired l D ac mo ad sc10 ar11 x2 _ hw) (cwV 1 hts (lw_V q2181 q2183 qs40 q77 q2184) rfl rfl rfl hd_X3_isFired ⟨Nat.le_of_ble_eq_true rfl, Nat.le_of_ble_eq_true rfl⟩) rfl hl.1 rfl (Nat.le_of_ble_eq_true rfl) dX3_hourGoes_84 ⟨Nat.le_refl 0, Nat.le_refl 0⟩ (fun sc13 ar14 H locs hw hM => ?_)
            refine lv_iinc (v := x1 + 1) (lv' := [(1, .int (x1 + 1)), (0, .ref mo), (2, .int x2)]) hx hb dX3_hourGoes_87 hl (k := 1) rfl rfl (by decide) rfl (fun ls hl => ?_)
            exact hL90 (fun x1' x2' sc' ar' => w3_hourGoes_L33 post  n x1' x2' sc' ar') (fun x1' x2' sc' ar' H locs ls hM hl hw => ih x1' x2' sc' ar' H locs ls hM hl hw) (x1 + 1) x2 sc13 ar14 _ _ ls hM (lv_sub hl [1, 0, 2] rfl) hw
          · replace hw := hw.2 c_
            refine lv_goto (tgt := 90) hx hb dX3_hourGoes_79 (by decide) ?_
            exact hL90 (fun x1' x2' sc' ar' => w3_hourGoes_L33 post  n x1' x2' sc' ar') (fun x1' x2' sc' ar' H locs ls hM hl hw => ih x1' x2' sc' ar' H locs ls hM hl hw) x1 x2 sc10 ar11 _ _ ls hM (lv_sub hl [0, 1, 2] rfl) hw
        · replace hw := hw.2 c_
          refine lv_goto (tgt := 90) hx hb dX3_hourGoes_53 (by decide) ?_
          exact hL90 (fun x1' x2' sc' ar' => w3_hourGoes_L33 post  n x1' x2' sc' ar') (fun x1' x2' sc' ar' H locs ls hM hl hw => ih x1' x2' sc' ar' H locs ls hM hl hw) x1 x2 sc2 ar3 _ _ ls hM (lv_sub hl [0, 1, 2] rfl) hw
  have hL29 : ∀ (sc : wS1) (ar : wS2) (H : Heap) (locs : List Loc) (ls : Array Slot), wm_S D ac A s.heap mo ad sc ar H locs → lv_has ls 3 [(0, .ref mo)] → w3_hourGoes_L29 post sc ar → W p l e (headSpec (ws_ yX3_hourGoes cX3_hourGoes 3 (some .int)) ({ frames := 3, cells := 0, slots := 0, locals := 67 })).room s m ([.ref mo] : List Value).toArray below meth c H locs 0 0 (MQ below (va_Qi (S := wU) (fun r u => post r u.1 u.2) (wm_B D ac mo ad) A) ([.ref mo] : List Value).toArray s 0 0 A) (F0 m 29 ls []) := by
    intro sc ar H locs ls hM hl hw
    unfold w3_hourGoes_L29 at hw
    refine lv_iconst (v := 0) hx hb dX3_hourGoes_29 (by decide) ?_
    refine lv_istore_n (lv' := [(1, .int 0), (0, .ref mo)]) hx hb dX3_hourGoes_30 rfl hl (by decide) rfl (fun ls hl => ?_)
    refine lv_iconst (v := 0) hx hb dX3_hourGoes_31 (by decide) ?_
    refine lv_istore_n (lv' := [(2, .int 0), (1, .int 0), (0, .ref mo)]) hx hb dX3_hourGoes_32 rfl hl (by decide) rfl (fun ls hl => ?_)
    obtain ⟨n0, hw⟩ := hw
    exact hL33  n0 0 0 sc ar _ _ ls hM (lv_sub hl [2, 1, 0] rfl) hw
  refine lv_aload_n hx hb dX3_hourGoes_0 rfl (lv_at hl 0 rfl) ?_
  refine wm_get hx hb hts hown hK hM 0 (by decide) q1933 (v := .ref (ad 0)) rfl dX3_hourGoes_1 ?_
  refine lv_iconst (v := 0) hx hb dX3_hourGoes_4 (by decide) ?_
  refine wm_ald hx hb hK hM (k := 0) rfl vi_0_125 vc_0 (v := ar 0 0) rfl dX3_hourGoes_5 ?_
  refine lv_iconst (v := 3) hx hb dX3_hourGoes_6 (by decide) ?_
  refine lv_irem hx hb dX3_hourGoes_7 (by decide) ?_
  refine lv_if_ne (tgt := 29) hx hb dX3_hourGoes_8 (by decide) (fun c_ => ?_) (fun c_ => ?_)
  · replace hw := hw.1 c_
    exact hL29  sc ar _ _ ls hM (lv_sub hl [0] rfl) hw
  · replace hw := hw.2 c_
    refine lv_aload_n hx hb dX3_hourGoes_11 rfl (lv_at hl 0 rfl) ?_
    refine wm_get hx hb hts hown hK hM 0 (by decide) q1933 (v := .ref (ad 0)) rfl dX3_hourGoes_12 ?_
    refine lv_iconst (v := 1) hx hb dX3_hourGoes_15 (by decide) ?_
    refine lv_iconst (v := 0) hx hb dX3_hourGoes_16 (by decide) ?_
    refine lv_aload_n hx hb dX3_hourGoes_17 rfl (lv_at hl 0 rfl) ?_
    refine wm_get hx hb hts hown hK hM 0 (by decide) q1933 (v := .ref (ad 0)) rfl dX3_hourGoes_18 ?_
    refine lv_iconst (v := 1) hx hb dX3_hourGoes_21 (by decide) ?_
    refine wm_ald hx hb hK hM (k := 0) rfl vi_1_125 vc_1 (v := ar 0 1) rfl dX3_hourGoes_22 ?_
    refine lv_iconst (v := 1) hx hb dX3_hourGoes_23 (by decide) ?_
    refine lv_isub hx hb dX3_hourGoes_24 ?_
    refine wm_callPi (As := [.int 0, .int ((ar 0 1) - 1)]) (rest := [.int 1, .ref (ad 0)]) ⟨hx, hb, hml, hown, hts⟩ hA hM (m3_more l 0 ((ar 0 1) - 1) _ hw) (va_cwS 2 hts (lw_S q2054 q2055 q77 q2056) rfl rfl rfl hd_X3_more ⟨Nat.le_of_ble_eq_true rfl, Nat.le_of_ble_eq_true rfl⟩) rfl hl.1 rfl (Nat.le_of_ble_eq_true rfl) dX3_hourGoes_25 ⟨Nat.le_refl 0, Nat.le_refl 0⟩ (fun r1 H locs hw hM => ?_)
    refine wm_ast hx hb hK hN hAm hM (k := 0) rfl vi_1_125 vc_1 (f := ar 0) rfl dX3_hourGoes_28 (fun H locs hM => ?_)
    exact hL29  sc (va_up ar 0 (upd (ar 0) 1 r1)) _ _ ls hM (lv_sub hl [0] rfl) hw
def w3_account_L16 (post : Int32 → wS1 → wS2 → Prop) (x1 : Int32) (t0 : Int32) (sc : wS1) (ar : wS2) : Prop := w3_fails (fun r4 sc2 ar3 => (r4 = 0 → ((x1 = 0 → (vp_in x1 125 ∧ (post (ar3 0 x1.toNatClampNeg) sc2 ar3))) ∧ (x1 = 1 → (vp_in x1 125 ∧ (post (ar3 0 x1.toNatClampNeg) sc2 ar3))) ∧ (x1 = 2 → (vp_in x1 125 ∧ (post (ar3 0 x1.toNatClampNeg) sc2 ar3))) ∧ (x1 = 3 → (vp_in x1 125 ∧ (post (ar3 0 x1.toNatClampNeg) sc2 ar3))) ∧ (x1 = 4 → (post (ar3 0 10) sc2 ar3)) ∧ (x1 = 5 → (post (ar3 0 26) sc2 ar3)) ∧ (x1 = 6 → (post (ar3 0 4) sc2 ar3)) ∧ (x1 = 7 → (w3_allPlates (fun r7 sc5 ar6 => post r7 sc5 ar6) sc2 ar3 0)) ∧ (x1 = 8 → (w3_allPlates (fun r10 sc8 ar9 => post r10 sc8 ar9) sc2 ar3 3)) ∧ (x1 = 9 → (w3_packed (fun r13 sc11 ar12 => post r13 sc11 ar12) sc2 ar3 )) ∧ (x1 = 10 → (post (ar3 0 5) sc2 ar3)) ∧ (x1 = 11 → (post (ar3 0 6) sc2 ar3)) ∧ (x1 = 12 → (post (ar3 0 7) sc2 ar3)) ∧ (x1 = 13 → (post (ar3 0 87) sc2 ar3)) ∧ (x1 = 14 → (w3_burning (fun r16 sc14 ar15 => post r16 sc14 ar15) sc2 ar3 )) ∧ (x1 = 15 → (post (ar3 0 100) sc2 ar3)) ∧ (x1 = 16 → (post (ar3 0 8) sc2 ar3)) ∧ (x1 = 17 → (post (ar3 0 9) sc2 ar3)) ∧ (x1 = 18 → (post (sc2 11) sc2 ar3)) ∧ (x1.toInt < 0 ∨ 18 < x1.toInt → (post (sc2 5) sc2 ar3)))) ∧ (¬ r4 = 0 → (post 0 sc2 ar3))) sc ar t0
def w3_account (post : Int32 → wS1 → wS2 → Prop) (sc : wS1) (ar : wS2) (p1 : Int32) : Prop := w3_in (fun r1 => (r1 = 0 → (w3_account_L16 post  p1 1 sc ar)) ∧ (¬ r1 = 0 → (w3_account_L16 post  p1 0 sc ar))) p1 0 19
theorem hd_X3_account : yX3_account.cls = RX3 ∧ yX3_account.cls ≠ "java/lang/invoke/MethodHandle" ∧ yX3_account.cls ≠ "java/lang/invoke/VarHandle" ∧ (parseMethodDescriptor yX3_account.desc).map (fun d => d.parameters.length) = some 1 := by decide +kernel
set_option maxHeartbeats 4000000 in
set_option maxRecDepth 100000 in
theorem m3_account (l : Launch) (D : va_G) (ac : Nat → ClassId) (mo : Nat) (ad : Nat → Nat) (sc : wS1) (ar : wS2) (p1 : Int32) (post : Int32 → wS1 → wS2 → Prop) (hw : w3_account post sc ar p1) : wm_Mi l D ac mo ad yX3_account (ws_ yX3_account cX3_account 2 (some .int)) ({ frames := 2, cells := 0, slots := 0, locals := 45 }) [.ref mo, .int p1] sc ar post := by
  refine wm_ofi (by decide) (Nat.le_of_ble_eq_true rfl) ?_
  intro p e s m below meth c A ls hx hb hr hlk hml hown hts hK hN hAm hA hM hl
  have hl : lv_has ls 2 [(0, .ref mo), (1, .int p1)] := hl
  unfold w3_account at hw
  have hL16 : ∀ (x1 : Int32) (t0 : Int32) (sc : wS1) (ar : wS2) (H : Heap) (locs : List Loc) (ls : Array Slot), wm_S D ac A s.heap mo ad sc ar H locs → lv_has ls 2 [(0, .ref mo), (1, .int x1)] → w3_account_L16 post x1 t0 sc ar → W p l e (headSpec (ws_ yX3_account cX3_account 2 (some .int)) ({ frames := 2, cells := 0, slots := 0, locals := 45 })).room s m ([.ref mo, .int p1] : List Value).toArray below meth c H locs 0 0 (MQ below (va_Qi (S := wU) (fun r u => post r u.1 u.2) (wm_B D ac mo ad) A) ([.ref mo, .int p1] : List Value).toArray s 0 0 A) (F0 m 16 ls [.int t0, .ref mo]) := by
    intro x1 t0 sc ar H locs ls hM hl hw
    unfold w3_account_L16 at hw
    refine wm_callVi (As := [.int t0]) (rest := []) ⟨hx, hb, hml, hown, hts⟩ hK hN hAm hA hM (m3_fails l D ac mo ad sc ar t0 _ hw) (cwV 1 hts (lw_V q2008 q2010 qs19 q77 q2011) rfl rfl rfl hd_X3_fails ⟨Nat.le_of_ble_eq_true rfl, Nat.le_of_ble_eq_true rfl⟩) rfl hl.1 rfl (Nat.le_of_ble_eq_true rfl) dX3_account_16 ⟨Nat.le_refl 0, Nat.le_refl 0⟩ (fun r4 sc2 ar3 H locs hw hM => ?_)
    refine lv_if_eq (tgt := 24) hx hb dX3_account_19 (by decide) (fun c_ => ?_) (fun c_ => ?_)
    · replace hw := hw.1 c_
      refine lv_iload_n hx hb dX3_account_24 rfl (lv_at hl 1 rfl) ?_
      by_cases ho_ : x1.toInt < 0 ∨ 18 < x1.toInt
      · refine lv_tableOut (tgt := 228) hx hb dX3_account_25 ho_ (by decide) ?_
        replace hw := hw.2.2.2.2.2.2.2.2.2.2.2.2.2.2.2.2.2.2.2 ho_
        refine lv_aload_n hx hb dX3_account_228 rfl (lv_at hl 0 rfl) ?_
        refine wm_get hx hb hts hown hK hM 5 (by decide) q1938 (v := .int (sc2 5)) rfl dX3_account_229 ?_
        exact wm_reti hx hb hr hlk hM rfl hw dX3_account_232
      · have hi_ : x1.toInt = 0 ∨ x1.toInt = 1 ∨ x1.toInt = 2 ∨ x1.toInt = 3 ∨ x1.toInt = 4 ∨ x1.toInt = 5 ∨ x1.toInt = 6 ∨ x1.toInt = 7 ∨ x1.toInt = 8 ∨ x1.toInt = 9 ∨ x1.toInt = 10 ∨ x1.toInt = 11 ∨ x1.toInt = 12 ∨ x1.toInt = 13 ∨ x1.toInt = 14 ∨ x1.toInt = 15 ∨ x1.toInt = 16 ∨ x1.toInt = 17 ∨ x1.toInt = 18 := by omega
        rcases hi_ with hi_ | hi_ | hi_ | hi_ | hi_ | hi_ | hi_ | hi_ | hi_ | hi_ | hi_ | hi_ | hi_ | hi_ | hi_ | hi_ | hi_ | hi_ | hi_
        · have hk_ : x1 = (0 : Int32) := Int32.toInt_inj.mp (by rw [hi_]; rfl)
          refine lv_tableIn (off := 91) (tgt := 116) hx hb dX3_account_25 (by rw [hk_]; decide) (by rw [hk_]; decide) (by rw [hk_]; rfl) (by decide) ?_
          replace hw := hw.1 hk_
          refine lv_aload_n hx hb dX3_account_116 rfl (lv_at hl 0 rfl) ?_
          refine wm_get hx hb hts hown hK hM 0 (by decide) q1933 (v := .ref (ad 0)) rfl dX3_account_117 ?_
          refine lv_iload_n hx hb dX3_account_120 rfl (lv_at hl 1 rfl) ?_
          refine wm_ald hx hb hK hM (k := 0) rfl hw.1 rfl (v := ar3 0 x1.toNatClampNeg) rfl dX3_account_121 ?_
          replace hw := hw.2
          exact wm_reti hx hb hr hlk hM rfl hw dX3_account_122
        · have hk_ : x1 = (1 : Int32) := Int32.toInt_inj.mp (by rw [hi_]; rfl)
          refine lv_tableIn (off := 91) (tgt := 116) hx hb dX3_account_25 (by rw [hk_]; decide) (by rw [hk_]; decide) (by rw [hk_]; rfl) (by decide) ?_
          replace hw := hw.2.1 hk_
          refine lv_aload_n hx hb dX3_account_116 rfl (lv_at hl 0 rfl) ?_
          refine wm_get hx hb hts hown hK hM 0 (by decide) q1933 (v := .ref (ad 0)) rfl dX3_account_117 ?_
          refine lv_iload_n hx hb dX3_account_120 rfl (lv_at hl 1 rfl) ?_
          refine wm_ald hx hb hK hM (k := 0) rfl hw.1 rfl (v := ar3 0 x1.toNatClampNeg) rfl dX3_account_121 ?_
          replace hw := hw.2
          exact wm_reti hx hb hr hlk hM rfl hw dX3_account_122
        · have hk_ : x1 = (2 : Int32) := Int32.toInt_inj.mp (by rw [hi_]; rfl)
          refine lv_tableIn (off := 91) (tgt := 116) hx hb dX3_account_25 (by rw [hk_]; decide) (by rw [hk_]; decide) (by rw [hk_]; rfl) (by decide) ?_
          replace hw := hw.2.2.1 hk_
          refine lv_aload_n hx hb dX3_account_116 rfl (lv_at hl 0 rfl) ?_
          refine wm_get hx hb hts hown hK hM 0 (by decide) q1933 (v := .ref (ad 0)) rfl dX3_account_117 ?_
          refine lv_iload_n hx hb dX3_account_120 rfl (lv_at hl 1 rfl) ?_
          refine wm_ald hx hb hK hM (k := 0) rfl hw.1 rfl (v := ar3 0 x1.toNatClampNeg) rfl dX3_account_121 ?_
          replace hw := hw.2
          exact wm_reti hx hb hr hlk hM rfl hw dX3_account_122
        · have hk_ : x1 = (3 : Int32) := Int32.toInt_inj.mp (by rw [hi_]; rfl)
          refine lv_tableIn (off := 91) (tgt := 116) hx hb dX3_account_25 (by rw [hk_]; decide) (by rw [hk_]; decide) (by rw [hk_]; rfl) (by decide) ?_
          replace hw := hw.2.2.2.1 hk_
          refine lv_aload_n hx hb dX3_account_116 rfl (lv_at hl 0 rfl) ?_
          refine wm_get hx hb hts hown hK hM 0 (by decide) q1933 (v := .ref (ad 0)) rfl dX3_account_117 ?_
          refine lv_iload_n hx hb dX3_account_120 rfl (lv_at hl 1 rfl) ?_
          refine wm_ald hx hb hK hM (k := 0) rfl hw.1 rfl (v := ar3 0 x1.toNatClampNeg) rfl dX3_account_121 ?_
          replace hw := hw.2
          exact wm_reti hx hb hr hlk hM rfl hw dX3_account_122
        · have hk_ : x1 = (4 : Int32) := Int32.toInt_inj.mp (by rw [hi_]; rfl)
          refine lv_tableIn (off := 98) (tgt := 123) hx hb dX3_account_25 (by rw [hk_]; decide) (by rw [hk_]; decide) (by rw [hk_]; rfl) (by decide) ?_
          replace hw := hw.2.2.2.2.1 hk_
          refine lv_aload_n hx hb dX3_account_123 rfl (lv_at hl 0 rfl) ?_
          refine wm_get hx hb hts hown hK hM 0 (by decide) q1933 (v := .ref (ad 0)) rfl dX3_account_124 ?_
          refine lv_bipush (v := 10) hx hb dX3_account_127 (by decide) ?_
          refine wm_ald hx hb hK hM (k := 0) rfl vi_10_125 vc_10 (v := ar3 0 10) rfl dX3_account_129 ?_
          exact wm_reti hx hb hr hlk hM rfl hw dX3_account_130
        · have hk_ : x1 = (5 : Int32) := Int32.toInt_inj.mp (by rw [hi_]; rfl)
          refine lv_tableIn (off := 106) (tgt := 131) hx hb dX3_account_25 (by rw [hk_]; decide) (by rw [hk_]; decide) (by rw [hk_]; rfl) (by decide) ?_
          replace hw := hw.2.2.2.2.2.1 hk_
          refine lv_aload_n hx hb dX3_account_131 rfl (lv_at hl 0 rfl) ?_
          refine wm_get hx hb hts hown hK hM 0 (by decide) q1933 (v := .ref (ad 0)) rfl dX3_account_132 ?_
          refine lv_bipush (v := 26) hx hb dX3_account_135 (by decide) ?_
          refine wm_ald hx hb hK hM (k := 0) rfl vi_26_125 vc_26 (v := ar3 0 26) rfl dX3_account_137 ?_
          exact wm_reti hx hb hr hlk hM rfl hw dX3_account_138
        · have hk_ : x1 = (6 : Int32) := Int32.toInt_inj.mp (by rw [hi_]; rfl)
          refine lv_tableIn (off := 114) (tgt := 139) hx hb dX3_account_25 (by rw [hk_]; decide) (by rw [hk_]; decide) (by rw [hk_]; rfl) (by decide) ?_
          replace hw := hw.2.2.2.2.2.2.1 hk_
          refine lv_aload_n hx hb dX3_account_139 rfl (lv_at hl 0 rfl) ?_
          refine wm_get hx hb hts hown hK hM 0 (by decide) q1933 (v := .ref (ad 0)) rfl dX3_account_140 ?_
          refine lv_iconst (v := 4) hx hb dX3_account_143 (by decide) ?_
          refine wm_ald hx hb hK hM (k := 0) rfl vi_4_125 vc_4 (v := ar3 0 4) rfl dX3_account_144 ?_
          exact wm_reti hx hb hr hlk hM rfl hw dX3_account_145
        · have hk_ : x1 = (7 : Int32) := Int32.toInt_inj.mp (by rw [hi_]; rfl)
          refine lv_tableIn (off := 121) (tgt := 146) hx hb dX3_account_25 (by rw [hk_]; decide) (by rw [hk_]; decide) (by rw [hk_]; rfl) (by decide) ?_
          replace hw := hw.2.2.2.2.2.2.2.1 hk_
          refine lv_aload_n hx hb dX3_account_146 rfl (lv_at hl 0 rfl) ?_
          refine lv_iconst (v := 0) hx hb dX3_account_147 (by decide) ?_
          refine wm_callVi (As := [.int 0]) (rest := []) ⟨hx, hb, hml, hown, hts⟩ hK hN hAm hA hM (m3_allPlates l D ac mo ad sc2 ar3 0 _ hw) (cwV 1 hts (lw_V q2225 q2227 qs44 q77 q2228) rfl rfl rfl hd_X3_allPlates ⟨Nat.le_of_ble_eq_true rfl, Nat.le_of_ble_eq_true rfl⟩) rfl hl.1 rfl (Nat.le_of_ble_eq_true rfl) dX3_account_148 ⟨Nat.le_refl 0, Nat.le_refl 0⟩ (fun r7 sc5 ar6 H locs hw hM => ?_)
          exact wm_reti hx hb hr hlk hM rfl hw dX3_account_151
        · have hk_ : x1 = (8 : Int32) := Int32.toInt_inj.mp (by rw [hi_]; rfl)
          refine lv_tableIn (off := 127) (tgt := 152) hx hb dX3_account_25 (by rw [hk_]; decide) (by rw [hk_]; decide) (by rw [hk_]; rfl) (by decide) ?_
          replace hw := hw.2.2.2.2.2.2.2.2.1 hk_
          refine lv_aload_n hx hb dX3_account_152 rfl (lv_at hl 0 rfl) ?_
          refine lv_iconst (v := 3) hx hb dX3_account_153 (by decide) ?_
          refine wm_callVi (As := [.int 3]) (rest := []) ⟨hx, hb, hml, hown, hts⟩ hK hN hAm hA hM (m3_allPlates l D ac mo ad sc2 ar3 3 _ hw) (cwV 1 hts (lw_V q2225 q2227 qs44 q77 q2228) rfl rfl rfl hd_X3_allPlates ⟨Nat.le_of_ble_eq_true rfl, Nat.le_of_ble_eq_true rfl⟩) rfl hl.1 rfl (Nat.le_of_ble_eq_true rfl) dX3_account_154 ⟨Nat.le_refl 0, Nat.le_refl 0⟩ (fun r10 sc8 ar9 H locs hw hM => ?_)
          exact wm_reti hx hb hr hlk hM rfl hw dX3_account_157
        · have hk_ : x1 = (9 : Int32) := Int32.toInt_inj.mp (by rw [hi_]; rfl)
          refine lv_tableIn (off := 133) (tgt := 158) hx hb dX3_account_25 (by rw [hk_]; decide) (by rw [hk_]; decide) (by rw [hk_]; rfl) (by decide) ?_
          replace hw := hw.2.2.2.2.2.2.2.2.2.1 hk_
          refine lv_aload_n hx hb dX3_account_158 rfl (lv_at hl 0 rfl) ?_
          refine wm_callVi (As := []) (rest := []) ⟨hx, hb, hml, hown, hts⟩ hK hN hAm hA hM (m3_packed l D ac mo ad sc2 ar3  _ hw) (cwV 0 hts (lw_V q2229 q2231 qs45 q77 q2232) rfl rfl rfl hd_X3_packed ⟨Nat.le_of_ble_eq_true rfl, Nat.le_of_ble_eq_true rfl⟩) rfl hl.1 rfl (Nat.le_of_ble_eq_true rfl) dX3_account_159 ⟨Nat.le_refl 0, Nat.le_refl 0⟩ (fun r13 sc11 ar12 H locs hw hM => ?_)
          exact wm_reti hx hb hr hlk hM rfl hw dX3_account_162
        · have hk_ : x1 = (10 : Int32) := Int32.toInt_inj.mp (by rw [hi_]; rfl)
          refine lv_tableIn (off := 138) (tgt := 163) hx hb dX3_account_25 (by rw [hk_]; decide) (by rw [hk_]; decide) (by rw [hk_]; rfl) (by decide) ?_
          replace hw := hw.2.2.2.2.2.2.2.2.2.2.1 hk_
          refine lv_aload_n hx hb dX3_account_163 rfl (lv_at hl 0 rfl) ?_
          refine wm_get hx hb hts hown hK hM 0 (by decide) q1933 (v := .ref (ad 0)) rfl dX3_account_164 ?_
          refine lv_iconst (v := 5) hx hb dX3_account_167 (by decide) ?_
          refine wm_ald hx hb hK hM (k := 0) rfl vi_5_125 vc_5 (v := ar3 0 5) rfl dX3_account_168 ?_
          exact wm_reti hx hb hr hlk hM rfl hw dX3_account_169
        · have hk_ : x1 = (11 : Int32) := Int32.toInt_inj.mp (by rw [hi_]; rfl)
          refine lv_tableIn (off := 145) (tgt := 170) hx hb dX3_account_25 (by rw [hk_]; decide) (by rw [hk_]; decide) (by rw [hk_]; rfl) (by decide) ?_
          replace hw := hw.2.2.2.2.2.2.2.2.2.2.2.1 hk_
          refine lv_aload_n hx hb dX3_account_170 rfl (lv_at hl 0 rfl) ?_
          refine wm_get hx hb hts hown hK hM 0 (by decide) q1933 (v := .ref (ad 0)) rfl dX3_account_171 ?_
          refine lv_bipush (v := 6) hx hb dX3_account_174 (by decide) ?_
          refine wm_ald hx hb hK hM (k := 0) rfl vi_6_125 vc_6 (v := ar3 0 6) rfl dX3_account_176 ?_
          exact wm_reti hx hb hr hlk hM rfl hw dX3_account_177
        · have hk_ : x1 = (12 : Int32) := Int32.toInt_inj.mp (by rw [hi_]; rfl)
          refine lv_tableIn (off := 153) (tgt := 178) hx hb dX3_account_25 (by rw [hk_]; decide) (by rw [hk_]; decide) (by rw [hk_]; rfl) (by decide) ?_
          replace hw := hw.2.2.2.2.2.2.2.2.2.2.2.2.1 hk_
          refine lv_aload_n hx hb dX3_account_178 rfl (lv_at hl 0 rfl) ?_
          refine wm_get hx hb hts hown hK hM 0 (by decide) q1933 (v := .ref (ad 0)) rfl dX3_account_179 ?_
          refine lv_bipush (v := 7) hx hb dX3_account_182 (by decide) ?_
          refine wm_ald hx hb hK hM (k := 0) rfl vi_7_125 vc_7 (v := ar3 0 7) rfl dX3_account_184 ?_
          exact wm_reti hx hb hr hlk hM rfl hw dX3_account_185
        · have hk_ : x1 = (13 : Int32) := Int32.toInt_inj.mp (by rw [hi_]; rfl)
          refine lv_tableIn (off := 161) (tgt := 186) hx hb dX3_account_25 (by rw [hk_]; decide) (by rw [hk_]; decide) (by rw [hk_]; rfl) (by decide) ?_
          replace hw := hw.2.2.2.2.2.2.2.2.2.2.2.2.2.1 hk_
          refine lv_aload_n hx hb dX3_account_186 rfl (lv_at hl 0 rfl) ?_
          refine wm_get hx hb hts hown hK hM 0 (by decide) q1933 (v := .ref (ad 0)) rfl dX3_account_187 ?_
          refine lv_bipush (v := 87) hx hb dX3_account_190 (by decide) ?_
          refine wm_ald hx hb hK hM (k := 0) rfl vi_87_125 vc_87 (v := ar3 0 87) rfl dX3_account_192 ?_
          exact wm_reti hx hb hr hlk hM rfl hw dX3_account_193
        · have hk_ : x1 = (14 : Int32) := Int32.toInt_inj.mp (by rw [hi_]; rfl)
          refine lv_tableIn (off := 169) (tgt := 194) hx hb dX3_account_25 (by rw [hk_]; decide) (by rw [hk_]; decide) (by rw [hk_]; rfl) (by decide) ?_
          replace hw := hw.2.2.2.2.2.2.2.2.2.2.2.2.2.2.1 hk_
          refine lv_aload_n hx hb dX3_account_194 rfl (lv_at hl 0 rfl) ?_
          refine wm_callVi (As := []) (rest := []) ⟨hx, hb, hml, hown, hts⟩ hK hN hAm hA hM (m3_burning l D ac mo ad sc2 ar3  _ hw) (cwV 0 hts (lw_V q2233 q2235 qs46 q77 q2236) rfl rfl rfl hd_X3_burning ⟨Nat.le_of_ble_eq_true rfl, Nat.le_of_ble_eq_true rfl⟩) rfl hl.1 rfl (Nat.le_of_ble_eq_true rfl) dX3_account_195 ⟨Nat.le_refl 0, Nat.le_refl 0⟩ (fun r16 sc14 ar15 H locs hw hM => ?_)
          exact wm_reti hx hb hr hlk hM rfl hw dX3_account_198
        · have hk_ : x1 = (15 : Int32) := Int32.toInt_inj.mp (by rw [hi_]; rfl)
          refine lv_tableIn (off := 174) (tgt := 199) hx hb dX3_account_25 (by rw [hk_]; decide) (by rw [hk_]; decide) (by rw [hk_]; rfl) (by decide) ?_
          replace hw := hw.2.2.2.2.2.2.2.2.2.2.2.2.2.2.2.1 hk_
          refine lv_aload_n hx hb dX3_account_199 rfl (lv_at hl 0 rfl) ?_
          refine wm_get hx hb hts hown hK hM 0 (by decide) q1933 (v := .ref (ad 0)) rfl dX3_account_200 ?_
          refine lv_bipush (v := 100) hx hb dX3_account_203 (by decide) ?_
          refine wm_ald hx hb hK hM (k := 0) rfl vi_100_125 vc_100 (v := ar3 0 100) rfl dX3_account_205 ?_
          exact wm_reti hx hb hr hlk hM rfl hw dX3_account_206
        · have hk_ : x1 = (16 : Int32) := Int32.toInt_inj.mp (by rw [hi_]; rfl)
          refine lv_tableIn (off := 182) (tgt := 207) hx hb dX3_account_25 (by rw [hk_]; decide) (by rw [hk_]; decide) (by rw [hk_]; rfl) (by decide) ?_
          replace hw := hw.2.2.2.2.2.2.2.2.2.2.2.2.2.2.2.2.1 hk_
          refine lv_aload_n hx hb dX3_account_207 rfl (lv_at hl 0 rfl) ?_
          refine wm_get hx hb hts hown hK hM 0 (by decide) q1933 (v := .ref (ad 0)) rfl dX3_account_208 ?_
          refine lv_bipush (v := 8) hx hb dX3_account_211 (by decide) ?_
          refine wm_ald hx hb hK hM (k := 0) rfl vi_8_125 vc_8 (v := ar3 0 8) rfl dX3_account_213 ?_
          exact wm_reti hx hb hr hlk hM rfl hw dX3_account_214
        · have hk_ : x1 = (17 : Int32) := Int32.toInt_inj.mp (by rw [hi_]; rfl)
          refine lv_tableIn (off := 190) (tgt := 215) hx hb dX3_account_25 (by rw [hk_]; decide) (by rw [hk_]; decide) (by rw [hk_]; rfl) (by decide) ?_
          replace hw := hw.2.2.2.2.2.2.2.2.2.2.2.2.2.2.2.2.2.1 hk_
          refine lv_aload_n hx hb dX3_account_215 rfl (lv_at hl 0 rfl) ?_
          refine wm_get hx hb hts hown hK hM 0 (by decide) q1933 (v := .ref (ad 0)) rfl dX3_account_216 ?_
          refine lv_bipush (v := 9) hx hb dX3_account_219 (by decide) ?_
          refine wm_ald hx hb hK hM (k := 0) rfl vi_9_125 vc_9 (v := ar3 0 9) rfl dX3_account_221 ?_
          exact wm_reti hx hb hr hlk hM rfl hw dX3_account_222
        · have hk_ : x1 = (18 : Int32) := Int32.toInt_inj.mp (by rw [hi_]; rfl)
          refine lv_tableIn (off := 198) (tgt := 223) hx hb dX3_account_25 (by rw [hk_]; decide) (by rw [hk_]; decide) (by rw [hk_]; rfl) (by decide) ?_
          replace hw := hw.2.2.2.2.2.2.2.2.2.2.2.2.2.2.2.2.2.2.1 hk_
          refine lv_aload_n hx hb dX3_account_223 rfl (lv_at hl 0 rfl) ?_
          refine wm_get hx hb hts hown hK hM 11 (by decide) q1944 (v := .int (sc2 11)) rfl dX3_account_224 ?_
          exact wm_reti hx hb hr hlk hM rfl hw dX3_account_227
    · replace hw := hw.2 c_
      refine lv_iconst (v := 0) hx hb dX3_account_22 (by decide) ?_
      exact wm_reti hx hb hr hlk hM rfl hw dX3_account_23
  refine lv_aload_n hx hb dX3_account_0 rfl (lv_at hl 0 rfl) ?_
  refine lv_iload_n hx hb dX3_account_1 rfl (lv_at hl 1 rfl) ?_
  refine lv_iconst (v := 0) hx hb dX3_account_2 (by decide) ?_
  refine lv_bipush (v := 19) hx hb dX3_account_3 (by decide) ?_
  refine wm_callPi (As := [.int p1, .int 0, .int 19]) (rest := [.ref mo]) ⟨hx, hb, hml, hown, hts⟩ hA hM (m3_in l p1 0 19 _ hw) (va_cwS 3 hts (lw_S q2005 q2006 q77 q2007) rfl rfl rfl hd_X3_in ⟨Nat.le_of_ble_eq_true rfl, Nat.le_of_ble_eq_true rfl⟩) rfl hl.1 rfl (Nat.le_of_ble_eq_true rfl) dX3_account_5 ⟨Nat.le_refl 0, Nat.le_refl 0⟩ (fun r1 H locs hw hM => ?_)
  refine lv_if_eq (tgt := 15) hx hb dX3_account_8 (by decide) (fun c_ => ?_) (fun c_ => ?_)
  · replace hw := hw.1 c_
    refine lv_iconst (v := 1) hx hb dX3_account_15 (by decide) ?_
    exact hL16  p1 1 sc ar _ _ ls hM (lv_sub hl [0, 1] rfl) hw
  · replace hw := hw.2 c_
    refine lv_iconst (v := 0) hx hb dX3_account_11 (by decide) ?_
    refine lv_goto (tgt := 16) hx hb dX3_account_12 (by decide) ?_
    exact hL16  p1 0 sc ar _ _ ls hM (lv_sub hl [0, 1] rfl) hw
def w3_number (post : Int32 → wS1 → wS2 → Prop) (sc : wS1) (ar : wS2) (p1 : Int32) : Prop := w3_digit (fun r3 sc1 ar2 => (¬ r3 = 0 → (vp_in p1 128 ∧ (((ar2 17 p1.toNatClampNeg) = 0 → (post 1 sc1 ar2)) ∧ (¬ (ar2 17 p1.toNatClampNeg) = 0 → (w3_here (fun r6 sc4 ar5 => w3_in (fun r7 => (¬ r7 = 0 → (vp_in p1 128 ∧ (w3_here (fun r10 sc8 ar9 => vp_in p1 128 ∧ (post 1 (upd sc8 16 ((sc8 16) + 1)) (va_up ar9 17 (upd (ar9 17) p1.toNatClampNeg (((10 * (ar5 17 p1.toNatClampNeg)) + r10) - 48))))) sc4 ar5 ))) ∧ (r7 = 0 → (post 1 sc4 ar5))) r6 48 57) sc1 ar2 ))))) ∧ (r3 = 0 → (post 0 sc1 ar2))) sc ar p1
theorem hd_X3_number : yX3_number.cls = RX3 ∧ yX3_number.cls ≠ "java/lang/invoke/MethodHandle" ∧ yX3_number.cls ≠ "java/lang/invoke/VarHandle" ∧ (parseMethodDescriptor yX3_number.desc).map (fun d => d.parameters.length) = some 1 := by decide +kernel
set_option maxHeartbeats 4000000 in
set_option maxRecDepth 100000 in
theorem m3_number (l : Launch) (D : va_G) (ac : Nat → ClassId) (mo : Nat) (ad : Nat → Nat) (sc : wS1) (ar : wS2) (p1 : Int32) (post : Int32 → wS1 → wS2 → Prop) (hw : w3_number post sc ar p1) : wm_Mi l D ac mo ad yX3_number (ws_ yX3_number cX3_number 2 (some .boolean)) ({ frames := 2, cells := 0, slots := 0, locals := 43 }) [.ref mo, .int p1] sc ar post := by
  refine wm_ofi (by decide) (Nat.le_of_ble_eq_true rfl) ?_
  intro p e s m below meth c A ls hx hb hr hlk hml hown hts hK hN hAm hA hM hl
  have hl : lv_has ls 2 [(0, .ref mo), (1, .int p1)] := hl
  unfold w3_number at hw
  refine lv_aload_n hx hb dX3_number_0 rfl (lv_at hl 0 rfl) ?_
  refine lv_iload_n hx hb dX3_number_1 rfl (lv_at hl 1 rfl) ?_
  refine wm_callVi (As := [.int p1]) (rest := []) ⟨hx, hb, hml, hown, hts⟩ hK hN hAm hA hM (m3_digit l D ac mo ad sc ar p1 _ hw) (cwV 1 hts (lw_V q2277 q2279 qs52 q77 q2280) rfl rfl rfl hd_X3_digit ⟨Nat.le_of_ble_eq_true rfl, Nat.le_of_ble_eq_true rfl⟩) rfl hl.1 rfl (Nat.le_of_ble_eq_true rfl) dX3_number_2 ⟨Nat.le_refl 0, Nat.le_refl 0⟩ (fun r3 sc1 ar2 H locs hw hM => ?_)
  refine lv_if_ne (tgt := 10) hx hb dX3_number_5 (by decide) (fun c_ => ?_) (fun c_ => ?_)
  · replace hw := hw.1 c_
    refine lv_aload_n hx hb dX3_number_10 rfl (lv_at hl 0 rfl) ?_
    refine wm_get hx hb hts hown hK hM 17 (by decide) q1950 (v := .ref (ad 17)) rfl dX3_number_11 ?_
    refine lv_iload_n hx hb dX3_number_14 rfl (lv_at hl 1 rfl) ?_
    refine wm_ald hx hb hK hM (k := 17) rfl hw.1 rfl (v := ar2 17 p1.toNatClampNeg) rfl dX3_number_15 ?_
    replace hw := hw.2
    refine lv_if_eq (tgt := 33) hx hb dX3_number_16 (by decide) (fun c_ => ?_) (fun c_ => ?_)
    · replace hw := hw.1 c_
      refine lv_iconst (v := 1) hx hb dX3_number_33 (by decide) ?_
      exact wm_reti hx hb hr hlk hM rfl hw dX3_number_34
    · replace hw := hw.2 c_
      refine lv_aload_n hx hb dX3_number_19 rfl (lv_at hl 0 rfl) ?_
      refine wm_callVi (As := []) (rest := []) ⟨hx, hb, hml, hown, hts⟩ hK hN hAm hA hM (m3_here l D ac mo ad sc1 ar2  _ hw) (cwV 0 hts (lw_V q2265 q2267 qs49 q77 q2268) rfl rfl rfl hd_X3_here ⟨Nat.le_of_ble_eq_true rfl, Nat.le_of_ble_eq_true rfl⟩) rfl hl.1 rfl (Nat.le_of_ble_eq_true rfl) dX3_number_20 ⟨Nat.le_refl 0, Nat.le_refl 0⟩ (fun r6 sc4 ar5 H locs hw hM => ?_)
      refine lv_bipush (v := 48) hx hb dX3_number_23 (by decide) ?_
      refine lv_bipush (v := 57) hx hb dX3_number_25 (by decide) ?_
      refine wm_callPi (As := [.int r6, .int 48, .int 57]) (rest := []) ⟨hx, hb, hml, hown, hts⟩ hA hM (m3_in l r6 48 57 _ hw) (va_cwS 3 hts (lw_S q2005 q2006 q77 q2007) rfl rfl rfl hd_X3_in ⟨Nat.le_of_ble_eq_true rfl, Nat.le_of_ble_eq_true rfl⟩) rfl hl.1 rfl (Nat.le_of_ble_eq_true rfl) dX3_number_27 ⟨Nat.le_refl 0, Nat.le_refl 0⟩ (fun r7 H locs hw hM => ?_)
      refine lv_if_ne (tgt := 35) hx hb dX3_number_30 (by decide) (fun c_ => ?_) (fun c_ => ?_)
      · replace hw := hw.1 c_
        refine lv_aload_n hx hb dX3_number_35 rfl (lv_at hl 0 rfl) ?_
        refine wm_get hx hb hts hown hK hM 17 (by decide) q1950 (v := .ref (ad 17)) rfl dX3_number_36 ?_
        refine lv_iload_n hx hb dX3_number_39 rfl (lv_at hl 1 rfl) ?_
        refine lv_bipush (v := 10) hx hb dX3_number_40 (by decide) ?_
        refine lv_aload_n hx hb dX3_number_42 rfl (lv_at hl 0 rfl) ?_
        refine wm_get hx hb hts hown hK hM 17 (by decide) q1950 (v := .ref (ad 17)) rfl dX3_number_43 ?_
        refine lv_iload_n hx hb dX3_number_46 rfl (lv_at hl 1 rfl) ?_
        refine wm_ald hx hb hK hM (k := 17) rfl hw.1 rfl (v := ar5 17 p1.toNatClampNeg) rfl dX3_number_47 ?_
        replace hw := hw.2
        refine lv_imul hx hb dX3_number_48 ?_
        refine lv_aload_n hx hb dX3_number_49 rfl (lv_at hl 0 rfl) ?_
        refine wm_callVi (As := []) (rest := [.int (10 * (ar5 17 p1.toNatClampNeg)), .int p1, .ref (ad 17)]) ⟨hx, hb, hml, hown, hts⟩ hK hN hAm hA hM (m3_here l D ac mo ad sc4 ar5  _ hw) (cwV 0 hts (lw_V q2265 q2267 qs49 q77 q2268) rfl rfl rfl hd_X3_here ⟨Nat.le_of_ble_eq_true rfl, Nat.le_of_ble_eq_true rfl⟩) rfl hl.1 rfl (Nat.le_of_ble_eq_true rfl) dX3_number_50 ⟨Nat.le_refl 0, Nat.le_refl 0⟩ (fun r10 sc8 ar9 H locs hw hM => ?_)
        refine lv_iadd hx hb dX3_number_53 ?_
        refine lv_bipush (v := 48) hx hb dX3_number_54 (by decide) ?_
        refine lv_isub hx hb dX3_number_56 ?_
        refine wm_ast hx hb hK hN hAm hM (k := 17) rfl hw.1 rfl (f := ar9 17) rfl dX3_number_57 (fun H locs hM => ?_)
        replace hw := hw.2
        refine lv_aload_n hx hb dX3_number_58 rfl (lv_at hl 0 rfl) ?_
        refine lv_dup hx hb dX3_number_59 rfl ?_
        refine wm_get hx hb hts hown hK hM 16 (by decide) q1949 (v := .int (sc8 16)) rfl dX3_number_60 ?_
        refine lv_iconst (v := 1) hx hb dX3_number_63 (by decide) ?_
        refine lv_iadd hx hb dX3_number_64 ?_
        refine wm_put hx hb hts hown hK hN hAm hM 16 (by decide) rfl q1949 rfl rfl rfl dX3_number_65 (fun H locs hM => ?_)
        refine lv_iconst (v := 1) hx hb dX3_number_68 (by decide) ?_
        exact wm_reti hx hb hr hlk hM rfl hw dX3_number_69
      · replace hw := hw.2 c_
        refine lv_iconst (v := 1) hx hb dX3_number_33 (by decide) ?_
        exact wm_reti hx hb hr hlk hM rfl hw dX3_number_34
  · replace hw := hw.2 c_
    refine lv_iconst (v := 0) hx hb dX3_number_8 (by decide) ?_
    exact wm_reti hx hb hr hlk hM rfl hw dX3_number_9
def w3_sheets_L16 (post : Int32 → wS1 → wS2 → Prop) (x1 : Int32) (t0 : Int32) (sc : wS1) (ar : wS2) : Prop := w3_fails (fun r4 sc2 ar3 => (r4 = 0 → ((((x1 + 4) / 5) ≤ (ar3 0 3) → (w3_keeps (fun sc5 ar6 => w3_pays (fun sc7 ar8 => post ((ar8 0 2) + x1) sc7 (va_up ar8 0 (upd (ar8 0) 2 ((ar8 0 2) + x1)))) sc5 ar6 ((x1 + 4) / 5)) sc2 ar3 0)) ∧ (¬ ((x1 + 4) / 5) ≤ (ar3 0 3) → (w3_refuses (fun r11 sc9 ar10 => post r11 sc9 ar10) sc2 ar3 2 6 (((x1 + 4) / 5) - (ar3 0 3)))))) ∧ (¬ r4 = 0 → (post 0 sc2 ar3))) sc ar t0
def w3_sheets (post : Int32 → wS1 → wS2 → Prop) (sc : wS1) (ar : wS2) (p1 : Int32) : Prop := w3_in (fun r1 => (r1 = 0 → (w3_sheets_L16 post  p1 1 sc ar)) ∧ (¬ r1 = 0 → (w3_sheets_L16 post  p1 0 sc ar))) p1 1 50
theorem hd_X3_sheets : yX3_sheets.cls = RX3 ∧ yX3_sheets.cls ≠ "java/lang/invoke/MethodHandle" ∧ yX3_sheets.cls ≠ "java/lang/invoke/VarHandle" ∧ (parseMethodDescriptor yX3_sheets.desc).map (fun d => d.parameters.length) = some 1 := by decide +kernel
set_option maxHeartbeats 4000000 in
set_option maxRecDepth 100000 in
theorem m3_sheets (l : Launch) (D : va_G) (ac : Nat → ClassId) (mo : Nat) (ad : Nat → Nat) (sc : wS1) (ar : wS2) (p1 : Int32) (post : Int32 → wS1 → wS2 → Prop) (hw : w3_sheets post sc ar p1) : wm_Mi l D ac mo ad yX3_sheets (ws_ yX3_sheets cX3_sheets 3 (some .int)) ({ frames := 2, cells := 0, slots := 0, locals := 46 }) [.ref mo, .int p1] sc ar post := by
  refine wm_ofi (by decide) (Nat.le_of_ble_eq_true rfl) ?_
  intro p e s m below meth c A ls hx hb hr hlk hml hown hts hK hN hAm hA hM hl
  have hl : lv_has ls 3 [(0, .ref mo), (1, .int p1)] := hl
  unfold w3_sheets at hw
  have hL16 : ∀ (x1 : Int32) (t0 : Int32) (sc : wS1) (ar : wS2) (H : Heap) (locs : List Loc) (ls : Array Slot), wm_S D ac A s.heap mo ad sc ar H locs → lv_has ls 3 [(0, .ref mo), (1, .int x1)] → w3_sheets_L16 post x1 t0 sc ar → W p l e (headSpec (ws_ yX3_sheets cX3_sheets 3 (some .int)) ({ frames := 2, cells := 0, slots := 0, locals := 46 })).room s m ([.ref mo, .int p1] : List Value).toArray below meth c H locs 0 0 (MQ below (va_Qi (S := wU) (fun r u => post r u.1 u.2) (wm_B D ac mo ad) A) ([.ref mo, .int p1] : List Value).toArray s 0 0 A) (F0 m 16 ls [.int t0, .ref mo]) := by
    intro x1 t0 sc ar H locs ls hM hl hw
    unfold w3_sheets_L16 at hw
    refine wm_callVi (As := [.int t0]) (rest := []) ⟨hx, hb, hml, hown, hts⟩ hK hN hAm hA hM (m3_fails l D ac mo ad sc ar t0 _ hw) (cwV 1 hts (lw_V q2008 q2010 qs19 q77 q2011) rfl rfl rfl hd_X3_fails ⟨Nat.le_of_ble_eq_true rfl, Nat.le_of_ble_eq_true rfl⟩) rfl hl.1 rfl (Nat.le_of_ble_eq_true rfl) dX3_sheets_16 ⟨Nat.le_refl 0, Nat.le_refl 0⟩ (fun r4 sc2 ar3 H locs hw hM => ?_)
    refine lv_if_eq (tgt := 24) hx hb dX3_sheets_19 (by decide) (fun c_ => ?_) (fun c_ => ?_)
    · replace hw := hw.1 c_
      refine lv_iload_n hx hb dX3_sheets_24 rfl (lv_at hl 1 rfl) ?_
      refine lv_iconst (v := 4) hx hb dX3_sheets_25 (by decide) ?_
      refine lv_iadd hx hb dX3_sheets_26 ?_
      refine lv_iconst (v := 5) hx hb dX3_sheets_27 (by decide) ?_
      refine lv_idiv hx hb dX3_sheets_28 (by decide) ?_
      refine lv_istore_n (lv' := [(2, .int ((x1 + 4) / 5)), (0, .ref mo), (1, .int x1)]) hx hb dX3_sheets_29 rfl hl (by decide) rfl (fun ls hl => ?_)
      refine lv_aload_n hx hb dX3_sheets_30 rfl (lv_at hl 1 rfl) ?_
      refine wm_get hx hb hts hown hK hM 0 (by decide) q1933 (v := .ref (ad 0)) rfl dX3_sheets_31 ?_
      refine lv_iconst (v := 3) hx hb dX3_sheets_34 (by decide) ?_
      refine wm_ald hx hb hK hM (k := 0) rfl vi_3_125 vc_3 (v := ar3 0 3) rfl dX3_sheets_35 ?_
      refine lv_iload_n hx hb dX3_sheets_36 rfl (lv_at hl 0 rfl) ?_
      refine lv_icmp_ge (tgt := 56) hx hb dX3_sheets_37 (by decide) (fun c_ => ?_) (fun c_ => ?_)
      · replace hw := hw.1 c_
        refine lv_aload_n hx hb dX3_sheets_56 rfl (lv_at hl 1 rfl) ?_
        refine lv_aload_n hx hb dX3_sheets_57 rfl (lv_at hl 1 rfl) ?_
        refine wm_get hx hb hts hown hK hM 0 (by decide) q1933 (v := .ref (ad 0)) rfl dX3_sheets_58 ?_
        refine wm_callVv (As := [.ref (ad 0)]) (rest := []) ⟨hx, hb, hml, hown, hts⟩ hK hN hAm hA hM (m3_keeps l D ac mo ad sc2 ar3 0 _ rfl hw) (cwV 1 hts (lw_V q2016 q2018 qs21 q77 q2019) rfl rfl rfl hd_X3_keeps ⟨Nat.le_of_ble_eq_true rfl, Nat.le_of_ble_eq_true rfl⟩) rfl hl.1 rfl (Nat.le_of_ble_eq_true rfl) dX3_sheets_61 ⟨Nat.le_refl 0, Nat.le_refl 0⟩ (fun sc5 ar6 H locs hw hM => ?_)
        refine lv_aload_n hx hb dX3_sheets_64 rfl (lv_at hl 1 rfl) ?_
        refine lv_iload_n hx hb dX3_sheets_65 rfl (lv_at hl 0 rfl) ?_
        refine wm_callVv (As := [.int ((x1 + 4) / 5)]) (rest := []) ⟨hx, hb, hml, hown, hts⟩ hK hN hAm hA hM (m3_pays l D ac mo ad sc5 ar6 ((x1 + 4) / 5) _ hw) (cwV 1 hts (lw_V q2023 q2025 qs22 q77 q2026) rfl rfl rfl hd_X3_pays ⟨Nat.le_of_ble_eq_true rfl, Nat.le_of_ble_eq_true rfl⟩) rfl hl.1 rfl (Nat.le_of_ble_eq_true rfl) dX3_sheets_66 ⟨Nat.le_refl 0, Nat.le_refl 0⟩ (fun sc7 ar8 H locs hw hM => ?_)
        refine lv_aload_n hx hb dX3_sheets_69 rfl (lv_at hl 1 rfl) ?_
        refine wm_get hx hb hts hown hK hM 0 (by decide) q1933 (v := .ref (ad 0)) rfl dX3_sheets_70 ?_
        refine lv_iconst (v := 2) hx hb dX3_sheets_73 (by decide) ?_
        refine lv_dup2_11 hx hb dX3_sheets_74 rfl rfl ?_
        refine wm_ald hx hb hK hM (k := 0) rfl vi_2_125 vc_2 (v := ar8 0 2) rfl dX3_sheets_75 ?_
        refine lv_iload_n hx hb dX3_sheets_76 rfl (lv_at hl 2 rfl) ?_
        refine lv_iadd hx hb dX3_sheets_77 ?_
        refine wm_ast hx hb hK hN hAm hM (k := 0) rfl vi_2_125 vc_2 (f := ar8 0) rfl dX3_sheets_78 (fun H locs hM => ?_)
        refine lv_aload_n hx hb dX3_sheets_79 rfl (lv_at hl 1 rfl) ?_
        refine wm_get hx hb hts hown hK hM 0 (by decide) q1933 (v := .ref (ad 0)) rfl dX3_sheets_80 ?_
        refine lv_iconst (v := 2) hx hb dX3_sheets_83 (by decide) ?_
        refine wm_ald hx hb hK hM (k := 0) rfl vi_2_125 vc_2 (v := ((ar8 0 2) + x1)) rfl dX3_sheets_84 ?_
        exact wm_reti hx hb hr hlk hM rfl hw dX3_sheets_85
      · replace hw := hw.2 c_
        refine lv_aload_n hx hb dX3_sheets_40 rfl (lv_at hl 1 rfl) ?_
        refine lv_iconst (v := 2) hx hb dX3_sheets_41 (by decide) ?_
        refine lv_bipush (v := 6) hx hb dX3_sheets_42 (by decide) ?_
        refine lv_iload_n hx hb dX3_sheets_44 rfl (lv_at hl 0 rfl) ?_
        refine lv_aload_n hx hb dX3_sheets_45 rfl (lv_at hl 1 rfl) ?_
        refine wm_get hx hb hts hown hK hM 0 (by decide) q1933 (v := .ref (ad 0)) rfl dX3_sheets_46 ?_
        refine lv_iconst (v := 3) hx hb dX3_sheets_49 (by decide) ?_
        refine wm_ald hx hb hK hM (k := 0) rfl vi_3_125 vc_3 (v := ar3 0 3) rfl dX3_sheets_50 ?_
        refine lv_isub hx hb dX3_sheets_51 ?_
        refine wm_callVi (As := [.int 2, .int 6, .int (((x1 + 4) / 5) - (ar3 0 3))]) (rest := []) ⟨hx, hb, hml, hown, hts⟩ hK hN hAm hA hM (m3_refuses l D ac mo ad sc2 ar3 2 6 (((x1 + 4) / 5) - (ar3 0 3)) _ hw) (cwV 3 hts (lw_V q2012 q2014 qs20 q77 q2015) rfl rfl rfl hd_X3_refuses ⟨Nat.le_of_ble_eq_true rfl, Nat.le_of_ble_eq_true rfl⟩) rfl hl.1 rfl (Nat.le_of_ble_eq_true rfl) dX3_sheets_52 ⟨Nat.le_refl 0, Nat.le_refl 0⟩ (fun r11 sc9 ar10 H locs hw hM => ?_)
        exact wm_reti hx hb hr hlk hM rfl hw dX3_sheets_55
    · replace hw := hw.2 c_
      refine lv_iconst (v := 0) hx hb dX3_sheets_22 (by decide) ?_
      exact wm_reti hx hb hr hlk hM rfl hw dX3_sheets_23
  refine lv_aload_n hx hb dX3_sheets_0 rfl (lv_at hl 0 rfl) ?_
  refine lv_iload_n hx hb dX3_sheets_1 rfl (lv_at hl 1 rfl) ?_
  refine lv_iconst (v := 1) hx hb dX3_sheets_2 (by decide) ?_
  refine lv_bipush (v := 50) hx hb dX3_sheets_3 (by decide) ?_
  refine wm_callPi (As := [.int p1, .int 1, .int 50]) (rest := [.ref mo]) ⟨hx, hb, hml, hown, hts⟩ hA hM (m3_in l p1 1 50 _ hw) (va_cwS 3 hts (lw_S q2005 q2006 q77 q2007) rfl rfl rfl hd_X3_in ⟨Nat.le_of_ble_eq_true rfl, Nat.le_of_ble_eq_true rfl⟩) rfl hl.1 rfl (Nat.le_of_ble_eq_true rfl) dX3_sheets_5 ⟨Nat.le_refl 0, Nat.le_refl 0⟩ (fun r1 H locs hw hM => ?_)
  refine lv_if_eq (tgt := 15) hx hb dX3_sheets_8 (by decide) (fun c_ => ?_) (fun c_ => ?_)
  · replace hw := hw.1 c_
    refine lv_iconst (v := 1) hx hb dX3_sheets_15 (by decide) ?_
    exact hL16  p1 1 sc ar _ _ ls hM (lv_sub hl [0, 1] rfl) hw
  · replace hw := hw.2 c_
    refine lv_iconst (v := 0) hx hb dX3_sheets_11 (by decide) ?_
    refine lv_goto (tgt := 16) hx hb dX3_sheets_12 (by decide) ?_
    exact hL16  p1 0 sc ar _ _ ls hM (lv_sub hl [0, 1] rfl) hw
def w3_copperOf_L27 (post : Int32 → wS1 → wS2 → Prop) (x1 : Int32) (x2 : Int32) (t0 : Int32) (sc : wS1) (ar : wS2) : Prop := w3_fails (fun r7 sc5 ar6 => (r7 = 0 → ((¬ x2 = 2 → ((¬ x2 = 3 → (w3_ofCopper (fun r10 sc8 ar9 => post r10 sc8 ar9) sc5 ar6 x1 x2)) ∧ (x2 = 3 → (w3_ofCopper (fun r13 sc11 ar12 => post r13 sc11 ar12) sc5 ar6 x1 2)))) ∧ (x2 = 2 → (w3_wellBy (fun r16 sc14 ar15 => post r16 sc14 ar15) sc5 ar6 x1)))) ∧ (¬ r7 = 0 → (post 0 sc5 ar6))) sc ar t0
def w3_copperOf (post : Int32 → wS1 → wS2 → Prop) (sc : wS1) (ar : wS2) (p1 : Int32) (p2 : Int32) : Prop := w3_isCopper (fun r3 sc1 ar2 => (¬ r3 = 0 → (w3_in (fun r4 => (r4 = 0 → (w3_copperOf_L27 post  p1 p2 2 sc1 ar2)) ∧ (¬ r4 = 0 → (w3_copperOf_L27 post  p1 p2 0 sc1 ar2))) p2 0 3)) ∧ (r3 = 0 → (w3_copperOf_L27 post  p1 p2 1 sc1 ar2))) sc ar p1
theorem hd_X3_copperOf : yX3_copperOf.cls = RX3 ∧ yX3_copperOf.cls ≠ "java/lang/invoke/MethodHandle" ∧ yX3_copperOf.cls ≠ "java/lang/invoke/VarHandle" ∧ (parseMethodDescriptor yX3_copperOf.desc).map (fun d => d.parameters.length) = some 2 := by decide +kernel
set_option maxHeartbeats 4000000 in
set_option maxRecDepth 100000 in
theorem m3_copperOf (l : Launch) (D : va_G) (ac : Nat → ClassId) (mo : Nat) (ad : Nat → Nat) (sc : wS1) (ar : wS2) (p1 : Int32) (p2 : Int32) (post : Int32 → wS1 → wS2 → Prop) (hw : w3_copperOf post sc ar p1 p2) : wm_Mi l D ac mo ad yX3_copperOf (ws_ yX3_copperOf cX3_copperOf 3 (some .int)) ({ frames := 2, cells := 0, slots := 0, locals := 43 }) [.ref mo, .int p1, .int p2] sc ar post := by
  refine wm_ofi (by decide) (Nat.le_of_ble_eq_true rfl) ?_
  intro p e s m below meth c A ls hx hb hr hlk hml hown hts hK hN hAm hA hM hl
  have hl : lv_has ls 3 [(0, .ref mo), (1, .int p1), (2, .int p2)] := hl
  unfold w3_copperOf at hw
  have hL27 : ∀ (x1 : Int32) (x2 : Int32) (t0 : Int32) (sc : wS1) (ar : wS2) (H : Heap) (locs : List Loc) (ls : Array Slot), wm_S D ac A s.heap mo ad sc ar H locs → lv_has ls 3 [(0, .ref mo), (1, .int x1), (2, .int x2)] → w3_copperOf_L27 post x1 x2 t0 sc ar → W p l e (headSpec (ws_ yX3_copperOf cX3_copperOf 3 (some .int)) ({ frames := 2, cells := 0, slots := 0, locals := 43 })).room s m ([.ref mo, .int p1, .int p2] : List Value).toArray below meth c H locs 0 0 (MQ below (va_Qi (S := wU) (fun r u => post r u.1 u.2) (wm_B D ac mo ad) A) ([.ref mo, .int p1, .int p2] : List Value).toArray s 0 0 A) (F0 m 27 ls [.int t0, .ref mo]) := by
    intro x1 x2 t0 sc ar H locs ls hM hl hw
    unfold w3_copperOf_L27 at hw
    refine wm_callVi (As := [.int t0]) (rest := []) ⟨hx, hb, hml, hown, hts⟩ hK hN hAm hA hM (m3_fails l D ac mo ad sc ar t0 _ hw) (cwV 1 hts (lw_V q2008 q2010 qs19 q77 q2011) rfl rfl rfl hd_X3_fails ⟨Nat.le_of_ble_eq_true rfl, Nat.le_of_ble_eq_true rfl⟩) rfl hl.1 rfl (Nat.le_of_ble_eq_true rfl) dX3_copperOf_27 ⟨Nat.le_refl 0, Nat.le_refl 0⟩ (fun r7 sc5 ar6 H locs hw hM => ?_)
    refine lv_if_eq (tgt := 35) hx hb dX3_copperOf_30 (by decide) (fun c_ => ?_) (fun c_ => ?_)
    · replace hw := hw.1 c_
      refine lv_iload_n hx hb dX3_copperOf_35 rfl (lv_at hl 2 rfl) ?_
      refine lv_iconst (v := 2) hx hb dX3_copperOf_36 (by decide) ?_
      refine lv_icmp_ne (tgt := 48) hx hb dX3_copperOf_37 (by decide) (fun c_ => ?_) (fun c_ => ?_)
      · replace hw := hw.1 c_
        refine lv_iload_n hx hb dX3_copperOf_48 rfl (lv_at hl 2 rfl) ?_
        refine lv_iconst (v := 3) hx hb dX3_copperOf_49 (by decide) ?_
        refine lv_icmp_ne (tgt := 62) hx hb dX3_copperOf_50 (by decide) (fun c_ => ?_) (fun c_ => ?_)
        · replace hw := hw.1 c_
          refine lv_aload_n hx hb dX3_copperOf_62 rfl (lv_at hl 0 rfl) ?_
          refine lv_iload_n hx hb dX3_copperOf_63 rfl (lv_at hl 1 rfl) ?_
          refine lv_iload_n hx hb dX3_copperOf_64 rfl (lv_at hl 2 rfl) ?_
          refine wm_callVi (As := [.int x1, .int x2]) (rest := []) ⟨hx, hb, hml, hown, hts⟩ hK hN hAm hA hM (m3_ofCopper l D ac mo ad sc5 ar6 x1 x2 _ hw) (cwV 2 hts (lw_V q2047 q2049 qs25 q77 q2050) rfl rfl rfl hd_X3_ofCopper ⟨Nat.le_of_ble_eq_true rfl, Nat.le_of_ble_eq_true rfl⟩) rfl hl.1 rfl (Nat.le_of_ble_eq_true rfl) dX3_copperOf_65 ⟨Nat.le_refl 0, Nat.le_refl 0⟩ (fun r10 sc8 ar9 H locs hw hM => ?_)
          exact wm_reti hx hb hr hlk hM rfl hw dX3_copperOf_68
        · replace hw := hw.2 c_
          refine lv_aload_n hx hb dX3_copperOf_53 rfl (lv_at hl 0 rfl) ?_
          refine lv_iload_n hx hb dX3_copperOf_54 rfl (lv_at hl 1 rfl) ?_
          refine lv_iconst (v := 2) hx hb dX3_copperOf_55 (by decide) ?_
          refine wm_callVi (As := [.int x1, .int 2]) (rest := []) ⟨hx, hb, hml, hown, hts⟩ hK hN hAm hA hM (m3_ofCopper l D ac mo ad sc5 ar6 x1 2 _ hw) (cwV 2 hts (lw_V q2047 q2049 qs25 q77 q2050) rfl rfl rfl hd_X3_ofCopper ⟨Nat.le_of_ble_eq_true rfl, Nat.le_of_ble_eq_true rfl⟩) rfl hl.1 rfl (Nat.le_of_ble_eq_true rfl) dX3_copperOf_56 ⟨Nat.le_refl 0, Nat.le_refl 0⟩ (fun r13 sc11 ar12 H locs hw hM => ?_)
          refine lv_goto (tgt := 68) hx hb dX3_copperOf_59 (by decide) ?_
          exact wm_reti hx hb hr hlk hM rfl hw dX3_copperOf_68
      · replace hw := hw.2 c_
        refine lv_aload_n hx hb dX3_copperOf_40 rfl (lv_at hl 0 rfl) ?_
        refine lv_iload_n hx hb dX3_copperOf_41 rfl (lv_at hl 1 rfl) ?_
        refine wm_callVi (As := [.int x1]) (rest := []) ⟨hx, hb, hml, hown, hts⟩ hK hN hAm hA hM (m3_wellBy l D ac mo ad sc5 ar6 x1 _ hw) (cwV 1 hts (lw_V q2043 q2045 qs24 q77 q2046) rfl rfl rfl hd_X3_wellBy ⟨Nat.le_of_ble_eq_true rfl, Nat.le_of_ble_eq_true rfl⟩) rfl hl.1 rfl (Nat.le_of_ble_eq_true rfl) dX3_copperOf_42 ⟨Nat.le_refl 0, Nat.le_refl 0⟩ (fun r16 sc14 ar15 H locs hw hM => ?_)
        refine lv_goto (tgt := 68) hx hb dX3_copperOf_45 (by decide) ?_
        exact wm_reti hx hb hr hlk hM rfl hw dX3_copperOf_68
    · replace hw := hw.2 c_
      refine lv_iconst (v := 0) hx hb dX3_copperOf_33 (by decide) ?_
      exact wm_reti hx hb hr hlk hM rfl hw dX3_copperOf_34
  refine lv_aload_n hx hb dX3_copperOf_0 rfl (lv_at hl 0 rfl) ?_
  refine lv_aload_n hx hb dX3_copperOf_1 rfl (lv_at hl 0 rfl) ?_
  refine lv_iload_n hx hb dX3_copperOf_2 rfl (lv_at hl 1 rfl) ?_
  refine wm_callVi (As := [.int p1]) (rest := [.ref mo]) ⟨hx, hb, hml, hown, hts⟩ hK hN hAm hA hM (m3_isCopper l D ac mo ad sc ar p1 _ hw) (cwV 1 hts (lw_V q2039 q2041 qs23 q77 q2042) rfl rfl rfl hd_X3_isCopper ⟨Nat.le_of_ble_eq_true rfl, Nat.le_of_ble_eq_true rfl⟩) rfl hl.1 rfl (Nat.le_of_ble_eq_true rfl) dX3_copperOf_3 ⟨Nat.le_refl 0, Nat.le_refl 0⟩ (fun r3 sc1 ar2 H locs hw hM => ?_)
  refine lv_if_ne (tgt := 13) hx hb dX3_copperOf_6 (by decide) (fun c_ => ?_) (fun c_ => ?_)
  · replace hw := hw.1 c_
    refine lv_iload_n hx hb dX3_copperOf_13 rfl (lv_at hl 2 rfl) ?_
    refine lv_iconst (v := 0) hx hb dX3_copperOf_14 (by decide) ?_
    refine lv_iconst (v := 3) hx hb dX3_copperOf_15 (by decide) ?_
    refine wm_callPi (As := [.int p2, .int 0, .int 3]) (rest := [.ref mo]) ⟨hx, hb, hml, hown, hts⟩ hA hM (m3_in l p2 0 3 _ hw) (va_cwS 3 hts (lw_S q2005 q2006 q77 q2007) rfl rfl rfl hd_X3_in ⟨Nat.le_of_ble_eq_true rfl, Nat.le_of_ble_eq_true rfl⟩) rfl hl.1 rfl (Nat.le_of_ble_eq_true rfl) dX3_copperOf_16 ⟨Nat.le_refl 0, Nat.le_refl 0⟩ (fun r4 H locs hw hM => ?_)
    refine lv_if_eq (tgt := 26) hx hb dX3_copperOf_19 (by decide) (fun c_ => ?_) (fun c_ => ?_)
    · replace hw := hw.1 c_
      refine lv_iconst (v := 2) hx hb dX3_copperOf_26 (by decide) ?_
      exact hL27  p1 p2 2 sc1 ar2 _ _ ls hM (lv_sub hl [0, 1, 2] rfl) hw
    · replace hw := hw.2 c_
      refine lv_iconst (v := 0) hx hb dX3_copperOf_22 (by decide) ?_
      refine lv_goto (tgt := 27) hx hb dX3_copperOf_23 (by decide) ?_
      exact hL27  p1 p2 0 sc1 ar2 _ _ ls hM (lv_sub hl [0, 1, 2] rfl) hw
  · replace hw := hw.2 c_
    refine lv_iconst (v := 1) hx hb dX3_copperOf_9 (by decide) ?_
    refine lv_goto (tgt := 27) hx hb dX3_copperOf_10 (by decide) ?_
    exact hL27  p1 p2 1 sc1 ar2 _ _ ls hM (lv_sub hl [0, 1, 2] rfl) hw
def w3_crateOf_L27 (post : Int32 → wS1 → wS2 → Prop) (x1 : Int32) (x2 : Int32) (t0 : Int32) (sc : wS1) (ar : wS2) : Prop := w3_fails (fun r7 sc5 ar6 => (r7 = 0 → ((4 ≤ x2 → ((¬ x2 = 4 → (w3_breaks (fun r10 sc8 ar9 => post r10 sc8 ar9) sc5 ar6 x1)) ∧ (x2 = 4 → (w3_paid (fun r13 sc11 ar12 => post r13 sc11 ar12) sc5 ar6 x1)))) ∧ (¬ 4 ≤ x2 → (w3_ofCrate (fun r16 sc14 ar15 => post r16 sc14 ar15) sc5 ar6 x1 x2)))) ∧ (¬ r7 = 0 → (post 0 sc5 ar6))) sc ar t0
def w3_crateOf (post : Int32 → wS1 → wS2 → Prop) (sc : wS1) (ar : wS2) (p1 : Int32) (p2 : Int32) : Prop := w3_isCrate (fun r3 sc1 ar2 => (¬ r3 = 0 → (w3_in (fun r4 => (r4 = 0 → (w3_crateOf_L27 post  p1 p2 2 sc1 ar2)) ∧ (¬ r4 = 0 → (w3_crateOf_L27 post  p1 p2 0 sc1 ar2))) p2 0 5)) ∧ (r3 = 0 → (w3_crateOf_L27 post  p1 p2 1 sc1 ar2))) sc ar p1
theorem hd_X3_crateOf : yX3_crateOf.cls = RX3 ∧ yX3_crateOf.cls ≠ "java/lang/invoke/MethodHandle" ∧ yX3_crateOf.cls ≠ "java/lang/invoke/VarHandle" ∧ (parseMethodDescriptor yX3_crateOf.desc).map (fun d => d.parameters.length) = some 2 := by decide +kernel
set_option maxHeartbeats 4000000 in
set_option maxRecDepth 100000 in
theorem m3_crateOf (l : Launch) (D : va_G) (ac : Nat → ClassId) (mo : Nat) (ad : Nat → Nat) (sc : wS1) (ar : wS2) (p1 : Int32) (p2 : Int32) (post : Int32 → wS1 → wS2 → Prop) (hw : w3_crateOf post sc ar p1 p2) : wm_Mi l D ac mo ad yX3_crateOf (ws_ yX3_crateOf cX3_crateOf 3 (some .int)) ({ frames := 3, cells := 0, slots := 0, locals := 64 }) [.ref mo, .int p1, .int p2] sc ar post := by
  refine wm_ofi (by decide) (Nat.le_of_ble_eq_true rfl) ?_
  intro p e s m below meth c A ls hx hb hr hlk hml hown hts hK hN hAm hA hM hl
  have hl : lv_has ls 3 [(0, .ref mo), (1, .int p1), (2, .int p2)] := hl
  unfold w3_crateOf at hw
  have hL27 : ∀ (x1 : Int32) (x2 : Int32) (t0 : Int32) (sc : wS1) (ar : wS2) (H : Heap) (locs : List Loc) (ls : Array Slot), wm_S D ac A s.heap mo ad sc ar H locs → lv_has ls 3 [(0, .ref mo), (1, .int x1), (2, .int x2)] → w3_crateOf_L27 post x1 x2 t0 sc ar → W p l e (headSpec (ws_ yX3_crateOf cX3_crateOf 3 (some .int)) ({ frames := 3, cells := 0, slots := 0, locals := 64 })).room s m ([.ref mo, .int p1, .int p2] : List Value).toArray below meth c H locs 0 0 (MQ below (va_Qi (S := wU) (fun r u => post r u.1 u.2) (wm_B D ac mo ad) A) ([.ref mo, .int p1, .int p2] : List Value).toArray s 0 0 A) (F0 m 27 ls [.int t0, .ref mo]) := by
    intro x1 x2 t0 sc ar H locs ls hM hl hw
    unfold w3_crateOf_L27 at hw
    refine wm_callVi (As := [.int t0]) (rest := []) ⟨hx, hb, hml, hown, hts⟩ hK hN hAm hA hM (m3_fails l D ac mo ad sc ar t0 _ hw) (cwV 1 hts (lw_V q2008 q2010 qs19 q77 q2011) rfl rfl rfl hd_X3_fails ⟨Nat.le_of_ble_eq_true rfl, Nat.le_of_ble_eq_true rfl⟩) rfl hl.1 rfl (Nat.le_of_ble_eq_true rfl) dX3_crateOf_27 ⟨Nat.le_refl 0, Nat.le_refl 0⟩ (fun r7 sc5 ar6 H locs hw hM => ?_)
    refine lv_if_eq (tgt := 35) hx hb dX3_crateOf_30 (by decide) (fun c_ => ?_) (fun c_ => ?_)
    · replace hw := hw.1 c_
      refine lv_iload_n hx hb dX3_crateOf_35 rfl (lv_at hl 2 rfl) ?_
      refine lv_iconst (v := 4) hx hb dX3_crateOf_36 (by decide) ?_
      refine lv_icmp_ge (tgt := 49) hx hb dX3_crateOf_37 (by decide) (fun c_ => ?_) (fun c_ => ?_)
      · replace hw := hw.1 c_
        refine lv_iload_n hx hb dX3_crateOf_49 rfl (lv_at hl 2 rfl) ?_
        refine lv_iconst (v := 4) hx hb dX3_crateOf_50 (by decide) ?_
        refine lv_icmp_ne (tgt := 62) hx hb dX3_crateOf_51 (by decide) (fun c_ => ?_) (fun c_ => ?_)
        · replace hw := hw.1 c_
          refine lv_aload_n hx hb dX3_crateOf_62 rfl (lv_at hl 0 rfl) ?_
          refine lv_iload_n hx hb dX3_crateOf_63 rfl (lv_at hl 1 rfl) ?_
          refine wm_callVi (As := [.int x1]) (rest := []) ⟨hx, hb, hml, hown, hts⟩ hK hN hAm hA hM (m3_breaks l D ac mo ad sc5 ar6 x1 _ hw) (cwV 1 hts (lw_V q2149 q2151 qs37 q77 q2152) rfl rfl rfl hd_X3_breaks ⟨Nat.le_of_ble_eq_true rfl, Nat.le_of_ble_eq_true rfl⟩) rfl hl.1 rfl (Nat.le_of_ble_eq_true rfl) dX3_crateOf_64 ⟨Nat.le_refl 0, Nat.le_refl 0⟩ (fun r10 sc8 ar9 H locs hw hM => ?_)
          exact wm_reti hx hb hr hlk hM rfl hw dX3_crateOf_67
        · replace hw := hw.2 c_
          refine lv_aload_n hx hb dX3_crateOf_54 rfl (lv_at hl 0 rfl) ?_
          refine lv_iload_n hx hb dX3_crateOf_55 rfl (lv_at hl 1 rfl) ?_
          refine wm_callVi (As := [.int x1]) (rest := []) ⟨hx, hb, hml, hown, hts⟩ hK hN hAm hA hM (m3_paid l D ac mo ad sc5 ar6 x1 _ hw) (cwV 1 hts (lw_V q2145 q2147 qs36 q77 q2148) rfl rfl rfl hd_X3_paid ⟨Nat.le_of_ble_eq_true rfl, Nat.le_of_ble_eq_true rfl⟩) rfl hl.1 rfl (Nat.le_of_ble_eq_true rfl) dX3_crateOf_56 ⟨Nat.le_refl 0, Nat.le_refl 0⟩ (fun r13 sc11 ar12 H locs hw hM => ?_)
          refine lv_goto (tgt := 67) hx hb dX3_crateOf_59 (by decide) ?_
          exact wm_reti hx hb hr hlk hM rfl hw dX3_crateOf_67
      · replace hw := hw.2 c_
        refine lv_aload_n hx hb dX3_crateOf_40 rfl (lv_at hl 0 rfl) ?_
        refine lv_iload_n hx hb dX3_crateOf_41 rfl (lv_at hl 1 rfl) ?_
        refine lv_iload_n hx hb dX3_crateOf_42 rfl (lv_at hl 2 rfl) ?_
        refine wm_callVi (As := [.int x1, .int x2]) (rest := []) ⟨hx, hb, hml, hown, hts⟩ hK hN hAm hA hM (m3_ofCrate l D ac mo ad sc5 ar6 x1 x2 _ hw) (cwV 2 hts (lw_V q2141 q2143 qs35 q77 q2144) rfl rfl rfl hd_X3_ofCrate ⟨Nat.le_of_ble_eq_true rfl, Nat.le_of_ble_eq_true rfl⟩) rfl hl.1 rfl (Nat.le_of_ble_eq_true rfl) dX3_crateOf_43 ⟨Nat.le_refl 0, Nat.le_refl 0⟩ (fun r16 sc14 ar15 H locs hw hM => ?_)
        refine lv_goto (tgt := 67) hx hb dX3_crateOf_46 (by decide) ?_
        exact wm_reti hx hb hr hlk hM rfl hw dX3_crateOf_67
    · replace hw := hw.2 c_
      refine lv_iconst (v := 0) hx hb dX3_crateOf_33 (by decide) ?_
      exact wm_reti hx hb hr hlk hM rfl hw dX3_crateOf_34
  refine lv_aload_n hx hb dX3_crateOf_0 rfl (lv_at hl 0 rfl) ?_
  refine lv_aload_n hx hb dX3_crateOf_1 rfl (lv_at hl 0 rfl) ?_
  refine lv_iload_n hx hb dX3_crateOf_2 rfl (lv_at hl 1 rfl) ?_
  refine wm_callVi (As := [.int p1]) (rest := [.ref mo]) ⟨hx, hb, hml, hown, hts⟩ hK hN hAm hA hM (m3_isCrate l D ac mo ad sc ar p1 _ hw) (cwV 1 hts (lw_V q2137 q2139 qs34 q77 q2140) rfl rfl rfl hd_X3_isCrate ⟨Nat.le_of_ble_eq_true rfl, Nat.le_of_ble_eq_true rfl⟩) rfl hl.1 rfl (Nat.le_of_ble_eq_true rfl) dX3_crateOf_3 ⟨Nat.le_refl 0, Nat.le_refl 0⟩ (fun r3 sc1 ar2 H locs hw hM => ?_)
  refine lv_if_ne (tgt := 13) hx hb dX3_crateOf_6 (by decide) (fun c_ => ?_) (fun c_ => ?_)
  · replace hw := hw.1 c_
    refine lv_iload_n hx hb dX3_crateOf_13 rfl (lv_at hl 2 rfl) ?_
    refine lv_iconst (v := 0) hx hb dX3_crateOf_14 (by decide) ?_
    refine lv_iconst (v := 5) hx hb dX3_crateOf_15 (by decide) ?_
    refine wm_callPi (As := [.int p2, .int 0, .int 5]) (rest := [.ref mo]) ⟨hx, hb, hml, hown, hts⟩ hA hM (m3_in l p2 0 5 _ hw) (va_cwS 3 hts (lw_S q2005 q2006 q77 q2007) rfl rfl rfl hd_X3_in ⟨Nat.le_of_ble_eq_true rfl, Nat.le_of_ble_eq_true rfl⟩) rfl hl.1 rfl (Nat.le_of_ble_eq_true rfl) dX3_crateOf_16 ⟨Nat.le_refl 0, Nat.le_refl 0⟩ (fun r4 H locs hw hM => ?_)
    refine lv_if_eq (tgt := 26) hx hb dX3_crateOf_19 (by decide) (fun c_ => ?_) (fun c_ => ?_)
    · replace hw := hw.1 c_
      refine lv_iconst (v := 2) hx hb dX3_crateOf_26 (by decide) ?_
      exact hL27  p1 p2 2 sc1 ar2 _ _ ls hM (lv_sub hl [0, 1, 2] rfl) hw
    · replace hw := hw.2 c_
      refine lv_iconst (v := 0) hx hb dX3_crateOf_22 (by decide) ?_
      refine lv_goto (tgt := 27) hx hb dX3_crateOf_23 (by decide) ?_
      exact hL27  p1 p2 0 sc1 ar2 _ _ ls hM (lv_sub hl [0, 1, 2] rfl) hw
  · replace hw := hw.2 c_
    refine lv_iconst (v := 1) hx hb dX3_crateOf_9 (by decide) ?_
    refine lv_goto (tgt := 27) hx hb dX3_crateOf_10 (by decide) ?_
    exact hL27  p1 p2 1 sc1 ar2 _ _ ls hM (lv_sub hl [0, 1, 2] rfl) hw
def w3_pass_L36 (post : Int32 → wS1 → wS2 → Prop) : Nat → Int32 → Int32 → Int32 → wS1 → wS2 → Prop
  | 0, _, _, _, _, _ => False
  | n + 1, x1, x2, x3, sc, ar => (x1 ≤ x3 → (post x2 sc ar)) ∧ (¬ x1 ≤ x3 → (w3_hourGoes (fun r9 sc7 ar8 => w3_pass_L36 post  n x1 (x2 + r9) (x3 + 1) sc7 ar8) sc ar ))
def w3_pass_L16 (post : Int32 → wS1 → wS2 → Prop) (x1 : Int32) (t0 : Int32) (sc : wS1) (ar : wS2) : Prop := w3_fails (fun r4 sc2 ar3 => (r4 = 0 → (w3_keeps (fun sc5 ar6 => (∃ n, w3_pass_L36 post  n x1 0 0 sc5 ar6)) sc2 ar3 0)) ∧ (¬ r4 = 0 → (post 0 sc2 ar3))) sc ar t0
def w3_pass (post : Int32 → wS1 → wS2 → Prop) (sc : wS1) (ar : wS2) (p1 : Int32) : Prop := w3_in (fun r1 => (r1 = 0 → (w3_pass_L16 post  p1 1 sc ar)) ∧ (¬ r1 = 0 → (w3_pass_L16 post  p1 0 sc ar))) p1 1 48
theorem hd_X3_pass : yX3_pass.cls = RX3 ∧ yX3_pass.cls ≠ "java/lang/invoke/MethodHandle" ∧ yX3_pass.cls ≠ "java/lang/invoke/VarHandle" ∧ (parseMethodDescriptor yX3_pass.desc).map (fun d => d.parameters.length) = some 1 := by decide +kernel
set_option maxHeartbeats 4000000 in
set_option maxRecDepth 100000 in
theorem m3_pass (l : Launch) (D : va_G) (ac : Nat → ClassId) (mo : Nat) (ad : Nat → Nat) (sc : wS1) (ar : wS2) (p1 : Int32) (post : Int32 → wS1 → wS2 → Prop) (hw : w3_pass post sc ar p1) : wm_Mi l D ac mo ad yX3_pass (ws_ yX3_pass cX3_pass 4 (some .int)) ({ frames := 4, cells := 0, slots := 0, locals := 89 }) [.ref mo, .int p1] sc ar post := by
  refine wm_ofi (by decide) (Nat.le_of_ble_eq_true rfl) ?_
  intro p e s m below meth c A ls hx hb hr hlk hml hown hts hK hN hAm hA hM hl
  have hl : lv_has ls 4 [(0, .ref mo), (1, .int p1)] := hl
  unfold w3_pass at hw
  have hL36 : ∀ (n : Nat) (x1 : Int32) (x2 : Int32) (x3 : Int32) (sc : wS1) (ar : wS2) (H : Heap) (locs : List Loc) (ls : Array Slot), wm_S D ac A s.heap mo ad sc ar H locs → lv_has ls 4 [(0, .ref mo), (1, .int x1), (2, .int x2), (3, .int x3)] → w3_pass_L36 post n x1 x2 x3 sc ar → W p l e (headSpec (ws_ yX3_pass cX3_pass 4 (some .int)) ({ frames := 4, cells := 0, slots := 0, locals := 89 })).room s m ([.ref mo, .int p1] : List Value).toArray below meth c H locs 0 0 (MQ below (va_Qi (S := wU) (fun r u => post r u.1 u.2) (wm_B D ac mo ad) A) ([.ref mo, .int p1] : List Value).toArray s 0 0 A) (F0 m 36 ls []) := by
    intro n
    induction n with
    | zero => exact fun _ _ _ _ _ _ _ _ _ _ hw => hw.elim
    | succ n ih =>
      intro x1 x2 x3 sc ar H locs ls hM hl hw
      unfold w3_pass_L36 at hw
      refine lv_iload_n hx hb dX3_pass_36 rfl (lv_at hl 3 rfl) ?_
      refine lv_iload_n hx hb dX3_pass_37 rfl (lv_at hl 1 rfl) ?_
      refine lv_icmp_ge (tgt := 54) hx hb dX3_pass_38 (by decide) (fun c_ => ?_) (fun c_ => ?_)
      · replace hw := hw.1 c_
        refine lv_iload_n hx hb dX3_pass_54 rfl (lv_at hl 2 rfl) ?_
        exact wm_reti hx hb hr hlk hM rfl hw dX3_pass_55
      · replace hw := hw.2 c_
        refine lv_iload_n hx hb dX3_pass_41 rfl (lv_at hl 2 rfl) ?_
        refine lv_aload_n hx hb dX3_pass_42 rfl (lv_at hl 0 rfl) ?_
        refine wm_callVi (As := []) (rest := [.int x2]) ⟨hx, hb, hml, hown, hts⟩ hK hN hAm hA hM (m3_hourGoes l D ac mo ad sc ar  _ hw) (cwV 0 hts (lw_V q2177 q2179 qs39 q77 q2180) rfl rfl rfl hd_X3_hourGoes ⟨Nat.le_of_ble_eq_true rfl, Nat.le_of_ble_eq_true rfl⟩) rfl hl.1 rfl (Nat.le_of_ble_eq_true rfl) dX3_pass_43 ⟨Nat.le_refl 0, Nat.le_refl 0⟩ (fun r9 sc7 ar8 H locs hw hM => ?_)
        refine lv_iadd hx hb dX3_pass_46 ?_
        refine lv_istore_n (lv' := [(2, .int (x2 + r9)), (0, .ref mo), (1, .int x1), (3, .int x3)]) hx hb dX3_pass_47 rfl hl (by decide) rfl (fun ls hl => ?_)
        refine lv_iinc (v := x3 + 1) (lv' := [(3, .int (x3 + 1)), (2, .int (x2 + r9)), (0, .ref mo), (1, .int x1)]) hx hb dX3_pass_48 hl (k := 3) rfl rfl (by decide) rfl (fun ls hl => ?_)
        refine lv_goto (tgt := 36) hx hb dX3_pass_51 (by decide) ?_
        exact ih x1 (x2 + r9) (x3 + 1) sc7 ar8 _ _ ls hM (lv_sub hl [2, 3, 1, 0] rfl) hw
  have hL16 : ∀ (x1 : Int32) (t0 : Int32) (sc : wS1) (ar : wS2) (H : Heap) (locs : List Loc) (ls : Array Slot), wm_S D ac A s.heap mo ad sc ar H locs → lv_has ls 4 [(0, .ref mo), (1, .int x1)] → w3_pass_L16 post x1 t0 sc ar → W p l e (headSpec (ws_ yX3_pass cX3_pass 4 (some .int)) ({ frames := 4, cells := 0, slots := 0, locals := 89 })).room s m ([.ref mo, .int p1] : List Value).toArray below meth c H locs 0 0 (MQ below (va_Qi (S := wU) (fun r u => post r u.1 u.2) (wm_B D ac mo ad) A) ([.ref mo, .int p1] : List Value).toArray s 0 0 A) (F0 m 16 ls [.int t0, .ref mo]) := by
    intro x1 t0 sc ar H locs ls hM hl hw
    unfold w3_pass_L16 at hw
    refine wm_callVi (As := [.int t0]) (rest := []) ⟨hx, hb, hml, hown, hts⟩ hK hN hAm hA hM (m3_fails l D ac mo ad sc ar t0 _ hw) (cwV 1 hts (lw_V q2008 q2010 qs19 q77 q2011) rfl rfl rfl hd_X3_fails ⟨Nat.le_of_ble_eq_true rfl, Nat.le_of_ble_eq_true rfl⟩) rfl hl.1 rfl (Nat.le_of_ble_eq_true rfl) dX3_pass_16 ⟨Nat.le_refl 0, Nat.le_refl 0⟩ (fun r4 sc2 ar3 H locs hw hM => ?_)
    refine lv_if_eq (tgt := 24) hx hb dX3_pass_19 (by decide) (fun c_ => ?_) (fun c_ => ?_)
    · replace hw := hw.1 c_
      refine lv_aload_n hx hb dX3_pass_24 rfl (lv_at hl 0 rfl) ?_
      refine lv_aload_n hx hb dX3_pass_25 rfl (lv_at hl 0 rfl) ?_
      refine wm_get hx hb hts hown hK hM 0 (by decide) q1933 (v := .ref (ad 0)) rfl dX3_pass_26 ?_
      refine wm_callVv (As := [.ref (ad 0)]) (rest := []) ⟨hx, hb, hml, hown, hts⟩ hK hN hAm hA hM (m3_keeps l D ac mo ad sc2 ar3 0 _ rfl hw) (cwV 1 hts (lw_V q2016 q2018 qs21 q77 q2019) rfl rfl rfl hd_X3_keeps ⟨Nat.le_of_ble_eq_true rfl, Nat.le_of_ble_eq_true rfl⟩) rfl hl.1 rfl (Nat.le_of_ble_eq_true rfl) dX3_pass_29 ⟨Nat.le_refl 0, Nat.le_refl 0⟩ (fun sc5 ar6 H locs hw hM => ?_)
      refine lv_iconst (v := 0) hx hb dX3_pass_32 (by decide) ?_
      refine lv_istore_n (lv' := [(2, .int 0), (0, .ref mo), (1, .int x1)]) hx hb dX3_pass_33 rfl hl (by decide) rfl (fun ls hl => ?_)
      refine lv_iconst (v := 0) hx hb dX3_pass_34 (by decide) ?_
      refine lv_istore_n (lv' := [(3, .int 0), (2, .int 0), (0, .ref mo), (1, .int x1)]) hx hb dX3_pass_35 rfl hl (by decide) rfl (fun ls hl => ?_)
      obtain ⟨n0, hw⟩ := hw
      exact hL36  n0 x1 0 0 sc5 ar6 _ _ ls hM (lv_sub hl [2, 3, 1, 0] rfl) hw
    · replace hw := hw.2 c_
      refine lv_iconst (v := 0) hx hb dX3_pass_22 (by decide) ?_
      exact wm_reti hx hb hr hlk hM rfl hw dX3_pass_23
  refine lv_aload_n hx hb dX3_pass_0 rfl (lv_at hl 0 rfl) ?_
  refine lv_iload_n hx hb dX3_pass_1 rfl (lv_at hl 1 rfl) ?_
  refine lv_iconst (v := 1) hx hb dX3_pass_2 (by decide) ?_
  refine lv_bipush (v := 48) hx hb dX3_pass_3 (by decide) ?_
  refine wm_callPi (As := [.int p1, .int 1, .int 48]) (rest := [.ref mo]) ⟨hx, hb, hml, hown, hts⟩ hA hM (m3_in l p1 1 48 _ hw) (va_cwS 3 hts (lw_S q2005 q2006 q77 q2007) rfl rfl rfl hd_X3_in ⟨Nat.le_of_ble_eq_true rfl, Nat.le_of_ble_eq_true rfl⟩) rfl hl.1 rfl (Nat.le_of_ble_eq_true rfl) dX3_pass_5 ⟨Nat.le_refl 0, Nat.le_refl 0⟩ (fun r1 H locs hw hM => ?_)
  refine lv_if_eq (tgt := 15) hx hb dX3_pass_8 (by decide) (fun c_ => ?_) (fun c_ => ?_)
  · replace hw := hw.1 c_
    refine lv_iconst (v := 1) hx hb dX3_pass_15 (by decide) ?_
    exact hL16  p1 1 sc ar _ _ ls hM (lv_sub hl [0, 1] rfl) hw
  · replace hw := hw.2 c_
    refine lv_iconst (v := 0) hx hb dX3_pass_11 (by decide) ?_
    refine lv_goto (tgt := 16) hx hb dX3_pass_12 (by decide) ?_
    exact hL16  p1 0 sc ar _ _ ls hM (lv_sub hl [0, 1] rfl) hw
def w3_itemHere_L249 (post : Int32 → wS1 → wS2 → Prop) (x1 : Int32) (sc : wS1) (ar : wS2) : Prop := w3_digit (fun r81 sc79 ar80 => narrow .boolean (.int r81) = .int r81 ∧ post r81 sc79 ar80) sc ar (x1 + 1)
def w3_itemHere (post : Int32 → wS1 → wS2 → Prop) (sc : wS1) (ar : wS2)  : Prop := w3_here (fun r3 sc1 ar2 => vp_in (4 * (sc 18)) 128 ∧ (w3_skips (fun r6 sc4 ar5 => (r6 = 0 → (w3_skips (fun r9 sc7 ar8 => (r9 = 0 → (w3_skips (fun r12 sc10 ar11 => (r12 = 0 → (w3_skips (fun r15 sc13 ar14 => (r15 = 0 → (w3_skips (fun r18 sc16 ar17 => (¬ r18 = 0 → (w3_itemHere_L249 post  (4 * (sc 18)) sc16 ar17)) ∧ (r18 = 0 → (w3_skips (fun r21 sc19 ar20 => (r21 = 0 → (w3_skips (fun r24 sc22 ar23 => (r24 = 0 → (w3_skips (fun r27 sc25 ar26 => narrow .boolean (.int r27) = .int r27 ∧ post r27 sc25 ar26) sc22 ar23 120)) ∧ (¬ r24 = 0 → (w3_number (fun r30 sc28 ar29 => narrow .boolean (.int r30) = .int r30 ∧ post r30 sc28 ar29) sc22 ar23 ((4 * (sc 18)) + 1)))) sc19 ar20 104)) ∧ (¬ r21 = 0 → (w3_itemHere_L249 post  (4 * (sc 18)) sc19 ar20))) sc16 ar17 119))) sc13 ar14 99)) ∧ (¬ r15 = 0 → (w3_digit (fun r33 sc31 ar32 => (r33 = 0 → (post 0 sc31 ar32)) ∧ (¬ r33 = 0 → (w3_skips (fun r36 sc34 ar35 => (r36 = 0 → (post 0 sc34 ar35)) ∧ (¬ r36 = 0 → (w3_digit (fun r39 sc37 ar38 => (r39 = 0 → (post 0 sc37 ar38)) ∧ (¬ r39 = 0 → (post 1 sc37 ar38))) sc34 ar35 ((4 * (sc 18)) + 2)))) sc31 ar32 43))) sc13 ar14 ((4 * (sc 18)) + 1)))) sc10 ar11 115)) ∧ (¬ r12 = 0 → (w3_digit (fun r42 sc40 ar41 => (r42 = 0 → (post 0 sc40 ar41)) ∧ (¬ r42 = 0 → (w3_skips (fun r45 sc43 ar44 => (r45 = 0 → (post 0 sc43 ar44)) ∧ (¬ r45 = 0 → (w3_number (fun r48 sc46 ar47 => (r48 = 0 → (post 0 sc46 ar47)) ∧ (¬ r48 = 0 → (w3_skips (fun r51 sc49 ar50 => (r51 = 0 → (post 0 sc49 ar50)) ∧ (¬ r51 = 0 → (w3_number (fun r54 sc52 ar53 => (r54 = 0 → (post 0 sc52 ar53)) ∧ (¬ r54 = 0 → (post 1 sc52 ar53))) sc49 ar50 ((4 * (sc 18)) + 3)))) sc46 ar47 42))) sc43 ar44 ((4 * (sc 18)) + 2)))) sc40 ar41 60))) sc10 ar11 ((4 * (sc 18)) + 1)))) sc7 ar8 107)) ∧ (¬ r9 = 0 → (w3_number (fun r57 sc55 ar56 => (r57 = 0 → (post 0 sc55 ar56)) ∧ (¬ r57 = 0 → (w3_skips (fun r60 sc58 ar59 => (r60 = 0 → (post 0 sc58 ar59)) ∧ (¬ r60 = 0 → (w3_digit (fun r63 sc61 ar62 => (r63 = 0 → (post 0 sc61 ar62)) ∧ (¬ r63 = 0 → (w3_skips (fun r66 sc64 ar65 => (r66 = 0 → (post 0 sc64 ar65)) ∧ (¬ r66 = 0 → (w3_digit (fun r69 sc67 ar68 => (r69 = 0 → (post 0 sc67 ar68)) ∧ (¬ r69 = 0 → (post 1 sc67 ar68))) sc64 ar65 ((4 * (sc 18)) + 3)))) sc61 ar62 58))) sc58 ar59 ((4 * (sc 18)) + 2)))) sc55 ar56 64))) sc7 ar8 ((4 * (sc 18)) + 1)))) sc4 ar5 102)) ∧ (¬ r6 = 0 → (w3_number (fun r72 sc70 ar71 => (r72 = 0 → (post 0 sc70 ar71)) ∧ (¬ r72 = 0 → (w3_skips (fun r75 sc73 ar74 => (r75 = 0 → (post 0 sc73 ar74)) ∧ (¬ r75 = 0 → (w3_digit (fun r78 sc76 ar77 => (r78 = 0 → (post 0 sc76 ar77)) ∧ (¬ r78 = 0 → (post 1 sc76 ar77))) sc73 ar74 ((4 * (sc 18)) + 2)))) sc70 ar71 64))) sc4 ar5 ((4 * (sc 18)) + 1)))) sc1 (va_up ar2 17 (upd (ar2 17) (4 * (sc 18)).toNatClampNeg r3)) 112)) sc ar 
theorem hd_X3_itemHere : yX3_itemHere.cls = RX3 ∧ yX3_itemHere.cls ≠ "java/lang/invoke/MethodHandle" ∧ yX3_itemHere.cls ≠ "java/lang/invoke/VarHandle" ∧ (parseMethodDescriptor yX3_itemHere.desc).map (fun d => d.parameters.length) = some 0 := by decide +kernel
set_option maxHeartbeats 4000000 in
set_option maxRecDepth 100000 in
theorem m3_itemHere (l : Launch) (D : va_G) (ac : Nat → ClassId) (mo : Nat) (ad : Nat → Nat) (sc : wS1) (ar : wS2)  (post : Int32 → wS1 → wS2 → Prop) (hw : w3_itemHere post sc ar ) : wm_Mi l D ac mo ad yX3_itemHere (ws_ yX3_itemHere cX3_itemHere 2 (some .boolean)) ({ frames := 3, cells := 0, slots := 0, locals := 64 }) [.ref mo] sc ar post := by
  refine wm_ofi (by decide) (Nat.le_of_ble_eq_true rfl) ?_
  intro p e s m below meth c A ls hx hb hr hlk hml hown hts hK hN hAm hA hM hl
  have hl : lv_has ls 2 [(0, .ref mo)] := hl
  unfold w3_itemHere at hw
  have hL249 : ∀ (x1 : Int32) (sc : wS1) (ar : wS2) (H : Heap) (locs : List Loc) (ls : Array Slot), wm_S D ac A s.heap mo ad sc ar H locs → lv_has ls 2 [(0, .ref mo), (1, .int x1)] → w3_itemHere_L249 post x1 sc ar → W p l e (headSpec (ws_ yX3_itemHere cX3_itemHere 2 (some .boolean)) ({ frames := 3, cells := 0, slots := 0, locals := 64 })).room s m ([.ref mo] : List Value).toArray below meth c H locs 0 0 (MQ below (va_Qi (S := wU) (fun r u => post r u.1 u.2) (wm_B D ac mo ad) A) ([.ref mo] : List Value).toArray s 0 0 A) (F0 m 249 ls []) := by
    intro x1 sc ar H locs ls hM hl hw
    unfold w3_itemHere_L249 at hw
    refine lv_aload_n hx hb dX3_itemHere_249 rfl (lv_at hl 0 rfl) ?_
    refine lv_iload_n hx hb dX3_itemHere_250 rfl (lv_at hl 1 rfl) ?_
    refine lv_iconst (v := 1) hx hb dX3_itemHere_251 (by decide) ?_
    refine lv_iadd hx hb dX3_itemHere_252 ?_
    refine wm_callVi (As := [.int (x1 + 1)]) (rest := []) ⟨hx, hb, hml, hown, hts⟩ hK hN hAm hA hM (m3_digit l D ac mo ad sc ar (x1 + 1) _ hw) (cwV 1 hts (lw_V q2277 q2279 qs52 q77 q2280) rfl rfl rfl hd_X3_digit ⟨Nat.le_of_ble_eq_true rfl, Nat.le_of_ble_eq_true rfl⟩) rfl hl.1 rfl (Nat.le_of_ble_eq_true rfl) dX3_itemHere_253 ⟨Nat.le_refl 0, Nat.le_refl 0⟩ (fun r81 sc79 ar80 H locs hw hM => ?_)
    exact wm_reti hx hb hr hlk hM hw.1 hw.2 dX3_itemHere_256
  refine lv_iconst (v := 4) hx hb dX3_itemHere_0 (by decide) ?_
  refine lv_aload_n hx hb dX3_itemHere_1 rfl (lv_at hl 0 rfl) ?_
  refine wm_get hx hb hts hown hK hM 18 (by decide) q1951 (v := .int (sc 18)) rfl dX3_itemHere_2 ?_
  refine lv_imul hx hb dX3_itemHere_5 ?_
  refine lv_istore_n (lv' := [(1, .int (4 * (sc 18))), (0, .ref mo)]) hx hb dX3_itemHere_6 rfl hl (by decide) rfl (fun ls hl => ?_)
  refine lv_aload_n hx hb dX3_itemHere_7 rfl (lv_at hl 1 rfl) ?_
  refine wm_get hx hb hts hown hK hM 17 (by decide) q1950 (v := .ref (ad 17)) rfl dX3_itemHere_8 ?_
  refine lv_iload_n hx hb dX3_itemHere_11 rfl (lv_at hl 0 rfl) ?_
  refine lv_aload_n hx hb dX3_itemHere_12 rfl (lv_at hl 1 rfl) ?_
  refine wm_callVi (As := []) (rest := [.int (4 * (sc 18)), .ref (ad 17)]) ⟨hx, hb, hml, hown, hts⟩ hK hN hAm hA hM (m3_here l D ac mo ad sc ar  _ hw) (cwV 0 hts (lw_V q2265 q2267 qs49 q77 q2268) rfl rfl rfl hd_X3_here ⟨Nat.le_of_ble_eq_true rfl, Nat.le_of_ble_eq_true rfl⟩) rfl hl.1 rfl (Nat.le_of_ble_eq_true rfl) dX3_itemHere_13 ⟨Nat.le_refl 0, Nat.le_refl 0⟩ (fun r3 sc1 ar2 H locs hw hM => ?_)
  refine wm_ast hx hb hK hN hAm hM (k := 17) rfl hw.1 rfl (f := ar2 17) rfl dX3_itemHere_16 (fun H locs hM => ?_)
  replace hw := hw.2
  refine lv_aload_n hx hb dX3_itemHere_17 rfl (lv_at hl 1 rfl) ?_
  refine lv_bipush (v := 112) hx hb dX3_itemHere_18 (by decide) ?_
  refine wm_callVi (As := [.int 112]) (rest := []) ⟨hx, hb, hml, hown, hts⟩ hK hN hAm hA hM (m3_skips l D ac mo ad sc1 (va_up ar2 17 (upd (ar2 17) (4 * (sc 18)).toNatClampNeg r3)) 112 _ hw) (cwV 1 hts (lw_V q2269 q2271 qs50 q77 q2272) rfl rfl rfl hd_X3_skips ⟨Nat.le_of_ble_eq_true rfl, Nat.le_of_ble_eq_true rfl⟩) rfl hl.1 rfl (Nat.le_of_ble_eq_true rfl) dX3_itemHere_20 ⟨Nat.le_refl 0, Nat.le_refl 0⟩ (fun r6 sc4 ar5 H locs hw hM => ?_)
  refine lv_if_eq (tgt := 61) hx hb dX3_itemHere_23 (by decide) (fun c_ => ?_) (fun c_ => ?_)
  · replace hw := hw.1 c_
    refine lv_aload_n hx hb dX3_itemHere_61 rfl (lv_at hl 1 rfl) ?_
    refine lv_bipush (v := 102) hx hb dX3_itemHere_62 (by decide) ?_
    refine wm_callVi (As := [.int 102]) (rest := []) ⟨hx, hb, hml, hown, hts⟩ hK hN hAm hA hM (m3_skips l D ac mo ad sc4 ar5 102 _ hw) (cwV 1 hts (lw_V q2269 q2271 qs50 q77 q2272) rfl rfl rfl hd_X3_skips ⟨Nat.le_of_ble_eq_true rfl, Nat.le_of_ble_eq_true rfl⟩) rfl hl.1 rfl (Nat.le_of_ble_eq_true rfl) dX3_itemHere_64 ⟨Nat.le_refl 0, Nat.le_refl 0⟩ (fun r9 sc7 ar8 H locs hw hM => ?_)
    refine lv_if_eq (tgt := 124) hx hb dX3_itemHere_67 (by decide) (fun c_ => ?_) (fun c_ => ?_)
    · replace hw := hw.1 c_
      refine lv_aload_n hx hb dX3_itemHere_124 rfl (lv_at hl 1 rfl) ?_
      refine lv_bipush (v := 107) hx hb dX3_itemHere_125 (by decide) ?_
      refine wm_callVi (As := [.int 107]) (rest := []) ⟨hx, hb, hml, hown, hts⟩ hK hN hAm hA hM (m3_skips l D ac mo ad sc7 ar8 107 _ hw) (cwV 1 hts (lw_V q2269 q2271 qs50 q77 q2272) rfl rfl rfl hd_X3_skips ⟨Nat.le_of_ble_eq_true rfl, Nat.le_of_ble_eq_true rfl⟩) rfl hl.1 rfl (Nat.le_of_ble_eq_true rfl) dX3_itemHere_127 ⟨Nat.le_refl 0, Nat.le_refl 0⟩ (fun r12 sc10 ar11 H locs hw hM => ?_)
      refine lv_if_eq (tgt := 187) hx hb dX3_itemHere_130 (by decide) (fun c_ => ?_) (fun c_ => ?_)
      · replace hw := hw.1 c_
        refine lv_aload_n hx hb dX3_itemHere_187 rfl (lv_at hl 1 rfl) ?_
        refine lv_bipush (v := 115) hx hb dX3_itemHere_188 (by decide) ?_
        refine wm_callVi (As := [.int 115]) (rest := []) ⟨hx, hb, hml, hown, hts⟩ hK hN hAm hA hM (m3_skips l D ac mo ad sc10 ar11 115 _ hw) (cwV 1 hts (lw_V q2269 q2271 qs50 q77 q2272) rfl rfl rfl hd_X3_skips ⟨Nat.le_of_ble_eq_true rfl, Nat.le_of_ble_eq_true rfl⟩) rfl hl.1 rfl (Nat.le_of_ble_eq_true rfl) dX3_itemHere_190 ⟨Nat.le_refl 0, Nat.le_refl 0⟩ (fun r15 sc13 ar14 H locs hw hM => ?_)
        refine lv_if_eq (tgt := 231) hx hb dX3_itemHere_193 (by decide) (fun c_ => ?_) (fun c_ => ?_)
        · replace hw := hw.1 c_
          refine lv_aload_n hx hb dX3_itemHere_231 rfl (lv_at hl 1 rfl) ?_
          refine lv_bipush (v := 99) hx hb dX3_itemHere_232 (by decide) ?_
          refine wm_callVi (As := [.int 99]) (rest := []) ⟨hx, hb, hml, hown, hts⟩ hK hN hAm hA hM (m3_skips l D ac mo ad sc13 ar14 99 _ hw) (cwV 1 hts (lw_V q2269 q2271 qs50 q77 q2272) rfl rfl rfl hd_X3_skips ⟨Nat.le_of_ble_eq_true rfl, Nat.le_of_ble_eq_true rfl⟩) rfl hl.1 rfl (Nat.le_of_ble_eq_true rfl) dX3_itemHere_234 ⟨Nat.le_refl 0, Nat.le_refl 0⟩ (fun r18 sc16 ar17 H locs hw hM => ?_)
          refine lv_if_ne (tgt := 249) hx hb dX3_itemHere_237 (by decide) (fun c_ => ?_) (fun c_ => ?_)
          · replace hw := hw.1 c_
            exact hL249  (4 * (sc 18)) sc16 ar17 _ _ ls hM (lv_sub hl [1, 0] rfl) hw
          · replace hw := hw.2 c_
            refine lv_aload_n hx hb dX3_itemHere_240 rfl (lv_at hl 1 rfl) ?_
            refine lv_bipush (v := 119) hx hb dX3_itemHere_241 (by decide) ?_
            refine wm_callVi (As := [.int 119]) (rest := []) ⟨hx, hb, hml, hown, hts⟩ hK hN hAm hA hM (m3_skips l D ac mo ad sc16 ar17 119 _ hw) (cwV 1 hts (lw_V q2269 q2271 qs50 q77 q2272) rfl rfl rfl hd_X3_skips ⟨Nat.le_of_ble_eq_true rfl, Nat.le_of_ble_eq_true rfl⟩) rfl hl.1 rfl (Nat.le_of_ble_eq_true rfl) dX3_itemHere_243 ⟨Nat.le_refl 0, Nat.le_refl 0⟩ (fun r21 sc19 ar20 H locs hw hM => ?_)
            refine lv_if_eq (tgt := 257) hx hb dX3_itemHere_246 (by decide) (fun c_ => ?_) (fun c_ => ?_)
            · replace hw := hw.1 c_
              refine lv_aload_n hx hb dX3_itemHere_257 rfl (lv_at hl 1 rfl) ?_
              refine lv_bipush (v := 104) hx hb dX3_itemHere_258 (by decide) ?_
              refine wm_callVi (As := [.int 104]) (rest := []) ⟨hx, hb, hml, hown, hts⟩ hK hN hAm hA hM (m3_skips l D ac mo ad sc19 ar20 104 _ hw) (cwV 1 hts (lw_V q2269 q2271 qs50 q77 q2272) rfl rfl rfl hd_X3_skips ⟨Nat.le_of_ble_eq_true rfl, Nat.le_of_ble_eq_true rfl⟩) rfl hl.1 rfl (Nat.le_of_ble_eq_true rfl) dX3_itemHere_260 ⟨Nat.le_refl 0, Nat.le_refl 0⟩ (fun r24 sc22 ar23 H locs hw hM => ?_)
              refine lv_if_eq (tgt := 274) hx hb dX3_itemHere_263 (by decide) (fun c_ => ?_) (fun c_ => ?_)
              · replace hw := hw.1 c_
                refine lv_aload_n hx hb dX3_itemHere_274 rfl (lv_at hl 1 rfl) ?_
                refine lv_bipush (v := 120) hx hb dX3_itemHere_275 (by decide) ?_
                refine wm_callVi (As := [.int 120]) (rest := []) ⟨hx, hb, hml, hown, hts⟩ hK hN hAm hA hM (m3_skips l D ac mo ad sc22 ar23 120 _ hw) (cwV 1 hts (lw_V q2269 q2271 qs50 q77 q2272) rfl rfl rfl hd_X3_skips ⟨Nat.le_of_ble_eq_true rfl, Nat.le_of_ble_eq_true rfl⟩) rfl hl.1 rfl (Nat.le_of_ble_eq_true rfl) dX3_itemHere_277 ⟨Nat.le_refl 0, Nat.le_refl 0⟩ (fun r27 sc25 ar26 H locs hw hM => ?_)
                exact wm_reti hx hb hr hlk hM hw.1 hw.2 dX3_itemHere_280
              · replace hw := hw.2 c_
                refine lv_aload_n hx hb dX3_itemHere_266 rfl (lv_at hl 1 rfl) ?_
                refine lv_iload_n hx hb dX3_itemHere_267 rfl (lv_at hl 0 rfl) ?_
                refine lv_iconst (v := 1) hx hb dX3_itemHere_268 (by decide) ?_
                refine lv_iadd hx hb dX3_itemHere_269 ?_
                refine wm_callVi (As := [.int ((4 * (sc 18)) + 1)]) (rest := []) ⟨hx, hb, hml, hown, hts⟩ hK hN hAm hA hM (m3_number l D ac mo ad sc22 ar23 ((4 * (sc 18)) + 1) _ hw) (cwV 1 hts (lw_V q2273 q2275 qs51 q77 q2276) rfl rfl rfl hd_X3_number ⟨Nat.le_of_ble_eq_true rfl, Nat.le_of_ble_eq_true rfl⟩) rfl hl.1 rfl (Nat.le_of_ble_eq_true rfl) dX3_itemHere_270 ⟨Nat.le_refl 0, Nat.le_refl 0⟩ (fun r30 sc28 ar29 H locs hw hM => ?_)
                exact wm_reti hx hb hr hlk hM hw.1 hw.2 dX3_itemHere_273
            · replace hw := hw.2 c_
              exact hL249  (4 * (sc 18)) sc19 ar20 _ _ ls hM (lv_sub hl [1, 0] rfl) hw
        · replace hw := hw.2 c_
          refine lv_aload_n hx hb dX3_itemHere_196 rfl (lv_at hl 1 rfl) ?_
          refine lv_iload_n hx hb dX3_itemHere_197 rfl (lv_at hl 0 rfl) ?_
          refine lv_iconst (v := 1) hx hb dX3_itemHere_198 (by decide) ?_
          refine lv_iadd hx hb dX3_itemHere_199 ?_
          refine wm_callVi (As := [.int ((4 * (sc 18)) + 1)]) (rest := []) ⟨hx, hb, hml, hown, hts⟩ hK hN hAm hA hM (m3_digit l D ac mo ad sc13 ar14 ((4 * (sc 18)) + 1) _ hw) (cwV 1 hts (lw_V q2277 q2279 qs52 q77 q2280) rfl rfl rfl hd_X3_digit ⟨Nat.le_of_ble_eq_true rfl, Nat.le_of_ble_eq_true rfl⟩) rfl hl.1 rfl (Nat.le_of_ble_eq_true rfl) dX3_itemHere_200 ⟨Nat.le_refl 0, Nat.le_refl 0⟩ (fun r33 sc31 ar32 H locs hw hM => ?_)
          refine lv_if_eq (tgt := 229) hx hb dX3_itemHere_203 (by decide) (fun c_ => ?_) (fun c_ => ?_)
          · replace hw := hw.1 c_
            refine lv_iconst (v := 0) hx hb dX3_itemHere_229 (by decide) ?_
            exact wm_reti hx hb hr hlk hM rfl hw dX3_itemHere_230
          · replace hw := hw.2 c_
            refine lv_aload_n hx hb dX3_itemHere_206 rfl (lv_at hl 1 rfl) ?_
            refine lv_bipush (v := 43) hx hb dX3_itemHere_207 (by decide) ?_
            refine wm_callVi (As := [.int 43]) (rest := []) ⟨hx, hb, hml, hown, hts⟩ hK hN hAm hA hM (m3_skips l D ac mo ad sc31 ar32 43 _ hw) (cwV 1 hts (lw_V q2269 q2271 qs50 q77 q2272) rfl rfl rfl hd_X3_skips ⟨Nat.le_of_ble_eq_true rfl, Nat.le_of_ble_eq_true rfl⟩) rfl hl.1 rfl (Nat.le_of_ble_eq_true rfl) dX3_itemHere_209 ⟨Nat.le_refl 0, Nat.le_refl 0⟩ (fun r36 sc34 ar35 H locs hw hM => ?_)
            refine lv_if_eq (tgt := 229) hx hb dX3_itemHere_212 (by decide) (fun c_ => ?_) (fun c_ => ?_)
            · replace hw := hw.1 c_
              refine lv_iconst (v := 0) hx hb dX3_itemHere_229 (by decide) ?_
              exact wm_reti hx hb hr hlk hM rfl hw dX3_itemHere_230
            · replace hw := hw.2 c_
              refine lv_aload_n hx hb dX3_itemHere_215 rfl (lv_at hl 1 rfl) ?_
              refine lv_iload_n hx hb dX3_itemHere_216 rfl (lv_at hl 0 rfl) ?_
              refine lv_iconst (v := 2) hx hb dX3_itemHere_217 (by decide) ?_
              refine lv_iadd hx hb dX3_itemHere_218 ?_
              refine wm_callVi (As := [.int ((4 * (sc 18)) + 2)]) (rest := []) ⟨hx, hb, hml, hown, hts⟩ hK hN hAm hA hM (m3_digit l D ac mo ad sc34 ar35 ((4 * (sc 18)) + 2) _ hw) (cwV 1 hts (lw_V q2277 q2279 qs52 q77 q2280) rfl rfl rfl hd_X3_digit ⟨Nat.le_of_ble_eq_true rfl, Nat.le_of_ble_eq_true rfl⟩) rfl hl.1 rfl (Nat.le_of_ble_eq_true rfl) dX3_itemHere_219 ⟨Nat.le_refl 0, Nat.le_refl 0⟩ (fun r39 sc37 ar38 H locs hw hM => ?_)
              refine lv_if_eq (tgt := 229) hx hb dX3_itemHere_222 (by decide) (fun c_ => ?_) (fun c_ => ?_)
              · replace hw := hw.1 c_
                refine lv_iconst (v := 0) hx hb dX3_itemHere_229 (by decide) ?_
                exact wm_reti hx hb hr hlk hM rfl hw dX3_itemHere_230
              · replace hw := hw.2 c_
                refine lv_iconst (v := 1) hx hb dX3_itemHere_225 (by decide) ?_
                refine lv_goto (tgt := 230) hx hb dX3_itemHere_226 (by decide) ?_
                exact wm_reti hx hb hr hlk hM rfl hw dX3_itemHere_230
      · replace hw := hw.2 c_
        refine lv_aload_n hx hb dX3_itemHere_133 rfl (lv_at hl 1 rfl) ?_
        refine lv_iload_n hx hb dX3_itemHere_134 rfl (lv_at hl 0 rfl) ?_
        refine lv_iconst (v := 1) hx hb dX3_itemHere_135 (by decide) ?_
        refine lv_iadd hx hb dX3_itemHere_136 ?_
        refine wm_callVi (As := [.int ((4 * (sc 18)) + 1)]) (rest := []) ⟨hx, hb, hml, hown, hts⟩ hK hN hAm hA hM (m3_digit l D ac mo ad sc10 ar11 ((4 * (sc 18)) + 1) _ hw) (cwV 1 hts (lw_V q2277 q2279 qs52 q77 q2280) rfl rfl rfl hd_X3_digit ⟨Nat.le_of_ble_eq_true rfl, Nat.le_of_ble_eq_true rfl⟩) rfl hl.1 rfl (Nat.le_of_ble_eq_true rfl) dX3_itemHere_137 ⟨Nat.le_refl 0, Nat.le_refl 0⟩ (fun r42 sc40 ar41 H locs hw hM => ?_)
        refine lv_if_eq (tgt := 185) hx hb dX3_itemHere_140 (by decide) (fun c_ => ?_) (fun c_ => ?_)
        · replace hw := hw.1 c_
          refine lv_iconst (v := 0) hx hb dX3_itemHere_185 (by decide) ?_
          exact wm_reti hx hb hr hlk hM rfl hw dX3_itemHere_186
        · replace hw := hw.2 c_
          refine lv_aload_n hx hb dX3_itemHere_143 rfl (lv_at hl 1 rfl) ?_
          refine lv_bipush (v := 60) hx hb dX3_itemHere_144 (by decide) ?_
          refine wm_callVi (As := [.int 60]) (rest := []) ⟨hx, hb, hml, hown, hts⟩ hK hN hAm hA hM (m3_skips l D ac mo ad sc40 ar41 60 _ hw) (cwV 1 hts (lw_V q2269 q2271 qs50 q77 q2272) rfl rfl rfl hd_X3_skips ⟨Nat.le_of_ble_eq_true rfl, Nat.le_of_ble_eq_true rfl⟩) rfl hl.1 rfl (Nat.le_of_ble_eq_true rfl) dX3_itemHere_146 ⟨Nat.le_refl 0, Nat.le_refl 0⟩ (fun r45 sc43 ar44 H locs hw hM => ?_)
          refine lv_if_eq (tgt := 185) hx hb dX3_itemHere_149 (by decide) (fun c_ => ?_) (fun c_ => ?_)
          · replace hw := hw.1 c_
            refine lv_iconst (v := 0) hx hb dX3_itemHere_185 (by decide) ?_
            exact wm_reti hx hb hr hlk hM rfl hw dX3_itemHere_186
          · replace hw := hw.2 c_
            refine lv_aload_n hx hb dX3_itemHere_152 rfl (lv_at hl 1 rfl) ?_
            refine lv_iload_n hx hb dX3_itemHere_153 rfl (lv_at hl 0 rfl) ?_
            refine lv_iconst (v := 2) hx hb dX3_itemHere_154 (by decide) ?_
            refine lv_iadd hx hb dX3_itemHere_155 ?_
            refine wm_callVi (As := [.int ((4 * (sc 18)) + 2)]) (rest := []) ⟨hx, hb, hml, hown, hts⟩ hK hN hAm hA hM (m3_number l D ac mo ad sc43 ar44 ((4 * (sc 18)) + 2) _ hw) (cwV 1 hts (lw_V q2273 q2275 qs51 q77 q2276) rfl rfl rfl hd_X3_number ⟨Nat.le_of_ble_eq_true rfl, Nat.le_of_ble_eq_true rfl⟩) rfl hl.1 rfl (Nat.le_of_ble_eq_true rfl) dX3_itemHere_156 ⟨Nat.le_refl 0, Nat.le_refl 0⟩ (fun r48 sc46 ar47 H locs hw hM => ?_)
            refine lv_if_eq (tgt := 185) hx hb dX3_itemHere_159 (by decide) (fun c_ => ?_) (fun c_ => ?_)
            · replace hw := hw.1 c_
              refine lv_iconst (v := 0) hx hb dX3_itemHere_185 (by decide) ?_
              exact wm_reti hx hb hr hlk hM rfl hw dX3_itemHere_186
            · replace hw := hw.2 c_
              refine lv_aload_n hx hb dX3_itemHere_162 rfl (lv_at hl 1 rfl) ?_
              refine lv_bipush (v := 42) hx hb dX3_itemHere_163 (by decide) ?_
              refine wm_callVi (As := [.int 42]) (rest := []) ⟨hx, hb, hml, hown, hts⟩ hK hN hAm hA hM (m3_skips l D ac mo ad sc46 ar47 42 _ hw) (cwV 1 hts (lw_V q2269 q2271 qs50 q77 q2272) rfl rfl rfl hd_X3_skips ⟨Nat.le_of_ble_eq_true rfl, Nat.le_of_ble_eq_true rfl⟩) rfl hl.1 rfl (Nat.le_of_ble_eq_true rfl) dX3_itemHere_165 ⟨Nat.le_refl 0, Nat.le_refl 0⟩ (fun r51 sc49 ar50 H locs hw hM => ?_)
              refine lv_if_eq (tgt := 185) hx hb dX3_itemHere_168 (by decide) (fun c_ => ?_) (fun c_ => ?_)
              · replace hw := hw.1 c_
                refine lv_iconst (v := 0) hx hb dX3_itemHere_185 (by decide) ?_
                exact wm_reti hx hb hr hlk hM rfl hw dX3_itemHere_186
              · replace hw := hw.2 c_
                refine lv_aload_n hx hb dX3_itemHere_171 rfl (lv_at hl 1 rfl) ?_
                refine lv_iload_n hx hb dX3_itemHere_172 rfl (lv_at hl 0 rfl) ?_
                refine lv_iconst (v := 3) hx hb dX3_itemHere_173 (by decide) ?_
                refine lv_iadd hx hb dX3_itemHere_174 ?_
                refine wm_callVi (As := [.int ((4 * (sc 18)) + 3)]) (rest := []) ⟨hx, hb, hml, hown, hts⟩ hK hN hAm hA hM (m3_number l D ac mo ad sc49 ar50 ((4 * (sc 18)) + 3) _ hw) (cwV 1 hts (lw_V q2273 q2275 qs51 q77 q2276) rfl rfl rfl hd_X3_number ⟨Nat.le_of_ble_eq_true rfl, Nat.le_of_ble_eq_true rfl⟩) rfl hl.1 rfl (Nat.le_of_ble_eq_true rfl) dX3_itemHere_175 ⟨Nat.le_refl 0, Nat.le_refl 0⟩ (fun r54 sc52 ar53 H locs hw hM => ?_)
                refine lv_if_eq (tgt := 185) hx hb dX3_itemHere_178 (by decide) (fun c_ => ?_) (fun c_ => ?_)
                · replace hw := hw.1 c_
                  refine lv_iconst (v := 0) hx hb dX3_itemHere_185 (by decide) ?_
                  exact wm_reti hx hb hr hlk hM rfl hw dX3_itemHere_186
                · replace hw := hw.2 c_
                  refine lv_iconst (v := 1) hx hb dX3_itemHere_181 (by decide) ?_
                  refine lv_goto (tgt := 186) hx hb dX3_itemHere_182 (by decide) ?_
                  exact wm_reti hx hb hr hlk hM rfl hw dX3_itemHere_186
    · replace hw := hw.2 c_
      refine lv_aload_n hx hb dX3_itemHere_70 rfl (lv_at hl 1 rfl) ?_
      refine lv_iload_n hx hb dX3_itemHere_71 rfl (lv_at hl 0 rfl) ?_
      refine lv_iconst (v := 1) hx hb dX3_itemHere_72 (by decide) ?_
      refine lv_iadd hx hb dX3_itemHere_73 ?_
      refine wm_callVi (As := [.int ((4 * (sc 18)) + 1)]) (rest := []) ⟨hx, hb, hml, hown, hts⟩ hK hN hAm hA hM (m3_number l D ac mo ad sc7 ar8 ((4 * (sc 18)) + 1) _ hw) (cwV 1 hts (lw_V q2273 q2275 qs51 q77 q2276) rfl rfl rfl hd_X3_number ⟨Nat.le_of_ble_eq_true rfl, Nat.le_of_ble_eq_true rfl⟩) rfl hl.1 rfl (Nat.le_of_ble_eq_true rfl) dX3_itemHere_74 ⟨Nat.le_refl 0, Nat.le_refl 0⟩ (fun r57 sc55 ar56 H locs hw hM => ?_)
      refine lv_if_eq (tgt := 122) hx hb dX3_itemHere_77 (by decide) (fun c_ => ?_) (fun c_ => ?_)
      · replace hw := hw.1 c_
        refine lv_iconst (v := 0) hx hb dX3_itemHere_122 (by decide) ?_
        exact wm_reti hx hb hr hlk hM rfl hw dX3_itemHere_123
      · replace hw := hw.2 c_
        refine lv_aload_n hx hb dX3_itemHere_80 rfl (lv_at hl 1 rfl) ?_
        refine lv_bipush (v := 64) hx hb dX3_itemHere_81 (by decide) ?_
        refine wm_callVi (As := [.int 64]) (rest := []) ⟨hx, hb, hml, hown, hts⟩ hK hN hAm hA hM (m3_skips l D ac mo ad sc55 ar56 64 _ hw) (cwV 1 hts (lw_V q2269 q2271 qs50 q77 q2272) rfl rfl rfl hd_X3_skips ⟨Nat.le_of_ble_eq_true rfl, Nat.le_of_ble_eq_true rfl⟩) rfl hl.1 rfl (Nat.le_of_ble_eq_true rfl) dX3_itemHere_83 ⟨Nat.le_refl 0, Nat.le_refl 0⟩ (fun r60 sc58 ar59 H locs hw hM => ?_)
        refine lv_if_eq (tgt := 122) hx hb dX3_itemHere_86 (by decide) (fun c_ => ?_) (fun c_ => ?_)
        · replace hw := hw.1 c_
          refine lv_iconst (v := 0) hx hb dX3_itemHere_122 (by decide) ?_
          exact wm_reti hx hb hr hlk hM rfl hw dX3_itemHere_123
        · replace hw := hw.2 c_
          refine lv_aload_n hx hb dX3_itemHere_89 rfl (lv_at hl 1 rfl) ?_
          refine lv_iload_n hx hb dX3_itemHere_90 rfl (lv_at hl 0 rfl) ?_
          refine lv_iconst (v := 2) hx hb dX3_itemHere_91 (by decide) ?_
          refine lv_iadd hx hb dX3_itemHere_92 ?_
          refine wm_callVi (As := [.int ((4 * (sc 18)) + 2)]) (rest := []) ⟨hx, hb, hml, hown, hts⟩ hK hN hAm hA hM (m3_digit l D ac mo ad sc58 ar59 ((4 * (sc 18)) + 2) _ hw) (cwV 1 hts (lw_V q2277 q2279 qs52 q77 q2280) rfl rfl rfl hd_X3_digit ⟨Nat.le_of_ble_eq_true rfl, Nat.le_of_ble_eq_true rfl⟩) rfl hl.1 rfl (Nat.le_of_ble_eq_true rfl) dX3_itemHere_93 ⟨Nat.le_refl 0, Nat.le_refl 0⟩ (fun r63 sc61 ar62 H locs hw hM => ?_)
          refine lv_if_eq (tgt := 122) hx hb dX3_itemHere_96 (by decide) (fun c_ => ?_) (fun c_ => ?_)
          · replace hw := hw.1 c_
            refine lv_iconst (v := 0) hx hb dX3_itemHere_122 (by decide) ?_
            exact wm_reti hx hb hr hlk hM rfl hw dX3_itemHere_123
          · replace hw := hw.2 c_
            refine lv_aload_n hx hb dX3_itemHere_99 rfl (lv_at hl 1 rfl) ?_
            refine lv_bipush (v := 58) hx hb dX3_itemHere_100 (by decide) ?_
            refine wm_callVi (As := [.int 58]) (rest := []) ⟨hx, hb, hml, hown, hts⟩ hK hN hAm hA hM (m3_skips l D ac mo ad sc61 ar62 58 _ hw) (cwV 1 hts (lw_V q2269 q2271 qs50 q77 q2272) rfl rfl rfl hd_X3_skips ⟨Nat.le_of_ble_eq_true rfl, Nat.le_of_ble_eq_true rfl⟩) rfl hl.1 rfl (Nat.le_of_ble_eq_true rfl) dX3_itemHere_102 ⟨Nat.le_refl 0, Nat.le_refl 0⟩ (fun r66 sc64 ar65 H locs hw hM => ?_)
            refine lv_if_eq (tgt := 122) hx hb dX3_itemHere_105 (by decide) (fun c_ => ?_) (fun c_ => ?_)
            · replace hw := hw.1 c_
              refine lv_iconst (v := 0) hx hb dX3_itemHere_122 (by decide) ?_
              exact wm_reti hx hb hr hlk hM rfl hw dX3_itemHere_123
            · replace hw := hw.2 c_
              refine lv_aload_n hx hb dX3_itemHere_108 rfl (lv_at hl 1 rfl) ?_
              refine lv_iload_n hx hb dX3_itemHere_109 rfl (lv_at hl 0 rfl) ?_
              refine lv_iconst (v := 3) hx hb dX3_itemHere_110 (by decide) ?_
              refine lv_iadd hx hb dX3_itemHere_111 ?_
              refine wm_callVi (As := [.int ((4 * (sc 18)) + 3)]) (rest := []) ⟨hx, hb, hml, hown, hts⟩ hK hN hAm hA hM (m3_digit l D ac mo ad sc64 ar65 ((4 * (sc 18)) + 3) _ hw) (cwV 1 hts (lw_V q2277 q2279 qs52 q77 q2280) rfl rfl rfl hd_X3_digit ⟨Nat.le_of_ble_eq_true rfl, Nat.le_of_ble_eq_true rfl⟩) rfl hl.1 rfl (Nat.le_of_ble_eq_true rfl) dX3_itemHere_112 ⟨Nat.le_refl 0, Nat.le_refl 0⟩ (fun r69 sc67 ar68 H locs hw hM => ?_)
              refine lv_if_eq (tgt := 122) hx hb dX3_itemHere_115 (by decide) (fun c_ => ?_) (fun c_ => ?_)
              · replace hw := hw.1 c_
                refine lv_iconst (v := 0) hx hb dX3_itemHere_122 (by decide) ?_
                exact wm_reti hx hb hr hlk hM rfl hw dX3_itemHere_123
              · replace hw := hw.2 c_
                refine lv_iconst (v := 1) hx hb dX3_itemHere_118 (by decide) ?_
                refine lv_goto (tgt := 123) hx hb dX3_itemHere_119 (by decide) ?_
                exact wm_reti hx hb hr hlk hM rfl hw dX3_itemHere_123
  · replace hw := hw.2 c_
    refine lv_aload_n hx hb dX3_itemHere_26 rfl (lv_at hl 1 rfl) ?_
    refine lv_iload_n hx hb dX3_itemHere_27 rfl (lv_at hl 0 rfl) ?_
    refine lv_iconst (v := 1) hx hb dX3_itemHere_28 (by decide) ?_
    refine lv_iadd hx hb dX3_itemHere_29 ?_
    refine wm_callVi (As := [.int ((4 * (sc 18)) + 1)]) (rest := []) ⟨hx, hb, hml, hown, hts⟩ hK hN hAm hA hM (m3_number l D ac mo ad sc4 ar5 ((4 * (sc 18)) + 1) _ hw) (cwV 1 hts (lw_V q2273 q2275 qs51 q77 q2276) rfl rfl rfl hd_X3_number ⟨Nat.le_of_ble_eq_true rfl, Nat.le_of_ble_eq_true rfl⟩) rfl hl.1 rfl (Nat.le_of_ble_eq_true rfl) dX3_itemHere_30 ⟨Nat.le_refl 0, Nat.le_refl 0⟩ (fun r72 sc70 ar71 H locs hw hM => ?_)
    refine lv_if_eq (tgt := 59) hx hb dX3_itemHere_33 (by decide) (fun c_ => ?_) (fun c_ => ?_)
    · replace hw := hw.1 c_
      refine lv_iconst (v := 0) hx hb dX3_itemHere_59 (by decide) ?_
      exact wm_reti hx hb hr hlk hM rfl hw dX3_itemHere_60
    · replace hw := hw.2 c_
      refine lv_aload_n hx hb dX3_itemHere_36 rfl (lv_at hl 1 rfl) ?_
      refine lv_bipush (v := 64) hx hb dX3_itemHere_37 (by decide) ?_
      refine wm_callVi (As := [.int 64]) (rest := []) ⟨hx, hb, hml, hown, hts⟩ hK hN hAm hA hM (m3_skips l D ac mo ad sc70 ar71 64 _ hw) (cwV 1 hts (lw_V q2269 q2271 qs50 q77 q2272) rfl rfl rfl hd_X3_skips ⟨Nat.le_of_ble_eq_true rfl, Nat.le_of_ble_eq_true rfl⟩) rfl hl.1 rfl (Nat.le_of_ble_eq_true rfl) dX3_itemHere_39 ⟨Nat.le_refl 0, Nat.le_refl 0⟩ (fun r75 sc73 ar74 H locs hw hM => ?_)
      refine lv_if_eq (tgt := 59) hx hb dX3_itemHere_42 (by decide) (fun c_ => ?_) (fun c_ => ?_)
      · replace hw := hw.1 c_
        refine lv_iconst (v := 0) hx hb dX3_itemHere_59 (by decide) ?_
        exact wm_reti hx hb hr hlk hM rfl hw dX3_itemHere_60
      · replace hw := hw.2 c_
        refine lv_aload_n hx hb dX3_itemHere_45 rfl (lv_at hl 1 rfl) ?_
        refine lv_iload_n hx hb dX3_itemHere_46 rfl (lv_at hl 0 rfl) ?_
        refine lv_iconst (v := 2) hx hb dX3_itemHere_47 (by decide) ?_
        refine lv_iadd hx hb dX3_itemHere_48 ?_
        refine wm_callVi (As := [.int ((4 * (sc 18)) + 2)]) (rest := []) ⟨hx, hb, hml, hown, hts⟩ hK hN hAm hA hM (m3_digit l D ac mo ad sc73 ar74 ((4 * (sc 18)) + 2) _ hw) (cwV 1 hts (lw_V q2277 q2279 qs52 q77 q2280) rfl rfl rfl hd_X3_digit ⟨Nat.le_of_ble_eq_true rfl, Nat.le_of_ble_eq_true rfl⟩) rfl hl.1 rfl (Nat.le_of_ble_eq_true rfl) dX3_itemHere_49 ⟨Nat.le_refl 0, Nat.le_refl 0⟩ (fun r78 sc76 ar77 H locs hw hM => ?_)
        refine lv_if_eq (tgt := 59) hx hb dX3_itemHere_52 (by decide) (fun c_ => ?_) (fun c_ => ?_)
        · replace hw := hw.1 c_
          refine lv_iconst (v := 0) hx hb dX3_itemHere_59 (by decide) ?_
          exact wm_reti hx hb hr hlk hM rfl hw dX3_itemHere_60
        · replace hw := hw.2 c_
          refine lv_iconst (v := 1) hx hb dX3_itemHere_55 (by decide) ?_
          refine lv_goto (tgt := 60) hx hb dX3_itemHere_56 (by decide) ?_
          exact wm_reti hx hb hr hlk hM rfl hw dX3_itemHere_60
def w3_carries_L239 (post : Int32 → wS1 → wS2 → Prop) (x1 : Int32) (sc : wS1) (ar : wS2) : Prop := vp_in (x1 + 1) 128 ∧ (w3_pass (fun r24 sc22 ar23 => post r24 sc22 ar23) sc ar (ar 17 (x1 + 1).toNatClampNeg))
def w3_carries (post : Int32 → wS1 → wS2 → Prop) (sc : wS1) (ar : wS2) (p1 : Int32) : Prop := vp_in p1 128 ∧ (((ar 17 p1.toNatClampNeg) = 99 → (vp_in (p1 + 1) 128 ∧ (w3_carry (fun r3 sc1 ar2 => post r3 sc1 ar2) sc ar (ar 17 (p1 + 1).toNatClampNeg)))) ∧ ((ar 17 p1.toNatClampNeg) = 100 → (w3_carries_L239 post  p1 sc ar)) ∧ ((ar 17 p1.toNatClampNeg) = 101 → (w3_carries_L239 post  p1 sc ar)) ∧ ((ar 17 p1.toNatClampNeg) = 102 → (vp_in (p1 + 1) 128 ∧ (vp_in (p1 + 2) 128 ∧ (vp_in (p1 + 3) 128 ∧ (w3_fire (fun r6 sc4 ar5 => post r6 sc4 ar5) sc ar (ar 17 (p1 + 1).toNatClampNeg) (ar 17 (p1 + 2).toNatClampNeg) (ar 17 (p1 + 3).toNatClampNeg)))))) ∧ ((ar 17 p1.toNatClampNeg) = 103 → (w3_carries_L239 post  p1 sc ar)) ∧ ((ar 17 p1.toNatClampNeg) = 104 → (w3_carries_L239 post  p1 sc ar)) ∧ ((ar 17 p1.toNatClampNeg) = 105 → (w3_carries_L239 post  p1 sc ar)) ∧ ((ar 17 p1.toNatClampNeg) = 106 → (w3_carries_L239 post  p1 sc ar)) ∧ ((ar 17 p1.toNatClampNeg) = 107 → (vp_in (p1 + 1) 128 ∧ (vp_in (p1 + 2) 128 ∧ (vp_in (p1 + 3) 128 ∧ (w3_pack (fun r9 sc7 ar8 => post r9 sc7 ar8) sc ar (ar 17 (p1 + 1).toNatClampNeg) (ar 17 (p1 + 2).toNatClampNeg) (ar 17 (p1 + 3).toNatClampNeg)))))) ∧ ((ar 17 p1.toNatClampNeg) = 108 → (w3_carries_L239 post  p1 sc ar)) ∧ ((ar 17 p1.toNatClampNeg) = 109 → (w3_carries_L239 post  p1 sc ar)) ∧ ((ar 17 p1.toNatClampNeg) = 110 → (w3_carries_L239 post  p1 sc ar)) ∧ ((ar 17 p1.toNatClampNeg) = 111 → (w3_carries_L239 post  p1 sc ar)) ∧ ((ar 17 p1.toNatClampNeg) = 112 → (vp_in (p1 + 1) 128 ∧ (vp_in (p1 + 2) 128 ∧ (w3_print (fun r12 sc10 ar11 => post r12 sc10 ar11) sc ar (ar 17 (p1 + 1).toNatClampNeg) (ar 17 (p1 + 2).toNatClampNeg))))) ∧ ((ar 17 p1.toNatClampNeg) = 113 → (w3_carries_L239 post  p1 sc ar)) ∧ ((ar 17 p1.toNatClampNeg) = 114 → (w3_carries_L239 post  p1 sc ar)) ∧ ((ar 17 p1.toNatClampNeg) = 115 → (vp_in (p1 + 1) 128 ∧ (vp_in (p1 + 2) 128 ∧ (w3_straw (fun r15 sc13 ar14 => post r15 sc13 ar14) sc ar (ar 17 (p1 + 1).toNatClampNeg) (ar 17 (p1 + 2).toNatClampNeg))))) ∧ ((ar 17 p1.toNatClampNeg) = 116 → (w3_carries_L239 post  p1 sc ar)) ∧ ((ar 17 p1.toNatClampNeg) = 117 → (w3_carries_L239 post  p1 sc ar)) ∧ ((ar 17 p1.toNatClampNeg) = 118 → (w3_carries_L239 post  p1 sc ar)) ∧ ((ar 17 p1.toNatClampNeg) = 119 → (vp_in (p1 + 1) 128 ∧ (w3_damp (fun r18 sc16 ar17 => post r18 sc16 ar17) sc ar (ar 17 (p1 + 1).toNatClampNeg)))) ∧ ((ar 17 p1.toNatClampNeg) = 120 → (w3_sell (fun r21 sc19 ar20 => post r21 sc19 ar20) sc ar )) ∧ ((ar 17 p1.toNatClampNeg).toInt < 99 ∨ 120 < (ar 17 p1.toNatClampNeg).toInt → (w3_carries_L239 post  p1 sc ar)))
theorem hd_X3_carries : yX3_carries.cls = RX3 ∧ yX3_carries.cls ≠ "java/lang/invoke/MethodHandle" ∧ yX3_carries.cls ≠ "java/lang/invoke/VarHandle" ∧ (parseMethodDescriptor yX3_carries.desc).map (fun d => d.parameters.length) = some 1 := by decide +kernel
set_option maxHeartbeats 4000000 in
set_option maxRecDepth 100000 in
theorem m3_carries (l : Launch) (D : va_G) (ac : Nat → ClassId) (mo : Nat) (ad : Nat → Nat) (sc : wS1) (ar : wS2) (p1 : Int32) (post : Int32 → wS1 → wS2 → Prop) (hw : w3_carries post sc ar p1) : wm_Mi l D ac mo ad yX3_carries (ws_ yX3_carries cX3_carries 2 (some .int)) ({ frames := 5, cells := 0, slots := 0, locals := 112 }) [.ref mo, .int p1] sc ar post := by
  refine wm_ofi (by decide) (Nat.le_of_ble_eq_true rfl) ?_
  intro p e s m below meth c A ls hx hb hr hlk hml hown hts hK hN hAm hA hM hl
  have hl : lv_has ls 2 [(0, .ref mo), (1, .int p1)] := hl
  unfold w3_carries at hw
  have hL239 : ∀ (x1 : Int32) (sc : wS1) (ar : wS2) (H : Heap) (locs : List Loc) (ls : Array Slot), wm_S D ac A s.heap mo ad sc ar H locs → lv_has ls 2 [(0, .ref mo), (1, .int x1)] → w3_carries_L239 post x1 sc ar → W p l e (headSpec (ws_ yX3_carries cX3_carries 2 (some .int)) ({ frames := 5, cells := 0, slots := 0, locals := 112 })).room s m ([.ref mo, .int p1] : List Value).toArray below meth c H locs 0 0 (MQ below (va_Qi (S := wU) (fun r u => post r u.1 u.2) (wm_B D ac mo ad) A) ([.ref mo, .int p1] : List Value).toArray s 0 0 A) (F0 m 239 ls []) := by
    intro x1 sc ar H locs ls hM hl hw
    unfold w3_carries_L239 at hw
    refine lv_aload_n hx hb dX3_carries_239 rfl (lv_at hl 0 rfl) ?_
    refine lv_aload_n hx hb dX3_carries_240 rfl (lv_at hl 0 rfl) ?_
    refine wm_get hx hb hts hown hK hM 17 (by decide) q1950 (v := .ref (ad 17)) rfl dX3_carries_241 ?_
    refine lv_iload_n hx hb dX3_carries_244 rfl (lv_at hl 1 rfl) ?_
    refine lv_iconst (v := 1) hx hb dX3_carries_245 (by decide) ?_
    refine lv_iadd hx hb dX3_carries_246 ?_
    refine wm_ald hx hb hK hM (k := 17) rfl hw.1 rfl (v := ar 17 (x1 + 1).toNatClampNeg) rfl dX3_carries_247 ?_
    replace hw := hw.2
    refine wm_callVi (As := [.int (ar 17 (x1 + 1).toNatClampNeg)]) (rest := []) ⟨hx, hb, hml, hown, hts⟩ hK hN hAm hA hM (m3_pass l D ac mo ad sc ar (ar 17 (x1 + 1).toNatClampNeg) _ hw) (cwV 1 hts (lw_V q2292 q2174 q2175 q77 q2176) rfl rfl rfl hd_X3_pass ⟨Nat.le_of_ble_eq_true rfl, Nat.le_of_ble_eq_true rfl⟩) rfl hl.1 rfl (Nat.le_of_ble_eq_true rfl) dX3_carries_248 ⟨Nat.le_refl 0, Nat.le_refl 0⟩ (fun r24 sc22 ar23 H locs hw hM => ?_)
    exact wm_reti hx hb hr hlk hM rfl hw dX3_carries_251
  refine lv_aload_n hx hb dX3_carries_0 rfl (lv_at hl 0 rfl) ?_
  refine wm_get hx hb hts hown hK hM 17 (by decide) q1950 (v := .ref (ad 17)) rfl dX3_carries_1 ?_
  refine lv_iload_n hx hb dX3_carries_4 rfl (lv_at hl 1 rfl) ?_
  refine wm_ald hx hb hK hM (k := 17) rfl hw.1 rfl (v := ar 17 p1.toNatClampNeg) rfl dX3_carries_5 ?_
  replace hw := hw.2
  by_cases ho_ : (ar 17 p1.toNatClampNeg).toInt < 99 ∨ 120 < (ar 17 p1.toNatClampNeg).toInt
  · refine lv_tableOut (tgt := 239) hx hb dX3_carries_6 ho_ (by decide) ?_
    replace hw := hw.2.2.2.2.2.2.2.2.2.2.2.2.2.2.2.2.2.2.2.2.2.2 ho_
    exact hL239  p1 sc ar _ _ ls hM (lv_sub hl [0, 1] rfl) hw
  · have hi_ : (ar 17 p1.toNatClampNeg).toInt = 99 ∨ (ar 17 p1.toNatClampNeg).toInt = 100 ∨ (ar 17 p1.toNatClampNeg).toInt = 101 ∨ (ar 17 p1.toNatClampNeg).toInt = 102 ∨ (ar 17 p1.toNatClampNeg).toInt = 103 ∨ (ar 17 p1.toNatClampNeg).toInt = 104 ∨ (ar 17 p1.toNatClampNeg).toInt = 105 ∨ (ar 17 p1.toNatClampNeg).toInt = 106 ∨ (ar 17 p1.toNatClampNeg).toInt = 107 ∨ (ar 17 p1.toNatClampNeg).toInt = 108 ∨ (ar 17 p1.toNatClampNeg).toInt = 109 ∨ (ar 17 p1.toNatClampNeg).toInt = 110 ∨ (ar 17 p1.toNatClampNeg).toInt = 111 ∨ (ar 17 p1.toNatClampNeg).toInt = 112 ∨ (ar 17 p1.toNatClampNeg).toInt = 113 ∨ (ar 17 p1.toNatClampNeg).toInt = 114 ∨ (ar 17 p1.toNatClampNeg).toInt = 115 ∨ (ar 17 p1.toNatClampNeg).toInt = 116 ∨ (ar 17 p1.toNatClampNeg).toInt = 117 ∨ (ar 17 p1.toNatClampNeg).toInt = 118 ∨ (ar 17 p1.toNatClampNeg).toInt = 119 ∨ (ar 17 p1.toNatClampNeg).toInt = 120 := by omega
    rcases hi_ with hi_ | hi_ | hi_ | hi_ | hi_ | hi_ | hi_ | hi_ | hi_ | hi_ | hi_ | hi_ | hi_ | hi_ | hi_ | hi_ | hi_ | hi_ | hi_ | hi_ | hi_ | hi_
    · have hk_ : (ar 17 p1.toNatClampNeg) = (99 : Int32) := Int32.toInt_inj.mp (by rw [hi_]; rfl)
      refine lv_tableIn (off := 202) (tgt := 208) hx hb dX3_carries_6 (by rw [hk_]; decide) (by rw [hk_]; decide) (by rw [hk_]; rfl) (by decide) ?_
      replace hw := hw.1 hk_
      refine lv_aload_n hx hb dX3_carries_208 rfl (lv_at hl 0 rfl) ?_
      refine lv_aload_n hx hb dX3_carries_209 rfl (lv_at hl 0 rfl) ?_
      refine wm_get hx hb hts hown hK hM 17 (by decide) q1950 (v := .ref (ad 17)) rfl dX3_carries_210 ?_
      refine lv_iload_n hx hb dX3_carries_213 rfl (lv_at hl 1 rfl) ?_
      refine lv_iconst (v := 1) hx hb dX3_carries_214 (by decide) ?_
      refine lv_iadd hx hb dX3_carries_215 ?_
      refine wm_ald hx hb hK hM (k := 17) rfl hw.1 rfl (v := ar 17 (p1 + 1).toNatClampNeg) rfl dX3_carries_216 ?_
      replace hw := hw.2
      refine wm_callVi (As := [.int (ar 17 (p1 + 1).toNatClampNeg)]) (rest := []) ⟨hx, hb, hml, hown, hts⟩ hK hN hAm hA hM (m3_carry l D ac mo ad sc ar (ar 17 (p1 + 1).toNatClampNeg) _ hw) (cwV 1 hts (lw_V q2289 q2162 q2163 q77 q2164) rfl rfl rfl hd_X3_carry ⟨Nat.le_of_ble_eq_true rfl, Nat.le_of_ble_eq_true rfl⟩) rfl hl.1 rfl (Nat.le_of_ble_eq_true rfl) dX3_carries_217 ⟨Nat.le_refl 0, Nat.le_refl 0⟩ (fun r3 sc1 ar2 H locs hw hM => ?_)
      exact wm_reti hx hb hr hlk hM rfl hw dX3_carries_220
    · have hk_ : (ar 17 p1.toNatClampNeg) = (100 : Int32) := Int32.toInt_inj.mp (by rw [hi_]; rfl)
      refine lv_tableIn (off := 233) (tgt := 239) hx hb dX3_carries_6 (by rw [hk_]; decide) (by rw [hk_]; decide) (by rw [hk_]; rfl) (by decide) ?_
      replace hw := hw.2.1 hk_
      exact hL239  p1 sc ar _ _ ls hM (lv_sub hl [0, 1] rfl) hw
    · have hk_ : (ar 17 p1.toNatClampNeg) = (101 : Int32) := Int32.toInt_inj.mp (by rw [hi_]; rfl)
      refine lv_tableIn (off := 233) (tgt := 239) hx hb dX3_carries_6 (by rw [hk_]; decide) (by rw [hk_]; decide) (by rw [hk_]; rfl) (by decide) ?_
      replace hw := hw.2.2.1 hk_
      exact hL239  p1 sc ar _ _ ls hM (lv_sub hl [0, 1] rfl) hw
    · have hk_ : (ar 17 p1.toNatClampNeg) = (102 : Int32) := Int32.toInt_inj.mp (by rw [hi_]; rfl)
      refine lv_tableIn (off := 123) (tgt := 129) hx hb dX3_carries_6 (by rw [hk_]; decide) (by rw [hk_]; decide) (by rw [hk_]; rfl) (by decide) ?_
      replace hw := hw.2.2.2.1 hk_
      refine lv_aload_n hx hb dX3_carries_129 rfl (lv_at hl 0 rfl) ?_
      refine lv_aload_n hx hb dX3_carries_130 rfl (lv_at hl 0 rfl) ?_
      refine wm_get hx hb hts hown hK hM 17 (by decide) q1950 (v := .ref (ad 17)) rfl dX3_carries_131 ?_
      refine lv_iload_n hx hb dX3_carries_134 rfl (lv_at hl 1 rfl) ?_
      refine lv_iconst (v := 1) hx hb dX3_carries_135 (by decide) ?_
      refine lv_iadd hx hb dX3_carries_136 ?_
      refine wm_ald hx hb hK hM (k := 17) rfl hw.1 rfl (v := ar 17 (p1 + 1).toNatClampNeg) rfl dX3_carries_137 ?_
      replace hw := hw.2
      refine lv_aload_n hx hb dX3_carries_138 rfl (lv_at hl 0 rfl) ?_
      refine wm_get hx hb hts hown hK hM 17 (by decide) q1950 (v := .ref (ad 17)) rfl dX3_carries_139 ?_
      refine lv_iload_n hx hb dX3_carries_142 rfl (lv_at hl 1 rfl) ?_
      refine lv_iconst (v := 2) hx hb dX3_carries_143 (by decide) ?_
      refine lv_iadd hx hb dX3_carries_144 ?_
      refine wm_ald hx hb hK hM (k := 17) rfl hw.1 rfl (v := ar 17 (p1 + 2).toNatClampNeg) rfl dX3_carries_145 ?_
      replace hw := hw.2
      refine lv_aload_n hx hb dX3_carries_146 rfl (lv_at hl 0 rfl) ?_
      refine wm_get hx hb hts hown hK hM 17 (by decide) q1950 (v := .ref (ad 17)) rfl dX3_carries_147 ?_
      refine lv_iload_n hx hb dX3_carries_150 rfl (lv_at hl 1 rfl) ?_
      refine lv_iconst (v := 3) hx hb dX3_carries_151 (by decide) ?_
      refine lv_iadd hx hb dX3_carries_152 ?_
      refine wm_ald hx hb hK hM (k := 17) rfl hw.1 rfl (v := ar 17 (p1 + 3).toNatClampNeg) rfl dX3_carries_153 ?_
      replace hw := hw.2
      refine wm_callVi (As := [.int (ar 17 (p1 + 1).toNatClampNeg), .int (ar 17 (p1 + 2).toNatClampNeg), .int (ar 17 (p1 + 3).toNatClampNeg)]) (rest := []) ⟨hx, hb, hml, hown, hts⟩ hK hN hAm hA hM (m3_fire l D ac mo ad sc ar (ar 17 (p1 + 1).toNatClampNeg) (ar 17 (p1 + 2).toNatClampNeg) (ar 17 (p1 + 3).toNatClampNeg) _ hw) (cwV 3 hts (lw_V q2286 q2110 q2111 q77 q2112) rfl rfl rfl hd_X3_fire ⟨Nat.le_of_ble_eq_true rfl, Nat.le_of_ble_eq_true rfl⟩) rfl hl.1 rfl (Nat.le_of_ble_eq_true rfl) dX3_carries_154 ⟨Nat.le_refl 0, Nat.le_refl 0⟩ (fun r6 sc4 ar5 H locs hw hM => ?_)
      exact wm_reti hx hb hr hlk hM rfl hw dX3_carries_157
    · have hk_ : (ar 17 p1.toNatClampNeg) = (103 : Int32) := Int32.toInt_inj.mp (by rw [hi_]; rfl)
      refine lv_tableIn (off := 233) (tgt := 239) hx hb dX3_carries_6 (by rw [hk_]; decide) (by rw [hk_]; decide) (by rw [hk_]; rfl) (by decide) ?_
      replace hw := hw.2.2.2.2.1 hk_
      exact hL239  p1 sc ar _ _ ls hM (lv_sub hl [0, 1] rfl) hw
    · have hk_ : (ar 17 p1.toNatClampNeg) = (104 : Int32) := Int32.toInt_inj.mp (by rw [hi_]; rfl)
      refine lv_tableIn (off := 233) (tgt := 239) hx hb dX3_carries_6 (by rw [hk_]; decide) (by rw [hk_]; decide) (by rw [hk_]; rfl) (by decide) ?_
      replace hw := hw.2.2.2.2.2.1 hk_
      exact hL239  p1 sc ar _ _ ls hM (lv_sub hl [0, 1] rfl) hw
    · have hk_ : (ar 17 p1.toNatClampNeg) = (105 : Int32) := Int32.toInt_inj.mp (by rw [hi_]; rfl)
      refine lv_tableIn (off := 233) (tgt := 239) hx hb dX3_carries_6 (by rw [hk_]; decide) (by rw [hk_]; decide) (by rw [hk_]; rfl) (by decide) ?_
      replace hw := hw.2.2.2.2.2.2.1 hk_
      exact hL239  p1 sc ar _ _ ls hM (lv_sub hl [0, 1] rfl) hw
    · have hk_ : (ar 17 p1.toNatClampNeg) = (106 : Int32) := Int32.toInt_inj.mp (by rw [hi_]; rfl)
      refine lv_tableIn (off := 233) (tgt := 239) hx hb dX3_carries_6 (by rw [hk_]; decide) (by rw [hk_]; decide) (by rw [hk_]; rfl) (by decide) ?_
      replace hw := hw.2.2.2.2.2.2.2.1 hk_
      exact hL239  p1 sc ar _ _ ls hM (lv_sub hl [0, 1] rfl) hw
    · have hk_ : (ar 17 p1.toNatClampNeg) = (107 : Int32) := Int32.toInt_inj.mp (by rw [hi_]; rfl)
      refine lv_tableIn (off := 152) (tgt := 158) hx hb dX3_carries_6 (by rw [hk_]; decide) (by rw [hk_]; decide) (by rw [hk_]; rfl) (by decide) ?_
      replace hw := hw.2.2.2.2.2.2.2.2.1 hk_
      refine lv_aload_n hx hb dX3_carries_158 rfl (lv_at hl 0 rfl) ?_
      refine lv_aload_n hx hb dX3_carries_159 rfl (lv_at hl 0 rfl) ?_
      refine wm_get hx hb hts hown hK hM 17 (by decide) q1950 (v := .ref (ad 17)) rfl dX3_carries_160 ?_
      refine lv_iload_n hx hb dX3_carries_163 rfl (lv_at hl 1 rfl) ?_
      refine lv_iconst (v := 1) hx hb dX3_carries_164 (by decide) ?_
      refine lv_iadd hx hb dX3_carries_165 ?_
      refine wm_ald hx hb hK hM (k := 17) rfl hw.1 rfl (v := ar 17 (p1 + 1).toNatClampNeg) rfl dX3_carries_166 ?_
      replace hw := hw.2
      refine lv_aload_n hx hb dX3_carries_167 rfl (lv_at hl 0 rfl) ?_
      refine wm_get hx hb hts hown hK hM 17 (by decide) q1950 (v := .ref (ad 17)) rfl dX3_carries_168 ?_
      refine lv_iload_n hx hb dX3_carries_171 rfl (lv_at hl 1 rfl) ?_
      refine lv_iconst (v := 2) hx hb dX3_carries_172 (by decide) ?_
      refine lv_iadd hx hb dX3_carries_173 ?_
      refine wm_ald hx hb hK hM (k := 17) rfl hw.1 rfl (v := ar 17 (p1 + 2).toNatClampNeg) rfl dX3_carries_174 ?_
      replace hw := hw.2
      refine lv_aload_n hx hb dX3_carries_175 rfl (lv_at hl 0 rfl) ?_
      refine wm_get hx hb hts hown hK hM 17 (by decide) q1950 (v := .ref (ad 17)) rfl dX3_carries_176 ?_
      refine lv_iload_n hx hb dX3_carries_179 rfl (lv_at hl 1 rfl) ?_
      refine lv_iconst (v := 3) hx hb dX3_carries_180 (by decide) ?_
      refine lv_iadd hx hb dX3_carries_181 ?_
      refine wm_ald hx hb hK hM (k := 17) rfl hw.1 rfl (v := ar 17 (p1 + 3).toNatClampNeg) rfl dX3_carries_182 ?_
      replace hw := hw.2
      refine wm_callVi (As := [.int (ar 17 (p1 + 1).toNatClampNeg), .int (ar 17 (p1 + 2).toNatClampNeg), .int (ar 17 (p1 + 3).toNatClampNeg)]) (rest := []) ⟨hx, hb, hml, hown, hts⟩ hK hN hAm hA hM (m3_pack l D ac mo ad sc ar (ar 17 (p1 + 1).toNatClampNeg) (ar 17 (p1 + 2).toNatClampNeg) (ar 17 (p1 + 3).toNatClampNeg) _ hw) (cwV 3 hts (lw_V q2287 q2158 q2159 q77 q2160) rfl rfl rfl hd_X3_pack ⟨Nat.le_of_ble_eq_true rfl, Nat.le_of_ble_eq_true rfl⟩) rfl hl.1 rfl (Nat.le_of_ble_eq_true rfl) dX3_carries_183 ⟨Nat.le_refl 0, Nat.le_refl 0⟩ (fun r9 sc7 ar8 H locs hw hM => ?_)
      exact wm_reti hx hb hr hlk hM rfl hw dX3_carries_186
    · have hk_ : (ar 17 p1.toNatClampNeg) = (108 : Int32) := Int32.toInt_inj.mp (by rw [hi_]; rfl)
      refine lv_tableIn (off := 233) (tgt := 239) hx hb dX3_carries_6 (by rw [hk_]; decide) (by rw [hk_]; decide) (by rw [hk_]; rfl) (by decide) ?_
      replace hw := hw.2.2.2.2.2.2.2.2.2.1 hk_
      exact hL239  p1 sc ar _ _ ls hM (lv_sub hl [0, 1] rfl) hw
    · have hk_ : (ar 17 p1.toNatClampNeg) = (109 : Int32) := Int32.toInt_inj.mp (by rw [hi_]; rfl)
      refine lv_tableIn (off := 233) (tgt := 239) hx hb dX3_carries_6 (by rw [hk_]; decide) (by rw [hk_]; decide) (by rw [hk_]; rfl) (by decide) ?_
      replace hw := hw.2.2.2.2.2.2.2.2.2.2.1 hk_
      exact hL239  p1 sc ar _ _ ls hM (lv_sub hl [0, 1] rfl) hw
    · have hk_ : (ar 17 p1.toNatClampNeg) = (110 : Int32) := Int32.toInt_inj.mp (by rw [hi_]; rfl)
      refine lv_tableIn (off := 233) (tgt := 239) hx hb dX3_carries_6 (by rw [hk_]; decide) (by rw [hk_]; decide) (by rw [hk_]; rfl) (by decide) ?_
      replace hw := hw.2.2.2.2.2.2.2.2.2.2.2.1 hk_
      exact hL239  p1 sc ar _ _ ls hM (lv_sub hl [0, 1] rfl) hw
    · have hk_ : (ar 17 p1.toNatClampNeg) = (111 : Int32) := Int32.toInt_inj.mp (by rw [hi_]; rfl)
      refine lv_tableIn (off := 233) (tgt := 239) hx hb dX3_carries_6 (by rw [hk_]; decide) (by rw [hk_]; decide) (by rw [hk_]; rfl) (by decide) ?_
      replace hw := hw.2.2.2.2.2.2.2.2.2.2.2.2.1 hk_
      exact hL239  p1 sc ar _ _ ls hM (lv_sub hl [0, 1] rfl) hw
    · have hk_ : (ar 17 p1.toNatClampNeg) = (112 : Int32) := Int32.toInt_inj.mp (by rw [hi_]; rfl)
      refine lv_tableIn (off := 102) (tgt := 108) hx hb dX3_carries_6 (by rw [hk_]; decide) (by rw [hk_]; decide) (by rw [hk_]; rfl) (by decide) ?_
      replace hw := hw.2.2.2.2.2.2.2.2.2.2.2.2.2.1 hk_
      refine lv_aload_n hx hb dX3_carries_108 rfl (lv_at hl 0 rfl) ?_
      refine lv_aload_n hx hb dX3_carries_109 rfl (lv_at hl 0 rfl) ?_
      refine wm_get hx hb hts hown hK hM 17 (by decide) q1950 (v := .ref (ad 17)) rfl dX3_carries_110 ?_
      refine lv_iload_n hx hb dX3_carries_113 rfl (lv_at hl 1 rfl) ?_
      refine lv_iconst (v := 1) hx hb dX3_carries_114 (by decide) ?_
      refine lv_iadd hx hb dX3_carries_115 ?_
      refine wm_ald hx hb hK hM (k := 17) rfl hw.1 rfl (v := ar 17 (p1 + 1).toNatClampNeg) rfl dX3_carries_116 ?_
      replace hw := hw.2
      refine lv_aload_n hx hb dX3_carries_117 rfl (lv_at hl 0 rfl) ?_
      refine wm_get hx hb hts hown hK hM 17 (by decide) q1950 (v := .ref (ad 17)) rfl dX3_carries_118 ?_
      refine lv_iload_n hx hb dX3_carries_121 rfl (lv_at hl 1 rfl) ?_
      refine lv_iconst (v := 2) hx hb dX3_carries_122 (by decide) ?_
      refine lv_iadd hx hb dX3_carries_123 ?_
      refine wm_ald hx hb hK hM (k := 17) rfl hw.1 rfl (v := ar 17 (p1 + 2).toNatClampNeg) rfl dX3_carries_124 ?_
      replace hw := hw.2
      refine wm_callVi (As := [.int (ar 17 (p1 + 1).toNatClampNeg), .int (ar 17 (p1 + 2).toNatClampNeg)]) (rest := []) ⟨hx, hb, hml, hown, hts⟩ hK hN hAm hA hM (m3_print l D ac mo ad sc ar (ar 17 (p1 + 1).toNatClampNeg) (ar 17 (p1 + 2).toNatClampNeg) _ hw) (cwV 2 hts (lw_V q2285 q2090 q2091 q77 q2092) rfl rfl rfl hd_X3_print ⟨Nat.le_of_ble_eq_true rfl, Nat.le_of_ble_eq_true rfl⟩) rfl hl.1 rfl (Nat.le_of_ble_eq_true rfl) dX3_carries_125 ⟨Nat.le_refl 0, Nat.le_refl 0⟩ (fun r12 sc10 ar11 H locs hw hM => ?_)
      exact wm_reti hx hb hr hlk hM rfl hw dX3_carries_128
    · have hk_ : (ar 17 p1.toNatClampNeg) = (113 : Int32) := Int32.toInt_inj.mp (by rw [hi_]; rfl)
      refine lv_tableIn (off := 233) (tgt := 239) hx hb dX3_carries_6 (by rw [hk_]; decide) (by rw [hk_]; decide) (by rw [hk_]; rfl) (by decide) ?_
      replace hw := hw.2.2.2.2.2.2.2.2.2.2.2.2.2.2.1 hk_
      exact hL239  p1 sc ar _ _ ls hM (lv_sub hl [0, 1] rfl) hw
    · have hk_ : (ar 17 p1.toNatClampNeg) = (114 : Int32) := Int32.toInt_inj.mp (by rw [hi_]; rfl)
      refine lv_tableIn (off := 233) (tgt := 239) hx hb dX3_carries_6 (by rw [hk_]; decide) (by rw [hk_]; decide) (by rw [hk_]; rfl) (by decide) ?_
      replace hw := hw.2.2.2.2.2.2.2.2.2.2.2.2.2.2.2.1 hk_
      exact hL239  p1 sc ar _ _ ls hM (lv_sub hl [0, 1] rfl) hw
    · have hk_ : (ar 17 p1.toNatClampNeg) = (115 : Int32) := Int32.toInt_inj.mp (by rw [hi_]; rfl)
      refine lv_tableIn (off := 181) (tgt := 187) hx hb dX3_carries_6 (by rw [hk_]; decide) (by rw [hk_]; decide) (by rw [hk_]; rfl) (by decide) ?_
      replace hw := hw.2.2.2.2.2.2.2.2.2.2.2.2.2.2.2.2.1 hk_
      refine lv_aload_n hx hb dX3_carries_187 rfl (lv_at hl 0 rfl) ?_
      refine lv_aload_n hx hb dX3_carries_188 rfl (lv_at hl 0 rfl) ?_
      refine wm_get hx hb hts hown hK hM 17 (by decide) q1950 (v := .ref (ad 17)) rfl dX3_carries_189 ?_
      refine lv_iload_n hx hb dX3_carries_192 rfl (lv_at hl 1 rfl) ?_
      refine lv_iconst (v := 1) hx hb dX3_carries_193 (by decide) ?_
      refine lv_iadd hx hb dX3_carries_194 ?_
      refine wm_ald hx hb hK hM (k := 17) rfl hw.1 rfl (v := ar 17 (p1 + 1).toNatClampNeg) rfl dX3_carries_195 ?_
      replace hw := hw.2
      refine lv_aload_n hx hb dX3_carries_196 rfl (lv_at hl 0 rfl) ?_
      refine wm_get hx hb hts hown hK hM 17 (by decide) q1950 (v := .ref (ad 17)) rfl dX3_carries_197 ?_
      refine lv_iload_n hx hb dX3_carries_200 rfl (lv_at hl 1 rfl) ?_
      refine lv_iconst (v := 2) hx hb dX3_carries_201 (by decide) ?_
      refine lv_iadd hx hb dX3_carries_202 ?_
      refine wm_ald hx hb hK hM (k := 17) rfl hw.1 rfl (v := ar 17 (p1 + 2).toNatClampNeg) rfl dX3_carries_203 ?_
      replace hw := hw.2
      refine wm_callVi (As := [.int (ar 17 (p1 + 1).toNatClampNeg), .int (ar 17 (p1 + 2).toNatClampNeg)]) (rest := []) ⟨hx, hb, hml, hown, hts⟩ hK hN hAm hA hM (m3_straw l D ac mo ad sc ar (ar 17 (p1 + 1).toNatClampNeg) (ar 17 (p1 + 2).toNatClampNeg) _ hw) (cwV 2 hts (lw_V q2288 q2154 q2155 q77 q2156) rfl rfl rfl hd_X3_straw ⟨Nat.le_of_ble_eq_true rfl, Nat.le_of_ble_eq_true rfl⟩) rfl hl.1 rfl (Nat.le_of_ble_eq_true rfl) dX3_carries_204 ⟨Nat.le_refl 0, Nat.le_refl 0⟩ (fun r15 sc13 ar14 H locs hw hM => ?_)
      exact wm_reti hx hb hr hlk hM rfl hw dX3_carries_207
    · have hk_ : (ar 17 p1.toNatClampNeg) = (116 : Int32) := Int32.toInt_inj.mp (by rw [hi_]; rfl)
      refine lv_tableIn (off := 233) (tgt := 239) hx hb dX3_carries_6 (by rw [hk_]; decide) (by rw [hk_]; decide) (by rw [hk_]; rfl) (by decide) ?_
      replace hw := hw.2.2.2.2.2.2.2.2.2.2.2.2.2.2.2.2.2.1 hk_
      exact hL239  p1 sc ar _ _ ls hM (lv_sub hl [0, 1] rfl) hw
    · have hk_ : (ar 17 p1.toNatClampNeg) = (117 : Int32) := Int32.toInt_inj.mp (by rw [hi_]; rfl)
      refine lv_tableIn (off := 233) (tgt := 239) hx hb dX3_carries_6 (by rw [hk_]; decide) (by rw [hk_]; decide) (by rw [hk_]; rfl) (by decide) ?_
      replace hw := hw.2.2.2.2.2.2.2.2.2.2.2.2.2.2.2.2.2.2.1 hk_
      exact hL239  p1 sc ar _ _ ls hM (lv_sub hl [0, 1] rfl) hw
    · have hk_ : (ar 17 p1.toNatClampNeg) = (118 : Int32) := Int32.toInt_inj.mp (by rw [hi_]; rfl)
      refine lv_tableIn (off := 233) (tgt := 239) hx hb dX3_carries_6 (by rw [hk_]; decide) (by rw [hk_]; decide) (by rw [hk_]; rfl) (by decide) ?_
      replace hw := hw.2.2.2.2.2.2.2.2.2.2.2.2.2.2.2.2.2.2.2.1 hk_
      exact hL239  p1 sc ar _ _ ls hM (lv_sub hl [0, 1] rfl) hw
    · have hk_ : (ar 17 p1.toNatClampNeg) = (119 : Int32) := Int32.toInt_inj.mp (by rw [hi_]; rfl)
      refine lv_tableIn (off := 215) (tgt := 221) hx hb dX3_carries_6 (by rw [hk_]; decide) (by rw [hk_]; decide) (by rw [hk_]; rfl) (by decide) ?_
      replace hw := hw.2.2.2.2.2.2.2.2.2.2.2.2.2.2.2.2.2.2.2.2.1 hk_
      refine lv_aload_n hx hb dX3_carries_221 rfl (lv_at hl 0 rfl) ?_
      refine lv_aload_n hx hb dX3_carries_222 rfl (lv_at hl 0 rfl) ?_
      refine wm_get hx hb hts hown hK hM 17 (by decide) q1950 (v := .ref (ad 17)) rfl dX3_carries_223 ?_
      refine lv_iload_n hx hb dX3_carries_226 rfl (lv_at hl 1 rfl) ?_
      refine lv_iconst (v := 1) hx hb dX3_carries_227 (by decide) ?_
      refine lv_iadd hx hb dX3_carries_228 ?_
      refine wm_ald hx hb hK hM (k := 17) rfl hw.1 rfl (v := ar 17 (p1 + 1).toNatClampNeg) rfl dX3_carries_229 ?_
      replace hw := hw.2
      refine wm_callVi (As := [.int (ar 17 (p1 + 1).toNatClampNeg)]) (rest := []) ⟨hx, hb, hml, hown, hts⟩ hK hN hAm hA hM (m3_damp l D ac mo ad sc ar (ar 17 (p1 + 1).toNatClampNeg) _ hw) (cwV 1 hts (lw_V q2290 q2028 q2029 q77 q2030) rfl rfl rfl hd_X3_damp ⟨Nat.le_of_ble_eq_true rfl, Nat.le_of_ble_eq_true rfl⟩) rfl hl.1 rfl (Nat.le_of_ble_eq_true rfl) dX3_carries_230 ⟨Nat.le_refl 0, Nat.le_refl 0⟩ (fun r18 sc16 ar17 H locs hw hM => ?_)
      exact wm_reti hx hb hr hlk hM rfl hw dX3_carries_233
    · have hk_ : (ar 17 p1.toNatClampNeg) = (120 : Int32) := Int32.toInt_inj.mp (by rw [hi_]; rfl)
      refine lv_tableIn (off := 228) (tgt := 234) hx hb dX3_carries_6 (by rw [hk_]; decide) (by rw [hk_]; decide) (by rw [hk_]; rfl) (by decide) ?_
      replace hw := hw.2.2.2.2.2.2.2.2.2.2.2.2.2.2.2.2.2.2.2.2.2.1 hk_
      refine lv_aload_n hx hb dX3_carries_234 rfl (lv_at hl 0 rfl) ?_
      refine wm_callVi (As := []) (rest := []) ⟨hx, hb, hml, hown, hts⟩ hK hN hAm hA hM (m3_sell l D ac mo ad sc ar  _ hw) (cwV 0 hts (lw_V q2291 q2170 q2171 q77 q2172) rfl rfl rfl hd_X3_sell ⟨Nat.le_of_ble_eq_true rfl, Nat.le_of_ble_eq_true rfl⟩) rfl hl.1 rfl (Nat.le_of_ble_eq_true rfl) dX3_carries_235 ⟨Nat.le_refl 0, Nat.le_refl 0⟩ (fun r21 sc19 ar20 H locs hw hM => ?_)
      exact wm_reti hx hb hr hlk hM rfl hw dX3_carries_238
def w3_isText_L10 (post : Int32 → wS1 → wS2 → Prop) : Nat → wS1 → wS2 → Prop
  | 0, _, _ => False
  | n + 1, sc, ar => w3_itemHere (fun r3 sc1 ar2 => (¬ r3 = 0 → (w3_skips (fun r6 sc4 ar5 => (¬ r6 = 0 → (w3_isText_L10 post  n sc4 ar5)) ∧ (r6 = 0 → ((¬ (sc4 16) = (sc4 11) → (post 0 sc4 ar5)) ∧ ((sc4 16) = (sc4 11) → (post 1 sc4 ar5))))) (upd sc1 18 ((sc1 18) + 1)) ar2 59)) ∧ (r3 = 0 → (post 0 sc1 ar2))) sc ar 
def w3_isText (post : Int32 → wS1 → wS2 → Prop) (sc : wS1) (ar : wS2)  : Prop := (∃ n, w3_isText_L10 post  n (upd (upd sc 16 0) 18 0) ar)
theorem hd_X3_isText : yX3_isText.cls = RX3 ∧ yX3_isText.cls ≠ "java/lang/invoke/MethodHandle" ∧ yX3_isText.cls ≠ "java/lang/invoke/VarHandle" ∧ (parseMethodDescriptor yX3_isText.desc).map (fun d => d.parameters.length) = some 0 := by decide +kernel
set_option maxHeartbeats 4000000 in
set_option maxRecDepth 100000 in
theorem m3_isText (l : Launch) (D : va_G) (ac : Nat → ClassId) (mo : Nat) (ad : Nat → Nat) (sc : wS1) (ar : wS2)  (post : Int32 → wS1 → wS2 → Prop) (hw : w3_isText post sc ar ) : wm_Mi l D ac mo ad yX3_isText (ws_ yX3_isText cX3_isText 1 (some .boolean)) ({ frames := 4, cells := 0, slots := 0, locals := 85 }) [.ref mo] sc ar post := by
  refine wm_ofi (by decide) (Nat.le_of_ble_eq_true rfl) ?_
  intro p e s m below meth c A ls hx hb hr hlk hml hown hts hK hN hAm hA hM hl
  have hl : lv_has ls 1 [(0, .ref mo)] := hl
  unfold w3_isText at hw
  have hL10 : ∀ (n : Nat) (sc : wS1) (ar : wS2) (H : Heap) (locs : List Loc) (ls : Array Slot), wm_S D ac A s.heap mo ad sc ar H locs → lv_has ls 1 [(0, .ref mo)] → w3_isText_L10 post n sc ar → W p l e (headSpec (ws_ yX3_isText cX3_isText 1 (some .boolean)) ({ frames := 4, cells := 0, slots := 0, locals := 85 })).room s m ([.ref mo] : List Value).toArray below meth c H locs 0 0 (MQ below (va_Qi (S := wU) (fun r u => post r u.1 u.2) (wm_B D ac mo ad) A) ([.ref mo] : List Value).toArray s 0 0 A) (F0 m 10 ls []) := by
    intro n
    induction n with
    | zero => exact fun _ _ _ _ _ _ _ hw => hw.elim
    | succ n ih =>
      intro sc ar H locs ls hM hl hw
      unfold w3_isText_L10 at hw
      refine lv_aload_n hx hb dX3_isText_10 rfl (lv_at hl 0 rfl) ?_
      refine wm_callVi (As := []) (rest := []) ⟨hx, hb, hml, hown, hts⟩ hK hN hAm hA hM (m3_itemHere l D ac mo ad sc ar  _ hw) (cwV 0 hts (lw_V q2261 q2263 qs48 q77 q2264) rfl rfl rfl hd_X3_itemHere ⟨Nat.le_of_ble_eq_true rfl, Nat.le_of_ble_eq_true rfl⟩) rfl hl.1 rfl (Nat.le_of_ble_eq_true rfl) dX3_isText_11 ⟨Nat.le_refl 0, Nat.le_refl 0⟩ (fun r3 sc1 ar2 H locs hw hM => ?_)
      refine lv_if_ne (tgt := 19) hx hb dX3_isText_14 (by decide) (fun c_ => ?_) (fun c_ => ?_)
      · replace hw := hw.1 c_
        refine lv_aload_n hx hb dX3_isText_19 rfl (lv_at hl 0 rfl) ?_
        refine lv_dup hx hb dX3_isText_20 rfl ?_
        refine wm_get hx hb hts hown hK hM 18 (by decide) q1951 (v := .int (sc1 18)) rfl dX3_isText_21 ?_
        refine lv_iconst (v := 1) hx hb dX3_isText_24 (by decide) ?_
        refine lv_iadd hx hb dX3_isText_25 ?_
        refine wm_put hx hb hts hown hK hN hAm hM 18 (by decide) rfl q1951 rfl rfl rfl dX3_isText_26 (fun H locs hM => ?_)
        refine lv_aload_n hx hb dX3_isText_29 rfl (lv_at hl 0 rfl) ?_
        refine lv_bipush (v := 59) hx hb dX3_isText_30 (by decide) ?_
        refine wm_callVi (As := [.int 59]) (rest := []) ⟨hx, hb, hml, hown, hts⟩ hK hN hAm hA hM (m3_skips l D ac mo ad (upd sc1 18 ((sc1 18) + 1)) ar2 59 _ hw) (cwV 1 hts (lw_V q2269 q2271 qs50 q77 q2272) rfl rfl rfl hd_X3_skips ⟨Nat.le_of_ble_eq_true rfl, Nat.le_of_ble_eq_true rfl⟩) rfl hl.1 rfl (Nat.le_of_ble_eq_true rfl) dX3_isText_32 ⟨Nat.le_refl 0, Nat.le_refl 0⟩ (fun r6 sc4 ar5 H locs hw hM => ?_)
        refine lv_if_ne (tgt := 10) hx hb dX3_isText_35 (by decide) (fun c_ => ?_) (fun c_ => ?_)
        · replace hw := hw.1 c_
          exact ih sc4 ar5 _ _ ls hM (lv_sub hl [0] rfl) hw
        · replace hw := hw.2 c_
          refine lv_aload_n hx hb dX3_isText_38 rfl (lv_at hl 0 rfl) ?_
          refine wm_get hx hb hts hown hK hM 16 (by decide) q1949 (v := .int (sc4 16)) rfl dX3_isText_39 ?_
          refine lv_aload_n hx hb dX3_isText_42 rfl (lv_at hl 0 rfl) ?_
          refine wm_get hx hb hts hown hK hM 11 (by decide) q1944 (v := .int (sc4 11)) rfl dX3_isText_43 ?_
          refine lv_icmp_ne (tgt := 53) hx hb dX3_isText_46 (by decide) (fun c_ => ?_) (fun c_ => ?_)
          · replace hw := hw.1 c_
            refine lv_iconst (v := 0) hx hb dX3_isText_53 (by decide) ?_
            exact wm_reti hx hb hr hlk hM rfl hw dX3_isText_54
          · replace hw := hw.2 c_
            refine lv_iconst (v := 1) hx hb dX3_isText_49 (by decide) ?_
            refine lv_goto (tgt := 54) hx hb dX3_isText_50 (by decide) ?_
            exact wm_reti hx hb hr hlk hM rfl hw dX3_isText_54
      · replace hw := hw.2 c_
        refine lv_iconst (v := 0) hx hb dX3_isText_17 (by decide) ?_
        exact wm_reti hx hb hr hlk hM rfl hw dX3_isText_18
  refine lv_aload_n hx hb dX3_isText_0 rfl (lv_at hl 0 rfl) ?_
  refine lv_iconst (v := 0) hx hb dX3_isText_1 (by decide) ?_
  refine wm_put hx hb hts hown hK hN hAm hM 16 (by decide) rfl q1949 rfl rfl rfl dX3_isText_2 (fun H locs hM => ?_)
  refine lv_aload_n hx hb dX3_isText_5 rfl (lv_at hl 0 rfl) ?_
  refine lv_iconst (v := 0) hx hb dX3_isText_6 (by decide) ?_
  refine wm_put hx hb hts hown hK hN hAm hM 18 (by decide) rfl q1951 rfl rfl rfl dX3_isText_7 (fun H locs hM => ?_)
  obtain ⟨n0, hw⟩ := hw
  exact hL10  n0 (upd (upd sc 16 0) 18 0) ar _ _ ls hM (lv_sub hl [0] rfl) hw
def w3_read_L91 (post : Int32 → wS1 → wS2 → Prop) (x2 : Int32) (x3 : Int32) (sc : wS1) (ar : wS2) : Prop := ((sc 7) ≤ 0 → (w3_keeps (fun sc12 ar13 => post (sc12 18) sc12 ar13) (upd sc 6 0) ar 3)) ∧ (¬ (sc 7) ≤ 0 → (w3_copies (fun sc14 ar15 => (0 ≤ x3 → (post 0 (upd (upd sc14 13 (x2 - 1)) 7 2) ar15)) ∧ (¬ 0 ≤ x3 → (post x3 (upd (upd sc14 13 (x2 - 1)) 7 2) ar15))) (upd sc 6 0) ar 3 0 0 0))
def w3_read_L62 (post : Int32 → wS1 → wS2 → Prop) : Nat → Int32 → Int32 → wS1 → wS2 → Prop
  | 0, _, _, _, _ => False
  | n + 1, x2, x3, sc, ar => ((sc 18) ≤ x2 → (w3_read_L91 post  x2 x3 sc ar)) ∧ (¬ (sc 18) ≤ x2 → ((¬ (sc 7) = 0 → (w3_read_L91 post  x2 x3 sc ar)) ∧ ((sc 7) = 0 → (w3_carries (fun r11 sc9 ar10 => w3_read_L62 post  n (x2 + 1) r11 sc9 ar10) sc ar (4 * x2)))))
def w3_read_L32 (post : Int32 → wS1 → wS2 → Prop) (t0 : Int32) (sc : wS1) (ar : wS2) : Prop := w3_fails (fun r6 sc4 ar5 => (r6 = 0 → (w3_copies (fun sc7 ar8 => (∃ n, w3_read_L62 post  n 0 0 (upd sc7 6 1) ar8)) sc4 ar5 0 0 3 0)) ∧ (¬ r6 = 0 → (post 0 sc4 ar5))) sc ar t0
def w3_read_L17 (post : Int32 → wS1 → wS2 → Prop) (x1 : Int32) (sc : wS1) (ar : wS2) : Prop := (x1 = 0 → (w3_read_L32 post  1 (upd sc 11 0) ar)) ∧ (¬ x1 = 0 → (w3_read_L32 post  0 (upd sc 11 0) ar))
def w3_read (post : Int32 → wS1 → wS2 → Prop) (sc : wS1) (ar : wS2)  : Prop := w3_isText (fun r3 sc1 ar2 => (¬ r3 = 0 → (w3_read_L17 post  r3 sc1 ar2)) ∧ (r3 = 0 → (w3_read_L17 post  r3 (upd sc1 12 (sc1 16)) ar2))) sc ar 
theorem hd_X3_read : yX3_read.cls = RX3 ∧ yX3_read.cls ≠ "java/lang/invoke/MethodHandle" ∧ yX3_read.cls ≠ "java/lang/invoke/VarHandle" ∧ (parseMethodDescriptor yX3_read.desc).map (fun d => d.parameters.length) = some 0 := by decide +kernel
set_option maxHeartbeats 4000000 in
set_option maxRecDepth 100000 in
theorem m3_read (l : Launch) (D : va_G) (ac : Nat → ClassId) (mo : Nat) (ad : Nat → Nat) (sc : wS1) (ar : wS2)  (post : Int32 → wS1 → wS2 → Prop) (hw : w3_read post sc ar ) : wm_Mi l D ac mo ad yX3_read (ws_ yX3_read cX3_read 4 (some .int)) ({ frames := 6, cells := 0, slots := 0, locals := 133 }) [.ref mo] sc ar post := by
  refine wm_ofi (by decide) (Nat.le_of_ble_eq_true rfl) ?_
  intro p e s m below meth c A ls hx hb hr hlk hml hown hts hK hN hAm hA hM hl
  have hl : lv_has ls 4 [(0, .ref mo)] := hl
  unfold w3_read at hw
  have hL91 : ∀ (x2 : Int32) (x3 : Int32) (sc : wS1) (ar : wS2) (H : Heap) (locs : List Loc) (ls : Array Slot), wm_S D ac A s.heap mo ad sc ar H locs → lv_has ls 4 [(0, .ref mo), (2, .int x2), (3, .int x3)] → w3_read_L91 post x2 x3 sc ar → W p l e (headSpec (ws_ yX3_read cX3_read 4 (some .int)) ({ frames := 6, cells := 0, slots := 0, locals := 133 })).room s m ([.ref mo] : List Value).toArray below meth c H locs 0 0 (MQ below (va_Qi (S := wU) (fun r u => post r u.1 u.2) (wm_B D ac mo ad) A) ([.ref mo] : List Value).toArray s 0 0 A) (F0 m 91 ls []) := by
    intro x2 x3 sc ar H locs ls hM hl hw
    unfold w3_read_L91 at hw
    refine lv_aload_n hx hb dX3_read_91 rfl (lv_at hl 0 rfl) ?_
    refine lv_iconst (v := 0) hx hb dX3_read_92 (by decide) ?_
    refine wm_put hx hb hts hown hK hN hAm hM 6 (by decide) rfl q1939 rfl (by decide) rfl dX3_read_93 (fun H locs hM => ?_)
    refine lv_aload_n hx hb dX3_read_96 rfl (lv_at hl 0 rfl) ?_
    refine wm_get hx hb hts hown hK hM 7 (by decide) q1940 (v := .int (sc 7)) rfl dX3_read_97 ?_
    refine lv_if_le (tgt := 138) hx hb dX3_read_100 (by decide) (fun c_ => ?_) (fun c_ => ?_)
    · replace hw := hw.1 c_
      refine lv_aload_n hx hb dX3_read_138 rfl (lv_at hl 0 rfl) ?_
      refine lv_aload_n hx hb dX3_read_139 rfl (lv_at hl 0 rfl) ?_
      refine wm_get hx hb hts hown hK hM 3 (by decide) q1936 (v := .ref (ad 3)) rfl dX3_read_140 ?_
      refine wm_callVv (As := [.ref (ad 3)]) (rest := []) ⟨hx, hb, hml, hown, hts⟩ hK hN hAm hA hM (m3_keeps l D ac mo ad (upd sc 6 0) ar 3 _ rfl hw) (cwV 1 hts (lw_V q2016 q2018 qs21 q77 q2019) rfl rfl rfl hd_X3_keeps ⟨Nat.le_of_ble_eq_true rfl, Nat.le_of_ble_eq_true rfl⟩) rfl hl.1 rfl (Nat.le_of_ble_eq_true rfl) dX3_read_143 ⟨Nat.le_refl 0, Nat.le_refl 0⟩ (fun sc12 ar13 H locs hw hM => ?_)
      refine lv_aload_n hx hb dX3_read_146 rfl (lv_at hl 0 rfl) ?_
      refine wm_get hx hb hts hown hK hM 18 (by decide) q1951 (v := .int (sc12 18)) rfl dX3_read_147 ?_
      exact wm_reti hx hb hr hlk hM rfl hw dX3_read_150
    · replace hw := hw.2 c_
      refine lv_aload_n hx hb dX3_read_103 rfl (lv_at hl 0 rfl) ?_
      refine wm_get hx hb hts hown hK hM 3 (by decide) q1936 (v := .ref (ad 3)) rfl dX3_read_104 ?_
      refine lv_iconst (v := 0) hx hb dX3_read_107 (by decide) ?_
      refine lv_aload_n hx hb dX3_read_108 rfl (lv_at hl 0 rfl) ?_
      refine wm_get hx hb hts hown hK hM 0 (by decide) q1933 (v := .ref (ad 0)) rfl dX3_read_109 ?_
      refine lv_iconst (v := 0) hx hb dX3_read_112 (by decide) ?_
      refine wm_callSv (As := [.ref (ad 3), .int 0, .ref (ad 0), .int 0]) (rest := []) ⟨hx, hb, hml, hown, hts⟩ hK hN hAm hA hM (m3_copies l D ac mo ad (upd sc 6 0) ar 3 0 0 0 _ rfl rfl hw) (va_cwS 4 hts (lw_S q2020 q2021 q77 q2022) rfl rfl rfl hd_X3_copies ⟨Nat.le_of_ble_eq_true rfl, Nat.le_of_ble_eq_true rfl⟩) rfl hl.1 rfl (Nat.le_of_ble_eq_true rfl) dX3_read_113 ⟨Nat.le_refl 0, Nat.le_refl 0⟩ (fun sc14 ar15 H locs hw hM => ?_)
      refine lv_aload_n hx hb dX3_read_116 rfl (lv_at hl 0 rfl) ?_
      refine lv_iload_n hx hb dX3_read_117 rfl (lv_at hl 1 rfl) ?_
      refine lv_iconst (v := 1) hx hb dX3_read_118 (by decide) ?_
      refine lv_isub hx hb dX3_read_119 ?_
      refine wm_put hx hb hts hown hK hN hAm hM 13 (by decide) rfl q1946 rfl rfl rfl dX3_read_120 (fun H locs hM => ?_)
      refine lv_aload_n hx hb dX3_read_123 rfl (lv_at hl 0 rfl) ?_
      refine lv_iconst (v := 2) hx hb dX3_read_124 (by decide) ?_
      refine wm_put hx hb hts hown hK hN hAm hM 7 (by decide) rfl q1940 rfl rfl rfl dX3_read_125 (fun H locs hM => ?_)
      refine lv_iload_n hx hb dX3_read_128 rfl (lv_at hl 2 rfl) ?_
      refine lv_if_ge (tgt := 136) hx hb dX3_read_129 (by decide) (fun c_ => ?_) (fun c_ => ?_)
      · replace hw := hw.1 c_
        refine lv_iconst (v := 0) hx hb dX3_read_136 (by decide) ?_
        exact wm_reti hx hb hr hlk hM rfl hw dX3_read_137
      · replace hw := hw.2 c_
        refine lv_iload_n hx hb dX3_read_132 rfl (lv_at hl 2 rfl) ?_
        refine lv_goto (tgt := 137) hx hb dX3_read_133 (by decide) ?_
        exact wm_reti hx hb hr hlk hM rfl hw dX3_read_137
  have hL62 : ∀ (n : Nat) (x2 : Int32) (x3 : Int32) (sc : wS1) (ar : wS2) (H : Heap) (locs : List Loc) (ls : Array Slot), wm_S D ac A s.heap mo ad sc ar H locs → lv_has ls 4 [(0, .ref mo), (2, .int x2), (3, .int x3)] → w3_read_L62 post n x2 x3 sc ar → W p l e (headSpec (ws_ yX3_read cX3_read 4 (some .int)) ({ frames := 6, cells := 0, slots := 0, locals := 133 })).room s m ([.ref mo] : List Value).toArray below meth c H locs 0 0 (MQ below (va_Qi (S := wU) (fun r u => post r u.1 u.2) (wm_B D ac mo ad) A) ([.ref mo] : List Value).toArray s 0 0 A) (F0 m 62 ls []) := by
    intro n
    induction n with
    | zero => exact fun _ _ _ _ _ _ _ _ _ hw => hw.elim
    | succ n ih =>
      intro x2 x3 sc ar H locs ls hM hl hw
      unfold w3_read_L62 at hw
      refine lv_iload_n hx hb dX3_read_62 rfl (lv_at hl 1 rfl) ?_
      refine lv_aload_n hx hb dX3_read_63 rfl (lv_at hl 0 rfl) ?_
      refine wm_get hx hb hts hown hK hM 18 (by decide) q1951 (v := .int (sc 18)) rfl dX3_read_64 ?_
      refine lv_icmp_ge (tgt := 91) hx hb dX3_read_67 (by decide) (fun c_ => ?_) (fun c_ => ?_)
      · replace hw := hw.1 c_
        exact hL91  x2 x3 sc ar _ _ ls hM (lv_sub hl [0, 1, 2] rfl) hw
      · replace hw := hw.2 c_
        refine lv_aload_n hx hb dX3_read_70 rfl (lv_at hl 0 rfl) ?_
        refine wm_get hx hb hts hown hK hM 7 (by decide) q1940 (v := .int (sc 7)) rfl dX3_read_71 ?_
        refine lv_if_ne (tgt := 91) hx hb dX3_read_74 (by decide) (fun c_ => ?_) (fun c_ => ?_)
        · replace hw := hw.1 c_
          exact hL91  x2 x3 sc ar _ _ ls hM (lv_sub hl [0, 1, 2] rfl) hw
        · replace hw := hw.2 c_
          refine lv_aload_n hx hb dX3_read_77 rfl (lv_at hl 0 rfl) ?_
          refine lv_iconst (v := 4) hx hb dX3_read_78 (by decide) ?_
          refine lv_iload_n hx hb dX3_read_79 rfl (lv_at hl 1 rfl) ?_
          refine lv_imul hx hb dX3_read_80 ?_
          refine wm_callVi (As := [.int (4 * x2)]) (rest := []) ⟨hx, hb, hml, hown, hts⟩ hK hN hAm hA hM (m3_carries l D ac mo ad sc ar (4 * x2) _ hw) (cwV 1 hts (lw_V q2281 q2283 qs53 q77 q2284) rfl rfl rfl hd_X3_carries ⟨Nat.le_of_ble_eq_true rfl, Nat.le_of_ble_eq_true rfl⟩) rfl hl.1 rfl (Nat.le_of_ble_eq_true rfl) dX3_read_81 ⟨Nat.le_refl 0, Nat.le_refl 0⟩ (fun r11 sc9 ar10 H locs hw hM => ?_)
          refine lv_istore_n (lv' := [(3, .int r11), (0, .ref mo), (2, .int x2)]) hx hb dX3_read_84 rfl hl (by decide) rfl (fun ls hl => ?_)
          refine lv_iinc (v := x2 + 1) (lv' := [(2, .int (x2 + 1)), (3, .int r11), (0, .ref mo)]) hx hb dX3_read_85 hl (k := 2) rfl rfl (by decide) rfl (fun ls hl => ?_)
          refine lv_goto (tgt := 62) hx hb dX3_read_88 (by decide) ?_
          exact ih (x2 + 1) r11 sc9 ar10 _ _ ls hM (lv_sub hl [2, 0, 1] rfl) hw
  have hL32 : ∀ (t0 : Int32) (sc : wS1) (ar : wS2) (H : Heap) (locs : List Loc) (ls : Array Slot), wm_S D ac A s.heap mo ad sc ar H locs → lv_has ls 4 [(0, .ref mo)] → w3_read_L32 post t0 sc ar → W p l e (headSpec (ws_ yX3_read cX3_read 4 (some .int)) ({ frames := 6, cells := 0, slots := 0, locals := 133 })).room s m ([.ref mo] : List Value).toArray below meth c H locs 0 0 (MQ below (va_Qi (S := wU) (fun r u => post r u.1 u.2) (wm_B D ac mo ad) A) ([.ref mo] : List Value).toArray s 0 0 A) (F0 m 32 ls [.int t0, .ref mo]) := by
    intro t0 sc ar H locs ls hM hl hw
    unfold w3_read_L32 at hw
    refine wm_callVi (As := [.int t0]) (rest := []) ⟨hx, hb, hml, hown, hts⟩ hK hN hAm hA hM (m3_fails l D ac mo ad sc ar t0 _ hw) (cwV 1 hts (lw_V q2008 q2010 qs19 q77 q2011) rfl rfl rfl hd_X3_fails ⟨Nat.le_of_ble_eq_true rfl, Nat.le_of_ble_eq_true rfl⟩) rfl hl.1 rfl (Nat.le_of_ble_eq_true rfl) dX3_read_32 ⟨Nat.le_refl 0, Nat.le_refl 0⟩ (fun r6 sc4 ar5 H locs hw hM => ?_)
    refine lv_if_eq (tgt := 40) hx hb dX3_read_35 (by decide) (fun c_ => ?_) (fun c_ => ?_)
    · replace hw := hw.1 c_
      refine lv_aload_n hx hb dX3_read_40 rfl (lv_at hl 0 rfl) ?_
      refine wm_get hx hb hts hown hK hM 0 (by decide) q1933 (v := .ref (ad 0)) rfl dX3_read_41 ?_
      refine lv_iconst (v := 0) hx hb dX3_read_44 (by decide) ?_
      refine lv_aload_n hx hb dX3_read_45 rfl (lv_at hl 0 rfl) ?_
      refine wm_get hx hb hts hown hK hM 3 (by decide) q1936 (v := .ref (ad 3)) rfl dX3_read_46 ?_
      refine lv_iconst (v := 0) hx hb dX3_read_49 (by decide) ?_
      refine wm_callSv (As := [.ref (ad 0), .int 0, .ref (ad 3), .int 0]) (rest := []) ⟨hx, hb, hml, hown, hts⟩ hK hN hAm hA hM (m3_copies l D ac mo ad sc4 ar5 0 0 3 0 _ rfl rfl hw) (va_cwS 4 hts (lw_S q2020 q2021 q77 q2022) rfl rfl rfl hd_X3_copies ⟨Nat.le_of_ble_eq_true rfl, Nat.le_of_ble_eq_true rfl⟩) rfl hl.1 rfl (Nat.le_of_ble_eq_true rfl) dX3_read_50 ⟨Nat.le_refl 0, Nat.le_refl 0⟩ (fun sc7 ar8 H locs hw hM => ?_)
      refine lv_aload_n hx hb dX3_read_53 rfl (lv_at hl 0 rfl) ?_
      refine lv_iconst (v := 1) hx hb dX3_read_54 (by decide) ?_
      refine wm_put hx hb hts hown hK hN hAm hM 6 (by decide) rfl q1939 rfl (by decide) rfl dX3_read_55 (fun H locs hM => ?_)
      refine lv_iconst (v := 0) hx hb dX3_read_58 (by decide) ?_
      refine lv_istore_n (lv' := [(2, .int 0), (0, .ref mo)]) hx hb dX3_read_59 rfl hl (by decide) rfl (fun ls hl => ?_)
      refine lv_iconst (v := 0) hx hb dX3_read_60 (by decide) ?_
      refine lv_istore_n (lv' := [(3, .int 0), (2, .int 0), (0, .ref mo)]) hx hb dX3_read_61 rfl hl (by decide) rfl (fun ls hl => ?_)
      obtain ⟨n0, hw⟩ := hw
      exact hL62  n0 0 0 (upd sc7 6 1) ar8 _ _ ls hM (lv_sub hl [2, 1, 0] rfl) hw
    · replace hw := hw.2 c_
      refine lv_iconst (v := 0) hx hb dX3_read_38 (by decide) ?_
      exact wm_reti hx hb hr hlk hM rfl hw dX3_read_39
  have hL17 : ∀ (x1 : Int32) (sc : wS1) (ar : wS2) (H : Heap) (locs : List Loc) (ls : Array Slot), wm_S D ac A s.heap mo ad sc ar H locs → lv_has ls 4 [(0, .ref mo), (1, .int x1)] → w3_read_L17 post x1 sc ar → W p l e (headSpec (ws_ yX3_read cX3_read 4 (some .int)) ({ frames := 6, cells := 0, slots := 0, locals := 133 })).room s m ([.ref mo] : List Value).toArray below meth c H locs 0 0 (MQ below (va_Qi (S := wU) (fun r u => post r u.1 u.2) (wm_B D ac mo ad) A) ([.ref mo] : List Value).toArray s 0 0 A) (F0 m 17 ls []) := by
    intro x1 sc ar H locs ls hM hl hw
    unfold w3_read_L17 at hw
    refine lv_aload_n hx hb dX3_read_17 rfl (lv_at hl 0 rfl) ?_
    refine lv_iconst (v := 0) hx hb dX3_read_18 (by decide) ?_
    refine wm_put hx hb hts hown hK hN hAm hM 11 (by decide) rfl q1944 rfl rfl rfl dX3_read_19 (fun H locs hM => ?_)
    refine lv_aload_n hx hb dX3_read_22 rfl (lv_at hl 0 rfl) ?_
    refine lv_iload_n hx hb dX3_read_23 rfl (lv_at hl 1 rfl) ?_
    refine lv_if_eq (tgt := 31) hx hb dX3_read_24 (by decide) (fun c_ => ?_) (fun c_ => ?_)
    · replace hw := hw.1 c_
      refine lv_iconst (v := 1) hx hb dX3_read_31 (by decide) ?_
      exact hL32  1 (upd sc 11 0) ar _ _ ls hM (lv_sub hl [0] rfl) hw
    · replace hw := hw.2 c_
      refine lv_iconst (v := 0) hx hb dX3_read_27 (by decide) ?_
      refine lv_goto (tgt := 32) hx hb dX3_read_28 (by decide) ?_
      exact hL32  0 (upd sc 11 0) ar _ _ ls hM (lv_sub hl [0] rfl) hw
  refine lv_aload_n hx hb dX3_read_0 rfl (lv_at hl 0 rfl) ?_
  refine wm_callVi (As := []) (rest := []) ⟨hx, hb, hml, hown, hts⟩ hK hN hAm hA hM (m3_isText l D ac mo ad sc ar  _ hw) (cwV 0 hts (lw_V q2257 q2259 qs47 q77 q2260) rfl rfl rfl hd_X3_isText ⟨Nat.le_of_ble_eq_true rfl, Nat.le_of_ble_eq_true rfl⟩) rfl hl.1 rfl (Nat.le_of_ble_eq_true rfl) dX3_read_1 ⟨Nat.le_refl 0, Nat.le_refl 0⟩ (fun r3 sc1 ar2 H locs hw hM => ?_)
  refine lv_istore_n (lv' := [(1, .int r3), (0, .ref mo)]) hx hb dX3_read_4 rfl hl (by decide) rfl (fun ls hl => ?_)
  refine lv_iload_n hx hb dX3_read_5 rfl (lv_at hl 0 rfl) ?_
  refine lv_if_ne (tgt := 17) hx hb dX3_read_6 (by decide) (fun c_ => ?_) (fun c_ => ?_)
  · replace hw := hw.1 c_
    exact hL17  r3 sc1 ar2 _ _ ls hM (lv_sub hl [1, 0] rfl) hw
  · replace hw := hw.2 c_
    refine lv_aload_n hx hb dX3_read_9 rfl (lv_at hl 1 rfl) ?_
    refine lv_aload_n hx hb dX3_read_10 rfl (lv_at hl 1 rfl) ?_
    refine wm_get hx hb hts hown hK hM 16 (by decide) q1949 (v := .int (sc1 16)) rfl dX3_read_11 ?_
    refine wm_put hx hb hts hown hK hN hAm hM 12 (by decide) rfl q1945 rfl rfl rfl dX3_read_14 (fun H locs hM => ?_)
    exact hL17  r3 (upd sc1 12 (sc1 16)) ar2 _ _ ls hM (lv_sub hl [1, 0] rfl) hw
