/-! lambdas: made, constant, cast, called -/
set_option maxRecDepth 100000
/-- a lambda that is a Change -/
def gChg (G : Gh) (a : Nat) : Prop := 42 ≤ gC G a ∧ gC G a < 70
def gw_make_at (i : Nat) (E : gE) (post : Int32 → Gh → Prop) (px : String → Nat → Gh → Prop) (a h : Nat) (G : Gh) : Prop := match i with
  | 2 => gw_X1_lambda_sheets_1 E post px (gI G a 0) h G
  | 3 => gw_X1_lambda_damp_2 E post px (gI G a 0) h G
  | 4 => gw_X1_lambda_copper_3 E post px (gI G a 0) h G
  | 5 => gw_X1_lambda_lot_4 E post px (gI G a 0) h G
  | 6 => gw_X1_lambda_print_5 E post px (gI G a 0) (gI G a 1) h G
  | 7 => gw_X1_lambda_kiln_6 E post px (gI G a 0) h G
  | 8 => gw_X1_lambda_fire_7 E post px (gI G a 0) (gI G a 1) (gI G a 2) h G
  | 9 => gw_X1_lambda_crate_8 E post px (gI G a 0) h G
  | 10 => gw_X1_lambda_straw_9 E post px (gI G a 0) (gI G a 1) h G
  | 11 => gw_X1_lambda_pack_10 E post px (gI G a 0) (gI G a 1) (gI G a 2) h G
  | 12 => gw_X1_lambda_carry_11 E post px (gI G a 0) h G
  | 13 => gw_X1_lambda_sell_12 E post px h G
  | 14 => gw_X1_lambda_pass_13 E post px (gI G a 0) h G
  | 22 => gw_X14_lambda_item_0 E post px (gI G a 0) (gI G a 1) h G
  | 23 => gw_X14_lambda_item_1 E post px (gI G a 0) (gI G a 1) (gI G a 2) h G
  | 24 => gw_X14_lambda_item_2 E post px (gI G a 0) (gI G a 1) (gI G a 2) h G
  | 25 => gw_X14_lambda_item_3 E post px (gI G a 0) (gI G a 1) h G
  | 26 => gw_X14_lambda_item_4 E post px (gI G a 0) h G
  | 27 => gw_X14_lambda_item_5 E post px (gI G a 0) h G
  | 28 => gw_X14_lambda_item_6 E post px h G
  | 29 => gw_X14_lambda_item_7 E post px (gI G a 0) h G
  | _ => False
def gw_make (E : gE) (post : Int32 → Gh → Prop) (px : String → Nat → Gh → Prop) (a h : Nat) (G : Gh) : Prop := 40 ≤ gC G a ∧ gw_make_at (gC G a - 40) E post px a h G
def gw_is_at (i : Nat) (E : gE) (post : Int32 → Gh → Prop) (a h : Nat) (G : Gh) : Prop := match i with
  | 0 => gw_X2_lambda_inCrates_1 E post h G
  | 15 => gw_X1_lambda_account_14 E post h G
  | 17 => gw_X1_lambda_account_15 E post h G
  | 18 => gw_X2_lambda_burning_3 E post h G
  | 20 => gw_X1_lambda_meanWell_16 E post h G
  | _ => False
def gw_is (E : gE) (post : Int32 → Gh → Prop) (a h : Nat) (G : Gh) : Prop := 40 ≤ gC G a ∧ gw_is_at (gC G a - 40) E post a h G
def gw_of_at (i : Nat) (E : gE) (post : Int32 → Gh → Prop) (a h : Nat) (G : Gh) : Prop := match i with
  | 1 => gw_X2_lambda_inCrates_2 E post h G
  | 16 => gw_X2_lambda_platesOf_0 E post h G
  | 19 => gw_X1_lambda_count_0 E post h G
  | 21 => gw_X1_lambda_meanWell_17 E post h G
  | _ => False
def gw_of (E : gE) (post : Int32 → Gh → Prop) (a h : Nat) (G : Gh) : Prop := 40 ≤ gC G a ∧ gw_of_at (gC G a - 40) E post a h G
section GRL
variable {p : Program} {l : Launch} {e : Env} {R : Room} {s : State} {m : MethodId} {args : Array Value} {below : List Frame} {meth : Method} {c : Code} {H : Heap} {locs : List Loc} {cells slots : Nat} {Q : State → Prop}
variable {cc : ByteArray} {pc : Nat} {ls : Array Slot} {rest st0 : List Value} {E : gE} {A : Nat → Prop} {Z : Gh} {G : Gh} {a : Nat} {own : String} {nL : Nat}
theorem gcastL (hx : p.tables.exec = Jvm.exec) (hb : c.code = cc) (hown : s.vm.findClass own = some m.cls) (hts : ∀ w ∈ lw_all, w.before args s = true) {index : Nat} (hlink : Cond.classLink own index "WillowPrinters$Change" ∈ lw_all) (hPF : gPF E A s) (hG : gS E A Z s.heap G H locs) (hC : gChg G a) (hdg : decode cc pc = .ok (.checkcast index, 3))
    (kk : W p l e R s m args below meth c H locs cells slots Q (F0 m (pc + 3) ls (.ref a :: rest))) : W p l e R s m args below meth c H locs cells slots Q (F0 m pc ls (.ref a :: rest)) := by
  sorry
theorem glct (hx : p.tables.exec = Jvm.exec) (hb : c.code = cc) (hml : c.maxLocals = nL) (hsz : ls.size = nL) (i : Nat) {x : MethodName} {index : Nat} {σ : Lambda.Shape} (hw : gLs[i]? = some (.lambdaSite x pc index σ)) (hcap : σ.captured = []) (hn : s.methodNamed? x = some m) (hPF : gPF E A s) (hlo : (rest.map fun v => v.category).sum + 3072 ≤ R.locals) (hdg : decode cc pc = .ok (.invokedynamic index, 5))
    (kk : W p l e R s m args below meth c H locs cells slots Q (F0 m (pc + 5) ls (.ref (eZ E (30 + i)) :: rest))) : W p l e R s m args below meth c H locs cells slots Q (F0 m pc ls rest) := by
  sorry
theorem glmk1 (hx : p.tables.exec = Jvm.exec) (hb : c.code = cc) (hml : c.maxLocals = nL) (hsz : ls.size = nL) (hts : ∀ w ∈ lw_all, w.before args s = true) (i : Nat) {x : MethodName} {index : Nat} {σ : Lambda.Shape} (hw : gLs[i]? = some (.lambdaSite x pc index σ)) (hcap : σ.captured = [.int]) (hn : s.methodNamed? x = some m) (hPF : gPF E A s) (hA : ∀ q, s.heap.size ≤ q → A q) (hG : gS E A Z s.heap G H locs) {a0 : Int32} (hlo : (rest.map fun v => v.category).sum + 3080 ≤ R.locals) (hc : cells + 1 ≤ R.cells) (hs : slots + 1 ≤ R.slots) (hdg : decode cc pc = .ok (.invokedynamic index, 5))
    (kk : ∀ (q : Nat) (H1 : Heap), gK G q = 0 → gS E A Z s.heap (gsI (gN G q (40 + i) 1) q 0 a0) H1 locs → W p l e R s m args below meth c H1 locs (cells + 1) (slots + 1) Q (F0 m (pc + 5) ls (.ref q :: rest))) : W p l e R s m args below meth c H locs cells slots Q (F0 m pc ls (.int a0 :: rest)) := by
  sorry
theorem glmk2 (hx : p.tables.exec = Jvm.exec) (hb : c.code = cc) (hml : c.maxLocals = nL) (hsz : ls.size = nL) (hts : ∀ w ∈ lw_all, w.before args s = true) (i : Nat) {x : MethodName} {index : Nat} {σ : Lambda.Shape} (hw : gLs[i]? = some (.lambdaSite x pc index σ)) (hcap : σ.captured = [.int, .int]) (hn : s.methodNamed? x = some m) (hPF : gPF E A s) (hA : ∀ q, s.heap.size ≤ q → A q) (hG : gS E A Z s.heap G H locs) {a0 a1 : Int32} (hlo : (rest.map fun v => v.category).sum + 3080 ≤ R.locals) (hc : cells + 1 ≤ R.cells) (hs : slots + 2 ≤ R.slots) (hdg : decode cc pc = .ok (.invokedynamic index, 5))
    (kk : ∀ (q : Nat) (H1 : Heap), gK G q = 0 → gS E A Z s.heap (gsI (gsI (gN G q (40 + i) 2) q 0 a0) q 1 a1) H1 locs → W p l e R s m args below meth c H1 locs (cells + 1) (slots + 2) Q (F0 m (pc + 5) ls (.ref q :: rest))) : W p l e R s m args below meth c H locs cells slots Q (F0 m pc ls (.int a1 :: .int a0 :: rest)) := by
  sorry
theorem glmk3 (hx : p.tables.exec = Jvm.exec) (hb : c.code = cc) (hml : c.maxLocals = nL) (hsz : ls.size = nL) (hts : ∀ w ∈ lw_all, w.before args s = true) (i : Nat) {x : MethodName} {index : Nat} {σ : Lambda.Shape} (hw : gLs[i]? = some (.lambdaSite x pc index σ)) (hcap : σ.captured = [.int, .int, .int]) (hn : s.methodNamed? x = some m) (hPF : gPF E A s) (hA : ∀ q, s.heap.size ≤ q → A q) (hG : gS E A Z s.heap G H locs) {a0 a1 a2 : Int32} (hlo : (rest.map fun v => v.category).sum + 3080 ≤ R.locals) (hc : cells + 1 ≤ R.cells) (hs : slots + 3 ≤ R.slots) (hdg : decode cc pc = .ok (.invokedynamic index, 5))
    (kk : ∀ (q : Nat) (H1 : Heap), gK G q = 0 → gS E A Z s.heap (gsI (gsI (gsI (gN G q (40 + i) 3) q 0 a0) q 1 a1) q 2 a2) H1 locs → W p l e R s m args below meth c H1 locs (cells + 1) (slots + 3) Q (F0 m (pc + 5) ls (.ref q :: rest))) : W p l e R s m args below meth c H locs cells slots Q (F0 m pc ls (.int a2 :: .int a1 :: .int a0 :: rest)) := by
  sorry
theorem gl_make (hx : p.tables.exec = Jvm.exec) (hb : c.code = cc) (hml : c.maxLocals = nL) (hlt : l.stackTraces = false) (hts : ∀ w ∈ lw_all, w.before args s = true) (hown : s.vm.findClass own = some m.cls) {index count : Nat} (hl : Cond.methodLink own index ⟨"WillowPrinters$Change", "make", "(LWillowPrinters$House;)I"⟩ ∈ lw_all) (hPF : gPF E A s) (hA : ∀ q, s.heap.size ≤ q → A q) (hG : gS E A Z s.heap G H locs) {post : Int32 → Gh → Prop} {px : String → Nat → Gh → Prop} {h : Nat} (hw : gw_make E post px a h G) (hsz : ls.size = nL) (hW : 2 * (F0 m pc ls (.ref h :: .ref a :: rest)).monitorRoom + (rest.map fun v => v.category).sum ≤ 8) (hfr : 14 ≤ R.frames) (hlo : 336 ≤ R.locals) (hc : cells + 640 ≤ R.cells) (hs : slots + 2600 ≤ R.slots) (hdg : decode cc pc = .ok (.invokeinterface index count, 5)) :
    vx_Run5 p l e R s m args below meth c H locs cells slots 640 2600 (F0 m pc ls (.ref h :: .ref a :: rest)) rest (gQ E (gA G H.size) G (gpi post) #[]) (gXC E (gA G H.size) G px) (gA G H.size) := by
  sorry
theorem gl_is (hx : p.tables.exec = Jvm.exec) (hb : c.code = cc) (hml : c.maxLocals = nL) (hts : ∀ w ∈ lw_all, w.before args s = true) (hown : s.vm.findClass own = some m.cls) {index count : Nat} (hl : Cond.methodLink own index ⟨"WillowPrinters$Test", "is", "(Ljava/lang/Object;)Z"⟩ ∈ lw_all) (hPF : gPF E A s) (hA : ∀ q, s.heap.size ≤ q → A q) (hG : gS E A Z s.heap G H locs) {post : Int32 → Gh → Prop} {h : Nat} (hw : gw_is E post a h G) (hsz : ls.size = nL) (hW : 2 * (F0 m pc ls (.ref h :: .ref a :: rest)).monitorRoom + (rest.map fun v => v.category).sum ≤ 8) (hfr : 2 ≤ R.frames) (hlo : 101 ≤ R.locals) (hc : cells + 0 ≤ R.cells) (hs : slots + 0 ≤ R.slots) (hdg : decode cc pc = .ok (.invokeinterface index count, 5)) :
    va_Run5 p l e R s m args below meth c H locs cells slots 0 0 (F0 m pc ls (.ref h :: .ref a :: rest)) rest (gQ E (gA G H.size) G (gpi post) #[]) (gA G H.size) := by
  sorry
theorem gl_of (hx : p.tables.exec = Jvm.exec) (hb : c.code = cc) (hml : c.maxLocals = nL) (hts : ∀ w ∈ lw_all, w.before args s = true) (hown : s.vm.findClass own = some m.cls) {index count : Nat} (hl : Cond.methodLink own index ⟨"WillowPrinters$Measure", "of", "(Ljava/lang/Object;)I"⟩ ∈ lw_all) (hPF : gPF E A s) (hA : ∀ q, s.heap.size ≤ q → A q) (hG : gS E A Z s.heap G H locs) {post : Int32 → Gh → Prop} {h : Nat} (hw : gw_of E post a h G) (hsz : ls.size = nL) (hW : 2 * (F0 m pc ls (.ref h :: .ref a :: rest)).monitorRoom + (rest.map fun v => v.category).sum ≤ 8) (hfr : 3 ≤ R.frames) (hlo : 161 ≤ R.locals) (hc : cells + 0 ≤ R.cells) (hs : slots + 0 ≤ R.slots) (hdg : decode cc pc = .ok (.invokeinterface index count, 5)) :
    va_Run5 p l e R s m args below meth c H locs cells slots 0 0 (F0 m pc ls (.ref h :: .ref a :: rest)) rest (gQ E (gA G H.size) G (gpi post) #[]) (gA G H.size) := by
  sorry
theorem gleaveP {post : Option Value → Gh → Prop} {px : String → Nat → Gh → Prop} {X : String} {ce : Cell} {q : Addr} {mc ms : Nat} (hown : s.vm.findClass own = some m.cls) (hlk : meth.locks = false) (hG : gS E A Z s.heap G H locs) (hpass : ∀ z ∈ c.exceptionTable.toList, covers z pc = false ∨ (z.catchType ≠ 0 ∧ ∃ nm : String, (Cond.classLink own z.catchType nm).before args s = true ∧ va_Nc X nm s)) (hcell : H[q]? = some ce) (hv : ce.vm = .none) (hcl : s.vm.findClass X = some ce.cls) (hw : px X q G) (hc : cells ≤ mc) (hs : slots ≤ ms) :
    vx_W p l e R s m args below meth c H locs cells slots (vx_MQ below (gQ E A Z post) (gXC E A Z px) args s mc ms A) (F0 m pc ls rest) q :=
  vx_outP hown hlk hpass hcell hv hcl (fun t ht hW => ⟨⟨G, hw, ⟨fun b hb => by rw [ht]; exact hG.1.1 b hb, hG.1.2⟩⟩, hG.2.F ht⟩) hG.2.2.2 hc hs
set_option maxHeartbeats 8000000 in
theorem gtold (hx : p.tables.exec = Jvm.exec) (hb : c.code = cc) {nL : Nat} (hml : c.maxLocals = nL) (hts : ∀ w ∈ lw_all, w.before args s = true) (hown : s.vm.findClass own = some m.cls) {index : Nat} (hl : Cond.methodLink own index ⟨"WillowPrinters$Stage", "told", "()Ljava/lang/String;"⟩ ∈ lw_all) (hPF : gPF E A s) (hA : ∀ q, s.heap.size ≤ q → A q) (hG : gS E A Z s.heap G H locs) {k : Nat} (hk : k < 4) (hsz : ls.size = nL) (hW : 2 * (F0 m pc ls (.ref (eZ E k) :: rest)).monitorRoom + (rest.map fun v => v.category).sum ≤ 8) (hfr : 1 ≤ R.frames) (hlo : 60 ≤ R.locals) (hc : cells ≤ R.cells) (hs : slots ≤ R.slots) (hdg : decode cc pc = .ok (.invokevirtual index, 3))
    (kk : ∀ (H1 : Heap) (locs1 : List Loc), gS E A Z s.heap G H1 locs1 → W p l e R s m args below meth c H1 locs1 cells slots Q (F0 m (pc + 3) ls (.ref (eZ E (13 + k)) :: rest))) : W p l e R s m args below meth c H locs cells slots Q (F0 m pc ls (.ref (eZ E k) :: rest)) := by
  rcases (show k = 0 ∨ k = 1 ∨ k = 2 ∨ k = 3 by omega) with rfl | rfl | rfl | rfl
  · have hK := gBackT (l := l) (R := R) (p := p) (e := e) (below := below) (s := s) (args := args) (len := 3) (mc := 0) (ms := 0) (sz := H.size) (rm := ({ frames := 0, cells := 0, slots := 0, locals := 0 } : Room)) (av := [.ref (eZ E 0)]) (post := gpr (fun r G' => r = some (eZ E (13 + 0)) ∧ G' = G)) (E := E) (G := G) (y := yX16_told) (cc := cX16_told) (maxL := 1) (ret := some (.object "java/lang/String")) (by decide) q1592 (Nat.le_of_ble_eq_true rfl) hts (by show 0 + 1 ≤ R.frames; omega) (by show 8 + (1 + 11) + 0 ≤ R.locals; omega) rfl rfl (fun p e s m below meth c A ls hb hr hlk hml hown hts hPF hA hG hl hx => by
        refine va_ldcS hx hb hown (hPF.t 3 rfl) dX16_told_0 ?_
        exact gretr (v := some (eZ E (13 + 0))) hx hb hr hlk hG (Or.inl ⟨_, rfl⟩) ⟨rfl, rfl⟩ (Nat.le_refl _) (Nat.le_refl _) dX16_told_2) hx
    obtain ⟨cellB, hcB, hoB, hclB⟩ := va_Orecv (hPF.e 0 (by decide)).1 hG.2
    refine gc3r (rest := rest) (mc := 0) (ms := 0) (aa := #[]) (post := fun r G' => r = some (eZ E (13 + 0)) ∧ G' = G) hA hG ?_ (fun r G' H9 locs9 hp hmon hG9 => ?_)
    rotate_left
    · obtain ⟨rfl, rfl⟩ := hp
      exact kk H9 locs9 hG9
    intro T hT X
    obtain ⟨v, vm₁, ⟨U', l2, c2, s2⟩, hW₁, X', ⟨g', mk, t, L, e1, e2, hq, h1, hL, h2, h3⟩, st⟩ := va_callVU X hx (C := "WillowPrinters$Stage$1") (owner := "WillowPrinters$Stage") (x := ⟨"WillowPrinters$Stage", "told", "()Ljava/lang/String;"⟩) (y := yX16_told) (bytes := cX16_told) (maxL := 1) (ret := some (.object "java/lang/String")) hown (hts _ hl) (hts _ q1589) (va_Decl.abs (hPF.w q1588 rfl)) ⟨by decide, by decide⟩ (hts _ q1590) (hts _ q1591) (hts _ q1592) hK (by rw [hT]; exact hcB) hoB hclB rfl (hsz.trans hml.symm) (argsL := []) (rest := rest)
      (fun sig h => by
        have h9 : (parseMethodDescriptor "()Ljava/lang/String;").map (fun d => d.parameters.length) = some 0 := by decide +kernel
        rw [h] at h9
        exact (Option.some.inj h9).symm) rfl hW (by rw [hb]; exact hdg) (fun vm₁ hW₁ => ⟨hc, hs, gpre hPF hA hG [.ref (eZ E 0)] (T.setVm vm₁) hT hW₁⟩)
    dsimp only [Pt.U, Pt.locs, Pt.cells, Pt.slots] at X' e1 e2 h1 h2 h3 st
    subst h1; subst h2; subst h3
    exact ⟨v, (T.setVm vm₁).calling g' mk _, t, U', L, hT, X', hL, e1, e2, hq, st⟩
  · have hK := gBackT (l := l) (R := R) (p := p) (e := e) (below := below) (s := s) (args := args) (len := 3) (mc := 0) (ms := 0) (sz := H.size) (rm := ({ frames := 0, cells := 0, slots := 0, locals := 0 } : Room)) (av := [.ref (eZ E 1)]) (post := gpr (fun r G' => r = some (eZ E (13 + 1)) ∧ G' = G)) (E := E) (G := G) (y := yX17_told) (cc := cX17_told) (maxL := 1) (ret := some (.object "java/lang/String")) (by decide) q1596 (Nat.le_of_ble_eq_true rfl) hts (by show 0 + 1 ≤ R.frames; omega) (by show 8 + (1 + 11) + 0 ≤ R.locals; omega) rfl rfl (fun p e s m below meth c A ls hb hr hlk hml hown hts hPF hA hG hl hx => by
        refine va_ldcS hx hb hown (hPF.t 4 rfl) dX17_told_0 ?_
        exact gretr (v := some (eZ E (13 + 1))) hx hb hr hlk hG (Or.inl ⟨_, rfl⟩) ⟨rfl, rfl⟩ (Nat.le_refl _) (Nat.le_refl _) dX17_told_2) hx
    obtain ⟨cellB, hcB, hoB, hclB⟩ := va_Orecv (hPF.e 1 (by decide)).1 hG.2
    refine gc3r (rest := rest) (mc := 0) (ms := 0) (aa := #[]) (post := fun r G' => r = some (eZ E (13 + 1)) ∧ G' = G) hA hG ?_ (fun r G' H9 locs9 hp hmon hG9 => ?_)
    rotate_left
    · obtain ⟨rfl, rfl⟩ := hp
      exact kk H9 locs9 hG9
    intro T hT X
    obtain ⟨v, vm₁, ⟨U', l2, c2, s2⟩, hW₁, X', ⟨g', mk, t, L, e1, e2, hq, h1, hL, h2, h3⟩, st⟩ := va_callVU X hx (C := "WillowPrinters$Stage$2") (owner := "WillowPrinters$Stage") (x := ⟨"WillowPrinters$Stage", "told", "()Ljava/lang/String;"⟩) (y := yX17_told) (bytes := cX17_told) (maxL := 1) (ret := some (.object "java/lang/String")) hown (hts _ hl) (hts _ q1589) (va_Decl.abs (hPF.w q1588 rfl)) ⟨by decide, by decide⟩ (hts _ q1594) (hts _ q1595) (hts _ q1596) hK (by rw [hT]; exact hcB) hoB hclB rfl (hsz.trans hml.symm) (argsL := []) (rest := rest)
      (fun sig h => by
        have h9 : (parseMethodDescriptor "()Ljava/lang/String;").map (fun d => d.parameters.length) = some 0 := by decide +kernel
        rw [h] at h9
        exact (Option.some.inj h9).symm) rfl hW (by rw [hb]; exact hdg) (fun vm₁ hW₁ => ⟨hc, hs, gpre hPF hA hG [.ref (eZ E 1)] (T.setVm vm₁) hT hW₁⟩)
    dsimp only [Pt.U, Pt.locs, Pt.cells, Pt.slots] at X' e1 e2 h1 h2 h3 st
    subst h1; subst h2; subst h3
    exact ⟨v, (T.setVm vm₁).calling g' mk _, t, U', L, hT, X', hL, e1, e2, hq, st⟩
  · have hK := gBackT (l := l) (R := R) (p := p) (e := e) (below := below) (s := s) (args := args) (len := 3) (mc := 0) (ms := 0) (sz := H.size) (rm := ({ frames := 0, cells := 0, slots := 0, locals := 0 } : Room)) (av := [.ref (eZ E 2)]) (post := gpr (fun r G' => r = some (eZ E (13 + 2)) ∧ G' = G)) (E := E) (G := G) (y := yX18_told) (cc := cX18_told) (maxL := 1) (ret := some (.object "java/lang/String")) (by decide) q1600 (Nat.le_of_ble_eq_true rfl) hts (by show 0 + 1 ≤ R.frames; omega) (by show 8 + (1 + 11) + 0 ≤ R.locals; omega) rfl rfl (fun p e s m below meth c A ls hb hr hlk hml hown hts hPF hA hG hl hx => by
        refine va_ldcS hx hb hown (hPF.t 5 rfl) dX18_told_0 ?_
        exact gretr (v := some (eZ E (13 + 2))) hx hb hr hlk hG (Or.inl ⟨_, rfl⟩) ⟨rfl, rfl⟩ (Nat.le_refl _) (Nat.le_refl _) dX18_told_2) hx
    obtain ⟨cellB, hcB, hoB, hclB⟩ := va_Orecv (hPF.e 2 (by decide)).1 hG.2
    refine gc3r (rest := rest) (mc := 0) (ms := 0) (aa := #[]) (post := fun r G' => r = some (eZ E (13 + 2)) ∧ G' = G) hA hG ?_ (fun r G' H9 locs9 hp hmon hG9 => ?_)
    rotate_left
    · obtain ⟨rfl, rfl⟩ := hp
      exact kk H9 locs9 hG9
    intro T hT X
    obtain ⟨v, vm₁, ⟨U', l2, c2, s2⟩, hW₁, X', ⟨g', mk, t, L, e1, e2, hq, h1, hL, h2, h3⟩, st⟩ := va_callVU X hx (C := "WillowPrinters$Stage$3") (owner := "WillowPrinters$Stage") (x := ⟨"WillowPrinters$Stage", "told", "()Ljava/lang/String;"⟩) (y := yX18_told) (bytes := cX18_told) (maxL := 1) (ret := some (.object "java/lang/String")) hown (hts _ hl) (hts _ q1589) (va_Decl.abs (hPF.w q1588 rfl)) ⟨by decide, by decide⟩ (hts _ q1598) (hts _ q1599) (hts _ q1600) hK (by rw [hT]; exact hcB) hoB hclB rfl (hsz.trans hml.symm) (argsL := []) (rest := rest)
      (fun sig h => by
        have h9 : (parseMethodDescriptor "()Ljava/lang/String;").map (fun d => d.parameters.length) = some 0 := by decide +kernel
        rw [h] at h9
        exact (Option.some.inj h9).symm) rfl hW (by rw [hb]; exact hdg) (fun vm₁ hW₁ => ⟨hc, hs, gpre hPF hA hG [.ref (eZ E 2)] (T.setVm vm₁) hT hW₁⟩)
    dsimp only [Pt.U, Pt.locs, Pt.cells, Pt.slots] at X' e1 e2 h1 h2 h3 st
    subst h1; subst h2; subst h3
    exact ⟨v, (T.setVm vm₁).calling g' mk _, t, U', L, hT, X', hL, e1, e2, hq, st⟩
  · have hK := gBackT (l := l) (R := R) (p := p) (e := e) (below := below) (s := s) (args := args) (len := 3) (mc := 0) (ms := 0) (sz := H.size) (rm := ({ frames := 0, cells := 0, slots := 0, locals := 0 } : Room)) (av := [.ref (eZ E 3)]) (post := gpr (fun r G' => r = some (eZ E (13 + 3)) ∧ G' = G)) (E := E) (G := G) (y := yX19_told) (cc := cX19_told) (maxL := 1) (ret := some (.object "java/lang/String")) (by decide) q1604 (Nat.le_of_ble_eq_true rfl) hts (by show 0 + 1 ≤ R.frames; omega) (by show 8 + (1 + 11) + 0 ≤ R.locals; omega) rfl rfl (fun p e s m below meth c A ls hb hr hlk hml hown hts hPF hA hG hl hx => by
        refine va_ldcS hx hb hown (hPF.t 6 rfl) dX19_told_0 ?_
        exact gretr (v := some (eZ E (13 + 3))) hx hb hr hlk hG (Or.inl ⟨_, rfl⟩) ⟨rfl, rfl⟩ (Nat.le_refl _) (Nat.le_refl _) dX19_told_2) hx
    obtain ⟨cellB, hcB, hoB, hclB⟩ := va_Orecv (hPF.e 3 (by decide)).1 hG.2
    refine gc3r (rest := rest) (mc := 0) (ms := 0) (aa := #[]) (post := fun r G' => r = some (eZ E (13 + 3)) ∧ G' = G) hA hG ?_ (fun r G' H9 locs9 hp hmon hG9 => ?_)
    rotate_left
    · obtain ⟨rfl, rfl⟩ := hp
      exact kk H9 locs9 hG9
    intro T hT X
    obtain ⟨v, vm₁, ⟨U', l2, c2, s2⟩, hW₁, X', ⟨g', mk, t, L, e1, e2, hq, h1, hL, h2, h3⟩, st⟩ := va_callVU X hx (C := "WillowPrinters$Stage$4") (owner := "WillowPrinters$Stage") (x := ⟨"WillowPrinters$Stage", "told", "()Ljava/lang/String;"⟩) (y := yX19_told) (bytes := cX19_told) (maxL := 1) (ret := some (.object "java/lang/String")) hown (hts _ hl) (hts _ q1589) (va_Decl.abs (hPF.w q1588 rfl)) ⟨by decide, by decide⟩ (hts _ q1602) (hts _ q1603) (hts _ q1604) hK (by rw [hT]; exact hcB) hoB hclB rfl (hsz.trans hml.symm) (argsL := []) (rest := rest)
      (fun sig h => by
        have h9 : (parseMethodDescriptor "()Ljava/lang/String;").map (fun d => d.parameters.length) = some 0 := by decide +kernel
        rw [h] at h9
        exact (Option.some.inj h9).symm) rfl hW (by rw [hb]; exact hdg) (fun vm₁ hW₁ => ⟨hc, hs, gpre hPF hA hG [.ref (eZ E 3)] (T.setVm vm₁) hT hW₁⟩)
    dsimp only [Pt.U, Pt.locs, Pt.cells, Pt.slots] at X' e1 e2 h1 h2 h3 st
    subst h1; subst h2; subst h3
    exact ⟨v, (T.setVm vm₁).calling g' mk _, t, U', L, hT, X', hL, e1, e2, hq, st⟩
end GRL
