/-! states: what kind they are, their stage and well; Stage's constants -/
set_option maxRecDepth 100000
def gSt (G : Gh) (a : Nat) : Prop := gK G a = 6 ∨ gK G a = 9 ∨ gK G a = 10 ∨ gK G a = 11
def gStg (G : Gh) (a : Nat) : Nat := if gK G a = 6 then 0 else if gK G a = 9 then 1 else if gK G a = 10 then 2 else 3
def gWel (G : Gh) (a : Nat) : Int32 := if gK G a = 6 then -1 else gI G a 0
theorem gStg_lt (G : Gh) (a : Nat) : gStg G a < 4 := by
  unfold gStg
  repeat' split
  all_goals omega
section GRV
variable {p : Program} {l : Launch} {e : Env} {R : Room} {s : State} {m : MethodId} {args : Array Value} {below : List Frame} {meth : Method} {c : Code} {H : Heap} {locs : List Loc} {cells slots : Nat} {Q : State → Prop}
variable {cc : ByteArray} {pc : Nat} {ls : Array Slot} {rest st0 : List Value} {E : gE} {A : Nat → Prop} {Z : Gh} {G : Gh} {a : Nat} {own : String}
theorem gRunD {nL mc ms index count : Nat} {bytes : ByteArray} {maxL : Nat} {ret : Option FieldType} {ws ws' : List Cond} {rm : Room} {Pc : Array Value → State → Prop} {Qc : Array Value → State → Outcome → State → Prop} {free : Addr → Prop} {b : Addr} {g : JFrame}
    (hPF : gPF E A s) (S : CallFix p m c cc nL s args lw_all own) (hM : Met l gWl ws rm Pc Qc mc ms free) (hG : GoodIn lw_all ws) (hw : ws = Cond.code gWl bytes maxL ret :: ws') (hrc : rm.cells = mc) (hrs : rm.slots = ms) (hR : rm.frames + 1 ≤ R.frames ∧ 8 + (maxL + 11) + rm.locals ≤ R.locals) (hl : Cond.methodLink own index gWl ∈ lw_all) (hp : PreV s H "WillowPrinters$Plain" b Pc [])
    (hg : g.method = m) (hsize : g.locals.size = nL) (hstack : g.stack = .ref b :: rest) (hW : 2 * g.monitorRoom + (rest.map fun v => v.category).sum ≤ 8) (hdg : decode cc g.pc = .ok (.invokeinterface index count, 5)) (hf : cells + mc ≤ R.cells ∧ slots + ms ≤ R.slots) :
    va_Run5 p l e R s m args below meth c H locs cells slots mc ms g rest (Qc (Value.ref b :: []).toArray) (free) := by
  obtain ⟨hx, hb, hml, ho, hts⟩ := S
  have hcode : Cond.code gWl bytes maxL ret ∈ ws := by rw [hw]; exact List.mem_cons_self
  have hK : Back l R p e below s args gWl 5 8 (PreOf R mc ms Pc) (PostOf Qc mc ms free) := back_of (bytes := bytes) (maxL := maxL) (ret := ret) hM hp.1 hrc hrs hR.1 hR.2 (pay_in hts hG) hcode (fun a' U hW => word_at hW (Or.inl (by first | rfl | simp [Cond.onTables, Cond.keeps, Cond.steady])) (hts _ q2328))
  obtain ⟨-, ⟨cellB, hcB, hoB, hclB⟩, hPc⟩ := hp
  obtain ⟨-, hfc, kB, hkB, -⟩ := hPF.K.1 6 _ rfl
  have ec : cellB.cls = (eD E).1 6 := Option.some.inj (hclB.symm.trans hfc)
  have hld : (Cond.landsInDefault "WillowPrinters$Plain" gWl gWl).before args s = true := by
    have h := hPF.d.1
    simp only [Cond.before, Cond.holds, Cond.value] at h ⊢
    exact h
  intro T hT X
  obtain ⟨v, vm₁, ⟨U', l2, c2, s2⟩, hW₁, X', ⟨g', mk, t, L, e1, e2, hq, h1, hL, h2, h3⟩, st⟩ := X.interfaceBackD hx (C := "WillowPrinters$Plain") (xi := gWl) (y := gWl) ho (hts _ hl) (va_any rfl (hPF.f 8 rfl).1) (va_any rfl (hPF.f 8 rfl).2.1) hld (hts _ q1245) (va_any rfl hPF.d.2) (va_Nw.use rfl (hPF.w q1205 rfl)) ⟨by decide, by decide⟩ hK hfc hkB ⟨cellB, by rw [hT]; exact hcB, ec, hoB⟩ hg (hsize.trans hml.symm) (Steps.refl _) (argsL := []) (rest := rest)
    (fun sig h => by
      have h9 : (parseMethodDescriptor gWl.desc).map (fun d => d.parameters.length) = some 0 := by decide +kernel
      rw [h] at h9
      exact (Option.some.inj h9).symm) hstack hW (by rw [hb]; exact hdg) (fun vm₁ hW₁ => ⟨hf.1, hf.2, hPc (T.setVm vm₁) hT hW₁⟩)
  dsimp only [Pt.U, Pt.locs, Pt.cells, Pt.slots] at X' e1 e2 h1 h2 h3 st
  subst h1; subst h2; subst h3
  exact ⟨v, (T.setVm vm₁).calling g' mk (Value.ref b :: []).toArray, t, U', L, hT, X', hL, e1, e2, hq, fun target h => st.trans h⟩
theorem ginst6 (hx : p.tables.exec = Jvm.exec) (hb : c.code = cc) (hts : ∀ w ∈ lw_all, w.before args s = true) (hown : s.vm.findClass own = some m.cls) {index : Nat} (hlink : Cond.classLink own index "WillowPrinters$Plain" ∈ lw_all) (hPF : gPF E A s) (hG : gS E A Z s.heap G H locs) (hS : gSt G a) (hdg : decode cc pc = .ok (.instanceof index, 3))
    (kt : gK G a = 6 → W p l e R s m args below meth c H locs cells slots Q (F0 m (pc + 3) ls (.int 1 :: rest))) (kf : ¬ gK G a = 6 → W p l e R s m args below meth c H locs cells slots Q (F0 m (pc + 3) ls (.int 0 :: rest))) : W p l e R s m args below meth c H locs cells slots Q (F0 m pc ls (.ref a :: rest)) := by
  rcases hS with h | h | h | h
  · exact va_instS hx hb hown (hts _ hlink) (hPF.K.1 6 _ rfl).2 (grecv hPF hG (gC_of h (by decide)) (by decide) (by decide) rfl) hdg (kt h)
  · exact va_instNo hx hb hown (hts _ hlink) (hPF.n 2 rfl) (grecv hPF hG (gC_of h (by decide)) (by decide) (by decide) rfl) hdg (kf (by rw [h]; decide))
  · exact va_instNo hx hb hown (hts _ hlink) (hPF.n 5 rfl) (grecv hPF hG (gC_of h (by decide)) (by decide) (by decide) rfl) hdg (kf (by rw [h]; decide))
  · exact va_instNo hx hb hown (hts _ hlink) (hPF.n 7 rfl) (grecv hPF hG (gC_of h (by decide)) (by decide) (by decide) rfl) hdg (kf (by rw [h]; decide))
theorem ginst10 (hx : p.tables.exec = Jvm.exec) (hb : c.code = cc) (hts : ∀ w ∈ lw_all, w.before args s = true) (hown : s.vm.findClass own = some m.cls) {index : Nat} (hlink : Cond.classLink own index "WillowPrinters$Burning" ∈ lw_all) (hPF : gPF E A s) (hG : gS E A Z s.heap G H locs) (hS : gSt G a) (hdg : decode cc pc = .ok (.instanceof index, 3))
    (kt : gK G a = 10 → W p l e R s m args below meth c H locs cells slots Q (F0 m (pc + 3) ls (.int 1 :: rest))) (kf : ¬ gK G a = 10 → W p l e R s m args below meth c H locs cells slots Q (F0 m (pc + 3) ls (.int 0 :: rest))) : W p l e R s m args below meth c H locs cells slots Q (F0 m pc ls (.ref a :: rest)) := by
  rcases hS with h | h | h | h
  · exact va_instNo hx hb hown (hts _ hlink) (hPF.n 0 rfl) (grecv hPF hG (gC_of h (by decide)) (by decide) (by decide) rfl) hdg (kf (by rw [h]; decide))
  · exact va_instNo hx hb hown (hts _ hlink) (hPF.n 3 rfl) (grecv hPF hG (gC_of h (by decide)) (by decide) (by decide) rfl) hdg (kf (by rw [h]; decide))
  · exact va_instS hx hb hown (hts _ hlink) (hPF.K.1 10 _ rfl).2 (grecv hPF hG (gC_of h (by decide)) (by decide) (by decide) rfl) hdg (kt h)
  · exact va_instNo hx hb hown (hts _ hlink) (hPF.n 8 rfl) (grecv hPF hG (gC_of h (by decide)) (by decide) (by decide) rfl) hdg (kf (by rw [h]; decide))
theorem ginst11 (hx : p.tables.exec = Jvm.exec) (hb : c.code = cc) (hts : ∀ w ∈ lw_all, w.before args s = true) (hown : s.vm.findClass own = some m.cls) {index : Nat} (hlink : Cond.classLink own index "WillowPrinters$Fired" ∈ lw_all) (hPF : gPF E A s) (hG : gS E A Z s.heap G H locs) (hS : gSt G a) (hdg : decode cc pc = .ok (.instanceof index, 3))
    (kt : gK G a = 11 → W p l e R s m args below meth c H locs cells slots Q (F0 m (pc + 3) ls (.int 1 :: rest))) (kf : ¬ gK G a = 11 → W p l e R s m args below meth c H locs cells slots Q (F0 m (pc + 3) ls (.int 0 :: rest))) : W p l e R s m args below meth c H locs cells slots Q (F0 m pc ls (.ref a :: rest)) := by
  rcases hS with h | h | h | h
  · exact va_instNo hx hb hown (hts _ hlink) (hPF.n 1 rfl) (grecv hPF hG (gC_of h (by decide)) (by decide) (by decide) rfl) hdg (kf (by rw [h]; decide))
  · exact va_instNo hx hb hown (hts _ hlink) (hPF.n 4 rfl) (grecv hPF hG (gC_of h (by decide)) (by decide) (by decide) rfl) hdg (kf (by rw [h]; decide))
  · exact va_instNo hx hb hown (hts _ hlink) (hPF.n 6 rfl) (grecv hPF hG (gC_of h (by decide)) (by decide) (by decide) rfl) hdg (kf (by rw [h]; decide))
  · exact va_instS hx hb hown (hts _ hlink) (hPF.K.1 11 _ rfl).2 (grecv hPF hG (gC_of h (by decide)) (by decide) (by decide) rfl) hdg (kt h)
theorem gdstage (hx : p.tables.exec = Jvm.exec) (hb : c.code = cc) {nL : Nat} (hml : c.maxLocals = nL) (hts : ∀ w ∈ lw_all, w.before args s = true) (hown : s.vm.findClass own = some m.cls) {index count : Nat} (hl : Cond.methodLink own index ⟨"WillowPrinters$State", "stage", "()LWillowPrinters$Stage;"⟩ ∈ lw_all) (hPF : gPF E A s) (hA : ∀ q, s.heap.size ≤ q → A q) (hG : gS E A Z s.heap G H locs) (hS : gSt G a) (hsz : ls.size = nL) (hW : 2 * (F0 m pc ls (.ref a :: rest)).monitorRoom + (rest.map fun v => v.category).sum ≤ 8) (hfr : 1 ≤ R.frames) (hlo : 60 ≤ R.locals) (hc : cells ≤ R.cells) (hs : slots ≤ R.slots) (hdg : decode cc pc = .ok (.invokeinterface index count, 5))
    (kk : ∀ (H1 : Heap) (locs1 : List Loc), gS E A Z s.heap G H1 locs1 → W p l e R s m args below meth c H1 locs1 cells slots Q (F0 m (pc + 5) ls (.ref (eZ E (gStg G a)) :: rest))) : W p l e R s m args below meth c H locs cells slots Q (F0 m pc ls (.ref a :: rest)) := by
  rcases hS with h | h | h | h
  · have e9 : gStg G a = 0 := by unfold gStg; rw [h]; rfl
    rw [e9] at kk
    refine gc5r hA hG (va_runF (hPF.K.1 6 _ rfl).2 (As := []) (rest := rest) ⟨hx, hb, hml, hown, hts⟩ (gm_X7_stage l E a (fun r G' => r = some (eZ E 0) ∧ G' = G) G ⟨h, rfl, rfl⟩ _) (va_cwF 0 hts (lw_F hl q1206 q1208 q83 q1210) rfl rfl rfl (hPF.f 4 rfl) hdx_WillowPrinters_State_stage ⟨by show 0 + 1 ≤ R.frames; omega, by show 8 + (1 + 11) + 0 ≤ R.locals; omega⟩) ⟨gblind, grecv hPF hG (gC_of h (by decide)) (by decide) (by decide) rfl, fun U hU hW => gpre hPF hA hG _ U hU hW⟩ rfl rfl hsz rfl hW hdg ⟨hc, hs⟩) (fun r G' H9 locs9 hp hmon hG9 => ?_)
    obtain ⟨rfl, rfl⟩ := hp
    exact kk H9 locs9 hG9
  · have e9 : gStg G a = 1 := by unfold gStg; rw [h]; rfl
    rw [e9] at kk
    refine gc5r hA hG (va_runF (hPF.K.1 9 _ rfl).2 (As := []) (rest := rest) ⟨hx, hb, hml, hown, hts⟩ (gm_X11_stage l E a (fun r G' => r = some (eZ E 1) ∧ G' = G) G ⟨h, rfl, rfl⟩ _) (va_cwF 0 hts (lw_F hl q1214 q1216 q93 q1218) rfl rfl rfl (hPF.f 5 rfl) hdx_WillowPrinters_State_stage ⟨by show 0 + 1 ≤ R.frames; omega, by show 8 + (1 + 11) + 0 ≤ R.locals; omega⟩) ⟨gblind, grecv hPF hG (gC_of h (by decide)) (by decide) (by decide) rfl, fun U hU hW => gpre hPF hA hG _ U hU hW⟩ rfl rfl hsz rfl hW hdg ⟨hc, hs⟩) (fun r G' H9 locs9 hp hmon hG9 => ?_)
    obtain ⟨rfl, rfl⟩ := hp
    exact kk H9 locs9 hG9
  · have e9 : gStg G a = 2 := by unfold gStg; rw [h]; rfl
    rw [e9] at kk
    refine gc5r hA hG (va_runF (hPF.K.1 10 _ rfl).2 (As := []) (rest := rest) ⟨hx, hb, hml, hown, hts⟩ (gm_X12_stage l E a (fun r G' => r = some (eZ E 2) ∧ G' = G) G ⟨h, rfl, rfl⟩ _) (va_cwF 0 hts (lw_F hl q1190 q1192 q94 q1194) rfl rfl rfl (hPF.f 6 rfl) hdx_WillowPrinters_State_stage ⟨by show 0 + 1 ≤ R.frames; omega, by show 8 + (1 + 11) + 0 ≤ R.locals; omega⟩) ⟨gblind, grecv hPF hG (gC_of h (by decide)) (by decide) (by decide) rfl, fun U hU hW => gpre hPF hA hG _ U hU hW⟩ rfl rfl hsz rfl hW hdg ⟨hc, hs⟩) (fun r G' H9 locs9 hp hmon hG9 => ?_)
    obtain ⟨rfl, rfl⟩ := hp
    exact kk H9 locs9 hG9
  · have e9 : gStg G a = 3 := by unfold gStg; rw [h]; rfl
    rw [e9] at kk
    refine gc5r hA hG (va_runF (hPF.K.1 11 _ rfl).2 (As := []) (rest := rest) ⟨hx, hb, hml, hown, hts⟩ (gm_X13_stage l E a (fun r G' => r = some (eZ E 3) ∧ G' = G) G ⟨h, rfl, rfl⟩ _) (va_cwF 0 hts (lw_F hl q1198 q1200 q95 q1202) rfl rfl rfl (hPF.f 7 rfl) hdx_WillowPrinters_State_stage ⟨by show 0 + 1 ≤ R.frames; omega, by show 8 + (1 + 11) + 0 ≤ R.locals; omega⟩) ⟨gblind, grecv hPF hG (gC_of h (by decide)) (by decide) (by decide) rfl, fun U hU hW => gpre hPF hA hG _ U hU hW⟩ rfl rfl hsz rfl hW hdg ⟨hc, hs⟩) (fun r G' H9 locs9 hp hmon hG9 => ?_)
    obtain ⟨rfl, rfl⟩ := hp
    exact kk H9 locs9 hG9
theorem gdwell (hx : p.tables.exec = Jvm.exec) (hb : c.code = cc) {nL : Nat} (hml : c.maxLocals = nL) (hts : ∀ w ∈ lw_all, w.before args s = true) (hown : s.vm.findClass own = some m.cls) {index count : Nat} (hl : Cond.methodLink own index ⟨"WillowPrinters$State", "well", "()I"⟩ ∈ lw_all) (hPF : gPF E A s) (hA : ∀ q, s.heap.size ≤ q → A q) (hG : gS E A Z s.heap G H locs) (hS : gSt G a) (hsz : ls.size = nL) (hW : 2 * (F0 m pc ls (.ref a :: rest)).monitorRoom + (rest.map fun v => v.category).sum ≤ 8) (hfr : 1 ≤ R.frames) (hlo : 60 ≤ R.locals) (hc : cells ≤ R.cells) (hs : slots ≤ R.slots) (hdg : decode cc pc = .ok (.invokeinterface index count, 5))
    (kk : ∀ (H1 : Heap) (locs1 : List Loc), gS E A Z s.heap G H1 locs1 → W p l e R s m args below meth c H1 locs1 cells slots Q (F0 m (pc + 5) ls (.int (gWel G a) :: rest))) : W p l e R s m args below meth c H locs cells slots Q (F0 m pc ls (.ref a :: rest)) := by
  rcases hS with h | h | h | h
  · have e9 : gWel G a = -1 := by unfold gWel; rw [h]; rfl
    rw [e9] at kk
    refine gc5i hA hG (gRunD hPF (rest := rest) ⟨hx, hb, hml, hown, hts⟩ (gm_X20_well l E a (fun r G' => r = -1 ∧ G' = G) G ⟨rfl, rfl⟩ _) (lw_meth q1247) rfl rfl rfl ⟨by show 0 + 1 ≤ R.frames; omega, by show 8 + (1 + 11) + 0 ≤ R.locals; omega⟩ hl ⟨gblind, grecv hPF hG (gC_of h (by decide)) (by decide) (by decide) rfl, fun U hU hW => gpre hPF hA hG _ U hU hW⟩ rfl hsz rfl hW hdg ⟨hc, hs⟩) (fun r G' H9 locs9 hp hmon hG9 => ?_)
    obtain ⟨rfl, rfl⟩ := hp
    exact kk H9 locs9 hG9
  · have e9 : gWel G a = gI G a 0 := by unfold gWel; rw [h]; rfl
    rw [e9] at kk
    refine gc5i hA hG (va_runF (hPF.K.1 9 _ rfl).2 (As := []) (rest := rest) ⟨hx, hb, hml, hown, hts⟩ (gm_X11_well l E a (fun r G' => r = gI G a 0 ∧ G' = G) G ⟨h, rfl, rfl⟩ _) (va_cwF 0 hts (lw_F hl q1248 q1250 q93 q1252) rfl rfl rfl (hPF.f 8 rfl) hdx_WillowPrinters_State_well ⟨by show 0 + 1 ≤ R.frames; omega, by show 8 + (1 + 11) + 0 ≤ R.locals; omega⟩) ⟨gblind, grecv hPF hG (gC_of h (by decide)) (by decide) (by decide) rfl, fun U hU hW => gpre hPF hA hG _ U hU hW⟩ rfl rfl hsz rfl hW hdg ⟨hc, hs⟩) (fun r G' H9 locs9 hp hmon hG9 => ?_)
    obtain ⟨rfl, rfl⟩ := hp
    exact kk H9 locs9 hG9
  · have e9 : gWel G a = gI G a 0 := by unfold gWel; rw [h]; rfl
    rw [e9] at kk
    refine gc5i hA hG (va_runF (hPF.K.1 10 _ rfl).2 (As := []) (rest := rest) ⟨hx, hb, hml, hown, hts⟩ (gm_X12_well l E a (fun r G' => r = gI G a 0 ∧ G' = G) G ⟨h, rfl, rfl⟩ _) (va_cwF 0 hts (lw_F hl q1234 q1236 q94 q1238) rfl rfl rfl (hPF.f 9 rfl) hdx_WillowPrinters_State_well ⟨by show 0 + 1 ≤ R.frames; omega, by show 8 + (1 + 11) + 0 ≤ R.locals; omega⟩) ⟨gblind, grecv hPF hG (gC_of h (by decide)) (by decide) (by decide) rfl, fun U hU hW => gpre hPF hA hG _ U hU hW⟩ rfl rfl hsz rfl hW hdg ⟨hc, hs⟩) (fun r G' H9 locs9 hp hmon hG9 => ?_)
    obtain ⟨rfl, rfl⟩ := hp
    exact kk H9 locs9 hG9
  · have e9 : gWel G a = gI G a 0 := by unfold gWel; rw [h]; rfl
    rw [e9] at kk
    refine gc5i hA hG (va_runF (hPF.K.1 11 _ rfl).2 (As := []) (rest := rest) ⟨hx, hb, hml, hown, hts⟩ (gm_X13_well l E a (fun r G' => r = gI G a 0 ∧ G' = G) G ⟨h, rfl, rfl⟩ _) (va_cwF 0 hts (lw_F hl q1239 q1241 q95 q1243) rfl rfl rfl (hPF.f 10 rfl) hdx_WillowPrinters_State_well ⟨by show 0 + 1 ≤ R.frames; omega, by show 8 + (1 + 11) + 0 ≤ R.locals; omega⟩) ⟨gblind, grecv hPF hG (gC_of h (by decide)) (by decide) (by decide) rfl, fun U hU hW => gpre hPF hA hG _ U hU hW⟩ rfl rfl hsz rfl hW hdg ⟨hc, hs⟩) (fun r G' H9 locs9 hp hmon hG9 => ?_)
    obtain ⟨rfl, rfl⟩ := hp
    exact kk H9 locs9 hG9
set_option maxHeartbeats 1000000 in
theorem gm_J25_ordinal (l : Launch) (E : gE) (k : Nat) (hk : k < 4) (post : Int32 → Gh → Prop) (G : Gh) (hw : post (nI k) G) : gM l E yJ25_ordinal (ws_ yJ25_ordinal cJ25_ordinal 1 (some .int)) ({ frames := 0, cells := 0, slots := 0, locals := 0 } : Room) 0 0 [.ref (eZ E k)] G (gpi post) := by
  refine gof (by decide) (Nat.le_of_ble_eq_true rfl) ?_
  intro p e s m below meth c A ls hx hb hr hlk hml hown hin hts hPF hA hG hl
  have hl : lv_has ls 1 [(0, .ref (eZ E k))] := hl
  refine lv_aload_n hx hb dJ25_ordinal_0 rfl (lv_at hl 0 rfl) ?_
  refine vk_getf hx hb (hPF.e k hk).2 hG.2 hown (hts _ q2371) (fun _ h9 => h9) dJ25_ordinal_1 ?_
  exact greti hx hb hr hlk hG rfl hw (Nat.le_of_ble_eq_true rfl) (Nat.le_of_ble_eq_true rfl) dJ25_ordinal_4
theorem gordinal (hx : p.tables.exec = Jvm.exec) (hb : c.code = cc) {nL : Nat} (hml : c.maxLocals = nL) (hts : ∀ w ∈ lw_all, w.before args s = true) (hown : s.vm.findClass own = some m.cls) {index : Nat} (hl : Cond.methodLink own index ⟨"WillowPrinters$Stage", "ordinal", "()I"⟩ ∈ lw_all) (hPF : gPF E A s) (hA : ∀ q, s.heap.size ≤ q → A q) (hG : gS E A Z s.heap G H locs) {k : Nat} (hk : k < 4) (hsz : ls.size = nL) (hW : 2 * (F0 m pc ls (.ref (eZ E k) :: rest)).monitorRoom + (rest.map fun v => v.category).sum ≤ 8) (hfr : 1 ≤ R.frames) (hlo : 60 ≤ R.locals) (hc : cells ≤ R.cells) (hs : slots ≤ R.slots) (hdg : decode cc pc = .ok (.invokevirtual index, 3))
    (kk : ∀ (H1 : Heap) (locs1 : List Loc), gS E A Z s.heap G H1 locs1 → W p l e R s m args below meth c H1 locs1 cells slots Q (F0 m (pc + 3) ls (.int (nI k) :: rest))) : W p l e R s m args below meth c H locs cells slots Q (F0 m pc ls (.ref (eZ E k) :: rest)) := by
  rcases (show k = 0 ∨ k = 1 ∨ k = 2 ∨ k = 3 by omega) with rfl | rfl | rfl | rfl
  · refine gc3i hA hG (va_runU (As := []) (rest := rest) ⟨hx, hb, hml, hown, hts⟩ (gm_J25_ordinal l E 0 (by decide) (fun r G' => r = nI 0 ∧ G' = G) G ⟨rfl, rfl⟩ _) (va_cwU 0 hts (lw_U hl q1222 q1224 q1228 q91 q1229) rfl rfl rfl rfl (by decide +kernel) ⟨by show 0 + 1 ≤ R.frames; omega, by show 8 + (1 + 11) + 0 ≤ R.locals; omega⟩) ⟨gblind, va_Orecv (hPF.e 0 (by decide)).1 hG.2, fun U hU hW => gpre hPF hA hG _ U hU hW⟩ rfl rfl hsz rfl hW hdg ⟨hc, hs⟩) (fun r G' H9 locs9 hp hmon hG9 => ?_)
    obtain ⟨rfl, rfl⟩ := hp
    exact kk H9 locs9 hG9
  · refine gc3i hA hG (va_runU (As := []) (rest := rest) ⟨hx, hb, hml, hown, hts⟩ (gm_J25_ordinal l E 1 (by decide) (fun r G' => r = nI 1 ∧ G' = G) G ⟨rfl, rfl⟩ _) (va_cwU 0 hts (lw_U hl q1222 q1225 q1228 q91 q1229) rfl rfl rfl rfl (by decide +kernel) ⟨by show 0 + 1 ≤ R.frames; omega, by show 8 + (1 + 11) + 0 ≤ R.locals; omega⟩) ⟨gblind, va_Orecv (hPF.e 1 (by decide)).1 hG.2, fun U hU hW => gpre hPF hA hG _ U hU hW⟩ rfl rfl hsz rfl hW hdg ⟨hc, hs⟩) (fun r G' H9 locs9 hp hmon hG9 => ?_)
    obtain ⟨rfl, rfl⟩ := hp
    exact kk H9 locs9 hG9
  · refine gc3i hA hG (va_runU (As := []) (rest := rest) ⟨hx, hb, hml, hown, hts⟩ (gm_J25_ordinal l E 2 (by decide) (fun r G' => r = nI 2 ∧ G' = G) G ⟨rfl, rfl⟩ _) (va_cwU 0 hts (lw_U hl q1222 q1226 q1228 q91 q1229) rfl rfl rfl rfl (by decide +kernel) ⟨by show 0 + 1 ≤ R.frames; omega, by show 8 + (1 + 11) + 0 ≤ R.locals; omega⟩) ⟨gblind, va_Orecv (hPF.e 2 (by decide)).1 hG.2, fun U hU hW => gpre hPF hA hG _ U hU hW⟩ rfl rfl hsz rfl hW hdg ⟨hc, hs⟩) (fun r G' H9 locs9 hp hmon hG9 => ?_)
    obtain ⟨rfl, rfl⟩ := hp
    exact kk H9 locs9 hG9
  · refine gc3i hA hG (va_runU (As := []) (rest := rest) ⟨hx, hb, hml, hown, hts⟩ (gm_J25_ordinal l E 3 (by decide) (fun r G' => r = nI 3 ∧ G' = G) G ⟨rfl, rfl⟩ _) (va_cwU 0 hts (lw_U hl q1222 q1227 q1228 q91 q1229) rfl rfl rfl rfl (by decide +kernel) ⟨by show 0 + 1 ≤ R.frames; omega, by show 8 + (1 + 11) + 0 ≤ R.locals; omega⟩) ⟨gblind, va_Orecv (hPF.e 3 (by decide)).1 hG.2, fun U hU hW => gpre hPF hA hG _ U hU hW⟩ rfl rfl hsz rfl hW hdg ⟨hc, hs⟩) (fun r G' H9 locs9 hp hmon hG9 => ?_)
    obtain ⟨rfl, rfl⟩ := hp
    exact kk H9 locs9 hG9
end GRV
