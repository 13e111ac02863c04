/-! a callee walked from inside, its class's initialization not asked -/
set_option maxRecDepth 100000
section GIN
variable {p : Program} {l : Launch} {e : Env} {R : Room} {s : State} {m : MethodId} {args : Array Value} {below : List Frame} {meth : Method} {c : Code} {locs : List Loc} {cells slots : Nat}
theorem gStepsDown {tb : Tables} {mid : List Frame} {u t : State} (h : Steps tb e (mid ++ below) u t) : Steps tb e below u t := by
  obtain ⟨n, h1, h2⟩ := h
  exact ⟨n, h1, fun k hk => (h2 k hk).weaken⟩
/-- the callee's frame is a place to walk from -/
theorem gStandIn {T : State} (X : Stand p l e R s m args below meth c T locs cells slots) {g : JFrame} (hg : g.method = m) (hsize : g.locals.size = c.maxLocals) {ig : Instr} {len : Nat} (hdg : decode c.code g.pc = .ok (ig, len)) {mk : MethodId} {a : Array Value} {methY : Method} {cY : Code} (hmk : T.vm.method? mk = some methY) (hcY : methY.code = some cY) (hpl : T.plainMethod mk) (R' : Room)
    (hframes : R'.frames + 1 ≤ R.frames) (hlocals : 2 * g.monitorRoom + (g.stack.map fun v => v.category).sum + (cY.maxLocals + 11) + R'.locals ≤ R.locals) (hcells : cells + R'.cells ≤ R.cells) (hslots : slots + R'.slots ≤ R.slots) :
    Stand p l e R' (T.calling g mk a) mk a (T.setTop g).frames methY cY ((T.calling g mk a).setFrames (.java (entryFrame mk a cY.maxLocals) :: (T.setTop g).frames)) [] 0 0 := by
  have h : At T g.method c below := by rw [hg]; exact X.here
  have hfs : (T.setTop g).frames = .java g :: T.frames.tail := State.frames_setTop' g h.top
  have hf : (T.calling g mk a).frames = .invoking mk a :: (T.setTop g).frames := by rw [State.frames_calling h.top, hfs]
  have hcur := State.cur_lt_of_frames hf
  have hf1 : ((T.calling g mk a).setFrames (.java (entryFrame mk a cY.maxLocals) :: (T.setTop g).frames)).frames = .java (entryFrame mk a cY.maxLocals) :: (T.setTop g).frames := State.frames_setFrames _ hcur
  have ht1 := State.topJava?_of_frames hf1
  have hcode : (T.calling g mk a).code? g.method = some c := by
    have := h.code
    rw [State.code?_eq] at this ⊢
    simpa [State.calling, State.pushFrame, State.setFrames] using this
  have hroom := X.room_calling (g := g) (args' := a) (R' := R') hsize hmk hcY hframes hlocals hcells hslots
  have hvm : (T.calling g mk a).vm = T.vm := by rw [State.calling_eq h.top]; rfl
  have hhears : (T.calling g mk a).hears mk (T.setTop g).frames = true := by
    rw [hfs]
    simp [State.hears, hcode, hdg, Except.toOption]
  obtain ⟨t, ht, -⟩ := State.frames_cons hf
  have hsame := (State.sameButNew.refl (T.calling g mk a) ht).setFrames (.java (entryFrame mk a cY.maxLocals) :: (T.setTop g).frames) hcur
  refine ⟨X.admits, X.cas, X.clock, hf, hroom, hhears, by rw [hvm]; exact hmk, hcY, ?_, by rw [hf1]; rfl, State.WarmedH.refl _, by rw [State.stackLimits_setFrames], by rw [State.stackBytes_setFrames], hsame⟩
  refine ⟨by rw [ht1]; rfl, ⟨[], by rw [hf1]; rfl⟩, ?_, ?_, ?_, ?_, ?_⟩
  · rw [State.calling_eq h.top]; exact h.running
  · simpa [State.calling] using h.runnable
  · simpa [State.calling] using h.alone
  · rw [State.code?_eq]
    show ((T.calling g mk a).vm.method? mk).bind _ = _
    rw [hvm, hmk]; exact hcY
  · intro k hk
    exact hpl k (by rw [← hvm]; exact hk)

/-- a callee walked from inside, to its end -/
theorem gInX {T : State} (X : Stand p l e R s m args below meth c T locs cells slots) {g : JFrame} (hg : g.method = m) (hsize : g.locals.size = c.maxLocals) {ig : Instr} {len : Nat} (hdg : decode c.code g.pc = .ok (ig, len)) {mk : MethodId} {a : Array Value} {methY : Method} {cY : Code} (hmk : T.vm.method? mk = some methY) (hcY : methY.code = some cY) (hlY : methY.locks = false) (hpl : T.plainMethod mk) (R' : Room)
    (hframes : R'.frames + 1 ≤ R.frames) (hlocals : 2 * g.monitorRoom + (g.stack.map fun v => v.category).sum + (cY.maxLocals + 11) + R'.locals ≤ R.locals) (hcells : cells + R'.cells ≤ R.cells) (hslots : slots + R'.slots ≤ R.slots)
    {Qc : Array Value → State → Outcome → State → Prop} {XC : String → Addr → State → State → Prop} {mc ms : Nat} {free : Addr → Prop}
    (hin : W p l e R' (T.calling g mk a) mk a (T.setTop g).frames methY cY T.heap [] 0 0 (vx_MQ (T.setTop g).frames Qc XC a (T.calling g mk a) mc ms free) (entryFrame mk a cY.maxLocals)) :
    (∃ (v : Option Value) (t T' : State) (L : List Loc), Stand p l e R s m args below meth c T' (locs ++ L) (cells + mc) (slots + ms) ∧ (∀ q ∈ L, free q.base) ∧ T'.heap = t.heap ∧ T'.vm = t.vm ∧ Qc a (T.calling g mk a) (.returned v) t ∧
      Steps p.tables e below (doInvoke e (T.setTop g) [] mk a).1 (T'.setTop { g with pc := g.pc + len, stack := v.toList ++ g.stack })) ∨
    (∃ (q : Addr) (t T' : State) (L : List Loc) (E : String) (ce : Cell), Stand p l e R s m args below meth c T' (locs ++ L) (cells + mc) (slots + ms) ∧ (∀ z ∈ L, free z.base) ∧ T'.heap = t.heap ∧ T'.vm = t.vm ∧ XC E q (T.calling g mk a) t ∧ t.heap[q]? = some ce ∧ ce.vm = .none ∧ T.vm.findClass E = some ce.cls ∧
      Steps p.tables e below (doInvoke e (T.setTop g) [] mk a).1 ((T'.setTop g).pushFrame (.throwing q))) := by
  have Y := gStandIn X (a := a) hg hsize hdg hmk hcY hpl R' hframes hlocals hcells hslots
  have h : At T g.method c below := by rw [hg]; exact X.here
  obtain ⟨s₁, hs₁⟩ : ∃ z, z = (T.calling g mk a).setFrames (.java (entryFrame mk a cY.maxLocals) :: (T.setTop g).frames) := ⟨_, rfl⟩
  rw [← hs₁] at Y
  have hh0 : s₁.heap = T.heap := by rw [hs₁, State.calling_eq h.top]; rfl
  obtain ⟨s₂, hst, o, hrun, hend, hq'⟩ := hin s₁ hh0 Y
  have hent : (doInvoke e (T.setTop g) [] mk a).1 = s₁.setTop (entryFrame mk a cY.maxLocals) := by
    rw [doInvoke_enter h.top [] hmk hcY hlY (by subst hg; exact X.notFull hsize (Nat.le_trans (Nat.le_add_left _ _) hframes) (Nat.le_trans (Nat.le_add_right _ _) hlocals)), hs₁]
    simp only [State.calling, State.pushFrame, State.setFrames_setFrames]
  obtain ⟨mid, hmid⟩ := h.above
  have hfr : (T.setTop g).frames = (.java g :: mid) ++ below := by rw [State.frames_setTop' g h.top, hmid]; rfl
  have hsteps : Steps p.tables e below (doInvoke e (T.setTop g) [] mk a).1 s₂ := by
    rw [hent]
    exact gStepsDown (mid := .java g :: mid) (by rw [← hfr]; exact hst)
  rw [State.frames_setTop' g h.top] at hend
  obtain ⟨g₀, hg0⟩ := Option.isSome_iff_exists.mp h.top
  obtain ⟨r, hr⟩ := State.topJava?_eq_some.mp hg0
  have hr' : (({ T with heap := s₂.heap, slotsUsed := s₂.slotsUsed } : State).setVm s₂.vm).frames = .java g₀ :: r := hr
  rcases hq' with ⟨hqc, L, hfe, hL⟩ | ⟨q, rfl, E, ce, L, hx, hce, hcv, hcl, hW₂, hsm, hL⟩
  · obtain ⟨⟨v, rfl⟩, hW₂, e2, q2, q3, q4, q5, q6⟩ := id hfe
    have e3 : s₂ = ({ (T.calling g mk a).setFrames s₂.frames with heap := s₂.heap, slotsUsed := s₂.slotsUsed } : State).setVm s₂.vm := by
      have : s₂ = ({ s₂ with vm := (T.calling g mk a).vm } : State).setVm s₂.vm := rfl
      rw [e2] at this
      exact this
    obtain ⟨c₂, i₂, len₂, hc₂, hd₂, hf₂⟩ := hend
    have hW' : T.WarmedH s₂.vm := hW₂
    have hcc : c₂ = c := by
      have h1 : s₂.code? g.method = T.code? g.method := by
        rw [State.code?_eq, State.code?_eq, hW'.alike.method?]
      exact Option.some.inj (hc₂.symm.trans (h1.trans h.code))
    subst hcc
    have hlen : len₂ = len := by rw [hdg] at hd₂; cases hd₂; rfl
    subst hlen
    have hs₂ : s₂ = (({ T with heap := s₂.heap, slotsUsed := s₂.slotsUsed } : State).setVm s₂.vm).setTop { g with pc := g.pc + len₂, stack := v.toList ++ g.stack } := by
      refine e3.trans ?_
      rw [hf₂, State.calling_eq h.top, State.setFrames_setFrames, State.setTop_of_frames _ hr', hr]
      rfl
    have hsame : T.sameButNew ({ T with heap := s₂.heap, slotsUsed := s₂.slotsUsed } : State) L mc ms := by
      refine ⟨?_, q2, q3, q4, q5, q6⟩
      obtain ⟨t, ht, -⟩ := State.frames_cons hr
      show ({ T with heap := s₂.heap, slotsUsed := s₂.slotsUsed } : State) = { T.setFrames T.frames with heap := s₂.heap, slotsUsed := s₂.slotsUsed }
      rw [State.setFrames_self ht]
    subst hg
    refine Or.inl ⟨v, s₂, (({ T with heap := s₂.heap, slotsUsed := s₂.slotsUsed } : State).setVm s₂.vm), L,
      ⟨X.admits, X.cas, X.clock, X.frames, X.room, X.hears, X.method, X.code, (X.here.setHeapUsed s₂.heap s₂.slotsUsed).setVm hW'.alike, X.tail, State.WarmedH.trans X.warmed hW', X.limits, X.bytes, X.same.trans (hsame.setVm s.vm)⟩,
      hL, rfl, rfl, hqc, ?_⟩
    show Steps p.tables e below _ ((({ T with heap := s₂.heap, slotsUsed := s₂.slotsUsed } : State).setVm s₂.vm).setTop { g with pc := g.pc + len₂, stack := v.toList ++ g.stack })
    rw [← hs₂]
    exact hsteps
  · obtain ⟨e2, q2, q3, q4, q5, q6⟩ := id hsm
    have e3 : s₂ = ({ (T.calling g mk a).setFrames s₂.frames with heap := s₂.heap, slotsUsed := s₂.slotsUsed } : State).setVm s₂.vm := by
      have : s₂ = ({ s₂ with vm := (T.calling g mk a).vm } : State).setVm s₂.vm := rfl
      rw [e2] at this
      exact this
    have hf₂ : s₂.frames = .throwing q :: .java g :: T.frames.tail := hend
    have hW' : T.WarmedH s₂.vm := hW₂
    have hs₂ : s₂ = ((({ T with heap := s₂.heap, slotsUsed := s₂.slotsUsed } : State).setVm s₂.vm).setTop g).pushFrame (.throwing q) := by
      refine e3.trans ?_
      rw [hf₂, State.calling_eq h.top, State.setFrames_setFrames, State.pushFrame, State.frames_setTop _ hr', State.setTop_of_frames _ hr', State.setFrames_setFrames, hr]
      rfl
    have hsame : T.sameButNew ({ T with heap := s₂.heap, slotsUsed := s₂.slotsUsed } : State) L mc ms := by
      refine ⟨?_, q2, q3, q4, q5, q6⟩
      obtain ⟨t, ht, -⟩ := State.frames_cons hr
      show ({ T with heap := s₂.heap, slotsUsed := s₂.slotsUsed } : State) = { T.setFrames T.frames with heap := s₂.heap, slotsUsed := s₂.slotsUsed }
      rw [State.setFrames_self ht]
    subst hg
    refine Or.inr ⟨q, s₂, (({ T with heap := s₂.heap, slotsUsed := s₂.slotsUsed } : State).setVm s₂.vm), L, E, ce,
      ⟨X.admits, X.cas, X.clock, X.frames, X.room, X.hears, X.method, X.code, (X.here.setHeapUsed s₂.heap s₂.slotsUsed).setVm hW'.alike, X.tail, State.WarmedH.trans X.warmed hW', X.limits, X.bytes, X.same.trans (hsame.setVm s.vm)⟩,
      hL, rfl, rfl, hx, hce, hcv, by rw [State.calling_eq h.top] at hcl; exact hcl, ?_⟩
    show Steps p.tables e below _ (((({ T with heap := s₂.heap, slotsUsed := s₂.slotsUsed } : State).setVm s₂.vm).setTop g).pushFrame (.throwing q))
    rw [← hs₂]
    exact hsteps
/-- a method of the ghost heap's, called without its class's word -/
theorem gBackT {y : MethodName} {cc : ByteArray} {maxL len mc ms sz : Nat} {ret : Option FieldType} {rm : Room} {av : List Value} {post : Option Value → Gh → Prop} {E : gE} {G : Gh} (hy : plainName y.cls = true) (hcode : Cond.code y cc maxL ret ∈ lw_all) (hlen : (lg_sl av).length ≤ maxL) (hts : ∀ w ∈ lw_all, w.before args s = true)
    (hframes : rm.frames + 1 ≤ R.frames) (hlocals : 8 + (maxL + 11) + rm.locals ≤ R.locals) (hrc : rm.cells = mc) (hrs : rm.slots = ms)
    (body : ∀ (p : Program) (e : Env) (s : State) (m : MethodId) (below : List Frame) (meth : Method) (c : Code) (A : Nat → Prop) (ls : Array Slot), c.code = cc → meth.sig.returnType = ret → meth.locks = false → c.maxLocals = maxL → s.vm.findClass y.cls = some m.cls → (∀ w ∈ lw_all, w.before av.toArray s = true) → gPF E A s → (∀ q, s.heap.size ≤ q → A q) → gS E A G s.heap G s.heap [] → lv_has ls maxL (lv_args 0 av) →
      p.tables.exec = Jvm.exec → W p l e rm s m av.toArray below meth c s.heap [] 0 0 (MQ below (gQ E A G post) av.toArray s mc ms A) (F0 m 0 ls [])) (hexec : p.tables.exec = Jvm.exec) :
    Back l R p e below s args y len 8 (PreOf R mc ms (va_Pc av (gPre E G sz))) (PostOf (gQ E (gA G sz) G post) mc ms (gA G sz)) := by
  intro m meth c A g ig mk a X hg hsize hdg hW hn hp
  obtain ⟨h4, h5, hav, hsz, hat, hPF⟩ := hp
  obtain ⟨U, Ls, c0, s0⟩ := A
  dsimp only [Pt.U, Pt.locs, Pt.cells, Pt.slots] at h4 h5 X hn hsz hat hPF ⊢
  subst hav
  have hts' : ∀ w ∈ lw_all, w.before av.toArray U = true := fun w hw => word_at X.warmed (lw_self w hw).2 (hts w hw)
  obtain ⟨methY, cY, hmY, hcY, hby, hlY, hrY, hlkY, -, -⟩ := Cond.code_spec hn (hts' _ hcode)
  have hpl : U.plainMethod mk := State.plainMethod.of_named (s := U) (plainFor_of_name hy) hn hmY
  have h : At U g.method c below := by rw [hg]; exact X.here
  have hhp : (U.calling g mk av.toArray).heap = U.heap := by rw [State.calling_eq h.top]; rfl
  have hvm : (U.calling g mk av.toArray).vm = U.vm := by rw [State.calling_eq h.top]; rfl
  have hin : W p l e rm (U.calling g mk av.toArray) mk av.toArray (U.setTop g).frames methY cY U.heap [] 0 0 (vx_MQ (U.setTop g).frames (gQ E (gA G sz) G post) (fun _ _ _ _ => False) av.toArray (U.calling g mk av.toArray) mc ms (gA G sz)) (entryFrame mk av.toArray cY.maxLocals) := by
    refine vx_ret ?_
    have hl := lv_entry av (n := maxL) hlen
    rw [hlY, lg_entry_eq, ← hhp]
    refine body p e _ mk _ methY cY (gA G sz) _ hby hrY hlkY hlY (by rw [hvm]; exact findClass_of_methodNamed hn) (fun w hw => word_at (by rw [hvm]; exact State.WarmedH.refl U) (lw_self w hw).2 (hts' w hw)) (gPF.call (A := gA G sz) (s := U) (H := U.heap) hPF (fun _ _ _ => rfl) hhp (by rw [hvm]; exact State.WarmedH.refl U) (fun _ h => h)) (fun q h => Or.inr (by rw [hhp, hsz] at h; exact h)) ⟨⟨fun a ha => ⟨by rw [hhp]; exact hat a ha, fun h => Or.inl ⟨ha, h⟩, fun h => h⟩, gMon.rf⟩, va_S.rf⟩ hl hexec
  rcases gInX (free := gA G sz) X hg hsize hdg hmY hcY hlkY hpl rm hframes (by rw [hlY]; omega) (by rw [hrc]; exact h4) (by rw [hrs]; exact h5) hin with ⟨v, t, T', L, x1, x2, x3, x4, x5, x6⟩ | ⟨q, t, T', L, E', ce, x1, x2, x3, x4, hx, -⟩
  · exact ⟨v, (T', Ls ++ L, c0 + mc, s0 + ms), x1, ⟨g, mk, t, L, x3, x4, x5, rfl, x2, rfl, rfl⟩, x6⟩
  · exact hx.elim
end GIN
