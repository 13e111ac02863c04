/-! calls, answers, throws, new cells over the ghost heap -/
set_option maxRecDepth 100000
section GC
variable {p : Program} {l : Launch} {e : Env} {R : Room} {s : State} {m : MethodId} {args : Array Value} {below : List Frame} {meth : Method} {c : Code} {H : Heap} {locs : List Loc} {cells slots : Nat} {Q : State → Prop}
variable {cc : ByteArray} {pc : Nat} {ls : Array Slot} {rest st0 : List Value} {E : gE} {A : Nat → Prop} {Z : Gh} {H0 : Heap} {G : Gh} {a : Nat} {own : String} {mc ms : Nat} {aa : Array Value}
theorem gblind {av : List Value} {sz : Nat} : FrameBlind (va_Pc av (gPre E G sz)) := fun a U g mk q => by
  obtain ⟨q0, q1, q2, q3⟩ := q
  exact ⟨q0, q1, q2, gPF.call (A := gA G sz) (s := U) (H := U.heap) q3 (fun _ _ _ => rfl) rfl (State.WarmedH.refl U) (fun _ h => h)⟩
theorem gsub (hA : ∀ q, H0.size ≤ q → A q) (hG : gS E A Z H0 G H locs) : ∀ q, gA G H.size q → A q := fun q h => h.elim (fun h => (hG.1.1 q h.1).2.1 h.2) (fun h => hA q (Nat.le_trans hG.2.1 h))
theorem gpre (hPF : gPF E A s) (hA : ∀ q, s.heap.size ≤ q → A q) (hG : gS E A Z s.heap G H locs) (av : List Value) (U : State) (hU : U.heap = H) (hW : s.WarmedH U.vm) : va_Pc av (gPre E G H.size) av.toArray U :=
  ⟨rfl, by rw [hU], fun a ha => by rw [hU]; exact (hG.1.1 a ha).1, gPF.call hPF hG.2.2.1 hU hW (gsub hA hG)⟩
theorem grecv (hPF : gPF E A s) (hG : gS E A Z H0 G H locs) {ci : Nat} (ha : gC G a = ci) (h0 : ci ≠ 0) (h30 : ci < 30) {q : vw_C} (hc : gCl[ci]? = some q) : ∃ cell : Cell, H[a]? = some cell ∧ cell.vm.isStatics = false ∧ s.vm.findClass q.1 = some cell.cls := va_recv hPF.K (gS_one hG ha h0 h30) hc (q0 := 0) rfl
theorem gback (hA : ∀ q, H0.size ≤ q → A q) (hG : gS E A Z H0 G H locs) {G' : Gh} {t : State} {H1 : Heap} {locs1 : List Loc} (ht : t.heap = H1) (hB : gB E (gA G H.size) G G' t) (hS : va_S A H0 H1 locs1) : gS E A Z H0 G' H1 locs1 := by
  refine ⟨⟨fun b hb => ?_, hG.1.2.tr hB.2⟩, hS⟩
  obtain ⟨h1, h2, h3⟩ := hB.1 b hb
  refine ⟨by rw [← ht]; exact h1, fun h => gsub hA hG b (h2 h), fun h => ?_⟩
  have h4 : 1000 ≤ gK G b := h3 h
  exact (hG.1.1 b (by omega)).2.2 h4
theorem gkeep {st₀ t T' : State} {L : List Loc} {free : Addr → Prop} {A1 : Nat → Prop} (h0 : st₀.heap = H) (e1 : T'.heap = t.heap) (hS : va_S A H0 H locs) (hA : ∀ q, A1 q → A q) (hf : ∀ q, free q → A q) (hL : ∀ q ∈ L, free q.base) (hF : va_F A1 st₀ t) : va_S A H0 T'.heap (locs ++ L) := (vx_keep h0 e1 hS (fun q _ h => hA q h) hf hL hF).2.2
theorem gcall3 {post : Option Value → Gh → Prop} (hA : ∀ q, H0.size ≤ q → A q) (hG : gS E A Z H0 G H locs) (hr : va_Run p l e R s m args below meth c H locs cells slots mc ms (F0 m pc ls st0) rest (gQ E (gA G H.size) G post aa) (gA G H.size))
    (kk : ∀ (v : Option Value) (G' : Gh) (H1 : Heap) (locs1 : List Loc), post v G' → gMon G G' → gS E A Z H0 G' H1 locs1 → W p l e R s m args below meth c H1 locs1 (cells + mc) (slots + ms) Q (F0 m (pc + 3) ls (v.toList ++ rest))) : W p l e R s m args below meth c H locs cells slots Q (F0 m pc ls st0) := by
  intro T hT X
  obtain ⟨v, st₀, t, T', L, h0, X', hL, e1, e2, ⟨⟨v', G', hv, hp, hb⟩, hF⟩, st⟩ := hr T hT X
  cases hv
  obtain ⟨t2, a1, b1⟩ := kk v G' T'.heap (locs ++ L) hp hb.2 (gback hA hG e1.symm hb (gkeep h0 e1 hG.2 (gsub hA hG) (gsub hA hG) hL hF)) T' rfl X'
  exact ⟨t2, st t2 a1, b1⟩
theorem xcall3 {post : Option Value → Gh → Prop} {px : String → Nat → Gh → Prop} (hA : ∀ q, H0.size ≤ q → A q) (hG : gS E A Z H0 G H locs) (hr : vx_Run p l e R s m args below meth c H locs cells slots mc ms (F0 m pc ls st0) rest (gQ E (gA G H.size) G post aa) (gXC E (gA G H.size) G px) (gA G H.size))
    (kx : ∀ (X : String) (ce : Cell) (q : Nat) (G' : Gh) (H1 : Heap) (locs1 : List Loc), px X q G' → gMon G G' → gS E A Z H0 G' H1 locs1 → H1[q]? = some ce → ce.vm = .none → s.vm.findClass X = some ce.cls → vx_W p l e R s m args below meth c H1 locs1 (cells + mc) (slots + ms) Q (F0 m pc ls rest) q)
    (kk : ∀ (v : Option Value) (G' : Gh) (H1 : Heap) (locs1 : List Loc), post v G' → gMon G G' → gS E A Z H0 G' H1 locs1 → W p l e R s m args below meth c H1 locs1 (cells + mc) (slots + ms) Q (F0 m (pc + 3) ls (v.toList ++ rest))) : W p l e R s m args below meth c H locs cells slots Q (F0 m pc ls st0) := by
  intro T hT X
  rcases hr T hT X with ⟨v, st₀, t, T', L, h0, X', hL, e1, e2, ⟨⟨v', G', hv, hp, hb⟩, hF⟩, st⟩ | ⟨q, st₀, t, T', L, X9, ce, h0, X', hL, e1, e2, ⟨⟨G', hp, hb⟩, hF⟩, hce, hcv, hcl, st⟩
  · cases hv
    obtain ⟨t2, a1, b1⟩ := kk v G' T'.heap (locs ++ L) hp hb.2 (gback hA hG e1.symm hb (gkeep h0 e1 hG.2 (gsub hA hG) (gsub hA hG) hL hF)) T' rfl X'
    exact ⟨t2, st t2 a1, b1⟩
  · obtain ⟨t2, a1, b1⟩ := kx X9 ce q G' T'.heap (locs ++ L) hp hb.2 (gback hA hG e1.symm hb (gkeep h0 e1 hG.2 (gsub hA hG) (gsub hA hG) hL hF)) (by rw [e1]; exact hce) hcv hcl T' rfl X'
    exact ⟨t2, st.trans a1, b1⟩
theorem gcall5 {post : Option Value → Gh → Prop} (hA : ∀ q, H0.size ≤ q → A q) (hG : gS E A Z H0 G H locs) (hr : va_Run5 p l e R s m args below meth c H locs cells slots mc ms (F0 m pc ls st0) rest (gQ E (gA G H.size) G post aa) (gA G H.size))
    (kk : ∀ (v : Option Value) (G' : Gh) (H1 : Heap) (locs1 : List Loc), post v G' → gMon G G' → gS E A Z H0 G' H1 locs1 → W p l e R s m args below meth c H1 locs1 (cells + mc) (slots + ms) Q (F0 m (pc + 5) ls (v.toList ++ rest))) : W p l e R s m args below meth c H locs cells slots Q (F0 m pc ls st0) := by
  intro T hT X
  obtain ⟨v, st₀, t, T', L, h0, X', hL, e1, e2, ⟨⟨v', G', hv, hp, hb⟩, hF⟩, st⟩ := hr T hT X
  cases hv
  obtain ⟨t2, a1, b1⟩ := kk v G' T'.heap (locs ++ L) hp hb.2 (gback hA hG e1.symm hb (gkeep h0 e1 hG.2 (gsub hA hG) (gsub hA hG) hL hF)) T' rfl X'
  exact ⟨t2, st t2 a1, b1⟩
theorem xcall5 {post : Option Value → Gh → Prop} {px : String → Nat → Gh → Prop} (hA : ∀ q, H0.size ≤ q → A q) (hG : gS E A Z H0 G H locs) (hr : vx_Run5 p l e R s m args below meth c H locs cells slots mc ms (F0 m pc ls st0) rest (gQ E (gA G H.size) G post aa) (gXC E (gA G H.size) G px) (gA G H.size))
    (kx : ∀ (X : String) (ce : Cell) (q : Nat) (G' : Gh) (H1 : Heap) (locs1 : List Loc), px X q G' → gMon G G' → gS E A Z H0 G' H1 locs1 → H1[q]? = some ce → ce.vm = .none → s.vm.findClass X = some ce.cls → vx_W p l e R s m args below meth c H1 locs1 (cells + mc) (slots + ms) Q (F0 m pc ls rest) q)
    (kk : ∀ (v : Option Value) (G' : Gh) (H1 : Heap) (locs1 : List Loc), post v G' → gMon G G' → gS E A Z H0 G' H1 locs1 → W p l e R s m args below meth c H1 locs1 (cells + mc) (slots + ms) Q (F0 m (pc + 5) ls (v.toList ++ rest))) : W p l e R s m args below meth c H locs cells slots Q (F0 m pc ls st0) := by
  intro T hT X
  rcases hr T hT X with ⟨v, st₀, t, T', L, h0, X', hL, e1, e2, ⟨⟨v', G', hv, hp, hb⟩, hF⟩, st⟩ | ⟨q, st₀, t, T', L, X9, ce, h0, X', hL, e1, e2, ⟨⟨G', hp, hb⟩, hF⟩, hce, hcv, hcl, st⟩
  · cases hv
    obtain ⟨t2, a1, b1⟩ := kk v G' T'.heap (locs ++ L) hp hb.2 (gback hA hG e1.symm hb (gkeep h0 e1 hG.2 (gsub hA hG) (gsub hA hG) hL hF)) T' rfl X'
    exact ⟨t2, st t2 a1, b1⟩
  · obtain ⟨t2, a1, b1⟩ := kx X9 ce q G' T'.heap (locs ++ L) hp hb.2 (gback hA hG e1.symm hb (gkeep h0 e1 hG.2 (gsub hA hG) (gsub hA hG) hL hF)) (by rw [e1]; exact hce) hcv hcl T' rfl X'
    exact ⟨t2, st.trans a1, b1⟩
theorem gc3i {post : Int32 → Gh → Prop} (hA : ∀ q, H0.size ≤ q → A q) (hG : gS E A Z H0 G H locs) (hr : va_Run p l e R s m args below meth c H locs cells slots mc ms (F0 m pc ls st0) rest (gQ E (gA G H.size) G (gpi post) aa) (gA G H.size))
    (kk : ∀ (r : Int32) (G' : Gh) (H1 : Heap) (locs1 : List Loc), post r G' → gMon G G' → gS E A Z H0 G' H1 locs1 → W p l e R s m args below meth c H1 locs1 (cells + mc) (slots + ms) Q (F0 m (pc + 3) ls (.int r :: rest))) : W p l e R s m args below meth c H locs cells slots Q (F0 m pc ls st0) :=
  gcall3 hA hG hr (fun v G' H1 locs1 hp hmon hG1 => by
    obtain ⟨r, rfl, hp⟩ := hp
    exact kk r G' H1 locs1 hp hmon hG1)
theorem xc3i {post : Int32 → Gh → Prop} {px : String → Nat → Gh → Prop} (hA : ∀ q, H0.size ≤ q → A q) (hG : gS E A Z H0 G H locs) (hr : vx_Run p l e R s m args below meth c H locs cells slots mc ms (F0 m pc ls st0) rest (gQ E (gA G H.size) G (gpi post) aa) (gXC E (gA G H.size) G px) (gA G H.size))
    (kx : ∀ (X : String) (ce : Cell) (q : Nat) (G' : Gh) (H1 : Heap) (locs1 : List Loc), px X q G' → gMon G G' → gS E A Z H0 G' H1 locs1 → H1[q]? = some ce → ce.vm = .none → s.vm.findClass X = some ce.cls → vx_W p l e R s m args below meth c H1 locs1 (cells + mc) (slots + ms) Q (F0 m pc ls rest) q)
    (kk : ∀ (r : Int32) (G' : Gh) (H1 : Heap) (locs1 : List Loc), post r G' → gMon G G' → gS E A Z H0 G' H1 locs1 → W p l e R s m args below meth c H1 locs1 (cells + mc) (slots + ms) Q (F0 m (pc + 3) ls (.int r :: rest))) : W p l e R s m args below meth c H locs cells slots Q (F0 m pc ls st0) :=
  xcall3 hA hG hr kx (fun v G' H1 locs1 hp hmon hG1 => by
    obtain ⟨r, rfl, hp⟩ := hp
    exact kk r G' H1 locs1 hp hmon hG1)
theorem gc5i {post : Int32 → Gh → Prop} (hA : ∀ q, H0.size ≤ q → A q) (hG : gS E A Z H0 G H locs) (hr : va_Run5 p l e R s m args below meth c H locs cells slots mc ms (F0 m pc ls st0) rest (gQ E (gA G H.size) G (gpi post) aa) (gA G H.size))
    (kk : ∀ (r : Int32) (G' : Gh) (H1 : Heap) (locs1 : List Loc), post r G' → gMon G G' → gS E A Z H0 G' H1 locs1 → W p l e R s m args below meth c H1 locs1 (cells + mc) (slots + ms) Q (F0 m (pc + 5) ls (.int r :: rest))) : W p l e R s m args below meth c H locs cells slots Q (F0 m pc ls st0) :=
  gcall5 hA hG hr (fun v G' H1 locs1 hp hmon hG1 => by
    obtain ⟨r, rfl, hp⟩ := hp
    exact kk r G' H1 locs1 hp hmon hG1)
theorem xc5i {post : Int32 → Gh → Prop} {px : String → Nat → Gh → Prop} (hA : ∀ q, H0.size ≤ q → A q) (hG : gS E A Z H0 G H locs) (hr : vx_Run5 p l e R s m args below meth c H locs cells slots mc ms (F0 m pc ls st0) rest (gQ E (gA G H.size) G (gpi post) aa) (gXC E (gA G H.size) G px) (gA G H.size))
    (kx : ∀ (X : String) (ce : Cell) (q : Nat) (G' : Gh) (H1 : Heap) (locs1 : List Loc), px X q G' → gMon G G' → gS E A Z H0 G' H1 locs1 → H1[q]? = some ce → ce.vm = .none → s.vm.findClass X = some ce.cls → vx_W p l e R s m args below meth c H1 locs1 (cells + mc) (slots + ms) Q (F0 m pc ls rest) q)
    (kk : ∀ (r : Int32) (G' : Gh) (H1 : Heap) (locs1 : List Loc), post r G' → gMon G G' → gS E A Z H0 G' H1 locs1 → W p l e R s m args below meth c H1 locs1 (cells + mc) (slots + ms) Q (F0 m (pc + 5) ls (.int r :: rest))) : W p l e R s m args below meth c H locs cells slots Q (F0 m pc ls st0) :=
  xcall5 hA hG hr kx (fun v G' H1 locs1 hp hmon hG1 => by
    obtain ⟨r, rfl, hp⟩ := hp
    exact kk r G' H1 locs1 hp hmon hG1)
theorem gc3v {post : Gh → Prop} (hA : ∀ q, H0.size ≤ q → A q) (hG : gS E A Z H0 G H locs) (hr : va_Run p l e R s m args below meth c H locs cells slots mc ms (F0 m pc ls st0) rest (gQ E (gA G H.size) G (gpv post) aa) (gA G H.size))
    (kk : ∀ (G' : Gh) (H1 : Heap) (locs1 : List Loc), post G' → gMon G G' → gS E A Z H0 G' H1 locs1 → W p l e R s m args below meth c H1 locs1 (cells + mc) (slots + ms) Q (F0 m (pc + 3) ls (rest))) : W p l e R s m args below meth c H locs cells slots Q (F0 m pc ls st0) :=
  gcall3 hA hG hr (fun v G' H1 locs1 hp hmon hG1 => by
    obtain ⟨rfl, hp⟩ := hp
    exact kk  G' H1 locs1 hp hmon hG1)
theorem xc3v {post : Gh → Prop} {px : String → Nat → Gh → Prop} (hA : ∀ q, H0.size ≤ q → A q) (hG : gS E A Z H0 G H locs) (hr : vx_Run p l e R s m args below meth c H locs cells slots mc ms (F0 m pc ls st0) rest (gQ E (gA G H.size) G (gpv post) aa) (gXC E (gA G H.size) G px) (gA G H.size))
    (kx : ∀ (X : String) (ce : Cell) (q : Nat) (G' : Gh) (H1 : Heap) (locs1 : List Loc), px X q G' → gMon G G' → gS E A Z H0 G' H1 locs1 → H1[q]? = some ce → ce.vm = .none → s.vm.findClass X = some ce.cls → vx_W p l e R s m args below meth c H1 locs1 (cells + mc) (slots + ms) Q (F0 m pc ls rest) q)
    (kk : ∀ (G' : Gh) (H1 : Heap) (locs1 : List Loc), post G' → gMon G G' → gS E A Z H0 G' H1 locs1 → W p l e R s m args below meth c H1 locs1 (cells + mc) (slots + ms) Q (F0 m (pc + 3) ls (rest))) : W p l e R s m args below meth c H locs cells slots Q (F0 m pc ls st0) :=
  xcall3 hA hG hr kx (fun v G' H1 locs1 hp hmon hG1 => by
    obtain ⟨rfl, hp⟩ := hp
    exact kk  G' H1 locs1 hp hmon hG1)
theorem gc5v {post : Gh → Prop} (hA : ∀ q, H0.size ≤ q → A q) (hG : gS E A Z H0 G H locs) (hr : va_Run5 p l e R s m args below meth c H locs cells slots mc ms (F0 m pc ls st0) rest (gQ E (gA G H.size) G (gpv post) aa) (gA G H.size))
    (kk : ∀ (G' : Gh) (H1 : Heap) (locs1 : List Loc), post G' → gMon G G' → gS E A Z H0 G' H1 locs1 → W p l e R s m args below meth c H1 locs1 (cells + mc) (slots + ms) Q (F0 m (pc + 5) ls (rest))) : W p l e R s m args below meth c H locs cells slots Q (F0 m pc ls st0) :=
  gcall5 hA hG hr (fun v G' H1 locs1 hp hmon hG1 => by
    obtain ⟨rfl, hp⟩ := hp
    exact kk  G' H1 locs1 hp hmon hG1)
theorem xc5v {post : Gh → Prop} {px : String → Nat → Gh → Prop} (hA : ∀ q, H0.size ≤ q → A q) (hG : gS E A Z H0 G H locs) (hr : vx_Run5 p l e R s m args below meth c H locs cells slots mc ms (F0 m pc ls st0) rest (gQ E (gA G H.size) G (gpv post) aa) (gXC E (gA G H.size) G px) (gA G H.size))
    (kx : ∀ (X : String) (ce : Cell) (q : Nat) (G' : Gh) (H1 : Heap) (locs1 : List Loc), px X q G' → gMon G G' → gS E A Z H0 G' H1 locs1 → H1[q]? = some ce → ce.vm = .none → s.vm.findClass X = some ce.cls → vx_W p l e R s m args below meth c H1 locs1 (cells + mc) (slots + ms) Q (F0 m pc ls rest) q)
    (kk : ∀ (G' : Gh) (H1 : Heap) (locs1 : List Loc), post G' → gMon G G' → gS E A Z H0 G' H1 locs1 → W p l e R s m args below meth c H1 locs1 (cells + mc) (slots + ms) Q (F0 m (pc + 5) ls (rest))) : W p l e R s m args below meth c H locs cells slots Q (F0 m pc ls st0) :=
  xcall5 hA hG hr kx (fun v G' H1 locs1 hp hmon hG1 => by
    obtain ⟨rfl, hp⟩ := hp
    exact kk  G' H1 locs1 hp hmon hG1)
theorem gc3r {post : Option Nat → Gh → Prop} (hA : ∀ q, H0.size ≤ q → A q) (hG : gS E A Z H0 G H locs) (hr : va_Run p l e R s m args below meth c H locs cells slots mc ms (F0 m pc ls st0) rest (gQ E (gA G H.size) G (gpr post) aa) (gA G H.size))
    (kk : ∀ (r : Option Nat) (G' : Gh) (H1 : Heap) (locs1 : List Loc), post r G' → gMon G G' → gS E A Z H0 G' H1 locs1 → W p l e R s m args below meth c H1 locs1 (cells + mc) (slots + ms) Q (F0 m (pc + 3) ls (va_rf r :: rest))) : W p l e R s m args below meth c H locs cells slots Q (F0 m pc ls st0) :=
  gcall3 hA hG hr (fun v G' H1 locs1 hp hmon hG1 => by
    obtain ⟨r, rfl, hp⟩ := hp
    exact kk r G' H1 locs1 hp hmon hG1)
theorem xc3r {post : Option Nat → Gh → Prop} {px : String → Nat → Gh → Prop} (hA : ∀ q, H0.size ≤ q → A q) (hG : gS E A Z H0 G H locs) (hr : vx_Run p l e R s m args below meth c H locs cells slots mc ms (F0 m pc ls st0) rest (gQ E (gA G H.size) G (gpr post) aa) (gXC E (gA G H.size) G px) (gA G H.size))
    (kx : ∀ (X : String) (ce : Cell) (q : Nat) (G' : Gh) (H1 : Heap) (locs1 : List Loc), px X q G' → gMon G G' → gS E A Z H0 G' H1 locs1 → H1[q]? = some ce → ce.vm = .none → s.vm.findClass X = some ce.cls → vx_W p l e R s m args below meth c H1 locs1 (cells + mc) (slots + ms) Q (F0 m pc ls rest) q)
    (kk : ∀ (r : Option Nat) (G' : Gh) (H1 : Heap) (locs1 : List Loc), post r G' → gMon G G' → gS E A Z H0 G' H1 locs1 → W p l e R s m args below meth c H1 locs1 (cells + mc) (slots + ms) Q (F0 m (pc + 3) ls (va_rf r :: rest))) : W p l e R s m args below meth c H locs cells slots Q (F0 m pc ls st0) :=
  xcall3 hA hG hr kx (fun v G' H1 locs1 hp hmon hG1 => by
    obtain ⟨r, rfl, hp⟩ := hp
    exact kk r G' H1 locs1 hp hmon hG1)
theorem gc5r {post : Option Nat → Gh → Prop} (hA : ∀ q, H0.size ≤ q → A q) (hG : gS E A Z H0 G H locs) (hr : va_Run5 p l e R s m args below meth c H locs cells slots mc ms (F0 m pc ls st0) rest (gQ E (gA G H.size) G (gpr post) aa) (gA G H.size))
    (kk : ∀ (r : Option Nat) (G' : Gh) (H1 : Heap) (locs1 : List Loc), post r G' → gMon G G' → gS E A Z H0 G' H1 locs1 → W p l e R s m args below meth c H1 locs1 (cells + mc) (slots + ms) Q (F0 m (pc + 5) ls (va_rf r :: rest))) : W p l e R s m args below meth c H locs cells slots Q (F0 m pc ls st0) :=
  gcall5 hA hG hr (fun v G' H1 locs1 hp hmon hG1 => by
    obtain ⟨r, rfl, hp⟩ := hp
    exact kk r G' H1 locs1 hp hmon hG1)
theorem xc5r {post : Option Nat → Gh → Prop} {px : String → Nat → Gh → Prop} (hA : ∀ q, H0.size ≤ q → A q) (hG : gS E A Z H0 G H locs) (hr : vx_Run5 p l e R s m args below meth c H locs cells slots mc ms (F0 m pc ls st0) rest (gQ E (gA G H.size) G (gpr post) aa) (gXC E (gA G H.size) G px) (gA G H.size))
    (kx : ∀ (X : String) (ce : Cell) (q : Nat) (G' : Gh) (H1 : Heap) (locs1 : List Loc), px X q G' → gMon G G' → gS E A Z H0 G' H1 locs1 → H1[q]? = some ce → ce.vm = .none → s.vm.findClass X = some ce.cls → vx_W p l e R s m args below meth c H1 locs1 (cells + mc) (slots + ms) Q (F0 m pc ls rest) q)
    (kk : ∀ (r : Option Nat) (G' : Gh) (H1 : Heap) (locs1 : List Loc), post r G' → gMon G G' → gS E A Z H0 G' H1 locs1 → W p l e R s m args below meth c H1 locs1 (cells + mc) (slots + ms) Q (F0 m (pc + 5) ls (va_rf r :: rest))) : W p l e R s m args below meth c H locs cells slots Q (F0 m pc ls st0) :=
  xcall5 hA hG hr kx (fun v G' H1 locs1 hp hmon hG1 => by
    obtain ⟨r, rfl, hp⟩ := hp
    exact kk r G' H1 locs1 hp hmon hG1)
theorem gc3d {post : UInt64 → Gh → Prop} (hA : ∀ q, H0.size ≤ q → A q) (hG : gS E A Z H0 G H locs) (hr : va_Run p l e R s m args below meth c H locs cells slots mc ms (F0 m pc ls st0) rest (gQ E (gA G H.size) G (gpd post) aa) (gA G H.size))
    (kk : ∀ (r : UInt64) (G' : Gh) (H1 : Heap) (locs1 : List Loc), post r G' → gMon G G' → gS E A Z H0 G' H1 locs1 → W p l e R s m args below meth c H1 locs1 (cells + mc) (slots + ms) Q (F0 m (pc + 3) ls (.double r :: rest))) : W p l e R s m args below meth c H locs cells slots Q (F0 m pc ls st0) :=
  gcall3 hA hG hr (fun v G' H1 locs1 hp hmon hG1 => by
    obtain ⟨r, rfl, hp⟩ := hp
    exact kk r G' H1 locs1 hp hmon hG1)
theorem xc3d {post : UInt64 → Gh → Prop} {px : String → Nat → Gh → Prop} (hA : ∀ q, H0.size ≤ q → A q) (hG : gS E A Z H0 G H locs) (hr : vx_Run p l e R s m args below meth c H locs cells slots mc ms (F0 m pc ls st0) rest (gQ E (gA G H.size) G (gpd post) aa) (gXC E (gA G H.size) G px) (gA G H.size))
    (kx : ∀ (X : String) (ce : Cell) (q : Nat) (G' : Gh) (H1 : Heap) (locs1 : List Loc), px X q G' → gMon G G' → gS E A Z H0 G' H1 locs1 → H1[q]? = some ce → ce.vm = .none → s.vm.findClass X = some ce.cls → vx_W p l e R s m args below meth c H1 locs1 (cells + mc) (slots + ms) Q (F0 m pc ls rest) q)
    (kk : ∀ (r : UInt64) (G' : Gh) (H1 : Heap) (locs1 : List Loc), post r G' → gMon G G' → gS E A Z H0 G' H1 locs1 → W p l e R s m args below meth c H1 locs1 (cells + mc) (slots + ms) Q (F0 m (pc + 3) ls (.double r :: rest))) : W p l e R s m args below meth c H locs cells slots Q (F0 m pc ls st0) :=
  xcall3 hA hG hr kx (fun v G' H1 locs1 hp hmon hG1 => by
    obtain ⟨r, rfl, hp⟩ := hp
    exact kk r G' H1 locs1 hp hmon hG1)
theorem gc5d {post : UInt64 → Gh → Prop} (hA : ∀ q, H0.size ≤ q → A q) (hG : gS E A Z H0 G H locs) (hr : va_Run5 p l e R s m args below meth c H locs cells slots mc ms (F0 m pc ls st0) rest (gQ E (gA G H.size) G (gpd post) aa) (gA G H.size))
    (kk : ∀ (r : UInt64) (G' : Gh) (H1 : Heap) (locs1 : List Loc), post r G' → gMon G G' → gS E A Z H0 G' H1 locs1 → W p l e R s m args below meth c H1 locs1 (cells + mc) (slots + ms) Q (F0 m (pc + 5) ls (.double r :: rest))) : W p l e R s m args below meth c H locs cells slots Q (F0 m pc ls st0) :=
  gcall5 hA hG hr (fun v G' H1 locs1 hp hmon hG1 => by
    obtain ⟨r, rfl, hp⟩ := hp
    exact kk r G' H1 locs1 hp hmon hG1)
theorem xc5d {post : UInt64 → Gh → Prop} {px : String → Nat → Gh → Prop} (hA : ∀ q, H0.size ≤ q → A q) (hG : gS E A Z H0 G H locs) (hr : vx_Run5 p l e R s m args below meth c H locs cells slots mc ms (F0 m pc ls st0) rest (gQ E (gA G H.size) G (gpd post) aa) (gXC E (gA G H.size) G px) (gA G H.size))
    (kx : ∀ (X : String) (ce : Cell) (q : Nat) (G' : Gh) (H1 : Heap) (locs1 : List Loc), px X q G' → gMon G G' → gS E A Z H0 G' H1 locs1 → H1[q]? = some ce → ce.vm = .none → s.vm.findClass X = some ce.cls → vx_W p l e R s m args below meth c H1 locs1 (cells + mc) (slots + ms) Q (F0 m pc ls rest) q)
    (kk : ∀ (r : UInt64) (G' : Gh) (H1 : Heap) (locs1 : List Loc), post r G' → gMon G G' → gS E A Z H0 G' H1 locs1 → W p l e R s m args below meth c H1 locs1 (cells + mc) (slots + ms) Q (F0 m (pc + 5) ls (.double r :: rest))) : W p l e R s m args below meth c H locs cells slots Q (F0 m pc ls st0) :=
  xcall5 hA hG hr kx (fun v G' H1 locs1 hp hmon hG1 => by
    obtain ⟨r, rfl, hp⟩ := hp
    exact kk r G' H1 locs1 hp hmon hG1)
theorem gc3f {post : UInt32 → Gh → Prop} (hA : ∀ q, H0.size ≤ q → A q) (hG : gS E A Z H0 G H locs) (hr : va_Run p l e R s m args below meth c H locs cells slots mc ms (F0 m pc ls st0) rest (gQ E (gA G H.size) G (gpf post) aa) (gA G H.size))
    (kk : ∀ (r : UInt32) (G' : Gh) (H1 : Heap) (locs1 : List Loc), post r G' → gMon G G' → gS E A Z H0 G' H1 locs1 → W p l e R s m args below meth c H1 locs1 (cells + mc) (slots + ms) Q (F0 m (pc + 3) ls (.float r :: rest))) : W p l e R s m args below meth c H locs cells slots Q (F0 m pc ls st0) :=
  gcall3 hA hG hr (fun v G' H1 locs1 hp hmon hG1 => by
    obtain ⟨r, rfl, hp⟩ := hp
    exact kk r G' H1 locs1 hp hmon hG1)
theorem xc3f {post : UInt32 → Gh → Prop} {px : String → Nat → Gh → Prop} (hA : ∀ q, H0.size ≤ q → A q) (hG : gS E A Z H0 G H locs) (hr : vx_Run p l e R s m args below meth c H locs cells slots mc ms (F0 m pc ls st0) rest (gQ E (gA G H.size) G (gpf post) aa) (gXC E (gA G H.size) G px) (gA G H.size))
    (kx : ∀ (X : String) (ce : Cell) (q : Nat) (G' : Gh) (H1 : Heap) (locs1 : List Loc), px X q G' → gMon G G' → gS E A Z H0 G' H1 locs1 → H1[q]? = some ce → ce.vm = .none → s.vm.findClass X = some ce.cls → vx_W p l e R s m args below meth c H1 locs1 (cells + mc) (slots + ms) Q (F0 m pc ls rest) q)
    (kk : ∀ (r : UInt32) (G' : Gh) (H1 : Heap) (locs1 : List Loc), post r G' → gMon G G' → gS E A Z H0 G' H1 locs1 → W p l e R s m args below meth c H1 locs1 (cells + mc) (slots + ms) Q (F0 m (pc + 3) ls (.float r :: rest))) : W p l e R s m args below meth c H locs cells slots Q (F0 m pc ls st0) :=
  xcall3 hA hG hr kx (fun v G' H1 locs1 hp hmon hG1 => by
    obtain ⟨r, rfl, hp⟩ := hp
    exact kk r G' H1 locs1 hp hmon hG1)
theorem gc5f {post : UInt32 → Gh → Prop} (hA : ∀ q, H0.size ≤ q → A q) (hG : gS E A Z H0 G H locs) (hr : va_Run5 p l e R s m args below meth c H locs cells slots mc ms (F0 m pc ls st0) rest (gQ E (gA G H.size) G (gpf post) aa) (gA G H.size))
    (kk : ∀ (r : UInt32) (G' : Gh) (H1 : Heap) (locs1 : List Loc), post r G' → gMon G G' → gS E A Z H0 G' H1 locs1 → W p l e R s m args below meth c H1 locs1 (cells + mc) (slots + ms) Q (F0 m (pc + 5) ls (.float r :: rest))) : W p l e R s m args below meth c H locs cells slots Q (F0 m pc ls st0) :=
  gcall5 hA hG hr (fun v G' H1 locs1 hp hmon hG1 => by
    obtain ⟨r, rfl, hp⟩ := hp
    exact kk r G' H1 locs1 hp hmon hG1)
theorem xc5f {post : UInt32 → Gh → Prop} {px : String → Nat → Gh → Prop} (hA : ∀ q, H0.size ≤ q → A q) (hG : gS E A Z H0 G H locs) (hr : vx_Run5 p l e R s m args below meth c H locs cells slots mc ms (F0 m pc ls st0) rest (gQ E (gA G H.size) G (gpf post) aa) (gXC E (gA G H.size) G px) (gA G H.size))
    (kx : ∀ (X : String) (ce : Cell) (q : Nat) (G' : Gh) (H1 : Heap) (locs1 : List Loc), px X q G' → gMon G G' → gS E A Z H0 G' H1 locs1 → H1[q]? = some ce → ce.vm = .none → s.vm.findClass X = some ce.cls → vx_W p l e R s m args below meth c H1 locs1 (cells + mc) (slots + ms) Q (F0 m pc ls rest) q)
    (kk : ∀ (r : UInt32) (G' : Gh) (H1 : Heap) (locs1 : List Loc), post r G' → gMon G G' → gS E A Z H0 G' H1 locs1 → W p l e R s m args below meth c H1 locs1 (cells + mc) (slots + ms) Q (F0 m (pc + 5) ls (.float r :: rest))) : W p l e R s m args below meth c H locs cells slots Q (F0 m pc ls st0) :=
  xcall5 hA hG hr kx (fun v G' H1 locs1 hp hmon hG1 => by
    obtain ⟨r, rfl, hp⟩ := hp
    exact kk r G' H1 locs1 hp hmon hG1)
theorem gof {y : MethodName} {maxL : Nat} {ret : Option FieldType} {rm : Room} {av : List Value} {post : Option Value → Gh → Prop} (hy : plainName y.cls = true) (hlen : (lg_sl av).length ≤ maxL)
    (body : ∀ (p : Program) (e : Env) (s : State) (m : MethodId) (below : List Frame) (meth : Method) (c : Code) (A : Nat → Prop) (ls : Array Slot), p.tables.exec = Jvm.exec → c.code = cc → meth.sig.returnType = ret → meth.locks = false → c.maxLocals = maxL → s.vm.findClass y.cls = some m.cls → (s.methodNamed? y = some m ∧ meth.name = y.name) → (∀ w ∈ lw_all, w.before av.toArray s = true) → gPF E A s → (∀ q, s.heap.size ≤ q → A q) → gS E A G s.heap G s.heap [] → lv_has ls maxL (lv_args 0 av) →
      W p l e (headSpec (ws_ y cc maxL ret) rm).room s m av.toArray below meth c s.heap [] 0 0 (MQ below (gQ E A G post) av.toArray s mc ms A) (F0 m 0 ls [])) : gM l E y (ws_ y cc maxL ret) rm mc ms av G post := by
  intro sz
  refine Met.ofW (cc := cc) (maxL := maxL) (ret := ret) hy rfl ?_
  intro p e s m args below meth c s₁ B hml hv
  obtain ⟨rfl, hsz, hP, hPF⟩ := hv
  have hts := atoms_spec (ws := (ws_ y cc maxL ret)) B.pre
  have hl := lv_entry av (n := maxL) hlen
  rw [lg_entry_eq]
  subst hsz
  refine body p e s m below meth c _ _ B.exec B.bytes B.returns B.notSynchronized hml (findClass_of_methodNamed B.named) ⟨B.named, (name_of_methodNamed B.named B.method).1⟩ (fun w h => hts w (List.mem_cons_of_mem _ h)) hPF (fun q h => Or.inr h) ⟨⟨fun a ha => ⟨hP a ha, fun h => Or.inl ⟨ha, h⟩, fun h => h⟩, gMon.rf⟩, va_S.rf⟩ hl
theorem xof {y : MethodName} {maxL : Nat} {ret : Option FieldType} {rm : Room} {av : List Value} {post : Option Value → Gh → Prop} {px : String → Nat → Gh → Prop} (hy : plainName y.cls = true) (hlen : (lg_sl av).length ≤ maxL)
    (body : ∀ (p : Program) (e : Env) (s : State) (m : MethodId) (below : List Frame) (meth : Method) (c : Code) (A : Nat → Prop) (ls : Array Slot), p.tables.exec = Jvm.exec → c.code = cc → meth.sig.returnType = ret → meth.locks = false → c.maxLocals = maxL → s.vm.findClass y.cls = some m.cls → (s.methodNamed? y = some m ∧ meth.name = y.name) → (∀ w ∈ lw_all, w.before av.toArray s = true) → gPF E A s → (∀ q, s.heap.size ≤ q → A q) → (∀ x ∈ c.exceptionTable.toList, False) → gS E A G s.heap G s.heap [] → lv_has ls maxL (lv_args 0 av) →
      W p l e (headSpec (ws_ y cc maxL ret) rm).room s m av.toArray below meth c s.heap [] 0 0 (vx_MQ below (gQ E A G post) (gXC E A G px) av.toArray s mc ms A) (F0 m 0 ls [])) : gX l E y (ws_ y cc maxL ret) rm mc ms av G post px := by
  intro sz
  refine vx_ofW (cc := cc) (maxL := maxL) (ret := ret) hy rfl ?_
  intro p e s m args below meth c s₁ B hml ht hv
  obtain ⟨rfl, hsz, hP, hPF⟩ := hv
  have hts := atoms_spec (ws := (ws_ y cc maxL ret)) B.pre
  have hl := lv_entry av (n := maxL) hlen
  rw [lg_entry_eq]
  subst hsz
  refine body p e s m below meth c _ _ B.exec B.bytes B.returns B.notSynchronized hml (findClass_of_methodNamed B.named) ⟨B.named, (name_of_methodNamed B.named B.method).1⟩ (fun w h => hts w (List.mem_cons_of_mem _ h)) hPF (fun q h => Or.inr h) ht ⟨⟨fun a ha => ⟨hP a ha, fun h => Or.inl ⟨ha, h⟩, fun h => h⟩, gMon.rf⟩, va_S.rf⟩ hl
theorem xofH {y : MethodName} {maxL : Nat} {ret : Option FieldType} {rm : Room} {hh : List (Nat × Nat × Nat × Nat)} {av : List Value} {post : Option Value → Gh → Prop} {px : String → Nat → Gh → Prop} (hy : plainName y.cls = true) (hlen : (lg_sl av).length ≤ maxL)
    (body : ∀ (p : Program) (e : Env) (s : State) (m : MethodId) (below : List Frame) (meth : Method) (c : Code) (A : Nat → Prop) (ls : Array Slot), p.tables.exec = Jvm.exec → c.code = cc → meth.sig.returnType = ret → meth.locks = false → c.maxLocals = maxL → s.vm.findClass y.cls = some m.cls → (s.methodNamed? y = some m ∧ meth.name = y.name) → (∀ w ∈ lw_all, w.before av.toArray s = true) → gPF E A s → (∀ q, s.heap.size ≤ q → A q) → c.exceptionTable.toList = tableOf hh → gS E A G s.heap G s.heap [] → lv_has ls maxL (lv_args 0 av) →
      W p l e (headSpec (wsW_ y cc maxL ret hh) rm).room s m av.toArray below meth c s.heap [] 0 0 (vx_MQ below (gQ E A G post) (gXC E A G px) av.toArray s mc ms A) (F0 m 0 ls [])) : gX l E y (wsW_ y cc maxL ret hh) rm mc ms av G post px := by
  intro sz
  refine vx_ofWH (cc := cc) (maxL := maxL) (ret := ret) (hh := hh) hy rfl ?_
  intro p e s m args below meth c s₁ B hml hv
  obtain ⟨rfl, hsz, hP, hPF⟩ := hv
  have hts := atoms_spec (ws := (wsW_ y cc maxL ret hh)) B.pre
  have hl := lv_entry av (n := maxL) hlen
  rw [lg_entry_eq]
  subst hsz
  refine body p e s m below meth c _ _ B.exec B.bytes B.returns B.notSynchronized hml (findClass_of_methodNamed B.named) ⟨B.named, (name_of_methodNamed B.named B.method).1⟩ (fun w h => hts w (List.mem_cons_of_mem _ h)) hPF (fun q h => Or.inr h) (vx_table (x := y) (y := y) B (hts _ List.mem_cons_self)) ⟨⟨fun a ha => ⟨hP a ha, fun h => Or.inl ⟨ha, h⟩, fun h => h⟩, gMon.rf⟩, va_S.rf⟩ hl
theorem greti {post : Int32 → Gh → Prop} {v : Int32} {ty : FieldType} (hexec : p.tables.exec = Jvm.exec) (hb : c.code = cc) (hr : meth.sig.returnType = some ty) (hlk : meth.locks = false) (hG : gS E A Z s.heap G H locs) (hn : narrow ty (.int v) = .int v) (hw : post v G) (hc : cells ≤ mc) (hs : slots ≤ ms) (hdg : decode cc pc = .ok (.ireturn, 1)) :
    W p l e R s m args below meth c H locs cells slots (MQ below (gQ E A Z (gpi post)) args s mc ms A) (F0 m pc ls [.int v]) :=
  W.widen hc hs (W.zret hexec hb hr hn (fun t ht hW => ⟨⟨(some (.int v)), G, rfl, ⟨v, rfl, hw⟩, ⟨fun b hb => by rw [ht]; exact hG.1.1 b hb, hG.1.2⟩⟩, hG.2.F ht⟩) hG.2.2.2 hdg hlk)
theorem xreti {post : Int32 → Gh → Prop} {px : String → Nat → Gh → Prop} {v : Int32} {ty : FieldType} (hexec : p.tables.exec = Jvm.exec) (hb : c.code = cc) (hr : meth.sig.returnType = some ty) (hlk : meth.locks = false) (hG : gS E A Z s.heap G H locs) (hn : narrow ty (.int v) = .int v) (hw : post v G) (hc : cells ≤ mc) (hs : slots ≤ ms) (hdg : decode cc pc = .ok (.ireturn, 1)) :
    W p l e R s m args below meth c H locs cells slots (vx_MQ below (gQ E A Z (gpi post)) (gXC E A Z px) args s mc ms A) (F0 m pc ls [.int v]) :=
  vx_ret (greti hexec hb hr hlk hG hn hw hc hs hdg)
theorem gretv {post : Gh → Prop} (hexec : p.tables.exec = Jvm.exec) (hb : c.code = cc) (hr : meth.sig.returnType = none) (hlk : meth.locks = false) (hG : gS E A Z s.heap G H locs) (hw : post G) (hc : cells ≤ mc) (hs : slots ≤ ms) (hdg : decode cc pc = .ok (.return_, 1)) :
    W p l e R s m args below meth c H locs cells slots (MQ below (gQ E A Z (gpv post)) args s mc ms A) (F0 m pc ls []) :=
  W.widen hc hs (W.vret hexec hb hr (fun t ht hW => ⟨⟨none, G, rfl, ⟨rfl, hw⟩, ⟨fun b hb => by rw [ht]; exact hG.1.1 b hb, hG.1.2⟩⟩, hG.2.F ht⟩) hG.2.2.2 hdg hlk)
theorem xretv {post : Gh → Prop} {px : String → Nat → Gh → Prop} (hexec : p.tables.exec = Jvm.exec) (hb : c.code = cc) (hr : meth.sig.returnType = none) (hlk : meth.locks = false) (hG : gS E A Z s.heap G H locs) (hw : post G) (hc : cells ≤ mc) (hs : slots ≤ ms) (hdg : decode cc pc = .ok (.return_, 1)) :
    W p l e R s m args below meth c H locs cells slots (vx_MQ below (gQ E A Z (gpv post)) (gXC E A Z px) args s mc ms A) (F0 m pc ls []) :=
  vx_ret (gretv hexec hb hr hlk hG hw hc hs hdg)
theorem gretr {post : Option Nat → Gh → Prop} {v : Option Nat} {ty : FieldType} (hexec : p.tables.exec = Jvm.exec) (hb : c.code = cc) (hr : meth.sig.returnType = some ty) (hlk : meth.locks = false) (hG : gS E A Z s.heap G H locs) (hrt : (∃ n, ty = .object n) ∨ ∃ t, ty = .array t) (hw : post v G) (hc : cells ≤ mc) (hs : slots ≤ ms) (hdg : decode cc pc = .ok (.areturn, 1)) :
    W p l e R s m args below meth c H locs cells slots (MQ below (gQ E A Z (gpr post)) args s mc ms A) (F0 m pc ls [va_rf v]) :=
  W.widen hc hs (W.aret hexec hb hr hrt (by cases v with | none => exact Or.inl rfl | some a => exact Or.inr ⟨a, rfl⟩) (fun t ht hW => ⟨⟨(some (va_rf v)), G, rfl, ⟨v, rfl, hw⟩, ⟨fun b hb => by rw [ht]; exact hG.1.1 b hb, hG.1.2⟩⟩, hG.2.F ht⟩) hG.2.2.2 hdg hlk)
theorem xretr {post : Option Nat → Gh → Prop} {px : String → Nat → Gh → Prop} {v : Option Nat} {ty : FieldType} (hexec : p.tables.exec = Jvm.exec) (hb : c.code = cc) (hr : meth.sig.returnType = some ty) (hlk : meth.locks = false) (hG : gS E A Z s.heap G H locs) (hrt : (∃ n, ty = .object n) ∨ ∃ t, ty = .array t) (hw : post v G) (hc : cells ≤ mc) (hs : slots ≤ ms) (hdg : decode cc pc = .ok (.areturn, 1)) :
    W p l e R s m args below meth c H locs cells slots (vx_MQ below (gQ E A Z (gpr post)) (gXC E A Z px) args s mc ms A) (F0 m pc ls [va_rf v]) :=
  vx_ret (gretr hexec hb hr hlk hG hrt hw hc hs hdg)
theorem gretd {post : UInt64 → Gh → Prop} {v : UInt64} (hexec : p.tables.exec = Jvm.exec) (hb : c.code = cc) (hr : meth.sig.returnType = some .double) (hlk : meth.locks = false) (hG : gS E A Z s.heap G H locs) (hw : post v G) (hc : cells ≤ mc) (hs : slots ≤ ms) (hdg : decode cc pc = .ok (.dreturn, 1)) :
    W p l e R s m args below meth c H locs cells slots (MQ below (gQ E A Z (gpd post)) args s mc ms A) (F0 m pc ls [.double v]) :=
  W.widen hc hs (W.dret hexec hb hr (fun t ht hW => ⟨⟨(some (.double v)), G, rfl, ⟨v, rfl, hw⟩, ⟨fun b hb => by rw [ht]; exact hG.1.1 b hb, hG.1.2⟩⟩, hG.2.F ht⟩) hG.2.2.2 hdg hlk)
theorem xretd {post : UInt64 → Gh → Prop} {px : String → Nat → Gh → Prop} {v : UInt64} (hexec : p.tables.exec = Jvm.exec) (hb : c.code = cc) (hr : meth.sig.returnType = some .double) (hlk : meth.locks = false) (hG : gS E A Z s.heap G H locs) (hw : post v G) (hc : cells ≤ mc) (hs : slots ≤ ms) (hdg : decode cc pc = .ok (.dreturn, 1)) :
    W p l e R s m args below meth c H locs cells slots (vx_MQ below (gQ E A Z (gpd post)) (gXC E A Z px) args s mc ms A) (F0 m pc ls [.double v]) :=
  vx_ret (gretd hexec hb hr hlk hG hw hc hs hdg)
theorem gretf {post : UInt32 → Gh → Prop} {v : UInt32} (hexec : p.tables.exec = Jvm.exec) (hb : c.code = cc) (hr : meth.sig.returnType = some .float) (hlk : meth.locks = false) (hG : gS E A Z s.heap G H locs) (hw : post v G) (hc : cells ≤ mc) (hs : slots ≤ ms) (hdg : decode cc pc = .ok (.freturn, 1)) :
    W p l e R s m args below meth c H locs cells slots (MQ below (gQ E A Z (gpf post)) args s mc ms A) (F0 m pc ls [.float v]) :=
  W.widen hc hs (W.fret hexec hb hr (fun t ht hW => ⟨⟨(some (.float v)), G, rfl, ⟨v, rfl, hw⟩, ⟨fun b hb => by rw [ht]; exact hG.1.1 b hb, hG.1.2⟩⟩, hG.2.F ht⟩) hG.2.2.2 hdg hlk)
theorem xretf {post : UInt32 → Gh → Prop} {px : String → Nat → Gh → Prop} {v : UInt32} (hexec : p.tables.exec = Jvm.exec) (hb : c.code = cc) (hr : meth.sig.returnType = some .float) (hlk : meth.locks = false) (hG : gS E A Z s.heap G H locs) (hw : post v G) (hc : cells ≤ mc) (hs : slots ≤ ms) (hdg : decode cc pc = .ok (.freturn, 1)) :
    W p l e R s m args below meth c H locs cells slots (vx_MQ below (gQ E A Z (gpf post)) (gXC E A Z px) args s mc ms A) (F0 m pc ls [.float v]) :=
  vx_ret (gretf hexec hb hr hlk hG hw hc hs hdg)
theorem gleave {post : Option Value → Gh → Prop} {px : String → Nat → Gh → Prop} {X : String} {ce : Cell} {q : Addr} (hlk : meth.locks = false) (hG : gS E A Z s.heap G H locs) (hout : ∀ x ∈ c.exceptionTable.toList, covers x pc = false) (hcell : H[q]? = some ce) (hv : ce.vm = .none) (hcl : s.vm.findClass X = some ce.cls) (hw : px X q G) (hc : cells ≤ mc) (hs : slots ≤ ms) :
    vx_W p l e R s m args below meth c H locs cells slots (vx_MQ below (gQ E A Z post) (gXC E A Z px) args s mc ms A) (F0 m pc ls rest) q :=
  vx_out hout hlk hcell hv hcl (fun t ht hW => ⟨⟨G, hw, ⟨fun b hb => by rw [ht]; exact hG.1.1 b hb, hG.1.2⟩⟩, hG.2.F ht⟩) hG.2.2.2 hc hs
/-- an object is made -/
theorem gnew {c0 : Code} (hexec : p.tables.exec = Jvm.exec) (hb : c0.code = cc) {C : String} {T : u_T} {N ci index n : Nat} (hts : ∀ w ∈ lw_all, w.before args s = true) (hin : ∀ w ∈ u_ws C T N, w ∈ lw_all) (ty : Nat → FieldType) (hty : ∀ k, k < N → parseFieldDescriptor (T k).2.2.1 = some (ty k)) (hown : s.vm.findClass own = some m.cls) (hcl : Cond.classLink own index C ∈ lw_all) (hinst : Cond.instantiable C n ∈ lw_all) (hini : Cond.initialized C ∈ lw_all)
    (hPF : gPF E A s) (hG : gS E A Z H0 G H locs) (hA : ∀ q, H0.size ≤ q → A q) (hc : gCl[ci]? = some (C, T, N)) (h0 : ci ≠ 0) (h30 : ci < 30) (hfs : ∀ j, j < N → defaultValue (ty j) = vp_V (gFs ci (fun _ => 0) (fun _ => none)) j) (hcells : cells + 1 ≤ R.cells) (hslots : slots + n ≤ R.slots) (hdg : decode cc pc = .ok (.new index, 3))
    (kk : ∀ (q : Nat) (H1 : Heap), gK G q = 0 → gS E A Z H0 (gN G q ci 0) H1 locs → W p l e R s m args below meth c0 H1 locs (cells + 1) (slots + n) Q (F0 m (pc + 3) ls (.ref q :: rest))) : W p l e R s m args below meth c0 H locs cells slots Q (F0 m pc ls rest) := by
  have hKn := hPF.K.1 ci _ hc
  refine W.newcK hexec hb hown (hts _ hcl) (hts _ hinst) (hts _ hini) rfl hdg hcells hslots hKn.2.1 rfl fun H1 kC hkC e1 z1 o1 => ?_
  obtain ⟨g1, g2⟩ := gS_new (κ := ci) (n := 0) hG hA (by omega) (H1 := H1) (by
    have hk : gC (gN G H.size ci 0) H.size = ci := by
      show va_up (gK G) H.size ci H.size % 1000 = ci
      rw [va_up_self]; omega
    unfold gat
    rw [if_pos (by omega)]
    unfold gEn
    rw [hk]
    have hI : gI (gN G H.size ci 0) H.size = fun _ => 0 := va_up_self _ _ _
    have hR : gR (gN G H.size ci 0) H.size = fun _ => none := va_up_self _ _ _
    rw [hI, hR]
    have hfin : va_at (eD E) gCl (H.size, .inr (ci, gFs ci (fun _ => 0) (fun _ => none))) H1 := ⟨_, hc, (u_born ty hts hin hKn hkC e1 hty).to hfs⟩
    split <;> first | omega | exact hfin) z1 o1
  exact kk H.size H1 g1 g2
theorem gnai (hexec : p.tables.exec = Jvm.exec) (hb : c.code = cc) (hts : ∀ w ∈ lw_all, w.before args s = true) (harr : Cond.arrayClass .int ∈ lw_all) (hPF : gPF E A s) (hG : gS E A Z H0 G H locs) (hA : ∀ q, H0.size ≤ q → A q) {n : Int32} (hn : ¬ n < 0) {N : Nat} (hN : n.toNatClampNeg = N) (B : Nat) (hB : N ≤ B) (hBB : B ≤ 65536) (hcells : cells + 1 ≤ R.cells) (hslots : slots + B ≤ R.slots) (hdg : decode cc pc = .ok (.newarray .int, 2))
    (kk : ∀ (q : Nat) (H1 : Heap), gK G q = 0 → gS E A Z H0 (gN G q 30 N) H1 locs → W p l e R s m args below meth c H1 locs (cells + 1) (slots + B) Q (F0 m (pc + 2) ls (.ref q :: rest))) : W p l e R s m args below meth c H locs cells slots Q (F0 m pc ls (.int n :: rest)) := by
  refine va_newaK hexec hb (atype := .int) (hts _ harr) rfl hdg rfl hn hN (Nat.le_trans (Nat.mul_le_mul_right _ (Nat.le_trans hB hBB)) (Nat.le_of_ble_eq_true rfl)) hcells (Nat.le_trans (Nat.add_le_add_left hB _) hslots) rfl fun H1 cA e1 z1 o1 hAr hNm => ?_
  have hca : cA = eA E 0 := Option.some.inj (hNm.symm.trans (hPF.K.2 0 _ rfl).2)
  subst hca
  obtain ⟨g1, g2⟩ := gS_new (κ := 30) (n := N) hG hA (by omega) (H1 := H1) (by
    have hk : gC (gN G H.size 30 N) H.size = 30 := by
      show va_up (gK G) H.size 30 H.size % 1000 = 30
      rw [va_up_self]
    unfold gat
    rw [if_pos (by omega)]
    unfold gEn
    rw [hk]
    have hL : gL (gN G H.size 30 N) H.size = N := va_up_self _ _ _
    have hI : gI (gN G H.size 30 N) H.size = fun _ => 0 := va_up_self _ _ _
    have hJ : gJ (gN G H.size 30 N) H.size = fun _ => 0 := va_up_self _ _ _
    have hD : gD (gN G H.size 30 N) H.size = fun _ => 0 := va_up_self _ _ _
    show H1[H.size]? = some (vp_cell _ _)
    rw [hL]
    first | rw [hI] | rw [hJ] | rw [hD]
    exact e1) z1 o1
  exact W.widen (Nat.le_refl _) (Nat.add_le_add_left hB _) (kk H.size H1 g1 g2)
theorem gnac (hexec : p.tables.exec = Jvm.exec) (hb : c.code = cc) (hts : ∀ w ∈ lw_all, w.before args s = true) (harr : Cond.arrayClass .char ∈ lw_all) (hPF : gPF E A s) (hG : gS E A Z H0 G H locs) (hA : ∀ q, H0.size ≤ q → A q) {n : Int32} (hn : ¬ n < 0) {N : Nat} (hN : n.toNatClampNeg = N) (B : Nat) (hB : N ≤ B) (hBB : B ≤ 65536) (hcells : cells + 1 ≤ R.cells) (hslots : slots + B ≤ R.slots) (hdg : decode cc pc = .ok (.newarray .char, 2))
    (kk : ∀ (q : Nat) (H1 : Heap), gK G q = 0 → gS E A Z H0 (gN G q 31 N) H1 locs → W p l e R s m args below meth c H1 locs (cells + 1) (slots + B) Q (F0 m (pc + 2) ls (.ref q :: rest))) : W p l e R s m args below meth c H locs cells slots Q (F0 m pc ls (.int n :: rest)) := by
  refine va_newaK hexec hb (atype := .char) (hts _ harr) rfl hdg rfl hn hN (Nat.le_trans (Nat.mul_le_mul_right _ (Nat.le_trans hB hBB)) (Nat.le_of_ble_eq_true rfl)) hcells (Nat.le_trans (Nat.add_le_add_left hB _) hslots) rfl fun H1 cA e1 z1 o1 hAr hNm => ?_
  have hca : cA = eA E 1 := Option.some.inj (hNm.symm.trans (hPF.K.2 1 _ rfl).2)
  subst hca
  obtain ⟨g1, g2⟩ := gS_new (κ := 31) (n := N) hG hA (by omega) (H1 := H1) (by
    have hk : gC (gN G H.size 31 N) H.size = 31 := by
      show va_up (gK G) H.size 31 H.size % 1000 = 31
      rw [va_up_self]
    unfold gat
    rw [if_pos (by omega)]
    unfold gEn
    rw [hk]
    have hL : gL (gN G H.size 31 N) H.size = N := va_up_self _ _ _
    have hI : gI (gN G H.size 31 N) H.size = fun _ => 0 := va_up_self _ _ _
    have hJ : gJ (gN G H.size 31 N) H.size = fun _ => 0 := va_up_self _ _ _
    have hD : gD (gN G H.size 31 N) H.size = fun _ => 0 := va_up_self _ _ _
    show H1[H.size]? = some (vp_cell _ _)
    rw [hL]
    first | rw [hI] | rw [hJ] | rw [hD]
    exact e1) z1 o1
  exact W.widen (Nat.le_refl _) (Nat.add_le_add_left hB _) (kk H.size H1 g1 g2)
theorem gnab (hexec : p.tables.exec = Jvm.exec) (hb : c.code = cc) (hts : ∀ w ∈ lw_all, w.before args s = true) (harr : Cond.arrayClass .byte ∈ lw_all) (hPF : gPF E A s) (hG : gS E A Z H0 G H locs) (hA : ∀ q, H0.size ≤ q → A q) {n : Int32} (hn : ¬ n < 0) {N : Nat} (hN : n.toNatClampNeg = N) (B : Nat) (hB : N ≤ B) (hBB : B ≤ 65536) (hcells : cells + 1 ≤ R.cells) (hslots : slots + B ≤ R.slots) (hdg : decode cc pc = .ok (.newarray .byte, 2))
    (kk : ∀ (q : Nat) (H1 : Heap), gK G q = 0 → gS E A Z H0 (gN G q 32 N) H1 locs → W p l e R s m args below meth c H1 locs (cells + 1) (slots + B) Q (F0 m (pc + 2) ls (.ref q :: rest))) : W p l e R s m args below meth c H locs cells slots Q (F0 m pc ls (.int n :: rest)) := by
  refine va_newaK hexec hb (atype := .byte) (hts _ harr) rfl hdg rfl hn hN (Nat.le_trans (Nat.mul_le_mul_right _ (Nat.le_trans hB hBB)) (Nat.le_of_ble_eq_true rfl)) hcells (Nat.le_trans (Nat.add_le_add_left hB _) hslots) rfl fun H1 cA e1 z1 o1 hAr hNm => ?_
  have hca : cA = eA E 2 := Option.some.inj (hNm.symm.trans (hPF.K.2 2 _ rfl).2)
  subst hca
  obtain ⟨g1, g2⟩ := gS_new (κ := 32) (n := N) hG hA (by omega) (H1 := H1) (by
    have hk : gC (gN G H.size 32 N) H.size = 32 := by
      show va_up (gK G) H.size 32 H.size % 1000 = 32
      rw [va_up_self]
    unfold gat
    rw [if_pos (by omega)]
    unfold gEn
    rw [hk]
    have hL : gL (gN G H.size 32 N) H.size = N := va_up_self _ _ _
    have hI : gI (gN G H.size 32 N) H.size = fun _ => 0 := va_up_self _ _ _
    have hJ : gJ (gN G H.size 32 N) H.size = fun _ => 0 := va_up_self _ _ _
    have hD : gD (gN G H.size 32 N) H.size = fun _ => 0 := va_up_self _ _ _
    show H1[H.size]? = some (vp_cell _ _)
    rw [hL]
    first | rw [hI] | rw [hJ] | rw [hD]
    exact e1) z1 o1
  exact W.widen (Nat.le_refl _) (Nat.add_le_add_left hB _) (kk H.size H1 g1 g2)
theorem gnal (hexec : p.tables.exec = Jvm.exec) (hb : c.code = cc) (hts : ∀ w ∈ lw_all, w.before args s = true) (harr : Cond.arrayClass .long ∈ lw_all) (hPF : gPF E A s) (hG : gS E A Z H0 G H locs) (hA : ∀ q, H0.size ≤ q → A q) {n : Int32} (hn : ¬ n < 0) {N : Nat} (hN : n.toNatClampNeg = N) (B : Nat) (hB : N ≤ B) (hBB : B ≤ 65536) (hcells : cells + 1 ≤ R.cells) (hslots : slots + B ≤ R.slots) (hdg : decode cc pc = .ok (.newarray .long, 2))
    (kk : ∀ (q : Nat) (H1 : Heap), gK G q = 0 → gS E A Z H0 (gN G q 33 N) H1 locs → W p l e R s m args below meth c H1 locs (cells + 1) (slots + B) Q (F0 m (pc + 2) ls (.ref q :: rest))) : W p l e R s m args below meth c H locs cells slots Q (F0 m pc ls (.int n :: rest)) := by
  refine va_newaK hexec hb (atype := .long) (hts _ harr) rfl hdg rfl hn hN (Nat.le_trans (Nat.mul_le_mul_right _ (Nat.le_trans hB hBB)) (Nat.le_of_ble_eq_true rfl)) hcells (Nat.le_trans (Nat.add_le_add_left hB _) hslots) rfl fun H1 cA e1 z1 o1 hAr hNm => ?_
  have hca : cA = eA E 3 := Option.some.inj (hNm.symm.trans (hPF.K.2 3 _ rfl).2)
  subst hca
  obtain ⟨g1, g2⟩ := gS_new (κ := 33) (n := N) hG hA (by omega) (H1 := H1) (by
    have hk : gC (gN G H.size 33 N) H.size = 33 := by
      show va_up (gK G) H.size 33 H.size % 1000 = 33
      rw [va_up_self]
    unfold gat
    rw [if_pos (by omega)]
    unfold gEn
    rw [hk]
    have hL : gL (gN G H.size 33 N) H.size = N := va_up_self _ _ _
    have hI : gI (gN G H.size 33 N) H.size = fun _ => 0 := va_up_self _ _ _
    have hJ : gJ (gN G H.size 33 N) H.size = fun _ => 0 := va_up_self _ _ _
    have hD : gD (gN G H.size 33 N) H.size = fun _ => 0 := va_up_self _ _ _
    show H1[H.size]? = some (vp_cell _ _)
    rw [hL]
    first | rw [hI] | rw [hJ] | rw [hD]
    exact e1) z1 o1
  exact W.widen (Nat.le_refl _) (Nat.add_le_add_left hB _) (kk H.size H1 g1 g2)
theorem gnad (hexec : p.tables.exec = Jvm.exec) (hb : c.code = cc) (hts : ∀ w ∈ lw_all, w.before args s = true) (harr : Cond.arrayClass .double ∈ lw_all) (hPF : gPF E A s) (hG : gS E A Z H0 G H locs) (hA : ∀ q, H0.size ≤ q → A q) {n : Int32} (hn : ¬ n < 0) {N : Nat} (hN : n.toNatClampNeg = N) (B : Nat) (hB : N ≤ B) (hBB : B ≤ 65536) (hcells : cells + 1 ≤ R.cells) (hslots : slots + B ≤ R.slots) (hdg : decode cc pc = .ok (.newarray .double, 2))
    (kk : ∀ (q : Nat) (H1 : Heap), gK G q = 0 → gS E A Z H0 (gN G q 34 N) H1 locs → W p l e R s m args below meth c H1 locs (cells + 1) (slots + B) Q (F0 m (pc + 2) ls (.ref q :: rest))) : W p l e R s m args below meth c H locs cells slots Q (F0 m pc ls (.int n :: rest)) := by
  refine va_newaK hexec hb (atype := .double) (hts _ harr) rfl hdg rfl hn hN (Nat.le_trans (Nat.mul_le_mul_right _ (Nat.le_trans hB hBB)) (Nat.le_of_ble_eq_true rfl)) hcells (Nat.le_trans (Nat.add_le_add_left hB _) hslots) rfl fun H1 cA e1 z1 o1 hAr hNm => ?_
  have hca : cA = eA E 4 := Option.some.inj (hNm.symm.trans (hPF.K.2 4 _ rfl).2)
  subst hca
  obtain ⟨g1, g2⟩ := gS_new (κ := 34) (n := N) hG hA (by omega) (H1 := H1) (by
    have hk : gC (gN G H.size 34 N) H.size = 34 := by
      show va_up (gK G) H.size 34 H.size % 1000 = 34
      rw [va_up_self]
    unfold gat
    rw [if_pos (by omega)]
    unfold gEn
    rw [hk]
    have hL : gL (gN G H.size 34 N) H.size = N := va_up_self _ _ _
    have hI : gI (gN G H.size 34 N) H.size = fun _ => 0 := va_up_self _ _ _
    have hJ : gJ (gN G H.size 34 N) H.size = fun _ => 0 := va_up_self _ _ _
    have hD : gD (gN G H.size 34 N) H.size = fun _ => 0 := va_up_self _ _ _
    show H1[H.size]? = some (vp_cell _ _)
    rw [hL]
    first | rw [hI] | rw [hJ] | rw [hD]
    exact e1) z1 o1
  exact W.widen (Nat.le_refl _) (Nat.add_le_add_left hB _) (kk H.size H1 g1 g2)
theorem gnaq (hexec : p.tables.exec = Jvm.exec) (hb : c.code = cc) (hts : ∀ w ∈ lw_all, w.before args s = true) (hown : s.vm.findClass own = some m.cls) {index : Nat} (hcl : Cond.classLink own index "java/lang/Object" ∈ lw_all) (hPF : gPF E A s) (hG : gS E A Z H0 G H locs) (hA : ∀ q, H0.size ≤ q → A q) {n : Int32} (hn : ¬ n < 0) {N : Nat} (hN : n.toNatClampNeg = N) (B : Nat) (hB : N ≤ B) (hBB : B ≤ 65536) (hcells : cells + 1 ≤ R.cells) (hslots : slots + B ≤ R.slots) (hdg : decode cc pc = .ok (.anewarray index, 3))
    (kk : ∀ (q : Nat) (H1 : Heap), gK G q = 0 → gS E A Z H0 (gN G q 35 N) H1 locs → W p l e R s m args below meth c H1 locs (cells + 1) (slots + B) Q (F0 m (pc + 3) ls (.ref q :: rest))) : W p l e R s m args below meth c H locs cells slots Q (F0 m pc ls (.int n :: rest)) := by
  subst hN
  refine W.anew hexec hb hown (hts _ hcl) (va_AO.use hPF.o) rfl hdg rfl hn (by omega) hcells (Nat.le_trans (Nat.add_le_add_left hB _) hslots) fun cA kA comp f1 f2 f3 f4 => ?_
  have hca : cA = eA E 5 := by
    obtain ⟨kA', comp', h1, h2, h3, h4⟩ := (hPF.K.2 5 _ rfl).2
    exact Option.some.inj (f1.symm.trans h4)
  subst hca
  generalize hH1 : H.push ({ cls := eA E 5, slots := Array.replicate n.toNatClampNeg .null, vm := .none } : Cell) = H1
  have z1 : H1.size = H.size + 1 := by rw [← hH1, Array.size_push]
  have e1 : H1[H.size]? = some (arrV (eA E 5) n.toNatClampNeg (fun _ => .null)) := by rw [← hH1, Array.getElem?_push_size, ← arrV_new]
  have o1 : ∀ q : Nat, q < H.size → H1[q]? = H[q]? := fun q hq => by rw [← hH1, Array.getElem?_push, if_neg (Nat.ne_of_lt hq)]
  obtain ⟨g1, g2⟩ := gS_new (κ := 35) (n := n.toNatClampNeg) hG hA (by omega) (H1 := H1) (by
    have hk : gC (gN G H.size 35 n.toNatClampNeg) H.size = 35 := by
      show va_up (gK G) H.size 35 H.size % 1000 = 35
      rw [va_up_self]
    unfold gat
    rw [if_pos (by omega)]
    unfold gEn
    rw [hk]
    have hL : gL (gN G H.size 35 n.toNatClampNeg) H.size = n.toNatClampNeg := va_up_self _ _ _
    have hR : gR (gN G H.size 35 n.toNatClampNeg) H.size = fun _ => none := va_up_self _ _ _
    show H1[H.size]? = some (vp_cell _ _)
    rw [hL, hR]
    exact e1) z1 o1
  exact W.widen (Nat.le_refl _) (Nat.add_le_add_left hB _) (kk H.size H1 g1 g2)
/-- what may be kept in an array of objects -/
def gOk (G : Gh) (v : Nat) : Prop := gC G v = 2 ∨ gC G v = 4 ∨ gC G v = 5 ∨ gC G v = 7 ∨ gC G v = 8 ∨ (40 ≤ gC G v ∧ gC G v < 70)
theorem gAny_c (hPF : gPF E A s) (hG : gS E A Z H0 G H locs) {ci : Nat} (ha : gC G a = ci) (h0 : ci ≠ 0) (h30 : ci < 30) {q : vw_C} (hc : gCl[ci]? = some q) (hw : Cond.castable q.1 "java/lang/Object" ∈ lw_tbl) : va_Any "java/lang/Object" s H a :=
  va_rAny hPF.K (gS_one hG ha h0 h30) (q0 := 0) rfl hc (fun comp c0 h1 h2 => by
    obtain ⟨c3, c4, g1, g2, g3⟩ := Cond.castable_spec (va_Nw.use (A := #[]) rfl (hPF.w hw rfl))
    rw [h1] at g2; rw [h2] at g1
    cases g1; cases g2
    exact g3)
theorem gSup {vm : Vm} {c o : ClassId} {k ko : Class} (hk : vm.classes[c]? = some k) (hkind : k.kind = .ordinary) (hs : k.super = some o) (hko : vm.classes[o]? = some ko) (hkk : ko.kind = .ordinary) (hni : ko.isInterface = false) : vm.assignable c o = true := by
  obtain ⟨n, hn⟩ : ∃ n, vm.classes.size = n + 1 := ⟨vm.classes.size - 1, by have := (Array.getElem?_eq_some_iff.mp hk).1; omega⟩
  have h2 : vm.isSubclass c o = true := by
    unfold Vm.isSubclass
    rw [hn]
    unfold Vm.isSubclassAux
    rw [hk]
    dsimp only
    rw [hs]
    dsimp only
    unfold Vm.isSubclassAux
    simp
  unfold Vm.assignable
  rw [show (256 : Nat) = 255 + 1 from rfl, Vm.assignableAux]
  simp [hk, hkind, hko, hkk, hni, h2]
theorem gAny_l (hts : ∀ w ∈ lw_all, w.before args s = true) (hPF : gPF E A s) (hG : gS E A Z H0 G H locs) (h0 : 40 ≤ gC G a) (h1 : gC G a < 70) : va_Any "java/lang/Object" s H a := by
  have hat := (hG.1.1 a (gC_ne rfl (by omega))).1
  unfold gat at hat
  rw [if_neg (by omega)] at hat
  obtain ⟨cell, e1, e2, e3, e4⟩ := hat
  obtain ⟨i, hi⟩ : ∃ i, i = gC G a - 40 := ⟨_, rfl⟩
  rw [← hi] at e2
  have hlt : i < gLs.length := by show i < 30; omega
  have hl := hPF.l i (List.getElem?_eq_getElem hlt)
  have hall : ∀ w ∈ gLs, (match w with | .lambdaSite _ _ _ _ => true | _ => false) = true := by decide +kernel
  have hw := hall _ (List.getElem_mem hlt)
  unfold gLm at hl
  split at hl
  · obtain ⟨m1, k1, cf1, i1, p1, lk, q1, q2, q3, q4, q5, q6, q7⟩ := hl
    obtain ⟨dk, k, ok, tk, file, cf, object, iface, t, lay, methods, target, found, w1, w2, w3, w4, w5, w6, w7, w8, w9, w10, w11, w12, w13, ⟨w14, w15, w16, w17, w18, w19⟩, -⟩ := Lambda.isMade_spec q6
    refine ⟨cell, e1, by rw [e3]; rfl, ⟨k, by rw [e2]; exact w2⟩, fun comp hcomp => ?_⟩
    rw [w5] at hcomp
    cases hcomp
    rw [e2]
    obtain ⟨c9, r9, m9, x1, x2, x3, x4, mk9, x5, x6⟩ := Cond.selects_spec (hts _ q832)
    have hO : s.vm.findClass "java/lang/Object" = some m9.cls := findClass_of_methodNamed x3
    rw [w5] at hO
    cases hO
    obtain ⟨cH, hcH⟩ : ∃ cH, s.vm.findClass "WillowPrinters$House" = some cH := ⟨_, (hPF.K.1 2 _ rfl).2.1⟩
    obtain ⟨p9, k9, kp9, y1, y2, y3, y4, y5, y6, y7⟩ := Cond.superclass_spec hcH (hts _ q518)
    rw [w5] at y1
    cases y1
    rw [y3] at x5
    cases x5
    exact gSup w2 w15 w17 y3 y6 x6
  · rename_i h9
    split at hw
    · rename_i x9 p9 i9 s9 e9
      exact absurd e9 (h9 x9 p9 i9 s9)
    · cases hw
theorem gK_mon {Z G : Gh} {a ci : Nat} (h : gMon Z G) (hk : gK Z a = ci) (h0 : ci ≠ 0) : gK G a = ci := by rw [(h a (by rw [hk]; exact h0)).1, hk]
theorem gC_mon {Z G : Gh} {a ci : Nat} (h : gMon Z G) (hk : gC Z a = ci) (h0 : ci ≠ 0) : gC G a = ci := by
  unfold gC; rw [(h a (gC_ne hk h0)).1]; exact hk
theorem gK_N {G : Gh} {a q κ n ci : Nat} (hk : gK G a = ci) (h0 : ci ≠ 0) (hq : gK G q = 0) : gK (gN G q κ n) a = ci := by
  have e : a ≠ q := fun e => h0 (by rw [← hk, e]; exact hq)
  show va_up (gK G) q κ a = ci
  rw [va_up_ne _ _ e]; exact hk
theorem gC_N {G : Gh} {a q κ n ci : Nat} (hk : gC G a = ci) (h0 : ci ≠ 0) (hq : gK G q = 0) : gC (gN G q κ n) a = ci := by
  unfold gC at hk ⊢
  have e : a ≠ q := fun e => h0 (by rw [← hk, e, hq])
  show va_up (gK G) q κ a % 1000 = ci
  rw [va_up_ne _ _ e]; exact hk
theorem gK_Nq {G : Gh} {q κ n : Nat} : gK (gN G q κ n) q = κ := va_up_self _ _ _
theorem va_rf_cat (r : Option Nat) : (va_rf r).category = 1 := by cases r <;> rfl
theorem ga_n (hexec : p.tables.exec = Jvm.exec) (hb : c.code = cc) {k : Fin 4} {i : Nat} {r : Option Nat} (hdg : decode cc pc = .ok (.aload_n k, 1)) (hi : (k : Nat) = i) (hl : ls[i]? = some (.val (va_rf r)))
    (kk : W p l e R s m args below meth c H locs cells slots Q (F0 m (pc + 1) ls (va_rf r :: rest))) : W p l e R s m args below meth c H locs cells slots Q (F0 m pc ls rest) := by
  cases r with
  | none => exact lv_aload_nN hexec hb hdg hi hl kk
  | some x => exact lv_aload_n hexec hb hdg hi hl kk
theorem ga_ (hexec : p.tables.exec = Jvm.exec) (hb : c.code = cc) {i : Nat} {r : Option Nat} (hdg : decode cc pc = .ok (.aload i, 2)) (hl : ls[i]? = some (.val (va_rf r)))
    (kk : W p l e R s m args below meth c H locs cells slots Q (F0 m (pc + 2) ls (va_rf r :: rest))) : W p l e R s m args below meth c H locs cells slots Q (F0 m pc ls rest) := by
  cases r with
  | none => exact lv_aloadN hexec hb hdg hl kk
  | some x => exact lv_aload hexec hb hdg hl kk
theorem gt_n (hexec : p.tables.exec = Jvm.exec) (hb : c.code = cc) {k : Fin 4} {i nL : Nat} {r : Option Nat} {lv lv' : List (Nat × Value)} (hdg : decode cc pc = .ok (.astore_n k, 1)) (hi : (k : Nat) = i) (h : lv_has ls nL lv) (hn : i < nL) (hl : (i, va_rf r) :: lv.filter (fun q => !(q.1 == i) && !(q.1 + 1 == i && q.2.category == 2)) = lv')
    (kk : ∀ ls' : Array Slot, lv_has ls' nL lv' → W p l e R s m args below meth c H locs cells slots Q (F0 m (pc + 1) ls' rest)) : W p l e R s m args below meth c H locs cells slots Q (F0 m pc ls (va_rf r :: rest)) := by
  cases r with
  | none => exact lv_astore_nN hexec hb hdg hi h hn hl kk
  | some x => exact lv_astore_n hexec hb hdg hi h hn hl kk
theorem gt_ (hexec : p.tables.exec = Jvm.exec) (hb : c.code = cc) {i nL : Nat} {r : Option Nat} {lv lv' : List (Nat × Value)} (hdg : decode cc pc = .ok (.astore i, 2)) (h : lv_has ls nL lv) (hn : i < nL) (hl : (i, va_rf r) :: lv.filter (fun q => !(q.1 == i) && !(q.1 + 1 == i && q.2.category == 2)) = lv')
    (kk : ∀ ls' : Array Slot, lv_has ls' nL lv' → W p l e R s m args below meth c H locs cells slots Q (F0 m (pc + 2) ls' rest)) : W p l e R s m args below meth c H locs cells slots Q (F0 m pc ls (va_rf r :: rest)) := by
  cases r with
  | none => exact lv_astoreN hexec hb hdg h hn hl kk
  | some x => exact lv_astore hexec hb hdg h hn hl kk
theorem gifnull (hexec : p.tables.exec = Jvm.exec) (hb : c.code = cc) {r : Option Nat} {off : Int} {tgt : Nat} (hdg : decode cc pc = .ok (.ifnull off, 3)) (ht : (pc : Int) + off = (tgt : Int)) (kt : r = none → W p l e R s m args below meth c H locs cells slots Q (F0 m tgt ls rest)) (kf : ∀ q, r = some q → W p l e R s m args below meth c H locs cells slots Q (F0 m (pc + 3) ls rest)) : W p l e R s m args below meth c H locs cells slots Q (F0 m pc ls (va_rf r :: rest)) := by
  cases r with
  | none => exact lv_ifnullN hexec hb hdg ht (kt rfl)
  | some x => exact lv_ifnull hexec hb hdg (kf x rfl)
theorem gifnonnull (hexec : p.tables.exec = Jvm.exec) (hb : c.code = cc) {r : Option Nat} {off : Int} {tgt : Nat} (hdg : decode cc pc = .ok (.ifnonnull off, 3)) (ht : (pc : Int) + off = (tgt : Int)) (kt : ∀ q, r = some q → W p l e R s m args below meth c H locs cells slots Q (F0 m tgt ls rest)) (kf : r = none → W p l e R s m args below meth c H locs cells slots Q (F0 m (pc + 3) ls rest)) : W p l e R s m args below meth c H locs cells slots Q (F0 m pc ls (va_rf r :: rest)) := by
  cases r with
  | none => exact lv_ifnonnullN hexec hb hdg (kf rfl)
  | some x => exact lv_ifnonnull hexec hb hdg ht (kt x rfl)
theorem gthr (hPF : gPF E A s) (hG : gS E A Z H0 G H locs) {ci : Nat} (ha : gC G a = ci) (h0 : ci ≠ 0) (h30 : ci < 30) {q : vw_C} (hc : gCl[ci]? = some q) : ∃ cell : Cell, H[a]? = some cell ∧ cell.vm = .none ∧ s.vm.findClass q.1 = some cell.cls := by
  obtain ⟨r, h1, cell, q1, q2, q3, q4⟩ := gS_obj hG ha h0 h30
  cases h1.symm.trans hc
  exact ⟨cell, q1, q3, by rw [q2]; exact (hPF.K.1 ci _ hc).2.1⟩
end GC
