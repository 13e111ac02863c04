/-! references into arrays, arraycopy, clone over the ghost heap -/
set_option maxRecDepth 100000
theorem gS_writeL {E : gE} {A : Nat → Prop} {Z : Gh} {H0 H H1 : Heap} {G G' : Gh} {locs L : List Loc} {a : Nat} (hG : gS E A Z H0 G H locs) (h0 : gK G a ≠ 0) (h1 : gK G a < 1000) (hK : gK G' = gK G) (hLL : gL G' = gL G) (hoff : ∀ b, b ≠ a → gL G' b = gL G b ∧ gI G' b = gI G b ∧ gR G' b = gR G b ∧ gJ G' b = gJ G b ∧ gD G' b = gD G b) (hat : gat E G' a H1) (z : H1.size = H.size) (oq : ∀ q : Nat, q ≠ a → H1[q]? = H[q]?) (hL : ∀ l ∈ L, l.base = a) : gS E A Z H0 G' H1 (locs ++ L) := by
  have hw := gS_write (i := 0) hG h0 h1 hK hLL hoff hat z oq
  refine ⟨hw.1, hw.2.1, hw.2.2.1, fun l hl => ?_⟩
  rcases List.mem_append.mp hl with h | h
  · exact hG.2.2.2 l h
  · rw [hL l h]; exact (hG.1.1 a h0).2.1 h1
section GR3
variable {p : Program} {l : Launch} {e : Env} {R : Room} {s : State} {m : MethodId} {args : Array Value} {below : List Frame} {meth : Method} {c : Code} {H : Heap} {locs : List Loc} {cells slots : Nat} {Q : State → Prop}
variable {cc : ByteArray} {pc : Nat} {ls : Array Slot} {rest st0 : List Value} {E : gE} {A : Nat → Prop} {Z : Gh} {H0 : Heap} {G : Gh} {a : Nat} {own : String}
theorem gcell_q (hG : gS E A Z H0 G H locs) (ha : gC G a = 35) : H[a]? = some (vp_cell (eA E 5) (gL G a, .inr (.inr (.inr (.inr (gR G a)))))) := by
  have hP := gS_arr hG ha (by decide) (by decide)
  unfold gEn at hP
  rw [ha] at hP
  exact hP 0 _ rfl
theorem gcell_b (hG : gS E A Z H0 G H locs) (ha : gC G a = 32) : H[a]? = some (vp_cell (eA E 2) (gL G a, .inl (gI G a))) := by
  have hP := gS_arr hG ha (by decide) (by decide)
  unfold gEn at hP
  rw [ha] at hP
  exact hP 0 _ rfl
theorem gat_q {G' : Gh} {H1 : Heap} (haC : gC G' a = 35) (h : H1[a]? = some (vp_cell (eA E 5) (gL G' a, .inr (.inr (.inr (.inr (gR G' a))))))) : gat E G' a H1 := by
  unfold gat
  rw [if_pos (by omega)]
  unfold gEn
  rw [haC]
  exact h
theorem gat_b {G' : Gh} {H1 : Heap} (haC : gC G' a = 32) (h : H1[a]? = some (vp_cell (eA E 2) (gL G' a, .inl (gI G' a)))) : gat E G' a H1 := by
  unfold gat
  rw [if_pos (by omega)]
  unfold gEn
  rw [haC]
  exact h
theorem gsq (hexec : p.tables.exec = Jvm.exec) (hb : c.code = cc) (hPF : gPF E A s) (hG : gS E A Z H0 G H locs) (ha : gK G a = 35) {i : Int32} {r : Option Nat} (hin : vp_in i (gL G a)) {j : Nat} (hj : i.toNatClampNeg = j) (hr : ∀ v, r = some v → va_Any "java/lang/Object" s H v) (hdg : decode cc pc = .ok (.aastore, 1))
    (kk : ∀ (H1 : Heap) (locs1 : List Loc), gS E A Z H0 (grR G a (va_up (gR G a) j r)) H1 locs1 → W p l e R s m args below meth c H1 locs1 cells slots Q (F0 m (pc + 1) ls rest)) : W p l e R s m args below meth c H locs cells slots Q (F0 m pc ls (va_rf r :: .int i :: .ref a :: rest)) := by
  subst hj
  have hlt : i.toNatClampNeg < gL G a := Nat.not_le.mp fun q => hin (Or.inr q)
  have h0 : ¬ i < 0 := fun q => hin (Or.inl q)
  have haC : gC G a = 35 := gC_of ha (by omega)
  have hcell := gcell_q hG haC
  have fin : ∀ (H1 : Heap), H1[a]? = some ((vp_cell (eA E 5) (gL G a, .inr (.inr (.inr (.inr (gR G a)))))).setSlot i.toNatClampNeg (va_rf r)) → H1.size = H.size → (∀ q, q ≠ a → H1[q]? = H[q]?) → W p l e R s m args below meth c H1 (locs ++ [⟨a, i.toNatClampNeg⟩]) cells slots Q (F0 m (pc + 1) ls rest) := by
    intro H1 e1 z oq
    refine kk H1 _ (gS_write (a := a) hG (by omega) (by omega) rfl rfl grR_off (gat_q haC ?_) z oq)
    rw [e1]
    have hself : gR (grR G a (va_up (gR G a) i.toNatClampNeg r)) a = va_up (gR G a) i.toNatClampNeg r := va_up_self _ _ _
    rw [hself, vp_cell_q, vp_cell_q, arrV_store]
    have hL : gL (grR G a (va_up (gR G a) i.toNatClampNeg r)) a = gL G a := rfl
    rw [hL]
    congr 2
    funext q
    by_cases hq : q = i.toNatClampNeg
    · subst hq
      simp [updV, va_up]
    · simp [updV, va_up, hq]
  obtain ⟨kA, comp, k1, k2, k3, -⟩ := (hPF.K.2 5 _ rfl).2
  obtain ⟨kE, hkE, -⟩ := Vm.findClass_spec k3
  cases r with
  | none => exact va_WaastN (C := "java/lang/Object") hexec hb hcell ((hPF.K.2 5 _ rfl).1 (gL G a) (fun j => va_rf (gR G a j))) (fun h => by cases h) (by show ¬ (i < 0 ∨ (arrV _ _ _).slots.size ≤ _); rw [arrV_size]; exact hin) rfl rfl hdg fin
  | some v =>
    obtain ⟨cellV, g1, g3, ⟨kC, hkC⟩, hasg⟩ := hr v rfl
    exact W.aast hexec hb hcell (fun q h => by cases h) (fun h => by cases h) k1 k2 rfl hkE ⟨h0, by show _ < (arrV _ _ _).slots.size; rw [arrV_size]; exact hlt⟩ g1 (fun q h => by rw [h] at g3; cases g3) hkC (hasg _ k3) rfl rfl hdg fin
theorem gOk_any (hts : ∀ w ∈ lw_all, w.before args s = true) (hPF : gPF E A s) (hG : gS E A Z H0 G H locs) {v : Nat} (h : gOk G v) : va_Any "java/lang/Object" s H v := by
  rcases h with h | h | h | h | h | ⟨h1, h2⟩
  · exact gAny_c hPF hG h (by decide) (by decide) rfl q2331
  · exact gAny_c hPF hG h (by decide) (by decide) rfl q2341
  · exact gAny_c hPF hG h (by decide) (by decide) rfl q2342
  · exact gAny_c hPF hG h (by decide) (by decide) rfl q2344
  · exact gAny_c hPF hG h (by decide) (by decide) rfl q2345
  · exact gAny_l hts hPF hG h1 h2
theorem g_nn (z : Int32) (hz : ¬ z < 0) : z.toInt = (z.toNatClampNeg : Int) := by
  have hz0 : (0 : Int) ≤ z.toInt := by
    have := Int32.not_lt.mp hz
    simpa using Int32.le_iff_toInt_le.mp this
  show z.toInt = ((z.toInt.toNat : Nat) : Int)
  omega
theorem gcpb (hexec : p.tables.exec = Jvm.exec) (hb : c.code = cc) (hml : ls.size = c.maxLocals) (hts : ∀ w ∈ lw_all, w.before args s = true) (hown : s.vm.findClass own = some m.cls) {index : Nat} (hlink : Cond.methodLink own index arraycopyName ∈ lw_all) (hnat : (Cond.native arraycopyName) ∈ lw_all) (hstat : Cond.static arraycopyName ∈ lw_all) (hini : Cond.initialized "java/lang/System" ∈ lw_all)
    (hPF : gPF E A s) (hG : gS E A Z H0 G H locs) {b : Nat} (hb1 : gC G b = 32) (ha : gK G a = 32)
    {sp dp n : Int32} (h1 : ¬ sp < 0) (h2 : ¬ dp < 0) (h3 : ¬ n < 0) (h4 : sp.toNatClampNeg + n.toNatClampNeg ≤ gL G b) (h5 : dp.toNatClampNeg + n.toNatClampNeg ≤ gL G a) (hfit : ∀ i, i < n.toNatClampNeg → fits .byte (.int (gI G b (sp.toNatClampNeg + i))) = true)
    (hframes : 1 ≤ R.frames) (hlocals : (rest.map fun v => v.category).sum + (nativeFrameWords "java/lang/System" "arraycopy" 5 + 11) ≤ R.locals) (hdg : decode cc pc = .ok (.invokestatic index, 3))
    (kk : ∀ (H1 : Heap) (locs1 : List Loc), gS E A Z H0 (grI G a (va_cpy (gI G b) (gI G a) sp.toNatClampNeg dp.toNatClampNeg n.toNatClampNeg)) H1 locs1 → W p l e R s m args below meth c H1 locs1 cells slots Q (F0 m (pc + 3) ls rest)) : W p l e R s m args below meth c H locs cells slots Q (F0 m pc ls (.int n :: .int dp :: .ref a :: .int sp :: .ref b :: rest)) := by
  intro T hT X
  have haC : gC G a = 32 := gC_of ha (by omega)
  have hc0 := gcell_b hG hb1
  have hc1 := gcell_b hG haC
  obtain ⟨-, k0, hk0, cm0, hkk0⟩ := (hPF.K.2 2 _ rfl).1 (gL G b) (fun j => .int (gI G b j))
  obtain ⟨-, k1, hk1, cm1, hkk1⟩ := (hPF.K.2 2 _ rfl).1 (gL G a) (fun j => .int (gI G a j))
  obtain ⟨vm', X', step⟩ := X.arraycopy hexec hown (hts _ hlink) (hts _ hnat) (hts _ hstat) (hts _ hini) (src := b) (dst := a) (cs := vp_cell (eA E 2) (gL G b, .inl (gI G b))) (cd := vp_cell (eA E 2) (gL G a, .inl (gI G a))) (srcPos := sp) (destPos := dp) (n := n) (by rw [hT]; exact hc0) (by rw [hT]; exact hc1)
    (fun _ h => by cases h) (fun _ h => by cases h) (fun h => by cases h) (fun h => by cases h) hk0 hk1 hkk0 hkk1 rfl h1 h2 h3
    (by rw [g_nn sp h1, g_nn n h3]; show ¬ _ > ((arrV (eA E 2) (gL G b) (fun j => .int (gI G b j))).slots.size : Int); rw [arrV_size]; omega)
    (by rw [g_nn dp h2, g_nn n h3]; show ¬ _ > ((arrV (eA E 2) (gL G a) (fun j => .int (gI G a j))).slots.size : Int); rw [arrV_size]; omega)
    (fun vm₁ hal i hi => by
      have e : (vp_cell (eA E 2) (gL G b, .inl (gI G b))).slots.getD (sp.toNatClampNeg + i) .null = .int (gI G b (sp.toNatClampNeg + i)) := by
        show (arrV (eA E 2) (gL G b) (fun j => .int (gI G b j))).slots.getD _ _ = _
        rw [Array.getD_eq_getD_getElem?, arrV_read _ _ (by omega)]
        rfl
      refine ⟨?_, ?_⟩
      · rw [e]
        exact hfit i hi
      · rw [e]
        exact trivial)
    (g := F0 m pc ls (.int n :: .int dp :: .ref a :: .int sp :: .ref b :: rest)) rfl hml (rest := rest) rfl (by rw [hb]; exact hdg) hframes (by show 2 * 0 + _ + _ ≤ _; omega)
  have e1 : copied (vp_cell (eA E 2) (gL G b, .inl (gI G b))) (vp_cell (eA E 2) (gL G a, .inl (gI G a))) sp dp n = vp_cell (eA E 2) (gL G a, .inl (va_cpy (gI G b) (gI G a) sp.toNatClampNeg dp.toNatClampNeg n.toNatClampNeg)) := va_copied (fun z => .int z) _ _ (gI G b) (gI G a) h4
  rw [e1] at X' step
  have hl : a < H.size := (Array.getElem?_eq_some_iff.mp hc1).1
  have hheap : ((T.setVm vm').setCell a (vp_cell (eA E 2) (gL G a, .inl (va_cpy (gI G b) (gI G a) sp.toNatClampNeg dp.toNatClampNeg n.toNatClampNeg)))).heap = H.setIfInBounds a (vp_cell (eA E 2) (gL G a, .inl (va_cpy (gI G b) (gI G a) sp.toNatClampNeg dp.toNatClampNeg n.toNatClampNeg))) := by rw [← hT]; rfl
  have oq : ∀ q : Nat, q ≠ a → (H.setIfInBounds a (vp_cell (eA E 2) (gL G a, .inl (va_cpy (gI G b) (gI G a) sp.toNatClampNeg dp.toNatClampNeg n.toNatClampNeg))))[q]? = H[q]? := fun q hq => by simp [Array.getElem?_setIfInBounds, Ne.symm hq]
  obtain ⟨t, a1, b1⟩ := kk _ _ (gS_writeL (a := a) hG (by omega) (by omega) rfl rfl grI_off (gat_b haC (by
      have hself : gI (grI G a (va_cpy (gI G b) (gI G a) sp.toNatClampNeg dp.toNatClampNeg n.toNatClampNeg)) a = va_cpy (gI G b) (gI G a) sp.toNatClampNeg dp.toNatClampNeg n.toNatClampNeg := va_up_self _ _ _
      rw [hself]
      show (H.setIfInBounds a _)[a]? = some _
      simp only [Array.getElem?_setIfInBounds, hl, if_true]
      rfl)) (by simp) oq (fun l hl => by
      obtain ⟨z, -, hz⟩ := List.mem_map.mp hl
      rw [← hz])) _ hheap X'
  exact ⟨t, step t a1, b1⟩
theorem gcpq (hexec : p.tables.exec = Jvm.exec) (hb : c.code = cc) (hml : ls.size = c.maxLocals) (hts : ∀ w ∈ lw_all, w.before args s = true) (hown : s.vm.findClass own = some m.cls) {index : Nat} (hlink : Cond.methodLink own index arraycopyName ∈ lw_all) (hnat : (Cond.native arraycopyName) ∈ lw_all) (hstat : Cond.static arraycopyName ∈ lw_all) (hini : Cond.initialized "java/lang/System" ∈ lw_all)
    (hPF : gPF E A s) (hG : gS E A Z H0 G H locs) {b : Nat} (hb1 : gC G b = 35) (ha : gK G a = 35)
    {sp dp n : Int32} (h1 : ¬ sp < 0) (h2 : ¬ dp < 0) (h3 : ¬ n < 0) (h4 : sp.toNatClampNeg + n.toNatClampNeg ≤ gL G b) (h5 : dp.toNatClampNeg + n.toNatClampNeg ≤ gL G a) (hel : ∀ i, i < n.toNatClampNeg → ∀ y, gR G b (sp.toNatClampNeg + i) = some y → va_Any "java/lang/Object" s H y)
    (hframes : 1 ≤ R.frames) (hlocals : (rest.map fun v => v.category).sum + (nativeFrameWords "java/lang/System" "arraycopy" 5 + 11) ≤ R.locals) (hdg : decode cc pc = .ok (.invokestatic index, 3))
    (kk : ∀ (H1 : Heap) (locs1 : List Loc), gS E A Z H0 (grR G a (va_cpy (gR G b) (gR G a) sp.toNatClampNeg dp.toNatClampNeg n.toNatClampNeg)) H1 locs1 → W p l e R s m args below meth c H1 locs1 cells slots Q (F0 m (pc + 3) ls rest)) : W p l e R s m args below meth c H locs cells slots Q (F0 m pc ls (.int n :: .int dp :: .ref a :: .int sp :: .ref b :: rest)) := by
  intro T hT X
  have haC : gC G a = 35 := gC_of ha (by omega)
  have hc0 := gcell_q hG hb1
  have hc1 := gcell_q hG haC
  obtain ⟨-, k0, hk0, cm0, hkk0⟩ := (hPF.K.2 5 _ rfl).1 (gL G b) (fun j => va_rf (gR G b j))
  obtain ⟨-, k1, hk1, cm1, hkk1⟩ := (hPF.K.2 5 _ rfl).1 (gL G a) (fun j => va_rf (gR G a j))
  obtain ⟨vm', X', step⟩ := X.arraycopy hexec hown (hts _ hlink) (hts _ hnat) (hts _ hstat) (hts _ hini) (src := b) (dst := a) (cs := vp_cell (eA E 5) (gL G b, .inr (.inr (.inr (.inr (gR G b)))))) (cd := vp_cell (eA E 5) (gL G a, .inr (.inr (.inr (.inr (gR G a)))))) (srcPos := sp) (destPos := dp) (n := n) (by rw [hT]; exact hc0) (by rw [hT]; exact hc1)
    (fun _ h => by cases h) (fun _ h => by cases h) (fun h => by cases h) (fun h => by cases h) hk0 hk1 hkk0 hkk1 rfl h1 h2 h3
    (by rw [g_nn sp h1, g_nn n h3]; show ¬ _ > ((arrV (eA E 5) (gL G b) (fun j => va_rf (gR G b j))).slots.size : Int); rw [arrV_size]; omega)
    (by rw [g_nn dp h2, g_nn n h3]; show ¬ _ > ((arrV (eA E 5) (gL G a) (fun j => va_rf (gR G a j))).slots.size : Int); rw [arrV_size]; omega)
    (fun vm₁ hal i hi => by
      have e : (vp_cell (eA E 5) (gL G b, .inr (.inr (.inr (.inr (gR G b)))))).slots.getD (sp.toNatClampNeg + i) .null = va_rf (gR G b (sp.toNatClampNeg + i)) := by
        show (arrV (eA E 5) (gL G b) (fun j => va_rf (gR G b j))).slots.getD _ _ = _
        rw [Array.getD_eq_getD_getElem?, arrV_read _ _ (by omega)]
        rfl
      rw [e]
      cases hy : gR G b (sp.toNatClampNeg + i) with
      | none => exact ⟨rfl, trivial⟩
      | some y =>
        obtain ⟨cellV, g1, g2, ⟨kC, hkC⟩, hasg⟩ := hel i hi y hy
        obtain ⟨kA, comp, r1, r2, r3, -⟩ := (hPF.K.2 5 _ rfl).2
        cases hk1.symm.trans r1
        cases hkk1.symm.trans r2
        obtain ⟨kE, hkE, -⟩ := Vm.findClass_spec r3
        obtain ⟨kC', hkC', -⟩ := hal.2.2 _ _ hkC
        obtain ⟨kE', hkE', -⟩ := hal.2.2 _ _ hkE
        refine ⟨rfl, cellV, (show T.heap[y]? = some cellV by rw [hT]; exact g1), (fun q h => by rw [h] at g2; cases g2), ⟨kC', hkC'⟩, ?_, ?_⟩
        · exact ⟨kE', hkE'⟩
        · show vm₁.assignable _ _ = true
          rw [hal.assignable]
          exact hasg _ r3)
    (g := F0 m pc ls (.int n :: .int dp :: .ref a :: .int sp :: .ref b :: rest)) rfl hml (rest := rest) rfl (by rw [hb]; exact hdg) hframes (by show 2 * 0 + _ + _ ≤ _; omega)
  have e1 : copied (vp_cell (eA E 5) (gL G b, .inr (.inr (.inr (.inr (gR G b)))))) (vp_cell (eA E 5) (gL G a, .inr (.inr (.inr (.inr (gR G a)))))) sp dp n = vp_cell (eA E 5) (gL G a, .inr (.inr (.inr (.inr (va_cpy (gR G b) (gR G a) sp.toNatClampNeg dp.toNatClampNeg n.toNatClampNeg))))) := va_copied (fun z => va_rf z) _ _ (gR G b) (gR G a) h4
  rw [e1] at X' step
  have hl : a < H.size := (Array.getElem?_eq_some_iff.mp hc1).1
  have hheap : ((T.setVm vm').setCell a (vp_cell (eA E 5) (gL G a, .inr (.inr (.inr (.inr (va_cpy (gR G b) (gR G a) sp.toNatClampNeg dp.toNatClampNeg n.toNatClampNeg))))))).heap = H.setIfInBounds a (vp_cell (eA E 5) (gL G a, .inr (.inr (.inr (.inr (va_cpy (gR G b) (gR G a) sp.toNatClampNeg dp.toNatClampNeg n.toNatClampNeg)))))) := by rw [← hT]; rfl
  have oq : ∀ q : Nat, q ≠ a → (H.setIfInBounds a (vp_cell (eA E 5) (gL G a, .inr (.inr (.inr (.inr (va_cpy (gR G b) (gR G a) sp.toNatClampNeg dp.toNatClampNeg n.toNatClampNeg)))))))[q]? = H[q]? := fun q hq => by simp [Array.getElem?_setIfInBounds, Ne.symm hq]
  obtain ⟨t, a1, b1⟩ := kk _ _ (gS_writeL (a := a) hG (by omega) (by omega) rfl rfl grR_off (gat_q haC (by
      have hself : gR (grR G a (va_cpy (gR G b) (gR G a) sp.toNatClampNeg dp.toNatClampNeg n.toNatClampNeg)) a = va_cpy (gR G b) (gR G a) sp.toNatClampNeg dp.toNatClampNeg n.toNatClampNeg := va_up_self _ _ _
      rw [hself]
      show (H.setIfInBounds a _)[a]? = some _
      simp only [Array.getElem?_setIfInBounds, hl, if_true]
      rfl)) (by simp) oq (fun l hl => by
      obtain ⟨z, -, hz⟩ := List.mem_map.mp hl
      rw [← hz])) _ hheap X'
  exact ⟨t, step t a1, b1⟩
theorem gcloneB (hexec : p.tables.exec = Jvm.exec) (hb : c.code = cc) (hml : ls.size = c.maxLocals) (hts : ∀ w ∈ lw_all, w.before args s = true) (hown : s.vm.findClass own = some m.cls) {index : Nat}
    (hlink : Cond.methodLink own index ⟨"[B", "clone", "()Ljava/lang/Object;"⟩ ∈ lw_all) (hsame : Cond.sameMethod "[B" "java/lang/Object" "clone" "()Ljava/lang/Object;" ∈ lw_all) (hnat : (Cond.native ⟨"java/lang/Object", "clone", "()Ljava/lang/Object;"⟩) ∈ lw_all) (hinst : Cond.instanceMethod ⟨"java/lang/Object", "clone", "()Ljava/lang/Object;"⟩ ∈ lw_all)
    (hsel : Cond.selects "[B" ⟨"[B", "clone", "()Ljava/lang/Object;"⟩ ⟨"java/lang/Object", "clone", "()Ljava/lang/Object;"⟩ ∈ lw_all) (hcl : Cond.castable "[B" "java/lang/Cloneable" ∈ lw_tbl)
    (hPF : gPF E A s) (hG : gS E A Z H0 G H locs) (hA : ∀ q, H0.size ≤ q → A q) (ha : gC G a = 32) (hfit : ∀ i, i < gL G a → fits .byte (.int (gI G a i)) = true) (B : Nat) (hB : gL G a ≤ B)
    (hframes : 1 ≤ R.frames) (hlocals : (rest.map fun v => v.category).sum + 14 ≤ R.locals) (hcells : cells + 1 ≤ R.cells) (hslots : slots + B ≤ R.slots) (hdg : decode cc pc = .ok (.invokevirtual index, 3))
    (kk : ∀ (q : Nat) (H1 : Heap), gK G q = 0 → gS E A Z H0 (grI (gN G q 32 (gL G a)) q (gI G a)) H1 locs → W p l e R s m args below meth c H1 locs (cells + 1) (slots + B) Q (F0 m (pc + 3) ls (.ref q :: rest))) : W p l e R s m args below meth c H locs cells slots Q (F0 m pc ls (.ref a :: rest)) := by
  have hP := gS_arr hG ha (by decide) (by decide)
  unfold gEn at hP
  rw [ha] at hP
  have hnm : s.vm.findClass "[B" = some (eA E 2) := (hPF.K.2 2 _ rfl).2
  have hD : va_D (fun _ => True) [(a, (.inl (eA E 2, gL G a, .inl (gI G a)) : va_E))] := by
    refine ⟨fun i j p q h1 h2 _ => ?_, fun _ _ _ => trivial⟩
    have := (List.getElem?_eq_some_iff.mp h1).1
    have := (List.getElem?_eq_some_iff.mp h2).1
    simp at *
    omega
  intro T hT X
  have hcell := gcell_b hG ha
  have hfit' : ∀ (i : Nat) (v : Value), (vp_cell (eA E 2) (gL G a, .inl (gI G a))).slots[i]? = some v → fits .byte v = true := va_fit (F := fun j => .int (gI G a j)) hfit
  have hsz : (vp_cell (eA E 2) (gL G a, .inl (gI G a))).slots.size = gL G a := arrV_size _ _ _
  obtain ⟨c0, t0', f1, f2, f3⟩ := Cond.castable_spec (va_Nw.use (A := args) rfl (hPF.w hcl rfl))
  cases hnm.symm.trans f1
  obtain ⟨-, kA, hkA, comp, hkind⟩ := State.isArrayOf_alike X.warmed.alike ((hPF.K.2 2 _ rfl).1 0 (fun _ => .null))
  obtain ⟨-, kS, hkS, compS, hkindS⟩ := (hPF.K.2 2 _ rfl).1 0 (fun _ => .null)
  obtain ⟨vm', X', st⟩ := X.cloneArray hexec hown (hts _ hlink) (hts _ hsame) (hts _ hnat) (hts _ hinst) (hts _ hsel) (a := a) (cell := vp_cell (eA E 2) (gL G a, .inl (gI G a))) (by rw [hT]; exact hcell) (fun k h => by cases h) (fun h => by cases h) hnm f2 f3
    (fun i v hv => by
      have hk' : T.vm.classes[eA E 2]? = some kA := hkA
      show T.fitsSlot (eA E 2) _ i v = true
      simpa [State.fitsSlot, State.slotType?, hk', hkind] using hfit' i v hv)
    (g := F0 m pc ls (.ref a :: rest)) rfl hml rfl (by rw [hb]; exact hdg) hframes (by show 2 * 0 + _ + 14 ≤ _; omega) hcells (by rw [hsz]; omega) (hloader := Vm.clonesLoader_of_array hkS hkindS)
  have hcellE : ({ cls := (vp_cell (eA E 2) (gL G a, .inl (gI G a))).cls, slots := (vp_cell (eA E 2) (gL G a, .inl (gI G a))).slots } : Cell) = vp_cell (eA E 2) (gL G a, .inl (gI G a)) := rfl
  rw [hcellE, hsz] at X'
  generalize hH1 : H.push (vp_cell (eA E 2) (gL G a, .inl (gI G a))) = H1
  have z1 : H1.size = H.size + 1 := by rw [← hH1, Array.size_push]
  have e1 : H1[H.size]? = some (vp_cell (eA E 2) (gL G a, .inl (gI G a))) := by rw [← hH1, Array.getElem?_push_size]
  have o1 : ∀ q : Nat, q < H.size → H1[q]? = H[q]? := fun q hq => by rw [← hH1, Array.getElem?_push, if_neg (Nat.ne_of_lt hq)]
  have hz : gK G H.size = 0 := Classical.byContradiction fun h => Nat.lt_irrefl _ (gat_lt (hG.1.1 _ h).1)
  have hG1 : gS E A Z H0 (grI (gN G H.size 32 (gL G a)) H.size (gI G a)) H1 locs := by
    refine ⟨⟨fun b hb => ?_, hG.1.2.tr fun b hb => ?_⟩, Nat.le_trans hG.2.1 (by omega), fun q h1 h2 => (o1 q (Nat.lt_of_lt_of_le h1 hG.2.1)).trans (hG.2.2.1 q h1 h2), hG.2.2.2⟩
    have hkk : gK (grI (gN G H.size 32 (gL G a)) H.size (gI G a)) = va_up (gK G) H.size 32 := rfl
    rotate_left
    · have e : b ≠ H.size := fun e => hb (by rw [e]; exact hz)
      refine ⟨va_up_ne _ _ e, va_up_ne _ _ e, fun _ => ⟨?_, va_up_ne _ _ e⟩⟩
      show va_up (va_up (gI G) H.size (fun _ => 0)) H.size (gI G a) b = gI G b
      rw [va_up_ne _ _ e, va_up_ne _ _ e]
    rw [hkk] at hb ⊢
    by_cases e : b = H.size
    · subst e
      rw [va_up_self]
      refine ⟨gat_b (by show va_up (gK G) H.size 32 H.size % 1000 = 32; rw [va_up_self]) ?_, fun _ => hA _ hG.2.1, fun h => by omega⟩
      have hI : gI (grI (gN G H.size 32 (gL G a)) H.size (gI G a)) H.size = gI G a := va_up_self _ _ _
      have hL : gL (grI (gN G H.size 32 (gL G a)) H.size (gI G a)) H.size = gL G a := va_up_self _ _ _
      rw [hI, hL]
      exact e1
    · rw [va_up_ne _ _ e] at hb ⊢
      obtain ⟨q1, q2⟩ := hG.1.1 b hb
      refine ⟨gat_kept (gat_eq (va_up_ne _ _ e) (va_up_ne _ _ e) ?_ (va_up_ne _ _ e) (va_up_ne _ _ e) (va_up_ne _ _ e) q1) (o1 b (gat_lt q1)), q2⟩
      show va_up (va_up (gI G) H.size (fun _ => 0)) H.size (gI G a) b = gI G b
      rw [va_up_ne _ _ e, va_up_ne _ _ e]
  obtain ⟨t, b1, b2⟩ := kk H.size H1 hz hG1 _ (show ((T.setVm vm').pushCell (vp_cell (eA E 2) (gL G a, .inl (gI G a)))).heap = H1 by rw [← hH1, ← hT]; rfl) (stand_widen X' (Nat.le_refl _) (Nat.add_le_add_left hB _))
  rw [← hT] at b1
  exact ⟨t, st t b1, b2⟩
end GR3
