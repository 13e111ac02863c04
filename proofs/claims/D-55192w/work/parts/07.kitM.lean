/-! the model's world: its own object and its seven arrays, as two functions (scalars by field, arrays by field) -/
set_option maxRecDepth 100000
abbrev wS1 : Type := Nat → Int32
abbrev wS2 : Type := Nat → Nat → Int32
abbrev wU : Type := wS1 × wS2
/-- a class without fields -/
def gT0 : u_T := fun _ => ("", "", "", false)
/-- the classes whose objects the worlds hold -/
def gCl : List vw_C := [(RX3, TX3, 19), (RX1, TX1, 8), (RX2, TX2, 14), (RX4, TX4, 8), (RX5, TX5, 4), (RX6, TX6, 3), (RX7, gT0, 0), (RX8, TX8, 2), (RX9, TX9, 4), (RX11, TX11, 1), (RX12, TX12, 4), (RX13, TX13, 2), (RX14, TX14, 2), (RX15, TX15, 7), (RJ2, TJ2, 3), (RJ18, TJ18, 4), (RJ8, TJ8, 4), (RJ9, TJ9, 2), (RJ17, TJ17, 3)]
/-- the array classes -/
def gTy (ac : Nat → ClassId) : List (ClassId × FieldType) := [(ac 0, .int), (ac 1, .char), (ac 2, .byte), (ac 3, .long), (ac 4, .double), (ac 5, .object "java/lang/Object")]
def wm_f (ad : Nat → Nat) (sc : wS1) : List Value := [.ref (ad 0), .ref (ad 1), .ref (ad 2), .ref (ad 3), .int (sc 4), .int (sc 5), .int (sc 6), .int (sc 7), .int (sc 8), .int (sc 9), .ref (ad 10), .int (sc 11), .int (sc 12), .int (sc 13), .ref (ad 14), .int (sc 15), .int (sc 16), .ref (ad 17), .int (sc 18)]
def wm_W (ac : Nat → ClassId) (mo : Nat) (ad : Nat → Nat) (sc : wS1) (ar : wS2) : va_W := [(mo, .inr (0, wm_f ad sc)), (ad 0, .inl (ac 0, 125, .inl (ar 0))), (ad 1, .inl (ac 0, 1000, .inl (ar 1))), (ad 2, .inl (ac 0, 125, .inl (ar 2))), (ad 3, .inl (ac 0, 125, .inl (ar 3))), (ad 10, .inl (ac 0, 60, .inl (ar 10))), (ad 14, .inl (ac 1, 60, .inl (ar 14))), (ad 17, .inl (ac 0, 128, .inl (ar 17)))]
def wm_L (mo : Nat) (ad : Nat → Nat) : List Nat := [mo, ad 0, ad 1, ad 2, ad 3, ad 10, ad 14, ad 17]
theorem wm_WL (ac : Nat → ClassId) (mo : Nat) (ad : Nat → Nat) (sc : wS1) (ar : wS2) : (wm_W ac mo ad sc ar).map Prod.fst = wm_L mo ad := rfl
/-- apart, by the addresses alone -/
theorem wm_Dof {A : Nat → Prop} {ws : va_W} (hN : (ws.map Prod.fst).Nodup) (hA : ∀ q ∈ ws.map Prod.fst, A q) : va_D A ws := by
  refine ⟨fun i j p q hi hj h => ?_, fun k q hk => hA _ (List.mem_map.mpr ⟨q, List.mem_of_getElem? hk, rfl⟩)⟩
  have h1 : (ws.map Prod.fst)[i]? = some p.1 := by rw [List.getElem?_map, hi]; rfl
  have h2 : (ws.map Prod.fst)[j]? = some q.1 := by rw [List.getElem?_map, hj]; rfl
  obtain ⟨a1, b1⟩ := List.getElem?_eq_some_iff.mp h1
  obtain ⟨a2, b2⟩ := List.getElem?_eq_some_iff.mp h2
  have hp := List.pairwise_iff_getElem.mp hN
  rcases Nat.lt_trichotomy i j with c | c | c
  · exact absurd (by rw [b1, b2, h]) (hp i j a1 a2 c)
  · exact c
  · exact absurd (by rw [b1, b2, h]) (hp j i a2 a1 c)
def wm_ia (k : Nat) : Bool := k = 0 || k = 1 || k = 2 || k = 3 || k = 10 || k = 17
def wm_pos (k : Nat) : Nat := if k = 0 then 1 else if k = 1 then 2 else if k = 2 then 3 else if k = 3 then 4 else if k = 10 then 5 else if k = 14 then 6 else 7
def wm_len (k : Nat) : Nat := if k = 1 then 1000 else if k = 10 then 60 else if k = 14 then 60 else if k = 17 then 128 else 125
theorem wm_iaC {k : Nat} (h : wm_ia k = true) : k = 0 ∨ k = 1 ∨ k = 2 ∨ k = 3 ∨ k = 10 ∨ k = 17 := by
  simpa [wm_ia, or_assoc] using h
theorem wm_at {ac : Nat → ClassId} {mo : Nat} {ad : Nat → Nat} {sc : wS1} {ar : wS2} {k : Nat} (h : wm_ia k = true) : (wm_W ac mo ad sc ar)[wm_pos k]? = some (ad k, .inl (ac 0, wm_len k, .inl (ar k))) := by
  rcases wm_iaC h with rfl | rfl | rfl | rfl | rfl | rfl <;> rfl
theorem wm_aset {ac : Nat → ClassId} {mo : Nat} {ad : Nat → Nat} {sc : wS1} {ar : wS2} {k : Nat} (h : wm_ia k = true) (f : Nat → Int32) : (wm_W ac mo ad sc ar).set (wm_pos k) (ad k, .inl (ac 0, wm_len k, .inl f)) = wm_W ac mo ad sc (va_up ar k f) := by
  rcases wm_iaC h with rfl | rfl | rfl | rfl | rfl | rfl <;> rfl
theorem wm_cset {ac : Nat → ClassId} {mo : Nat} {ad : Nat → Nat} {sc : wS1} {ar : wS2} (f : Nat → Int32) : (wm_W ac mo ad sc ar).set 6 (ad 14, .inl (ac 1, 60, .inl f)) = wm_W ac mo ad sc (va_up ar 14 f) := rfl
def wm_sk (k : Nat) : Bool := k = 4 || k = 5 || k = 6 || k = 7 || k = 8 || k = 9 || k = 11 || k = 12 || k = 13 || k = 15 || k = 16 || k = 18
theorem wm_skC {k : Nat} (h : wm_sk k = true) : k = 4 ∨ k = 5 ∨ k = 6 ∨ k = 7 ∨ k = 8 ∨ k = 9 ∨ k = 11 ∨ k = 12 ∨ k = 13 ∨ k = 15 ∨ k = 16 ∨ k = 18 := by
  simpa [wm_sk, or_assoc] using h
theorem wm_fset {ad : Nat → Nat} {sc : wS1} {k : Nat} (h : wm_sk k = true) (x : Int32) : (wm_f ad sc).set k (.int x) = wm_f ad (upd sc k x) := by
  rcases wm_skC h with rfl | rfl | rfl | rfl | rfl | rfl | rfl | rfl | rfl | rfl | rfl | rfl <;> rfl
theorem wm_fat {ad : Nat → Nat} {sc : wS1} {k : Nat} (h : wm_sk k = true) : (wm_f ad sc)[k]? = some (.int (sc k)) := by
  rcases wm_skC h with rfl | rfl | rfl | rfl | rfl | rfl | rfl | rfl | rfl | rfl | rfl | rfl <;> rfl
/-- the world in the heap H, and what was done to the heap since H0 -/
def wm_S (D : va_G) (ac : Nat → ClassId) (A : Nat → Prop) (H0 : Heap) (mo : Nat) (ad : Nat → Nat) (sc : wS1) (ar : wS2) (H : Heap) (locs : List Loc) : Prop := va_P D gCl (wm_W ac mo ad sc ar) H ∧ va_S A H0 H locs
def wm_A (mo : Nat) (ad : Nat → Nat) (sz : Nat) : Nat → Prop := fun q => q ∈ wm_L mo ad ∨ sz ≤ q
def wm_Pre (D : va_G) (ac : Nat → ClassId) (mo : Nat) (ad : Nat → Nat) (sc : wS1) (ar : wS2) (sz : Nat) : State → Prop := fun U => U.heap.size = sz ∧ va_P D gCl (wm_W ac mo ad sc ar) U.heap ∧ va_K D gCl (gTy ac) U ∧ (wm_L mo ad).Nodup
def wm_B (D : va_G) (ac : Nat → ClassId) (mo : Nat) (ad : Nat → Nat) (u : wU) (t : State) : Prop := va_P D gCl (wm_W ac mo ad u.1 u.2) t.heap
/-- contracts: an int (boolean, char), nothing, a double, a float -/
def wm_Mi (l : Launch) (D : va_G) (ac : Nat → ClassId) (mo : Nat) (ad : Nat → Nat) (y : MethodName) (ws : List Cond) (rm : Room) (av : List Value) (sc : wS1) (ar : wS2) (post : Int32 → wS1 → wS2 → Prop) : Prop :=
  ∀ sz : Nat, Met l y ws rm (va_Pc av (wm_Pre D ac mo ad sc ar sz)) (va_Qi (S := wU) (fun r u => post r u.1 u.2) (wm_B D ac mo ad) (wm_A mo ad sz)) 0 0 (wm_A mo ad sz)
def wm_Mv (l : Launch) (D : va_G) (ac : Nat → ClassId) (mo : Nat) (ad : Nat → Nat) (y : MethodName) (ws : List Cond) (rm : Room) (av : List Value) (sc : wS1) (ar : wS2) (post : wS1 → wS2 → Prop) : Prop :=
  ∀ sz : Nat, Met l y ws rm (va_Pc av (wm_Pre D ac mo ad sc ar sz)) (va_Qv (S := wU) (fun u => post u.1 u.2) (wm_B D ac mo ad) (wm_A mo ad sz)) 0 0 (wm_A mo ad sz)
def wm_Md (l : Launch) (D : va_G) (ac : Nat → ClassId) (mo : Nat) (ad : Nat → Nat) (y : MethodName) (ws : List Cond) (rm : Room) (av : List Value) (sc : wS1) (ar : wS2) (post : UInt64 → wS1 → wS2 → Prop) : Prop :=
  ∀ sz : Nat, Met l y ws rm (va_Pc av (wm_Pre D ac mo ad sc ar sz)) (va_Qd (S := wU) (fun r u => post r u.1 u.2) (wm_B D ac mo ad) (wm_A mo ad sz)) 0 0 (wm_A mo ad sz)
def wm_Mf (l : Launch) (D : va_G) (ac : Nat → ClassId) (mo : Nat) (ad : Nat → Nat) (y : MethodName) (ws : List Cond) (rm : Room) (av : List Value) (sc : wS1) (ar : wS2) (post : UInt32 → wS1 → wS2 → Prop) : Prop :=
  ∀ sz : Nat, Met l y ws rm (va_Pc av (wm_Pre D ac mo ad sc ar sz)) (va_Qf (S := wU) (fun r u => post r u.1 u.2) (wm_B D ac mo ad) (wm_A mo ad sz)) 0 0 (wm_A mo ad sz)
/-- a method that reads and writes no cell, and makes none -/
def wp_Mi (l : Launch) (y : MethodName) (ws : List Cond) (rm : Room) (av : List Value) (post : Int32 → Prop) : Prop :=
  ∀ sz : Nat, Met l y ws rm (va_Pc av (fun U => U.heap.size = sz)) (va_Qi (S := Unit) (fun r _ => post r) (fun _ _ => True) (fun q => sz ≤ q)) 0 0 (fun q => sz ≤ q)
/-- what holds all through a method's body -/
def wm_C (p : Program) (s : State) (m : MethodId) (args : Array Value) (meth : Method) (c : Code) (y : MethodName) (cc : ByteArray) (maxL : Nat) (ret : Option FieldType) : Prop :=
  p.tables.exec = Jvm.exec ∧ c.code = cc ∧ meth.sig.returnType = ret ∧ meth.locks = false ∧ c.maxLocals = maxL ∧ s.vm.findClass y.cls = some m.cls ∧ (∀ w ∈ lw_all, w.before args s = true)
section WMR
variable {p : Program} {l : Launch} {e : Env} {R : Room} {s : State} {m : MethodId} {args : Array Value} {below : List Frame} {meth : Method} {c : Code} {H : Heap} {locs : List Loc} {cells slots : Nat} {Q : State → Prop}
variable {cc : ByteArray} {pc : Nat} {ls : Array Slot} {rest st0 : List Value} {D : va_G} {ac : Nat → ClassId} {A : Nat → Prop} {H0 : Heap} {mo : Nat} {ad : Nat → Nat} {sc : wS1} {ar : wS2} {own : String}
theorem wm_Mst (hP : va_P D gCl (wm_W ac mo ad sc ar) H) (hN : (wm_L mo ad).Nodup) (hA : ∀ q ∈ wm_L mo ad, A q) : va_D A (wm_W ac mo ad sc ar) := wm_Dof (by rw [wm_WL]; exact hN) (by rw [wm_WL]; exact hA)
theorem wm_get (hexec : p.tables.exec = Jvm.exec) (hb : c.code = cc) (hts : ∀ w ∈ lw_all, w.before args s = true) (hown : s.vm.findClass own = some m.cls) (hK : va_K D gCl (gTy ac) s) (hM : wm_S D ac A H0 mo ad sc ar H locs) (k : Nat) (hk : k < 19) {index : Nat} (hl : Cond.fieldLink own index (TX3 k).1 (TX3 k).2.1 (TX3 k).2.2.1 ∈ lw_all) {v : Value} (hv : (wm_f ad sc)[k]? = some v) (hdg : decode cc pc = .ok (.getfield index, 3))
    (kk : W p l e R s m args below meth c H locs cells slots Q (F0 m (pc + 3) ls (v :: rest))) : W p l e R s m args below meth c H locs cells slots Q (F0 m pc ls (.ref mo :: rest)) :=
  va_get (D := D) (ci := 0) (C := RX3) (T := TX3) (N := 19) hexec hb hts in_X3 hown hK hM.1 0 rfl rfl k hk (hts _ hl) (fun _ h9 => h9) hv hdg kk
theorem wm_put (hexec : p.tables.exec = Jvm.exec) (hb : c.code = cc) (hts : ∀ w ∈ lw_all, w.before args s = true) (hown : s.vm.findClass own = some m.cls) (hK : va_K D gCl (gTy ac) s) (hN : (wm_L mo ad).Nodup) (hAm : ∀ q ∈ wm_L mo ad, A q) (hM : wm_S D ac A H0 mo ad sc ar H locs) (k : Nat) (hk : k < 19) (hs : wm_sk k = true) {index : Nat} (hl : Cond.fieldLink own index (TX3 k).1 (TX3 k).2.1 (TX3 k).2.2.1 ∈ lw_all) (hfin : (TX3 k).2.2.2 = false) {x : Int32} (hn : narrow (tyX3 k) (.int x) = .int x) (hfit : fits (tyX3 k) (.int x) = true) (hdg : decode cc pc = .ok (.putfield index, 3))
    (kk : ∀ (H1 : Heap) (locs1 : List Loc), wm_S D ac A H0 mo ad (upd sc k x) ar H1 locs1 → W p l e R s m args below meth c H1 locs1 cells slots Q (F0 m (pc + 3) ls rest)) : W p l e R s m args below meth c H locs cells slots Q (F0 m pc ls (.int x :: .ref mo :: rest)) := by
  refine va_put (D := D) (ci := 0) (ty := tyX3 k) (C := RX3) (T := TX3) (N := 19) hexec hb hts in_X3 tyX3 tyX3_ok nmX3 hown hK hM.1 (wm_Mst hM.1 hN hAm) hM.2 0 rfl rfl k hk (hts _ hl) (fun _ h9 => h9) hfin (tyX3_ok k hk) hn hfit hk hdg (fun H1 locs1 hP hD hS => ?_)
  refine kk H1 locs1 ⟨?_, hS⟩
  rw [wm_fset hs] at hP
  exact hP
theorem wm_ald (hexec : p.tables.exec = Jvm.exec) (hb : c.code = cc) (hK : va_K D gCl (gTy ac) s) (hM : wm_S D ac A H0 mo ad sc ar H locs) {k : Nat} (hk : wm_ia k = true) {i : Int32} (hin : vp_in i (wm_len k)) {j : Nat} (hj : i.toNatClampNeg = j) {v : Int32} (hv : ar k j = v) (hdg : decode cc pc = .ok (.iaload, 1))
    (kk : W p l e R s m args below meth c H locs cells slots Q (F0 m (pc + 1) ls (.int v :: rest))) : W p l e R s m args below meth c H locs cells slots Q (F0 m pc ls (.int i :: .ref (ad k) :: rest)) := by
  subst hj
  subst hv
  exact va_iald hexec hb hK hM.1 (wm_pos k) 0 (wm_at hk) rfl hin hdg kk
theorem wm_ast (hexec : p.tables.exec = Jvm.exec) (hb : c.code = cc) (hK : va_K D gCl (gTy ac) s) (hN : (wm_L mo ad).Nodup) (hAm : ∀ q ∈ wm_L mo ad, A q) (hM : wm_S D ac A H0 mo ad sc ar H locs) {k : Nat} (hk : wm_ia k = true) {i x : Int32} (hin : vp_in i (wm_len k)) {j : Nat} (hj : i.toNatClampNeg = j) {f : Nat → Int32} (hf : ar k = f) (hdg : decode cc pc = .ok (.iastore, 1))
    (kk : ∀ (H1 : Heap) (locs1 : List Loc), wm_S D ac A H0 mo ad sc (va_up ar k (upd f j x)) H1 locs1 → W p l e R s m args below meth c H1 locs1 cells slots Q (F0 m (pc + 1) ls rest)) : W p l e R s m args below meth c H locs cells slots Q (F0 m pc ls (.int x :: .int i :: .ref (ad k) :: rest)) := by
  subst hj
  subst hf
  refine va_iast hexec hb hK hM.1 (wm_Mst hM.1 hN hAm) hM.2 (wm_pos k) 0 (wm_at hk) rfl hin hdg (fun H1 locs1 hP hD hS => ?_)
  rw [wm_aset hk] at hP
  exact kk H1 locs1 ⟨hP, hS⟩
theorem wm_cld (hexec : p.tables.exec = Jvm.exec) (hb : c.code = cc) (hK : va_K D gCl (gTy ac) s) (hM : wm_S D ac A H0 mo ad sc ar H locs) {i : Int32} (hin : vp_in i 60) {j : Nat} (hj : i.toNatClampNeg = j) {v : Int32} (hv : ar 14 j = v) (hdg : decode cc pc = .ok (.caload, 1))
    (kk : W p l e R s m args below meth c H locs cells slots Q (F0 m (pc + 1) ls (.int v :: rest))) : W p l e R s m args below meth c H locs cells slots Q (F0 m pc ls (.int i :: .ref (ad 14) :: rest)) := by
  subst hj
  subst hv
  exact va_cald hexec hb hK hM.1 6 1 rfl rfl hin hdg kk
theorem wm_cst (hexec : p.tables.exec = Jvm.exec) (hb : c.code = cc) (hK : va_K D gCl (gTy ac) s) (hN : (wm_L mo ad).Nodup) (hAm : ∀ q ∈ wm_L mo ad, A q) (hM : wm_S D ac A H0 mo ad sc ar H locs) {i x : Int32} (hin : vp_in i 60) {j : Nat} (hj : i.toNatClampNeg = j) {f : Nat → Int32} (hf : ar 14 = f) (hdg : decode cc pc = .ok (.castore, 1))
    (kk : ∀ (H1 : Heap) (locs1 : List Loc), wm_S D ac A H0 mo ad sc (va_up ar 14 (upd f j (vp_nar .char x))) H1 locs1 → W p l e R s m args below meth c H1 locs1 cells slots Q (F0 m (pc + 1) ls rest)) : W p l e R s m args below meth c H locs cells slots Q (F0 m pc ls (.int x :: .int i :: .ref (ad 14) :: rest)) := by
  subst hj
  subst hf
  refine va_cast hexec hb hK hM.1 (wm_Mst hM.1 hN hAm) hM.2 6 1 rfl rfl hin hdg (fun H1 locs1 hP hD hS => ?_)
  exact kk H1 locs1 ⟨hP, hS⟩
variable {y : MethodName} {bytes : ByteArray} {maxL nL n index : Nat} {ret : Option FieldType} {ws : List Cond} {rm : Room} {As : List Value}
theorem wm_blind {av : List Value} {sz : Nat} : FrameBlind (va_Pc av (wm_Pre D ac mo ad sc ar sz)) := fun a U g mk q => by
  obtain ⟨q0, q1, qP, qK, qN⟩ := q
  exact ⟨q0, q1, qP, va_K.moved (u := U) (U := U.calling g mk a) (Vm.Alike.refl U.vm) qK, qN⟩
theorem wm_pre (hK : va_K D gCl (gTy ac) s) (hN : (wm_L mo ad).Nodup) (hM : wm_S D ac A H0 mo ad sc ar H locs) (av : List Value) (U : State) (hU : U.heap = H) (hW : s.WarmedH U.vm) : va_Pc av (wm_Pre D ac mo ad sc ar H.size) av.toArray U :=
  ⟨rfl, by rw [hU], by rw [hU]; exact hM.1, va_K.moved hW.alike hK, hN⟩
theorem wm_sub (hAm : ∀ q ∈ wm_L mo ad, A q) (hA : ∀ q, H0.size ≤ q → A q) (hM : wm_S D ac A H0 mo ad sc ar H locs) : ∀ q, wm_A mo ad H.size q → A q := fun q h => h.elim (hAm q) (fun h => hA q (Nat.le_trans hM.2.1 h))
theorem wm_callVi {post : Int32 → wS1 → wS2 → Prop} (fx : CallFix p m c cc nL s args lw_all own) (hK : va_K D gCl (gTy ac) s) (hN : (wm_L mo ad).Nodup) (hAm : ∀ q ∈ wm_L mo ad, A q) (hA : ∀ q, H0.size ≤ q → A q) (hM : wm_S D ac A H0 mo ad sc ar H locs)
    (met : wm_Mi l D ac mo ad y ws rm (.ref mo :: As) sc ar post) (cw : CallW R s args own RX3 index y bytes maxL ret ws rm 0 0 n) (hn : As.length = n) (hls : ls.size = nL) (hst : st0 = As.reverse ++ .ref mo :: rest) (hrm : (rest.map fun v => v.category).sum ≤ 8) (hdg : decode cc pc = .ok (.invokevirtual index, 3)) (hf : cells ≤ R.cells ∧ slots ≤ R.slots)
    (kk : ∀ (r : Int32) (sc' : wS1) (ar' : wS2) (H1 : Heap) (locs1 : List Loc), post r sc' ar' → wm_S D ac A H0 mo ad sc' ar' H1 locs1 → W p l e R s m args below meth c H1 locs1 cells slots Q (F0 m (pc + 3) ls (.int r :: rest))) : W p l e R s m args below meth c H locs cells slots Q (F0 m pc ls st0) := by
  subst hst
  refine va_calli (va_runV (As := As) (rest := rest) fx (met H.size) cw ⟨wm_blind, va_recv hK hM.1 (ci := 0) (q0 := 0) rfl rfl, fun U hU hW => wm_pre hK hN hM _ U hU hW⟩ rfl hn hls rfl (lv_room hrm) hdg hf) hM.2 (fun q _ h => wm_sub hAm hA hM q h) (wm_sub hAm hA hM) (fun r u t H1 locs1 ht hvm hp hB hz1 hk1 hS => ?_)
  exact kk r u.1 u.2 H1 locs1 hp ⟨by rw [← ht]; exact hB, hS⟩
theorem wm_callVv {post : wS1 → wS2 → Prop} (fx : CallFix p m c cc nL s args lw_all own) (hK : va_K D gCl (gTy ac) s) (hN : (wm_L mo ad).Nodup) (hAm : ∀ q ∈ wm_L mo ad, A q) (hA : ∀ q, H0.size ≤ q → A q) (hM : wm_S D ac A H0 mo ad sc ar H locs)
    (met : wm_Mv l D ac mo ad y ws rm (.ref mo :: As) sc ar post) (cw : CallW R s args own RX3 index y bytes maxL ret ws rm 0 0 n) (hn : As.length = n) (hls : ls.size = nL) (hst : st0 = As.reverse ++ .ref mo :: rest) (hrm : (rest.map fun v => v.category).sum ≤ 8) (hdg : decode cc pc = .ok (.invokevirtual index, 3)) (hf : cells ≤ R.cells ∧ slots ≤ R.slots)
    (kk : ∀ (sc' : wS1) (ar' : wS2) (H1 : Heap) (locs1 : List Loc), post sc' ar' → wm_S D ac A H0 mo ad sc' ar' H1 locs1 → W p l e R s m args below meth c H1 locs1 cells slots Q (F0 m (pc + 3) ls rest)) : W p l e R s m args below meth c H locs cells slots Q (F0 m pc ls st0) := by
  subst hst
  refine va_callv (va_runV (As := As) (rest := rest) fx (met H.size) cw ⟨wm_blind, va_recv hK hM.1 (ci := 0) (q0 := 0) rfl rfl, fun U hU hW => wm_pre hK hN hM _ U hU hW⟩ rfl hn hls rfl (lv_room hrm) hdg hf) hM.2 (fun q _ h => wm_sub hAm hA hM q h) (wm_sub hAm hA hM) (fun u t H1 locs1 ht hvm hp hB hz1 hk1 hS => ?_)
  exact kk u.1 u.2 H1 locs1 hp ⟨by rw [← ht]; exact hB, hS⟩
theorem wm_callSv {post : wS1 → wS2 → Prop} (fx : CallFix p m c cc nL s args lw_all own) (hK : va_K D gCl (gTy ac) s) (hN : (wm_L mo ad).Nodup) (hAm : ∀ q ∈ wm_L mo ad, A q) (hA : ∀ q, H0.size ≤ q → A q) (hM : wm_S D ac A H0 mo ad sc ar H locs)
    (met : wm_Mv l D ac mo ad y ws rm As sc ar post) (cw : CallB R s args own index y bytes maxL ret ws rm 0 0 n ∧ (Cond.static y).before args s = true) (hn : As.length = n) (hls : ls.size = nL) (hst : st0 = As.reverse ++ rest) (hrm : (rest.map fun v => v.category).sum ≤ 8) (hdg : decode cc pc = .ok (.invokestatic index, 3)) (hf : cells ≤ R.cells ∧ slots ≤ R.slots)
    (kk : ∀ (sc' : wS1) (ar' : wS2) (H1 : Heap) (locs1 : List Loc), post sc' ar' → wm_S D ac A H0 mo ad sc' ar' H1 locs1 → W p l e R s m args below meth c H1 locs1 cells slots Q (F0 m (pc + 3) ls rest)) : W p l e R s m args below meth c H locs cells slots Q (F0 m pc ls st0) := by
  subst hst
  refine va_callv (va_runS (As := As) (rest := rest) fx (met H.size) cw ⟨wm_blind, fun U hU hW => wm_pre hK hN hM _ U hU hW⟩ rfl hn hls rfl (lv_room hrm) hdg hf) hM.2 (fun q _ h => wm_sub hAm hA hM q h) (wm_sub hAm hA hM) (fun u t H1 locs1 ht hvm hp hB hz1 hk1 hS => ?_)
  exact kk u.1 u.2 H1 locs1 hp ⟨by rw [← ht]; exact hB, hS⟩
/-- a call of a method without a world, from the model's world -/
theorem wm_callPi {post : Int32 → Prop} (fx : CallFix p m c cc nL s args lw_all own) (hA : ∀ q, H0.size ≤ q → A q) (hM : wm_S D ac A H0 mo ad sc ar H locs)
    (met : wp_Mi l y ws rm As post) (cw : CallB R s args own index y bytes maxL ret ws rm 0 0 n ∧ (Cond.static y).before args s = true) (hn : As.length = n) (hls : ls.size = nL) (hst : st0 = As.reverse ++ rest) (hrm : (rest.map fun v => v.category).sum ≤ 8) (hdg : decode cc pc = .ok (.invokestatic index, 3)) (hf : cells ≤ R.cells ∧ slots ≤ R.slots)
    (kk : ∀ (r : Int32) (H1 : Heap) (locs1 : List Loc), post r → wm_S D ac A H0 mo ad sc ar H1 locs1 → W p l e R s m args below meth c H1 locs1 cells slots Q (F0 m (pc + 3) ls (.int r :: rest))) : W p l e R s m args below meth c H locs cells slots Q (F0 m pc ls st0) := by
  subst hst
  refine va_calli (va_runS (As := As) (rest := rest) fx (met H.size) cw ⟨fun a U g mk q => q, fun U hU hW => ⟨rfl, congrArg Array.size hU⟩⟩ rfl hn hls rfl (lv_room hrm) hdg hf) hM.2 (fun q _ h => hA q (Nat.le_trans hM.2.1 h)) (fun q h => hA q (Nat.le_trans hM.2.1 h)) (fun r u t H1 locs1 ht hvm hp hB hz1 hk1 hS => ?_)
  refine kk r H1 locs1 hp ⟨hM.1.kept (fun k x hx => ?_), hS⟩
  have hlt := (hM.1 k x hx).lt
  exact hk1 x.1 hlt (Nat.not_le.mpr hlt)
/-- a method's body begins -/
theorem wm_ofi {rm : Room} {av : List Value} {post : Int32 → wS1 → wS2 → Prop} (hy : plainName y.cls = true) (hlen : (lg_sl av).length ≤ maxL)
    (body : ∀ (p : Program) (e : Env) (s : State) (m : MethodId) (below : List Frame) (meth : Method) (c : Code) (A : Nat → Prop) (ls : Array Slot), p.tables.exec = Jvm.exec → c.code = cc → meth.sig.returnType = ret → meth.locks = false → c.maxLocals = maxL → s.vm.findClass y.cls = some m.cls → (∀ w ∈ lw_all, w.before av.toArray s = true) → va_K D gCl (gTy ac) s → (wm_L mo ad).Nodup → (∀ q ∈ wm_L mo ad, A q) → (∀ q, s.heap.size ≤ q → A q) → wm_S D ac A s.heap mo ad sc ar s.heap [] → lv_has ls maxL (lv_args 0 av) →
      W p l e (headSpec (ws_ y cc maxL ret) rm).room s m av.toArray below meth c s.heap [] 0 0 (MQ below (va_Qi (S := wU) (fun r u => post r u.1 u.2) (wm_B D ac mo ad) A) av.toArray s 0 0 A) (F0 m 0 ls [])) : wm_Mi l D ac mo ad y (ws_ y cc maxL ret) rm av sc ar post := by
  intro sz
  refine Met.ofW (cc := cc) (maxL := maxL) (ret := ret) hy rfl ?_
  intro p e s m args below meth c s₁ B hml hv
  obtain ⟨rfl, hsz, hP, hK, hN⟩ := hv
  have hts := atoms_spec (ws := ws_ y cc maxL ret) B.pre
  have hl := lv_entry av (n := maxL) hlen
  rw [lg_entry_eq]
  subst hsz
  exact body p e s m below meth c _ _ B.exec B.bytes B.returns B.notSynchronized hml (findClass_of_methodNamed B.named) (fun w h => hts w (List.mem_cons_of_mem _ h)) hK hN (fun q h => Or.inl h) (fun q h => Or.inr h) ⟨hP, va_S.rf⟩ hl
theorem wm_ofv {rm : Room} {av : List Value} {post : wS1 → wS2 → Prop} (hy : plainName y.cls = true) (hlen : (lg_sl av).length ≤ maxL)
    (body : ∀ (p : Program) (e : Env) (s : State) (m : MethodId) (below : List Frame) (meth : Method) (c : Code) (A : Nat → Prop) (ls : Array Slot), p.tables.exec = Jvm.exec → c.code = cc → meth.sig.returnType = ret → meth.locks = false → c.maxLocals = maxL → s.vm.findClass y.cls = some m.cls → (∀ w ∈ lw_all, w.before av.toArray s = true) → va_K D gCl (gTy ac) s → (wm_L mo ad).Nodup → (∀ q ∈ wm_L mo ad, A q) → (∀ q, s.heap.size ≤ q → A q) → wm_S D ac A s.heap mo ad sc ar s.heap [] → lv_has ls maxL (lv_args 0 av) →
      W p l e (headSpec (ws_ y cc maxL ret) rm).room s m av.toArray below meth c s.heap [] 0 0 (MQ below (va_Qv (S := wU) (fun u => post u.1 u.2) (wm_B D ac mo ad) A) av.toArray s 0 0 A) (F0 m 0 ls [])) : wm_Mv l D ac mo ad y (ws_ y cc maxL ret) rm av sc ar post := by
  intro sz
  refine Met.ofW (cc := cc) (maxL := maxL) (ret := ret) hy rfl ?_
  intro p e s m args below meth c s₁ B hml hv
  obtain ⟨rfl, hsz, hP, hK, hN⟩ := hv
  have hts := atoms_spec (ws := ws_ y cc maxL ret) B.pre
  have hl := lv_entry av (n := maxL) hlen
  rw [lg_entry_eq]
  subst hsz
  exact body p e s m below meth c _ _ B.exec B.bytes B.returns B.notSynchronized hml (findClass_of_methodNamed B.named) (fun w h => hts w (List.mem_cons_of_mem _ h)) hK hN (fun q h => Or.inl h) (fun q h => Or.inr h) ⟨hP, va_S.rf⟩ hl
theorem wm_ofd {rm : Room} {av : List Value} {post : UInt64 → wS1 → wS2 → Prop} (hy : plainName y.cls = true) (hlen : (lg_sl av).length ≤ maxL)
    (body : ∀ (p : Program) (e : Env) (s : State) (m : MethodId) (below : List Frame) (meth : Method) (c : Code) (A : Nat → Prop) (ls : Array Slot), p.tables.exec = Jvm.exec → c.code = cc → meth.sig.returnType = ret → meth.locks = false → c.maxLocals = maxL → s.vm.findClass y.cls = some m.cls → (∀ w ∈ lw_all, w.before av.toArray s = true) → va_K D gCl (gTy ac) s → (wm_L mo ad).Nodup → (∀ q ∈ wm_L mo ad, A q) → (∀ q, s.heap.size ≤ q → A q) → wm_S D ac A s.heap mo ad sc ar s.heap [] → lv_has ls maxL (lv_args 0 av) →
      W p l e (headSpec (ws_ y cc maxL ret) rm).room s m av.toArray below meth c s.heap [] 0 0 (MQ below (va_Qd (S := wU) (fun r u => post r u.1 u.2) (wm_B D ac mo ad) A) av.toArray s 0 0 A) (F0 m 0 ls [])) : wm_Md l D ac mo ad y (ws_ y cc maxL ret) rm av sc ar post := by
  intro sz
  refine Met.ofW (cc := cc) (maxL := maxL) (ret := ret) hy rfl ?_
  intro p e s m args below meth c s₁ B hml hv
  obtain ⟨rfl, hsz, hP, hK, hN⟩ := hv
  have hts := atoms_spec (ws := ws_ y cc maxL ret) B.pre
  have hl := lv_entry av (n := maxL) hlen
  rw [lg_entry_eq]
  subst hsz
  exact body p e s m below meth c _ _ B.exec B.bytes B.returns B.notSynchronized hml (findClass_of_methodNamed B.named) (fun w h => hts w (List.mem_cons_of_mem _ h)) hK hN (fun q h => Or.inl h) (fun q h => Or.inr h) ⟨hP, va_S.rf⟩ hl
theorem wm_off {rm : Room} {av : List Value} {post : UInt32 → wS1 → wS2 → Prop} (hy : plainName y.cls = true) (hlen : (lg_sl av).length ≤ maxL)
    (body : ∀ (p : Program) (e : Env) (s : State) (m : MethodId) (below : List Frame) (meth : Method) (c : Code) (A : Nat → Prop) (ls : Array Slot), p.tables.exec = Jvm.exec → c.code = cc → meth.sig.returnType = ret → meth.locks = false → c.maxLocals = maxL → s.vm.findClass y.cls = some m.cls → (∀ w ∈ lw_all, w.before av.toArray s = true) → va_K D gCl (gTy ac) s → (wm_L mo ad).Nodup → (∀ q ∈ wm_L mo ad, A q) → (∀ q, s.heap.size ≤ q → A q) → wm_S D ac A s.heap mo ad sc ar s.heap [] → lv_has ls maxL (lv_args 0 av) →
      W p l e (headSpec (ws_ y cc maxL ret) rm).room s m av.toArray below meth c s.heap [] 0 0 (MQ below (va_Qf (S := wU) (fun r u => post r u.1 u.2) (wm_B D ac mo ad) A) av.toArray s 0 0 A) (F0 m 0 ls [])) : wm_Mf l D ac mo ad y (ws_ y cc maxL ret) rm av sc ar post := by
  intro sz
  refine Met.ofW (cc := cc) (maxL := maxL) (ret := ret) hy rfl ?_
  intro p e s m args below meth c s₁ B hml hv
  obtain ⟨rfl, hsz, hP, hK, hN⟩ := hv
  have hts := atoms_spec (ws := ws_ y cc maxL ret) B.pre
  have hl := lv_entry av (n := maxL) hlen
  rw [lg_entry_eq]
  subst hsz
  exact body p e s m below meth c _ _ B.exec B.bytes B.returns B.notSynchronized hml (findClass_of_methodNamed B.named) (fun w h => hts w (List.mem_cons_of_mem _ h)) hK hN (fun q h => Or.inl h) (fun q h => Or.inr h) ⟨hP, va_S.rf⟩ hl
theorem wp_ofi {rm : Room} {av : List Value} {post : Int32 → Prop} (hy : plainName y.cls = true) (hlen : (lg_sl av).length ≤ maxL)
    (body : ∀ (p : Program) (e : Env) (s : State) (m : MethodId) (below : List Frame) (meth : Method) (c : Code) (A : Nat → Prop) (ls : Array Slot), p.tables.exec = Jvm.exec → c.code = cc → meth.sig.returnType = ret → meth.locks = false → c.maxLocals = maxL → s.vm.findClass y.cls = some m.cls → (∀ w ∈ lw_all, w.before av.toArray s = true) → (∀ q, s.heap.size ≤ q → A q) → va_S A s.heap s.heap [] → lv_has ls maxL (lv_args 0 av) →
      W p l e (headSpec (ws_ y cc maxL ret) rm).room s m av.toArray below meth c s.heap [] 0 0 (MQ below (va_Qi (S := Unit) (fun r _ => post r) (fun _ _ => True) A) av.toArray s 0 0 A) (F0 m 0 ls [])) : wp_Mi l y (ws_ y cc maxL ret) rm av post := by
  intro sz
  refine Met.ofW (cc := cc) (maxL := maxL) (ret := ret) hy rfl ?_
  intro p e s m args below meth c s₁ B hml hv
  obtain ⟨rfl, hsz⟩ := hv
  have hts := atoms_spec (ws := ws_ y cc maxL ret) B.pre
  have hl := lv_entry av (n := maxL) hlen
  rw [lg_entry_eq]
  subst hsz
  exact body p e s m below meth c _ _ B.exec B.bytes B.returns B.notSynchronized hml (findClass_of_methodNamed B.named) (fun w h => hts w (List.mem_cons_of_mem _ h)) (fun q h => h) va_S.rf hl
/-- returns -/
theorem wm_reti {post : Int32 → wS1 → wS2 → Prop} {ty : FieldType} {v : Int32} (hexec : p.tables.exec = Jvm.exec) (hb : c.code = cc) (hr : meth.sig.returnType = some ty) (hlk : meth.locks = false) (hM : wm_S D ac A s.heap mo ad sc ar H locs) (hn : narrow ty (.int v) = .int v) (hw : post v sc ar) (hdg : decode cc pc = .ok (.ireturn, 1)) :
    W p l e R s m args below meth c H locs 0 0 (MQ below (va_Qi (S := wU) (fun r u => post r u.1 u.2) (wm_B D ac mo ad) A) args s 0 0 A) (F0 m pc ls [.int v]) :=
  W.zret hexec hb hr hn (fun t ht hW => ⟨⟨v, (sc, ar), rfl, hw, by rw [wm_B, ht]; exact hM.1⟩, hM.2.F ht⟩) hM.2.2.2 hdg hlk
theorem wm_retv {post : wS1 → wS2 → Prop} (hexec : p.tables.exec = Jvm.exec) (hb : c.code = cc) (hr : meth.sig.returnType = none) (hlk : meth.locks = false) (hM : wm_S D ac A s.heap mo ad sc ar H locs) (hw : post sc ar) (hdg : decode cc pc = .ok (.return_, 1)) :
    W p l e R s m args below meth c H locs 0 0 (MQ below (va_Qv (S := wU) (fun u => post u.1 u.2) (wm_B D ac mo ad) A) args s 0 0 A) (F0 m pc ls []) :=
  W.vret hexec hb hr (fun t ht hW => ⟨⟨(sc, ar), rfl, hw, by rw [wm_B, ht]; exact hM.1⟩, hM.2.F ht⟩) hM.2.2.2 hdg hlk
theorem wm_retd {post : UInt64 → wS1 → wS2 → Prop} {v : UInt64} (hexec : p.tables.exec = Jvm.exec) (hb : c.code = cc) (hr : meth.sig.returnType = some .double) (hlk : meth.locks = false) (hM : wm_S D ac A s.heap mo ad sc ar H locs) (hw : post v sc ar) (hdg : decode cc pc = .ok (.dreturn, 1)) :
    W p l e R s m args below meth c H locs 0 0 (MQ below (va_Qd (S := wU) (fun r u => post r u.1 u.2) (wm_B D ac mo ad) A) args s 0 0 A) (F0 m pc ls [.double v]) :=
  W.dret hexec hb hr (fun t ht hW => ⟨⟨v, (sc, ar), rfl, hw, by rw [wm_B, ht]; exact hM.1⟩, hM.2.F ht⟩) hM.2.2.2 hdg hlk
theorem wm_retf {post : UInt32 → wS1 → wS2 → Prop} {v : UInt32} (hexec : p.tables.exec = Jvm.exec) (hb : c.code = cc) (hr : meth.sig.returnType = some .float) (hlk : meth.locks = false) (hM : wm_S D ac A s.heap mo ad sc ar H locs) (hw : post v sc ar) (hdg : decode cc pc = .ok (.freturn, 1)) :
    W p l e R s m args below meth c H locs 0 0 (MQ below (va_Qf (S := wU) (fun r u => post r u.1 u.2) (wm_B D ac mo ad) A) args s 0 0 A) (F0 m pc ls [.float v]) :=
  W.fret hexec hb hr (fun t ht hW => ⟨⟨v, (sc, ar), rfl, hw, by rw [wm_B, ht]; exact hM.1⟩, hM.2.F ht⟩) hM.2.2.2 hdg hlk
theorem wp_reti {post : Int32 → Prop} {ty : FieldType} {v : Int32} (hexec : p.tables.exec = Jvm.exec) (hb : c.code = cc) (hr : meth.sig.returnType = some ty) (hlk : meth.locks = false) (hS : va_S A s.heap H locs) (hn : narrow ty (.int v) = .int v) (hw : post v) (hdg : decode cc pc = .ok (.ireturn, 1)) :
    W p l e R s m args below meth c H locs 0 0 (MQ below (va_Qi (S := Unit) (fun r _ => post r) (fun _ _ => True) A) args s 0 0 A) (F0 m pc ls [.int v]) :=
  W.zret hexec hb hr hn (fun t ht hW => ⟨⟨v, (), rfl, hw, trivial⟩, hS.F ht⟩) hS.2.2 hdg hlk
end WMR
