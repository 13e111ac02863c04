/-! what holds all through a run, and the rows over the ghost heap -/
set_option maxRecDepth 100000
/-- statics: class, name, descriptor, value -/
def gZs (E : gE) : List (String × String × String × Value) := [
  ("java/lang/String", "COMPACT_STRINGS", "Z", .int 1), ("WillowPrinters$Stage", "PLAIN", "LWillowPrinters$Stage;", .ref (eZ E 0)), ("WillowPrinters$Stage", "PRINTED", "LWillowPrinters$Stage;", .ref (eZ E 1)), ("WillowPrinters$Stage", "BURNING", "LWillowPrinters$Stage;", .ref (eZ E 2)), ("WillowPrinters$Stage", "FIRED", "LWillowPrinters$Stage;", .ref (eZ E 3)),
  ("java/util/ArrayList", "EMPTY_ELEMENTDATA", "[Ljava/lang/Object;", .ref (eZ E 4)), ("java/util/ArrayList", "DEFAULTCAPACITY_EMPTY_ELEMENTDATA", "[Ljava/lang/Object;", .ref (eZ E 5)), ("java/lang/Integer", "DigitOnes", "[B", .ref (eZ E 6)), ("java/lang/Integer", "DigitTens", "[B", .ref (eZ E 7)),
  ("java/lang/Throwable", "UNASSIGNED_STACK", "[Ljava/lang/StackTraceElement;", va_rf (eQ E 0)), ("java/lang/Throwable", "SUPPRESSED_SENTINEL", "Ljava/util/List;", va_rf (eQ E 1))]
def gStage (i : Nat) : String := match i with
  | 0 => "WillowPrinters$Stage$1"
  | 1 => "WillowPrinters$Stage$2"
  | 2 => "WillowPrinters$Stage$3"
  | _ => "WillowPrinters$Stage$4"
/-- texts: class, place, text, address -/
def gTx (E : gE) : List (String × Nat × String × Nat) := [("WillowPrinters", 84, "", eZ E 10), ("WillowPrinters$Lot", 88, " k", eZ E 11), ("WillowPrinters$Lot", 90, " in ", eZ E 12), ("WillowPrinters$Stage$1", 7, "plain", eZ E 13), ("WillowPrinters$Stage$2", 7, "printed ", eZ E 14), ("WillowPrinters$Stage$3", 7, "kiln ", eZ E 15), ("WillowPrinters$Stage$4", 7, "fired ", eZ E 16), ("WillowPrintersModel", 164, " plain", eZ E 17), ("WillowPrintersModel", 166, " printed ", eZ E 18), ("WillowPrintersModel", 168, " kiln ", eZ E 19), ("WillowPrintersModel", 170, " fired ", eZ E 20), ("WillowPrintersModel", 176, " k", eZ E 21), ("WillowPrintersModel", 178, " in ", eZ E 22)]
/-- interface calls: the receiver's class, the method named, the method run -/
def gFws : List (String × MethodName × MethodName) := [("java/util/ArrayList$Itr", ⟨"java/util/Iterator", "hasNext", "()Z"⟩, ⟨"java/util/ArrayList$Itr", "hasNext", "()Z"⟩), ("java/util/ArrayList$Itr", ⟨"java/util/Iterator", "next", "()Ljava/lang/Object;"⟩, ⟨"java/util/ArrayList$Itr", "next", "()Ljava/lang/Object;"⟩), ("java/lang/StringBuilder", ⟨"java/lang/CharSequence", "length", "()I"⟩, ⟨"java/lang/StringBuilder", "length", "()I"⟩), ("java/lang/StringBuilder", ⟨"java/lang/CharSequence", "charAt", "(I)C"⟩, ⟨"java/lang/StringBuilder", "charAt", "(I)C"⟩), ("WillowPrinters$Plain", ⟨"WillowPrinters$State", "stage", "()LWillowPrinters$Stage;"⟩, ⟨"WillowPrinters$Plain", "stage", "()LWillowPrinters$Stage;"⟩), ("WillowPrinters$Printed", ⟨"WillowPrinters$State", "stage", "()LWillowPrinters$Stage;"⟩, ⟨"WillowPrinters$Printed", "stage", "()LWillowPrinters$Stage;"⟩), ("WillowPrinters$Burning", ⟨"WillowPrinters$State", "stage", "()LWillowPrinters$Stage;"⟩, ⟨"WillowPrinters$Burning", "stage", "()LWillowPrinters$Stage;"⟩), ("WillowPrinters$Fired", ⟨"WillowPrinters$State", "stage", "()LWillowPrinters$Stage;"⟩, ⟨"WillowPrinters$Fired", "stage", "()LWillowPrinters$Stage;"⟩), ("WillowPrinters$Printed", ⟨"WillowPrinters$State", "well", "()I"⟩, ⟨"WillowPrinters$Printed", "well", "()I"⟩), ("WillowPrinters$Burning", ⟨"WillowPrinters$State", "well", "()I"⟩, ⟨"WillowPrinters$Burning", "well", "()I"⟩), ("WillowPrinters$Fired", ⟨"WillowPrinters$State", "well", "()I"⟩, ⟨"WillowPrinters$Fired", "well", "()I"⟩)]
theorem gFws_ok : ∀ f ∈ gFws, f.2.1.cls ≠ "java/lang/invoke/MethodHandle" ∧ f.2.1.cls ≠ "java/lang/invoke/VarHandle" := by decide +kernel
/-- pairs that aren't castable -/
def gNcs : List (String × String) := [("WillowPrinters$Plain", "WillowPrinters$Burning"), ("WillowPrinters$Plain", "WillowPrinters$Fired"), ("WillowPrinters$Printed", "WillowPrinters$Plain"), ("WillowPrinters$Printed", "WillowPrinters$Burning"), ("WillowPrinters$Printed", "WillowPrinters$Fired"), ("WillowPrinters$Burning", "WillowPrinters$Plain"), ("WillowPrinters$Burning", "WillowPrinters$Fired"), ("WillowPrinters$Fired", "WillowPrinters$Plain"), ("WillowPrinters$Fired", "WillowPrinters$Burning"), ("java/lang/IllegalArgumentException", "java/lang/UnsupportedOperationException"), ("java/lang/IllegalArgumentException", "java/lang/IllegalStateException"), ("java/lang/IllegalArgumentException", "java/lang/IndexOutOfBoundsException"), ("java/lang/IllegalArgumentException", "java/util/NoSuchElementException"), ("java/lang/IllegalArgumentException", "java/lang/ArithmeticException"), ("java/lang/IllegalArgumentException", "WillowPrinters$Refused"), ("java/lang/IllegalArgumentException", "WillowPrinters$SyntaxException"), ("java/lang/UnsupportedOperationException", "java/lang/IllegalArgumentException"), ("java/lang/UnsupportedOperationException", "java/lang/IllegalStateException"), ("java/lang/UnsupportedOperationException", "java/lang/IndexOutOfBoundsException"), ("java/lang/UnsupportedOperationException", "java/util/NoSuchElementException"), ("java/lang/UnsupportedOperationException", "java/lang/ArithmeticException"), ("java/lang/UnsupportedOperationException", "WillowPrinters$Refused"), ("java/lang/UnsupportedOperationException", "WillowPrinters$SyntaxException"), ("java/lang/IllegalStateException", "java/lang/IllegalArgumentException"), ("java/lang/IllegalStateException", "java/lang/UnsupportedOperationException"), ("java/lang/IllegalStateException", "java/lang/IndexOutOfBoundsException"), ("java/lang/IllegalStateException", "java/util/NoSuchElementException"), ("java/lang/IllegalStateException", "java/lang/ArithmeticException"), ("java/lang/IllegalStateException", "WillowPrinters$Refused"), ("java/lang/IllegalStateException", "WillowPrinters$SyntaxException"), ("java/lang/IndexOutOfBoundsException", "java/lang/IllegalArgumentException"), ("java/lang/IndexOutOfBoundsException", "java/lang/UnsupportedOperationException"), ("java/lang/IndexOutOfBoundsException", "java/lang/IllegalStateException"), ("java/lang/IndexOutOfBoundsException", "java/util/NoSuchElementException"), ("java/lang/IndexOutOfBoundsException", "java/lang/ArithmeticException"), ("java/lang/IndexOutOfBoundsException", "WillowPrinters$Refused"), ("java/lang/IndexOutOfBoundsException", "WillowPrinters$SyntaxException"), ("java/util/NoSuchElementException", "java/lang/IllegalArgumentException"), ("java/util/NoSuchElementException", "java/lang/UnsupportedOperationException"), ("java/util/NoSuchElementException", "java/lang/IllegalStateException"), ("java/util/NoSuchElementException", "java/lang/IndexOutOfBoundsException"), ("java/util/NoSuchElementException", "java/lang/ArithmeticException"), ("java/util/NoSuchElementException", "WillowPrinters$Refused"), ("java/util/NoSuchElementException", "WillowPrinters$SyntaxException"), ("java/lang/ArithmeticException", "java/lang/IllegalArgumentException"), ("java/lang/ArithmeticException", "java/lang/UnsupportedOperationException"), ("java/lang/ArithmeticException", "java/lang/IllegalStateException"), ("java/lang/ArithmeticException", "java/lang/IndexOutOfBoundsException"), ("java/lang/ArithmeticException", "java/util/NoSuchElementException"), ("java/lang/ArithmeticException", "WillowPrinters$Refused"), ("java/lang/ArithmeticException", "WillowPrinters$SyntaxException"), ("WillowPrinters$Refused", "java/lang/IllegalArgumentException"), ("WillowPrinters$Refused", "java/lang/UnsupportedOperationException"), ("WillowPrinters$Refused", "java/lang/IllegalStateException"), ("WillowPrinters$Refused", "java/lang/IndexOutOfBoundsException"), ("WillowPrinters$Refused", "java/util/NoSuchElementException"), ("WillowPrinters$Refused", "java/lang/ArithmeticException"), ("WillowPrinters$Refused", "WillowPrinters$SyntaxException"), ("WillowPrinters$SyntaxException", "java/lang/IllegalArgumentException"), ("WillowPrinters$SyntaxException", "java/lang/UnsupportedOperationException"), ("WillowPrinters$SyntaxException", "java/lang/IllegalStateException"), ("WillowPrinters$SyntaxException", "java/lang/IndexOutOfBoundsException"), ("WillowPrinters$SyntaxException", "java/util/NoSuchElementException"), ("WillowPrinters$SyntaxException", "java/lang/ArithmeticException"), ("WillowPrinters$SyntaxException", "WillowPrinters$Refused")]
/-- the sites of lambdas, in the Statement's order -/
def gLs : List Cond := [siteWord_1_1, siteWord_1_2, siteWord_1_3, siteWord_1_4, siteWord_1_5, siteWord_1_6, siteWord_1_7, siteWord_1_8, siteWord_1_9, siteWord_1_10, siteWord_1_11, siteWord_1_12, siteWord_1_13, siteWord_1_14, siteWord_1_15, siteWord_1_16, siteWord_1_17, siteWord_1_18, siteWord_1_19, siteWord_1_20, siteWord_1_21, siteWord_1_22, siteWord_1_23, siteWord_1_24, siteWord_1_25, siteWord_1_26, siteWord_1_27, siteWord_1_28, siteWord_1_29, siteWord_1_30]
/-- a lambda's site: linked, to a class that was made for it; a constant where nothing is captured -/
def gLm (w : Cond) (c : ClassId) (one : Nat) (U : State) : Prop := match w with
  | .lambdaSite x pc idx σ => ∃ (m : MethodId) (k : Class) (cf : ClassFile) (i0 p0 : Nat) (lk : Linked), U.methodNamed? x = some m ∧ U.vm.classes[m.cls]? = some k ∧ k.cf = some cf ∧ Lambda.shapeOf? cf idx = some σ ∧
      (k.callSites.find? fun y => y.1 == m.idx && y.2.1 == pc) = some (i0, p0, lk) ∧ Lambda.isMade { classPath := fun _ => none } U.vm m.cls σ c = true ∧ U.lambdaCallable σ c = true ∧
      ((σ.captured = [] ∧ lk = .constant one) ∨ (σ.captured ≠ [] ∧ lk = .makes c))
  | _ => True
theorem gLm.warm {w : Cond} {c : ClassId} {one : Nat} {s U : State} (hW : s.WarmedH U.vm) (h : gLm w c one s) : gLm w c one U := by
  unfold gLm at h ⊢
  split at h
  · rename_i x pc idx σ
    obtain ⟨m, kc, cf, i0, p0, l, hm, hk, hcf, hsh, hfind, hmade, hcall, hl⟩ := h
    have hcall' : U.lambdaCallable σ c = true := by
      have hA := hW.alike
      simp only [State.lambdaCallable, hA.findClass, hA.assignable, hA.superclasses, hA.declaredIn] at hcall ⊢
      exact hcall
    obtain ⟨kc', hk', he⟩ := hW.alike.2.2 _ _ hk
    have hm' : U.methodNamed? x = some m := by
      have := State.methodNamed?_setVm (s := s) hW.alike x
      rw [hm] at this
      exact this
    exact ⟨m, kc', cf, i0, p0, l, hm', hk', by rw [he]; exact hcf, hsh, by rw [he]; exact hfind, Lambda.isMade_warmer hW hmade, hcall', hl⟩
  · trivial
/-- the default method of an interface -/
def gWl : MethodName := ⟨"WillowPrinters$State", "well", "()I"⟩
def va_Ld (U : State) : Prop := (Cond.landsInDefault "WillowPrinters$Plain" gWl gWl).before #[] U = true ∧ (Cond.publicMethod gWl).before #[] U = true
theorem va_Ld.moved {u U : State} (hvm : u.vm.Alike U.vm) (h : va_Ld u) : va_Ld U := by
  obtain ⟨h1, h2⟩ := h
  obtain ⟨c, r, m, rm, q1, q2, q3, q4⟩ := Cond.landsInDefault_spec h1
  have tr : ∀ {c : Cond}, c.onTables = true → c.before #[] (u.setVm U.vm) = true → c.before #[] U = true := by
    intro c hc h
    have e := Cond.onTables_vm (A := #[]) (A' := #[]) (U := u) (U' := U) U.vm c hc
    have hU : U.setVm U.vm = U := rfl
    rw [hU] at e
    rw [← e]
    exact h
  have h3 : (Cond.landsInDefault "WillowPrinters$Plain" gWl gWl).before #[] (u.setVm U.vm) = true := by rw [Cond.landsInDefault_setVm hvm (State.methodFound?_setVm_of_named hvm q3 ⟨by decide, by decide⟩)]; exact h1
  refine ⟨?_, tr rfl (by rw [Cond.publicMethod_setVm hvm]; exact h2)⟩
  simp only [Cond.before, Cond.holds, Cond.value] at h3 ⊢
  exact h3
def gPF (E : gE) (A : Nat → Prop) (U : State) : Prop :=
  va_K (eD E) gCl (gTy (eA E)) U ∧ (∀ w ∈ lw_tbl, gPok w = true → va_Nw w U) ∧ (∀ f ∈ gFws, va_Fw f.1 f.2.1 f.2.2 U) ∧ va_AO "java/lang/Object" U ∧ (∀ n ∈ gNcs, va_Nc n.1 n.2 U) ∧
  (∀ z ∈ gZs E, va_Z z.1 z.2.1 z.2.2.1 z.2.2.2 A U U.heap) ∧ (∀ z ∈ gTx E, vk_R z.1 z.2.1 z.2.2.1 z.2.2.2 U) ∧ (∀ i < 4, va_O (gStage i) (eZ E i) A U U.heap ∧ va_OF "java/lang/Enum" "ordinal" "I" (.int (nI i)) (eZ E i) A U U.heap) ∧
  vx_L Bundle.tN "UNASSIGNED_STACK" Bundle.steD A U U.heap ∧ vx_L Bundle.tN "SUPPRESSED_SENTINEL" Bundle.listD A U U.heap ∧ va_Mi "[Ljava/lang/Object;" (eZ E 8) U ∧ va_Ld U ∧ (∀ (i : Nat) (w : Cond), gLs[i]? = some w → gLm w (eL E i) (eZ E (30 + i)) U)
theorem gPF.K {E : gE} {A : Nat → Prop} {U : State} (h : gPF E A U) : va_K (eD E) gCl (gTy (eA E)) U := h.1
theorem gPF.w {E : gE} {A : Nat → Prop} {U : State} (h : gPF E A U) {w : Cond} (hw : w ∈ lw_tbl) (hp : gPok w = true) : va_Nw w U := h.2.1 w hw hp
theorem gPF.f {E : gE} {A : Nat → Prop} {U : State} (h : gPF E A U) (i : Nat) {f : String × MethodName × MethodName} (hf : gFws[i]? = some f) : va_Fw f.1 f.2.1 f.2.2 U := h.2.2.1 f (List.mem_of_getElem? hf)
theorem gPF.o {E : gE} {A : Nat → Prop} {U : State} (h : gPF E A U) : va_AO "java/lang/Object" U := h.2.2.2.1
theorem gPF.n {E : gE} {A : Nat → Prop} {U : State} (h : gPF E A U) (i : Nat) {n : String × String} (hn : gNcs[i]? = some n) : va_Nc n.1 n.2 U := h.2.2.2.2.1 n (List.mem_of_getElem? hn)
theorem gPF.z {E : gE} {A : Nat → Prop} {U : State} (h : gPF E A U) (i : Nat) {z : String × String × String × Value} (hz : (gZs E)[i]? = some z) : va_Z z.1 z.2.1 z.2.2.1 z.2.2.2 A U U.heap := h.2.2.2.2.2.1 z (List.mem_of_getElem? hz)
theorem gPF.t {E : gE} {A : Nat → Prop} {U : State} (h : gPF E A U) (i : Nat) {z : String × Nat × String × Nat} (hz : (gTx E)[i]? = some z) : vk_R z.1 z.2.1 z.2.2.1 z.2.2.2 U := h.2.2.2.2.2.2.1 z (List.mem_of_getElem? hz)
theorem gPF.e {E : gE} {A : Nat → Prop} {U : State} (h : gPF E A U) (i : Nat) (hi : i < 4) : va_O (gStage i) (eZ E i) A U U.heap ∧ va_OF "java/lang/Enum" "ordinal" "I" (.int (nI i)) (eZ E i) A U U.heap := h.2.2.2.2.2.2.2.1 i hi
theorem gPF.u {E : gE} {A : Nat → Prop} {U : State} (h : gPF E A U) : vx_Zq Bundle.tN "UNASSIGNED_STACK" Bundle.steD A U U.heap ∧ vx_Zq Bundle.tN "SUPPRESSED_SENTINEL" Bundle.listD A U U.heap := by
  have h1 := h.z 9 rfl
  have h2 := h.z 10 rfl
  refine ⟨⟨?_, h.2.2.2.2.2.2.2.2.1⟩, ⟨?_, h.2.2.2.2.2.2.2.2.2.1⟩⟩
  · dsimp only at h1
    cases hq : eQ E 0 with
    | none => rw [hq] at h1; exact Or.inl h1
    | some t => rw [hq] at h1; exact Or.inr ⟨t, h1⟩
  · dsimp only at h2
    cases hq : eQ E 1 with
    | none => rw [hq] at h2; exact Or.inl h2
    | some t => rw [hq] at h2; exact Or.inr ⟨t, h2⟩
theorem gPF.m {E : gE} {A : Nat → Prop} {U : State} (h : gPF E A U) : va_Mi "[Ljava/lang/Object;" (eZ E 8) U := h.2.2.2.2.2.2.2.2.2.2.1
theorem gPF.d {E : gE} {A : Nat → Prop} {U : State} (h : gPF E A U) : va_Ld U := h.2.2.2.2.2.2.2.2.2.2.2.1
theorem gPF.l {E : gE} {A : Nat → Prop} {U : State} (h : gPF E A U) (i : Nat) {w : Cond} (hw : gLs[i]? = some w) : gLm w (eL E i) (eZ E (30 + i)) U := h.2.2.2.2.2.2.2.2.2.2.2.2 i w hw
/-- carried to a callee's start -/
theorem gPF.call {E : gE} {A A1 : Nat → Prop} {s U : State} {H : Heap} (h : gPF E A s) (hk : ∀ q : Nat, q < s.heap.size → ¬ A q → H[q]? = s.heap[q]?) (hU : U.heap = H) (hW : s.WarmedH U.vm) (hA : ∀ q, A1 q → A q) : gPF E A1 U := by
  obtain ⟨h1, h2, h3, h4, h5, h6, h7, h8, h9, h10, h11, h12, h13⟩ := h
  refine ⟨va_K.moved hW.alike h1, fun w hw hp => gPok_warm hp hW (h2 w hw hp), fun f hf => va_Fw.moved (gFws_ok f hf) hW.alike (h3 f hf), va_AO.moved hW.alike h4, fun n hn => (h5 n hn).moved hW.alike, fun z hz => ?_, fun z hz => (h7 z hz).warm hW, fun i hi => ⟨?_, ?_⟩, ?_, ?_, h11.moved hW.alike, h12.moved hW.alike, fun i w hw => (h13 i w hw).warm hW⟩
  · rw [hU]; exact va_Z.narrow (va_Z.moved hW.alike ((h6 z hz).kept hk)) hA
  · rw [hU]; exact va_O.narrow (va_O.moved hW.alike ((h8 i hi).1.kept hk)) hA
  · rw [hU]; exact va_OF.narrow (va_OF.moved hW.alike ((h8 i hi).2.kept hk)) hA
  · rw [hU]; exact vx_L.narrow (vx_L.moved hW.alike (h9.kept hk)) hA
  · rw [hU]; exact vx_L.narrow (vx_L.moved hW.alike (h10.kept hk)) hA
def gA (G : Gh) (sz : Nat) : Nat → Prop := fun q => (gK G q ≠ 0 ∧ gK G q < 1000) ∨ sz ≤ q
def gPre (E : gE) (G : Gh) (sz : Nat) : State → Prop := fun U => U.heap.size = sz ∧ (∀ a, gK G a ≠ 0 → gat E G a U.heap) ∧ gPF E (gA G sz) U
def gB (E : gE) (A : Nat → Prop) (Z : Gh) (G : Gh) (t : State) : Prop := (∀ a, gK G a ≠ 0 → gat E G a t.heap ∧ (gK G a < 1000 → A a) ∧ (1000 ≤ gK G a → 1000 ≤ gK Z a)) ∧ gMon Z G
def gQ (E : gE) (A : Nat → Prop) (Z : Gh) (post : Option Value → Gh → Prop) : Array Value → State → Outcome → State → Prop := fun _ st oc t => (∃ (v : Option Value) (G : Gh), oc = .returned v ∧ post v G ∧ gB E A Z G t) ∧ va_F A st t
def gXC (E : gE) (A : Nat → Prop) (Z : Gh) (px : String → Nat → Gh → Prop) : String → Addr → State → State → Prop := fun X q st t => (∃ G : Gh, px X q G ∧ gB E A Z G t) ∧ va_F A st t
def gM (l : Launch) (E : gE) (y : MethodName) (ws : List Cond) (rm : Room) (mc ms : Nat) (av : List Value) (G : Gh) (post : Option Value → Gh → Prop) : Prop := ∀ sz : Nat, Met l y ws rm (va_Pc av (gPre E G sz)) (gQ E (gA G sz) G post) mc ms (gA G sz)
def gX (l : Launch) (E : gE) (y : MethodName) (ws : List Cond) (rm : Room) (mc ms : Nat) (av : List Value) (G : Gh) (post : Option Value → Gh → Prop) (px : String → Nat → Gh → Prop) : Prop := ∀ sz : Nat, vx_Met l y ws rm (va_Pc av (gPre E G sz)) (gQ E (gA G sz) G post) (gXC E (gA G sz) G px) mc ms (gA G sz)
/-- the kinds of answer -/
def gpi (post : Int32 → Gh → Prop) : Option Value → Gh → Prop := fun v G => ∃ r : Int32, v = some (.int r) ∧ post r G
def gpv (post : Gh → Prop) : Option Value → Gh → Prop := fun v G => v = none ∧ post G
def gpr (post : Option Nat → Gh → Prop) : Option Value → Gh → Prop := fun v G => ∃ r : Option Nat, v = some (va_rf r) ∧ post r G
def gpd (post : UInt64 → Gh → Prop) : Option Value → Gh → Prop := fun v G => ∃ r : UInt64, v = some (.double r) ∧ post r G
def gpf (post : UInt32 → Gh → Prop) : Option Value → Gh → Prop := fun v G => ∃ r : UInt32, v = some (.float r) ∧ post r G
section GR
variable {p : Program} {l : Launch} {e : Env} {R : Room} {s : State} {m : MethodId} {args : Array Value} {below : List Frame} {meth : Method} {c : Code} {H : Heap} {locs : List Loc} {cells slots : Nat} {Q : State → Prop}
variable {cc : ByteArray} {pc : Nat} {ls : Array Slot} {rest st0 : List Value} {E : gE} {A : Nat → Prop} {Z : Gh} {H0 : Heap} {G : Gh} {a : Nat} {own : String}
theorem gg (hexec : p.tables.exec = Jvm.exec) (hb : c.code = cc) (hts : ∀ w ∈ lw_all, w.before args s = true) (hown : s.vm.findClass own = some m.cls) (hPF : gPF E A s) (hG : gS E A Z H0 G H locs) (ci k : Nat) {C : String} {T : u_T} {N : Nat} (hc : gCl[ci]? = some (C, T, N)) (hin : ∀ w ∈ u_ws C T N, w ∈ lw_all) (hk : k < N) (h0 : ci ≠ 0) (h30 : ci < 30) {index : Nat} {ref : String} (hl : Cond.fieldLink own index ref (T k).2.1 (T k).2.2.1 ∈ lw_all) (hsame : ∀ x, s.fieldFound? (T k).1 (T k).2.1 (T k).2.2.1 = some x → s.fieldFound? ref (T k).2.1 (T k).2.2.1 = some x) (ha : gC G a = ci) {v : Value} (hv : (gFs ci (gI G a) (gR G a))[k]? = some v) (hdg : decode cc pc = .ok (.getfield index, 3))
    (kk : W p l e R s m args below meth c H locs cells slots Q (F0 m (pc + 3) ls (v :: rest))) : W p l e R s m args below meth c H locs cells slots Q (F0 m pc ls (.ref a :: rest)) :=
  va_get (D := eD E) hexec hb hts hin hown hPF.K (gS_one hG ha h0 h30) 0 rfl hc k hk (hts _ hl) hsame hv hdg kk
theorem ggN (hexec : p.tables.exec = Jvm.exec) (hb : c.code = cc) (hts : ∀ w ∈ lw_all, w.before args s = true) (hown : s.vm.findClass own = some m.cls) (hPF : gPF E A s) (hG : gS E A Z H0 G H locs) (ci k : Nat) {C : String} {T : u_T} {N : Nat} (hc : gCl[ci]? = some (C, T, N)) (hin : ∀ w ∈ u_ws C T N, w ∈ lw_all) (hk : k < N) (h0 : ci ≠ 0) (h30 : ci < 30) {index : Nat} {ref host : String} (hl : Cond.fieldLinkNest own index ref (T k).2.1 (T k).2.2.1 host ∈ lw_tbl) (hsame : ∀ x, s.fieldFound? (T k).1 (T k).2.1 (T k).2.2.1 = some x → s.fieldFound? ref (T k).2.1 (T k).2.2.1 = some x) (ha : gC G a = ci) {v : Value} (hv : (gFs ci (gI G a) (gR G a))[k]? = some v) (hdg : decode cc pc = .ok (.getfield index, 3))
    (kk : W p l e R s m args below meth c H locs cells slots Q (F0 m (pc + 3) ls (v :: rest))) : W p l e R s m args below meth c H locs cells slots Q (F0 m pc ls (.ref a :: rest)) :=
  va_getN (D := eD E) hexec hb hts hin hown hPF.K (gS_one hG ha h0 h30) 0 rfl hc k hk (va_Nw.use rfl (hPF.w hl rfl)) hsame hv hdg kk
theorem gp (hexec : p.tables.exec = Jvm.exec) (hb : c.code = cc) (hts : ∀ w ∈ lw_all, w.before args s = true) (hown : s.vm.findClass own = some m.cls) (hPF : gPF E A s) (hG : gS E A Z H0 G H locs) (ci k : Nat) {C : String} {T : u_T} {N : Nat} (hc : gCl[ci]? = some (C, T, N)) (hin : ∀ w ∈ u_ws C T N, w ∈ lw_all) (ty0 : Nat → FieldType) (hty : ∀ k, k < N → parseFieldDescriptor (T k).2.2.1 = some (ty0 k)) (hnm : ∀ a, a < N → ∀ b, b < N → a ≠ b → (T a).2.1 ≠ (T b).2.1) (hk : k < N) (h0 : ci ≠ 0) (h30 : ci < 30) {index : Nat} {ref : String} (hl : Cond.fieldLink own index ref (T k).2.1 (T k).2.2.1 ∈ lw_all) (hsame : ∀ x, s.fieldFound? (T k).1 (T k).2.1 (T k).2.2.1 = some x → s.fieldFound? ref (T k).2.1 (T k).2.2.1 = some x) (hfin : (T k).2.2.2 = false) (ha : gK G a = ci) {v : Value} (hn : narrow (ty0 k) v = v) (hfit : fits (ty0 k) v = true) {G' : Gh} (hGK : gK G' = gK G) (hGL : gL G' = gL G) (hoff : ∀ b, b ≠ a → gL G' b = gL G b ∧ gI G' b = gI G b ∧ gR G' b = gR G b ∧ gJ G' b = gJ G b ∧ gD G' b = gD G b) (hlen : k < (gFs ci (gI G a) (gR G a)).length) (hset : (gFs ci (gI G a) (gR G a)).set k v = gFs ci (gI G' a) (gR G' a)) (hdg : decode cc pc = .ok (.putfield index, 3))
    (kk : ∀ (H1 : Heap) (locs1 : List Loc), gS E A Z H0 G' H1 locs1 → W p l e R s m args below meth c H1 locs1 cells slots Q (F0 m (pc + 3) ls rest)) : W p l e R s m args below meth c H locs cells slots Q (F0 m pc ls (v :: .ref a :: rest)) := by
  have hK := hPF.K
  have haC : gC G a = ci := gC_of ha (by omega)
  have hap := va_apart (own := own) hts hin ty0 hty hnm hK hc
  obtain ⟨r, h1, cell, q1, q2, q3, q4⟩ := gS_obj hG haC h0 h30
  have hr : r = (C, T, N) := Option.some.inj (h1.symm.trans hc)
  subst hr
  obtain ⟨hS, hfc, kC, hkC, hkind⟩ := hK.1 ci _ hc
  obtain ⟨cf, kf, fi, f, hi, hsl⟩ := hS k hk
  have hlay := hts _ (hin _ (u_in_lay hk))
  unfold u_lay at hlay
  rw [if_neg (by rw [hfin]; decide)] at hlay
  have hst := (u_facts hfc hkC (u_lays hts hin hk) hi).1
  have h6 := u_store hfc hkC hkind hlay hi (hty k hk) hn hfit
  refine W.putK hexec hb (f := f) ⟨hown, (hts _ hl), ⟨_, _, _, hsame _ hi⟩, hst⟩ (by rw [q2]; exact h6) q1 q3 (by rw [hsl]; exact k2_hasslot (q4 k hk)) rfl rfl hdg fun H' e1 e2 e3 => ?_
  rw [hsl] at e1 ⊢
  refine kk H' _ (gS_write (a := a) hG (by omega) (by omega) hGK hGL hoff ?_ e2 e3)
  have haC' : gC G' a = ci := by unfold gC; rw [hGK]; exact haC
  unfold gat
  rw [if_pos (by omega)]
  unfold gEn
  rw [haC']
  have hfin : va_at (eD E) gCl (a, .inr (ci, gFs ci (gI G' a) (gR G' a))) H' := ⟨_, hc, by
    rw [← hset]
    exact t_OB.to (V := updV (vp_V (gFs ci (gI G a) (gR G a))) k v) ⟨_, e1, q2, q3, t_set q4 hap hk v⟩ (fun j _ => vp_updV_set hlen v j)⟩
  split <;> first | omega | exact hfin
theorem gpF (hexec : p.tables.exec = Jvm.exec) (hb : c.code = cc) (hts : ∀ w ∈ lw_all, w.before args s = true) (hown : s.vm.findClass own = some m.cls) (hPF : gPF E A s) (hG : gS E A Z H0 G H locs) (ci k : Nat) {C : String} {T : u_T} {N : Nat} (hc : gCl[ci]? = some (C, T, N)) (hin : ∀ w ∈ u_ws C T N, w ∈ lw_all) (ty0 : Nat → FieldType) (hty : ∀ k, k < N → parseFieldDescriptor (T k).2.2.1 = some (ty0 k)) (hnm : ∀ a, a < N → ∀ b, b < N → a ≠ b → (T a).2.1 ≠ (T b).2.1) (hk : k < N) (h0 : ci ≠ 0) (h30 : ci < 30) {index : Nat} {ref : String} (hl : Cond.fieldLink own index ref (T k).2.1 (T k).2.2.1 ∈ lw_all) (hsame : ∀ x, s.fieldFound? (T k).1 (T k).2.1 (T k).2.2.1 = some x → s.fieldFound? ref (T k).2.1 (T k).2.2.1 = some x) (hfin : (T k).2.2.2 = true) (hin2 : meth.name = "<init>") (hdecl : (T k).1 = own) (ha : gK G a = ci) {v : Value} (hn : narrow (ty0 k) v = v) (hfit : fits (ty0 k) v = true) {G' : Gh} (hGK : gK G' = gK G) (hGL : gL G' = gL G) (hoff : ∀ b, b ≠ a → gL G' b = gL G b ∧ gI G' b = gI G b ∧ gR G' b = gR G b ∧ gJ G' b = gJ G b ∧ gD G' b = gD G b) (hlen : k < (gFs ci (gI G a) (gR G a)).length) (hset : (gFs ci (gI G a) (gR G a)).set k v = gFs ci (gI G' a) (gR G' a)) (hdg : decode cc pc = .ok (.putfield index, 3))
    (kk : ∀ (H1 : Heap) (locs1 : List Loc), gS E A Z H0 G' H1 locs1 → W p l e R s m args below meth c H1 locs1 cells slots Q (F0 m (pc + 3) ls rest)) : W p l e R s m args below meth c H locs cells slots Q (F0 m pc ls (v :: .ref a :: rest)) := by
  have hK := hPF.K
  have haC : gC G a = ci := gC_of ha (by omega)
  have hap := va_apart (own := own) hts hin ty0 hty hnm hK hc
  obtain ⟨r, h1, cell, q1, q2, q3, q4⟩ := gS_obj hG haC h0 h30
  have hr : r = (C, T, N) := Option.some.inj (h1.symm.trans hc)
  subst hr
  obtain ⟨hS, hfc, kC, hkC, hkind⟩ := hK.1 ci _ hc
  obtain ⟨cf, kf, fi, f, hi, hsl⟩ := hS k hk
  have hlay := hts _ (hin _ (u_in_lay hk))
  unfold u_lay at hlay
  rw [if_pos hfin] at hlay
  have hst := (u_facts hfc hkC (u_lays hts hin hk) hi).1
  have hcf : m.cls = cf := by
    obtain ⟨_, _, c', _, _, _, -, -, hf', -, -, -, hown2, -⟩ := Cond.laysFinal_spec hlay
    have e1 : c' = cf := by have := hi.symm.trans hf'; simp at this; exact this.1.symm
    rw [hdecl] at hown2
    rw [← e1]; exact Option.some.inj (hown.symm.trans hown2)
  have h6 := u_fits hfc hkC hkind (Or.inr hlay) hi (hty k hk) hn hfit
  refine W.putFinK hexec hb hown (hts _ hl) (hsame _ hi) hst hcf hin2 (by rw [q2]; exact h6) q1 q3 (by rw [hsl]; exact k2_hasslot (q4 k hk)) rfl rfl hdg fun H' e1 e2 e3 => ?_
  rw [hsl] at e1 ⊢
  refine kk H' _ (gS_write (a := a) hG (by omega) (by omega) hGK hGL hoff ?_ e2 e3)
  have haC' : gC G' a = ci := by unfold gC; rw [hGK]; exact haC
  unfold gat
  rw [if_pos (by omega)]
  unfold gEn
  rw [haC']
  have hfin : va_at (eD E) gCl (a, .inr (ci, gFs ci (gI G' a) (gR G' a))) H' := ⟨_, hc, by
    rw [← hset]
    exact t_OB.to (V := updV (vp_V (gFs ci (gI G a) (gR G a))) k v) ⟨_, e1, q2, q3, t_set q4 hap hk v⟩ (fun j _ => vp_updV_set hlen v j)⟩
  split <;> first | omega | exact hfin
theorem gpN (hexec : p.tables.exec = Jvm.exec) (hb : c.code = cc) (hts : ∀ w ∈ lw_all, w.before args s = true) (hown : s.vm.findClass own = some m.cls) (hPF : gPF E A s) (hG : gS E A Z H0 G H locs) (ci k : Nat) {C : String} {T : u_T} {N : Nat} (hc : gCl[ci]? = some (C, T, N)) (hin : ∀ w ∈ u_ws C T N, w ∈ lw_all) (ty0 : Nat → FieldType) (hty : ∀ k, k < N → parseFieldDescriptor (T k).2.2.1 = some (ty0 k)) (hnm : ∀ a, a < N → ∀ b, b < N → a ≠ b → (T a).2.1 ≠ (T b).2.1) (hk : k < N) (h0 : ci ≠ 0) (h30 : ci < 30) {index : Nat} {ref host : String} (hl : Cond.fieldLinkNest own index ref (T k).2.1 (T k).2.2.1 host ∈ lw_tbl) (hsame : ∀ x, s.fieldFound? (T k).1 (T k).2.1 (T k).2.2.1 = some x → s.fieldFound? ref (T k).2.1 (T k).2.2.1 = some x) (hfin : (T k).2.2.2 = false) (ha : gK G a = ci) {v : Value} (hn : narrow (ty0 k) v = v) (hfit : fits (ty0 k) v = true) {G' : Gh} (hGK : gK G' = gK G) (hGL : gL G' = gL G) (hoff : ∀ b, b ≠ a → gL G' b = gL G b ∧ gI G' b = gI G b ∧ gR G' b = gR G b ∧ gJ G' b = gJ G b ∧ gD G' b = gD G b) (hlen : k < (gFs ci (gI G a) (gR G a)).length) (hset : (gFs ci (gI G a) (gR G a)).set k v = gFs ci (gI G' a) (gR G' a)) (hdg : decode cc pc = .ok (.putfield index, 3))
    (kk : ∀ (H1 : Heap) (locs1 : List Loc), gS E A Z H0 G' H1 locs1 → W p l e R s m args below meth c H1 locs1 cells slots Q (F0 m (pc + 3) ls rest)) : W p l e R s m args below meth c H locs cells slots Q (F0 m pc ls (v :: .ref a :: rest)) := by
  have hK := hPF.K
  have haC : gC G a = ci := gC_of ha (by omega)
  have hap := va_apart (own := own) hts hin ty0 hty hnm hK hc
  obtain ⟨r, h1, cell, q1, q2, q3, q4⟩ := gS_obj hG haC h0 h30
  have hr : r = (C, T, N) := Option.some.inj (h1.symm.trans hc)
  subst hr
  obtain ⟨hS, hfc, kC, hkC, hkind⟩ := hK.1 ci _ hc
  obtain ⟨cf, kf, fi, f, hi, hsl⟩ := hS k hk
  have hlay := hts _ (hin _ (u_in_lay hk))
  unfold u_lay at hlay
  rw [if_neg (by rw [hfin]; decide)] at hlay
  have hst := (u_facts hfc hkC (u_lays hts hin hk) hi).1
  have h6 := u_store hfc hkC hkind hlay hi (hty k hk) hn hfit
  refine va_WputK hexec hb (f := f) hown (va_Nw.use rfl (hPF.w hl rfl)) (hsame _ hi) hst (by rw [q2]; exact h6) q1 q3 (by rw [hsl]; exact k2_hasslot (q4 k hk)) rfl rfl hdg fun H' e1 e2 e3 => ?_
  rw [hsl] at e1 ⊢
  refine kk H' _ (gS_write (a := a) hG (by omega) (by omega) hGK hGL hoff ?_ e2 e3)
  have haC' : gC G' a = ci := by unfold gC; rw [hGK]; exact haC
  unfold gat
  rw [if_pos (by omega)]
  unfold gEn
  rw [haC']
  have hfin : va_at (eD E) gCl (a, .inr (ci, gFs ci (gI G' a) (gR G' a))) H' := ⟨_, hc, by
    rw [← hset]
    exact t_OB.to (V := updV (vp_V (gFs ci (gI G a) (gR G a))) k v) ⟨_, e1, q2, q3, t_set q4 hap hk v⟩ (fun j _ => vp_updV_set hlen v j)⟩
  split <;> first | omega | exact hfin
theorem gli (hexec : p.tables.exec = Jvm.exec) (hb : c.code = cc) (hPF : gPF E A s) (hG : gS E A Z H0 G H locs) (ha : gC G a = 30) {i : Int32} (hin : vp_in i (gL G a)) {j : Nat} (hj : i.toNatClampNeg = j) (hdg : decode cc pc = .ok (.iaload, 1))
    (kk : W p l e R s m args below meth c H locs cells slots Q (F0 m (pc + 1) ls (.int (gI G a j) :: rest))) : W p l e R s m args below meth c H locs cells slots Q (F0 m pc ls (.int i :: .ref a :: rest)) := by
  subst hj
  have hP := gS_arr hG ha (by decide) (by decide)
  unfold gEn at hP
  rw [ha] at hP
  exact va_iald hexec hb hPF.K hP 0 0 rfl rfl hin hdg kk
theorem glc (hexec : p.tables.exec = Jvm.exec) (hb : c.code = cc) (hPF : gPF E A s) (hG : gS E A Z H0 G H locs) (ha : gC G a = 31) {i : Int32} (hin : vp_in i (gL G a)) {j : Nat} (hj : i.toNatClampNeg = j) (hdg : decode cc pc = .ok (.caload, 1))
    (kk : W p l e R s m args below meth c H locs cells slots Q (F0 m (pc + 1) ls (.int (gI G a j) :: rest))) : W p l e R s m args below meth c H locs cells slots Q (F0 m pc ls (.int i :: .ref a :: rest)) := by
  subst hj
  have hP := gS_arr hG ha (by decide) (by decide)
  unfold gEn at hP
  rw [ha] at hP
  exact va_cald hexec hb hPF.K hP 0 1 rfl rfl hin hdg kk
theorem glb (hexec : p.tables.exec = Jvm.exec) (hb : c.code = cc) (hPF : gPF E A s) (hG : gS E A Z H0 G H locs) (ha : gC G a = 32) {i : Int32} (hin : vp_in i (gL G a)) {j : Nat} (hj : i.toNatClampNeg = j) (hdg : decode cc pc = .ok (.baload, 1))
    (kk : W p l e R s m args below meth c H locs cells slots Q (F0 m (pc + 1) ls (.int (gI G a j) :: rest))) : W p l e R s m args below meth c H locs cells slots Q (F0 m pc ls (.int i :: .ref a :: rest)) := by
  subst hj
  have hP := gS_arr hG ha (by decide) (by decide)
  unfold gEn at hP
  rw [ha] at hP
  exact va_bald hexec hb hPF.K hP 0 2 rfl rfl hin hdg kk
theorem gll (hexec : p.tables.exec = Jvm.exec) (hb : c.code = cc) (hPF : gPF E A s) (hG : gS E A Z H0 G H locs) (ha : gC G a = 33) {i : Int32} (hin : vp_in i (gL G a)) {j : Nat} (hj : i.toNatClampNeg = j) (hdg : decode cc pc = .ok (.laload, 1))
    (kk : W p l e R s m args below meth c H locs cells slots Q (F0 m (pc + 1) ls (.long (gJ G a j) :: rest))) : W p l e R s m args below meth c H locs cells slots Q (F0 m pc ls (.int i :: .ref a :: rest)) := by
  subst hj
  have hP := gS_arr hG ha (by decide) (by decide)
  unfold gEn at hP
  rw [ha] at hP
  exact va_lald hexec hb hPF.K hP 0 3 rfl rfl hin hdg kk
theorem gld (hexec : p.tables.exec = Jvm.exec) (hb : c.code = cc) (hPF : gPF E A s) (hG : gS E A Z H0 G H locs) (ha : gC G a = 34) {i : Int32} (hin : vp_in i (gL G a)) {j : Nat} (hj : i.toNatClampNeg = j) (hdg : decode cc pc = .ok (.daload, 1))
    (kk : W p l e R s m args below meth c H locs cells slots Q (F0 m (pc + 1) ls (.double (gD G a j) :: rest))) : W p l e R s m args below meth c H locs cells slots Q (F0 m pc ls (.int i :: .ref a :: rest)) := by
  subst hj
  have hP := gS_arr hG ha (by decide) (by decide)
  unfold gEn at hP
  rw [ha] at hP
  exact va_dald hexec hb hPF.K hP 0 4 rfl rfl hin hdg kk
theorem glq (hexec : p.tables.exec = Jvm.exec) (hb : c.code = cc) (hPF : gPF E A s) (hG : gS E A Z H0 G H locs) (ha : gC G a = 35) {i : Int32} (hin : vp_in i (gL G a)) {j : Nat} (hj : i.toNatClampNeg = j) (hdg : decode cc pc = .ok (.aaload, 1))
    (kk : W p l e R s m args below meth c H locs cells slots Q (F0 m (pc + 1) ls (va_rf (gR G a j) :: rest))) : W p l e R s m args below meth c H locs cells slots Q (F0 m pc ls (.int i :: .ref a :: rest)) := by
  subst hj
  have hP := gS_arr hG ha (by decide) (by decide)
  unfold gEn at hP
  rw [ha] at hP
  exact va_aldq hexec hb hPF.K hP 0 5 rfl rfl hin hdg kk
theorem galen (hexec : p.tables.exec = Jvm.exec) (hb : c.code = cc) (hPF : gPF E A s) (hG : gS E A Z H0 G H locs) {κ : Nat} (ha : gC G a = κ) (h0 : 30 ≤ κ) (h1 : κ < 36) (hdg : decode cc pc = .ok (.arraylength, 1))
    (kk : W p l e R s m args below meth c H locs cells slots Q (F0 m (pc + 1) ls (.int (nI (gL G a)) :: rest))) : W p l e R s m args below meth c H locs cells slots Q (F0 m pc ls (.ref a :: rest)) := by
  have hP := gS_arr hG ha h0 (by omega)
  unfold gEn at hP
  rw [ha] at hP
  rcases (show κ = 30 ∨ κ = 31 ∨ κ = 32 ∨ κ = 33 ∨ κ = 34 ∨ κ = 35 by omega) with rfl | rfl | rfl | rfl | rfl | rfl
  · exact va_alen (v := nI (gL G a)) hexec hb hPF.K hP 0 0 rfl rfl rfl hdg kk
  · exact va_alen (v := nI (gL G a)) hexec hb hPF.K hP 0 1 rfl rfl rfl hdg kk
  · exact va_alen (v := nI (gL G a)) hexec hb hPF.K hP 0 2 rfl rfl rfl hdg kk
  · exact va_alen (v := nI (gL G a)) hexec hb hPF.K hP 0 3 rfl rfl rfl hdg kk
  · exact va_alen (v := nI (gL G a)) hexec hb hPF.K hP 0 4 rfl rfl rfl hdg kk
  · exact va_alen (v := nI (gL G a)) hexec hb hPF.K hP 0 5 rfl rfl rfl hdg kk
theorem gsi (hexec : p.tables.exec = Jvm.exec) (hb : c.code = cc) (hPF : gPF E A s) (hG : gS E A Z H0 G H locs) (ha : gK G a = 30) {i : Int32} {x : Int32} (hin : vp_in i (gL G a)) {j : Nat} (hj : i.toNatClampNeg = j) (hdg : decode cc pc = .ok (.iastore, 1))
    (kk : ∀ (H1 : Heap) (locs1 : List Loc), gS E A Z H0 (grI G a (upd (gI G a) j x)) H1 locs1 → W p l e R s m args below meth c H1 locs1 cells slots Q (F0 m (pc + 1) ls rest)) : W p l e R s m args below meth c H locs cells slots Q (F0 m pc ls (.int x :: .int i :: .ref a :: rest)) := by
  subst hj
  have haC : gC G a = 30 := gC_of ha (by omega)
  have hP := gS_arr hG haC (by decide) (by decide)
  unfold gEn at hP
  rw [haC] at hP
  have hcell := hP 0 _ rfl
  refine W.iast hexec hb hcell ((hPF.K.2 0 _ rfl).1 (gL G a) (fun j => .int (gI G a j))) (fun q => by cases q) (by show ¬ (i < 0 ∨ (arrV _ _ _).slots.size ≤ _); rw [arrV_size]; exact hin) rfl rfl hdg fun H1 e1 z oq => ?_
  refine kk H1 _ (gS_write (a := a) hG (by omega) (by omega) rfl rfl grI_off ?_ z oq)
  have haC' : gC (grI G a (upd (gI G a) i.toNatClampNeg x)) a = 30 := haC
  unfold gat
  rw [if_pos (by omega)]
  unfold gEn
  rw [haC']
  show H1[a]? = some (vp_cell _ _)
  rw [e1]
  have hself : gI (grI G a (upd (gI G a) i.toNatClampNeg x)) a = upd (gI G a) i.toNatClampNeg x := va_up_self _ _ _
  rw [hself, vp_cell_i, vp_cell_i]
  dsimp only
  rw [arrV_store]
  have hL : gL (grI G a (upd (gI G a) i.toNatClampNeg x)) a = gL G a := rfl
  rw [hL]
  congr 2
  funext q
  by_cases hq : q = i.toNatClampNeg
  · subst hq
    simp [updV, upd, vp_updL, vf_upd]
  · simp [updV, upd, vp_updL, vf_upd, hq]
theorem gsc (hexec : p.tables.exec = Jvm.exec) (hb : c.code = cc) (hPF : gPF E A s) (hG : gS E A Z H0 G H locs) (ha : gK G a = 31) {i : Int32} {x : Int32} (hin : vp_in i (gL G a)) {j : Nat} (hj : i.toNatClampNeg = j) (hdg : decode cc pc = .ok (.castore, 1))
    (kk : ∀ (H1 : Heap) (locs1 : List Loc), gS E A Z H0 (grI G a (upd (gI G a) j (vp_nar .char x))) H1 locs1 → W p l e R s m args below meth c H1 locs1 cells slots Q (F0 m (pc + 1) ls rest)) : W p l e R s m args below meth c H locs cells slots Q (F0 m pc ls (.int x :: .int i :: .ref a :: rest)) := by
  subst hj
  have haC : gC G a = 31 := gC_of ha (by omega)
  have hP := gS_arr hG haC (by decide) (by decide)
  unfold gEn at hP
  rw [haC] at hP
  have hcell := hP 0 _ rfl
  refine W.cast hexec hb hcell ((hPF.K.2 1 _ rfl).1 (gL G a) (fun j => .int (gI G a j))) (fun q => by cases q) (by show ¬ (i < 0 ∨ (arrV _ _ _).slots.size ≤ _); rw [arrV_size]; exact hin) rfl rfl hdg fun H1 e1 z oq => ?_
  refine kk H1 _ (gS_write (a := a) hG (by omega) (by omega) rfl rfl grI_off ?_ z oq)
  have haC' : gC (grI G a (upd (gI G a) i.toNatClampNeg (vp_nar .char x))) a = 31 := haC
  unfold gat
  rw [if_pos (by omega)]
  unfold gEn
  rw [haC']
  show H1[a]? = some (vp_cell _ _)
  rw [e1]
  have hself : gI (grI G a (upd (gI G a) i.toNatClampNeg (vp_nar .char x))) a = upd (gI G a) i.toNatClampNeg (vp_nar .char x) := va_up_self _ _ _
  rw [hself, vp_cell_i, vp_cell_i]
  dsimp only
  rw [show narrow .char (.int x) = .int (vp_nar .char x) from by first | rfl | (simp [narrow, vp_nar]), arrV_store]
  have hL : gL (grI G a (upd (gI G a) i.toNatClampNeg (vp_nar .char x))) a = gL G a := rfl
  rw [hL]
  congr 2
  funext q
  by_cases hq : q = i.toNatClampNeg
  · subst hq
    simp [updV, upd, vp_updL, vf_upd]
  · simp [updV, upd, vp_updL, vf_upd, hq]
theorem gsb (hexec : p.tables.exec = Jvm.exec) (hb : c.code = cc) (hPF : gPF E A s) (hG : gS E A Z H0 G H locs) (ha : gK G a = 32) {i : Int32} {x : Int32} (hin : vp_in i (gL G a)) {j : Nat} (hj : i.toNatClampNeg = j) (hdg : decode cc pc = .ok (.bastore, 1))
    (kk : ∀ (H1 : Heap) (locs1 : List Loc), gS E A Z H0 (grI G a (upd (gI G a) j (vp_nar .byte x))) H1 locs1 → W p l e R s m args below meth c H1 locs1 cells slots Q (F0 m (pc + 1) ls rest)) : W p l e R s m args below meth c H locs cells slots Q (F0 m pc ls (.int x :: .int i :: .ref a :: rest)) := by
  subst hj
  have haC : gC G a = 32 := gC_of ha (by omega)
  have hP := gS_arr hG haC (by decide) (by decide)
  unfold gEn at hP
  rw [haC] at hP
  have hcell := hP 0 _ rfl
  refine W.bast hexec hb hcell ((hPF.K.2 2 _ rfl).1 (gL G a) (fun j => .int (gI G a j))) (fun q => by cases q) (by show ¬ (i < 0 ∨ (arrV _ _ _).slots.size ≤ _); rw [arrV_size]; exact hin) rfl rfl hdg fun H1 e1 z oq => ?_
  refine kk H1 _ (gS_write (a := a) hG (by omega) (by omega) rfl rfl grI_off ?_ z oq)
  have haC' : gC (grI G a (upd (gI G a) i.toNatClampNeg (vp_nar .byte x))) a = 32 := haC
  unfold gat
  rw [if_pos (by omega)]
  unfold gEn
  rw [haC']
  show H1[a]? = some (vp_cell _ _)
  rw [e1]
  have hself : gI (grI G a (upd (gI G a) i.toNatClampNeg (vp_nar .byte x))) a = upd (gI G a) i.toNatClampNeg (vp_nar .byte x) := va_up_self _ _ _
  rw [hself, vp_cell_i, vp_cell_i]
  dsimp only
  rw [show narrow .byte (.int x) = .int (vp_nar .byte x) from by first | rfl | (simp [narrow, vp_nar]), arrV_store]
  have hL : gL (grI G a (upd (gI G a) i.toNatClampNeg (vp_nar .byte x))) a = gL G a := rfl
  rw [hL]
  congr 2
  funext q
  by_cases hq : q = i.toNatClampNeg
  · subst hq
    simp [updV, upd, vp_updL, vf_upd]
  · simp [updV, upd, vp_updL, vf_upd, hq]
theorem gsl (hexec : p.tables.exec = Jvm.exec) (hb : c.code = cc) (hPF : gPF E A s) (hG : gS E A Z H0 G H locs) (ha : gK G a = 33) {i : Int32} {x : Int64} (hin : vp_in i (gL G a)) {j : Nat} (hj : i.toNatClampNeg = j) (hdg : decode cc pc = .ok (.lastore, 1))
    (kk : ∀ (H1 : Heap) (locs1 : List Loc), gS E A Z H0 (grJ G a (vp_updL (gJ G a) j x)) H1 locs1 → W p l e R s m args below meth c H1 locs1 cells slots Q (F0 m (pc + 1) ls rest)) : W p l e R s m args below meth c H locs cells slots Q (F0 m pc ls (.long x :: .int i :: .ref a :: rest)) := by
  subst hj
  have haC : gC G a = 33 := gC_of ha (by omega)
  have hP := gS_arr hG haC (by decide) (by decide)
  unfold gEn at hP
  rw [haC] at hP
  have hcell := hP 0 _ rfl
  refine W.last hexec hb hcell ((hPF.K.2 3 _ rfl).1 (gL G a) (fun j => .long (gJ G a j))) (fun q => by cases q) (by show ¬ (i < 0 ∨ (arrV _ _ _).slots.size ≤ _); rw [arrV_size]; exact hin) rfl rfl hdg fun H1 e1 z oq => ?_
  refine kk H1 _ (gS_write (a := a) hG (by omega) (by omega) rfl rfl grJ_off ?_ z oq)
  have haC' : gC (grJ G a (vp_updL (gJ G a) i.toNatClampNeg x)) a = 33 := haC
  unfold gat
  rw [if_pos (by omega)]
  unfold gEn
  rw [haC']
  show H1[a]? = some (vp_cell _ _)
  rw [e1]
  have hself : gJ (grJ G a (vp_updL (gJ G a) i.toNatClampNeg x)) a = vp_updL (gJ G a) i.toNatClampNeg x := va_up_self _ _ _
  rw [hself, vp_cell_l, vp_cell_l]
  dsimp only
  rw [arrV_store]
  have hL : gL (grJ G a (vp_updL (gJ G a) i.toNatClampNeg x)) a = gL G a := rfl
  rw [hL]
  congr 2
  funext q
  by_cases hq : q = i.toNatClampNeg
  · subst hq
    simp [updV, upd, vp_updL, vf_upd]
  · simp [updV, upd, vp_updL, vf_upd, hq]
theorem gsd (hexec : p.tables.exec = Jvm.exec) (hb : c.code = cc) (hPF : gPF E A s) (hG : gS E A Z H0 G H locs) (ha : gK G a = 34) {i : Int32} {x : UInt64} (hin : vp_in i (gL G a)) {j : Nat} (hj : i.toNatClampNeg = j) (hdg : decode cc pc = .ok (.dastore, 1))
    (kk : ∀ (H1 : Heap) (locs1 : List Loc), gS E A Z H0 (grD G a (vf_upd (gD G a) j x)) H1 locs1 → W p l e R s m args below meth c H1 locs1 cells slots Q (F0 m (pc + 1) ls rest)) : W p l e R s m args below meth c H locs cells slots Q (F0 m pc ls (.double x :: .int i :: .ref a :: rest)) := by
  subst hj
  have haC : gC G a = 34 := gC_of ha (by omega)
  have hP := gS_arr hG haC (by decide) (by decide)
  unfold gEn at hP
  rw [haC] at hP
  have hcell := hP 0 _ rfl
  refine W.dast hexec hb hcell ((hPF.K.2 4 _ rfl).1 (gL G a) (fun j => .double (gD G a j))) (fun q => by cases q) (by show ¬ (i < 0 ∨ (arrV _ _ _).slots.size ≤ _); rw [arrV_size]; exact hin) rfl rfl hdg fun H1 e1 z oq => ?_
  refine kk H1 _ (gS_write (a := a) hG (by omega) (by omega) rfl rfl grD_off ?_ z oq)
  have haC' : gC (grD G a (vf_upd (gD G a) i.toNatClampNeg x)) a = 34 := haC
  unfold gat
  rw [if_pos (by omega)]
  unfold gEn
  rw [haC']
  show H1[a]? = some (vp_cell _ _)
  rw [e1]
  have hself : gD (grD G a (vf_upd (gD G a) i.toNatClampNeg x)) a = vf_upd (gD G a) i.toNatClampNeg x := va_up_self _ _ _
  rw [hself, vp_cell_d, vp_cell_d]
  dsimp only
  rw [arrV_store]
  have hL : gL (grD G a (vf_upd (gD G a) i.toNatClampNeg x)) a = gL G a := rfl
  rw [hL]
  congr 2
  funext q
  by_cases hq : q = i.toNatClampNeg
  · subst hq
    simp [updV, upd, vp_updL, vf_upd]
  · simp [updV, upd, vp_updL, vf_upd, hq]
end GR
