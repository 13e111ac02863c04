/-! the ghost heap: kinds, lengths, ints, references, longs, doubles by address and place; a method's world is all of it -/
set_option maxRecDepth 100000
abbrev Gh : Type := (Nat → Nat) × (Nat → Nat) × (Nat → Nat → Int32) × (Nat → Nat → Option Nat) × (Nat → Nat → Int64) × (Nat → Nat → UInt64)
def gK (G : Gh) : Nat → Nat := G.1
def gL (G : Gh) : Nat → Nat := G.2.1
def gI (G : Gh) : Nat → Nat → Int32 := G.2.2.1
def gR (G : Gh) : Nat → Nat → Option Nat := G.2.2.2.1
def gJ (G : Gh) : Nat → Nat → Int64 := G.2.2.2.2.1
def gD (G : Gh) : Nat → Nat → UInt64 := G.2.2.2.2.2
def gC (G : Gh) (a : Nat) : Nat := gK G a % 1000
def grI (G : Gh) (a : Nat) (f : Nat → Int32) : Gh := (G.1, G.2.1, va_up (gI G) a f, G.2.2.2)
def grR (G : Gh) (a : Nat) (f : Nat → Option Nat) : Gh := (G.1, G.2.1, G.2.2.1, va_up (gR G) a f, G.2.2.2.2)
def grJ (G : Gh) (a : Nat) (f : Nat → Int64) : Gh := (G.1, G.2.1, G.2.2.1, G.2.2.2.1, va_up (gJ G) a f, G.2.2.2.2.2)
def grD (G : Gh) (a : Nat) (f : Nat → UInt64) : Gh := (G.1, G.2.1, G.2.2.1, G.2.2.2.1, G.2.2.2.2.1, va_up (gD G) a f)
def gsI (G : Gh) (a k : Nat) (x : Int32) : Gh := grI G a (upd (gI G a) k x)
def gsR (G : Gh) (a k : Nat) (x : Option Nat) : Gh := grR G a (va_up (gR G a) k x)
def gsJ (G : Gh) (a k : Nat) (x : Int64) : Gh := grJ G a (vp_updL (gJ G a) k x)
def gsD (G : Gh) (a k : Nat) (x : UInt64) : Gh := grD G a (vf_upd (gD G a) k x)
/-- a new cell of kind k, of length n -/
def gN (G : Gh) (a k n : Nat) : Gh := (va_up (gK G) a k, va_up (gL G) a n, va_up (gI G) a (fun _ => 0), va_up (gR G) a (fun _ => none), va_up (gJ G) a (fun _ => 0), va_up (gD G) a (fun _ => 0))
/-- the classes (as va_K has them), the array classes, the lambdas' classes, addresses of constants, statics of which nothing is known -/
abbrev gE : Type := va_G × (Nat → ClassId) × (Nat → ClassId) × (Nat → Nat) × (Nat → Option Nat)
def eD (E : gE) : va_G := E.1
def eA (E : gE) : Nat → ClassId := E.2.1
def eL (E : gE) : Nat → ClassId := E.2.2.1
def eZ (E : gE) : Nat → Nat := E.2.2.2.1
def eQ (E : gE) : Nat → Option Nat := E.2.2.2.2
/-- an object's fields, by its class -/
def gFs (c : Nat) (f : Nat → Int32) (r : Nat → Option Nat) : List Value := match c with
  | 1 => [va_rf (r 0), va_rf (r 1), va_rf (r 2), va_rf (r 3), va_rf (r 4), va_rf (r 5), .int (f 6), va_rf (r 7)]
  | 2 => [va_rf (r 0), va_rf (r 1), va_rf (r 2), va_rf (r 3), .int (f 4), .int (f 5), .int (f 6), .int (f 7), .int (f 8), .int (f 9), .int (f 10), .int (f 11), .int (f 12), .int (f 13)]
  | 3 => [va_rf (r 0), va_rf (r 1), va_rf (r 2), va_rf (r 3), va_rf (r 4), .int (f 5), .int (f 6), .int (f 7)]
  | 4 => [.int (f 0), .int (f 1), .int (f 2), .int (f 3)]
  | 5 => [.int (f 0), .int (f 1), va_rf (r 2)]
  | 6 => []
  | 7 => [.int (f 0), .int (f 1)]
  | 8 => [.int (f 0), .int (f 1), .int (f 2), .int (f 3)]
  | 9 => [.int (f 0)]
  | 10 => [.int (f 0), .int (f 1), .int (f 2), .int (f 3)]
  | 11 => [.int (f 0), .int (f 1)]
  | 12 => [va_rf (r 0), .int (f 1)]
  | 13 => [va_rf (r 0), va_rf (r 1), va_rf (r 2), va_rf (r 3), va_rf (r 4), .int (f 5), .int (f 6)]
  | 14 => [.int (f 0), va_rf (r 1), .int (f 2)]
  | 15 => [.int (f 0), .int (f 1), .int (f 2), va_rf (r 3)]
  | 16 => [va_rf (r 0), .int (f 1), .int (f 2), .int (f 3)]
  | 17 => [va_rf (r 0), .int (f 1)]
  | 18 => [va_rf (r 0), .int (f 1), .int (f 2)]
  | _ => []
def gEn (ac : Nat → ClassId) (G : Gh) (a : Nat) : va_E := match gC G a with
  | 30 => .inl (ac 0, gL G a, .inl (gI G a))
  | 31 => .inl (ac 1, gL G a, .inl (gI G a))
  | 32 => .inl (ac 2, gL G a, .inl (gI G a))
  | 33 => .inl (ac 3, gL G a, .inr (.inl (gJ G a)))
  | 34 => .inl (ac 4, gL G a, .inr (.inr (.inr (.inl (gD G a)))))
  | 35 => .inl (ac 5, gL G a, .inr (.inr (.inr (.inr (gR G a)))))
  | k => .inr (k, gFs k (gI G a) (gR G a))
def gat (E : gE) (G : Gh) (a : Nat) (H : Heap) : Prop := if gC G a < 40 then va_at (eD E) gCl (a, gEn (eA E) G a) H else ∃ cell : Cell, H[a]? = some cell ∧ cell.cls = eL E (gC G a - 40) ∧ cell.vm = .none ∧ cell.slots = ((List.range (gL G a)).map (fun j => Value.int (gI G a j))).toArray
theorem gat_kept {E : gE} {G : Gh} {a : Nat} {H H1 : Heap} (h : gat E G a H) (hq : H1[a]? = H[a]?) : gat E G a H1 := by
  unfold gat at h ⊢
  split at h
  · rename_i c; rw [if_pos c]; exact h.kept hq
  · rename_i c
    rw [if_neg c]
    obtain ⟨cell, h1, h2⟩ := h
    exact ⟨cell, by rw [hq]; exact h1, h2⟩
theorem gat_lt {E : gE} {G : Gh} {a : Nat} {H : Heap} (h : gat E G a H) : a < H.size := by
  unfold gat at h
  split at h
  · exact h.lt
  · obtain ⟨cell, h1, h2⟩ := h
    exact (Array.getElem?_eq_some_iff.mp h1).1
theorem gat_eq {E : gE} {G G' : Gh} {a : Nat} {H : Heap} (hK : gK G' a = gK G a) (hL : gL G' a = gL G a) (hI : gI G' a = gI G a) (hR : gR G' a = gR G a) (hJ : gJ G' a = gJ G a) (hD : gD G' a = gD G a) (h : gat E G a H) : gat E G' a H := by
  unfold gat gEn gC at h ⊢
  rw [hK, hL, hI, hR, hJ, hD]
  exact h
/-- what stays of a world Z, whatever runs: kinds and lengths; all of what is there to be read alone -/
def gMon (Z G : Gh) : Prop := ∀ a, gK Z a ≠ 0 → gK G a = gK Z a ∧ gL G a = gL Z a ∧ (1000 ≤ gK Z a → gI G a = gI Z a ∧ gR G a = gR Z a)
theorem gMon.rf {G : Gh} : gMon G G := fun _ _ => ⟨rfl, rfl, fun _ => ⟨rfl, rfl⟩⟩
theorem gMon.tr {Z G G' : Gh} (h1 : gMon Z G) (h2 : gMon G G') : gMon Z G' := fun a ha => by
  obtain ⟨p1, p2, p3⟩ := h1 a ha
  obtain ⟨q1, q2, q3⟩ := h2 a (by rw [p1]; exact ha)
  exact ⟨q1.trans p1, q2.trans p2, fun h => ⟨(q3 (by rw [p1]; exact h)).1.trans (p3 h).1, (q3 (by rw [p1]; exact h)).2.trans (p3 h).2⟩⟩
/-- the world in H; A: what may be written; Z: the world at the method's start -/
def gS (E : gE) (A : Nat → Prop) (Z : Gh) (H0 : Heap) (G : Gh) (H : Heap) (locs : List Loc) : Prop := ((∀ a, gK G a ≠ 0 → gat E G a H ∧ (gK G a < 1000 → A a) ∧ (1000 ≤ gK G a → 1000 ≤ gK Z a)) ∧ gMon Z G) ∧ va_S A H0 H locs
theorem gC_ne {G : Gh} {a k : Nat} (h : gC G a = k) (hk : k ≠ 0) : gK G a ≠ 0 := fun e => hk (by rw [← h, gC, e])
theorem gC_of {G : Gh} {a k : Nat} (h : gK G a = k) (hk : k < 1000) : gC G a = k := by rw [gC, h]; exact Nat.mod_eq_of_lt hk
theorem gS_obj {E : gE} {A : Nat → Prop} {Z : Gh} {H0 H : Heap} {G : Gh} {locs : List Loc} (hG : gS E A Z H0 G H locs) {a ci : Nat} (ha : gC G a = ci) (h0 : ci ≠ 0) (h30 : ci < 30) : va_at (eD E) gCl (a, .inr (ci, gFs ci (gI G a) (gR G a))) H := by
  have h := (hG.1.1 a (gC_ne ha h0)).1
  unfold gat at h
  rw [if_pos (by omega)] at h
  unfold gEn at h
  rw [ha] at h
  split at h <;> first | omega | exact h
theorem gS_one {E : gE} {A : Nat → Prop} {Z : Gh} {H0 H : Heap} {G : Gh} {locs : List Loc} (hG : gS E A Z H0 G H locs) {a ci : Nat} (ha : gC G a = ci) (h0 : ci ≠ 0) (h30 : ci < 30) : va_P (eD E) gCl [(a, .inr (ci, gFs ci (gI G a) (gR G a)))] H := by
  intro k q hq
  match k, hq with
  | 0, hq => cases hq; exact gS_obj hG ha h0 h30
  | k + 1, hq => simp at hq
def gKt (κ : Nat) : Nat := κ - 30
theorem gS_arr {E : gE} {A : Nat → Prop} {Z : Gh} {H0 H : Heap} {G : Gh} {locs : List Loc} (hG : gS E A Z H0 G H locs) {a κ : Nat} (ha : gC G a = κ) (h0 : 30 ≤ κ) (h1 : κ < 40) : va_P (eD E) gCl [(a, gEn (eA E) G a)] H := by
  intro k q hq
  match k, hq with
  | 0, hq =>
    cases hq
    have h := (hG.1.1 a (gC_ne ha (by omega))).1
    unfold gat at h
    rw [if_pos (by omega)] at h
    exact h
  | k + 1, hq => simp at hq
/-- a cell is written -/
theorem gS_write {E : gE} {A : Nat → Prop} {Z : Gh} {H0 H H1 : Heap} {G G' : Gh} {locs : List Loc} {a i : Nat} (hG : gS E A Z H0 G H locs) (h0 : gK G a ≠ 0) (h1 : gK G a < 1000) (hK : gK G' = gK G) (hL : gL G' = gL G) (hoff : ∀ b, b ≠ a → gL G' b = gL G b ∧ gI G' b = gI G b ∧ gR G' b = gR G b ∧ gJ G' b = gJ G b ∧ gD G' b = gD G b) (hat : gat E G' a H1) (z : H1.size = H.size) (oq : ∀ q : Nat, q ≠ a → H1[q]? = H[q]?) : gS E A Z H0 G' H1 (locs ++ [⟨a, i⟩]) := by
  refine ⟨⟨fun b hb => ?_, hG.1.2.tr fun b hb => ⟨by rw [hK], by rw [hL], fun h => ?_⟩⟩, hG.2.put z oq ((hG.1.1 a h0).2.1 h1)⟩
  rotate_left
  · have e : b ≠ a := fun e => by rw [e] at h; omega
    exact ⟨(hoff b e).2.1, (hoff b e).2.2.1⟩
  rw [hK] at hb ⊢
  obtain ⟨q1, q2⟩ := hG.1.1 b hb
  by_cases e : b = a
  · rw [e] at q2 ⊢; exact ⟨hat, q2⟩
  · obtain ⟨o1, o2, o3, o4, o5⟩ := hoff b e
    exact ⟨gat_kept (gat_eq (by rw [hK]) o1 o2 o3 o4 o5 q1) (oq b e), q2⟩
theorem grI_off {G : Gh} {a : Nat} {f : Nat → Int32} (b : Nat) (h : b ≠ a) : gL (grI G a f) b = gL G b ∧ gI (grI G a f) b = gI G b ∧ gR (grI G a f) b = gR G b ∧ gJ (grI G a f) b = gJ G b ∧ gD (grI G a f) b = gD G b := ⟨rfl, va_up_ne _ _ h, rfl, rfl, rfl⟩
theorem grR_off {G : Gh} {a : Nat} {f : Nat → Option Nat} (b : Nat) (h : b ≠ a) : gL (grR G a f) b = gL G b ∧ gI (grR G a f) b = gI G b ∧ gR (grR G a f) b = gR G b ∧ gJ (grR G a f) b = gJ G b ∧ gD (grR G a f) b = gD G b := ⟨rfl, rfl, va_up_ne _ _ h, rfl, rfl⟩
theorem grJ_off {G : Gh} {a : Nat} {f : Nat → Int64} (b : Nat) (h : b ≠ a) : gL (grJ G a f) b = gL G b ∧ gI (grJ G a f) b = gI G b ∧ gR (grJ G a f) b = gR G b ∧ gJ (grJ G a f) b = gJ G b ∧ gD (grJ G a f) b = gD G b := ⟨rfl, rfl, rfl, va_up_ne _ _ h, rfl⟩
theorem grD_off {G : Gh} {a : Nat} {f : Nat → UInt64} (b : Nat) (h : b ≠ a) : gL (grD G a f) b = gL G b ∧ gI (grD G a f) b = gI G b ∧ gR (grD G a f) b = gR G b ∧ gJ (grD G a f) b = gJ G b ∧ gD (grD G a f) b = gD G b := ⟨rfl, rfl, rfl, rfl, va_up_ne _ _ h⟩
/-- a cell is made -/
theorem gS_new {E : gE} {A : Nat → Prop} {Z : Gh} {H0 H H1 : Heap} {G : Gh} {locs : List Loc} {κ n : Nat} (hG : gS E A Z H0 G H locs) (hA : ∀ q, H0.size ≤ q → A q) (hκ : κ < 1000) (hat : gat E (gN G H.size κ n) H.size H1) (z : H1.size = H.size + 1) (oq : ∀ q : Nat, q < H.size → H1[q]? = H[q]?) : gK G H.size = 0 ∧ gS E A Z H0 (gN G H.size κ n) H1 locs := by
  have hz : gK G H.size = 0 := Classical.byContradiction fun h => Nat.lt_irrefl _ (gat_lt (hG.1.1 _ h).1)
  refine ⟨hz, ⟨fun b hb => ?_, hG.1.2.tr fun b hb => ?_⟩, Nat.le_trans hG.2.1 (by omega), fun q h1 h2 => (oq q (Nat.lt_of_lt_of_le h1 hG.2.1)).trans (hG.2.2.1 q h1 h2), hG.2.2.2⟩
  rotate_left
  · have e : b ≠ H.size := fun e => hb (by rw [e]; exact hz)
    exact ⟨va_up_ne _ _ e, va_up_ne _ _ e, fun _ => ⟨va_up_ne _ _ e, va_up_ne _ _ e⟩⟩
  by_cases e : b = H.size
  · subst e
    refine ⟨hat, fun _ => hA _ hG.2.1, fun h => ?_⟩
    have : gK (gN G H.size κ n) H.size = κ := va_up_self _ _ _
    omega
  · have hk : gK (gN G H.size κ n) b = gK G b := va_up_ne _ _ e
    rw [hk] at hb ⊢
    obtain ⟨q1, q2⟩ := hG.1.1 b hb
    exact ⟨gat_kept (gat_eq hk (va_up_ne _ _ e) (va_up_ne _ _ e) (va_up_ne _ _ e) (va_up_ne _ _ e) (va_up_ne _ _ e) q1) (oq b (gat_lt q1)), q2⟩
/-- which words of the tables are carried along beside the good ones -/
def gPok (w : Cond) : Bool := match w with
  | .castable _ _ => true
  | .fieldLinkNest _ _ _ _ _ _ => true
  | .methodLinkNest _ _ _ _ => true
  | .declares _ => true
  | .privateMethod _ => true
  | _ => false
theorem va_Nw.warmPr {y : MethodName} {s U : State} (hW : s.WarmedH U.vm) (hZ : va_Nw (.privateMethod y) s) : va_Nw (.privateMethod y) U := va_tabs rfl (rfl : (s.setVm U.vm).vm = U.vm) (show (Cond.privateMethod y).before #[] (s.setVm U.vm) = true by rw [Cond.privateMethod_setVm hW.alike]; exact hZ)
theorem gPok_warm {w : Cond} (h : gPok w = true) {s U : State} (hW : s.WarmedH U.vm) (hw : va_Nw w s) : va_Nw w U := by
  cases w <;> first | exact va_Nw.warmC hW hw | exact va_Nw.warmF hW hw | exact va_Nw.warmM hW hw | exact va_Nw.warmD hW hw | exact va_Nw.warmPr hW hw | (simp [gPok] at h)
theorem gPok_tab {w : Cond} (h : gPok w = true) : w.onTables = true := by
  cases w <;> first | rfl | (simp [gPok] at h)
