/-! small rows for the walks over the ghost heap -/
set_option maxRecDepth 100000
theorem gFs_I {G : Gh} {a : Nat} {x : Int32} (ci k : Nat) (h : ∀ (f : Nat → Int32) (r : Nat → Option Nat) (x : Int32), (gFs ci f r).set k (.int x) = gFs ci (upd f k x) r) : (gFs ci (gI G a) (gR G a)).set k (.int x) = gFs ci (gI (gsI G a k x) a) (gR (gsI G a k x) a) := by
  have e : gI (gsI G a k x) a = upd (gI G a) k x := va_up_self _ _ _
  rw [e]; exact h _ _ _
theorem gFs_R {G : Gh} {a : Nat} {x : Option Nat} (ci k : Nat) (h : ∀ (f : Nat → Int32) (r : Nat → Option Nat) (x : Option Nat), (gFs ci f r).set k (va_rf x) = gFs ci f (va_up r k x)) : (gFs ci (gI G a) (gR G a)).set k (va_rf x) = gFs ci (gI (gsR G a k x) a) (gR (gsR G a k x) a) := by
  have e : gR (gsR G a k x) a = va_up (gR G a) k x := va_up_self _ _ _
  rw [e]; exact h _ _ _
theorem gcat_i (x : Int32) : (Value.int x).category = 1 := rfl
theorem gcat_r (x : Nat) : (Value.ref x).category = 1 := rfl
theorem gcat_l (x : Int64) : (Value.long x).category = 2 := rfl
theorem gcat_d (x : UInt64) : (Value.double x).category = 2 := rfl
theorem gcat_f (x : UInt32) : (Value.float x).category = 1 := rfl
theorem gcat_n : Value.null.category = 1 := rfl
theorem in_J9b : ∀ w ∈ u_ws RJ9 TJ9 2, w ∈ lw_all := lw_in (u_ws RJ9 TJ9 2) [437, 439] (by decide +kernel) (by decide +kernel)
theorem tyJ9b_ok : ∀ k, k < 2 → parseFieldDescriptor (TJ9 k).2.2.1 = some (tyJ9 k) := fun k hk => tyJ9_ok k (by omega)
theorem nmJ9b : ∀ a, a < 2 → ∀ b, b < 2 → a ≠ b → (TJ9 a).2.1 ≠ (TJ9 b).2.1 := fun a ha b hb => nmJ9 a (by omega) b (by omega)
def gRt : FieldType → Bool
  | .object _ => true
  | .array _ => true
  | _ => false
theorem narrow_rf {ty : FieldType} (r : Option Nat) : narrow ty (va_rf r) = va_rf r := by
  cases r <;> cases ty <;> rfl
theorem fits_rf {ty : FieldType} (r : Option Nat) (h : gRt ty = true) : fits ty (va_rf r) = true := by
  cases ty <;> first | (cases r <;> rfl) | (simp [gRt] at h)
theorem gborn_X1 : ∀ j, j < 8 → defaultValue (tyX1 j) = vp_V (gFs 1 (fun _ => 0) (fun _ => none)) j := fun j hj => by
  rcases (show j = 0 ∨ j = 1 ∨ j = 2 ∨ j = 3 ∨ j = 4 ∨ j = 5 ∨ j = 6 ∨ j = 7 by omega) with rfl | rfl | rfl | rfl | rfl | rfl | rfl | rfl <;> rfl
theorem gborn_X2 : ∀ j, j < 14 → defaultValue (tyX2 j) = vp_V (gFs 2 (fun _ => 0) (fun _ => none)) j := fun j hj => by
  rcases (show j = 0 ∨ j = 1 ∨ j = 2 ∨ j = 3 ∨ j = 4 ∨ j = 5 ∨ j = 6 ∨ j = 7 ∨ j = 8 ∨ j = 9 ∨ j = 10 ∨ j = 11 ∨ j = 12 ∨ j = 13 by omega) with rfl | rfl | rfl | rfl | rfl | rfl | rfl | rfl | rfl | rfl | rfl | rfl | rfl | rfl <;> rfl
theorem gborn_X4 : ∀ j, j < 8 → defaultValue (tyX4 j) = vp_V (gFs 3 (fun _ => 0) (fun _ => none)) j := fun j hj => by
  rcases (show j = 0 ∨ j = 1 ∨ j = 2 ∨ j = 3 ∨ j = 4 ∨ j = 5 ∨ j = 6 ∨ j = 7 by omega) with rfl | rfl | rfl | rfl | rfl | rfl | rfl | rfl <;> rfl
theorem gborn_X5 : ∀ j, j < 4 → defaultValue (tyX5 j) = vp_V (gFs 4 (fun _ => 0) (fun _ => none)) j := fun j hj => by
  rcases (show j = 0 ∨ j = 1 ∨ j = 2 ∨ j = 3 by omega) with rfl | rfl | rfl | rfl <;> rfl
theorem gborn_X6 : ∀ j, j < 3 → defaultValue (tyX6 j) = vp_V (gFs 5 (fun _ => 0) (fun _ => none)) j := fun j hj => by
  rcases (show j = 0 ∨ j = 1 ∨ j = 2 by omega) with rfl | rfl | rfl <;> rfl
theorem gborn_X8 : ∀ j, j < 2 → defaultValue (tyX8 j) = vp_V (gFs 7 (fun _ => 0) (fun _ => none)) j := fun j hj => by
  rcases (show j = 0 ∨ j = 1 by omega) with rfl | rfl <;> rfl
theorem gborn_X9 : ∀ j, j < 4 → defaultValue (tyX9 j) = vp_V (gFs 8 (fun _ => 0) (fun _ => none)) j := fun j hj => by
  rcases (show j = 0 ∨ j = 1 ∨ j = 2 ∨ j = 3 by omega) with rfl | rfl | rfl | rfl <;> rfl
theorem gborn_X11 : ∀ j, j < 1 → defaultValue (tyX11 j) = vp_V (gFs 9 (fun _ => 0) (fun _ => none)) j := fun j hj => by
  have e : j = 0 := by omega
  subst e; rfl
theorem gborn_X12 : ∀ j, j < 4 → defaultValue (tyX12 j) = vp_V (gFs 10 (fun _ => 0) (fun _ => none)) j := fun j hj => by
  rcases (show j = 0 ∨ j = 1 ∨ j = 2 ∨ j = 3 by omega) with rfl | rfl | rfl | rfl <;> rfl
theorem gborn_X13 : ∀ j, j < 2 → defaultValue (tyX13 j) = vp_V (gFs 11 (fun _ => 0) (fun _ => none)) j := fun j hj => by
  rcases (show j = 0 ∨ j = 1 by omega) with rfl | rfl <;> rfl
theorem gborn_X14 : ∀ j, j < 2 → defaultValue (tyX14 j) = vp_V (gFs 12 (fun _ => 0) (fun _ => none)) j := fun j hj => by
  rcases (show j = 0 ∨ j = 1 by omega) with rfl | rfl <;> rfl
theorem gborn_X15 : ∀ j, j < 7 → defaultValue (tyX15 j) = vp_V (gFs 13 (fun _ => 0) (fun _ => none)) j := fun j hj => by
  rcases (show j = 0 ∨ j = 1 ∨ j = 2 ∨ j = 3 ∨ j = 4 ∨ j = 5 ∨ j = 6 by omega) with rfl | rfl | rfl | rfl | rfl | rfl | rfl <;> rfl
theorem gborn_J2 : ∀ j, j < 3 → defaultValue (tyJ2 j) = vp_V (gFs 14 (fun _ => 0) (fun _ => none)) j := fun j hj => by
  rcases (show j = 0 ∨ j = 1 ∨ j = 2 by omega) with rfl | rfl | rfl <;> rfl
theorem gborn_J18 : ∀ j, j < 4 → defaultValue (tyJ18 j) = vp_V (gFs 15 (fun _ => 0) (fun _ => none)) j := fun j hj => by
  rcases (show j = 0 ∨ j = 1 ∨ j = 2 ∨ j = 3 by omega) with rfl | rfl | rfl | rfl <;> rfl
theorem gborn_J8 : ∀ j, j < 4 → defaultValue (tyJ8 j) = vp_V (gFs 16 (fun _ => 0) (fun _ => none)) j := fun j hj => by
  rcases (show j = 0 ∨ j = 1 ∨ j = 2 ∨ j = 3 by omega) with rfl | rfl | rfl | rfl <;> rfl
theorem gborn_J9 : ∀ j, j < 2 → defaultValue (tyJ9 j) = vp_V (gFs 17 (fun _ => 0) (fun _ => none)) j := fun j hj => by
  rcases (show j = 0 ∨ j = 1 by omega) with rfl | rfl <;> rfl
theorem gborn_J17 : ∀ j, j < 3 → defaultValue (tyJ17 j) = vp_V (gFs 18 (fun _ => 0) (fun _ => none)) j := fun j hj => by
  rcases (show j = 0 ∨ j = 1 ∨ j = 2 by omega) with rfl | rfl | rfl <;> rfl
theorem gborn_X7 : ∀ j, j < 0 → defaultValue ((fun _ => FieldType.int) j) = vp_V (gFs 6 (fun _ => 0) (fun _ => none)) j := fun j hj => absurd hj (Nat.not_lt_zero j)
theorem vc_11 : (11 : Int32).toNatClampNeg = 11 := by decide +kernel
theorem vc_12 : (12 : Int32).toNatClampNeg = 12 := by decide +kernel
theorem vc_13 : (13 : Int32).toNatClampNeg = 13 := by decide +kernel
theorem vc_14 : (14 : Int32).toNatClampNeg = 14 := by decide +kernel
theorem vc_15 : (15 : Int32).toNatClampNeg = 15 := by decide +kernel
theorem vc_16 : (16 : Int32).toNatClampNeg = 16 := by decide +kernel
theorem vc_17 : (17 : Int32).toNatClampNeg = 17 := by decide +kernel
theorem vc_18 : (18 : Int32).toNatClampNeg = 18 := by decide +kernel
theorem vc_19 : (19 : Int32).toNatClampNeg = 19 := by decide +kernel
theorem vc_20 : (20 : Int32).toNatClampNeg = 20 := by decide +kernel
theorem vc_21 : (21 : Int32).toNatClampNeg = 21 := by decide +kernel
theorem vc_22 : (22 : Int32).toNatClampNeg = 22 := by decide +kernel
theorem vc_23 : (23 : Int32).toNatClampNeg = 23 := by decide +kernel
theorem vc_24 : (24 : Int32).toNatClampNeg = 24 := by decide +kernel
theorem vc_25 : (25 : Int32).toNatClampNeg = 25 := by decide +kernel
theorem vc_27 : (27 : Int32).toNatClampNeg = 27 := by decide +kernel
theorem vc_28 : (28 : Int32).toNatClampNeg = 28 := by decide +kernel
theorem vc_29 : (29 : Int32).toNatClampNeg = 29 := by decide +kernel
theorem vc_30 : (30 : Int32).toNatClampNeg = 30 := by decide +kernel
theorem vc_31 : (31 : Int32).toNatClampNeg = 31 := by decide +kernel
theorem vc_32 : (32 : Int32).toNatClampNeg = 32 := by decide +kernel
theorem vc_33 : (33 : Int32).toNatClampNeg = 33 := by decide +kernel
theorem vc_34 : (34 : Int32).toNatClampNeg = 34 := by decide +kernel
theorem vc_35 : (35 : Int32).toNatClampNeg = 35 := by decide +kernel
theorem vc_36 : (36 : Int32).toNatClampNeg = 36 := by decide +kernel
theorem vc_37 : (37 : Int32).toNatClampNeg = 37 := by decide +kernel
theorem vc_38 : (38 : Int32).toNatClampNeg = 38 := by decide +kernel
theorem vc_39 : (39 : Int32).toNatClampNeg = 39 := by decide +kernel
theorem vc_40 : (40 : Int32).toNatClampNeg = 40 := by decide +kernel
theorem vc_41 : (41 : Int32).toNatClampNeg = 41 := by decide +kernel
theorem vc_42 : (42 : Int32).toNatClampNeg = 42 := by decide +kernel
theorem vc_43 : (43 : Int32).toNatClampNeg = 43 := by decide +kernel
theorem vc_44 : (44 : Int32).toNatClampNeg = 44 := by decide +kernel
theorem vc_45 : (45 : Int32).toNatClampNeg = 45 := by decide +kernel
theorem vc_46 : (46 : Int32).toNatClampNeg = 46 := by decide +kernel
theorem vc_47 : (47 : Int32).toNatClampNeg = 47 := by decide +kernel
theorem vc_48 : (48 : Int32).toNatClampNeg = 48 := by decide +kernel
theorem vc_49 : (49 : Int32).toNatClampNeg = 49 := by decide +kernel
theorem vc_50 : (50 : Int32).toNatClampNeg = 50 := by decide +kernel
theorem vc_51 : (51 : Int32).toNatClampNeg = 51 := by decide +kernel
theorem vc_52 : (52 : Int32).toNatClampNeg = 52 := by decide +kernel
theorem vc_53 : (53 : Int32).toNatClampNeg = 53 := by decide +kernel
theorem vc_54 : (54 : Int32).toNatClampNeg = 54 := by decide +kernel
theorem vc_55 : (55 : Int32).toNatClampNeg = 55 := by decide +kernel
theorem vc_56 : (56 : Int32).toNatClampNeg = 56 := by decide +kernel
theorem vc_57 : (57 : Int32).toNatClampNeg = 57 := by decide +kernel
theorem vc_58 : (58 : Int32).toNatClampNeg = 58 := by decide +kernel
theorem vc_59 : (59 : Int32).toNatClampNeg = 59 := by decide +kernel
theorem vc_60 : (60 : Int32).toNatClampNeg = 60 := by decide +kernel
theorem vc_61 : (61 : Int32).toNatClampNeg = 61 := by decide +kernel
theorem vc_62 : (62 : Int32).toNatClampNeg = 62 := by decide +kernel
theorem vc_63 : (63 : Int32).toNatClampNeg = 63 := by decide +kernel
theorem vc_64 : (64 : Int32).toNatClampNeg = 64 := by decide +kernel
theorem vc_65 : (65 : Int32).toNatClampNeg = 65 := by decide +kernel
theorem vc_66 : (66 : Int32).toNatClampNeg = 66 := by decide +kernel
theorem vc_67 : (67 : Int32).toNatClampNeg = 67 := by decide +kernel
theorem vc_68 : (68 : Int32).toNatClampNeg = 68 := by decide +kernel
theorem vc_69 : (69 : Int32).toNatClampNeg = 69 := by decide +kernel
theorem vc_70 : (70 : Int32).toNatClampNeg = 70 := by decide +kernel
theorem vc_71 : (71 : Int32).toNatClampNeg = 71 := by decide +kernel
theorem vc_72 : (72 : Int32).toNatClampNeg = 72 := by decide +kernel
theorem vc_73 : (73 : Int32).toNatClampNeg = 73 := by decide +kernel
theorem vc_74 : (74 : Int32).toNatClampNeg = 74 := by decide +kernel
theorem vc_75 : (75 : Int32).toNatClampNeg = 75 := by decide +kernel
theorem vc_76 : (76 : Int32).toNatClampNeg = 76 := by decide +kernel
theorem vc_77 : (77 : Int32).toNatClampNeg = 77 := by decide +kernel
theorem vc_78 : (78 : Int32).toNatClampNeg = 78 := by decide +kernel
theorem vc_79 : (79 : Int32).toNatClampNeg = 79 := by decide +kernel
theorem vc_80 : (80 : Int32).toNatClampNeg = 80 := by decide +kernel
theorem vc_81 : (81 : Int32).toNatClampNeg = 81 := by decide +kernel
theorem vc_82 : (82 : Int32).toNatClampNeg = 82 := by decide +kernel
theorem vc_83 : (83 : Int32).toNatClampNeg = 83 := by decide +kernel
theorem vc_84 : (84 : Int32).toNatClampNeg = 84 := by decide +kernel
theorem vc_85 : (85 : Int32).toNatClampNeg = 85 := by decide +kernel
theorem vc_86 : (86 : Int32).toNatClampNeg = 86 := by decide +kernel
theorem vc_88 : (88 : Int32).toNatClampNeg = 88 := by decide +kernel
theorem vc_89 : (89 : Int32).toNatClampNeg = 89 := by decide +kernel
theorem vc_90 : (90 : Int32).toNatClampNeg = 90 := by decide +kernel
theorem vc_91 : (91 : Int32).toNatClampNeg = 91 := by decide +kernel
theorem vc_92 : (92 : Int32).toNatClampNeg = 92 := by decide +kernel
theorem vc_93 : (93 : Int32).toNatClampNeg = 93 := by decide +kernel
theorem vc_94 : (94 : Int32).toNatClampNeg = 94 := by decide +kernel
theorem vc_95 : (95 : Int32).toNatClampNeg = 95 := by decide +kernel
theorem vc_96 : (96 : Int32).toNatClampNeg = 96 := by decide +kernel
theorem vc_97 : (97 : Int32).toNatClampNeg = 97 := by decide +kernel
theorem vc_98 : (98 : Int32).toNatClampNeg = 98 := by decide +kernel
theorem vc_99 : (99 : Int32).toNatClampNeg = 99 := by decide +kernel
theorem vc_101 : (101 : Int32).toNatClampNeg = 101 := by decide +kernel
theorem vc_102 : (102 : Int32).toNatClampNeg = 102 := by decide +kernel
theorem vc_103 : (103 : Int32).toNatClampNeg = 103 := by decide +kernel
theorem vc_104 : (104 : Int32).toNatClampNeg = 104 := by decide +kernel
theorem vc_105 : (105 : Int32).toNatClampNeg = 105 := by decide +kernel
theorem vc_106 : (106 : Int32).toNatClampNeg = 106 := by decide +kernel
theorem vc_107 : (107 : Int32).toNatClampNeg = 107 := by decide +kernel
theorem vc_108 : (108 : Int32).toNatClampNeg = 108 := by decide +kernel
theorem vc_109 : (109 : Int32).toNatClampNeg = 109 := by decide +kernel
theorem vc_110 : (110 : Int32).toNatClampNeg = 110 := by decide +kernel
theorem vc_111 : (111 : Int32).toNatClampNeg = 111 := by decide +kernel
theorem vc_112 : (112 : Int32).toNatClampNeg = 112 := by decide +kernel
theorem vc_113 : (113 : Int32).toNatClampNeg = 113 := by decide +kernel
theorem vc_114 : (114 : Int32).toNatClampNeg = 114 := by decide +kernel
theorem vc_115 : (115 : Int32).toNatClampNeg = 115 := by decide +kernel
theorem vc_116 : (116 : Int32).toNatClampNeg = 116 := by decide +kernel
theorem vc_117 : (117 : Int32).toNatClampNeg = 117 := by decide +kernel
theorem vc_118 : (118 : Int32).toNatClampNeg = 118 := by decide +kernel
theorem vc_119 : (119 : Int32).toNatClampNeg = 119 := by decide +kernel
theorem vc_120 : (120 : Int32).toNatClampNeg = 120 := by decide +kernel
theorem vc_121 : (121 : Int32).toNatClampNeg = 121 := by decide +kernel
theorem vc_122 : (122 : Int32).toNatClampNeg = 122 := by decide +kernel
theorem vc_123 : (123 : Int32).toNatClampNeg = 123 := by decide +kernel
theorem vc_124 : (124 : Int32).toNatClampNeg = 124 := by decide +kernel
theorem vc_125 : (125 : Int32).toNatClampNeg = 125 := by decide +kernel
theorem vc_126 : (126 : Int32).toNatClampNeg = 126 := by decide +kernel
theorem vc_127 : (127 : Int32).toNatClampNeg = 127 := by decide +kernel
theorem vc_128 : (128 : Int32).toNatClampNeg = 128 := by decide +kernel
theorem vc_129 : (129 : Int32).toNatClampNeg = 129 := by decide +kernel
section GR4
variable {p : Program} {l : Launch} {e : Env} {R : Room} {s : State} {m : MethodId} {args : Array Value} {below : List Frame} {meth : Method} {c : Code} {H : Heap} {locs : List Loc} {cells slots : Nat} {Q : State → Prop}
variable {cc : ByteArray} {pc : Nat} {ls : Array Slot} {rest st0 : List Value} {E : gE} {A : Nat → Prop} {Z : Gh} {H0 : Heap} {G : Gh} {a : Nat} {own : String}
theorem gcastA32 (hexec : p.tables.exec = Jvm.exec) (hb : c.code = cc) {index : Nat} (hown : s.vm.findClass own = some m.cls) (hlink : (Cond.classLink own index "[B").before args s = true) (hPF : gPF E A s) (hG : gS E A Z H0 G H locs) (ha : gC G a = 32) (hdg : decode cc pc = .ok (.checkcast index, 3))
    (kk : W p l e R s m args below meth c H locs cells slots Q (F0 m (pc + 3) ls (.ref a :: rest))) : W p l e R s m args below meth c H locs cells slots Q (F0 m pc ls (.ref a :: rest)) := by
  have hP := gS_arr hG ha (by decide) (by decide)
  unfold gEn at hP
  rw [ha] at hP
  exact va_castA hexec hb hown hlink hP 0 rfl (hPF.K.2 2 _ rfl).2 hdg kk
theorem gcastA35 (hexec : p.tables.exec = Jvm.exec) (hb : c.code = cc) {index : Nat} (hown : s.vm.findClass own = some m.cls) (hlink : (Cond.classLink own index "[Ljava/lang/Object;").before args s = true) (hPF : gPF E A s) (hG : gS E A Z H0 G H locs) (ha : gC G a = 35) (hdg : decode cc pc = .ok (.checkcast index, 3))
    (kk : W p l e R s m args below meth c H locs cells slots Q (F0 m (pc + 3) ls (.ref a :: rest))) : W p l e R s m args below meth c H locs cells slots Q (F0 m pc ls (.ref a :: rest)) := by
  have hP := gS_arr hG ha (by decide) (by decide)
  unfold gEn at hP
  rw [ha] at hP
  obtain ⟨kA, comp, h1, h2, h3, h4⟩ := (hPF.K.2 5 _ rfl).2
  exact va_castA hexec hb hown hlink hP 0 rfl h4 hdg kk
theorem gthrown {px : String → Nat → Gh → Prop} {X : String} {q : Nat} {t : State} (hG : gS E A Z s.heap G H locs) (hp : px X q G) (hz : H.size ≤ t.heap.size) (hk : ∀ q : Nat, q < H.size → t.heap[q]? = H[q]?) : gXC E A Z px X q s t :=
  ⟨⟨G, hp, ⟨fun b hb => ⟨gat_kept (hG.1.1 b hb).1 (hk b (gat_lt (hG.1.1 b hb).1)), (hG.1.1 b hb).2⟩, hG.1.2⟩⟩, Nat.le_trans hG.2.1 hz, fun q h1 h2 => (hk q (Nat.lt_of_lt_of_le h1 hG.2.1)).trans (hG.2.2.1 q h1 h2)⟩
def tw_ok (L : List Cond) : Prop := (∀ w ∈ L, w ∈ lw_tbl) ∧ L.all (fun w => goodWord w || gPok w) = true
theorem tw_of {L : List Cond} (ps : List Nat) (hp : L = ps.filterMap (fun i => lw_tbl[i]?)) (hg : L.all (fun w => goodWord w || gPok w) = true) : tw_ok L := by
  refine ⟨fun w hw => ?_, hg⟩
  rw [hp] at hw
  obtain ⟨i, -, hi⟩ := List.mem_filterMap.mp hw
  exact List.mem_of_getElem? hi
theorem tw_hat {L : List Cond} (hts : ∀ w ∈ lw_all, w.before args s = true) (hPF : gPF E A s) (h : tw_ok L) : ∀ w ∈ L, w.before args s = true := fun w hw => by
  have h1 := List.all_eq_true.mp h.2 w hw
  rcases Bool.or_eq_true _ _ |>.mp h1 with h2 | h2
  · exact hts _ (lw_g (h.1 w hw) h2)
  · exact va_Nw.use (gPok_tab h2) (hPF.w (h.1 w hw) h2)
theorem tw_ot {L : List Cond} (h : L.all vx_ot = true) : ∀ w ∈ L, vx_ot w = true := fun w hw => List.all_eq_true.mp h w hw
theorem gsel_pr (hts : ∀ w ∈ lw_all, w.before args s = true) (hPF : gPF E A s) {y : MethodName} (hy : y.cls = "java/lang/AbstractStringBuilder") (hin : Cond.instanceMethod y ∈ lw_all) (hpr : Cond.privateMethod y ∈ lw_tbl) : (Cond.selects "java/lang/StringBuilder" y y).before args s = true := by
  obtain ⟨c, k, hc, hk, -, -, -, -⟩ := Cond.instantiable_spec (hts _ q177)
  obtain ⟨mk, methM, hnamed, hmethM, -, -⟩ := Cond.instanceMethod_spec (hts _ hin)
  have hfound : s.methodFound? y.cls y.name y.desc = some mk := State.methodFound?_of_named hnamed (by rw [hy]; exact ⟨by decide, by decide⟩)
  have hsel : selectMethod {} s.vm c mk = .method mk := selectMethod_private hmethM (Cond.privateMethod_at (va_Nw.use (A := args) rfl (hPF.w hpr rfl)) mk methM hnamed hmethM)
  obtain ⟨c2, r2, m2, hc2, hr2, hm2, hs2, k2, hk2, hni⟩ := Cond.selects_spec (hts _ q258)
  have f1 : s.vm.findClass "java/lang/AbstractStringBuilder" = some m2.cls := findClass_of_methodNamed hm2
  have f2 : s.vm.findClass "java/lang/AbstractStringBuilder" = some mk.cls := by rw [← hy]; exact findClass_of_methodNamed hnamed
  have e : m2.cls = mk.cls := Option.some.inj (f1.symm.trans f2)
  rw [e] at hk2
  simp only [Cond.before, Cond.holds, Cond.value, hc, hfound, hnamed, hsel, hk2]
  simp; exact hni
theorem garrC35 (hPF : gPF E A s) (hG : gS E A Z H0 G H locs) (ha : gC G a = 35) : ∃ cell : Cell, H[a]? = some cell ∧ cell.vm.isStatics = false ∧ s.vm.findClass "[Ljava/lang/Object;" = some cell.cls := by
  obtain ⟨kA, comp, h1, h2, h3, h4⟩ := (hPF.K.2 5 _ rfl).2
  exact ⟨_, gcell_q hG ha, rfl, h4⟩
def excNames : List String := ["java/lang/RuntimeException", "java/lang/Exception"]
end GR4
theorem gcwP {R : Room} {s : State} {args : Array Value} {own C : String} {index maxL mc ms : Nat} {y : MethodName} {bytes : ByteArray} {ret : Option FieldType} {Ts ws ws' : List Cond} {rm : Room} (n : Nat) (ht : ∀ w ∈ Ts, w.before args s = true) (hG : GoodIn Ts ws) (hw : ws = Cond.code y bytes maxL ret :: ws') (hrc : rm.cells = mc) (hrs : rm.slots = ms) (hini : (Cond.initialized y.cls).before args s = true) (hl : (Cond.methodLink own index y).before args s = true) (hin : (Cond.instanceMethod y).before args s = true) (hsel : (Cond.selects C y y).before args s = true)
    (hd : y.cls ≠ "java/lang/invoke/MethodHandle" ∧ y.cls ≠ "java/lang/invoke/VarHandle" ∧ (parseMethodDescriptor y.desc).map (fun d => d.parameters.length) = some n) (hR : rm.frames + 1 ≤ R.frames ∧ 8 + (maxL + 11) + rm.locals ≤ R.locals) : CallW R s args own C index y bytes maxL ret ws rm mc ms n :=
  ⟨callB_of n ht hG hw hrc hrs hini hl hd hR, hin, hsel⟩
theorem lw_F {own : String} {idx : Nat} {C : String} {x y : MethodName} {b : ByteArray} {L : Nat} {r : Option FieldType} (h1 : Cond.methodLink own idx x ∈ lw_all) (h2 : Cond.selects C x y ∈ lw_all) (h3 : Cond.instanceMethod y ∈ lw_all) (h4 : Cond.initialized y.cls ∈ lw_all) (h5 : Cond.code y b L r ∈ lw_all) : GoodIn lw_all (va_wsF own idx C x y (ws_ y b L r)) := by
  refine lw_app ?_ (lw_meth h5)
  intro w hw
  simp only [List.mem_cons, List.not_mem_nil, or_false] at hw
  rcases hw with e | e | e | e
  · rw [e]; exact h1
  · rw [e]; exact h2
  · rw [e]; exact h3
  · rw [e]; exact h4
theorem lw_U {own : String} {idx : Nat} {C owner : String} {x y : MethodName} {b : ByteArray} {L : Nat} {r : Option FieldType} (h1 : Cond.methodLink own idx x ∈ lw_all) (h2 : Cond.sameMethod x.cls owner x.name x.desc ∈ lw_all) (h3 : Cond.selects C x y ∈ lw_all) (h4 : Cond.instanceMethod y ∈ lw_all) (h5 : Cond.initialized y.cls ∈ lw_all) (h6 : Cond.code y b L r ∈ lw_all) : GoodIn lw_all (va_wsU own idx C owner x y (ws_ y b L r)) := by
  refine lw_app ?_ (lw_meth h6)
  intro w hw
  simp only [List.mem_cons, List.not_mem_nil, or_false] at hw
  rcases hw with e | e | e | e | e
  · rw [e]; exact h1
  · rw [e]; exact h2
  · rw [e]; exact h3
  · rw [e]; exact h4
  · rw [e]; exact h5
theorem lw_O {own : String} {idx : Nat} {C owner : String} {x y : MethodName} {b : ByteArray} {L : Nat} {r : Option FieldType} (h1 : Cond.methodLink own idx x ∈ lw_all) (h2 : Cond.sameMethod x.cls owner x.name x.desc ∈ lw_all) (h3 : Cond.instanceMethod ⟨owner, x.name, x.desc⟩ ∈ lw_all) (h4 : Cond.selects C x y ∈ lw_all) (h5 : Cond.instanceMethod y ∈ lw_all) (h6 : Cond.initialized y.cls ∈ lw_all) (h7 : Cond.code y b L r ∈ lw_all) : GoodIn lw_all (va_wsO own idx C owner x y (ws_ y b L r)) := by
  refine lw_app ?_ (lw_meth h7)
  intro w hw
  simp only [List.mem_cons, List.not_mem_nil, or_false] at hw
  rcases hw with e | e | e | e | e | e
  · rw [e]; exact h1
  · rw [e]; exact h2
  · rw [e]; exact h3
  · rw [e]; exact h4
  · rw [e]; exact h5
  · rw [e]; exact h6
theorem lw_SU {own : String} {idx : Nat} {y : MethodName} {b : ByteArray} {L : Nat} {r : Option FieldType} (h1 : Cond.methodLink own idx y ∈ lw_all) (h2 : Cond.sameMethod y.cls y.cls y.name y.desc ∈ lw_all) (h3 : Cond.superclass own y.cls ∈ lw_all) (h4 : Cond.instanceMethod y ∈ lw_all) (h5 : Cond.initialized y.cls ∈ lw_all) (h6 : Cond.code y b L r ∈ lw_all) : GoodIn lw_all (va_wsSU own idx y (ws_ y b L r)) := by
  refine lw_app ?_ (lw_meth h6)
  intro w hw
  simp only [List.mem_cons, List.not_mem_nil, or_false] at hw
  rcases hw with e | e | e | e | e
  · rw [e]; exact h1
  · rw [e]; exact h2
  · rw [e]; exact h3
  · rw [e]; exact h4
  · rw [e]; exact h5
theorem tw_X1_3_IllegalArgumentException : tw_ok (vx_at0 "WillowPrinters" 3 "java/lang/IllegalArgumentException" excNames) := tw_of [60, 151, 160, 170, 173, 175, 152, 153, 105, 106, 154, 159, 171, 411, 141, 412, 143, 413, 145, 155, 157, 147, 644, 645, 646, 647, 132, 647, 648, 649, 650, 134, 650, 651, 652, 152, 136, 643, 130, 131, 138, 139, 140, 142, 144, 146, 409, 149, 148] (by decide +kernel) (by decide +kernel)
theorem tw_X1_121_UnsupportedOperationException : tw_ok (vx_at0 "WillowPrinters" 121 "java/lang/UnsupportedOperationException" excNames) := tw_of [60, 151, 160, 170, 173, 175, 152, 153, 105, 106, 154, 159, 171, 411, 141, 412, 143, 413, 145, 155, 157, 147, 956, 957, 958, 647, 132, 647, 648, 649, 650, 134, 650, 651, 652, 152, 136, 955, 947, 948, 949, 168, 950, 951, 952, 953, 409, 149, 954] (by decide +kernel) (by decide +kernel)
theorem tw_X1_12_IllegalStateException : tw_ok (vx_at0 "WillowPrinters" 12 "java/lang/IllegalStateException" excNames) := tw_of [60, 151, 160, 170, 173, 175, 152, 153, 105, 106, 154, 159, 171, 411, 141, 412, 143, 413, 145, 155, 157, 147, 1054, 1055, 1056, 647, 132, 647, 648, 649, 650, 134, 650, 651, 652, 152, 136, 1053, 1002, 1003, 1004, 166, 1005, 1006, 1007, 1008, 409, 149, 1009] (by decide +kernel) (by decide +kernel)
theorem tw_X1_9_IndexOutOfBoundsException : tw_ok (vx_at0 "WillowPrinters" 9 "java/lang/IndexOutOfBoundsException" excNames) := tw_of [60, 151, 160, 170, 173, 175, 152, 153, 105, 106, 154, 159, 171, 411, 141, 412, 143, 413, 145, 155, 157, 147, 1107, 1108, 1109, 647, 132, 647, 648, 649, 650, 134, 650, 651, 652, 152, 136, 1106, 1098, 1099, 1100, 167, 1101, 1102, 1103, 1104, 409, 149, 1105] (by decide +kernel) (by decide +kernel)
theorem tw_X1_15_NoSuchElementException : tw_ok (vx_at0 "WillowPrinters" 15 "java/util/NoSuchElementException" excNames) := tw_of [60, 151, 160, 170, 173, 175, 152, 153, 105, 106, 154, 159, 171, 411, 141, 412, 143, 413, 145, 155, 157, 147, 755, 756, 757, 647, 132, 647, 648, 649, 650, 134, 650, 651, 652, 152, 136, 1162, 746, 747, 748, 169, 749, 750, 751, 752, 409, 149, 753] (by decide +kernel) (by decide +kernel)
theorem tw_X1_18_ArithmeticException : tw_ok (vx_at0 "WillowPrinters" 18 "java/lang/ArithmeticException" excNames) := tw_of [60, 151, 160, 170, 173, 175, 152, 153, 105, 106, 154, 159, 171, 411, 141, 412, 143, 413, 145, 155, 157, 147, 1720, 1721, 1722, 647, 132, 647, 648, 649, 650, 134, 650, 651, 652, 152, 136, 1719, 1694, 1705, 1706, 164, 1700, 1701, 1703, 1699, 409, 149, 1698] (by decide +kernel) (by decide +kernel)
theorem hdx_java_util_Iterator_hasNext : (⟨"java/util/Iterator", "hasNext", "()Z"⟩ : MethodName).cls ≠ "java/lang/invoke/MethodHandle" ∧ (⟨"java/util/Iterator", "hasNext", "()Z"⟩ : MethodName).cls ≠ "java/lang/invoke/VarHandle" ∧ (parseMethodDescriptor (⟨"java/util/Iterator", "hasNext", "()Z"⟩ : MethodName).desc).map (fun d => d.parameters.length) = some 0 := by decide +kernel
theorem hdx_java_util_Iterator_next : (⟨"java/util/Iterator", "next", "()Ljava/lang/Object;"⟩ : MethodName).cls ≠ "java/lang/invoke/MethodHandle" ∧ (⟨"java/util/Iterator", "next", "()Ljava/lang/Object;"⟩ : MethodName).cls ≠ "java/lang/invoke/VarHandle" ∧ (parseMethodDescriptor (⟨"java/util/Iterator", "next", "()Ljava/lang/Object;"⟩ : MethodName).desc).map (fun d => d.parameters.length) = some 0 := by decide +kernel
theorem hdx_java_lang_CharSequence_length : (⟨"java/lang/CharSequence", "length", "()I"⟩ : MethodName).cls ≠ "java/lang/invoke/MethodHandle" ∧ (⟨"java/lang/CharSequence", "length", "()I"⟩ : MethodName).cls ≠ "java/lang/invoke/VarHandle" ∧ (parseMethodDescriptor (⟨"java/lang/CharSequence", "length", "()I"⟩ : MethodName).desc).map (fun d => d.parameters.length) = some 0 := by decide +kernel
theorem hdx_java_lang_CharSequence_charAt : (⟨"java/lang/CharSequence", "charAt", "(I)C"⟩ : MethodName).cls ≠ "java/lang/invoke/MethodHandle" ∧ (⟨"java/lang/CharSequence", "charAt", "(I)C"⟩ : MethodName).cls ≠ "java/lang/invoke/VarHandle" ∧ (parseMethodDescriptor (⟨"java/lang/CharSequence", "charAt", "(I)C"⟩ : MethodName).desc).map (fun d => d.parameters.length) = some 1 := by decide +kernel
theorem hdx_WillowPrinters_State_stage : (⟨"WillowPrinters$State", "stage", "()LWillowPrinters$Stage;"⟩ : MethodName).cls ≠ "java/lang/invoke/MethodHandle" ∧ (⟨"WillowPrinters$State", "stage", "()LWillowPrinters$Stage;"⟩ : MethodName).cls ≠ "java/lang/invoke/VarHandle" ∧ (parseMethodDescriptor (⟨"WillowPrinters$State", "stage", "()LWillowPrinters$Stage;"⟩ : MethodName).desc).map (fun d => d.parameters.length) = some 0 := by decide +kernel
theorem hdx_WillowPrinters_State_well : (⟨"WillowPrinters$State", "well", "()I"⟩ : MethodName).cls ≠ "java/lang/invoke/MethodHandle" ∧ (⟨"WillowPrinters$State", "well", "()I"⟩ : MethodName).cls ≠ "java/lang/invoke/VarHandle" ∧ (parseMethodDescriptor (⟨"WillowPrinters$State", "well", "()I"⟩ : MethodName).desc).map (fun d => d.parameters.length) = some 0 := by decide +kernel
