/-! CLASSES: tables of fields and their words (printed by gen_cl.py) -/
set_option maxRecDepth 100000
noncomputable def dT0 : u_T := fun _ => ("", "", "", false)
noncomputable def clL : List (Nat × vw_C × (Nat → FieldType) × List Nat) := [
  (2, (RX1, TX1, 12), tyX1, [0, 1, 2, 3, 4, 5, 6, 7, 8, 9, 10, 11]),
  (3, (RX2, TX2, 13), tyX2, [12, 13, 14, 15, 16, 17, 18, 19, 20, 21, 22, 23, 24]),
  (4, (RX3, TX3, 7), tyX3, [25, 26, 27, 28, 29, 30, 31]),
  (5, (RX4, TX4, 12), tyX4, [32, 33, 34, 35, 36, 37, 38, 39, 40, 41, 42, 43]),
  (6, (RX5, TX5, 1), tyX5, [44]),
  (7, (RX6, TX6, 4), tyX6, [45, 46, 47, 48]),
  (8, (RX7, TX7, 4), tyX7, [49, 50, 51, 52]),
  (9, (RX8, TX8, 7), tyX8, [53, 54, 55, 56, 57, 58, 59]),
  (10, (RX9, TX9, 87), tyX9, [60, 61, 62, 63, 64, 65, 66, 67, 68, 69, 70, 71, 72, 73, 74, 75, 76, 77, 78, 79, 80, 81, 82, 83, 84, 85, 86, 87, 88, 89, 90, 91, 92, 93, 94, 95, 96, 97, 98, 99, 100, 101, 102, 103, 104, 105, 106, 107, 108, 109, 110, 111, 112, 113, 114, 115, 116, 117, 118, 119, 120, 121, 122, 123, 124, 125, 126, 127, 128, 129, 130, 131, 132, 133, 134, 135, 136, 137, 138, 139, 140, 141, 142, 143, 144, 145, 146]),
  (11, (RX10, TX10, 7), tyX10, [147, 148, 149, 150, 151, 152, 153]),
  (12, (RX11, TX11, 6), tyX11, [154, 155, 156, 157, 158, 159]),
  (13, (RX12, TX12, 6), tyX12, [154, 155, 156, 157, 158, 159]),
  (14, (RX13, TX13, 6), tyX13, [154, 155, 156, 157, 158, 159]),
  (15, (RX14, TX14, 6), tyX14, [154, 155, 156, 157, 158, 159]),
  (16, (RX15, TX15, 3), tyX15, [160, 161, 162]),
  (17, (RX16, TX16, 3), tyX16, [163, 164, 165]),
  (19, (RX18, TX18, 1), tyX18, [166]),
  (20, (RX19, TX19, 1), tyX19, [167]),
  (21, (RX20, TX20, 1), tyX20, [168]),
  (22, (RX21, TX21, 2), tyX21, [169, 170]),
  (24, (RX23, TX23, 1), tyX23, [171]),
  (25, (RX24, TX24, 1), tyX24, [171]),
  (26, (RX25, TX25, 1), tyX25, [171]),
  (27, (RX26, TX26, 1), tyX26, [171]),
  (28, (RX27, TX27, 1), tyX27, [171]),
  (29, (RX28, TX28, 1), tyX28, [171]),
  (30, (RX29, TX29, 1), tyX29, [171]),
  (32, (RX31, TX31, 2), tyX31, [172, 173]),
  (33, (RX32, TX32, 1), tyX32, [174]),
  (34, (RX33, dT0, 0), fun _ => .int, []),
  (35, (RX34, TX34, 4), tyX34, [175, 176, 177, 178]),
  (42, (RJ2, TJ2, 3), tyJ2, [179, 180, 181]),
  (55, (RJ15, TJ15, 1), tyJ15, [182]),
  (57, (RJ17, TJ17, 6), tyJ17, [147, 148, 149, 150, 151, 152])]
noncomputable def clf (t : Nat) : Option (vw_C × (Nat → FieldType) × List Nat) := lk clL t
def kdB : Nat → FieldType → Bool
  | 0, .int => true
  | 1, .boolean => true
  | 3, .long => true
  | 4, .object _ => true
  | 4, .array _ => true
  | _, _ => false
/-- what the tables say of a class -/
def ClOk (t : Nat) (q : vw_C × (Nat → FieldType) × List Nat) : Prop := (∀ w ∈ u_ws q.1.1 q.1.2.1 q.1.2.2, w ∈ lw_all) ∧ (∀ a, a < q.1.2.2 → ∀ b, b < q.1.2.2 → a ≠ b → (q.1.2.1 a).2.1 ≠ (q.1.2.1 b).2.1) ∧ (∀ k, k < q.1.2.2 → parseFieldDescriptor (q.1.2.1 k).2.2.1 = some (q.2.1 k)) ∧ Cond.instantiable q.1.1 q.1.2.2 ∈ lw_all ∧ Cond.initialized q.1.1 ∈ lw_all ∧ q.2.2.length = q.1.2.2 ∧ q.2.2.Nodup ∧ (∀ k, k < q.1.2.2 → t ∈ fCl (q.2.2.getD k 999) ∧ kdB (fKd (q.2.2.getD k 999)) (q.2.1 k) = true ∧ (q.1.2.1 k).2.2.2 = decide (fFn (q.2.2.getD k 999) ≠ 0)) ∧ t < 100 ∧ t ≠ 45
theorem clok2 : ClOk 2 ((RX1, TX1, 12), tyX1, [0, 1, 2, 3, 4, 5, 6, 7, 8, 9, 10, 11]) := ⟨in_X1, nmX1, tyX1_ok, q179, q124, rfl, by decide +kernel, by decide +kernel, by decide, by decide⟩
theorem clok3 : ClOk 3 ((RX2, TX2, 13), tyX2, [12, 13, 14, 15, 16, 17, 18, 19, 20, 21, 22, 23, 24]) := ⟨in_X2, nmX2, tyX2_ok, q187, q125, rfl, by decide +kernel, by decide +kernel, by decide, by decide⟩
theorem clok4 : ClOk 4 ((RX3, TX3, 7), tyX3, [25, 26, 27, 28, 29, 30, 31]) := ⟨in_X3, nmX3, tyX3_ok, q269, q126, rfl, by decide +kernel, by decide +kernel, by decide, by decide⟩
theorem clok5 : ClOk 5 ((RX4, TX4, 12), tyX4, [32, 33, 34, 35, 36, 37, 38, 39, 40, 41, 42, 43]) := ⟨in_X4, nmX4, tyX4_ok, q309, q127, rfl, by decide +kernel, by decide +kernel, by decide, by decide⟩
theorem clok6 : ClOk 6 ((RX5, TX5, 1), tyX5, [44]) := ⟨in_X5, nmX5, tyX5_ok, q343, q131, rfl, by decide +kernel, by decide +kernel, by decide, by decide⟩
theorem clok7 : ClOk 7 ((RX6, TX6, 4), tyX6, [45, 46, 47, 48]) := ⟨in_X6, nmX6, tyX6_ok, q442, q134, rfl, by decide +kernel, by decide +kernel, by decide, by decide⟩
theorem clok8 : ClOk 8 ((RX7, TX7, 4), tyX7, [49, 50, 51, 52]) := ⟨in_X7, nmX7, tyX7_ok, q462, q135, rfl, by decide +kernel, by decide +kernel, by decide, by decide⟩
theorem clok9 : ClOk 9 ((RX8, TX8, 7), tyX8, [53, 54, 55, 56, 57, 58, 59]) := ⟨in_X8, nmX8, tyX8_ok, q485, q136, rfl, by decide +kernel, by decide +kernel, by decide, by decide⟩
theorem clok10 : ClOk 10 ((RX9, TX9, 87), tyX9, [60, 61, 62, 63, 64, 65, 66, 67, 68, 69, 70, 71, 72, 73, 74, 75, 76, 77, 78, 79, 80, 81, 82, 83, 84, 85, 86, 87, 88, 89, 90, 91, 92, 93, 94, 95, 96, 97, 98, 99, 100, 101, 102, 103, 104, 105, 106, 107, 108, 109, 110, 111, 112, 113, 114, 115, 116, 117, 118, 119, 120, 121, 122, 123, 124, 125, 126, 127, 128, 129, 130, 131, 132, 133, 134, 135, 136, 137, 138, 139, 140, 141, 142, 143, 144, 145, 146]) := ⟨in_X9, nmX9, tyX9_ok, q1853, q137, rfl, by decide +kernel, by decide +kernel, by decide, by decide⟩
theorem clok11 : ClOk 11 ((RX10, TX10, 7), tyX10, [147, 148, 149, 150, 151, 152, 153]) := ⟨in_X10, nmX10, tyX10_ok, q722, q145, rfl, by decide +kernel, by decide +kernel, by decide, by decide⟩
theorem clok12 : ClOk 12 ((RX11, TX11, 6), tyX11, [154, 155, 156, 157, 158, 159]) := ⟨in_X11, nmX11, tyX11_ok, q895, q146, rfl, by decide +kernel, by decide +kernel, by decide, by decide⟩
theorem clok13 : ClOk 13 ((RX12, TX12, 6), tyX12, [154, 155, 156, 157, 158, 159]) := ⟨in_X12, nmX12, tyX12_ok, q826, q147, rfl, by decide +kernel, by decide +kernel, by decide, by decide⟩
theorem clok14 : ClOk 14 ((RX13, TX13, 6), tyX13, [154, 155, 156, 157, 158, 159]) := ⟨in_X13, nmX13, tyX13_ok, q869, q148, rfl, by decide +kernel, by decide +kernel, by decide, by decide⟩
theorem clok15 : ClOk 15 ((RX14, TX14, 6), tyX14, [154, 155, 156, 157, 158, 159]) := ⟨in_X14, nmX14, tyX14_ok, q882, q149, rfl, by decide +kernel, by decide +kernel, by decide, by decide⟩
theorem clok16 : ClOk 16 ((RX15, TX15, 3), tyX15, [160, 161, 162]) := ⟨in_X15, nmX15, tyX15_ok, q980, q153, rfl, by decide +kernel, by decide +kernel, by decide, by decide⟩
theorem clok17 : ClOk 17 ((RX16, TX16, 3), tyX16, [163, 164, 165]) := ⟨in_X16, nmX16, tyX16_ok, q1037, q154, rfl, by decide +kernel, by decide +kernel, by decide, by decide⟩
theorem clok19 : ClOk 19 ((RX18, TX18, 1), tyX18, [166]) := ⟨in_X18, nmX18, tyX18_ok, q1127, q159, rfl, by decide +kernel, by decide +kernel, by decide, by decide⟩
theorem clok20 : ClOk 20 ((RX19, TX19, 1), tyX19, [167]) := ⟨in_X19, nmX19, tyX19_ok, q1140, q160, rfl, by decide +kernel, by decide +kernel, by decide, by decide⟩
theorem clok21 : ClOk 21 ((RX20, TX20, 1), tyX20, [168]) := ⟨in_X20, nmX20, tyX20_ok, q1150, q161, rfl, by decide +kernel, by decide +kernel, by decide, by decide⟩
theorem clok22 : ClOk 22 ((RX21, TX21, 2), tyX21, [169, 170]) := ⟨in_X21, nmX21, tyX21_ok, q1171, q162, rfl, by decide +kernel, by decide +kernel, by decide, by decide⟩
theorem clok24 : ClOk 24 ((RX23, TX23, 1), tyX23, [171]) := ⟨in_X23, nmX23, tyX23_ok, q1187, q164, rfl, by decide +kernel, by decide +kernel, by decide, by decide⟩
theorem clok25 : ClOk 25 ((RX24, TX24, 1), tyX24, [171]) := ⟨in_X24, nmX24, tyX24_ok, q1200, q165, rfl, by decide +kernel, by decide +kernel, by decide, by decide⟩
theorem clok26 : ClOk 26 ((RX25, TX25, 1), tyX25, [171]) := ⟨in_X25, nmX25, tyX25_ok, q1208, q166, rfl, by decide +kernel, by decide +kernel, by decide, by decide⟩
theorem clok27 : ClOk 27 ((RX26, TX26, 1), tyX26, [171]) := ⟨in_X26, nmX26, tyX26_ok, q1216, q167, rfl, by decide +kernel, by decide +kernel, by decide, by decide⟩
theorem clok28 : ClOk 28 ((RX27, TX27, 1), tyX27, [171]) := ⟨in_X27, nmX27, tyX27_ok, q1224, q168, rfl, by decide +kernel, by decide +kernel, by decide, by decide⟩
theorem clok29 : ClOk 29 ((RX28, TX28, 1), tyX28, [171]) := ⟨in_X28, nmX28, tyX28_ok, q1232, q169, rfl, by decide +kernel, by decide +kernel, by decide, by decide⟩
theorem clok30 : ClOk 30 ((RX29, TX29, 1), tyX29, [171]) := ⟨in_X29, nmX29, tyX29_ok, q1240, q170, rfl, by decide +kernel, by decide +kernel, by decide, by decide⟩
theorem clok32 : ClOk 32 ((RX31, TX31, 2), tyX31, [172, 173]) := ⟨in_X31, nmX31, tyX31_ok, q1274, q172, rfl, by decide +kernel, by decide +kernel, by decide, by decide⟩
theorem clok33 : ClOk 33 ((RX32, TX32, 1), tyX32, [174]) := ⟨in_X32, nmX32, tyX32_ok, q1290, q173, rfl, by decide +kernel, by decide +kernel, by decide, by decide⟩
theorem clok34 : ClOk 34 ((RX33, dT0, 0), (fun _ => .int), []) := ⟨fun w h => absurd h (by simp [u_ws]), fun a h => absurd h (Nat.not_lt_zero _), fun a h => absurd h (Nat.not_lt_zero _), q1300, q174, rfl, by decide, fun a h => absurd h (Nat.not_lt_zero _), by decide, by decide⟩
theorem clok35 : ClOk 35 ((RX34, TX34, 4), tyX34, [175, 176, 177, 178]) := ⟨in_X34, nmX34, tyX34_ok, q1791, q177, rfl, by decide +kernel, by decide +kernel, by decide, by decide⟩
theorem clok42 : ClOk 42 ((RJ2, TJ2, 3), tyJ2, [179, 180, 181]) := ⟨in_J2, nmJ2, tyJ2_ok, q315, q130, rfl, by decide +kernel, by decide +kernel, by decide, by decide⟩
theorem clok55 : ClOk 55 ((RJ15, TJ15, 1), tyJ15, [182]) := ⟨in_J15, nmJ15, tyJ15_ok, q1065, q156, rfl, by decide +kernel, by decide +kernel, by decide, by decide⟩
theorem clok57 : ClOk 57 ((RJ17, TJ17, 6), tyJ17, [147, 148, 149, 150, 151, 152]) := ⟨in_J17, nmJ17, tyJ17_ok, q1833, q176, rfl, by decide +kernel, by decide +kernel, by decide, by decide⟩
theorem lk_mem {α : Type} {l : List (Nat × α)} {k : Nat} {v : α} (h : lk l k = some v) : (k, v) ∈ l := by
  unfold lk at h
  rw [Option.map_eq_some_iff] at h
  obtain ⟨e, h1, h2⟩ := h
  have h3 := List.find?_some h1
  have h4 := List.mem_of_find?_eq_some h1
  have h5 := Nat.eq_of_beq_eq_true h3
  subst h2
  subst h5
  exact h4
theorem cl_ok {t : Nat} {q : vw_C × (Nat → FieldType) × List Nat} (h : clf t = some q) : ClOk t q := by
  have h := lk_mem h
  simp only [clL, List.mem_cons, List.not_mem_nil, or_false, Prod.mk.injEq] at h
  rcases h with ⟨rfl, rfl⟩ | ⟨rfl, rfl⟩ | ⟨rfl, rfl⟩ | ⟨rfl, rfl⟩ | ⟨rfl, rfl⟩ | ⟨rfl, rfl⟩ | ⟨rfl, rfl⟩ | ⟨rfl, rfl⟩ | ⟨rfl, rfl⟩ | ⟨rfl, rfl⟩ | ⟨rfl, rfl⟩ | ⟨rfl, rfl⟩ | ⟨rfl, rfl⟩ | ⟨rfl, rfl⟩ | ⟨rfl, rfl⟩ | ⟨rfl, rfl⟩ | ⟨rfl, rfl⟩ | ⟨rfl, rfl⟩ | ⟨rfl, rfl⟩ | ⟨rfl, rfl⟩ | ⟨rfl, rfl⟩ | ⟨rfl, rfl⟩ | ⟨rfl, rfl⟩ | ⟨rfl, rfl⟩ | ⟨rfl, rfl⟩ | ⟨rfl, rfl⟩ | ⟨rfl, rfl⟩ | ⟨rfl, rfl⟩ | ⟨rfl, rfl⟩ | ⟨rfl, rfl⟩ | ⟨rfl, rfl⟩ | ⟨rfl, rfl⟩ | ⟨rfl, rfl⟩ | ⟨rfl, rfl⟩
  · exact clok2
  · exact clok3
  · exact clok4
  · exact clok5
  · exact clok6
  · exact clok7
  · exact clok8
  · exact clok9
  · exact clok10
  · exact clok11
  · exact clok12
  · exact clok13
  · exact clok14
  · exact clok15
  · exact clok16
  · exact clok17
  · exact clok19
  · exact clok20
  · exact clok21
  · exact clok22
  · exact clok24
  · exact clok25
  · exact clok26
  · exact clok27
  · exact clok28
  · exact clok29
  · exact clok30
  · exact clok32
  · exact clok33
  · exact clok34
  · exact clok35
  · exact clok42
  · exact clok55
  · exact clok57
