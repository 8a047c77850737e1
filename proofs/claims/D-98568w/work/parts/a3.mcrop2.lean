/-! THE MODEL: numbers told, crops -/
set_option maxRecDepth 100000
noncomputable def inN (v : Int32) (n : Nat) : Bool := decide (0 ≤ v ∧ v < ix n)
section
variable {d D m a b c p q s w n k i j S hang loose day : Nat} {h h' : AH} {Q : Rs → AH → Prop} {O : Oc} {B : Bo} {A F : List Nat} {l : List Nat} {v w1 : Int32}
theorem inN_ex (hn : n < 2147483648) (hv : inN v n = true) : ∃ k, k < n ∧ v = ix k := by
  unfold inN at hv
  obtain ⟨h1, h2⟩ := of_decide_eq_true hv
  have h1 : (0 : Int) ≤ v.toInt := Int32.le_iff_toInt_le.mp h1
  have h2 : v.toInt < (ix n).toInt := Int32.lt_iff_toInt_lt.mp h2
  rw [toInt_ix hn] at h2
  refine ⟨v.toInt.toNat, by omega, ?_⟩
  apply Int32.toInt_inj.mp
  rw [toInt_ix (by omega)]
  omega
theorem inN_ix (hn : n < 2147483648) (hk : k < 2147483648) : inN (ix k) n = decide (k < n) := by
  unfold inN
  have h1 : (0 : Int32) ≤ ix k := Int32.not_lt.mp (ix_nn hk)
  have h2 : (ix k < ix n) = (k < n) := ix_lt hk hn
  simp [h1, h2]
/-- by the other's words: within 0 .. n - 1 -/
theorem inN_w (hn : n < 2147483648) : decide (0 ≤ v ∧ v ≤ ix n - 1) = inN v n := by
  unfold inN
  apply decide_eq_decide.mpr
  have e : (ix n - 1).toInt = (n : Int) - 1 := by
    by_cases q : n = 0
    · subst q; decide
    · rw [show ix n - 1 = ix (n - 1) from ix_subl (n := 1) (by omega), toInt_ix (by omega)]
      omega
  rw [Int32.le_iff_toInt_le (x := v), Int32.lt_iff_toInt_lt, e, toInt_ix hn]
  constructor
  · rintro ⟨a1, a2⟩; exact ⟨a1, by omega⟩
  · rintro ⟨a1, a2⟩; exact ⟨a1, by omega⟩
theorem cm_isApple (x : M0 h m O) : Ca (D + 1) 184 [.ref m, .int v] h Q = Q (.inl (some (.int (bz (inN v O.nA))))) h := by
  have hm := x.mo
  have g0 := x.mr.nA
  rw [Nat.mul_zero] at g0
  rw [e_X9_isApple]
  by_cases q1 : v < 0
  · have e : inN v O.nA = false := by unfold inN; simp [Int32.not_le.mpr q1]
    rw [e]
    simp (disch := first | assumption | omega | decide | rfl) only [w_X9_isApple_0, w_X9_isApple_1, w_X9_isApple_4, w_X9_isApple_5, w_X9_isApple_6, w_X9_isApple_9, w_X9_isApple_10, w_X9_isApple_11, w_X9_isApple_14, w_X9_isApple_15, w_X9_isApple_18, w_X9_isApple_19, mo_0 hm, mo_orchard hm, mt_orchard hm, ml_orchard hm, nl_int, nl_ref, nl_null, nl_un, nl_rf, nl_long, isR_ref, isR_null, isR_rf, rf_some, rf_none, rOf_ref, rOf_null, rOf_rf, kn_v, kn_0, true_and, and_true, and_self, tin, inA_x, inA_l, ix_add, ix_addl, ix_ladd, ix_mul, ix_mull, ix_lmul, ix_tn, lt_tn, Nat.reduceLeDiff, Nat.reduceLT, Nat.reduceAdd, Nat.reduceMul, true_or, or_true, ↓reduceIte, aOk, ref_null, null_null, false_or, Option.isSome_some, Option.getD_some, ite_true, ite_false, eq_self, not_false_eq_true, not_true_eq_false, q1]
    rfl
  · by_cases q2 : v < ix O.nA
    · have e : inN v O.nA = true := by unfold inN; simp [Int32.not_lt.mp q1, q2]
      rw [e]
      simp (disch := first | assumption | omega | decide | rfl) only [w_X9_isApple_0, w_X9_isApple_1, w_X9_isApple_4, w_X9_isApple_5, w_X9_isApple_6, w_X9_isApple_9, w_X9_isApple_10, w_X9_isApple_11, w_X9_isApple_14, w_X9_isApple_15, w_X9_isApple_18, w_X9_isApple_19, mo_0 hm, mo_orchard hm, mt_orchard hm, ml_orchard hm, nl_int, nl_ref, nl_null, nl_un, nl_rf, nl_long, isR_ref, isR_null, isR_rf, rf_some, rf_none, rOf_ref, rOf_null, rOf_rf, kn_v, kn_0, true_and, and_true, and_self, tin, inA_x, inA_l, ix_add, ix_addl, ix_ladd, ix_mul, ix_mull, ix_lmul, ix_tn, lt_tn, Nat.reduceLeDiff, Nat.reduceLT, Nat.reduceAdd, Nat.reduceMul, true_or, or_true, ↓reduceIte, aOk, ref_null, null_null, false_or, Option.isSome_some, Option.getD_some, ite_true, ite_false, eq_self, not_false_eq_true, not_true_eq_false, q1, q2, g0]
      rfl
    · have e : inN v O.nA = false := by unfold inN; simp [q2]
      rw [e]
      simp (disch := first | assumption | omega | decide | rfl) only [w_X9_isApple_0, w_X9_isApple_1, w_X9_isApple_4, w_X9_isApple_5, w_X9_isApple_6, w_X9_isApple_9, w_X9_isApple_10, w_X9_isApple_11, w_X9_isApple_14, w_X9_isApple_15, w_X9_isApple_18, w_X9_isApple_19, mo_0 hm, mo_orchard hm, mt_orchard hm, ml_orchard hm, nl_int, nl_ref, nl_null, nl_un, nl_rf, nl_long, isR_ref, isR_null, isR_rf, rf_some, rf_none, rOf_ref, rOf_null, rOf_rf, kn_v, kn_0, true_and, and_true, and_self, tin, inA_x, inA_l, ix_add, ix_addl, ix_ladd, ix_mul, ix_mull, ix_lmul, ix_tn, lt_tn, Nat.reduceLeDiff, Nat.reduceLT, Nat.reduceAdd, Nat.reduceMul, true_or, or_true, ↓reduceIte, aOk, ref_null, null_null, false_or, Option.isSome_some, Option.getD_some, ite_true, ite_false, eq_self, not_false_eq_true, not_true_eq_false, q1, q2, g0]
      rfl
theorem cm_isSound (x : M0 h m O) : Ca (D + 1) 188 [.ref m, .int v] h Q = Q (.inl (some (.int (bz (inN v O.nS))))) h := by
  have hm := x.mo
  have g0 := x.mr.nS
  rw [show 6 * 0 + 1 = 1 from rfl] at g0
  rw [e_X9_isSound]
  by_cases q1 : v < 0
  · have e : inN v O.nS = false := by unfold inN; simp [Int32.not_le.mpr q1]
    rw [e]
    simp (disch := first | assumption | omega | decide | rfl) only [w_X9_isSound_0, w_X9_isSound_1, w_X9_isSound_4, w_X9_isSound_5, w_X9_isSound_6, w_X9_isSound_9, w_X9_isSound_10, w_X9_isSound_11, w_X9_isSound_14, w_X9_isSound_15, w_X9_isSound_18, w_X9_isSound_19, mo_0 hm, mo_orchard hm, mt_orchard hm, ml_orchard hm, nl_int, nl_ref, nl_null, nl_un, nl_rf, nl_long, isR_ref, isR_null, isR_rf, rf_some, rf_none, rOf_ref, rOf_null, rOf_rf, kn_v, kn_0, true_and, and_true, and_self, tin, inA_x, inA_l, ix_add, ix_addl, ix_ladd, ix_mul, ix_mull, ix_lmul, ix_tn, lt_tn, Nat.reduceLeDiff, Nat.reduceLT, Nat.reduceAdd, Nat.reduceMul, true_or, or_true, ↓reduceIte, aOk, ref_null, null_null, false_or, Option.isSome_some, Option.getD_some, ite_true, ite_false, eq_self, not_false_eq_true, not_true_eq_false, q1]
    rfl
  · by_cases q2 : v < ix O.nS
    · have e : inN v O.nS = true := by unfold inN; simp [Int32.not_lt.mp q1, q2]
      rw [e]
      simp (disch := first | assumption | omega | decide | rfl) only [w_X9_isSound_0, w_X9_isSound_1, w_X9_isSound_4, w_X9_isSound_5, w_X9_isSound_6, w_X9_isSound_9, w_X9_isSound_10, w_X9_isSound_11, w_X9_isSound_14, w_X9_isSound_15, w_X9_isSound_18, w_X9_isSound_19, mo_0 hm, mo_orchard hm, mt_orchard hm, ml_orchard hm, nl_int, nl_ref, nl_null, nl_un, nl_rf, nl_long, isR_ref, isR_null, isR_rf, rf_some, rf_none, rOf_ref, rOf_null, rOf_rf, kn_v, kn_0, true_and, and_true, and_self, tin, inA_x, inA_l, ix_add, ix_addl, ix_ladd, ix_mul, ix_mull, ix_lmul, ix_tn, lt_tn, Nat.reduceLeDiff, Nat.reduceLT, Nat.reduceAdd, Nat.reduceMul, true_or, or_true, ↓reduceIte, aOk, ref_null, null_null, false_or, Option.isSome_some, Option.getD_some, ite_true, ite_false, eq_self, not_false_eq_true, not_true_eq_false, q1, q2, g0]
      rfl
    · have e : inN v O.nS = false := by unfold inN; simp [q2]
      rw [e]
      simp (disch := first | assumption | omega | decide | rfl) only [w_X9_isSound_0, w_X9_isSound_1, w_X9_isSound_4, w_X9_isSound_5, w_X9_isSound_6, w_X9_isSound_9, w_X9_isSound_10, w_X9_isSound_11, w_X9_isSound_14, w_X9_isSound_15, w_X9_isSound_18, w_X9_isSound_19, mo_0 hm, mo_orchard hm, mt_orchard hm, ml_orchard hm, nl_int, nl_ref, nl_null, nl_un, nl_rf, nl_long, isR_ref, isR_null, isR_rf, rf_some, rf_none, rOf_ref, rOf_null, rOf_rf, kn_v, kn_0, true_and, and_true, and_self, tin, inA_x, inA_l, ix_add, ix_addl, ix_ladd, ix_mul, ix_mull, ix_lmul, ix_tn, lt_tn, Nat.reduceLeDiff, Nat.reduceLT, Nat.reduceAdd, Nat.reduceMul, true_or, or_true, ↓reduceIte, aOk, ref_null, null_null, false_or, Option.isSome_some, Option.getD_some, ite_true, ite_false, eq_self, not_false_eq_true, not_true_eq_false, q1, q2, g0]
      rfl
theorem cm_isPerson (x : M0 h m O) : Ca (D + 1) 190 [.ref m, .int v] h Q = Q (.inl (some (.int (bz (inN v O.nP))))) h := by
  have hm := x.mo
  have g0 := x.mr.nP
  rw [show 6 * 0 + 2 = 2 from rfl] at g0
  rw [e_X9_isPerson]
  by_cases q1 : v < 0
  · have e : inN v O.nP = false := by unfold inN; simp [Int32.not_le.mpr q1]
    rw [e]
    simp (disch := first | assumption | omega | decide | rfl) only [w_X9_isPerson_0, w_X9_isPerson_1, w_X9_isPerson_4, w_X9_isPerson_5, w_X9_isPerson_6, w_X9_isPerson_9, w_X9_isPerson_10, w_X9_isPerson_11, w_X9_isPerson_14, w_X9_isPerson_15, w_X9_isPerson_18, w_X9_isPerson_19, mo_0 hm, mo_orchard hm, mt_orchard hm, ml_orchard hm, nl_int, nl_ref, nl_null, nl_un, nl_rf, nl_long, isR_ref, isR_null, isR_rf, rf_some, rf_none, rOf_ref, rOf_null, rOf_rf, kn_v, kn_0, true_and, and_true, and_self, tin, inA_x, inA_l, ix_add, ix_addl, ix_ladd, ix_mul, ix_mull, ix_lmul, ix_tn, lt_tn, Nat.reduceLeDiff, Nat.reduceLT, Nat.reduceAdd, Nat.reduceMul, true_or, or_true, ↓reduceIte, aOk, ref_null, null_null, false_or, Option.isSome_some, Option.getD_some, ite_true, ite_false, eq_self, not_false_eq_true, not_true_eq_false, q1]
    rfl
  · by_cases q2 : v < ix O.nP
    · have e : inN v O.nP = true := by unfold inN; simp [Int32.not_lt.mp q1, q2]
      rw [e]
      simp (disch := first | assumption | omega | decide | rfl) only [w_X9_isPerson_0, w_X9_isPerson_1, w_X9_isPerson_4, w_X9_isPerson_5, w_X9_isPerson_6, w_X9_isPerson_9, w_X9_isPerson_10, w_X9_isPerson_11, w_X9_isPerson_14, w_X9_isPerson_15, w_X9_isPerson_18, w_X9_isPerson_19, mo_0 hm, mo_orchard hm, mt_orchard hm, ml_orchard hm, nl_int, nl_ref, nl_null, nl_un, nl_rf, nl_long, isR_ref, isR_null, isR_rf, rf_some, rf_none, rOf_ref, rOf_null, rOf_rf, kn_v, kn_0, true_and, and_true, and_self, tin, inA_x, inA_l, ix_add, ix_addl, ix_ladd, ix_mul, ix_mull, ix_lmul, ix_tn, lt_tn, Nat.reduceLeDiff, Nat.reduceLT, Nat.reduceAdd, Nat.reduceMul, true_or, or_true, ↓reduceIte, aOk, ref_null, null_null, false_or, Option.isSome_some, Option.getD_some, ite_true, ite_false, eq_self, not_false_eq_true, not_true_eq_false, q1, q2, g0]
      rfl
    · have e : inN v O.nP = false := by unfold inN; simp [q2]
      rw [e]
      simp (disch := first | assumption | omega | decide | rfl) only [w_X9_isPerson_0, w_X9_isPerson_1, w_X9_isPerson_4, w_X9_isPerson_5, w_X9_isPerson_6, w_X9_isPerson_9, w_X9_isPerson_10, w_X9_isPerson_11, w_X9_isPerson_14, w_X9_isPerson_15, w_X9_isPerson_18, w_X9_isPerson_19, mo_0 hm, mo_orchard hm, mt_orchard hm, ml_orchard hm, nl_int, nl_ref, nl_null, nl_un, nl_rf, nl_long, isR_ref, isR_null, isR_rf, rf_some, rf_none, rOf_ref, rOf_null, rOf_rf, kn_v, kn_0, true_and, and_true, and_self, tin, inA_x, inA_l, ix_add, ix_addl, ix_ladd, ix_mul, ix_mull, ix_lmul, ix_tn, lt_tn, Nat.reduceLeDiff, Nat.reduceLT, Nat.reduceAdd, Nat.reduceMul, true_or, or_true, ↓reduceIte, aOk, ref_null, null_null, false_or, Option.isSome_some, Option.getD_some, ite_true, ite_false, eq_self, not_false_eq_true, not_true_eq_false, q1, q2, g0]
      rfl
theorem clN_lt : ∀ n i, i < (clN O n).length → (clN O n).getD i 0 < n := fun n i hi => by
  have h1 : (clN O n).getD i 0 ∈ clN O n := by
    rw [List.getD_eq_getElem?_getD, List.getElem?_eq_getElem hi]
    exact List.getElem_mem hi
  unfold clN at h1
  exact List.mem_range.mp (List.mem_filter.mp h1).1
noncomputable def cropF (O : Oc) (B : Bo) (v w : Int32) : Int32 := if (0 ≤ v ∧ v ≤ 3) ∧ (0 ≤ w ∧ w ≤ 1) then (if w = 0 then (crF O B (clN O (16 * O.nP)) v.toNatClampNeg 0 B.hang B.loose).1 else (crF O B (clN O (16 * O.nP)) v.toNatClampNeg 0 B.hang B.loose).2) else -2
abbrev kA : List Nat := 35 :: 58 :: 59 :: 60 :: 61 :: eA
abbrev kG : List Nat := [130, 131, 132, 137, 139]
abbrev kF : List Nat := [60, 130, 131, 132, 137, 139]
theorem crop_b (x : M0 h m O) (y : MB h (m + 53) 0 O.nA B) (z : WB O B) (hk : k ≤ 3) : Ru (D + 9) 215 26 [.ref m, .int (ix k), .int w1, un] [] h (fun r h' => r = .inl (some (.int (if w1 = 0 then (crF O B (clN O (16 * O.nP)) k 0 B.hang B.loose).1 else (crF O B (clN O (16 * O.nP)) k 0 B.hang B.loose).2))) ∧ Md m kA kG h h') := by
  have n1 := x.wo.nA
  have n3 := x.wo.nP
  generalize hQ : (fun r h' => r = .inl (some (.int (if w1 = 0 then (crF O B (clN O (16 * O.nP)) k 0 B.hang B.loose).1 else (crF O B (clN O (16 * O.nP)) k 0 B.hang B.loose).2))) ∧ Md m kA kG h h' : Rs → AH → Prop) = Q
  simp (disch := first | assumption | omega | decide | rfl) only [w_X9_crop_26, w_X9_crop_27, mo_0 x.mo, nl_int, nl_ref, nl_null, nl_un, nl_rf, nl_long, isR_ref, isR_null, isR_rf, rf_some, rf_none, rOf_ref, rOf_null, rOf_rf, kn_v, kn_0, true_and, and_true, and_self, tin, inA_x, inA_l, ix_add, ix_addl, ix_ladd, ix_mul, ix_mull, ix_lmul, ix_tn, lt_tn, Nat.reduceLeDiff, Nat.reduceLT, Nat.reduceAdd, Nat.reduceMul, true_or, or_true, ↓reduceIte, aOk, ref_null, null_null, false_or, Option.isSome_some, Option.getD_some, ite_true, ite_false, eq_self, not_false_eq_true, not_true_eq_false]
  refine ca_mono (cm_laysCalls x y z) ?_
  rintro r h1 ⟨rfl, u1, lc⟩
  rw [kn_0]
  have w1' : Md m kA kG h h1 := u1.mono (by decide) (by decide)
  have key : ∀ n j h2, j + n = 30 → Md m kA kG h h2 → LC h2 m O B (clN O (16 * O.nP)) → (∀ t, t < j → t % 10 < O.nA → Ai h2 (m + 61) t = vaF O (t % 10) (B.day + ix (t / 10))) → Ru (D + 9) 215 32 [.ref m, .int (ix k), .int w1, .int (ix j)] [] h2 Q := by
    intro n
    induction n with
    | zero =>
      intro j h2 hj u2 lc2 hv
      have ej : j = 30 := by omega
      subst ej
      have x2 : M0 h2 m O := x.md u2
      have hm2 := x2.mo
      have y2 := y.md u2 (by decide)
      have g1 := y2.hang
      have g2 := y2.loose
      rw [Nat.zero_add] at g2
      have e : (ix 30 < 30) = False := eq_false (by decide)
      simp (disch := first | assumption | omega | decide | rfl) only [w_X9_crop_32, w_X9_crop_33, w_X9_crop_35, w_X9_crop_84, w_X9_crop_85, w_X9_crop_86, mo_0 hm2, mo_valueIn hm2, mt_valueIn hm2, ml_valueIn hm2, mo_s hm2, mt_s hm2, ml_s hm2, nl_int, nl_ref, nl_null, nl_un, nl_rf, nl_long, isR_ref, isR_null, isR_rf, rf_some, rf_none, rOf_ref, rOf_null, rOf_rf, kn_v, kn_0, true_and, and_true, and_self, tin, inA_x, inA_l, ix_add, ix_addl, ix_ladd, ix_mul, ix_mull, ix_lmul, ix_tn, lt_tn, Nat.reduceLeDiff, Nat.reduceLT, Nat.reduceAdd, Nat.reduceMul, true_or, or_true, ↓reduceIte, aOk, ref_null, null_null, false_or, Option.isSome_some, Option.getD_some, ite_true, ite_false, eq_self, not_false_eq_true, not_true_eq_false, e]
      have u3 : Md m kA kG h (sFi h2 139 m (-1)) := u2.trans (md_sFi (A := kA) (F := kG) (by decide)) (fun _ q => q) (fun _ q => q)
      have f3 : Fi (sFi h2 139 m (-1)) 139 m = -1 := Fi_same
      have a3 : Ai (sFi h2 139 m (-1)) = Ai h2 := rfl
      have l3 : LC (sFi h2 139 m (-1)) m O B (clN O (16 * O.nP)) := lc2.md (md_sFi (A := []) (F := [139]) (by decide)) (by decide) (by decide) (by decide) (by decide)
      revert u3 f3 a3 l3
      generalize sFi h2 139 m (-1) = h3
      intro u3 f3 a3 l3
      have x3 : M0 h3 m O := x.md u3
      have hm3 := x3.mo
      rw [← a3] at g1 g2 hv
      have v3 : VI h3 m O B := fun d hd a ha => by
        have := hv (10 * d + a) (by omega) (by rw [show (10 * d + a) % 10 = a by omega]; exact ha)
        rw [show (10 * d + a) % 10 = a by omega, show (10 * d + a) / 10 = d by omega] at this
        exact this
      rw [w_X9_crop_89]
      simp (disch := first | assumption | omega | decide | rfl) only [w_X9_crop_90, w_X9_crop_91, w_X9_crop_94, w_X9_crop_95, w_X9_crop_96, w_X9_crop_97, w_X9_crop_100, w_X9_crop_101, w_X9_crop_102, w_X9_crop_103, w_X9_crop_104, w_X9_crop_105, mo_0 hm3, mo_valueIn hm3, mt_valueIn hm3, ml_valueIn hm3, mo_s hm3, mt_s hm3, ml_s hm3, nl_int, nl_ref, nl_null, nl_un, nl_rf, nl_long, isR_ref, isR_null, isR_rf, rf_some, rf_none, rOf_ref, rOf_null, rOf_rf, kn_v, kn_0, true_and, and_true, and_self, tin, inA_x, inA_l, ix_add, ix_addl, ix_ladd, ix_mul, ix_mull, ix_lmul, ix_tn, lt_tn, Nat.reduceLeDiff, Nat.reduceLT, Nat.reduceAdd, Nat.reduceMul, true_or, or_true, ↓reduceIte, aOk, ref_null, null_null, false_or, Option.isSome_some, Option.getD_some, ite_true, ite_false, eq_self, not_false_eq_true, not_true_eq_false, g1, g2]
      rw [show (Value.int 1) = Value.int (bz true) from rfl, show (Value.int 0) = Value.int (ix 0) from rfl, show D + 9 = (D + 6 - k) + 3 + k by omega]
      refine ca_mono (cm_cropOf k 0 B.hang B.loose h3 true x3 v3 l3 (Nat.le_trans (clN_len _) (by omega)) (fun i hi => Nat.lt_of_lt_of_le (clN_lt _ i hi) (by omega)) (by omega) (z.lt x.wo)) ?_
      rintro r h4 ⟨rfl, u4, f4, f40⟩
      have u5 : Md m kA kG h h4 := u3.trans u4 (by simp) (by decide)
      have f5 : Fi h4 139 m = (crF O B (clN O (16 * O.nP)) k 0 B.hang B.loose).2 := by
        by_cases q : 0 < k
        · exact f4 rfl q
        · have : k = 0 := by omega
          subst this
          rw [f40 (Or.inr rfl), f3]
          rfl
      rw [kn_v, ← hQ]
      by_cases q : w1 = 0
      · have d1 : (w1 = 0) = True := eq_true q
        simp (disch := first | assumption | omega | decide | rfl) only [w_X9_crop_108, w_X9_crop_109, w_X9_crop_110, w_X9_crop_113, w_X9_crop_114, w_X9_crop_117, w_X9_crop_118, w_X9_crop_121, nl_int, nl_ref, nl_null, nl_un, nl_rf, nl_long, isR_ref, isR_null, isR_rf, rf_some, rf_none, rOf_ref, rOf_null, rOf_rf, kn_v, kn_0, true_and, and_true, and_self, tin, inA_x, inA_l, ix_add, ix_addl, ix_ladd, ix_mul, ix_mull, ix_lmul, ix_tn, lt_tn, Nat.reduceLeDiff, Nat.reduceLT, Nat.reduceAdd, Nat.reduceMul, true_or, or_true, ↓reduceIte, aOk, ref_null, null_null, false_or, Option.isSome_some, Option.getD_some, ite_true, ite_false, eq_self, not_false_eq_true, not_true_eq_false, d1]
        exact u5
      · have d1 : (w1 = 0) = False := eq_false q
        simp (disch := first | assumption | omega | decide | rfl) only [w_X9_crop_108, w_X9_crop_109, w_X9_crop_110, w_X9_crop_113, w_X9_crop_114, w_X9_crop_117, w_X9_crop_118, w_X9_crop_121, mo_0 (u5.mo x.mo), nl_int, nl_ref, nl_null, nl_un, nl_rf, nl_long, isR_ref, isR_null, isR_rf, rf_some, rf_none, rOf_ref, rOf_null, rOf_rf, kn_v, kn_0, true_and, and_true, and_self, tin, inA_x, inA_l, ix_add, ix_addl, ix_ladd, ix_mul, ix_mull, ix_lmul, ix_tn, lt_tn, Nat.reduceLeDiff, Nat.reduceLT, Nat.reduceAdd, Nat.reduceMul, true_or, or_true, ↓reduceIte, aOk, ref_null, null_null, false_or, Option.isSome_some, Option.getD_some, ite_true, ite_false, eq_self, not_false_eq_true, not_true_eq_false, d1, f5]
        exact u5
    | succ n ih =>
      intro j h2 hj u2 lc2 hv
      have x2 : M0 h2 m O := x.md u2
      have hm2 := x2.mo
      have y2 := y.md u2 (by decide)
      have g1 := y2.day
      rw [Nat.zero_add] at g1
      have e : (ix j < 30) = True := by rw [ix_ltl (n := 30) (by omega) (by decide)]; exact eq_true (by omega)
      have r1 : ix j - ix j / 10 * 10 = ix (j % 10) := pk_rem (a := j) (d := 10) (by omega) (by decide) (by decide)
      have r2 : ix j / 10 = ix (j / 10) := pk_div (a := j) (d := 10) (by omega) (by decide) (by decide)
      have r3 : ix j - ix (j / 10 * 10) = ix (j % 10) := by rw [ix_sub (by omega)]; congr 1; omega
      have ia := inN_ix (n := O.nA) (k := j % 10) (by omega) (by omega)
      have nz : ¬ (10 : Int32) = 0 := by decide
      rw [w_X9_crop_32]
      simp (disch := first | assumption | omega | decide | rfl) only [w_X9_crop_33, w_X9_crop_35, w_X9_crop_38, w_X9_crop_39, w_X9_crop_42, w_X9_crop_43, w_X9_crop_44, w_X9_crop_45, w_X9_crop_47, mo_0 hm2, mo_valueIn hm2, mt_valueIn hm2, ml_valueIn hm2, mo_s hm2, mt_s hm2, ml_s hm2, nl_int, nl_ref, nl_null, nl_un, nl_rf, nl_long, isR_ref, isR_null, isR_rf, rf_some, rf_none, rOf_ref, rOf_null, rOf_rf, kn_v, kn_0, true_and, and_true, and_self, tin, inA_x, inA_l, ix_add, ix_addl, ix_ladd, ix_mul, ix_mull, ix_lmul, ix_tn, lt_tn, Nat.reduceLeDiff, Nat.reduceLT, Nat.reduceAdd, Nat.reduceMul, true_or, or_true, ↓reduceIte, aOk, ref_null, null_null, false_or, Option.isSome_some, Option.getD_some, ite_true, ite_false, eq_self, not_false_eq_true, not_true_eq_false, e]
      rw [r1]
      simp (disch := first | assumption | omega | decide | rfl) only [w_X9_crop_48, nl_int, nl_ref, nl_null, nl_un, nl_rf, nl_long, isR_ref, isR_null, isR_rf, rf_some, rf_none, rOf_ref, rOf_null, rOf_rf, kn_v, kn_0, true_and, and_true, and_self, tin, inA_x, inA_l, ix_add, ix_addl, ix_ladd, ix_mul, ix_mull, ix_lmul, ix_tn, lt_tn, Nat.reduceLeDiff, Nat.reduceLT, Nat.reduceAdd, Nat.reduceMul, true_or, or_true, ↓reduceIte, aOk, ref_null, null_null, false_or, Option.isSome_some, Option.getD_some, ite_true, ite_false, eq_self, not_false_eq_true, not_true_eq_false, mo_0 hm2, cm_isApple x2, ia]
      by_cases q : j % 10 < O.nA
      · have d1 : (bz (decide (j % 10 < O.nA)) = 0) = False := by rw [bz_ne]; exact eq_false (by simp [q])
        simp (disch := first | assumption | omega | decide | rfl) only [w_X9_crop_51, nl_int, nl_ref, nl_null, nl_un, nl_rf, nl_long, isR_ref, isR_null, isR_rf, rf_some, rf_none, rOf_ref, rOf_null, rOf_rf, kn_v, kn_0, true_and, and_true, and_self, tin, inA_x, inA_l, ix_add, ix_addl, ix_ladd, ix_mul, ix_mull, ix_lmul, ix_tn, lt_tn, Nat.reduceLeDiff, Nat.reduceLT, Nat.reduceAdd, Nat.reduceMul, true_or, or_true, ↓reduceIte, aOk, ref_null, null_null, false_or, Option.isSome_some, Option.getD_some, ite_true, ite_false, eq_self, not_false_eq_true, not_true_eq_false, d1]
        simp (disch := first | assumption | omega | decide | rfl) only [w_X9_crop_54, w_X9_crop_55, w_X9_crop_56, w_X9_crop_58, w_X9_crop_59, w_X9_crop_60, w_X9_crop_63, w_X9_crop_64, w_X9_crop_65, w_X9_crop_66, w_X9_crop_68, w_X9_crop_69, mo_0 hm2, mo_valueIn hm2, mt_valueIn hm2, ml_valueIn hm2, mo_s hm2, mt_s hm2, ml_s hm2, nl_int, nl_ref, nl_null, nl_un, nl_rf, nl_long, isR_ref, isR_null, isR_rf, rf_some, rf_none, rOf_ref, rOf_null, rOf_rf, kn_v, kn_0, true_and, and_true, and_self, tin, inA_x, inA_l, ix_add, ix_addl, ix_ladd, ix_mul, ix_mull, ix_lmul, ix_tn, lt_tn, Nat.reduceLeDiff, Nat.reduceLT, Nat.reduceAdd, Nat.reduceMul, true_or, or_true, ↓reduceIte, aOk, ref_null, null_null, false_or, Option.isSome_some, Option.getD_some, ite_true, ite_false, eq_self, not_false_eq_true, not_true_eq_false, g1, r2]
        rw [r3]
        simp (disch := first | assumption | omega | decide | rfl) only [w_X9_crop_70, nl_int, nl_ref, nl_null, nl_un, nl_rf, nl_long, isR_ref, isR_null, isR_rf, rf_some, rf_none, rOf_ref, rOf_null, rOf_rf, kn_v, kn_0, true_and, and_true, and_self, tin, inA_x, inA_l, ix_add, ix_addl, ix_ladd, ix_mul, ix_mull, ix_lmul, ix_tn, lt_tn, Nat.reduceLeDiff, Nat.reduceLT, Nat.reduceAdd, Nat.reduceMul, true_or, or_true, ↓reduceIte, aOk, ref_null, null_null, false_or, Option.isSome_some, Option.getD_some, ite_true, ite_false, eq_self, not_false_eq_true, not_true_eq_false, mo_0 hm2]
        refine ca_mono (cm_valueOn x2 q) ?_
        rintro r h3 ⟨rfl, u3⟩
        have u4 := u2.trans u3 (by decide) (fun _ q => absurd q (by simp))
        have hm3 := u4.mo x.mo
        have l3 := lc2.md u3 (by decide) (by decide) (by decide) (by decide)
        simp (disch := first | assumption | omega | decide | rfl) only [w_X9_crop_73, w_X9_crop_76, w_X9_crop_77, w_X9_crop_78, w_X9_crop_81, mo_0 hm3, mo_valueIn hm3, mt_valueIn hm3, ml_valueIn hm3, mo_s hm3, mt_s hm3, ml_s hm3, nl_int, nl_ref, nl_null, nl_un, nl_rf, nl_long, isR_ref, isR_null, isR_rf, rf_some, rf_none, rOf_ref, rOf_null, rOf_rf, kn_v, kn_0, true_and, and_true, and_self, tin, inA_x, inA_l, ix_add, ix_addl, ix_ladd, ix_mul, ix_mull, ix_lmul, ix_tn, lt_tn, Nat.reduceLeDiff, Nat.reduceLT, Nat.reduceAdd, Nat.reduceMul, true_or, or_true, ↓reduceIte, aOk, ref_null, null_null, false_or, Option.isSome_some, Option.getD_some, ite_true, ite_false, eq_self, not_false_eq_true, not_true_eq_false]
        refine ih (j + 1) _ (by omega) (u4.trans (md_sAi (A := kA) (F := kG) (by decide)) (fun _ q => q) (fun _ q => q)) (l3.md (md_sAi (A := [61]) (F := []) (by decide)) (by decide) (by decide) (by decide) (by decide)) (fun t ht hn => ?_)
        rw [Ai_same]
        by_cases z : t = j
        · subst z; exact upd_s
        · rw [upd_n z, u3.ai (by decide)]; exact hv t (by omega) hn
      · have d1 : (bz (decide (j % 10 < O.nA)) = 0) = True := by rw [bz_ne]; exact eq_true (by simp [q])
        simp (disch := first | assumption | omega | decide | rfl) only [w_X9_crop_51, w_X9_crop_76, w_X9_crop_77, w_X9_crop_78, w_X9_crop_81, mo_0 hm2, mo_valueIn hm2, mt_valueIn hm2, ml_valueIn hm2, mo_s hm2, mt_s hm2, ml_s hm2, nl_int, nl_ref, nl_null, nl_un, nl_rf, nl_long, isR_ref, isR_null, isR_rf, rf_some, rf_none, rOf_ref, rOf_null, rOf_rf, kn_v, kn_0, true_and, and_true, and_self, tin, inA_x, inA_l, ix_add, ix_addl, ix_ladd, ix_mul, ix_mull, ix_lmul, ix_tn, lt_tn, Nat.reduceLeDiff, Nat.reduceLT, Nat.reduceAdd, Nat.reduceMul, true_or, or_true, ↓reduceIte, aOk, ref_null, null_null, false_or, Option.isSome_some, Option.getD_some, ite_true, ite_false, eq_self, not_false_eq_true, not_true_eq_false, d1]
        refine ih (j + 1) _ (by omega) (u2.trans (md_sAi (A := kA) (F := kG) (by decide)) (fun _ q => q) (fun _ q => q)) (lc2.md (md_sAi (A := [61]) (F := []) (by decide)) (by decide) (by decide) (by decide) (by decide)) (fun t ht hn => ?_)
        rw [Ai_same]
        by_cases z : t = j
        · subst z; exact absurd hn q
        · rw [upd_n z]; exact hv t (by omega) hn
  simp (disch := first | assumption | omega | decide | rfl) only [w_X9_crop_30, w_X9_crop_31, nl_int, nl_ref, nl_null, nl_un, nl_rf, nl_long, isR_ref, isR_null, isR_rf, rf_some, rf_none, rOf_ref, rOf_null, rOf_rf, kn_v, kn_0, true_and, and_true, and_self, tin, inA_x, inA_l, ix_add, ix_addl, ix_ladd, ix_mul, ix_mull, ix_lmul, ix_tn, lt_tn, Nat.reduceLeDiff, Nat.reduceLT, Nat.reduceAdd, Nat.reduceMul, true_or, or_true, ↓reduceIte, aOk, ref_null, null_null, false_or, Option.isSome_some, Option.getD_some, ite_true, ite_false, eq_self, not_false_eq_true, not_true_eq_false]
  exact key 30 0 h1 (by omega) w1' lc (fun t ht => absurd ht (Nat.not_lt_zero _))
theorem v3_ex (hv : 0 ≤ v ∧ v ≤ 3) : ∃ k, k ≤ 3 ∧ v = ix k := by
  have h1 : (0 : Int) ≤ v.toInt := Int32.le_iff_toInt_le.mp hv.1
  have h2 : v.toInt ≤ 3 := Int32.le_iff_toInt_le.mp hv.2
  refine ⟨v.toInt.toNat, by omega, ?_⟩
  apply Int32.toInt_inj.mp
  rw [toInt_ix (by omega)]
  omega
theorem cm_crop (x : M0 h m O) (y : MB h (m + 53) 0 O.nA B) (z : WB O B) : Ca (D + 10) 215 [.ref m, .int v, .int w1] h (fun r h' => r = .inl (some (.int (cropF O B v w1))) ∧ Md m kA kF h h' ∧ Fi h' 60 m = 0) := by
  rw [e_X9_crop]
  simp (disch := first | assumption | omega | decide | rfl) only [w_X9_crop_0, w_X9_crop_1, w_X9_crop_2, w_X9_crop_5, w_X9_crop_6, w_X9_crop_7, w_X9_crop_8, mo_0 x.mo, nl_int, nl_ref, nl_null, nl_un, nl_rf, nl_long, isR_ref, isR_null, isR_rf, rf_some, rf_none, rOf_ref, rOf_null, rOf_rf, kn_v, kn_0, true_and, and_true, and_self, tin, inA_x, inA_l, ix_add, ix_addl, ix_ladd, ix_mul, ix_mull, ix_lmul, ix_tn, lt_tn, Nat.reduceLeDiff, Nat.reduceLT, Nat.reduceAdd, Nat.reduceMul, true_or, or_true, ↓reduceIte, aOk, ref_null, null_null, false_or, Option.isSome_some, Option.getD_some, ite_true, ite_false, eq_self, not_false_eq_true, not_true_eq_false, cm_within]
  have u1 : Md m [] kF h (sFi h 60 m 0) := md_sFi (by decide)
  have f1 : Fi (sFi h 60 m 0) 60 m = 0 := Fi_same
  revert u1 f1
  generalize sFi h 60 m 0 = h1
  intro u1 f1
  have x1 : M0 h1 m O := x.md u1
  have y1 : MB h1 (m + 53) 0 O.nA B := y.md u1 (by decide)
  have v1 : Md m kA kF h h1 := u1.mono (by simp) (fun _ q => q)
  by_cases q : 0 ≤ v ∧ v ≤ 3
  · have c1 : (bz (decide (0 ≤ v ∧ v ≤ 3)) = 0) = False := by rw [bz_ne]; exact eq_false (by simp [q])
    simp (disch := first | assumption | omega | decide | rfl) only [w_X9_crop_11, w_X9_crop_14, w_X9_crop_15, w_X9_crop_16, w_X9_crop_17, nl_int, nl_ref, nl_null, nl_un, nl_rf, nl_long, isR_ref, isR_null, isR_rf, rf_some, rf_none, rOf_ref, rOf_null, rOf_rf, kn_v, kn_0, true_and, and_true, and_self, tin, inA_x, inA_l, ix_add, ix_addl, ix_ladd, ix_mul, ix_mull, ix_lmul, ix_tn, lt_tn, Nat.reduceLeDiff, Nat.reduceLT, Nat.reduceAdd, Nat.reduceMul, true_or, or_true, ↓reduceIte, aOk, ref_null, null_null, false_or, Option.isSome_some, Option.getD_some, ite_true, ite_false, eq_self, not_false_eq_true, not_true_eq_false, c1, cm_within]
    by_cases q2 : 0 ≤ w1 ∧ w1 ≤ 1
    · have c2 : (bz (decide (0 ≤ w1 ∧ w1 ≤ 1)) = 0) = False := by rw [bz_ne]; exact eq_false (by simp [q2])
      simp (disch := first | assumption | omega | decide | rfl) only [w_X9_crop_20, nl_int, nl_ref, nl_null, nl_un, nl_rf, nl_long, isR_ref, isR_null, isR_rf, rf_some, rf_none, rOf_ref, rOf_null, rOf_rf, kn_v, kn_0, true_and, and_true, and_self, tin, inA_x, inA_l, ix_add, ix_addl, ix_ladd, ix_mul, ix_mull, ix_lmul, ix_tn, lt_tn, Nat.reduceLeDiff, Nat.reduceLT, Nat.reduceAdd, Nat.reduceMul, true_or, or_true, ↓reduceIte, aOk, ref_null, null_null, false_or, Option.isSome_some, Option.getD_some, ite_true, ite_false, eq_self, not_false_eq_true, not_true_eq_false, c2]
      have ev : cropF O B v w1 = (if w1 = 0 then (crF O B (clN O (16 * O.nP)) v.toNatClampNeg 0 B.hang B.loose).1 else (crF O B (clN O (16 * O.nP)) v.toNatClampNeg 0 B.hang B.loose).2) := by unfold cropF; rw [if_pos ⟨q, q2⟩]
      obtain ⟨k, hk, rfl⟩ := v3_ex q
      rw [ix_tn (by omega)] at ev
      rw [ev]
      refine ru_mono (crop_b x1 y1 z hk) ?_
      rintro r h2 ⟨rfl, u2⟩
      exact ⟨rfl, v1.trans u2 (fun _ q => q) (by decide), by rw [u2.fi (by decide)]; exact f1⟩
    · have c2 : (bz (decide (0 ≤ w1 ∧ w1 ≤ 1)) = 0) = True := by rw [bz_ne]; exact eq_true (by simp [q2])
      simp (disch := first | assumption | omega | decide | rfl) only [w_X9_crop_20, w_X9_crop_23, w_X9_crop_25, nl_int, nl_ref, nl_null, nl_un, nl_rf, nl_long, isR_ref, isR_null, isR_rf, rf_some, rf_none, rOf_ref, rOf_null, rOf_rf, kn_v, kn_0, true_and, and_true, and_self, tin, inA_x, inA_l, ix_add, ix_addl, ix_ladd, ix_mul, ix_mull, ix_lmul, ix_tn, lt_tn, Nat.reduceLeDiff, Nat.reduceLT, Nat.reduceAdd, Nat.reduceMul, true_or, or_true, ↓reduceIte, aOk, ref_null, null_null, false_or, Option.isSome_some, Option.getD_some, ite_true, ite_false, eq_self, not_false_eq_true, not_true_eq_false, c2]
      refine ⟨?_, v1, f1⟩
      unfold cropF
      rw [if_neg (fun z => q2 z.2)]
  · have c1 : (bz (decide (0 ≤ v ∧ v ≤ 3)) = 0) = True := by rw [bz_ne]; exact eq_true (by simp [q])
    simp (disch := first | assumption | omega | decide | rfl) only [w_X9_crop_11, w_X9_crop_23, w_X9_crop_25, nl_int, nl_ref, nl_null, nl_un, nl_rf, nl_long, isR_ref, isR_null, isR_rf, rf_some, rf_none, rOf_ref, rOf_null, rOf_rf, kn_v, kn_0, true_and, and_true, and_self, tin, inA_x, inA_l, ix_add, ix_addl, ix_ladd, ix_mul, ix_mull, ix_lmul, ix_tn, lt_tn, Nat.reduceLeDiff, Nat.reduceLT, Nat.reduceAdd, Nat.reduceMul, true_or, or_true, ↓reduceIte, aOk, ref_null, null_null, false_or, Option.isSome_some, Option.getD_some, ite_true, ite_false, eq_self, not_false_eq_true, not_true_eq_false, c1]
    refine ⟨?_, v1, f1⟩
    unfold cropF
    rw [if_neg (fun z => q z.1)]
end
