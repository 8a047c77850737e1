/-! NAMEORCHARD: calls tried, days judged -/
set_option maxRecDepth 100000
section
variable {h h' h1 h2 : AH} {x a b c p q l o lo hi n k t d D s j : Nat} {O : Oc} {S : Sg} {B : Bo} {L : Dy} {Q : Rs → AH → Prop} {u v w y : Int32}
theorem XF.f0 (f : XF h x) : Fr h 0 x = some (x + 1) := f.r (0, 0, 1) (by decide)
theorem XF.f2 (f : XF h x) : Fr h 2 x = some (x + 30) := f.r (2, 0, 30) (by decide)
theorem XF.f6 (f : XF h x) : Fr h 6 x = some (x + 37) := f.r (6, 0, 37) (by decide)
theorem XF.f7 (f : XF h x) : Fr h 7 x = some (x + 38) := f.r (7, 0, 38) (by decide)
theorem XF.f8 (f : XF h x) : Fr h 8 x = some (x + 42) := f.r (8, 0, 42) (by decide)
theorem XF.f9 (f : XF h x) : Fr h 9 x = some (x + 53) := f.r (9, 0, 53) (by decide)
theorem XF.f11 (f : XF h x) : Fr h 11 x = some (x + 65) := f.r (11, 0, 65) (by decide)
theorem XF.t1 (f : XF h x) : Tg h (x + 1) = 3 := f.t (1, 3) (by decide)
theorem XF.t30 (f : XF h x) : Tg h (x + 30) = 4 := f.t (30, 4) (by decide)
theorem XF.t37 (f : XF h x) : Tg h (x + 37) = 42 := f.t (37, 42) (by decide)
theorem XF.t38 (f : XF h x) : Tg h (x + 38) = 7 := f.t (38, 7) (by decide)
theorem XF.t42 (f : XF h x) : Tg h (x + 42) = 8 := f.t (42, 8) (by decide)
theorem XF.t53 (f : XF h x) : Tg h (x + 53) = 9 := f.t (53, 9) (by decide)
theorem XF.t65 (f : XF h x) : Tg h (x + 65) = 5001 := f.t (65, 5001) (by decide)
theorem XF.n65 (f : XF h x) : An h (x + 65) = 4 := f.n (65, 4) (by decide)
theorem mayC_ex (wo : WO O) (q : mayC O u v = true) : ∃ p s, p < O.nP ∧ s < O.nS ∧ u = ix p ∧ v = ix s ∧ saF O p s = true ∧ tn u = p ∧ tn v = s := by
  have n2 := wo.nS
  have n3 := wo.nP
  unfold mayC at q
  rw [Bool.and_eq_true, Bool.and_eq_true] at q
  obtain ⟨⟨q1, q2⟩, q3⟩ := q
  obtain ⟨p, hp, rfl⟩ := inN_ex (by omega) q1
  obtain ⟨s, hs, rfl⟩ := inN_ex (by omega) q2
  rw [tn_ix (by omega), tn_ix (by omega)] at q3
  exact ⟨p, s, hp, hs, rfl, rfl, q3, tn_ix (by omega), tn_ix (by omega)⟩
theorem xfalls (X : XN h x lo hi o b O S) (W : WB O S.B) : Ca (D + 270) 18 [.ref x, .int u, .int v] h (fun r h' => r = .inl (some (.int (if mayC O u v = true then ix (flF O S.B (tn v) (O.ln (tn u)) (O.ld (tn u))) else -1))) ∧ Tf x h h') := by
  rw [e_X1_falls]
  cases q : mayC O u v
  · simp (disch := first | assumption | omega | decide | rfl) only [w_X1_falls_0, w_X1_falls_1, w_X1_falls_2, w_X1_falls_3, w_X1_falls_6, w_X1_falls_28, w_X1_falls_29, nl_int, nl_ref, nl_null, nl_un, nl_rf, nl_long, isR_ref, isR_null, isR_rf, rf_some, rf_none, rOf_ref, rOf_null, rOf_rf, kn_v, kn_0, true_and, and_true, and_self, tin, inA_x, inA_l, ix_add, ix_addl, ix_ladd, ix_mul, ix_mull, ix_lmul, ix_tn, lt_tn, Nat.reduceLeDiff, Nat.reduceLT, Nat.reduceAdd, Nat.reduceMul, true_or, or_true, ↓reduceIte, aOk, ref_null, null_null, false_or, Option.isSome_some, Option.getD_some, ite_true, ite_false, eq_self, not_false_eq_true, not_true_eq_false, bz_ne, bz_1, reduceCtorEq, Bool.not_true, Bool.not_false, X.f.tx, cx_mayCall X, q]
    first | exact ⟨rfl, Tf.refl⟩ | exact Tf.refl
  · obtain ⟨p, s, hp, hs, rfl, rfl, q3, e1, e2⟩ := mayC_ex X.xo.wo q
    rw [e1, e2]
    simp (disch := first | assumption | omega | decide | rfl) only [w_X1_falls_0, w_X1_falls_1, w_X1_falls_2, w_X1_falls_3, w_X1_falls_6, w_X1_falls_9, w_X1_falls_10, w_X1_falls_13, w_X1_falls_14, w_X1_falls_17, nl_int, nl_ref, nl_null, nl_un, nl_rf, nl_long, isR_ref, isR_null, isR_rf, rf_some, rf_none, rOf_ref, rOf_null, rOf_rf, kn_v, kn_0, true_and, and_true, and_self, tin, inA_x, inA_l, ix_add, ix_addl, ix_ladd, ix_mul, ix_mull, ix_lmul, ix_tn, lt_tn, Nat.reduceLeDiff, Nat.reduceLT, Nat.reduceAdd, Nat.reduceMul, true_or, or_true, ↓reduceIte, aOk, ref_null, null_null, false_or, Option.isSome_some, Option.getD_some, ite_true, ite_false, eq_self, not_false_eq_true, not_true_eq_false, bz_ne, bz_1, reduceCtorEq, Bool.not_true, Bool.not_false, X.f.tx, cx_mayCall X, q, X.f.f2, X.fb, X.f.t30]
    refine ca_mono (X.cp (Or.inl rfl) X.tr) ?_
    rintro r h1 ⟨rfl, bx, tf, y⟩
    have X1 := X.tf tf
    simp (disch := first | assumption | omega | decide | rfl) only [w_X1_falls_20, w_X1_falls_21, w_X1_falls_22, nl_int, nl_ref, nl_null, nl_un, nl_rf, nl_long, isR_ref, isR_null, isR_rf, rf_some, rf_none, rOf_ref, rOf_null, rOf_rf, kn_v, kn_0, true_and, and_true, and_self, tin, inA_x, inA_l, ix_add, ix_addl, ix_ladd, ix_mul, ix_mull, ix_lmul, ix_tn, lt_tn, Nat.reduceLeDiff, Nat.reduceLT, Nat.reduceAdd, Nat.reduceMul, true_or, or_true, ↓reduceIte, aOk, ref_null, null_null, false_or, Option.isSome_some, Option.getD_some, ite_true, ite_false, eq_self, not_false_eq_true, not_true_eq_false, bz_ne, bz_1, reduceCtorEq, Bool.not_true, Bool.not_false, y.tg]
    refine ca_mono (cx_calledP X1.xo y W hs hp) ?_
    rintro r h2 ⟨rfl, bx2, y2⟩
    simp (disch := first | assumption | omega | decide | rfl) only [w_X1_falls_25, w_X1_falls_28, w_X1_falls_29, nl_int, nl_ref, nl_null, nl_un, nl_rf, nl_long, isR_ref, isR_null, isR_rf, rf_some, rf_none, rOf_ref, rOf_null, rOf_rf, kn_v, kn_0, true_and, and_true, and_self, tin, inA_x, inA_l, ix_add, ix_addl, ix_ladd, ix_mul, ix_mull, ix_lmul, ix_tn, lt_tn, Nat.reduceLeDiff, Nat.reduceLT, Nat.reduceAdd, Nat.reduceMul, true_or, or_true, ↓reduceIte, aOk, ref_null, null_null, false_or, Option.isSome_some, Option.getD_some, ite_true, ite_false, eq_self, not_false_eq_true, not_true_eq_false, bz_ne, bz_1, reduceCtorEq, Bool.not_true, Bool.not_false]
    first | exact ⟨rfl, tf.trans (bx2.tf (Or.inl rfl) y.tg)⟩ | exact tf.trans (bx2.tf (Or.inl rfl) y.tg)
theorem cx_isDone (X : XO lo hi h o O) (y : XB lo hi h t o O.nA B) (z : WB O B) (ln : XLn h p a b c) (w0 : a = 0 → b < O.nP ∧ c < O.nS) (w1 : a = 1 → c < O.nA) : ∃ zz, lk [(32, 292), (33, 294), (34, 296)] (Tg h p) = some zz ∧ Ca (D + 270) zz [.ref p, .ref t] h (fun r h' => r = .inl (some (.int (bz (goF O B a b c).1))) ∧ Bx t h h' ∧ XB lo hi h' t o O.nA (goF O B a b c).2.1) := by
  have n1 := X.wo.nA
  have hh := z.lt X.wo
  unfold goF
  rcases ln with ⟨rfl, tg, f1, f2⟩ | ⟨rfl, tg, f1⟩ | ⟨rfl, tg⟩
  · obtain ⟨hp, hs⟩ := w0 rfl
    refine ⟨292, by rw [tg]; rfl, ?_⟩
    rw [e_X31_isDone nl_ref, if_neg (by decide), if_neg (by decide)]
    cases q : saF O b c
    · simp (disch := first | assumption | omega | decide | rfl) only [w_X31_isDone_0, w_X31_isDone_1, w_X31_isDone_4, w_X31_isDone_5, w_X31_isDone_8, w_X31_isDone_9, w_X31_isDone_12, w_X31_isDone_15, w_X31_isDone_18, w_X31_isDone_19, nl_int, nl_ref, nl_null, nl_un, nl_rf, nl_long, isR_ref, isR_null, isR_rf, rf_some, rf_none, rOf_ref, rOf_null, rOf_rf, kn_v, kn_0, true_and, and_true, and_self, tin, inA_x, inA_l, ix_add, ix_addl, ix_ladd, ix_mul, ix_mull, ix_lmul, ix_tn, lt_tn, Nat.reduceLeDiff, Nat.reduceLT, Nat.reduceAdd, Nat.reduceMul, true_or, or_true, ↓reduceIte, aOk, ref_null, null_null, false_or, Option.isSome_some, Option.getD_some, ite_true, ite_false, eq_self, not_false_eq_true, not_true_eq_false, bz_ne, bz_1, reduceCtorEq, Bool.not_true, Bool.not_false, y.tg, y.oc, tg, f1, f2, X.tg, cx_says X hp hs, q]
      first | exact ⟨rfl, Bx.refl, y⟩ | exact ⟨Bx.refl, y⟩
    · simp (disch := first | assumption | omega | decide | rfl) only [w_X31_isDone_0, w_X31_isDone_1, w_X31_isDone_4, w_X31_isDone_5, w_X31_isDone_8, w_X31_isDone_9, w_X31_isDone_12, w_X31_isDone_15, w_X31_isDone_18, w_X31_isDone_19, w_X31_isDone_20, w_X31_isDone_21, w_X31_isDone_22, w_X31_isDone_25, w_X31_isDone_26, w_X31_isDone_29, nl_int, nl_ref, nl_null, nl_un, nl_rf, nl_long, isR_ref, isR_null, isR_rf, rf_some, rf_none, rOf_ref, rOf_null, rOf_rf, kn_v, kn_0, true_and, and_true, and_self, tin, inA_x, inA_l, ix_add, ix_addl, ix_ladd, ix_mul, ix_mull, ix_lmul, ix_tn, lt_tn, Nat.reduceLeDiff, Nat.reduceLT, Nat.reduceAdd, Nat.reduceMul, true_or, or_true, ↓reduceIte, aOk, ref_null, null_null, false_or, Option.isSome_some, Option.getD_some, ite_true, ite_false, eq_self, not_false_eq_true, not_true_eq_false, bz_ne, bz_1, reduceCtorEq, Bool.not_true, Bool.not_false, y.tg, y.oc, tg, f1, f2, X.tg, cx_says X hp hs, q]
      refine ca_mono (cx_calledP X y z hs hp) ?_
      rintro r h2 ⟨rfl, bx2, y2⟩
      simp (disch := first | assumption | omega | decide | rfl) only [w_X31_isDone_32, w_X31_isDone_33, w_X31_isDone_34, nl_int, nl_ref, nl_null, nl_un, nl_rf, nl_long, isR_ref, isR_null, isR_rf, rf_some, rf_none, rOf_ref, rOf_null, rOf_rf, kn_v, kn_0, true_and, and_true, and_self, tin, inA_x, inA_l, ix_add, ix_addl, ix_ladd, ix_mul, ix_mull, ix_lmul, ix_tn, lt_tn, Nat.reduceLeDiff, Nat.reduceLT, Nat.reduceAdd, Nat.reduceMul, true_or, or_true, ↓reduceIte, aOk, ref_null, null_null, false_or, Option.isSome_some, Option.getD_some, ite_true, ite_false, eq_self, not_false_eq_true, not_true_eq_false, bz_ne, bz_1, reduceCtorEq, Bool.not_true, Bool.not_false]
      first | exact ⟨rfl, bx2, y2⟩ | exact ⟨bx2, y2⟩
  · have ha := w1 rfl
    refine ⟨294, by rw [tg]; rfl, ?_⟩
    rw [e_X32_isDone nl_ref, if_neg (by decide), if_pos rfl]
    cases q : (B.hang.testBit c && !B.pk)
    · simp (disch := first | assumption | omega | decide | rfl) only [w_X32_isDone_0, w_X32_isDone_1, w_X32_isDone_2, w_X32_isDone_5, w_X32_isDone_8, w_X32_isDone_11, w_X32_isDone_12, nl_int, nl_ref, nl_null, nl_un, nl_rf, nl_long, isR_ref, isR_null, isR_rf, rf_some, rf_none, rOf_ref, rOf_null, rOf_rf, kn_v, kn_0, true_and, and_true, and_self, tin, inA_x, inA_l, ix_add, ix_addl, ix_ladd, ix_mul, ix_mull, ix_lmul, ix_tn, lt_tn, Nat.reduceLeDiff, Nat.reduceLT, Nat.reduceAdd, Nat.reduceMul, true_or, or_true, ↓reduceIte, aOk, ref_null, null_null, false_or, Option.isSome_some, Option.getD_some, ite_true, ite_false, eq_self, not_false_eq_true, not_true_eq_false, bz_ne, bz_1, reduceCtorEq, Bool.not_true, Bool.not_false, y.tg, tg, f1, cx_mayPick y hh (show c < 10 by omega), q]
      first | exact ⟨rfl, Bx.refl, y⟩ | exact ⟨Bx.refl, y⟩
    · simp (disch := first | assumption | omega | decide | rfl) only [w_X32_isDone_0, w_X32_isDone_1, w_X32_isDone_2, w_X32_isDone_5, w_X32_isDone_8, w_X32_isDone_11, w_X32_isDone_12, w_X32_isDone_13, w_X32_isDone_14, w_X32_isDone_15, w_X32_isDone_18, nl_int, nl_ref, nl_null, nl_un, nl_rf, nl_long, isR_ref, isR_null, isR_rf, rf_some, rf_none, rOf_ref, rOf_null, rOf_rf, kn_v, kn_0, true_and, and_true, and_self, tin, inA_x, inA_l, ix_add, ix_addl, ix_ladd, ix_mul, ix_mull, ix_lmul, ix_tn, lt_tn, Nat.reduceLeDiff, Nat.reduceLT, Nat.reduceAdd, Nat.reduceMul, true_or, or_true, ↓reduceIte, aOk, ref_null, null_null, false_or, Option.isSome_some, Option.getD_some, ite_true, ite_false, eq_self, not_false_eq_true, not_true_eq_false, bz_ne, bz_1, reduceCtorEq, Bool.not_true, Bool.not_false, y.tg, tg, f1, cx_mayPick y hh (show c < 10 by omega), q]
      refine ca_mono (cx_picks X y ha) ?_
      rintro r h2 ⟨rfl, bx2, y2⟩
      simp (disch := first | assumption | omega | decide | rfl) only [w_X32_isDone_21, w_X32_isDone_22, w_X32_isDone_23, nl_int, nl_ref, nl_null, nl_un, nl_rf, nl_long, isR_ref, isR_null, isR_rf, rf_some, rf_none, rOf_ref, rOf_null, rOf_rf, kn_v, kn_0, true_and, and_true, and_self, tin, inA_x, inA_l, ix_add, ix_addl, ix_ladd, ix_mul, ix_mull, ix_lmul, ix_tn, lt_tn, Nat.reduceLeDiff, Nat.reduceLT, Nat.reduceAdd, Nat.reduceMul, true_or, or_true, ↓reduceIte, aOk, ref_null, null_null, false_or, Option.isSome_some, Option.getD_some, ite_true, ite_false, eq_self, not_false_eq_true, not_true_eq_false, bz_ne, bz_1, reduceCtorEq, Bool.not_true, Bool.not_false]
      first | exact ⟨rfl, bx2, y2⟩ | exact ⟨bx2, y2⟩
  · refine ⟨296, by rw [tg]; rfl, ?_⟩
    rw [e_X33_isDone nl_ref, if_pos rfl]
    simp (disch := first | assumption | omega | decide | rfl) only [w_X33_isDone_0, w_X33_isDone_1, nl_int, nl_ref, nl_null, nl_un, nl_rf, nl_long, isR_ref, isR_null, isR_rf, rf_some, rf_none, rOf_ref, rOf_null, rOf_rf, kn_v, kn_0, true_and, and_true, and_self, tin, inA_x, inA_l, ix_add, ix_addl, ix_ladd, ix_mul, ix_mull, ix_lmul, ix_tn, lt_tn, Nat.reduceLeDiff, Nat.reduceLT, Nat.reduceAdd, Nat.reduceMul, true_or, or_true, ↓reduceIte, aOk, ref_null, null_null, false_or, Option.isSome_some, Option.getD_some, ite_true, ite_false, eq_self, not_false_eq_true, not_true_eq_false, bz_ne, bz_1, reduceCtorEq, Bool.not_true, Bool.not_false, y.tg]
    refine ca_mono (cx_passes y) ?_
    rintro r h2 ⟨rfl, bx2, y2⟩
    simp (disch := first | assumption | omega | decide | rfl) only [w_X33_isDone_4, w_X33_isDone_5, nl_int, nl_ref, nl_null, nl_un, nl_rf, nl_long, isR_ref, isR_null, isR_rf, rf_some, rf_none, rOf_ref, rOf_null, rOf_rf, kn_v, kn_0, true_and, and_true, and_self, tin, inA_x, inA_l, ix_add, ix_addl, ix_ladd, ix_mul, ix_mull, ix_lmul, ix_tn, lt_tn, Nat.reduceLeDiff, Nat.reduceLT, Nat.reduceAdd, Nat.reduceMul, true_or, or_true, ↓reduceIte, aOk, ref_null, null_null, false_or, Option.isSome_some, Option.getD_some, ite_true, ite_false, eq_self, not_false_eq_true, not_true_eq_false, bz_ne, bz_1, reduceCtorEq, Bool.not_true, Bool.not_false]
    first | exact ⟨rfl, bx2, y2⟩ | exact ⟨bx2, y2⟩
theorem su_0 {V : Nat → Int32} : ∀ n, su 0 V n = 0
  | 0 => rfl
  | n + 1 => by rw [su, su_0 n, Nat.zero_testBit, if_neg (by decide)]; rfl
theorem fl_sub (z : WB O B) (wo : WO O) {lane loud : Nat} : sd B.hang (sd B.hang (flF O B s lane loud)) = flF O B s lane loud := by
  refine set_ext (fun i => ?_)
  rw [sd_bit, sd_bit]
  cases q : B.hang.testBit i
  · rw [Bool.false_and]
    symm
    refine twA_out q ?_ _
    unfold f1F
    rw [Nat.testBit_and, q, Bool.false_and]
  · cases (flF O B s lane loud).testBit i <;> rfl
theorem green_x (z : WB O B) (wo : WO O) : a = 1 ∨ decide (0 < grF O (sd B.hang (goF O B a b c).2.1.hang) (goF O B a b c).2.1.day) = (goF O B a b c).2.2 := by
  have e0 : ∀ day : Int32, decide (0 < grF O (sd B.hang B.hang) day) = false := fun day => by
    have : sd B.hang B.hang = 0 := set_ext (fun i => by rw [sd_bit, Nat.zero_testBit]; cases B.hang.testBit i <;> rfl)
    rw [this]
    unfold grF
    rw [su_0]
    rfl
  unfold goF
  by_cases q2 : a = 2
  · rw [if_pos q2]; exact Or.inr (e0 _)
  · rw [if_neg q2]
    by_cases q1 : a = 1
    · exact Or.inl q1
    · rw [if_neg q1]
      cases q : saF O b c
      · rw [if_neg (by decide)]; exact Or.inr (e0 _)
      · rw [if_pos rfl]
        refine Or.inr ?_
        show decide (0 < grF O (sd B.hang (sd B.hang (flF O B c (O.ln b) (O.ld b)))) B.day) = _
        rw [fl_sub z wo]
theorem ju_nn (hj : j ≤ 40) : ((juF O L j).2.1 = -1 ∨ ¬ (juF O L j).2.1 < 0) ∧ ((juF O L j).2.2 = -1 ∨ ¬ (juF O L j).2.2 < 0) := by
  induction j with
  | zero => exact ⟨Or.inl rfl, Or.inl rfl⟩
  | succ j ih =>
    obtain ⟨i1, i2⟩ := ih (by omega)
    rw [juF]
    dsimp only
    refine ⟨?_, ?_⟩
    · split
      · exact Or.inr (ix_nn (by omega))
      · exact i1
    · split
      · exact Or.inr (ix_nn (by omega))
      · exact i2
theorem m1_lt {v : Int32} (q : v = -1 ∨ ¬ v < 0) : (v = -1) = (v < 0) := by
  rcases q with q | q
  · rw [q]; decide
  · refine propext ⟨fun e => ?_, fun e => absurd e q⟩
    rw [e] at q
    exact absurd (by decide) q
theorem xjudged (X : XN h x lo hi o b O S) (wd : WD O S.L) (le : S.L.1 ≤ 40) : Ca (D + 272) 26 [.ref x, .int v] h (fun r h' => r = .inl (some (.int (jgF O S.L v))) ∧ Tf x h h') := by
  rw [e_X1_judged]
  unfold jgF
  by_cases q : 0 ≤ v ∧ v ≤ 2
  · have c1 : decide (0 ≤ v ∧ v ≤ 2) = true := decide_eq_true q
    rw [if_pos q]
    simp (disch := first | assumption | omega | decide | rfl) only [w_X1_judged_0, w_X1_judged_1, w_X1_judged_2, w_X1_judged_3, w_X1_judged_6, w_X1_judged_12, w_X1_judged_13, w_X1_judged_16, w_X1_judged_17, w_X1_judged_20, nl_int, nl_ref, nl_null, nl_un, nl_rf, nl_long, isR_ref, isR_null, isR_rf, rf_some, rf_none, rOf_ref, rOf_null, rOf_rf, kn_v, kn_0, true_and, and_true, and_self, tin, inA_x, inA_l, ix_add, ix_addl, ix_ladd, ix_mul, ix_mull, ix_lmul, ix_tn, lt_tn, Nat.reduceLeDiff, Nat.reduceLT, Nat.reduceAdd, Nat.reduceMul, true_or, or_true, ↓reduceIte, aOk, ref_null, null_null, false_or, Option.isSome_some, Option.getD_some, ite_true, ite_false, eq_self, not_false_eq_true, not_true_eq_false, bz_ne, bz_1, reduceCtorEq, Bool.not_true, Bool.not_false, cx_within, c1, X.f.tx, X.f.f2, X.f.t30, cx_now X]
    refine ca_mono (cx_begins X.xo X.tr) ?_
    rintro r h1 ⟨rfl, bx, y⟩
    have tf := bx.tf (x := x) (Or.inl rfl) X.f.t30
    simp (disch := first | assumption | omega | decide | rfl) only [w_X1_judged_23, w_X1_judged_24, w_X1_judged_25, w_X1_judged_26, w_X1_judged_27, w_X1_judged_28, w_X1_judged_29, nl_int, nl_ref, nl_null, nl_un, nl_rf, nl_long, isR_ref, isR_null, isR_rf, rf_some, rf_none, rOf_ref, rOf_null, rOf_rf, kn_v, kn_0, true_and, and_true, and_self, tin, inA_x, inA_l, ix_add, ix_addl, ix_ladd, ix_mul, ix_mull, ix_lmul, ix_tn, lt_tn, Nat.reduceLeDiff, Nat.reduceLT, Nat.reduceAdd, Nat.reduceMul, true_or, or_true, ↓reduceIte, aOk, ref_null, null_null, false_or, Option.isSome_some, Option.getD_some, ite_true, ite_false, eq_self, not_false_eq_true, not_true_eq_false, bz_ne, bz_1, reduceCtorEq, Bool.not_true, Bool.not_false]
    refine lp (P := fun j => ∀ h2 (v5 v6 : Value), nl v5 = true → Tf x h h2 → XB lo hi h2 (x + 30) o O.nA (juF O S.L j).1 → Ru (D + 271) 26 31 [.ref x, .int v, .int (juF O S.L j).2.1, .int (juF O S.L j).2.2, .int (ix j), v5, v6] [] h2 _) (N := S.L.1) ?_ ?_ h1 un un rfl tf y
    · intro h2 v5 v6 nv5 t2 y2
      have X2 := X.tf t2
      have e : ¬ S.L.1 < S.L.1 := by omega
      have sz2 : ∀ Q, Ca (D + 271) 301 [.ref (ol h2 x 3)] h2 Q = Q (.inl (some (.int (ix S.L.1)))) h2 := fun Q => by rw [c_size X2.da.ol.wl, X2.da.sz]
      rw [w_X1_judged_31]
      by_cases q0 : v = 0
      · have d0 : (v = 0) = True := eq_true q0
        simp (disch := first | assumption | omega | decide | rfl) only [w_X1_judged_33, w_X1_judged_34, w_X1_judged_37, w_X1_judged_40, w_X1_judged_130, w_X1_judged_131, w_X1_judged_134, w_X1_judged_135, w_X1_judged_154, nl_int, nl_ref, nl_null, nl_un, nl_rf, nl_long, isR_ref, isR_null, isR_rf, rf_some, rf_none, rOf_ref, rOf_null, rOf_rf, kn_v, kn_0, true_and, and_true, and_self, tin, inA_x, inA_l, ix_add, ix_addl, ix_ladd, ix_mul, ix_mull, ix_lmul, ix_tn, lt_tn, Nat.reduceLeDiff, Nat.reduceLT, Nat.reduceAdd, Nat.reduceMul, true_or, or_true, ↓reduceIte, aOk, ref_null, null_null, false_or, Option.isSome_some, Option.getD_some, ite_true, ite_false, eq_self, not_false_eq_true, not_true_eq_false, bz_ne, bz_1, reduceCtorEq, Bool.not_true, Bool.not_false, X2.f.tx, X2.fd, X2.da.ol.wl.tg, sz2, ix_lt, e, d0]
        first | exact ⟨by rw [if_pos q0], t2⟩ | exact t2
      · have d0 : (v = 0) = False := eq_false q0
        by_cases q1 : v = 1
        · have d1 : (v = 1) = True := eq_true q1
          simp (disch := first | assumption | omega | decide | rfl) only [w_X1_judged_33, w_X1_judged_34, w_X1_judged_37, w_X1_judged_40, w_X1_judged_130, w_X1_judged_131, w_X1_judged_134, w_X1_judged_135, w_X1_judged_138, w_X1_judged_139, w_X1_judged_140, w_X1_judged_143, w_X1_judged_144, w_X1_judged_147, w_X1_judged_148, w_X1_judged_151, w_X1_judged_154, nl_int, nl_ref, nl_null, nl_un, nl_rf, nl_long, isR_ref, isR_null, isR_rf, rf_some, rf_none, rOf_ref, rOf_null, rOf_rf, kn_v, kn_0, true_and, and_true, and_self, tin, inA_x, inA_l, ix_add, ix_addl, ix_ladd, ix_mul, ix_mull, ix_lmul, ix_tn, lt_tn, Nat.reduceLeDiff, Nat.reduceLT, Nat.reduceAdd, Nat.reduceMul, true_or, or_true, ↓reduceIte, aOk, ref_null, null_null, false_or, Option.isSome_some, Option.getD_some, ite_true, ite_false, eq_self, not_false_eq_true, not_true_eq_false, bz_ne, bz_1, reduceCtorEq, Bool.not_true, Bool.not_false, X2.f.tx, X2.fd, X2.da.ol.wl.tg, sz2, ix_lt, e, d0, d1]
          first | exact ⟨by rw [if_neg q0, if_pos q1], t2⟩ | exact t2
        · have d1 : (v = 1) = False := eq_false q1
          simp (disch := first | assumption | omega | decide | rfl) only [w_X1_judged_33, w_X1_judged_34, w_X1_judged_37, w_X1_judged_40, w_X1_judged_130, w_X1_judged_131, w_X1_judged_134, w_X1_judged_135, w_X1_judged_138, w_X1_judged_139, w_X1_judged_140, w_X1_judged_143, w_X1_judged_144, w_X1_judged_147, w_X1_judged_148, w_X1_judged_151, w_X1_judged_154, nl_int, nl_ref, nl_null, nl_un, nl_rf, nl_long, isR_ref, isR_null, isR_rf, rf_some, rf_none, rOf_ref, rOf_null, rOf_rf, kn_v, kn_0, true_and, and_true, and_self, tin, inA_x, inA_l, ix_add, ix_addl, ix_ladd, ix_mul, ix_mull, ix_lmul, ix_tn, lt_tn, Nat.reduceLeDiff, Nat.reduceLT, Nat.reduceAdd, Nat.reduceMul, true_or, or_true, ↓reduceIte, aOk, ref_null, null_null, false_or, Option.isSome_some, Option.getD_some, ite_true, ite_false, eq_self, not_false_eq_true, not_true_eq_false, bz_ne, bz_1, reduceCtorEq, Bool.not_true, Bool.not_false, X2.f.tx, X2.fd, X2.da.ol.wl.tg, sz2, ix_lt, e, d0, d1, X2.f.f2, X2.f.t30, y2.had]
          first | exact ⟨by rw [if_neg q0, if_neg q1], t2⟩ | exact t2
    · intro j hj nx h2 v5 v6 nv5 t2 y2
      have X2 := X.tf t2
      have z2 : WB O (juF O S.L j).1 := wb_ju X.xo.wo j
      obtain ⟨j1, j2⟩ := ju_nn (O := O) (L := S.L) (j := j) (by omega)
      have ln := X2.da.ln j hj
      have w0 := wd.ca j hj
      have w1 := wd.pi j hj
      have w3 := wd.wt j hj
      have sz2 : ∀ Q, Ca (D + 271) 301 [.ref (ol h2 x 3)] h2 Q = Q (.inl (some (.int (ix S.L.1)))) h2 := fun Q => by rw [c_size X2.da.ol.wl, X2.da.sz]
      have hj2 : j < sz h2 (ol h2 x 3) := by rw [X2.da.sz]; exact hj
      have gt := fun Q => c_get (d := D + 268) (Q := Q) X2.da.ol.wl hj2
      have tl : Tg h2 (el h2 (ol h2 x 3) j) ∈ [32, 33, 34] := by
        have := ln.tg
        have : Tg h2 (el h2 (ol h2 x 3) j) = 32 ∨ Tg h2 (el h2 (ol h2 x 3) j) = 33 ∨ Tg h2 (el h2 (ol h2 x 3) j) = 34 := by omega
        rcases this with e | e | e <;> rw [e] <;> decide
      rw [juF] at nx
      revert nx y2 z2 j1 j2
      generalize juF O S.L j = st
      intro nx y2 z2 j1 j2
      obtain ⟨zz, z1, zc⟩ := cx_isDone (D := D + 1) X2.xo y2 z2 ln w0 w1
      have pk : Tg h2 (el h2 (ol h2 x 3) j) = 33 ↔ S.L.2 0 j = 1 := by
        rcases ln with ⟨e, tg, _⟩ | ⟨e, tg, _⟩ | ⟨e, tg⟩ <;> omega
      generalize el h2 (ol h2 x 3) j = p at ln gt tl z1 zc pk
      rw [w_X1_judged_31]
      simp (disch := first | assumption | omega | decide | rfl) only [w_X1_judged_33, w_X1_judged_34, w_X1_judged_37, w_X1_judged_40, w_X1_judged_43, w_X1_judged_44, w_X1_judged_47, w_X1_judged_50, w_X1_judged_52, w_X1_judged_53, w_X1_judged_56, w_X1_judged_58, w_X1_judged_61, w_X1_judged_64, w_X1_judged_66, w_X1_judged_68, w_X1_judged_69, w_X1_judged_72, nl_int, nl_ref, nl_null, nl_un, nl_rf, nl_long, isR_ref, isR_null, isR_rf, rf_some, rf_none, rOf_ref, rOf_null, rOf_rf, kn_v, kn_0, true_and, and_true, and_self, tin, inA_x, inA_l, ix_add, ix_addl, ix_ladd, ix_mul, ix_mull, ix_lmul, ix_tn, lt_tn, Nat.reduceLeDiff, Nat.reduceLT, Nat.reduceAdd, Nat.reduceMul, true_or, or_true, ↓reduceIte, aOk, ref_null, null_null, false_or, Option.isSome_some, Option.getD_some, ite_true, ite_false, eq_self, not_false_eq_true, not_true_eq_false, bz_ne, bz_1, reduceCtorEq, Bool.not_true, Bool.not_false, X2.f.tx, X2.fd, X2.da.ol.wl.tg, sz2, ix_lt, hj, X2.f.f2, X2.f.t30, y2.hang, gt, tl, z1]
      refine ca_mono zc ?_
      rintro r h3 ⟨rfl, bx3, y3⟩
      have t3 : Tf x h h3 := t2.trans (bx3.tf (Or.inl rfl) X2.f.t30)
      have X3 := X.tf t3
      have gx := green_x (a := S.L.2 0 j) (b := S.L.2 1 j) (c := S.L.2 2 j) z2 X.xo.wo
      have z3 : WB O (goF O st.1 (S.L.2 0 j) (S.L.2 1 j) (S.L.2 2 j)).2.1 := wb_go z2
      have tp : Tg h3 p = Tg h2 p := by rw [bx3.1]
      have gp : S.L.2 0 j = 1 → (goF O st.1 (S.L.2 0 j) (S.L.2 1 j) (S.L.2 2 j)).2.2 = false := fun e => by
        rw [e]
        unfold goF
        rw [if_neg (by decide), if_pos rfl]
        split <;> rfl
      revert nx y3 gx z3 gp
      generalize goF O st.1 (S.L.2 0 j) (S.L.2 1 j) (S.L.2 2 j) = g
      intro nx y3 gx z3 gp
      have hh2 := z2.lt X.xo.wo
      have m1 := m1_lt j1
      have m2 := m1_lt j2
      have B2 : ∀ wr : Int32, wr = (if g.1 = false ∧ st.2.1 < 0 then ix j else st.2.1) → Ru (D + 271) 26 86 [.ref x, .int v, .int wr, .int st.2.2, .int (ix j), .int (ix st.1.hang), .ref p] [] h3 (fun r h' => r = .inl (some (.int (if v = 0 then (juF O S.L S.L.1).2.1 else if v = 1 then (juF O S.L S.L.1).2.2 else (juF O S.L S.L.1).1.had))) ∧ Tf x h h') := by
        rintro wr rfl
        have last : ∀ gr : Int32, gr = (if g.2.2 = true ∧ st.2.2 < 0 then ix j else st.2.2) → Ru (D + 271) 26 124 [.ref x, .int v, .int (if g.1 = false ∧ st.2.1 < 0 then ix j else st.2.1), .int gr, .int (ix j), .int (ix st.1.hang), .ref p] [] h3 (fun r h' => r = .inl (some (.int (if v = 0 then (juF O S.L S.L.1).2.1 else if v = 1 then (juF O S.L S.L.1).2.2 else (juF O S.L S.L.1).1.had))) ∧ Tf x h h') := by
          rintro gr rfl
          simp (disch := first | assumption | omega | decide | rfl) only [w_X1_judged_124, w_X1_judged_127, nl_int, nl_ref, nl_null, nl_un, nl_rf, nl_long, isR_ref, isR_null, isR_rf, rf_some, rf_none, rOf_ref, rOf_null, rOf_rf, kn_v, kn_0, true_and, and_true, and_self, tin, inA_x, inA_l, ix_add, ix_addl, ix_ladd, ix_mul, ix_mull, ix_lmul, ix_tn, lt_tn, Nat.reduceLeDiff, Nat.reduceLT, Nat.reduceAdd, Nat.reduceMul, true_or, or_true, ↓reduceIte, aOk, ref_null, null_null, false_or, Option.isSome_some, Option.getD_some, ite_true, ite_false, eq_self, not_false_eq_true, not_true_eq_false, bz_ne, bz_1, reduceCtorEq, Bool.not_true, Bool.not_false]
          exact nx h3 _ _ rfl t3 y3
        by_cases q5 : st.2.2 < 0
        · have d5 : (st.2.2 = -1) = True := by rw [m2]; exact eq_true q5
          by_cases q6 : S.L.2 0 j = 1
          · have t33 : Tg h3 p = 33 := by rw [tp]; exact pk.mpr q6
            have ll : lk [(32, false), (33, true), (34, false)] (Tg h3 p) = some true := by rw [t33]; rfl
            have d1 : ((1 : Int32) = 0) = False := by decide
            simp (disch := first | assumption | omega | decide | rfl) only [w_X1_judged_86, w_X1_judged_87, w_X1_judged_88, w_X1_judged_91, w_X1_judged_93, w_X1_judged_96, nl_int, nl_ref, nl_null, nl_un, nl_rf, nl_long, isR_ref, isR_null, isR_rf, rf_some, rf_none, rOf_ref, rOf_null, rOf_rf, kn_v, kn_0, true_and, and_true, and_self, tin, inA_x, inA_l, ix_add, ix_addl, ix_ladd, ix_mul, ix_mull, ix_lmul, ix_tn, lt_tn, Nat.reduceLeDiff, Nat.reduceLT, Nat.reduceAdd, Nat.reduceMul, true_or, or_true, ↓reduceIte, aOk, ref_null, null_null, false_or, Option.isSome_some, Option.getD_some, ite_true, ite_false, eq_self, not_false_eq_true, not_true_eq_false, bz_ne, bz_1, reduceCtorEq, Bool.not_true, Bool.not_false, d5, ll, d1, if_true]
            exact last _ (by rw [if_neg (by rw [gp q6]; simp)])
          · have gx := gx.resolve_left q6
            have t33 : Tg h3 p = 32 ∨ Tg h3 p = 34 := by
              rw [tp]
              have := ln.tg
              have : Tg h2 p ≠ 33 := fun e => q6 (pk.mp e)
              omega
            have ll : lk [(32, false), (33, true), (34, false)] (Tg h3 p) = some false := by rcases t33 with e | e <;> rw [e] <;> rfl
            have hS : sd st.1.hang g.2.1.hang < 1024 := sd_lt hh2
            simp (disch := first | assumption | omega | decide | rfl) only [w_X1_judged_86, w_X1_judged_87, w_X1_judged_88, w_X1_judged_91, w_X1_judged_93, w_X1_judged_96, w_X1_judged_99, w_X1_judged_100, w_X1_judged_103, w_X1_judged_105, w_X1_judged_106, w_X1_judged_109, w_X1_judged_112, w_X1_judged_113, w_X1_judged_114, w_X1_judged_115, nl_int, nl_ref, nl_null, nl_un, nl_rf, nl_long, isR_ref, isR_null, isR_rf, rf_some, rf_none, rOf_ref, rOf_null, rOf_rf, kn_v, kn_0, true_and, and_true, and_self, tin, inA_x, inA_l, ix_add, ix_addl, ix_ladd, ix_mul, ix_mull, ix_lmul, ix_tn, lt_tn, Nat.reduceLeDiff, Nat.reduceLT, Nat.reduceAdd, Nat.reduceMul, true_or, or_true, ↓reduceIte, aOk, ref_null, null_null, false_or, Option.isSome_some, Option.getD_some, ite_true, ite_false, eq_self, not_false_eq_true, not_true_eq_false, bz_ne, bz_1, reduceCtorEq, Bool.not_true, Bool.not_false, d5, ll, if_false, Bool.false_eq_true, X3.f.tx, X3.f.f2, X3.f.t30, y3.hang, ix_sd, cx_green X3.xo y3 hS]
            by_cases q7 : 0 < grF O (sd st.1.hang g.2.1.hang) g.2.1.day
            · simp (disch := first | assumption | omega | decide | rfl) only [w_X1_judged_118, w_X1_judged_121, w_X1_judged_123, nl_int, nl_ref, nl_null, nl_un, nl_rf, nl_long, isR_ref, isR_null, isR_rf, rf_some, rf_none, rOf_ref, rOf_null, rOf_rf, kn_v, kn_0, true_and, and_true, and_self, tin, inA_x, inA_l, ix_add, ix_addl, ix_ladd, ix_mul, ix_mull, ix_lmul, ix_tn, lt_tn, Nat.reduceLeDiff, Nat.reduceLT, Nat.reduceAdd, Nat.reduceMul, true_or, or_true, ↓reduceIte, aOk, ref_null, null_null, false_or, Option.isSome_some, Option.getD_some, ite_true, ite_false, eq_self, not_false_eq_true, not_true_eq_false, bz_ne, bz_1, reduceCtorEq, Bool.not_true, Bool.not_false, q7]
              refine last _ ?_
              rw [if_pos ⟨by rw [← gx]; exact decide_eq_true q7, q5⟩]
            · simp (disch := first | assumption | omega | decide | rfl) only [w_X1_judged_118, nl_int, nl_ref, nl_null, nl_un, nl_rf, nl_long, isR_ref, isR_null, isR_rf, rf_some, rf_none, rOf_ref, rOf_null, rOf_rf, kn_v, kn_0, true_and, and_true, and_self, tin, inA_x, inA_l, ix_add, ix_addl, ix_ladd, ix_mul, ix_mull, ix_lmul, ix_tn, lt_tn, Nat.reduceLeDiff, Nat.reduceLT, Nat.reduceAdd, Nat.reduceMul, true_or, or_true, ↓reduceIte, aOk, ref_null, null_null, false_or, Option.isSome_some, Option.getD_some, ite_true, ite_false, eq_self, not_false_eq_true, not_true_eq_false, bz_ne, bz_1, reduceCtorEq, Bool.not_true, Bool.not_false, q7]
              refine last _ ?_
              rw [if_neg (fun e => q7 (of_decide_eq_true (gx.trans e.1)))]
        · have d5 : (st.2.2 = -1) = False := by rw [m2]; exact eq_false q5
          simp (disch := first | assumption | omega | decide | rfl) only [w_X1_judged_86, w_X1_judged_87, w_X1_judged_88, nl_int, nl_ref, nl_null, nl_un, nl_rf, nl_long, isR_ref, isR_null, isR_rf, rf_some, rf_none, rOf_ref, rOf_null, rOf_rf, kn_v, kn_0, true_and, and_true, and_self, tin, inA_x, inA_l, ix_add, ix_addl, ix_ladd, ix_mul, ix_mull, ix_lmul, ix_tn, lt_tn, Nat.reduceLeDiff, Nat.reduceLT, Nat.reduceAdd, Nat.reduceMul, true_or, or_true, ↓reduceIte, aOk, ref_null, null_null, false_or, Option.isSome_some, Option.getD_some, ite_true, ite_false, eq_self, not_false_eq_true, not_true_eq_false, bz_ne, bz_1, reduceCtorEq, Bool.not_true, Bool.not_false, d5]
          exact last _ (by rw [if_neg (fun e => q5 e.2)])
      cases q3 : g.1
      · rw [q3] at B2
        by_cases q4 : st.2.1 < 0
        · have d4 : (st.2.1 = -1) = True := by rw [m1]; exact eq_true q4
          simp (disch := first | assumption | omega | decide | rfl) only [w_X1_judged_75, w_X1_judged_78, w_X1_judged_79, w_X1_judged_80, w_X1_judged_83, w_X1_judged_85, nl_int, nl_ref, nl_null, nl_un, nl_rf, nl_long, isR_ref, isR_null, isR_rf, rf_some, rf_none, rOf_ref, rOf_null, rOf_rf, kn_v, kn_0, true_and, and_true, and_self, tin, inA_x, inA_l, ix_add, ix_addl, ix_ladd, ix_mul, ix_mull, ix_lmul, ix_tn, lt_tn, Nat.reduceLeDiff, Nat.reduceLT, Nat.reduceAdd, Nat.reduceMul, true_or, or_true, ↓reduceIte, aOk, ref_null, null_null, false_or, Option.isSome_some, Option.getD_some, ite_true, ite_false, eq_self, not_false_eq_true, not_true_eq_false, bz_ne, bz_1, reduceCtorEq, Bool.not_true, Bool.not_false, d4]
          exact B2 _ (by rw [if_pos ⟨rfl, q4⟩])
        · have d4 : (st.2.1 = -1) = False := by rw [m1]; exact eq_false q4
          simp (disch := first | assumption | omega | decide | rfl) only [w_X1_judged_75, w_X1_judged_78, w_X1_judged_79, w_X1_judged_80, nl_int, nl_ref, nl_null, nl_un, nl_rf, nl_long, isR_ref, isR_null, isR_rf, rf_some, rf_none, rOf_ref, rOf_null, rOf_rf, kn_v, kn_0, true_and, and_true, and_self, tin, inA_x, inA_l, ix_add, ix_addl, ix_ladd, ix_mul, ix_mull, ix_lmul, ix_tn, lt_tn, Nat.reduceLeDiff, Nat.reduceLT, Nat.reduceAdd, Nat.reduceMul, true_or, or_true, ↓reduceIte, aOk, ref_null, null_null, false_or, Option.isSome_some, Option.getD_some, ite_true, ite_false, eq_self, not_false_eq_true, not_true_eq_false, bz_ne, bz_1, reduceCtorEq, Bool.not_true, Bool.not_false, d4]
          exact B2 _ (by rw [if_neg (fun e => q4 e.2)])
      · rw [q3] at B2
        simp (disch := first | assumption | omega | decide | rfl) only [w_X1_judged_75, nl_int, nl_ref, nl_null, nl_un, nl_rf, nl_long, isR_ref, isR_null, isR_rf, rf_some, rf_none, rOf_ref, rOf_null, rOf_rf, kn_v, kn_0, true_and, and_true, and_self, tin, inA_x, inA_l, ix_add, ix_addl, ix_ladd, ix_mul, ix_mull, ix_lmul, ix_tn, lt_tn, Nat.reduceLeDiff, Nat.reduceLT, Nat.reduceAdd, Nat.reduceMul, true_or, or_true, ↓reduceIte, aOk, ref_null, null_null, false_or, Option.isSome_some, Option.getD_some, ite_true, ite_false, eq_self, not_false_eq_true, not_true_eq_false, bz_ne, bz_1, reduceCtorEq, Bool.not_true, Bool.not_false]
        exact B2 _ (by rw [if_neg (fun e => absurd e.1 (by decide))])
  · have c1 : decide (0 ≤ v ∧ v ≤ 2) = false := decide_eq_false q
    rw [if_neg q]
    simp (disch := first | assumption | omega | decide | rfl) only [w_X1_judged_0, w_X1_judged_1, w_X1_judged_2, w_X1_judged_3, w_X1_judged_6, w_X1_judged_9, w_X1_judged_11, nl_int, nl_ref, nl_null, nl_un, nl_rf, nl_long, isR_ref, isR_null, isR_rf, rf_some, rf_none, rOf_ref, rOf_null, rOf_rf, kn_v, kn_0, true_and, and_true, and_self, tin, inA_x, inA_l, ix_add, ix_addl, ix_ladd, ix_mul, ix_mull, ix_lmul, ix_tn, lt_tn, Nat.reduceLeDiff, Nat.reduceLT, Nat.reduceAdd, Nat.reduceMul, true_or, or_true, ↓reduceIte, aOk, ref_null, null_null, false_or, Option.isSome_some, Option.getD_some, ite_true, ite_false, eq_self, not_false_eq_true, not_true_eq_false, bz_ne, bz_1, reduceCtorEq, Bool.not_true, Bool.not_false, cx_within, c1]
    first | exact ⟨rfl, Tf.refl⟩ | exact Tf.refl
end
