/-! THE MODEL: years drawn, the answer -/
set_option maxRecDepth 100000
section
variable {d D m a b c p q s n k i j K T lane loud G : Nat} {h h' h2 : AH} {Q : Rs → AH → Prop} {O : Oc} {B B0 : Bo} {A F : List Nat} {u v w : Int32} {l : List Nat} {st : Ys}
abbrev yA2 : List Nat := 35 :: 53 :: 54 :: eA
abbrev yG2 : List Nat := [60, 130, 131, 132, 146]
theorem yr_tail (hh : B0.hang < 1024) (hm : MO h m) (u1 : Md m yA2 yG2 h2 h) (f : Fi h 60 m = 0) (y : MB h (m + 53) 0 O.nA B0) (ya : MB h (m + 54) 0 O.nA B) (n1 : O.nA ≤ 10) {l1 l2 l5 : Value} (hv : 0 ≤ w ∧ w ≤ 2) : Ru (D + 9) 236 83 [.ref m, l1, l2, .int w, .int v, l5] [] h (fun r h' => r = .inl (some (.int (if w = 0 then B0.had - B.had else if w = 1 then v else ix (pcF B0.hang 16)))) ∧ Md m yA2 yG2 h2 h' ∧ Fi h' 60 m = 0 ∧ MB h' (m + 53) 0 O.nA B) := by
  generalize hQ : (fun r h' => r = .inl (some (.int (if w = 0 then B0.had - B.had else if w = 1 then v else ix (pcF B0.hang 16)))) ∧ Md m yA2 yG2 h2 h' ∧ Fi h' 60 m = 0 ∧ MB h' (m + 53) 0 O.nA B : Rs → AH → Prop) = Q
  have last : ∀ r : Int32, r = (if w = 0 then B0.had - B.had else if w = 1 then v else ix (pcF B0.hang 16)) → Ru (D + 9) 236 122 [.ref m, l1, l2, .int w, .int v, l5] [.int r] h Q := by
    intro r hr
    simp (disch := first | assumption | omega | decide | rfl) only [w_X9_years_122, w_X9_years_124, w_X9_years_125, w_X9_years_128, w_X9_years_129, w_X9_years_130, w_X9_years_133, nl_int, nl_ref, nl_null, nl_un, nl_rf, nl_long, isR_ref, isR_null, isR_rf, rf_some, rf_none, rOf_ref, rOf_null, rOf_rf, kn_v, kn_0, true_and, and_true, and_self, tin, inA_x, inA_l, ix_add, ix_addl, ix_ladd, ix_mul, ix_mull, ix_lmul, ix_tn, lt_tn, Nat.reduceLeDiff, Nat.reduceLT, Nat.reduceAdd, Nat.reduceMul, true_or, or_true, ↓reduceIte, aOk, ref_null, null_null, false_or, Option.isSome_some, Option.getD_some, ite_true, ite_false, eq_self, not_false_eq_true, not_true_eq_false, bz_ne, bz_1, reduceCtorEq, Bool.not_true, Bool.not_false, mo_0 hm, mo_s hm, mt_s hm, ml_s hm, mo_aside hm, mt_aside hm, ml_aside hm]
    rw [w_X9_years_134, show (0 : Int32) = ix 0 from rfl, cm_copies (by omega) (by rw [mt_aside hm]; decide) (by rw [mt_s hm]; decide) (by rw [ml_aside hm]; decide) (by rw [ml_s hm]; decide) (by rw [ml_aside hm]; decide) (by rw [ml_s hm]; decide), kn_0]
    have u3 : Md m yA2 yG2 h2 (sAi h (m + 53) (cpF (Ai h (m + 54)) 0 (Ai h (m + 53)) 0 15)) := u1.sAi (by decide)
    have s3 : MB (sAi h (m + 53) (cpF (Ai h (m + 54)) 0 (Ai h (m + 53)) 0 15)) (m + 53) 0 O.nA B := mb_cp ya n1 Ai_same
    have f3 : Fi (sAi h (m + 53) (cpF (Ai h (m + 54)) 0 (Ai h (m + 53)) 0 15)) 60 m = 0 := f
    revert u3 s3 f3
    generalize sAi h (m + 53) (cpF (Ai h (m + 54)) 0 (Ai h (m + 53)) 0 15) = h3
    intro u3 s3 f3
    simp (disch := first | assumption | omega | decide | rfl) only [w_X9_years_137, w_X9_years_139, nl_int, nl_ref, nl_null, nl_un, nl_rf, nl_long, isR_ref, isR_null, isR_rf, rf_some, rf_none, rOf_ref, rOf_null, rOf_rf, kn_v, kn_0, true_and, and_true, and_self, tin, inA_x, inA_l, ix_add, ix_addl, ix_ladd, ix_mul, ix_mull, ix_lmul, ix_tn, lt_tn, Nat.reduceLeDiff, Nat.reduceLT, Nat.reduceAdd, Nat.reduceMul, true_or, or_true, ↓reduceIte, aOk, ref_null, null_null, false_or, Option.isSome_some, Option.getD_some, ite_true, ite_false, eq_self, not_false_eq_true, not_true_eq_false, bz_ne, bz_1, reduceCtorEq, Bool.not_true, Bool.not_false]
    rw [← hQ]
    exact ⟨by rw [hr], u3, f3, s3⟩
  by_cases q0 : w = 0
  · have d0 : (w = 0) = True := eq_true q0
    simp (disch := first | assumption | omega | decide | rfl) only [w_X9_years_83, w_X9_years_84, w_X9_years_87, w_X9_years_88, w_X9_years_91, w_X9_years_92, w_X9_years_93, w_X9_years_94, w_X9_years_97, w_X9_years_98, w_X9_years_99, w_X9_years_100, nl_int, nl_ref, nl_null, nl_un, nl_rf, nl_long, isR_ref, isR_null, isR_rf, rf_some, rf_none, rOf_ref, rOf_null, rOf_rf, kn_v, kn_0, true_and, and_true, and_self, tin, inA_x, inA_l, ix_add, ix_addl, ix_ladd, ix_mul, ix_mull, ix_lmul, ix_tn, lt_tn, Nat.reduceLeDiff, Nat.reduceLT, Nat.reduceAdd, Nat.reduceMul, true_or, or_true, ↓reduceIte, aOk, ref_null, null_null, false_or, Option.isSome_some, Option.getD_some, ite_true, ite_false, eq_self, not_false_eq_true, not_true_eq_false, bz_ne, bz_1, reduceCtorEq, Bool.not_true, Bool.not_false, mo_0 hm, mo_s hm, mt_s hm, ml_s hm, mo_aside hm, mt_aside hm, ml_aside hm, d0, y.a0, ya.a0]
    exact last _ (by rw [if_pos q0])
  · have d0 : (w = 0) = False := eq_false q0
    by_cases q1 : w = 1
    · have d1 : (w = 1) = True := eq_true q1
      simp (disch := first | assumption | omega | decide | rfl) only [w_X9_years_83, w_X9_years_84, w_X9_years_103, w_X9_years_104, w_X9_years_105, w_X9_years_108, w_X9_years_110, nl_int, nl_ref, nl_null, nl_un, nl_rf, nl_long, isR_ref, isR_null, isR_rf, rf_some, rf_none, rOf_ref, rOf_null, rOf_rf, kn_v, kn_0, true_and, and_true, and_self, tin, inA_x, inA_l, ix_add, ix_addl, ix_ladd, ix_mul, ix_mull, ix_lmul, ix_tn, lt_tn, Nat.reduceLeDiff, Nat.reduceLT, Nat.reduceAdd, Nat.reduceMul, true_or, or_true, ↓reduceIte, aOk, ref_null, null_null, false_or, Option.isSome_some, Option.getD_some, ite_true, ite_false, eq_self, not_false_eq_true, not_true_eq_false, bz_ne, bz_1, reduceCtorEq, Bool.not_true, Bool.not_false, d0, d1]
      exact last _ (by rw [if_neg q0, if_pos q1])
    · have d1 : (w = 1) = False := eq_false q1
      simp (disch := first | assumption | omega | decide | rfl) only [w_X9_years_83, w_X9_years_84, w_X9_years_103, w_X9_years_104, w_X9_years_105, w_X9_years_113, w_X9_years_114, w_X9_years_117, w_X9_years_118, w_X9_years_119, nl_int, nl_ref, nl_null, nl_un, nl_rf, nl_long, isR_ref, isR_null, isR_rf, rf_some, rf_none, rOf_ref, rOf_null, rOf_rf, kn_v, kn_0, true_and, and_true, and_self, tin, inA_x, inA_l, ix_add, ix_addl, ix_ladd, ix_mul, ix_mull, ix_lmul, ix_tn, lt_tn, Nat.reduceLeDiff, Nat.reduceLT, Nat.reduceAdd, Nat.reduceMul, true_or, or_true, ↓reduceIte, aOk, ref_null, null_null, false_or, Option.isSome_some, Option.getD_some, ite_true, ite_false, eq_self, not_false_eq_true, not_true_eq_false, bz_ne, bz_1, reduceCtorEq, Bool.not_true, Bool.not_false, mo_0 hm, mo_s hm, mt_s hm, ml_s hm, mo_aside hm, mt_aside hm, ml_aside hm, d0, d1, y.h0, cm_bits (show B0.hang < 65536 by omega)]
      exact last _ (by rw [if_neg q0, if_neg q1])
theorem cm_years (x : M0 h m O) (y : MB h (m + 53) 0 O.nA B) (z : WB O B) : Ca (D + 10) 236 [.ref m, .int u, .int v, .int w] h (fun r h' => r = .inl (some (.int (yeaF O B u v w))) ∧ Md m yA2 yG2 h h' ∧ Fi h' 60 m = 0 ∧ MB h' (m + 53) 0 O.nA B) := by
  have n1 := x.wo.nA
  generalize hQ : (fun r h' => r = .inl (some (.int (yeaF O B u v w))) ∧ Md m yA2 yG2 h h' ∧ Fi h' 60 m = 0 ∧ MB h' (m + 53) 0 O.nA B : Rs → AH → Prop) = Q
  have bad : ∀ h2, Md m yA2 yG2 h h2 → Fi h2 60 m = 0 → MB h2 (m + 53) 0 O.nA B → mayY u v w = false → Ru (D + 9) 236 35 [.ref m, .int u, .int v, .int w, un, un] [] h2 Q := by
    intro h2 a b c e
    simp (disch := first | assumption | omega | decide | rfl) only [w_X9_years_35, w_X9_years_36, nl_int, nl_ref, nl_null, nl_un, nl_rf, nl_long, isR_ref, isR_null, isR_rf, rf_some, rf_none, rOf_ref, rOf_null, rOf_rf, kn_v, kn_0, true_and, and_true, and_self, tin, inA_x, inA_l, ix_add, ix_addl, ix_ladd, ix_mul, ix_mull, ix_lmul, ix_tn, lt_tn, Nat.reduceLeDiff, Nat.reduceLT, Nat.reduceAdd, Nat.reduceMul, true_or, or_true, ↓reduceIte, aOk, ref_null, null_null, false_or, Option.isSome_some, Option.getD_some, ite_true, ite_false, eq_self, not_false_eq_true, not_true_eq_false, bz_ne, bz_1, reduceCtorEq, Bool.not_true, Bool.not_false]
    rw [← hQ]
    exact ⟨by unfold yeaF; rw [e]; rfl, a, b, c⟩
  rw [e_X9_years]
  simp (disch := first | assumption | omega | decide | rfl) only [w_X9_years_0, w_X9_years_1, w_X9_years_2, w_X9_years_5, w_X9_years_6, w_X9_years_7, w_X9_years_10, nl_int, nl_ref, nl_null, nl_un, nl_rf, nl_long, isR_ref, isR_null, isR_rf, rf_some, rf_none, rOf_ref, rOf_null, rOf_rf, kn_v, kn_0, true_and, and_true, and_self, tin, inA_x, inA_l, ix_add, ix_addl, ix_ladd, ix_mul, ix_mull, ix_lmul, ix_tn, lt_tn, Nat.reduceLeDiff, Nat.reduceLT, Nat.reduceAdd, Nat.reduceMul, true_or, or_true, ↓reduceIte, aOk, ref_null, null_null, false_or, Option.isSome_some, Option.getD_some, ite_true, ite_false, eq_self, not_false_eq_true, not_true_eq_false, bz_ne, bz_1, reduceCtorEq, Bool.not_true, Bool.not_false, mo_0 x.mo, cm_within]
  have u1 : Md m yA2 yG2 h (sFi h 60 m 0) := md_sFi (by decide)
  have u01 : Md m [] [60] h (sFi h 60 m 0) := md_sFi (by decide)
  have f1 : Fi (sFi h 60 m 0) 60 m = 0 := Fi_same
  revert u1 u01 f1
  generalize sFi h 60 m 0 = h1
  intro u1 u01 f1
  have x1 : M0 h1 m O := x.md u01
  have y1 : MB h1 (m + 53) 0 O.nA B := y.md u01 (by decide)
  have hm1 := x1.mo
  unfold mayY at bad
  cases q1 : decide (0 ≤ u ∧ u ≤ 9999)
  · simp (disch := first | assumption | omega | decide | rfl) only [w_X9_years_13, nl_int, nl_ref, nl_null, nl_un, nl_rf, nl_long, isR_ref, isR_null, isR_rf, rf_some, rf_none, rOf_ref, rOf_null, rOf_rf, kn_v, kn_0, true_and, and_true, and_self, tin, inA_x, inA_l, ix_add, ix_addl, ix_ladd, ix_mul, ix_mull, ix_lmul, ix_tn, lt_tn, Nat.reduceLeDiff, Nat.reduceLT, Nat.reduceAdd, Nat.reduceMul, true_or, or_true, ↓reduceIte, aOk, ref_null, null_null, false_or, Option.isSome_some, Option.getD_some, ite_true, ite_false, eq_self, not_false_eq_true, not_true_eq_false, bz_ne, bz_1, reduceCtorEq, Bool.not_true, Bool.not_false]
    exact bad _ u1 f1 y1 (by rw [q1]; rfl)
  · cases q2 : decide (1 ≤ v ∧ v ≤ 60)
    · simp (disch := first | assumption | omega | decide | rfl) only [w_X9_years_13, w_X9_years_16, w_X9_years_17, w_X9_years_18, w_X9_years_20, w_X9_years_23, nl_int, nl_ref, nl_null, nl_un, nl_rf, nl_long, isR_ref, isR_null, isR_rf, rf_some, rf_none, rOf_ref, rOf_null, rOf_rf, kn_v, kn_0, true_and, and_true, and_self, tin, inA_x, inA_l, ix_add, ix_addl, ix_ladd, ix_mul, ix_mull, ix_lmul, ix_tn, lt_tn, Nat.reduceLeDiff, Nat.reduceLT, Nat.reduceAdd, Nat.reduceMul, true_or, or_true, ↓reduceIte, aOk, ref_null, null_null, false_or, Option.isSome_some, Option.getD_some, ite_true, ite_false, eq_self, not_false_eq_true, not_true_eq_false, bz_ne, bz_1, reduceCtorEq, Bool.not_true, Bool.not_false, cm_within, q2]
      exact bad _ u1 f1 y1 (by rw [q2, Bool.and_false]; rfl)
    · cases q3 : decide (0 ≤ w ∧ w ≤ 2)
      · simp (disch := first | assumption | omega | decide | rfl) only [w_X9_years_13, w_X9_years_16, w_X9_years_17, w_X9_years_18, w_X9_years_20, w_X9_years_23, w_X9_years_26, w_X9_years_27, w_X9_years_28, w_X9_years_29, w_X9_years_32, nl_int, nl_ref, nl_null, nl_un, nl_rf, nl_long, isR_ref, isR_null, isR_rf, rf_some, rf_none, rOf_ref, rOf_null, rOf_rf, kn_v, kn_0, true_and, and_true, and_self, tin, inA_x, inA_l, ix_add, ix_addl, ix_ladd, ix_mul, ix_mull, ix_lmul, ix_tn, lt_tn, Nat.reduceLeDiff, Nat.reduceLT, Nat.reduceAdd, Nat.reduceMul, true_or, or_true, ↓reduceIte, aOk, ref_null, null_null, false_or, Option.isSome_some, Option.getD_some, ite_true, ite_false, eq_self, not_false_eq_true, not_true_eq_false, bz_ne, bz_1, reduceCtorEq, Bool.not_true, Bool.not_false, cm_within, q2, q3]
        exact bad _ u1 f1 y1 (by rw [q3, Bool.and_false])
      · have ok : mayY u v w = true := by unfold mayY; rw [q1, q2, q3]; rfl
        clear bad
        obtain ⟨g0, _, hg, rfl⟩ := vr_ex (lo := 0) (hi := 9999) (by decide) (of_decide_eq_true q1) (by decide)
        obtain ⟨t, ht1, ht2, rfl⟩ := vr_ex (lo := 1) (hi := 60) (by decide) (of_decide_eq_true q2) (by decide)
        simp (disch := first | assumption | omega | decide | rfl) only [w_X9_years_13, w_X9_years_16, w_X9_years_17, w_X9_years_18, w_X9_years_20, w_X9_years_23, w_X9_years_26, w_X9_years_27, w_X9_years_28, w_X9_years_29, w_X9_years_32, w_X9_years_37, w_X9_years_38, w_X9_years_39, w_X9_years_40, nl_int, nl_ref, nl_null, nl_un, nl_rf, nl_long, isR_ref, isR_null, isR_rf, rf_some, rf_none, rOf_ref, rOf_null, rOf_rf, kn_v, kn_0, true_and, and_true, and_self, tin, inA_x, inA_l, ix_add, ix_addl, ix_ladd, ix_mul, ix_mull, ix_lmul, ix_tn, lt_tn, Nat.reduceLeDiff, Nat.reduceLT, Nat.reduceAdd, Nat.reduceMul, true_or, or_true, ↓reduceIte, aOk, ref_null, null_null, false_or, Option.isSome_some, Option.getD_some, ite_true, ite_false, eq_self, not_false_eq_true, not_true_eq_false, bz_ne, bz_1, reduceCtorEq, Bool.not_true, Bool.not_false, cm_within, q2, q3, mo_0 hm1, ix_l]
        have u2 : Md m yA2 yG2 h (sFl h1 146 m (lix g0)) := u1.sFl (by decide)
        have u12 : Md m [] [146] h1 (sFl h1 146 m (lix g0)) := md_sFl (by decide)
        have f2 : Fi (sFl h1 146 m (lix g0)) 60 m = 0 := f1
        have l2 : Fl (sFl h1 146 m (lix g0)) 146 m = lix g0 := Fl_same
        revert u2 u12 f2 l2
        generalize sFl h1 146 m (lix g0) = h2
        intro u2 u12 f2 l2
        have x2 : M0 h2 m O := x1.md u12
        have y2 : MB h2 (m + 53) 0 O.nA B := y1.md u12 (by decide)
        have hm2 := x2.mo
        simp (disch := first | assumption | omega | decide | rfl) only [w_X9_years_43, w_X9_years_44, w_X9_years_47, w_X9_years_48, w_X9_years_49, w_X9_years_52, nl_int, nl_ref, nl_null, nl_un, nl_rf, nl_long, isR_ref, isR_null, isR_rf, rf_some, rf_none, rOf_ref, rOf_null, rOf_rf, kn_v, kn_0, true_and, and_true, and_self, tin, inA_x, inA_l, ix_add, ix_addl, ix_ladd, ix_mul, ix_mull, ix_lmul, ix_tn, lt_tn, Nat.reduceLeDiff, Nat.reduceLT, Nat.reduceAdd, Nat.reduceMul, true_or, or_true, ↓reduceIte, aOk, ref_null, null_null, false_or, Option.isSome_some, Option.getD_some, ite_true, ite_false, eq_self, not_false_eq_true, not_true_eq_false, bz_ne, bz_1, reduceCtorEq, Bool.not_true, Bool.not_false, mo_0 hm2, mo_s hm2, mt_s hm2, ml_s hm2, mo_aside hm2, mt_aside hm2, ml_aside hm2]
        rw [w_X9_years_53, show (0 : Int32) = ix 0 from rfl, cm_copies (by omega) (by rw [mt_s hm2]; decide) (by rw [mt_aside hm2]; decide) (by rw [ml_s hm2]; decide) (by rw [ml_aside hm2]; decide) (by rw [ml_s hm2]; decide) (by rw [ml_aside hm2]; decide), kn_0]
        have u3 : Md m yA2 yG2 h (sAi h2 (m + 54) (cpF (Ai h2 (m + 53)) 0 (Ai h2 (m + 54)) 0 15)) := u2.sAi (by decide)
        have u23 : Md m [54] [] h2 (sAi h2 (m + 54) (cpF (Ai h2 (m + 53)) 0 (Ai h2 (m + 54)) 0 15)) := md_sAi (by decide)
        have s3 : MB (sAi h2 (m + 54) (cpF (Ai h2 (m + 53)) 0 (Ai h2 (m + 54)) 0 15)) (m + 54) 0 O.nA B := mb_cp y2 n1 Ai_same
        revert u3 u23 s3
        generalize sAi h2 (m + 54) (cpF (Ai h2 (m + 53)) 0 (Ai h2 (m + 54)) 0 15) = h3
        intro u3 u23 s3
        have x3 : M0 h3 m O := x2.md u23
        have y3 : MB h3 (m + 53) 0 O.nA B := y2.md u23 (by decide)
        have f3 : Fi h3 60 m = 0 := by rw [u23.fi (by decide)]; exact f2
        have l3 : Fl h3 146 m = lix g0 := by rw [u23.fl (by decide)]; exact l2
        simp (disch := first | assumption | omega | decide | rfl) only [w_X9_years_56, w_X9_years_57, w_X9_years_59, w_X9_years_60, nl_int, nl_ref, nl_null, nl_un, nl_rf, nl_long, isR_ref, isR_null, isR_rf, rf_some, rf_none, rOf_ref, rOf_null, rOf_rf, kn_v, kn_0, true_and, and_true, and_self, tin, inA_x, inA_l, ix_add, ix_addl, ix_ladd, ix_mul, ix_mull, ix_lmul, ix_tn, lt_tn, Nat.reduceLeDiff, Nat.reduceLT, Nat.reduceAdd, Nat.reduceMul, true_or, or_true, ↓reduceIte, aOk, ref_null, null_null, false_or, Option.isSome_some, Option.getD_some, ite_true, ite_false, eq_self, not_false_eq_true, not_true_eq_false, bz_ne, bz_1, reduceCtorEq, Bool.not_true, Bool.not_false]
        refine lp (P := fun j => ∀ h4, Md m yA2 yG2 h h4 → Fi h4 60 m = 0 → MB h4 (m + 54) 0 O.nA B → MB h4 (m + 53) 0 O.nA (yrF O (g0, B, 0) j).2.1 → WB O (yrF O (g0, B, 0) j).2.1 → Fl h4 146 m = lix (yrF O (g0, B, 0) j).1 → (yrF O (g0, B, 0) j).1 < 2147483648 → Ru (D + 9) 236 62 [.ref m, .int (ix g0), .int (ix t), .int w, .int (yrF O (g0, B, 0) j).2.2, .int (ix j)] [] h4 Q) (N := t) ?_ ?_ h3 u3 f3 s3 y3 z l3 (by show g0 < _; omega)
        · intro h4 u4 f4 s4 y4 z4 l4 b4
          have x4 : M0 h4 m O := x.md u4
          have e : ¬ t < t := by omega
          rw [w_X9_years_62]
          simp (disch := first | assumption | omega | decide | rfl) only [w_X9_years_64, w_X9_years_65, nl_int, nl_ref, nl_null, nl_un, nl_rf, nl_long, isR_ref, isR_null, isR_rf, rf_some, rf_none, rOf_ref, rOf_null, rOf_rf, kn_v, kn_0, true_and, and_true, and_self, tin, inA_x, inA_l, ix_add, ix_addl, ix_ladd, ix_mul, ix_mull, ix_lmul, ix_tn, lt_tn, Nat.reduceLeDiff, Nat.reduceLT, Nat.reduceAdd, Nat.reduceMul, true_or, or_true, ↓reduceIte, aOk, ref_null, null_null, false_or, Option.isSome_some, Option.getD_some, ite_true, ite_false, eq_self, not_false_eq_true, not_true_eq_false, bz_ne, bz_1, reduceCtorEq, Bool.not_true, Bool.not_false, ix_lt, e]
          rw [← hQ]
          refine ru_mono (yr_tail (z4.lt x.wo) x4.mo u4 f4 y4 s4 n1 (of_decide_eq_true q3)) ?_
          rintro r h5 ⟨er, a, b, c⟩
          refine ⟨?_, a, b, c⟩
          rw [er]
          unfold yeaF
          rw [if_pos ok, tn_ix (by omega), tn_ix (by omega)]
        · intro j hj nx h4 u4 f4 s4 y4 z4 l4 b4
          have x4 : M0 h4 m O := x.md u4
          have hm4 := x4.mo
          rw [show yrF O (g0, B, 0) (j + 1) = ((dyF O (yrF O (g0, B, 0) j).1 (yrF O (g0, B, 0) j).2.1).1, (dyF O (yrF O (g0, B, 0) j).1 (yrF O (g0, B, 0) j).2.1).2.1, (yrF O (g0, B, 0) j).2.2 + (dyF O (yrF O (g0, B, 0) j).1 (yrF O (g0, B, 0) j).2.1).2.2) from rfl] at nx
          revert nx y4 z4 l4 b4
          generalize yrF O (g0, B, 0) j = st
          intro nx y4 z4 l4 b4
          rw [w_X9_years_62]
          simp (disch := first | assumption | omega | decide | rfl) only [w_X9_years_64, w_X9_years_65, w_X9_years_68, w_X9_years_70, w_X9_years_71, nl_int, nl_ref, nl_null, nl_un, nl_rf, nl_long, isR_ref, isR_null, isR_rf, rf_some, rf_none, rOf_ref, rOf_null, rOf_rf, kn_v, kn_0, true_and, and_true, and_self, tin, inA_x, inA_l, ix_add, ix_addl, ix_ladd, ix_mul, ix_mull, ix_lmul, ix_tn, lt_tn, Nat.reduceLeDiff, Nat.reduceLT, Nat.reduceAdd, Nat.reduceMul, true_or, or_true, ↓reduceIte, aOk, ref_null, null_null, false_or, Option.isSome_some, Option.getD_some, ite_true, ite_false, eq_self, not_false_eq_true, not_true_eq_false, bz_ne, bz_1, reduceCtorEq, Bool.not_true, Bool.not_false, ix_lt, hj, mo_0 hm4]
          rw [show D + 9 = D + 1 + 8 from rfl]
          refine ca_mono (cm_livesDay (G := st.1) (B := st.2.1) x4 ⟨Md.refl, y4, z4, l4, b4⟩) ?_
          rintro r h5 ⟨rfl, y5⟩
          simp (disch := first | assumption | omega | decide | rfl) only [w_X9_years_74, w_X9_years_75, w_X9_years_77, w_X9_years_80, nl_int, nl_ref, nl_null, nl_un, nl_rf, nl_long, isR_ref, isR_null, isR_rf, rf_some, rf_none, rOf_ref, rOf_null, rOf_rf, kn_v, kn_0, true_and, and_true, and_self, tin, inA_x, inA_l, ix_add, ix_addl, ix_ladd, ix_mul, ix_mull, ix_lmul, ix_tn, lt_tn, Nat.reduceLeDiff, Nat.reduceLT, Nat.reduceAdd, Nat.reduceMul, true_or, or_true, ↓reduceIte, aOk, ref_null, null_null, false_or, Option.isSome_some, Option.getD_some, ite_true, ite_false, eq_self, not_false_eq_true, not_true_eq_false, bz_ne, bz_1, reduceCtorEq, Bool.not_true, Bool.not_false]
          exact nx h5 (u4.t y5.md) (by rw [y5.md.fi (by decide)]; exact f4) (s4.md y5.md (by decide)) y5.mb y5.wb y5.g y5.lt
end
