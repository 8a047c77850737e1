/-! BOUGHS as objects: called, picked, days passed -/
set_option maxRecDepth 100000
section
variable {lo hi d D o a b c f n p k t w s e lane loud S hang l x' : Nat} {h h' h1 h2 : AH} {A : Nat → Prop} {O : Oc} {B : Bo} {φ : Ph} {Q : Rs → AH → Prop} {day v : Int32} {F : Nat → Int32} {r : Option Nat}
theorem cx_values (x : XO lo hi h o O) (y : XB lo hi h b o n B) (hS : S < 1024) : Ca (D + 255) 101 [.ref b, .int (ix S)] h (fun r h' => r = .inl (some (.int (su S (fun a => vaF O a B.day) O.nA))) ∧ Sc h h') := by
  have n1 := x.wo.nA
  generalize hQ : (fun r h' => r = .inl (some (.int (su S (fun a => vaF O a B.day) O.nA))) ∧ Sc h h' : Rs → AH → Prop) = Q
  have key : ∀ n j h1, j + n = O.nA → Sc h h1 → Ru (D + 254) 101 4 [.ref b, .int (ix S), .int (su S (fun a => vaF O a B.day) j), .int (ix j)] [] h1 Q := by
    intro n
    induction n with
    | zero =>
      intro j h1 hj u
      have ej : j = O.nA := by omega
      subst ej
      have x1 := u.xo x
      have y1 := u.xb y
      have e : ¬ O.nA < O.nA := by omega
      simp (disch := first | assumption | omega | decide | rfl) only [w_X3_values_4, w_X3_values_5, w_X3_values_6, w_X3_values_9, w_X3_values_12, w_X3_values_15, w_X3_values_47, w_X3_values_48, nl_int, nl_ref, nl_null, nl_un, nl_rf, nl_long, isR_ref, isR_null, isR_rf, rf_some, rf_none, rOf_ref, rOf_null, rOf_rf, kn_v, kn_0, true_and, and_true, and_self, tin, inA_x, inA_l, ix_add, ix_addl, ix_ladd, ix_mul, ix_mull, ix_lmul, ix_tn, lt_tn, Nat.reduceLeDiff, Nat.reduceLT, Nat.reduceAdd, Nat.reduceMul, true_or, or_true, ↓reduceIte, aOk, ref_null, null_null, false_or, Option.isSome_some, Option.getD_some, ite_true, ite_false, eq_self, not_false_eq_true, not_true_eq_false, y1.tg, y1.oc, x1.tg, x1.ap.fr, x1.ap.wl.tg, x1.ap.size, ix_lt, e]
      rw [← hQ]
      exact ⟨rfl, u⟩
    | succ n ih =>
      intro j h1 hj u
      have x1 := u.xo x
      have y1 := u.xb y
      have e : j < O.nA := by omega
      have nx := ih (j + 1)
      rw [su] at nx
      rw [w_X3_values_4]
      simp (disch := first | assumption | omega | decide | rfl) only [w_X3_values_5, w_X3_values_6, w_X3_values_9, w_X3_values_12, w_X3_values_15, w_X3_values_18, w_X3_values_19, w_X3_values_20, nl_int, nl_ref, nl_null, nl_un, nl_rf, nl_long, isR_ref, isR_null, isR_rf, rf_some, rf_none, rOf_ref, rOf_null, rOf_rf, kn_v, kn_0, true_and, and_true, and_self, tin, inA_x, inA_l, ix_add, ix_addl, ix_ladd, ix_mul, ix_mull, ix_lmul, ix_tn, lt_tn, Nat.reduceLeDiff, Nat.reduceLT, Nat.reduceAdd, Nat.reduceMul, true_or, or_true, ↓reduceIte, aOk, ref_null, null_null, false_or, Option.isSome_some, Option.getD_some, ite_true, ite_false, eq_self, not_false_eq_true, not_true_eq_false, y1.tg, y1.oc, x1.tg, x1.ap.fr, x1.ap.wl.tg, x1.ap.size, ix_lt, e, c_has hS (show j < 10 by omega)]
      by_cases q : S.testBit j = true
      · have m : (bz (S.testBit j) = 0) = False := by rw [bz_ne]; exact eq_false (by rw [q]; decide)
        rw [if_pos q] at nx
        simp (disch := first | assumption | omega | decide | rfl) only [w_X3_values_23, w_X3_values_26, w_X3_values_27, w_X3_values_28, w_X3_values_31, w_X3_values_32, w_X3_values_33, w_X3_values_36, nl_int, nl_ref, nl_null, nl_un, nl_rf, nl_long, isR_ref, isR_null, isR_rf, rf_some, rf_none, rOf_ref, rOf_null, rOf_rf, kn_v, kn_0, true_and, and_true, and_self, tin, inA_x, inA_l, ix_add, ix_addl, ix_ladd, ix_mul, ix_mull, ix_lmul, ix_tn, lt_tn, Nat.reduceLeDiff, Nat.reduceLT, Nat.reduceAdd, Nat.reduceMul, true_or, or_true, ↓reduceIte, aOk, ref_null, null_null, false_or, Option.isSome_some, Option.getD_some, ite_true, ite_false, eq_self, not_false_eq_true, not_true_eq_false, m, y1.tg, y1.oc, y1.day, x1.tg]
        refine ca_mono (cx_value x1 e) ?_
        rintro r h2 ⟨rfl, u2⟩
        simp (disch := first | assumption | omega | decide | rfl) only [w_X3_values_39, w_X3_values_40, w_X3_values_41, w_X3_values_44, nl_int, nl_ref, nl_null, nl_un, nl_rf, nl_long, isR_ref, isR_null, isR_rf, rf_some, rf_none, rOf_ref, rOf_null, rOf_rf, kn_v, kn_0, true_and, and_true, and_self, tin, inA_x, inA_l, ix_add, ix_addl, ix_ladd, ix_mul, ix_mull, ix_lmul, ix_tn, lt_tn, Nat.reduceLeDiff, Nat.reduceLT, Nat.reduceAdd, Nat.reduceMul, true_or, or_true, ↓reduceIte, aOk, ref_null, null_null, false_or, Option.isSome_some, Option.getD_some, ite_true, ite_false, eq_self, not_false_eq_true, not_true_eq_false]
        exact nx h2 (by omega) (u.trans u2)
      · have m : (bz (S.testBit j) = 0) = True := by rw [bz_ne]; exact eq_true (by simpa using q)
        rw [if_neg q, Int32.add_zero] at nx
        simp (disch := first | assumption | omega | decide | rfl) only [w_X3_values_23, w_X3_values_41, w_X3_values_44, nl_int, nl_ref, nl_null, nl_un, nl_rf, nl_long, isR_ref, isR_null, isR_rf, rf_some, rf_none, rOf_ref, rOf_null, rOf_rf, kn_v, kn_0, true_and, and_true, and_self, tin, inA_x, inA_l, ix_add, ix_addl, ix_ladd, ix_mul, ix_mull, ix_lmul, ix_tn, lt_tn, Nat.reduceLeDiff, Nat.reduceLT, Nat.reduceAdd, Nat.reduceMul, true_or, or_true, ↓reduceIte, aOk, ref_null, null_null, false_or, Option.isSome_some, Option.getD_some, ite_true, ite_false, eq_self, not_false_eq_true, not_true_eq_false, m]
        exact nx h1 (by omega) u
  rw [e_X3_values]
  simp (disch := first | assumption | omega | decide | rfl) only [w_X3_values_0, w_X3_values_1, w_X3_values_2, w_X3_values_3, nl_int, nl_ref, nl_null, nl_un, nl_rf, nl_long, isR_ref, isR_null, isR_rf, rf_some, rf_none, rOf_ref, rOf_null, rOf_rf, kn_v, kn_0, true_and, and_true, and_self, tin, inA_x, inA_l, ix_add, ix_addl, ix_ladd, ix_mul, ix_mull, ix_lmul, ix_tn, lt_tn, Nat.reduceLeDiff, Nat.reduceLT, Nat.reduceAdd, Nat.reduceMul, true_or, or_true, ↓reduceIte, aOk, ref_null, null_null, false_or, Option.isSome_some, Option.getD_some, ite_true, ite_false, eq_self, not_false_eq_true, not_true_eq_false]
  exact key O.nA 0 h (by omega) Sc.refl
theorem cx_worths (x : XO lo hi h o O) (y : XB lo hi h b o n B) (hS : S < 1024) : Ca (D + 5) 109 [.ref b, .int (ix S)] h Q = Q (.inl (some (.int (su S (fun a => ix (O.wo a)) O.nA)))) h := by
  have n1 := x.wo.nA
  have key : ∀ n j, j + n = O.nA → Ru (D + 4) 109 4 [.ref b, .int (ix S), .int (su S (fun a => ix (O.wo a)) j), .int (ix j)] [] h Q = Q (.inl (some (.int (su S (fun a => ix (O.wo a)) O.nA)))) h := by
    intro n
    induction n with
    | zero =>
      intro j hj
      have ej : j = O.nA := by omega
      subst ej
      have e : ¬ O.nA < O.nA := by omega
      simp (disch := first | assumption | omega | decide | rfl) only [w_X3_worths_4, w_X3_worths_5, w_X3_worths_6, w_X3_worths_9, w_X3_worths_12, w_X3_worths_15, w_X3_worths_52, w_X3_worths_53, nl_int, nl_ref, nl_null, nl_un, nl_rf, nl_long, isR_ref, isR_null, isR_rf, rf_some, rf_none, rOf_ref, rOf_null, rOf_rf, kn_v, kn_0, true_and, and_true, and_self, tin, inA_x, inA_l, ix_add, ix_addl, ix_ladd, ix_mul, ix_mull, ix_lmul, ix_tn, lt_tn, Nat.reduceLeDiff, Nat.reduceLT, Nat.reduceAdd, Nat.reduceMul, true_or, or_true, ↓reduceIte, aOk, ref_null, null_null, false_or, Option.isSome_some, Option.getD_some, ite_true, ite_false, eq_self, not_false_eq_true, not_true_eq_false, y.tg, y.oc, x.tg, x.ap.fr, x.ap.wl.tg, x.ap.size, ix_lt, e]
    | succ n ih =>
      intro j hj
      have e : j < O.nA := by omega
      obtain ⟨-, p1, p2, p3, p4, p5, p6, p7⟩ := x.ap1 j e
      have tm := tg_ap (x.wo.kd j e) p1
      have nx := ih (j + 1) (by omega)
      rw [su] at nx
      rw [w_X3_worths_4]
      simp (disch := first | assumption | omega | decide | rfl) only [w_X3_worths_5, w_X3_worths_6, w_X3_worths_9, w_X3_worths_12, w_X3_worths_15, w_X3_worths_18, w_X3_worths_19, w_X3_worths_20, nl_int, nl_ref, nl_null, nl_un, nl_rf, nl_long, isR_ref, isR_null, isR_rf, rf_some, rf_none, rOf_ref, rOf_null, rOf_rf, kn_v, kn_0, true_and, and_true, and_self, tin, inA_x, inA_l, ix_add, ix_addl, ix_ladd, ix_mul, ix_mull, ix_lmul, ix_tn, lt_tn, Nat.reduceLeDiff, Nat.reduceLT, Nat.reduceAdd, Nat.reduceMul, true_or, or_true, ↓reduceIte, aOk, ref_null, null_null, false_or, Option.isSome_some, Option.getD_some, ite_true, ite_false, eq_self, not_false_eq_true, not_true_eq_false, y.tg, y.oc, x.tg, x.ap.fr, x.ap.wl.tg, x.ap.size, ix_lt, e, c_has hS (show j < 10 by omega)]
      by_cases q : S.testBit j = true
      · have m : (bz (S.testBit j) = 0) = False := by rw [bz_ne]; exact eq_false (by rw [q]; decide)
        rw [if_pos q] at nx
        simp (disch := first | assumption | omega | decide | rfl) only [w_X3_worths_23, w_X3_worths_26, w_X3_worths_27, w_X3_worths_28, w_X3_worths_31, w_X3_worths_34, w_X3_worths_35, w_X3_worths_38, w_X3_worths_41, w_X3_worths_44, w_X3_worths_45, w_X3_worths_46, w_X3_worths_49, nl_int, nl_ref, nl_null, nl_un, nl_rf, nl_long, isR_ref, isR_null, isR_rf, rf_some, rf_none, rOf_ref, rOf_null, rOf_rf, kn_v, kn_0, true_and, and_true, and_self, tin, inA_x, inA_l, ix_add, ix_addl, ix_ladd, ix_mul, ix_mull, ix_lmul, ix_tn, lt_tn, Nat.reduceLeDiff, Nat.reduceLT, Nat.reduceAdd, Nat.reduceMul, true_or, or_true, ↓reduceIte, aOk, ref_null, null_null, false_or, Option.isSome_some, Option.getD_some, ite_true, ite_false, eq_self, not_false_eq_true, not_true_eq_false, m, y.tg, y.oc, x.tg, x.ap.fr, x.ap.wl.tg, x.ap.get e, tm, p6]
        exact nx
      · have m : (bz (S.testBit j) = 0) = True := by rw [bz_ne]; exact eq_true (by simpa using q)
        rw [if_neg q, Int32.add_zero] at nx
        simp (disch := first | assumption | omega | decide | rfl) only [w_X3_worths_23, w_X3_worths_46, w_X3_worths_49, nl_int, nl_ref, nl_null, nl_un, nl_rf, nl_long, isR_ref, isR_null, isR_rf, rf_some, rf_none, rOf_ref, rOf_null, rOf_rf, kn_v, kn_0, true_and, and_true, and_self, tin, inA_x, inA_l, ix_add, ix_addl, ix_ladd, ix_mul, ix_mull, ix_lmul, ix_tn, lt_tn, Nat.reduceLeDiff, Nat.reduceLT, Nat.reduceAdd, Nat.reduceMul, true_or, or_true, ↓reduceIte, aOk, ref_null, null_null, false_or, Option.isSome_some, Option.getD_some, ite_true, ite_false, eq_self, not_false_eq_true, not_true_eq_false, m]
        exact nx
  rw [e_X3_worths]
  simp (disch := first | assumption | omega | decide | rfl) only [w_X3_worths_0, w_X3_worths_1, w_X3_worths_2, w_X3_worths_3, nl_int, nl_ref, nl_null, nl_un, nl_rf, nl_long, isR_ref, isR_null, isR_rf, rf_some, rf_none, rOf_ref, rOf_null, rOf_rf, kn_v, kn_0, true_and, and_true, and_self, tin, inA_x, inA_l, ix_add, ix_addl, ix_ladd, ix_mul, ix_mull, ix_lmul, ix_tn, lt_tn, Nat.reduceLeDiff, Nat.reduceLT, Nat.reduceAdd, Nat.reduceMul, true_or, or_true, ↓reduceIte, aOk, ref_null, null_null, false_or, Option.isSome_some, Option.getD_some, ite_true, ite_false, eq_self, not_false_eq_true, not_true_eq_false]
  exact key O.nA 0 (by omega)
theorem cx_green (x : XO lo hi h o O) (y : XB lo hi h b o n B) (hS : S < 1024) : Ca (D + 5) 108 [.ref b, .int (ix S)] h Q = Q (.inl (some (.int (grF O S B.day)))) h := by
  have n1 := x.wo.nA
  have key : ∀ n j, j + n = O.nA → Ru (D + 4) 108 4 [.ref b, .int (ix S), .int (su S (fun a => if B.day < ix (O.rp a) then 1 else 0) j), .int (ix j)] [] h Q = Q (.inl (some (.int (grF O S B.day)))) h := by
    intro n
    induction n with
    | zero =>
      intro j hj
      have ej : j = O.nA := by omega
      subst ej
      have e : ¬ O.nA < O.nA := by omega
      simp (disch := first | assumption | omega | decide | rfl) only [w_X3_green_4, w_X3_green_5, w_X3_green_6, w_X3_green_9, w_X3_green_12, w_X3_green_15, w_X3_green_59, w_X3_green_60, nl_int, nl_ref, nl_null, nl_un, nl_rf, nl_long, isR_ref, isR_null, isR_rf, rf_some, rf_none, rOf_ref, rOf_null, rOf_rf, kn_v, kn_0, true_and, and_true, and_self, tin, inA_x, inA_l, ix_add, ix_addl, ix_ladd, ix_mul, ix_mull, ix_lmul, ix_tn, lt_tn, Nat.reduceLeDiff, Nat.reduceLT, Nat.reduceAdd, Nat.reduceMul, true_or, or_true, ↓reduceIte, aOk, ref_null, null_null, false_or, Option.isSome_some, Option.getD_some, ite_true, ite_false, eq_self, not_false_eq_true, not_true_eq_false, y.tg, y.oc, x.tg, x.ap.fr, x.ap.wl.tg, x.ap.size, ix_lt, e]
      rfl
    | succ n ih =>
      intro j hj
      have e : j < O.nA := by omega
      obtain ⟨-, p1, p2, p3, p4, p5, p6, p7⟩ := x.ap1 j e
      have tm := tg_ap (x.wo.kd j e) p1
      have nx := ih (j + 1) (by omega)
      rw [su] at nx
      rw [w_X3_green_4]
      simp (disch := first | assumption | omega | decide | rfl) only [w_X3_green_5, w_X3_green_6, w_X3_green_9, w_X3_green_12, w_X3_green_15, w_X3_green_18, w_X3_green_19, w_X3_green_20, nl_int, nl_ref, nl_null, nl_un, nl_rf, nl_long, isR_ref, isR_null, isR_rf, rf_some, rf_none, rOf_ref, rOf_null, rOf_rf, kn_v, kn_0, true_and, and_true, and_self, tin, inA_x, inA_l, ix_add, ix_addl, ix_ladd, ix_mul, ix_mull, ix_lmul, ix_tn, lt_tn, Nat.reduceLeDiff, Nat.reduceLT, Nat.reduceAdd, Nat.reduceMul, true_or, or_true, ↓reduceIte, aOk, ref_null, null_null, false_or, Option.isSome_some, Option.getD_some, ite_true, ite_false, eq_self, not_false_eq_true, not_true_eq_false, y.tg, y.oc, x.tg, x.ap.fr, x.ap.wl.tg, x.ap.size, ix_lt, e, c_has hS (show j < 10 by omega)]
      by_cases q : S.testBit j = true
      · have m : (bz (S.testBit j) = 0) = False := by rw [bz_ne]; exact eq_false (by rw [q]; decide)
        rw [if_pos q] at nx
        by_cases q2 : B.day < ix (O.rp j)
        · rw [if_pos q2] at nx
          simp (disch := first | assumption | omega | decide | rfl) only [w_X3_green_23, w_X3_green_26, w_X3_green_27, w_X3_green_30, w_X3_green_33, w_X3_green_34, w_X3_green_37, w_X3_green_40, w_X3_green_43, w_X3_green_44, w_X3_green_47, w_X3_green_50, w_X3_green_53, w_X3_green_56, nl_int, nl_ref, nl_null, nl_un, nl_rf, nl_long, isR_ref, isR_null, isR_rf, rf_some, rf_none, rOf_ref, rOf_null, rOf_rf, kn_v, kn_0, true_and, and_true, and_self, tin, inA_x, inA_l, ix_add, ix_addl, ix_ladd, ix_mul, ix_mull, ix_lmul, ix_tn, lt_tn, Nat.reduceLeDiff, Nat.reduceLT, Nat.reduceAdd, Nat.reduceMul, true_or, or_true, ↓reduceIte, aOk, ref_null, null_null, false_or, Option.isSome_some, Option.getD_some, ite_true, ite_false, eq_self, not_false_eq_true, not_true_eq_false, m, y.tg, y.oc, y.day, x.tg, x.ap.fr, x.ap.wl.tg, x.ap.get e, tm, p5, q2]
          exact nx
        · rw [if_neg q2, Int32.add_zero] at nx
          simp (disch := first | assumption | omega | decide | rfl) only [w_X3_green_23, w_X3_green_26, w_X3_green_27, w_X3_green_30, w_X3_green_33, w_X3_green_34, w_X3_green_37, w_X3_green_40, w_X3_green_43, w_X3_green_44, w_X3_green_47, w_X3_green_50, w_X3_green_53, w_X3_green_56, nl_int, nl_ref, nl_null, nl_un, nl_rf, nl_long, isR_ref, isR_null, isR_rf, rf_some, rf_none, rOf_ref, rOf_null, rOf_rf, kn_v, kn_0, true_and, and_true, and_self, tin, inA_x, inA_l, ix_add, ix_addl, ix_ladd, ix_mul, ix_mull, ix_lmul, ix_tn, lt_tn, Nat.reduceLeDiff, Nat.reduceLT, Nat.reduceAdd, Nat.reduceMul, true_or, or_true, ↓reduceIte, aOk, ref_null, null_null, false_or, Option.isSome_some, Option.getD_some, ite_true, ite_false, eq_self, not_false_eq_true, not_true_eq_false, m, y.tg, y.oc, y.day, x.tg, x.ap.fr, x.ap.wl.tg, x.ap.get e, tm, p5, q2]
          exact nx
      · have m : (bz (S.testBit j) = 0) = True := by rw [bz_ne]; exact eq_true (by simpa using q)
        rw [if_neg q, Int32.add_zero] at nx
        simp (disch := first | assumption | omega | decide | rfl) only [w_X3_green_23, w_X3_green_53, w_X3_green_56, nl_int, nl_ref, nl_null, nl_un, nl_rf, nl_long, isR_ref, isR_null, isR_rf, rf_some, rf_none, rOf_ref, rOf_null, rOf_rf, kn_v, kn_0, true_and, and_true, and_self, tin, inA_x, inA_l, ix_add, ix_addl, ix_ladd, ix_mul, ix_mull, ix_lmul, ix_tn, lt_tn, Nat.reduceLeDiff, Nat.reduceLT, Nat.reduceAdd, Nat.reduceMul, true_or, or_true, ↓reduceIte, aOk, ref_null, null_null, false_or, Option.isSome_some, Option.getD_some, ite_true, ite_false, eq_self, not_false_eq_true, not_true_eq_false, m]
        exact nx
  rw [e_X3_green]
  simp (disch := first | assumption | omega | decide | rfl) only [w_X3_green_0, w_X3_green_1, w_X3_green_2, w_X3_green_3, nl_int, nl_ref, nl_null, nl_un, nl_rf, nl_long, isR_ref, isR_null, isR_rf, rf_some, rf_none, rOf_ref, rOf_null, rOf_rf, kn_v, kn_0, true_and, and_true, and_self, tin, inA_x, inA_l, ix_add, ix_addl, ix_ladd, ix_mul, ix_mull, ix_lmul, ix_tn, lt_tn, Nat.reduceLeDiff, Nat.reduceLT, Nat.reduceAdd, Nat.reduceMul, true_or, or_true, ↓reduceIte, aOk, ref_null, null_null, false_or, Option.isSome_some, Option.getD_some, ite_true, ite_false, eq_self, not_false_eq_true, not_true_eq_false]
  exact key O.nA 0 (by omega)
theorem wh_lt (wo : WO O) : whF O B.snd s lane loud < 1024 := so_lt wo.nA
theorem ec_lt (wo : WO O) : ecF O B.snd s lane loud < 1024 := so_lt wo.nA
theorem cx_called (x : XO lo hi h o O) (y : XB lo hi h b o O.nA B) (z : WB O B) (hs : s < O.nS) (hl : lane < 12) (hd : loud < 7) : Ca (D + 265) 98 [.ref b, .int (ix lane), .int (ix loud), .int (ix s)] h (fun r h' => r = .inl (some (.int (ix (flF O B s lane loud)))) ∧ Bx b h h' ∧ XB lo hi h' b o O.nA (caF O B s lane loud)) := by
  have hh := z.lt x.wo
  generalize hQ : (fun r h' => r = .inl (some (.int (ix (flF O B s lane loud)))) ∧ Bx b h h' ∧ XB lo hi h' b o O.nA (caF O B s lane loud) : Rs → AH → Prop) = Q
  rw [e_X3_calledBy_2, w_X3_calledBy_2_0, w_X3_calledBy_2_1]
  simp (disch := first | assumption | omega | decide | rfl) only [w_X3_calledBy_2_2, w_X3_calledBy_2_3, w_X3_calledBy_2_4, w_X3_calledBy_2_5, w_X3_calledBy_2_6, nl_int, nl_ref, nl_null, nl_un, nl_rf, nl_long, isR_ref, isR_null, isR_rf, rf_some, rf_none, rOf_ref, rOf_null, rOf_rf, kn_v, kn_0, true_and, and_true, and_self, tin, inA_x, inA_l, ix_add, ix_addl, ix_ladd, ix_mul, ix_mull, ix_lmul, ix_tn, lt_tn, Nat.reduceLeDiff, Nat.reduceLT, Nat.reduceAdd, Nat.reduceMul, true_or, or_true, ↓reduceIte, aOk, ref_null, null_null, false_or, Option.isSome_some, Option.getD_some, ite_true, ite_false, eq_self, not_false_eq_true, not_true_eq_false, y.tg]
  rw [show (Value.int 1) = Value.int (bz true) from rfl]
  refine ca_mono (cx_heard x y z hs hl hd true) ?_
  rintro r h1 ⟨rfl, u1⟩
  rw [kn_v, if_pos rfl]
  have x1 := u1.xo x
  have y1 := u1.xb y
  simp (disch := first | assumption | omega | decide | rfl) only [w_X3_calledBy_2_9, w_X3_calledBy_2_10, w_X3_calledBy_2_11, w_X3_calledBy_2_12, w_X3_calledBy_2_13, w_X3_calledBy_2_14, nl_int, nl_ref, nl_null, nl_un, nl_rf, nl_long, isR_ref, isR_null, isR_rf, rf_some, rf_none, rOf_ref, rOf_null, rOf_rf, kn_v, kn_0, true_and, and_true, and_self, tin, inA_x, inA_l, ix_add, ix_addl, ix_ladd, ix_mul, ix_mull, ix_lmul, ix_tn, lt_tn, Nat.reduceLeDiff, Nat.reduceLT, Nat.reduceAdd, Nat.reduceMul, true_or, or_true, ↓reduceIte, aOk, ref_null, null_null, false_or, Option.isSome_some, Option.getD_some, ite_true, ite_false, eq_self, not_false_eq_true, not_true_eq_false, y1.tg]
  rw [show (Value.int 0) = Value.int (bz false) from rfl]
  refine ca_mono (cx_heard x1 y1 z hs hl hd false) ?_
  rintro r h2 ⟨rfl, u2⟩
  rw [kn_v, if_neg (by decide)]
  have x2 := u2.xo x1
  have y2 := u2.xb y1
  simp (disch := first | assumption | omega | decide | rfl) only [w_X3_calledBy_2_17, nl_int, nl_ref, nl_null, nl_un, nl_rf, nl_long, isR_ref, isR_null, isR_rf, rf_some, rf_none, rOf_ref, rOf_null, rOf_rf, kn_v, kn_0, true_and, and_true, and_self, tin, inA_x, inA_l, ix_add, ix_addl, ix_ladd, ix_mul, ix_mull, ix_lmul, ix_tn, lt_tn, Nat.reduceLeDiff, Nat.reduceLT, Nat.reduceAdd, Nat.reduceMul, true_or, or_true, ↓reduceIte, aOk, ref_null, null_null, false_or, Option.isSome_some, Option.getD_some, ite_true, ite_false, eq_self, not_false_eq_true, not_true_eq_false, y2.tg]
  refine ca_mono (cx_falls x2 y2 z (wh_lt x.wo) (ec_lt x.wo)) ?_
  rintro r h3 ⟨rfl, u3, y3⟩
  have x3 := y2.xo x2 u3
  have hfl : flF O B s lane loud < 1024 := faF_lt hh
  have f3 : Fi h3 30 b = B.had := y3.had
  simp (disch := first | assumption | omega | decide | rfl) only [w_X3_calledBy_2_20, w_X3_calledBy_2_22, w_X3_calledBy_2_23, w_X3_calledBy_2_24, w_X3_calledBy_2_27, w_X3_calledBy_2_28, w_X3_calledBy_2_30, nl_int, nl_ref, nl_null, nl_un, nl_rf, nl_long, isR_ref, isR_null, isR_rf, rf_some, rf_none, rOf_ref, rOf_null, rOf_rf, kn_v, kn_0, true_and, and_true, and_self, tin, inA_x, inA_l, ix_add, ix_addl, ix_ladd, ix_mul, ix_mull, ix_lmul, ix_tn, lt_tn, Nat.reduceLeDiff, Nat.reduceLT, Nat.reduceAdd, Nat.reduceMul, true_or, or_true, ↓reduceIte, aOk, ref_null, null_null, false_or, Option.isSome_some, Option.getD_some, ite_true, ite_false, eq_self, not_false_eq_true, not_true_eq_false, y3.tg, f3]
  refine ca_mono (cx_values x3 y3 hfl) ?_
  rintro r h4 ⟨rfl, u4⟩
  have y4 := u4.xb y3
  rw [← hQ]
  simp (disch := first | assumption | omega | decide | rfl) only [w_X3_calledBy_2_33, w_X3_calledBy_2_34, w_X3_calledBy_2_37, w_X3_calledBy_2_39, nl_int, nl_ref, nl_null, nl_un, nl_rf, nl_long, isR_ref, isR_null, isR_rf, rf_some, rf_none, rOf_ref, rOf_null, rOf_rf, kn_v, kn_0, true_and, and_true, and_self, tin, inA_x, inA_l, ix_add, ix_addl, ix_ladd, ix_mul, ix_mull, ix_lmul, ix_tn, lt_tn, Nat.reduceLeDiff, Nat.reduceLT, Nat.reduceAdd, Nat.reduceMul, true_or, or_true, ↓reduceIte, aOk, ref_null, null_null, false_or, Option.isSome_some, Option.getD_some, ite_true, ite_false, eq_self, not_false_eq_true, not_true_eq_false, y4.tg]
  refine ⟨rfl, ((((Sc.bx u1).trans (Sc.bx u2)).trans u3).trans (Sc.bx u4)).trans bx_fi, ?_⟩
  exact xb_had y4
theorem cx_calledP (x : XO lo hi h o O) (y : XB lo hi h b o O.nA B) (z : WB O B) (hs : s < O.nS) (hp : p < O.nP) : Ca (D + 266) 97 [.ref b, .int (ix p), .int (ix s)] h (fun r h' => r = .inl (some (.int (ix (flF O B s (O.ln p) (O.ld p))))) ∧ Bx b h h' ∧ XB lo hi h' b o O.nA (caF O B s (O.ln p) (O.ld p))) := by
  obtain ⟨-, p1, p2, p3, p4⟩ := x.pe1 p hp
  rw [e_X3_calledBy, w_X3_calledBy_0]
  simp (disch := first | assumption | omega | decide | rfl) only [w_X3_calledBy_1, w_X3_calledBy_2, w_X3_calledBy_5, w_X3_calledBy_8, w_X3_calledBy_9, w_X3_calledBy_12, w_X3_calledBy_15, w_X3_calledBy_18, w_X3_calledBy_19, w_X3_calledBy_22, w_X3_calledBy_25, w_X3_calledBy_26, w_X3_calledBy_29, w_X3_calledBy_32, w_X3_calledBy_35, w_X3_calledBy_36, nl_int, nl_ref, nl_null, nl_un, nl_rf, nl_long, isR_ref, isR_null, isR_rf, rf_some, rf_none, rOf_ref, rOf_null, rOf_rf, kn_v, kn_0, true_and, and_true, and_self, tin, inA_x, inA_l, ix_add, ix_addl, ix_ladd, ix_mul, ix_mull, ix_lmul, ix_tn, lt_tn, Nat.reduceLeDiff, Nat.reduceLT, Nat.reduceAdd, Nat.reduceMul, true_or, or_true, ↓reduceIte, aOk, ref_null, null_null, false_or, Option.isSome_some, Option.getD_some, ite_true, ite_false, eq_self, not_false_eq_true, not_true_eq_false, y.tg, y.oc, x.tg, x.pe.fr, x.pe.wl.tg, x.pe.get hp, p1, p2, p3]
  refine ca_mono (cx_called x y z hs (x.wo.ln p hp) (x.wo.ld p hp)) ?_
  rintro r h4 ⟨rfl, u4, y4⟩
  simp (disch := first | assumption | omega | decide | rfl) only [w_X3_calledBy_39, nl_int, nl_ref, nl_null, nl_un, nl_rf, nl_long, isR_ref, isR_null, isR_rf, rf_some, rf_none, rOf_ref, rOf_null, rOf_rf, kn_v, kn_0, true_and, and_true, and_self, tin, inA_x, inA_l, ix_add, ix_addl, ix_ladd, ix_mul, ix_mull, ix_lmul, ix_tn, lt_tn, Nat.reduceLeDiff, Nat.reduceLT, Nat.reduceAdd, Nat.reduceMul, true_or, or_true, ↓reduceIte, aOk, ref_null, null_null, false_or, Option.isSome_some, Option.getD_some, ite_true, ite_false, eq_self, not_false_eq_true, not_true_eq_false]
  exact ⟨u4, y4⟩
theorem cx_picks (x : XO lo hi h o O) (y : XB lo hi h b o O.nA B) (ha : a < O.nA) : Ca (D + 255) 104 [.ref b, .int (ix a)] h (fun r h' => r = .inl (some (.int (vaF O a B.day))) ∧ Bx b h h' ∧ XB lo hi h' b o O.nA (piF O B a)) := by
  have n1 := x.wo.nA
  have e1 := ix_one (k := a) (by omega)
  rw [e_X3_picks]
  simp (disch := first | assumption | omega | decide | rfl) only [w_X3_picks_0, w_X3_picks_1, w_X3_picks_2, w_X3_picks_5, w_X3_picks_6, w_X3_picks_7, w_X3_picks_8, w_X3_picks_9, w_X3_picks_10, w_X3_picks_11, w_X3_picks_14, w_X3_picks_15, w_X3_picks_16, w_X3_picks_19, w_X3_picks_20, w_X3_picks_21, w_X3_picks_22, w_X3_picks_23, w_X3_picks_24, w_X3_picks_25, w_X3_picks_28, w_X3_picks_29, w_X3_picks_30, nl_int, nl_ref, nl_null, nl_un, nl_rf, nl_long, isR_ref, isR_null, isR_rf, rf_some, rf_none, rOf_ref, rOf_null, rOf_rf, kn_v, kn_0, true_and, and_true, and_self, tin, inA_x, inA_l, ix_add, ix_addl, ix_ladd, ix_mul, ix_mull, ix_lmul, ix_tn, lt_tn, Nat.reduceLeDiff, Nat.reduceLT, Nat.reduceAdd, Nat.reduceMul, true_or, or_true, ↓reduceIte, aOk, ref_null, null_null, false_or, Option.isSome_some, Option.getD_some, ite_true, ite_false, eq_self, not_false_eq_true, not_true_eq_false, Tg_sFi, Tg_sFl, Tg_sFr, Tg_sAi, Tg_sAl, Tg_sAr, An_sFi, An_sFl, An_sFr, An_sAi, An_sAl, An_sAr, Fi_sFl, Fi_sFr, Fi_sAi, Fi_sAl, Fi_sAr, Fl_sFi, Fl_sFr, Fl_sAi, Fl_sAl, Fl_sAr, Fr_sFi, Fr_sFl, Fr_sAi, Fr_sAl, Fr_sAr, Ai_sFi, Ai_sFl, Ai_sFr, Ai_sAl, Ai_sAr, Al_sFi, Al_sFl, Al_sFr, Al_sAi, Al_sAr, Ar_sFi, Ar_sFl, Ar_sFr, Ar_sAi, Ar_sAl, Fi_same, Fl_same, Fr_same, Ai_same, Al_same, Ar_same, Fi_otherf, Fl_otherf, Fr_otherf, y.tg, y.hang, y.loose, e1, ix_sd]
  have u1 : Bx b h (sFi (sFi (sFi h 26 b (ix (sd B.hang (2 ^ a)))) 27 b (ix (sd B.loose (2 ^ a)))) 31 b 1) := (bx_fi.trans bx_fi).trans bx_fi
  have y1 := xb_pk (q := true) (xb_loose (x' := sd B.loose (2 ^ a)) (xb_hang (x' := sd B.hang (2 ^ a)) y))
  rw [show bz true = 1 from rfl] at y1
  revert u1 y1
  generalize sFi (sFi (sFi h 26 b (ix (sd B.hang (2 ^ a)))) 27 b (ix (sd B.loose (2 ^ a)))) 31 b 1 = h1
  intro u1 y1
  have x1 := y.xo x u1
  have f2 : Fi h1 29 b = B.day := y1.day
  simp (disch := first | assumption | omega | decide | rfl) only [w_X3_picks_33, w_X3_picks_34, w_X3_picks_37, w_X3_picks_38, w_X3_picks_39, w_X3_picks_42, nl_int, nl_ref, nl_null, nl_un, nl_rf, nl_long, isR_ref, isR_null, isR_rf, rf_some, rf_none, rOf_ref, rOf_null, rOf_rf, kn_v, kn_0, true_and, and_true, and_self, tin, inA_x, inA_l, ix_add, ix_addl, ix_ladd, ix_mul, ix_mull, ix_lmul, ix_tn, lt_tn, Nat.reduceLeDiff, Nat.reduceLT, Nat.reduceAdd, Nat.reduceMul, true_or, or_true, ↓reduceIte, aOk, ref_null, null_null, false_or, Option.isSome_some, Option.getD_some, ite_true, ite_false, eq_self, not_false_eq_true, not_true_eq_false, y1.tg, y1.oc, x1.tg, f2]
  refine ca_mono (cx_value x1 ha) ?_
  rintro r h2 ⟨rfl, u2⟩
  have y2 := u2.xb y1
  have f3 : Fi h2 30 b = B.had := y2.had
  simp (disch := first | assumption | omega | decide | rfl) only [w_X3_picks_45, w_X3_picks_46, w_X3_picks_47, w_X3_picks_48, w_X3_picks_51, w_X3_picks_52, w_X3_picks_53, w_X3_picks_56, w_X3_picks_57, nl_int, nl_ref, nl_null, nl_un, nl_rf, nl_long, isR_ref, isR_null, isR_rf, rf_some, rf_none, rOf_ref, rOf_null, rOf_rf, kn_v, kn_0, true_and, and_true, and_self, tin, inA_x, inA_l, ix_add, ix_addl, ix_ladd, ix_mul, ix_mull, ix_lmul, ix_tn, lt_tn, Nat.reduceLeDiff, Nat.reduceLT, Nat.reduceAdd, Nat.reduceMul, true_or, or_true, ↓reduceIte, aOk, ref_null, null_null, false_or, Option.isSome_some, Option.getD_some, ite_true, ite_false, eq_self, not_false_eq_true, not_true_eq_false, y2.tg, f3]
  exact ⟨(u1.trans (Sc.bx u2)).trans bx_fi, xb_had y2⟩
theorem cx_passes (y : XB lo hi h b o n B) : Ca (D + 1) 107 [.ref b] h (fun r h' => r = .inl none ∧ Bx b h h' ∧ XB lo hi h' b o n (paF B)) := by
  rw [e_X3_passes]
  simp (disch := first | assumption | omega | decide | rfl) only [w_X3_passes_0, w_X3_passes_1, w_X3_passes_2, w_X3_passes_5, w_X3_passes_6, w_X3_passes_7, w_X3_passes_10, w_X3_passes_11, w_X3_passes_12, w_X3_passes_15, nl_int, nl_ref, nl_null, nl_un, nl_rf, nl_long, isR_ref, isR_null, isR_rf, rf_some, rf_none, rOf_ref, rOf_null, rOf_rf, kn_v, kn_0, true_and, and_true, and_self, tin, inA_x, inA_l, ix_add, ix_addl, ix_ladd, ix_mul, ix_mull, ix_lmul, ix_tn, lt_tn, Nat.reduceLeDiff, Nat.reduceLT, Nat.reduceAdd, Nat.reduceMul, true_or, or_true, ↓reduceIte, aOk, ref_null, null_null, false_or, Option.isSome_some, Option.getD_some, ite_true, ite_false, eq_self, not_false_eq_true, not_true_eq_false, Tg_sFi, Tg_sFl, Tg_sFr, Tg_sAi, Tg_sAl, Tg_sAr, An_sFi, An_sFl, An_sFr, An_sAi, An_sAl, An_sAr, Fi_sFl, Fi_sFr, Fi_sAi, Fi_sAl, Fi_sAr, Fl_sFi, Fl_sFr, Fl_sAi, Fl_sAl, Fl_sAr, Fr_sFi, Fr_sFl, Fr_sAi, Fr_sAl, Fr_sAr, Ai_sFi, Ai_sFl, Ai_sFr, Ai_sAl, Ai_sAr, Al_sFi, Al_sFl, Al_sFr, Al_sAi, Al_sAr, Ar_sFi, Ar_sFl, Ar_sFr, Ar_sAi, Ar_sAl, Fi_same, Fl_same, Fr_same, Ai_same, Al_same, Ar_same, Fi_otherf, Fl_otherf, Fr_otherf, y.tg, y.day]
  have y1 := xb_pk (q := false) (xb_day (v := B.day + 1) y)
  exact ⟨bx_fi.trans bx_fi, y1⟩
theorem cx_isFree (x : XO lo hi h o O) (y : XB lo hi h b o O.nA B) (z : WB O B) (hs : s < O.nS) (ha : a < O.nA) : Ca (D + 3) 106 [.ref b, .int (ix a), .int (ix s)] h Q = Q (.inl (some (.int (bz (frF O.nA B a s))))) h := by
  have n1 := x.wo.nA
  have n2 := x.wo.nS
  have hh := z.lt x.wo
  have key : ∀ n j, j + n = O.nA → Ru (D + 2) 106 2 [.ref b, .int (ix a), .int (ix s), .int (ix j)] [] h Q = Q (.inl (some (.int (bz (!(anyb (fun e => !decide (e = a) && B.hang.testBit e && decide (B.snd e = s)) n j)))))) h := by
    intro n
    induction n with
    | zero =>
      intro j hj
      have e : ¬ j < O.nA := by omega
      simp (disch := first | assumption | omega | decide | rfl) only [w_X3_isFree_2, w_X3_isFree_3, w_X3_isFree_4, w_X3_isFree_7, w_X3_isFree_10, w_X3_isFree_13, w_X3_isFree_47, w_X3_isFree_48, nl_int, nl_ref, nl_null, nl_un, nl_rf, nl_long, isR_ref, isR_null, isR_rf, rf_some, rf_none, rOf_ref, rOf_null, rOf_rf, kn_v, kn_0, true_and, and_true, and_self, tin, inA_x, inA_l, ix_add, ix_addl, ix_ladd, ix_mul, ix_mull, ix_lmul, ix_tn, lt_tn, Nat.reduceLeDiff, Nat.reduceLT, Nat.reduceAdd, Nat.reduceMul, true_or, or_true, ↓reduceIte, aOk, ref_null, null_null, false_or, Option.isSome_some, Option.getD_some, ite_true, ite_false, eq_self, not_false_eq_true, not_true_eq_false, y.tg, y.oc, x.tg, x.ap.fr, x.ap.wl.tg, x.ap.size, ix_lt, e]
      rfl
    | succ n ih =>
      intro j hj
      have e : j < O.nA := by omega
      have b1 := z.snd j e
      have g6j := y.snd j e
      have nxt : Ru (D + 2) 106 41 [.ref b, .int (ix a), .int (ix s), .int (ix j)] [] h Q = Q (.inl (some (.int (bz (!(anyb (fun e => !decide (e = a) && B.hang.testBit e && decide (B.snd e = s)) n (j + 1))))))) h := by
        simp (disch := first | assumption | omega | decide | rfl) only [w_X3_isFree_41, w_X3_isFree_44, nl_int, nl_ref, nl_null, nl_un, nl_rf, nl_long, isR_ref, isR_null, isR_rf, rf_some, rf_none, rOf_ref, rOf_null, rOf_rf, kn_v, kn_0, true_and, and_true, and_self, tin, inA_x, inA_l, ix_add, ix_addl, ix_ladd, ix_mul, ix_mull, ix_lmul, ix_tn, lt_tn, Nat.reduceLeDiff, Nat.reduceLT, Nat.reduceAdd, Nat.reduceMul, true_or, or_true, ↓reduceIte, aOk, ref_null, null_null, false_or, Option.isSome_some, Option.getD_some, ite_true, ite_false, eq_self, not_false_eq_true, not_true_eq_false]
        exact ih (j + 1) (by omega)
      rw [w_X3_isFree_2, anyb]
      by_cases q1 : j = a
      · have e1 : (ix j = ix a) = True := by rw [ix_eq (by omega) (by omega)]; exact eq_true q1
        simp (disch := first | assumption | omega | decide | rfl) only [w_X3_isFree_3, w_X3_isFree_4, w_X3_isFree_7, w_X3_isFree_10, w_X3_isFree_13, w_X3_isFree_16, w_X3_isFree_17, w_X3_isFree_18, nl_int, nl_ref, nl_null, nl_un, nl_rf, nl_long, isR_ref, isR_null, isR_rf, rf_some, rf_none, rOf_ref, rOf_null, rOf_rf, kn_v, kn_0, true_and, and_true, and_self, tin, inA_x, inA_l, ix_add, ix_addl, ix_ladd, ix_mul, ix_mull, ix_lmul, ix_tn, lt_tn, Nat.reduceLeDiff, Nat.reduceLT, Nat.reduceAdd, Nat.reduceMul, true_or, or_true, ↓reduceIte, aOk, ref_null, null_null, false_or, Option.isSome_some, Option.getD_some, ite_true, ite_false, eq_self, not_false_eq_true, not_true_eq_false, y.tg, y.oc, x.tg, x.ap.fr, x.ap.wl.tg, x.ap.size, ix_lt, e, e1]
        rw [nxt]
        simp [q1]
      · have e1 : (ix j = ix a) = False := by rw [ix_eq (by omega) (by omega)]; exact eq_false q1
        simp (disch := first | assumption | omega | decide | rfl) only [w_X3_isFree_3, w_X3_isFree_4, w_X3_isFree_7, w_X3_isFree_10, w_X3_isFree_13, w_X3_isFree_16, w_X3_isFree_17, w_X3_isFree_18, w_X3_isFree_21, w_X3_isFree_22, w_X3_isFree_23, nl_int, nl_ref, nl_null, nl_un, nl_rf, nl_long, isR_ref, isR_null, isR_rf, rf_some, rf_none, rOf_ref, rOf_null, rOf_rf, kn_v, kn_0, true_and, and_true, and_self, tin, inA_x, inA_l, ix_add, ix_addl, ix_ladd, ix_mul, ix_mull, ix_lmul, ix_tn, lt_tn, Nat.reduceLeDiff, Nat.reduceLT, Nat.reduceAdd, Nat.reduceMul, true_or, or_true, ↓reduceIte, aOk, ref_null, null_null, false_or, Option.isSome_some, Option.getD_some, ite_true, ite_false, eq_self, not_false_eq_true, not_true_eq_false, y.tg, y.oc, x.tg, x.ap.fr, x.ap.wl.tg, x.ap.size, ix_lt, e, e1]
        rw [cx_hangs y hh (by omega), kn_v]
        by_cases q2 : B.hang.testBit j = true
        · have e2 : (bz (B.hang.testBit j) = 0) = False := by rw [bz_ne]; exact eq_false (by rw [q2]; decide)
          by_cases q3 : B.snd j = s
          · have e3 : (ix (B.snd j) = ix s) = True := by rw [q3]; exact eq_true rfl
            simp (disch := first | assumption | omega | decide | rfl) only [w_X3_isFree_26, w_X3_isFree_29, w_X3_isFree_30, w_X3_isFree_33, w_X3_isFree_34, w_X3_isFree_35, w_X3_isFree_36, w_X3_isFree_39, w_X3_isFree_40, nl_int, nl_ref, nl_null, nl_un, nl_rf, nl_long, isR_ref, isR_null, isR_rf, rf_some, rf_none, rOf_ref, rOf_null, rOf_rf, kn_v, kn_0, true_and, and_true, and_self, tin, inA_x, inA_l, ix_add, ix_addl, ix_ladd, ix_mul, ix_mull, ix_lmul, ix_tn, lt_tn, Nat.reduceLeDiff, Nat.reduceLT, Nat.reduceAdd, Nat.reduceMul, true_or, or_true, ↓reduceIte, aOk, ref_null, null_null, false_or, Option.isSome_some, Option.getD_some, ite_true, ite_false, eq_self, not_false_eq_true, not_true_eq_false, y.tg, y.sd, y.ta, y.an, e2, e3, g6j]
            simp [q1, q2, q3, bz]
          · have e3 : (ix (B.snd j) = ix s) = False := by rw [ix_eq (by omega) (by omega)]; exact eq_false q3
            simp (disch := first | assumption | omega | decide | rfl) only [w_X3_isFree_26, w_X3_isFree_29, w_X3_isFree_30, w_X3_isFree_33, w_X3_isFree_34, w_X3_isFree_35, w_X3_isFree_36, nl_int, nl_ref, nl_null, nl_un, nl_rf, nl_long, isR_ref, isR_null, isR_rf, rf_some, rf_none, rOf_ref, rOf_null, rOf_rf, kn_v, kn_0, true_and, and_true, and_self, tin, inA_x, inA_l, ix_add, ix_addl, ix_ladd, ix_mul, ix_mull, ix_lmul, ix_tn, lt_tn, Nat.reduceLeDiff, Nat.reduceLT, Nat.reduceAdd, Nat.reduceMul, true_or, or_true, ↓reduceIte, aOk, ref_null, null_null, false_or, Option.isSome_some, Option.getD_some, ite_true, ite_false, eq_self, not_false_eq_true, not_true_eq_false, y.tg, y.sd, y.ta, y.an, e2, e3, g6j]
            rw [nxt]
            simp [q3]
        · have e2 : (bz (B.hang.testBit j) = 0) = True := by rw [bz_ne]; exact eq_true (by simpa using q2)
          simp (disch := first | assumption | omega | decide | rfl) only [w_X3_isFree_26, nl_int, nl_ref, nl_null, nl_un, nl_rf, nl_long, isR_ref, isR_null, isR_rf, rf_some, rf_none, rOf_ref, rOf_null, rOf_rf, kn_v, kn_0, true_and, and_true, and_self, tin, inA_x, inA_l, ix_add, ix_addl, ix_ladd, ix_mul, ix_mull, ix_lmul, ix_tn, lt_tn, Nat.reduceLeDiff, Nat.reduceLT, Nat.reduceAdd, Nat.reduceMul, true_or, or_true, ↓reduceIte, aOk, ref_null, null_null, false_or, Option.isSome_some, Option.getD_some, ite_true, ite_false, eq_self, not_false_eq_true, not_true_eq_false, e2]
          rw [nxt]
          simp [q2]
  rw [e_X3_isFree]
  simp (disch := first | assumption | omega | decide | rfl) only [w_X3_isFree_0, w_X3_isFree_1, nl_int, nl_ref, nl_null, nl_un, nl_rf, nl_long, isR_ref, isR_null, isR_rf, rf_some, rf_none, rOf_ref, rOf_null, rOf_rf, kn_v, kn_0, true_and, and_true, and_self, tin, inA_x, inA_l, ix_add, ix_addl, ix_ladd, ix_mul, ix_mull, ix_lmul, ix_tn, lt_tn, Nat.reduceLeDiff, Nat.reduceLT, Nat.reduceAdd, Nat.reduceMul, true_or, or_true, ↓reduceIte, aOk, ref_null, null_null, false_or, Option.isSome_some, Option.getD_some, ite_true, ite_false, eq_self, not_false_eq_true, not_true_eq_false]
  exact key O.nA 0 (by omega)
end
