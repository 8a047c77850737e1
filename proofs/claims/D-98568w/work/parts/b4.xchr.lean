/-! BOUGHS as objects: whether one may be christened -/
set_option maxRecDepth 100000
section
variable {lo hi d D o a b s n : Nat} {h : AH} {O : Oc} {B : Bo} {Q : Rs → AH → Prop}
theorem cx_mayChristen (x : XO lo hi h o O) (y : XB lo hi h b o O.nA B) (z : WB O B) (hs : s < O.nS) (ha : a < O.nA) : Ca (D + 6) 105 [.ref b, .int (ix a), .int (ix s)] h Q = Q (.inl (some (.int (bz (B.hang.testBit a && decide (B.day < ix (O.rp a)) && !decide (B.snd a = s) && frF O.nA B a s))))) h := by
  have n1 := x.wo.nA
  have n2 := x.wo.nS
  have hh := z.lt x.wo
  obtain ⟨-, p1, p2, p3, p4, p5, p6, p7⟩ := x.ap1 a ha
  have tm := tg_ap (x.wo.kd a ha) p1
  have g6 := y.snd a ha
  have b6 := z.snd a ha
  rw [e_X3_mayChristen]
  simp (disch := first | assumption | omega | decide | rfl) only [w_X3_mayChristen_0, w_X3_mayChristen_1, w_X3_mayChristen_2, cx_hangs y hh (show a < 10 by omega), y.tg, nl_int, nl_ref, nl_null, nl_un, nl_rf, nl_long, isR_ref, isR_null, isR_rf, rf_some, rf_none, rOf_ref, rOf_null, rOf_rf, kn_v, kn_0, true_and, and_true, and_self, tin, inA_x, inA_l, ix_add, ix_addl, ix_ladd, ix_mul, ix_mull, ix_lmul, ix_tn, lt_tn, Nat.reduceLeDiff, Nat.reduceLT, Nat.reduceAdd, Nat.reduceMul, true_or, or_true, ↓reduceIte, aOk, ref_null, null_null, false_or, Option.isSome_some, Option.getD_some, ite_true, ite_false, eq_self, not_false_eq_true, not_true_eq_false]
  by_cases q3 : B.hang.testBit a = true
  · have d3 : (bz (B.hang.testBit a) = 0) = False := by rw [bz_ne]; exact eq_false (by rw [q3]; decide)
    by_cases q4 : B.day < ix (O.rp a)
    · by_cases q5 : B.snd a = s
      · have d5 : (ix (B.snd a) = ix s) = True := by rw [q5]; exact eq_true rfl
        simp (disch := first | assumption | omega | decide | rfl) only [w_X3_mayChristen_5, w_X3_mayChristen_8, w_X3_mayChristen_9, w_X3_mayChristen_12, w_X3_mayChristen_15, w_X3_mayChristen_16, w_X3_mayChristen_19, w_X3_mayChristen_22, w_X3_mayChristen_25, w_X3_mayChristen_26, w_X3_mayChristen_29, w_X3_mayChristen_32, w_X3_mayChristen_33, w_X3_mayChristen_36, w_X3_mayChristen_37, w_X3_mayChristen_38, w_X3_mayChristen_39, w_X3_mayChristen_55, w_X3_mayChristen_56, nl_int, nl_ref, nl_null, nl_un, nl_rf, nl_long, isR_ref, isR_null, isR_rf, rf_some, rf_none, rOf_ref, rOf_null, rOf_rf, kn_v, kn_0, true_and, and_true, and_self, tin, inA_x, inA_l, ix_add, ix_addl, ix_ladd, ix_mul, ix_mull, ix_lmul, ix_tn, lt_tn, Nat.reduceLeDiff, Nat.reduceLT, Nat.reduceAdd, Nat.reduceMul, true_or, or_true, ↓reduceIte, aOk, ref_null, null_null, false_or, Option.isSome_some, Option.getD_some, ite_true, ite_false, eq_self, not_false_eq_true, not_true_eq_false, d3, q4, d5, g6, y.tg, y.oc, y.day, y.sd, y.ta, y.an, x.tg, x.ap.fr, x.ap.wl.tg, x.ap.get ha, tm, p5]
        simp [q5, bz]
      · have d5 : (ix (B.snd a) = ix s) = False := by rw [ix_eq (by omega) (by omega)]; exact eq_false q5
        simp (disch := first | assumption | omega | decide | rfl) only [w_X3_mayChristen_5, w_X3_mayChristen_8, w_X3_mayChristen_9, w_X3_mayChristen_12, w_X3_mayChristen_15, w_X3_mayChristen_16, w_X3_mayChristen_19, w_X3_mayChristen_22, w_X3_mayChristen_25, w_X3_mayChristen_26, w_X3_mayChristen_29, w_X3_mayChristen_32, w_X3_mayChristen_33, w_X3_mayChristen_36, w_X3_mayChristen_37, w_X3_mayChristen_38, w_X3_mayChristen_39, w_X3_mayChristen_42, w_X3_mayChristen_43, w_X3_mayChristen_44, w_X3_mayChristen_45, nl_int, nl_ref, nl_null, nl_un, nl_rf, nl_long, isR_ref, isR_null, isR_rf, rf_some, rf_none, rOf_ref, rOf_null, rOf_rf, kn_v, kn_0, true_and, and_true, and_self, tin, inA_x, inA_l, ix_add, ix_addl, ix_ladd, ix_mul, ix_mull, ix_lmul, ix_tn, lt_tn, Nat.reduceLeDiff, Nat.reduceLT, Nat.reduceAdd, Nat.reduceMul, true_or, or_true, ↓reduceIte, aOk, ref_null, null_null, false_or, Option.isSome_some, Option.getD_some, ite_true, ite_false, eq_self, not_false_eq_true, not_true_eq_false, d3, q4, d5, g6, y.tg, y.oc, y.day, y.sd, y.ta, y.an, x.tg, x.ap.fr, x.ap.wl.tg, x.ap.get ha, tm, p5, cx_isFree x y z hs ha]
        cases e : frF O.nA B a s with
        | true =>
          have d6 : (bz true = 0) = False := eq_false (by decide)
          simp (disch := first | assumption | omega | decide | rfl) only [w_X3_mayChristen_48, w_X3_mayChristen_51, w_X3_mayChristen_52, w_X3_mayChristen_55, w_X3_mayChristen_56, nl_int, nl_ref, nl_null, nl_un, nl_rf, nl_long, isR_ref, isR_null, isR_rf, rf_some, rf_none, rOf_ref, rOf_null, rOf_rf, kn_v, kn_0, true_and, and_true, and_self, tin, inA_x, inA_l, ix_add, ix_addl, ix_ladd, ix_mul, ix_mull, ix_lmul, ix_tn, lt_tn, Nat.reduceLeDiff, Nat.reduceLT, Nat.reduceAdd, Nat.reduceMul, true_or, or_true, ↓reduceIte, aOk, ref_null, null_null, false_or, Option.isSome_some, Option.getD_some, ite_true, ite_false, eq_self, not_false_eq_true, not_true_eq_false, d6]
          simp [q3, q4, q5, bz]
        | false =>
          have d6 : (bz false = 0) = True := eq_true rfl
          simp (disch := first | assumption | omega | decide | rfl) only [w_X3_mayChristen_48, w_X3_mayChristen_51, w_X3_mayChristen_52, w_X3_mayChristen_55, w_X3_mayChristen_56, nl_int, nl_ref, nl_null, nl_un, nl_rf, nl_long, isR_ref, isR_null, isR_rf, rf_some, rf_none, rOf_ref, rOf_null, rOf_rf, kn_v, kn_0, true_and, and_true, and_self, tin, inA_x, inA_l, ix_add, ix_addl, ix_ladd, ix_mul, ix_mull, ix_lmul, ix_tn, lt_tn, Nat.reduceLeDiff, Nat.reduceLT, Nat.reduceAdd, Nat.reduceMul, true_or, or_true, ↓reduceIte, aOk, ref_null, null_null, false_or, Option.isSome_some, Option.getD_some, ite_true, ite_false, eq_self, not_false_eq_true, not_true_eq_false, d6]
          simp [bz]
    · simp (disch := first | assumption | omega | decide | rfl) only [w_X3_mayChristen_5, w_X3_mayChristen_8, w_X3_mayChristen_9, w_X3_mayChristen_12, w_X3_mayChristen_15, w_X3_mayChristen_16, w_X3_mayChristen_19, w_X3_mayChristen_22, w_X3_mayChristen_25, w_X3_mayChristen_26, w_X3_mayChristen_29, w_X3_mayChristen_55, w_X3_mayChristen_56, nl_int, nl_ref, nl_null, nl_un, nl_rf, nl_long, isR_ref, isR_null, isR_rf, rf_some, rf_none, rOf_ref, rOf_null, rOf_rf, kn_v, kn_0, true_and, and_true, and_self, tin, inA_x, inA_l, ix_add, ix_addl, ix_ladd, ix_mul, ix_mull, ix_lmul, ix_tn, lt_tn, Nat.reduceLeDiff, Nat.reduceLT, Nat.reduceAdd, Nat.reduceMul, true_or, or_true, ↓reduceIte, aOk, ref_null, null_null, false_or, Option.isSome_some, Option.getD_some, ite_true, ite_false, eq_self, not_false_eq_true, not_true_eq_false, d3, q4, y.tg, y.oc, y.day, x.tg, x.ap.fr, x.ap.wl.tg, x.ap.get ha, tm, p5]
      simp [q4, bz]
  · have d3 : (bz (B.hang.testBit a) = 0) = True := by rw [bz_ne]; exact eq_true (Bool.not_eq_true _ ▸ q3)
    simp (disch := first | assumption | omega | decide | rfl) only [w_X3_mayChristen_5, w_X3_mayChristen_55, w_X3_mayChristen_56, nl_int, nl_ref, nl_null, nl_un, nl_rf, nl_long, isR_ref, isR_null, isR_rf, rf_some, rf_none, rOf_ref, rOf_null, rOf_rf, kn_v, kn_0, true_and, and_true, and_self, tin, inA_x, inA_l, ix_add, ix_addl, ix_ladd, ix_mul, ix_mull, ix_lmul, ix_tn, lt_tn, Nat.reduceLeDiff, Nat.reduceLT, Nat.reduceAdd, Nat.reduceMul, true_or, or_true, ↓reduceIte, aOk, ref_null, null_null, false_or, Option.isSome_some, Option.getD_some, ite_true, ite_false, eq_self, not_false_eq_true, not_true_eq_false, d3]
    simp [q3, bz]
end
