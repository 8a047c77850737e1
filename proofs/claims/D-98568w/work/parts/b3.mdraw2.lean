/-! THE MODEL: numbers drawn -/
set_option maxRecDepth 100000
section
variable {d D m a b c p q s n k i j K G : Nat} {h h' : AH} {Q : Rs → AH → Prop} {O : Oc}
theorem cm_draws (hm : MO h m) (g : Fl h 146 m = lix G) (hG : G < 2147483648) (h0 : 0 < k) (hk : k < 100) : Ca (D + 1) 238 [.ref m, .int (ix k)] h Q = Q (.inl (some (.int (ix (drG G / 65536 % k))))) (sFl h 146 m (lix (drG G))) := by
  have e1 := dr_1 hG
  have e2 := dr_2 hG
  have lt := drG_lt (G := G)
  have e3 : lix (drG G) / 65536 = lix (drG G / 65536) := pk_lDiv (a := drG G) (b := 65536) (by omega) (by decide) (by decide)
  have e4 : (ix k).toInt64 = lix k := ix_l (by omega)
  have e5 : lix (drG G / 65536) - lix (drG G / 65536) / lix k * lix k = lix (drG G / 65536 % k) := pk_lRem (a := drG G / 65536) (b := k) (by omega) h0 (by omega)
  have z1 : ¬ (2147483648 : Int64) = 0 := by decide
  have z2 : ¬ (65536 : Int64) = 0 := by decide
  have z3 : ¬ lix k = 0 := by
    intro z
    have : (lix k).toInt = 0 := by rw [z]; rfl
    rw [show (lix k).toInt = (k : Int) from Int64.toInt_ofNat_of_lt (by omega)] at this
    omega
  rw [e_X9_draws, w_X9_draws_0]
  simp (disch := first | assumption | omega | decide | rfl) only [w_X9_draws_1, w_X9_draws_2, w_X9_draws_5, w_X9_draws_8, w_X9_draws_9, w_X9_draws_12, mo_0 hm, nl_int, nl_ref, nl_null, nl_un, nl_rf, nl_long, isR_ref, isR_null, isR_rf, rf_some, rf_none, rOf_ref, rOf_null, rOf_rf, kn_v, kn_0, true_and, and_true, and_self, tin, inA_x, inA_l, ix_add, ix_addl, ix_ladd, ix_mul, ix_mull, ix_lmul, ix_tn, lt_tn, Nat.reduceLeDiff, Nat.reduceLT, Nat.reduceAdd, Nat.reduceMul, true_or, or_true, ↓reduceIte, aOk, ref_null, null_null, false_or, Option.isSome_some, Option.getD_some, ite_true, ite_false, eq_self, not_false_eq_true, not_true_eq_false, g]
  rw [e1]
  simp (disch := first | assumption | omega | decide | rfl) only [w_X9_draws_13, w_X9_draws_16, nl_int, nl_ref, nl_null, nl_un, nl_rf, nl_long, isR_ref, isR_null, isR_rf, rf_some, rf_none, rOf_ref, rOf_null, rOf_rf, kn_v, kn_0, true_and, and_true, and_self, tin, inA_x, inA_l, ix_add, ix_addl, ix_ladd, ix_mul, ix_mull, ix_lmul, ix_tn, lt_tn, Nat.reduceLeDiff, Nat.reduceLT, Nat.reduceAdd, Nat.reduceMul, true_or, or_true, ↓reduceIte, aOk, ref_null, null_null, false_or, Option.isSome_some, Option.getD_some, ite_true, ite_false, eq_self, not_false_eq_true, not_true_eq_false]
  rw [e2]
  simp (disch := first | assumption | omega | decide | rfl) only [w_X9_draws_17, w_X9_draws_20, w_X9_draws_21, w_X9_draws_24, w_X9_draws_27, mo_0 hm, nl_int, nl_ref, nl_null, nl_un, nl_rf, nl_long, isR_ref, isR_null, isR_rf, rf_some, rf_none, rOf_ref, rOf_null, rOf_rf, kn_v, kn_0, true_and, and_true, and_self, tin, inA_x, inA_l, ix_add, ix_addl, ix_ladd, ix_mul, ix_mull, ix_lmul, ix_tn, lt_tn, Nat.reduceLeDiff, Nat.reduceLT, Nat.reduceAdd, Nat.reduceMul, true_or, or_true, ↓reduceIte, aOk, ref_null, null_null, false_or, Option.isSome_some, Option.getD_some, ite_true, ite_false, eq_self, not_false_eq_true, not_true_eq_false, Tg_sFi, Tg_sFl, Tg_sFr, Tg_sAi, Tg_sAl, Tg_sAr, An_sFi, An_sFl, An_sFr, An_sAi, An_sAl, An_sAr, Fi_sFl, Fi_sFr, Fi_sAi, Fi_sAl, Fi_sAr, Fl_sFi, Fl_sFr, Fl_sAi, Fl_sAl, Fl_sAr, Fr_sFi, Fr_sFl, Fr_sAi, Fr_sAl, Fr_sAr, Ai_sFi, Ai_sFl, Ai_sFr, Ai_sAl, Ai_sAr, Al_sFi, Al_sFl, Al_sFr, Al_sAi, Al_sAr, Ar_sFi, Ar_sFl, Ar_sFr, Ar_sAi, Ar_sAl, Fi_same, Fl_same, Fr_same, Ai_same, Al_same, Ar_same, Fi_otherf, Fl_otherf, Fr_otherf]
  rw [e3]
  simp (disch := first | assumption | omega | decide | rfl) only [w_X9_draws_28, w_X9_draws_29, nl_int, nl_ref, nl_null, nl_un, nl_rf, nl_long, isR_ref, isR_null, isR_rf, rf_some, rf_none, rOf_ref, rOf_null, rOf_rf, kn_v, kn_0, true_and, and_true, and_self, tin, inA_x, inA_l, ix_add, ix_addl, ix_ladd, ix_mul, ix_mull, ix_lmul, ix_tn, lt_tn, Nat.reduceLeDiff, Nat.reduceLT, Nat.reduceAdd, Nat.reduceMul, true_or, or_true, ↓reduceIte, aOk, ref_null, null_null, false_or, Option.isSome_some, Option.getD_some, ite_true, ite_false, eq_self, not_false_eq_true, not_true_eq_false, e4]
  rw [w_X9_draws_30 z3, e5]
  simp (disch := first | assumption | omega | decide | rfl) only [w_X9_draws_31, w_X9_draws_32, nl_int, nl_ref, nl_null, nl_un, nl_rf, nl_long, isR_ref, isR_null, isR_rf, rf_some, rf_none, rOf_ref, rOf_null, rOf_rf, kn_v, kn_0, true_and, and_true, and_self, tin, inA_x, inA_l, ix_add, ix_addl, ix_ladd, ix_mul, ix_mull, ix_lmul, ix_tn, lt_tn, Nat.reduceLeDiff, Nat.reduceLT, Nat.reduceAdd, Nat.reduceMul, true_or, or_true, ↓reduceIte, aOk, ref_null, null_null, false_or, Option.isSome_some, Option.getD_some, ite_true, ite_false, eq_self, not_false_eq_true, not_true_eq_false, lix_i]
end
