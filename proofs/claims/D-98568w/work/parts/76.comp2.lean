/-! THE MODEL: words held against each other, to the end -/
set_option maxRecDepth 100000
section
variable {d D m a b w u : Nat} {h : AH} {Q : Rs → AH → Prop} {o : Option Ph} {l1 l2 l3 v7 v8 : Value}
theorem cp_st (hm : MO h m) (hA : ∀ k, k < wl w → Ai h (m + 40) k = ix (ltr w k)) (hB : ∀ k, k < wl u → Ai h (m + 41) k = ix (ltr u k)) : ∀ n j, j + n = min (wl w) (wl u) → Ru (D + 1) 173 221 [.ref m, l1, l2, l3, .int (ix (wl w)), .int (ix (wl u)), .int (ix j), v7, v8] [] h Q = Ru (D + 1) 173 258 [.ref m, l1, l2, l3, .int (ix (wl w)), .int (ix (wl u)), .int (ix (cpre (fun k => decide (ltr w k = ltr u k)) n j)), v7, v8] [] h Q := by
  have hw := wl_le w
  have hu := wl_le u
  intro n
  induction n with
  | zero =>
    intro j hj
    rw [w_X9_compares_221]
    by_cases e : j < wl w
    · have e2 : ¬ j < wl u := by omega
      simp (disch := first | assumption | omega | decide | rfl) only [w_X9_compares_223, w_X9_compares_225, w_X9_compares_228, w_X9_compares_230, w_X9_compares_232, nl_int, nl_ref, nl_null, nl_un, nl_rf, nl_long, isR_ref, isR_null, isR_rf, rf_some, rf_none, rOf_ref, rOf_null, rOf_rf, kn_v, kn_0, true_and, and_true, and_self, tin, inA_x, inA_l, ix_add, ix_addl, ix_ladd, ix_mul, ix_mull, ix_lmul, ix_tn, lt_tn, Nat.reduceLeDiff, Nat.reduceLT, Nat.reduceAdd, Nat.reduceMul, true_or, or_true, ↓reduceIte, aOk, ref_null, null_null, false_or, Option.isSome_some, Option.getD_some, ite_true, ite_false, eq_self, not_false_eq_true, not_true_eq_false, ix_lt, e, e2]
      rfl
    · simp (disch := first | assumption | omega | decide | rfl) only [w_X9_compares_223, w_X9_compares_225, w_X9_compares_228, w_X9_compares_230, w_X9_compares_232, nl_int, nl_ref, nl_null, nl_un, nl_rf, nl_long, isR_ref, isR_null, isR_rf, rf_some, rf_none, rOf_ref, rOf_null, rOf_rf, kn_v, kn_0, true_and, and_true, and_self, tin, inA_x, inA_l, ix_add, ix_addl, ix_ladd, ix_mul, ix_mull, ix_lmul, ix_tn, lt_tn, Nat.reduceLeDiff, Nat.reduceLT, Nat.reduceAdd, Nat.reduceMul, true_or, or_true, ↓reduceIte, aOk, ref_null, null_null, false_or, Option.isSome_some, Option.getD_some, ite_true, ite_false, eq_self, not_false_eq_true, not_true_eq_false, ix_lt, e]
      rfl
  | succ n ih =>
    intro j hj
    have e : j < wl w := by omega
    have e2 : j < wl u := by omega
    have hl := ltr_lt w j
    have hl2 := ltr_lt u j
    have g1 := hA j e
    have g2 := hB j e2
    rw [w_X9_compares_221]
    simp (disch := first | assumption | omega | decide | rfl) only [w_X9_compares_223, w_X9_compares_225, w_X9_compares_228, w_X9_compares_230, w_X9_compares_232, w_X9_compares_235, w_X9_compares_236, w_X9_compares_239, w_X9_compares_241, w_X9_compares_242, w_X9_compares_243, w_X9_compares_246, w_X9_compares_248, w_X9_compares_249, w_X9_compares_252, w_X9_compares_255, mo_0 hm, mo_soundName hm, mt_soundName hm, ml_soundName hm, mo_lettersA hm, mt_lettersA hm, ml_lettersA hm, mo_lettersB hm, mt_lettersB hm, ml_lettersB hm, mo_changes hm, mt_changes hm, ml_changes hm, mo_edits hm, mt_edits hm, ml_edits hm, mo_startOf hm, mt_startOf hm, ml_startOf hm, mo_rhymeOf hm, mt_rhymeOf hm, ml_rhymeOf hm, mo_lineTo hm, mt_lineTo hm, ml_lineTo hm, mo_lineFrom hm, mt_lineFrom hm, ml_lineFrom hm, mo_isNear hm, mt_isNear hm, ml_isNear hm, mo_valueOf hm, mt_valueOf hm, ml_valueOf hm, nl_int, nl_ref, nl_null, nl_un, nl_rf, nl_long, isR_ref, isR_null, isR_rf, rf_some, rf_none, rOf_ref, rOf_null, rOf_rf, kn_v, kn_0, true_and, and_true, and_self, tin, inA_x, inA_l, ix_add, ix_addl, ix_ladd, ix_mul, ix_mull, ix_lmul, ix_tn, lt_tn, Nat.reduceLeDiff, Nat.reduceLT, Nat.reduceAdd, Nat.reduceMul, true_or, or_true, ↓reduceIte, aOk, ref_null, null_null, false_or, Option.isSome_some, Option.getD_some, ite_true, ite_false, eq_self, not_false_eq_true, not_true_eq_false, ix_lt, ix_eq, e, e2, g1, g2, ih]
    rw [cpre]
    by_cases z : ltr w j = ltr u j
    · simp [z]
    · simp [z]
theorem cp_rh (hm : MO h m) (hA : ∀ k, k < wl w → Ai h (m + 40) k = ix (ltr w k)) (hB : ∀ k, k < wl u → Ai h (m + 41) k = ix (ltr u k)) : ∀ n j, j + n = min (wl w) (wl u) → Ru (D + 1) 173 269 [.ref m, l1, l2, l3, .int (ix (wl w)), .int (ix (wl u)), .int (ix j), v7, v8] [] h Q = Ru (D + 1) 173 316 [.ref m, l1, l2, l3, .int (ix (wl w)), .int (ix (wl u)), .int (ix (cpre (fun k => decide (ltr w (wl w - 1 - k) = ltr u (wl u - 1 - k))) n j)), v7, v8] [] h Q := by
  have hw := wl_le w
  have hu := wl_le u
  intro n
  induction n with
  | zero =>
    intro j hj
    rw [w_X9_compares_269]
    by_cases e : j < wl w
    · have e2 : ¬ j < wl u := by omega
      simp (disch := first | assumption | omega | decide | rfl) only [w_X9_compares_271, w_X9_compares_273, w_X9_compares_276, w_X9_compares_278, w_X9_compares_280, nl_int, nl_ref, nl_null, nl_un, nl_rf, nl_long, isR_ref, isR_null, isR_rf, rf_some, rf_none, rOf_ref, rOf_null, rOf_rf, kn_v, kn_0, true_and, and_true, and_self, tin, inA_x, inA_l, ix_add, ix_addl, ix_ladd, ix_mul, ix_mull, ix_lmul, ix_tn, lt_tn, Nat.reduceLeDiff, Nat.reduceLT, Nat.reduceAdd, Nat.reduceMul, true_or, or_true, ↓reduceIte, aOk, ref_null, null_null, false_or, Option.isSome_some, Option.getD_some, ite_true, ite_false, eq_self, not_false_eq_true, not_true_eq_false, ix_lt, e, e2]
      rfl
    · simp (disch := first | assumption | omega | decide | rfl) only [w_X9_compares_271, w_X9_compares_273, w_X9_compares_276, w_X9_compares_278, w_X9_compares_280, nl_int, nl_ref, nl_null, nl_un, nl_rf, nl_long, isR_ref, isR_null, isR_rf, rf_some, rf_none, rOf_ref, rOf_null, rOf_rf, kn_v, kn_0, true_and, and_true, and_self, tin, inA_x, inA_l, ix_add, ix_addl, ix_ladd, ix_mul, ix_mull, ix_lmul, ix_tn, lt_tn, Nat.reduceLeDiff, Nat.reduceLT, Nat.reduceAdd, Nat.reduceMul, true_or, or_true, ↓reduceIte, aOk, ref_null, null_null, false_or, Option.isSome_some, Option.getD_some, ite_true, ite_false, eq_self, not_false_eq_true, not_true_eq_false, ix_lt, e]
      rfl
  | succ n ih =>
    intro j hj
    have e : j < wl w := by omega
    have e2 : j < wl u := by omega
    have hl := ltr_lt w (wl w - 1 - j)
    have hl2 := ltr_lt u (wl u - 1 - j)
    have g1 := hA (wl w - 1 - j) (by omega)
    have g2 := hB (wl u - 1 - j) (by omega)
    have x1 : ix (wl w) - 1 = ix (wl w - 1) := ix_subl (n := 1) (by omega)
    have x2 : ix (wl u) - 1 = ix (wl u - 1) := ix_subl (n := 1) (by omega)
    have x3 : ix (wl w - 1) - ix j = ix (wl w - 1 - j) := ix_sub (by omega)
    have x4 : ix (wl u - 1) - ix j = ix (wl u - 1 - j) := ix_sub (by omega)
    rw [w_X9_compares_269]
    simp (disch := first | assumption | omega | decide | rfl) only [w_X9_compares_271, w_X9_compares_273, w_X9_compares_276, w_X9_compares_278, w_X9_compares_280, w_X9_compares_283, w_X9_compares_284, w_X9_compares_287, w_X9_compares_289, w_X9_compares_290, w_X9_compares_291, w_X9_compares_293, w_X9_compares_294, w_X9_compares_295, w_X9_compares_296, w_X9_compares_299, w_X9_compares_301, w_X9_compares_302, w_X9_compares_303, w_X9_compares_305, w_X9_compares_306, w_X9_compares_307, w_X9_compares_310, w_X9_compares_313, mo_0 hm, mo_soundName hm, mt_soundName hm, ml_soundName hm, mo_lettersA hm, mt_lettersA hm, ml_lettersA hm, mo_lettersB hm, mt_lettersB hm, ml_lettersB hm, mo_changes hm, mt_changes hm, ml_changes hm, mo_edits hm, mt_edits hm, ml_edits hm, mo_startOf hm, mt_startOf hm, ml_startOf hm, mo_rhymeOf hm, mt_rhymeOf hm, ml_rhymeOf hm, mo_lineTo hm, mt_lineTo hm, ml_lineTo hm, mo_lineFrom hm, mt_lineFrom hm, ml_lineFrom hm, mo_isNear hm, mt_isNear hm, ml_isNear hm, mo_valueOf hm, mt_valueOf hm, ml_valueOf hm, nl_int, nl_ref, nl_null, nl_un, nl_rf, nl_long, isR_ref, isR_null, isR_rf, rf_some, rf_none, rOf_ref, rOf_null, rOf_rf, kn_v, kn_0, true_and, and_true, and_self, tin, inA_x, inA_l, ix_add, ix_addl, ix_ladd, ix_mul, ix_mull, ix_lmul, ix_tn, lt_tn, Nat.reduceLeDiff, Nat.reduceLT, Nat.reduceAdd, Nat.reduceMul, true_or, or_true, ↓reduceIte, aOk, ref_null, null_null, false_or, Option.isSome_some, Option.getD_some, ite_true, ite_false, eq_self, not_false_eq_true, not_true_eq_false, ix_lt, ix_eq, e, e2, x1, x2, x3, x4, g1, g2, ih]
    rw [cpre]
    by_cases z : ltr w (wl w - 1 - j) = ltr u (wl u - 1 - j)
    · simp [z]
    · simp [z]
end
