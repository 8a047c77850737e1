/-! THE MODEL: those that are deaf; numbers drawn -/
set_option maxRecDepth 100000
noncomputable def drG (G : Nat) : Nat := (G * 1103515245 + 12345) % 2147483648
section
variable {d D m a b c p q s n k i j K G : Nat} {h h' : AH} {Q : Rs → AH → Prop} {O : Oc}
theorem drG_lt : drG G < 2147483648 := Nat.mod_lt _ (by decide)
theorem dr_1 (hG : G < 2147483648) : lix G * 1103515245 + 12345 = lix (G * 1103515245 + 12345) := by
  rw [show (1103515245 : Int64) = lix 1103515245 from rfl, show (12345 : Int64) = lix 12345 from rfl]
  unfold lix
  rw [← Int64.ofNat_mul, ← Int64.ofNat_add]
theorem dr_2 (hG : G < 2147483648) : lix (G * 1103515245 + 12345) - lix (G * 1103515245 + 12345) / 2147483648 * 2147483648 = lix (drG G) := pk_lRem (a := G * 1103515245 + 12345) (b := 2147483648) (by omega) (by decide) (by decide)
noncomputable def deF (O : Oc) : Nat := so (fun a => decide (O.kd a = 3)) O.nA
theorem cm_deaf (x : M0 h m O) : Ca (D + 1) 220 [.ref m] h Q = Q (.inl (some (.int (ix (deF O))))) h := by
  have hm := x.mo
  have n1 := x.wo.nA
  have g0 : Ai h (m + 2) 0 = ix O.nA := x.mr.nA
  rw [e_X9_deaf]
  have key : ∀ n j, j + n = O.nA → Ru D 220 4 [.ref m, .int (ix (so (fun a => decide (O.kd a = 3)) j)), .int (ix j)] [] h Q = Q (.inl (some (.int (ix (deF O))))) h := by
    intro n
    induction n with
    | zero =>
      intro j hj
      have ej : j = O.nA := by omega
      subst ej
      have e : ¬ O.nA < O.nA := by omega
      simp (disch := first | assumption | omega | decide | rfl) only [w_X9_deaf_4, w_X9_deaf_5, w_X9_deaf_6, w_X9_deaf_9, w_X9_deaf_10, w_X9_deaf_11, w_X9_deaf_40, w_X9_deaf_41, mo_0 hm, mo_orchard hm, mt_orchard hm, ml_orchard hm, mo_sort hm, mt_sort hm, ml_sort hm, nl_int, nl_ref, nl_null, nl_un, nl_rf, nl_long, isR_ref, isR_null, isR_rf, rf_some, rf_none, rOf_ref, rOf_null, rOf_rf, kn_v, kn_0, true_and, and_true, and_self, tin, inA_x, inA_l, ix_add, ix_addl, ix_ladd, ix_mul, ix_mull, ix_lmul, ix_tn, lt_tn, Nat.reduceLeDiff, Nat.reduceLT, Nat.reduceAdd, Nat.reduceMul, true_or, or_true, ↓reduceIte, aOk, ref_null, null_null, false_or, Option.isSome_some, Option.getD_some, ite_true, ite_false, eq_self, not_false_eq_true, not_true_eq_false, g0, ix_lt, e]
      rfl
    | succ n ih =>
      intro j hj
      have e : j < O.nA := by omega
      have g1 : Ai h (m + 6) j = ix (O.kd j) := by simpa using x.mr.kd j e
      have b2 := x.wo.kd j e
      have e0 : (ix (O.kd j) = 3) = (O.kd j = 3) := ix_eql (n := 3) (by omega) (by decide)
      have e1 := ix_one (k := j) (by omega)
      rw [w_X9_deaf_4]
      simp (disch := first | assumption | omega | decide | rfl) only [w_X9_deaf_5, w_X9_deaf_6, w_X9_deaf_9, w_X9_deaf_10, w_X9_deaf_11, w_X9_deaf_14, w_X9_deaf_15, w_X9_deaf_16, w_X9_deaf_19, w_X9_deaf_20, w_X9_deaf_21, w_X9_deaf_22, w_X9_deaf_25, w_X9_deaf_26, w_X9_deaf_27, w_X9_deaf_28, w_X9_deaf_31, mo_0 hm, mo_orchard hm, mt_orchard hm, ml_orchard hm, mo_sort hm, mt_sort hm, ml_sort hm, nl_int, nl_ref, nl_null, nl_un, nl_rf, nl_long, isR_ref, isR_null, isR_rf, rf_some, rf_none, rOf_ref, rOf_null, rOf_rf, kn_v, kn_0, true_and, and_true, and_self, tin, inA_x, inA_l, ix_add, ix_addl, ix_ladd, ix_mul, ix_mull, ix_lmul, ix_tn, lt_tn, Nat.reduceLeDiff, Nat.reduceLT, Nat.reduceAdd, Nat.reduceMul, true_or, or_true, ↓reduceIte, aOk, ref_null, null_null, false_or, Option.isSome_some, Option.getD_some, ite_true, ite_false, eq_self, not_false_eq_true, not_true_eq_false, g0, g1, e0, e1, ix_lt, e, ru_join, ite_cons, ite_int, ite_self]
      have e3 : ix (so (fun a => decide (O.kd a = 3)) j) ||| (if O.kd j = 3 then ix (2 ^ j) else 0) = ix (so (fun a => decide (O.kd a = 3)) (j + 1)) := by
        rw [so]
        by_cases q : O.kd j = 3
        · rw [if_pos q, if_pos (by simpa using q), ix_or]
        · rw [if_neg q, if_neg (by simpa using q), show (0 : Int32) = ix 0 from rfl, ix_or, Nat.or_zero]
      simp (disch := first | assumption | omega | decide | rfl) only [w_X9_deaf_32, w_X9_deaf_33, w_X9_deaf_34, w_X9_deaf_37, nl_int, nl_ref, nl_null, nl_un, nl_rf, nl_long, isR_ref, isR_null, isR_rf, rf_some, rf_none, rOf_ref, rOf_null, rOf_rf, kn_v, kn_0, true_and, and_true, and_self, tin, inA_x, inA_l, ix_add, ix_addl, ix_ladd, ix_mul, ix_mull, ix_lmul, ix_tn, lt_tn, Nat.reduceLeDiff, Nat.reduceLT, Nat.reduceAdd, Nat.reduceMul, true_or, or_true, ↓reduceIte, aOk, ref_null, null_null, false_or, Option.isSome_some, Option.getD_some, ite_true, ite_false, eq_self, not_false_eq_true, not_true_eq_false, e3]
      exact ih (j + 1) (by omega)
  simp (disch := first | assumption | omega | decide | rfl) only [w_X9_deaf_0, w_X9_deaf_1, w_X9_deaf_2, w_X9_deaf_3, nl_int, nl_ref, nl_null, nl_un, nl_rf, nl_long, isR_ref, isR_null, isR_rf, rf_some, rf_none, rOf_ref, rOf_null, rOf_rf, kn_v, kn_0, true_and, and_true, and_self, tin, inA_x, inA_l, ix_add, ix_addl, ix_ladd, ix_mul, ix_mull, ix_lmul, ix_tn, lt_tn, Nat.reduceLeDiff, Nat.reduceLT, Nat.reduceAdd, Nat.reduceMul, true_or, or_true, ↓reduceIte, aOk, ref_null, null_null, false_or, Option.isSome_some, Option.getD_some, ite_true, ite_false, eq_self, not_false_eq_true, not_true_eq_false]
  exact key O.nA 0 (by omega)
end
