/-! THE JDK: Math, Objects, lists read -/
set_option maxRecDepth 100000
section
variable {d l i n : Nat} {h : AH} {Q : Rs → AH → Prop} {x y : Int32}
theorem c_min : Ca (d + 1) 329 [.int x, .int y] h Q = Q (.inl (some (.int (if y < x then y else x)))) h := by
  rw [e_J7_min]
  simp (disch := first | assumption | omega | decide | rfl) only [w_J7_min_0, w_J7_min_1, w_J7_min_2, w_J7_min_5, w_J7_min_6, w_J7_min_9, w_J7_min_10, nl_int, nl_ref, nl_null, nl_un, nl_rf, nl_long, isR_ref, isR_null, isR_rf, rf_some, rf_none, rOf_ref, rOf_null, rOf_rf, kn_v, kn_0, true_and, and_true, and_self, tin, inA_x, inA_l, ix_add, ix_addl, ix_ladd, ix_mul, ix_mull, ix_lmul, ix_tn, lt_tn, Nat.reduceLeDiff, Nat.reduceLT, Nat.reduceAdd, Nat.reduceMul, true_or, or_true, if_true, if_false, aOk, ref_null, null_null, false_or, Option.isSome_some, Option.getD_some, ite_true, ite_false, eq_self, not_false_eq_true, not_true_eq_false]
  split <;> rfl
theorem c_max : Ca (d + 1) 328 [.int x, .int y] h Q = Q (.inl (some (.int (if x < y then y else x)))) h := by
  rw [e_J7_max]
  simp (disch := first | assumption | omega | decide | rfl) only [w_J7_max_0, w_J7_max_1, w_J7_max_2, w_J7_max_5, w_J7_max_6, w_J7_max_9, w_J7_max_10, nl_int, nl_ref, nl_null, nl_un, nl_rf, nl_long, isR_ref, isR_null, isR_rf, rf_some, rf_none, rOf_ref, rOf_null, rOf_rf, kn_v, kn_0, true_and, and_true, and_self, tin, inA_x, inA_l, ix_add, ix_addl, ix_ladd, ix_mul, ix_mull, ix_lmul, ix_tn, lt_tn, Nat.reduceLeDiff, Nat.reduceLT, Nat.reduceAdd, Nat.reduceMul, true_or, or_true, if_true, if_false, aOk, ref_null, null_null, false_or, Option.isSome_some, Option.getD_some, ite_true, ite_false, eq_self, not_false_eq_true, not_true_eq_false]
  split <;> rfl
theorem c_abs : Ca (d + 1) 330 [.int x] h Q = Q (.inl (some (.int (if x < 0 then -x else x)))) h := by
  rw [e_J7_abs]
  simp (disch := first | assumption | omega | decide | rfl) only [w_J7_abs_0, w_J7_abs_1, w_J7_abs_4, w_J7_abs_5, w_J7_abs_6, w_J7_abs_9, w_J7_abs_10, nl_int, nl_ref, nl_null, nl_un, nl_rf, nl_long, isR_ref, isR_null, isR_rf, rf_some, rf_none, rOf_ref, rOf_null, rOf_rf, kn_v, kn_0, true_and, and_true, and_self, tin, inA_x, inA_l, ix_add, ix_addl, ix_ladd, ix_mul, ix_mull, ix_lmul, ix_tn, lt_tn, Nat.reduceLeDiff, Nat.reduceLT, Nat.reduceAdd, Nat.reduceMul, true_or, or_true, if_true, if_false, aOk, ref_null, null_null, false_or, Option.isSome_some, Option.getD_some, ite_true, ite_false, eq_self, not_false_eq_true, not_true_eq_false]
  split <;> rfl
theorem c_chk {v : Value} (hv : isR v = true) (hi : i < n) (hn : n < 2147483648) : Ca (d + 1) 314 [.int (ix i), .int (ix n), v] h Q = Q (.inl (some (.int (ix i)))) h := by
  have hv2 : nl v = true := by cases v <;> first | rfl | cases hv
  rw [e_J4_checkIndex hv2]
  have h1 : i < 2147483648 := by omega
  simp (disch := first | assumption | omega | decide | rfl) only [w_J4_checkIndex_0, w_J4_checkIndex_1, w_J4_checkIndex_4, w_J4_checkIndex_5, w_J4_checkIndex_6, w_J4_checkIndex_9, w_J4_checkIndex_10, w_J4_checkIndex_11, w_J4_checkIndex_16, w_J4_checkIndex_17, nl_int, nl_ref, nl_null, nl_un, nl_rf, nl_long, isR_ref, isR_null, isR_rf, rf_some, rf_none, rOf_ref, rOf_null, rOf_rf, kn_v, kn_0, true_and, and_true, and_self, tin, inA_x, inA_l, ix_add, ix_addl, ix_ladd, ix_mul, ix_mull, ix_lmul, ix_tn, lt_tn, Nat.reduceLeDiff, Nat.reduceLT, Nat.reduceAdd, Nat.reduceMul, true_or, or_true, if_true, if_false, aOk, ref_null, null_null, false_or, Option.isSome_some, Option.getD_some, ite_true, ite_false, eq_self, not_false_eq_true, not_true_eq_false, ix_nn, ix_lt, hi]
theorem c_obj_chk (hi : i < n) (hn : n < 2147483648) : Ca (d + 2) 313 [.int (ix i), .int (ix n)] h Q = Q (.inl (some (.int (ix i)))) h := by
  rw [e_J3_checkIndex]
  simp (disch := first | assumption | omega | decide | rfl) only [w_J3_checkIndex_0, w_J3_checkIndex_1, w_J3_checkIndex_2, w_J3_checkIndex_3, w_J3_checkIndex_6, nl_int, nl_ref, nl_null, nl_un, nl_rf, nl_long, isR_ref, isR_null, isR_rf, rf_some, rf_none, rOf_ref, rOf_null, rOf_rf, kn_v, kn_0, true_and, and_true, and_self, tin, inA_x, inA_l, ix_add, ix_addl, ix_ladd, ix_mul, ix_mull, ix_lmul, ix_tn, lt_tn, Nat.reduceLeDiff, Nat.reduceLT, Nat.reduceAdd, Nat.reduceMul, true_or, or_true, if_true, if_false, aOk, ref_null, null_null, false_or, Option.isSome_some, Option.getD_some, ite_true, ite_false, eq_self, not_false_eq_true, not_true_eq_false, c_chk isR_null hi hn]
/-! lists -/
noncomputable def sz (h : AH) (l : Nat) : Nat := (Fi h 181 l).toNatClampNeg
noncomputable def ed (h : AH) (l : Nat) : Nat := (Fr h 180 l).getD 0
noncomputable def el (h : AH) (l i : Nat) : Nat := (Ar h (ed h l) i).getD 0
def WL (h : AH) (l : Nat) : Prop := Tg h l = 42 ∧ Fi h 181 l = ix (sz h l) ∧ sz h l < 1000000 ∧ Fr h 180 l = some (ed h l) ∧ ((5008 ≤ Tg h (ed h l) ∧ Tg h (ed h l) ≤ 5010) ∨ (Tg h (ed h l) = 5902 ∧ ed h l = Ev h 51 ∧ An h (ed h l) = 0)) ∧ sz h l ≤ An h (ed h l) ∧ An h (ed h l) < 2000000 ∧ ∀ i, i < sz h l → Ar h (ed h l) i = some (el h l i)
theorem WL.tg (w : WL h l) : Tg h l = 42 := w.1
theorem WL.zs (w : WL h l) : Fi h 181 l = ix (sz h l) := w.2.1
theorem WL.fr (w : WL h l) : Fr h 180 l = some (ed h l) := w.2.2.2.1
theorem WL.tn (w : WL h l) : tin h (ed h l) 5000 6000 := by
  rcases w.2.2.2.2.1 with q | q
  · exact ⟨by omega, by omega⟩
  · exact ⟨by omega, by omega⟩
theorem WL.ar (w : WL h l) (hi : i < sz h l) : Ar h (ed h l) i = some (el h l i) := w.2.2.2.2.2.2.2 i hi
theorem c_size (w : WL h l) : Ca (d + 1) 301 [.ref l] h Q = Q (.inl (some (.int (ix (sz h l))))) h := by
  rw [e_J2_size]
  simp (disch := first | assumption | omega | decide | rfl) only [w_J2_size_0, w_J2_size_1, w_J2_size_4, nl_int, nl_ref, nl_null, nl_un, nl_rf, nl_long, isR_ref, isR_null, isR_rf, rf_some, rf_none, rOf_ref, rOf_null, rOf_rf, kn_v, kn_0, true_and, and_true, and_self, tin, inA_x, inA_l, ix_add, ix_addl, ix_ladd, ix_mul, ix_mull, ix_lmul, ix_tn, lt_tn, Nat.reduceLeDiff, Nat.reduceLT, Nat.reduceAdd, Nat.reduceMul, true_or, or_true, if_true, if_false, aOk, ref_null, null_null, false_or, Option.isSome_some, Option.getD_some, ite_true, ite_false, eq_self, not_false_eq_true, not_true_eq_false, w.tg, w.zs]
theorem c_isEmpty (w : WL h l) : Ca (d + 1) 312 [.ref l] h Q = Q (.inl (some (.int (if sz h l = 0 then 1 else 0)))) h := by
  have h1 : sz h l < 1000000 := w.2.2.1
  rw [e_J2_isEmpty]
  simp (disch := first | assumption | omega | decide | rfl) only [w_J2_isEmpty_0, w_J2_isEmpty_1, w_J2_isEmpty_4, w_J2_isEmpty_7, w_J2_isEmpty_8, w_J2_isEmpty_11, w_J2_isEmpty_12, nl_int, nl_ref, nl_null, nl_un, nl_rf, nl_long, isR_ref, isR_null, isR_rf, rf_some, rf_none, rOf_ref, rOf_null, rOf_rf, kn_v, kn_0, true_and, and_true, and_self, tin, inA_x, inA_l, ix_add, ix_addl, ix_ladd, ix_mul, ix_mull, ix_lmul, ix_tn, lt_tn, Nat.reduceLeDiff, Nat.reduceLT, Nat.reduceAdd, Nat.reduceMul, true_or, or_true, if_true, if_false, aOk, ref_null, null_null, false_or, Option.isSome_some, Option.getD_some, ite_true, ite_false, eq_self, not_false_eq_true, not_true_eq_false, w.tg, w.zs, ix_eql]
  split <;> rfl
theorem c_eld (w : WL h l) (hi : i < sz h l) : Ca (d + 1) 303 [.ref l, .int (ix i)] h Q = Q (.inl (some (.ref (el h l i)))) h := by
  have h1 : sz h l < 1000000 := w.2.2.1
  have h2 : sz h l ≤ An h (ed h l) := w.2.2.2.2.2.1
  have h3 : An h (ed h l) < 2000000 := w.2.2.2.2.2.2.1
  rw [e_J2_elementData]
  simp (disch := first | assumption | omega | decide | rfl) only [w_J2_elementData_0, w_J2_elementData_1, w_J2_elementData_4, w_J2_elementData_5, w_J2_elementData_6, nl_int, nl_ref, nl_null, nl_un, nl_rf, nl_long, isR_ref, isR_null, isR_rf, rf_some, rf_none, rOf_ref, rOf_null, rOf_rf, kn_v, kn_0, true_and, and_true, and_self, tin, inA_x, inA_l, ix_add, ix_addl, ix_ladd, ix_mul, ix_mull, ix_lmul, ix_tn, lt_tn, Nat.reduceLeDiff, Nat.reduceLT, Nat.reduceAdd, Nat.reduceMul, true_or, or_true, if_true, if_false, aOk, ref_null, null_null, false_or, Option.isSome_some, Option.getD_some, ite_true, ite_false, eq_self, not_false_eq_true, not_true_eq_false, w.tg, w.fr, w.tn.1, w.tn.2, w.ar]
theorem c_get (w : WL h l) (hi : i < sz h l) : Ca (d + 3) 302 [.ref l, .int (ix i)] h Q = Q (.inl (some (.ref (el h l i)))) h := by
  have h1 : sz h l < 1000000 := w.2.2.1
  rw [e_J2_get]
  simp (disch := first | assumption | omega | decide | rfl) only [w_J2_get_0, w_J2_get_1, w_J2_get_2, w_J2_get_5, w_J2_get_8, w_J2_get_9, w_J2_get_10, w_J2_get_11, w_J2_get_14, nl_int, nl_ref, nl_null, nl_un, nl_rf, nl_long, isR_ref, isR_null, isR_rf, rf_some, rf_none, rOf_ref, rOf_null, rOf_rf, kn_v, kn_0, true_and, and_true, and_self, tin, inA_x, inA_l, ix_add, ix_addl, ix_ladd, ix_mul, ix_mull, ix_lmul, ix_tn, lt_tn, Nat.reduceLeDiff, Nat.reduceLT, Nat.reduceAdd, Nat.reduceMul, true_or, or_true, if_true, if_false, aOk, ref_null, null_null, false_or, Option.isSome_some, Option.getD_some, ite_true, ite_false, eq_self, not_false_eq_true, not_true_eq_false, w.tg, w.zs, c_obj_chk, c_eld w]
end
