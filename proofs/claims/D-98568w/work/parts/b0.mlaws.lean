/-! THE MODEL: laws that stand, counted -/
set_option maxRecDepth 100000
/-- by places 8 a + (b - 1): how many, the least a, the most b -/
noncomputable def lwS (O : Oc) (T : To) (st : Int32 × Int32 × Int32) (t : Nat) : Int32 × Int32 × Int32 := if ilF O T (t / 8) (t % 8 + 1) = true then (st.1 + 1, if st.2.1 < 0 then ix (t / 8) else st.2.1, if (if st.2.1 < 0 then ix (t / 8) else st.2.1) = ix (t / 8) then ix (t % 8 + 1) else st.2.2) else st
noncomputable def lwF (O : Oc) (T : To) (n : Nat) : Int32 × Int32 × Int32 := foI (lwS O T) (0, -1, -1) n
noncomputable def lawF (O : Oc) (T : To) (v : Int32) : Int32 := if 0 ≤ v ∧ v ≤ 2 then (if v = 0 then (lwF O T 40).1 else if v = 1 then (lwF O T 40).2.1 else (lwF O T 40).2.2) else -1
section
variable {d D m a b c p q s n k i j K : Nat} {h h' : AH} {Q : Rs → AH → Prop} {O : Oc} {B : Bo} {A F : List Nat} {T : To} {u v w : Int32}
theorem cm_laws (x : M0 h m O) (t : MT h m 0 T) (w : WT O T) : Ca (D + 2) 225 [.ref m, .int v] h (fun r h' => r = .inl (some (.int (lawF O T v))) ∧ Md m [] [60] h h' ∧ Fi h' 60 m = 0) := by
  generalize hQ : (fun r h' => r = .inl (some (.int (lawF O T v))) ∧ Md m [] [60] h h' ∧ Fi h' 60 m = 0 : Rs → AH → Prop) = Q
  rw [e_X9_laws]
  simp (disch := first | assumption | omega | decide | rfl) only [w_X9_laws_0, w_X9_laws_1, w_X9_laws_2, w_X9_laws_5, w_X9_laws_6, w_X9_laws_7, w_X9_laws_8, mo_0 x.mo, nl_int, nl_ref, nl_null, nl_un, nl_rf, nl_long, isR_ref, isR_null, isR_rf, rf_some, rf_none, rOf_ref, rOf_null, rOf_rf, kn_v, kn_0, true_and, and_true, and_self, tin, inA_x, inA_l, ix_add, ix_addl, ix_ladd, ix_mul, ix_mull, ix_lmul, ix_tn, lt_tn, Nat.reduceLeDiff, Nat.reduceLT, Nat.reduceAdd, Nat.reduceMul, true_or, or_true, ↓reduceIte, aOk, ref_null, null_null, false_or, Option.isSome_some, Option.getD_some, ite_true, ite_false, eq_self, not_false_eq_true, not_true_eq_false, cm_within]
  have u1 : Md m [] [60] h (sFi h 60 m 0) := md_sFi (by decide)
  have f1 : Fi (sFi h 60 m 0) 60 m = 0 := Fi_same
  revert u1 f1
  generalize sFi h 60 m 0 = h1
  intro u1 f1
  have x1 : M0 h1 m O := x.md u1
  have t1 := t.md u1 (by decide) (by decide) (by decide) (by decide)
  have fin : ∀ r : Int32, r = lawF O T v → Q (.inl (some (.int r))) h1 := fun r hr => by
    rw [← hQ, hr]
    exact ⟨rfl, u1, f1⟩
  by_cases q : 0 ≤ v ∧ v ≤ 2
  · have c1 : (bz (decide (0 ≤ v ∧ v ≤ 2)) = 0) = False := by rw [bz_ne]; exact eq_false (by rw [decide_eq_true q]; decide)
    have k2 : ∀ n b a (v6 : Value), b + n = 8 → a < 5 → (∀ v6, Ru (D + 1) 225 82 [.ref m, .int v, .int (lwF O T (8 * (a + 1))).1, .int (lwF O T (8 * (a + 1))).2.1, .int (lwF O T (8 * (a + 1))).2.2, .int (ix a), v6] [] h1 Q) → Ru (D + 1) 225 35 [.ref m, .int v, .int (lwF O T (8 * a + b)).1, .int (lwF O T (8 * a + b)).2.1, .int (lwF O T (8 * a + b)).2.2, .int (ix a), .int (ix (b + 1))] [] h1 Q := by
      intro n
      induction n with
      | zero =>
        intro b a v6 hb ha fin2
        have eb : b = 8 := by omega
        subst eb
        have e : (ix (8 + 1) < 9) = False := eq_false (by decide)
        rw [w_X9_laws_35]
        simp (disch := first | assumption | omega | decide | rfl) only [w_X9_laws_37, w_X9_laws_39, nl_int, nl_ref, nl_null, nl_un, nl_rf, nl_long, isR_ref, isR_null, isR_rf, rf_some, rf_none, rOf_ref, rOf_null, rOf_rf, kn_v, kn_0, true_and, and_true, and_self, tin, inA_x, inA_l, ix_add, ix_addl, ix_ladd, ix_mul, ix_mull, ix_lmul, ix_tn, lt_tn, Nat.reduceLeDiff, Nat.reduceLT, Nat.reduceAdd, Nat.reduceMul, true_or, or_true, ↓reduceIte, aOk, ref_null, null_null, false_or, Option.isSome_some, Option.getD_some, ite_true, ite_false, eq_self, not_false_eq_true, not_true_eq_false, e]
        exact fin2 _
      | succ n ih =>
        intro b a v6 hb ha fin2
        have e : (ix (b + 1) < 9) = True := by rw [ix_ltl (n := 9) (by omega) (by decide)]; exact eq_true (by omega)
        have nx := ih (b + 1) a v6 (by omega) ha fin2
        rw [show 8 * a + (b + 1) = 8 * a + b + 1 by omega] at nx
        have es : lwF O T (8 * a + b + 1) = lwS O T (lwF O T (8 * a + b)) (8 * a + b) := rfl
        rw [es] at nx
        unfold lwS at nx
        rw [show (8 * a + b) / 8 = a by omega, show (8 * a + b) % 8 = b by omega] at nx
        revert nx
        generalize lwF O T (8 * a + b) = st
        intro nx
        rw [w_X9_laws_35]
        simp (disch := first | assumption | omega | decide | rfl) only [w_X9_laws_37, w_X9_laws_39, w_X9_laws_42, w_X9_laws_43, w_X9_laws_45, w_X9_laws_47, mo_0 x1.mo, nl_int, nl_ref, nl_null, nl_un, nl_rf, nl_long, isR_ref, isR_null, isR_rf, rf_some, rf_none, rOf_ref, rOf_null, rOf_rf, kn_v, kn_0, true_and, and_true, and_self, tin, inA_x, inA_l, ix_add, ix_addl, ix_ladd, ix_mul, ix_mull, ix_lmul, ix_tn, lt_tn, Nat.reduceLeDiff, Nat.reduceLT, Nat.reduceAdd, Nat.reduceMul, true_or, or_true, ↓reduceIte, aOk, ref_null, null_null, false_or, Option.isSome_some, Option.getD_some, ite_true, ite_false, eq_self, not_false_eq_true, not_true_eq_false, e, cm_isLaw x1 t1 w (show a < 100 by omega) (show b + 1 < 100 by omega)]
        by_cases q1 : ilF O T a (b + 1) = true
        · have d1 : (bz (ilF O T a (b + 1)) = 0) = False := by rw [bz_ne]; exact eq_false (by rw [q1]; decide)
          rw [if_pos q1] at nx
          by_cases q2 : st.2.1 < 0
          · rw [if_pos q2, if_pos rfl] at nx
            have d3 : (ix a = ix a) = True := eq_true rfl
            simp (disch := first | assumption | omega | decide | rfl) only [w_X9_laws_50, w_X9_laws_53, w_X9_laws_56, w_X9_laws_59, w_X9_laws_60, w_X9_laws_63, w_X9_laws_65, w_X9_laws_66, w_X9_laws_67, w_X9_laws_69, w_X9_laws_72, w_X9_laws_74, w_X9_laws_76, w_X9_laws_79, nl_int, nl_ref, nl_null, nl_un, nl_rf, nl_long, isR_ref, isR_null, isR_rf, rf_some, rf_none, rOf_ref, rOf_null, rOf_rf, kn_v, kn_0, true_and, and_true, and_self, tin, inA_x, inA_l, ix_add, ix_addl, ix_ladd, ix_mul, ix_mull, ix_lmul, ix_tn, lt_tn, Nat.reduceLeDiff, Nat.reduceLT, Nat.reduceAdd, Nat.reduceMul, true_or, or_true, ↓reduceIte, aOk, ref_null, null_null, false_or, Option.isSome_some, Option.getD_some, ite_true, ite_false, eq_self, not_false_eq_true, not_true_eq_false, d1, q2, d3]
            exact nx
          · rw [if_neg q2] at nx
            by_cases q3 : st.2.1 = ix a
            · have d3 : (st.2.1 = ix a) = True := eq_true q3
              rw [if_pos q3] at nx
              simp (disch := first | assumption | omega | decide | rfl) only [w_X9_laws_50, w_X9_laws_53, w_X9_laws_56, w_X9_laws_59, w_X9_laws_60, w_X9_laws_63, w_X9_laws_65, w_X9_laws_66, w_X9_laws_67, w_X9_laws_69, w_X9_laws_72, w_X9_laws_74, w_X9_laws_76, w_X9_laws_79, nl_int, nl_ref, nl_null, nl_un, nl_rf, nl_long, isR_ref, isR_null, isR_rf, rf_some, rf_none, rOf_ref, rOf_null, rOf_rf, kn_v, kn_0, true_and, and_true, and_self, tin, inA_x, inA_l, ix_add, ix_addl, ix_ladd, ix_mul, ix_mull, ix_lmul, ix_tn, lt_tn, Nat.reduceLeDiff, Nat.reduceLT, Nat.reduceAdd, Nat.reduceMul, true_or, or_true, ↓reduceIte, aOk, ref_null, null_null, false_or, Option.isSome_some, Option.getD_some, ite_true, ite_false, eq_self, not_false_eq_true, not_true_eq_false, d1, q2, d3]
              exact nx
            · have d3 : (st.2.1 = ix a) = False := eq_false q3
              rw [if_neg q3] at nx
              simp (disch := first | assumption | omega | decide | rfl) only [w_X9_laws_50, w_X9_laws_53, w_X9_laws_56, w_X9_laws_59, w_X9_laws_60, w_X9_laws_63, w_X9_laws_65, w_X9_laws_66, w_X9_laws_67, w_X9_laws_69, w_X9_laws_72, w_X9_laws_74, w_X9_laws_76, w_X9_laws_79, nl_int, nl_ref, nl_null, nl_un, nl_rf, nl_long, isR_ref, isR_null, isR_rf, rf_some, rf_none, rOf_ref, rOf_null, rOf_rf, kn_v, kn_0, true_and, and_true, and_self, tin, inA_x, inA_l, ix_add, ix_addl, ix_ladd, ix_mul, ix_mull, ix_lmul, ix_tn, lt_tn, Nat.reduceLeDiff, Nat.reduceLT, Nat.reduceAdd, Nat.reduceMul, true_or, or_true, ↓reduceIte, aOk, ref_null, null_null, false_or, Option.isSome_some, Option.getD_some, ite_true, ite_false, eq_self, not_false_eq_true, not_true_eq_false, d1, q2, d3]
              exact nx
        · have d1 : (bz (ilF O T a (b + 1)) = 0) = True := by rw [bz_ne]; exact eq_true (Bool.not_eq_true _ ▸ q1)
          rw [if_neg q1] at nx
          simp (disch := first | assumption | omega | decide | rfl) only [w_X9_laws_50, w_X9_laws_53, w_X9_laws_76, w_X9_laws_79, nl_int, nl_ref, nl_null, nl_un, nl_rf, nl_long, isR_ref, isR_null, isR_rf, rf_some, rf_none, rOf_ref, rOf_null, rOf_rf, kn_v, kn_0, true_and, and_true, and_self, tin, inA_x, inA_l, ix_add, ix_addl, ix_ladd, ix_mul, ix_mull, ix_lmul, ix_tn, lt_tn, Nat.reduceLeDiff, Nat.reduceLT, Nat.reduceAdd, Nat.reduceMul, true_or, or_true, ↓reduceIte, aOk, ref_null, null_null, false_or, Option.isSome_some, Option.getD_some, ite_true, ite_false, eq_self, not_false_eq_true, not_true_eq_false, d1]
          exact nx
    have k1 : ∀ n a (v6 : Value), a + n = 5 → Ru (D + 1) 225 26 [.ref m, .int v, .int (lwF O T (8 * a)).1, .int (lwF O T (8 * a)).2.1, .int (lwF O T (8 * a)).2.2, .int (ix a), v6] [] h1 Q := by
      intro n
      induction n with
      | zero =>
        intro a v6 ha
        have ea : a = 5 := by omega
        subst ea
        have e : (ix 5 < 5) = False := eq_false (by decide)
        unfold lawF at fin
        rw [if_pos q] at fin
        rw [w_X9_laws_26]
        by_cases q1 : v = 0
        · have d1 : (v = 0) = True := eq_true q1
          simp (disch := first | assumption | omega | decide | rfl) only [w_X9_laws_28, w_X9_laws_29, w_X9_laws_88, w_X9_laws_89, w_X9_laws_92, w_X9_laws_93, w_X9_laws_96, w_X9_laws_97, w_X9_laws_98, w_X9_laws_101, w_X9_laws_102, w_X9_laws_105, w_X9_laws_107, nl_int, nl_ref, nl_null, nl_un, nl_rf, nl_long, isR_ref, isR_null, isR_rf, rf_some, rf_none, rOf_ref, rOf_null, rOf_rf, kn_v, kn_0, true_and, and_true, and_self, tin, inA_x, inA_l, ix_add, ix_addl, ix_ladd, ix_mul, ix_mull, ix_lmul, ix_tn, lt_tn, Nat.reduceLeDiff, Nat.reduceLT, Nat.reduceAdd, Nat.reduceMul, true_or, or_true, ↓reduceIte, aOk, ref_null, null_null, false_or, Option.isSome_some, Option.getD_some, ite_true, ite_false, eq_self, not_false_eq_true, not_true_eq_false, e, d1]
          exact fin _ (by rw [if_pos q1])
        · have d1 : (v = 0) = False := eq_false q1
          by_cases q2 : v = 1
          · have d2 : (v = 1) = True := eq_true q2
            simp (disch := first | assumption | omega | decide | rfl) only [w_X9_laws_28, w_X9_laws_29, w_X9_laws_88, w_X9_laws_89, w_X9_laws_92, w_X9_laws_93, w_X9_laws_96, w_X9_laws_97, w_X9_laws_98, w_X9_laws_101, w_X9_laws_102, w_X9_laws_105, w_X9_laws_107, nl_int, nl_ref, nl_null, nl_un, nl_rf, nl_long, isR_ref, isR_null, isR_rf, rf_some, rf_none, rOf_ref, rOf_null, rOf_rf, kn_v, kn_0, true_and, and_true, and_self, tin, inA_x, inA_l, ix_add, ix_addl, ix_ladd, ix_mul, ix_mull, ix_lmul, ix_tn, lt_tn, Nat.reduceLeDiff, Nat.reduceLT, Nat.reduceAdd, Nat.reduceMul, true_or, or_true, ↓reduceIte, aOk, ref_null, null_null, false_or, Option.isSome_some, Option.getD_some, ite_true, ite_false, eq_self, not_false_eq_true, not_true_eq_false, e, d1, d2]
            exact fin _ (by rw [if_neg q1, if_pos q2])
          · have d2 : (v = 1) = False := eq_false q2
            simp (disch := first | assumption | omega | decide | rfl) only [w_X9_laws_28, w_X9_laws_29, w_X9_laws_88, w_X9_laws_89, w_X9_laws_92, w_X9_laws_93, w_X9_laws_96, w_X9_laws_97, w_X9_laws_98, w_X9_laws_101, w_X9_laws_102, w_X9_laws_105, w_X9_laws_107, nl_int, nl_ref, nl_null, nl_un, nl_rf, nl_long, isR_ref, isR_null, isR_rf, rf_some, rf_none, rOf_ref, rOf_null, rOf_rf, kn_v, kn_0, true_and, and_true, and_self, tin, inA_x, inA_l, ix_add, ix_addl, ix_ladd, ix_mul, ix_mull, ix_lmul, ix_tn, lt_tn, Nat.reduceLeDiff, Nat.reduceLT, Nat.reduceAdd, Nat.reduceMul, true_or, or_true, ↓reduceIte, aOk, ref_null, null_null, false_or, Option.isSome_some, Option.getD_some, ite_true, ite_false, eq_self, not_false_eq_true, not_true_eq_false, e, d1, d2]
            exact fin _ (by rw [if_neg q1, if_neg q2])
      | succ n ih =>
        intro a v6 ha
        have e : (ix a < 5) = True := by rw [ix_ltl (n := 5) (by omega) (by decide)]; exact eq_true (by omega)
        rw [w_X9_laws_26]
        simp (disch := first | assumption | omega | decide | rfl) only [w_X9_laws_28, w_X9_laws_29, w_X9_laws_32, w_X9_laws_33, nl_int, nl_ref, nl_null, nl_un, nl_rf, nl_long, isR_ref, isR_null, isR_rf, rf_some, rf_none, rOf_ref, rOf_null, rOf_rf, kn_v, kn_0, true_and, and_true, and_self, tin, inA_x, inA_l, ix_add, ix_addl, ix_ladd, ix_mul, ix_mull, ix_lmul, ix_tn, lt_tn, Nat.reduceLeDiff, Nat.reduceLT, Nat.reduceAdd, Nat.reduceMul, true_or, or_true, ↓reduceIte, aOk, ref_null, null_null, false_or, Option.isSome_some, Option.getD_some, ite_true, ite_false, eq_self, not_false_eq_true, not_true_eq_false, e]
        refine k2 8 0 a un (by omega) (by omega) (fun v6 => ?_)
        simp (disch := first | assumption | omega | decide | rfl) only [w_X9_laws_82, w_X9_laws_85, nl_int, nl_ref, nl_null, nl_un, nl_rf, nl_long, isR_ref, isR_null, isR_rf, rf_some, rf_none, rOf_ref, rOf_null, rOf_rf, kn_v, kn_0, true_and, and_true, and_self, tin, inA_x, inA_l, ix_add, ix_addl, ix_ladd, ix_mul, ix_mull, ix_lmul, ix_tn, lt_tn, Nat.reduceLeDiff, Nat.reduceLT, Nat.reduceAdd, Nat.reduceMul, true_or, or_true, ↓reduceIte, aOk, ref_null, null_null, false_or, Option.isSome_some, Option.getD_some, ite_true, ite_false, eq_self, not_false_eq_true, not_true_eq_false]
        exact ih (a + 1) v6 (by omega)
    simp (disch := first | assumption | omega | decide | rfl) only [w_X9_laws_11, w_X9_laws_14, w_X9_laws_15, w_X9_laws_16, w_X9_laws_17, w_X9_laws_18, w_X9_laws_19, w_X9_laws_20, w_X9_laws_21, w_X9_laws_23, w_X9_laws_24, nl_int, nl_ref, nl_null, nl_un, nl_rf, nl_long, isR_ref, isR_null, isR_rf, rf_some, rf_none, rOf_ref, rOf_null, rOf_rf, kn_v, kn_0, true_and, and_true, and_self, tin, inA_x, inA_l, ix_add, ix_addl, ix_ladd, ix_mul, ix_mull, ix_lmul, ix_tn, lt_tn, Nat.reduceLeDiff, Nat.reduceLT, Nat.reduceAdd, Nat.reduceMul, true_or, or_true, ↓reduceIte, aOk, ref_null, null_null, false_or, Option.isSome_some, Option.getD_some, ite_true, ite_false, eq_self, not_false_eq_true, not_true_eq_false, c1]
    exact k1 5 0 un (by omega)
  · have c1 : (bz (decide (0 ≤ v ∧ v ≤ 2)) = 0) = True := by rw [bz_ne]; exact eq_true (decide_eq_false q)
    simp (disch := first | assumption | omega | decide | rfl) only [w_X9_laws_11, w_X9_laws_14, w_X9_laws_15, nl_int, nl_ref, nl_null, nl_un, nl_rf, nl_long, isR_ref, isR_null, isR_rf, rf_some, rf_none, rOf_ref, rOf_null, rOf_rf, kn_v, kn_0, true_and, and_true, and_self, tin, inA_x, inA_l, ix_add, ix_addl, ix_ladd, ix_mul, ix_mull, ix_lmul, ix_tn, lt_tn, Nat.reduceLeDiff, Nat.reduceLT, Nat.reduceAdd, Nat.reduceMul, true_or, or_true, ↓reduceIte, aOk, ref_null, null_null, false_or, Option.isSome_some, Option.getD_some, ite_true, ite_false, eq_self, not_false_eq_true, not_true_eq_false, c1]
    exact fin _ (by unfold lawF; rw [if_neg q])
end
