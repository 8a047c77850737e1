/-! NAMEORCHARD: who was called -/
set_option maxRecDepth 100000
section
variable {h h' h1 h2 : AH} {A : Nat → Prop} {x a b c p q l o lo hi n k t d D s j i K T F : Nat} {O : Oc} {S : Sg} {B C : Bo} {Q : Rs → AH → Prop} {u v w y : Int32} {st : Cs}
theorem so_id (hs : s < 2 ^ n) : so (fun a => s.testBit a) n = s := set_ext (fun i => by
  rw [so_bit]
  by_cases hi : i < n
  · rw [decide_eq_true hi, Bool.true_and]
  · rw [decide_eq_false hi, Bool.false_and, hang_bit hs (by omega)])
theorem WK.tl (w : WK O K T) : T < 2 ^ O.nA := by
  apply Nat.lt_pow_two_of_testBit
  intro i hi
  cases q : T.testBit i
  · rfl
  · have := w.sb i q
    rw [hang_bit w.lt hi] at this
    exact absurd this (by decide)
theorem so_2 (w : WK O K T) : so (fun a => decide ((if T.testBit a = true then (2 : Int32) else if K.testBit a = true then 1 else 0) = 2)) O.nA = T := by
  rw [← so_id w.tl]
  refine so_congr _ (fun a ha => ?_)
  rw [so_id w.tl]
  cases T.testBit a <;> cases K.testBit a <;> decide
theorem so_1 (w : WK O K T) : so (fun a => decide ((if T.testBit a = true then (2 : Int32) else if K.testBit a = true then 1 else 0) = 1)) O.nA = sd K T := by
  have hl : sd K T < 2 ^ O.nA := Nat.lt_of_le_of_lt sd_le w.lt
  rw [← so_id hl]
  refine so_congr _ (fun a ha => ?_)
  rw [sd_bit]
  cases T.testBit a <;> cases K.testBit a <;> decide
theorem k_or (w : WK O K T) : T ||| sd K T = K := set_ext (fun i => by
  rw [Nat.testBit_or, sd_bit]
  have := w.sb i
  revert this
  cases T.testBit i <;> cases K.testBit i <;> simp)
theorem cx_lying (X : XN h x lo hi o b O S) : Ca (D + 3) 31 [.ref x, .int v] h Q = Q (.inl (some (.int (ix (so (fun a => decide ((if S.T.testBit a = true then (2 : Int32) else if S.K.testBit a = true then 1 else 0) = v)) O.nA))))) h := by
  have n1 := X.xo.wo.nA
  have tl := X.li.tg
  have t1 : 1000 ≤ Tg h (ol h x 4) := by omega
  have t2 : Tg h (ol h x 4) < 2000 := by omega
  rw [e_X1_lying]
  simp (disch := first | assumption | omega | decide | rfl) only [w_X1_lying_0, w_X1_lying_1, w_X1_lying_2, w_X1_lying_3, nl_int, nl_ref, nl_null, nl_un, nl_rf, nl_long, isR_ref, isR_null, isR_rf, rf_some, rf_none, rOf_ref, rOf_null, rOf_rf, kn_v, kn_0, true_and, and_true, and_self, tin, inA_x, inA_l, ix_add, ix_addl, ix_ladd, ix_mul, ix_mull, ix_lmul, ix_tn, lt_tn, Nat.reduceLeDiff, Nat.reduceLT, Nat.reduceAdd, Nat.reduceMul, true_or, or_true, ↓reduceIte, aOk, ref_null, null_null, false_or, Option.isSome_some, Option.getD_some, ite_true, ite_false, eq_self, not_false_eq_true, not_true_eq_false, bz_ne, bz_1, reduceCtorEq, Bool.not_true, Bool.not_false]
  refine lp (P := fun j => Ru (D + 2) 31 4 [.ref x, .int v, .int (ix (so (fun a => decide ((if S.T.testBit a = true then (2 : Int32) else if S.K.testBit a = true then 1 else 0) = v)) j)), .int (ix j)] [] h Q = Q (.inl (some (.int (ix (so (fun a => decide ((if S.T.testBit a = true then (2 : Int32) else if S.K.testBit a = true then 1 else 0) = v)) O.nA))))) h) (N := O.nA) ?_ ?_
  · have e : ¬ O.nA < O.nA := by omega
    rw [w_X1_lying_4]
    simp (disch := first | assumption | omega | decide | rfl) only [w_X1_lying_5, w_X1_lying_6, w_X1_lying_9, w_X1_lying_34, w_X1_lying_35, nl_int, nl_ref, nl_null, nl_un, nl_rf, nl_long, isR_ref, isR_null, isR_rf, rf_some, rf_none, rOf_ref, rOf_null, rOf_rf, kn_v, kn_0, true_and, and_true, and_self, tin, inA_x, inA_l, ix_add, ix_addl, ix_ladd, ix_mul, ix_mull, ix_lmul, ix_tn, lt_tn, Nat.reduceLeDiff, Nat.reduceLT, Nat.reduceAdd, Nat.reduceMul, true_or, or_true, ↓reduceIte, aOk, ref_null, null_null, false_or, Option.isSome_some, Option.getD_some, ite_true, ite_false, eq_self, not_false_eq_true, not_true_eq_false, bz_ne, bz_1, reduceCtorEq, Bool.not_true, Bool.not_false, X.f.tx, cx_apples X, ix_lt, e]
  · intro j hj nx
    have g := X.li.at j (by omega)
    have o1 := ix_one (k := j) (by omega)
    rw [so] at nx
    rw [w_X1_lying_4]
    by_cases q : (if S.T.testBit j = true then (2 : Int32) else if S.K.testBit j = true then 1 else 0) = v
    · rw [decide_eq_true q, if_pos rfl] at nx
      rw [q] at g
      have d1 : (v = v) = True := eq_true rfl
      simp (disch := first | assumption | omega | decide | rfl) only [w_X1_lying_5, w_X1_lying_6, w_X1_lying_9, w_X1_lying_12, w_X1_lying_13, w_X1_lying_16, w_X1_lying_17, w_X1_lying_18, w_X1_lying_19, w_X1_lying_22, w_X1_lying_23, w_X1_lying_24, w_X1_lying_25, w_X1_lying_26, w_X1_lying_27, w_X1_lying_28, w_X1_lying_31, nl_int, nl_ref, nl_null, nl_un, nl_rf, nl_long, isR_ref, isR_null, isR_rf, rf_some, rf_none, rOf_ref, rOf_null, rOf_rf, kn_v, kn_0, true_and, and_true, and_self, tin, inA_x, inA_l, ix_add, ix_addl, ix_ladd, ix_mul, ix_mull, ix_lmul, ix_tn, lt_tn, Nat.reduceLeDiff, Nat.reduceLT, Nat.reduceAdd, Nat.reduceMul, true_or, or_true, ↓reduceIte, aOk, ref_null, null_null, false_or, Option.isSome_some, Option.getD_some, ite_true, ite_false, eq_self, not_false_eq_true, not_true_eq_false, bz_ne, bz_1, reduceCtorEq, Bool.not_true, Bool.not_false, X.f.tx, cx_apples X, ix_lt, hj, X.fk, t1, t2, X.li.an, g, d1, o1, ix_or]
      exact nx
    · rw [decide_eq_false q, if_neg (by decide)] at nx
      generalize (if S.T.testBit j = true then (2 : Int32) else if S.K.testBit j = true then 1 else 0) = gv at g q
      have d1 : (gv = v) = False := eq_false q
      simp (disch := first | assumption | omega | decide | rfl) only [w_X1_lying_5, w_X1_lying_6, w_X1_lying_9, w_X1_lying_12, w_X1_lying_13, w_X1_lying_16, w_X1_lying_17, w_X1_lying_18, w_X1_lying_19, w_X1_lying_28, w_X1_lying_31, nl_int, nl_ref, nl_null, nl_un, nl_rf, nl_long, isR_ref, isR_null, isR_rf, rf_some, rf_none, rOf_ref, rOf_null, rOf_rf, kn_v, kn_0, true_and, and_true, and_self, tin, inA_x, inA_l, ix_add, ix_addl, ix_ladd, ix_mul, ix_mull, ix_lmul, ix_tn, lt_tn, Nat.reduceLeDiff, Nat.reduceLT, Nat.reduceAdd, Nat.reduceMul, true_or, or_true, ↓reduceIte, aOk, ref_null, null_null, false_or, Option.isSome_some, Option.getD_some, ite_true, ite_false, eq_self, not_false_eq_true, not_true_eq_false, bz_ne, bz_1, reduceCtorEq, Bool.not_true, Bool.not_false, X.f.tx, cx_apples X, ix_lt, hj, X.fk, t1, t2, X.li.an, g, d1]
      exact nx
theorem pt_stop (z : WB O B) (h10 : O.nA ≤ 10) : ptF B K st 10 = ptF B K st O.nA := by
  have key : ∀ k, ptF B K st (O.nA + k) = ptF B K st O.nA := by
    intro k
    induction k with
    | zero => rfl
    | succ k ih =>
      have e : ptF B K st (O.nA + k + 1) = ptS B K st (ptF B K st (O.nA + k)) (O.nA + k) := by unfold ptF; rw [foI]
      rw [← Nat.add_assoc, e, ih]
      unfold ptS
      rw [hang_bit z.hang (Nat.le_add_right _ _)]
      simp
  have := key (10 - O.nA)
  rw [show O.nA + (10 - O.nA) = 10 by omega] at this
  exact this
theorem cx_parting (tF : Tg h F = 1003) (nF : An h F = 10) (hh : B.hang < 1024) (s1 : ∀ a, st.2.2.2 a ≤ st.1) (s2 : st.1 ≤ 80) (g : ∀ a, a < 10 → Ai h F a = ix (st.2.2.2 a)) : Ca (D + 2) 32 [.ref F, .int (ix st.1), .int (ix (sd B.hang K))] h Q = Q (.inl (some (.int (ptF B K st 10).1))) h := by
  have t1 : 1000 ≤ Tg h F := by omega
  have t2 : Tg h F < 2000 := by omega
  have hS : sd B.hang K < 1024 := sd_lt hh
  rw [e_X1_parting nl_ref]
  simp (disch := first | assumption | omega | decide | rfl) only [w_X1_parting_0, w_X1_parting_1, w_X1_parting_2, w_X1_parting_3, w_X1_parting_5, w_X1_parting_6, nl_int, nl_ref, nl_null, nl_un, nl_rf, nl_long, isR_ref, isR_null, isR_rf, rf_some, rf_none, rOf_ref, rOf_null, rOf_rf, kn_v, kn_0, true_and, and_true, and_self, tin, inA_x, inA_l, ix_add, ix_addl, ix_ladd, ix_mul, ix_mull, ix_lmul, ix_tn, lt_tn, Nat.reduceLeDiff, Nat.reduceLT, Nat.reduceAdd, Nat.reduceMul, true_or, or_true, ↓reduceIte, aOk, ref_null, null_null, false_or, Option.isSome_some, Option.getD_some, ite_true, ite_false, eq_self, not_false_eq_true, not_true_eq_false, bz_ne, bz_1, reduceCtorEq, Bool.not_true, Bool.not_false]
  refine lp (P := fun j => ∀ l6 : Value, Ru (D + 1) 32 8 [.ref F, .int (ix st.1), .int (ix (sd B.hang K)), .int (ptF B K st j).1, .int (ix (ptF B K st j).2), .int (ix j), l6] [] h Q = Q (.inl (some (.int (ptF B K st 10).1))) h) (N := 10) ?_ ?_ _
  · intro l6
    have e : (ix 10 < 10) = False := eq_false (by decide)
    rw [w_X1_parting_8]
    simp (disch := first | assumption | omega | decide | rfl) only [w_X1_parting_10, w_X1_parting_12, w_X1_parting_62, w_X1_parting_63, nl_int, nl_ref, nl_null, nl_un, nl_rf, nl_long, isR_ref, isR_null, isR_rf, rf_some, rf_none, rOf_ref, rOf_null, rOf_rf, kn_v, kn_0, true_and, and_true, and_self, tin, inA_x, inA_l, ix_add, ix_addl, ix_ladd, ix_mul, ix_mull, ix_lmul, ix_tn, lt_tn, Nat.reduceLeDiff, Nat.reduceLT, Nat.reduceAdd, Nat.reduceMul, true_or, or_true, ↓reduceIte, aOk, ref_null, null_null, false_or, Option.isSome_some, Option.getD_some, ite_true, ite_false, eq_self, not_false_eq_true, not_true_eq_false, bz_ne, bz_1, reduceCtorEq, Bool.not_true, Bool.not_false, e]
  · intro j hj nx l6
    have gj := g j hj
    have sj := s1 j
    have e : (ix j < 10) = True := ltT (n := 10) hj (by decide)
    have es : ptF B K st (j + 1) = ptS B K st (ptF B K st j) j := by unfold ptF; rw [foI]
    rw [es] at nx
    have hp : (ptF B K st j).2 ≤ 80 := by
      have : ∀ n, (ptF B K st n).2 ≤ 80 := by
        intro n
        induction n with
        | zero => unfold ptF; rw [foI]; exact Nat.zero_le _
        | succ n ih =>
          have es : ptF B K st (n + 1) = ptS B K st (ptF B K st n) n := by unfold ptF; rw [foI]
          rw [es]
          unfold ptS
          split
          · have := s1 n; show min _ _ ≤ 80; omega
          · exact ih
      exact this j
    unfold ptS at nx
    generalize ptF B K st j = pp at nx hp ⊢
    have nx : ∀ l6 : Value, Ru (D + 1) 32 56 [.ref F, .int (ix st.1), .int (ix (sd B.hang K)), .int (if (B.hang.testBit j && !K.testBit j && decide (pp.2 < min (st.2.2.2 j) (st.1 - st.2.2.2 j))) = true then (ix j, min (st.2.2.2 j) (st.1 - st.2.2.2 j)) else pp).1, .int (ix (if (B.hang.testBit j && !K.testBit j && decide (pp.2 < min (st.2.2.2 j) (st.1 - st.2.2.2 j))) = true then (ix j, min (st.2.2.2 j) (st.1 - st.2.2.2 j)) else pp).2), .int (ix j), l6] [] h Q = Q (.inl (some (.int (ptF B K st 10).1))) h := by
      intro l6
      simp (disch := first | assumption | omega | decide | rfl) only [w_X1_parting_56, w_X1_parting_59, nl_int, nl_ref, nl_null, nl_un, nl_rf, nl_long, isR_ref, isR_null, isR_rf, rf_some, rf_none, rOf_ref, rOf_null, rOf_rf, kn_v, kn_0, true_and, and_true, and_self, tin, inA_x, inA_l, ix_add, ix_addl, ix_ladd, ix_mul, ix_mull, ix_lmul, ix_tn, lt_tn, Nat.reduceLeDiff, Nat.reduceLT, Nat.reduceAdd, Nat.reduceMul, true_or, or_true, ↓reduceIte, aOk, ref_null, null_null, false_or, Option.isSome_some, Option.getD_some, ite_true, ite_false, eq_self, not_false_eq_true, not_true_eq_false, bz_ne, bz_1, reduceCtorEq, Bool.not_true, Bool.not_false]
      exact nx l6
    have hb := fun Q => c_has (d := D) (h := h) (Q := Q) hS hj
    rw [sd_bit] at hb
    rw [w_X1_parting_8]
    simp (disch := first | assumption | omega | decide | rfl) only [w_X1_parting_10, w_X1_parting_12, w_X1_parting_15, w_X1_parting_16, w_X1_parting_18, w_X1_parting_19, w_X1_parting_20, w_X1_parting_21, w_X1_parting_23, w_X1_parting_24, w_X1_parting_25, nl_int, nl_ref, nl_null, nl_un, nl_rf, nl_long, isR_ref, isR_null, isR_rf, rf_some, rf_none, rOf_ref, rOf_null, rOf_rf, kn_v, kn_0, true_and, and_true, and_self, tin, inA_x, inA_l, ix_add, ix_addl, ix_ladd, ix_mul, ix_mull, ix_lmul, ix_tn, lt_tn, Nat.reduceLeDiff, Nat.reduceLT, Nat.reduceAdd, Nat.reduceMul, true_or, or_true, ↓reduceIte, aOk, ref_null, null_null, false_or, Option.isSome_some, Option.getD_some, ite_true, ite_false, eq_self, not_false_eq_true, not_true_eq_false, bz_ne, bz_1, reduceCtorEq, Bool.not_true, Bool.not_false, e, t1, t2, nF, gj, ix_sub]
    rw [c_minx (by omega) (by omega), kn_v]
    cases q1 : (B.hang.testBit j && !K.testBit j)
    · rw [q1, Bool.false_and, if_neg (by decide)] at nx
      rw [q1] at hb
      simp (disch := first | assumption | omega | decide | rfl) only [w_X1_parting_28, w_X1_parting_30, w_X1_parting_31, w_X1_parting_33, w_X1_parting_36, nl_int, nl_ref, nl_null, nl_un, nl_rf, nl_long, isR_ref, isR_null, isR_rf, rf_some, rf_none, rOf_ref, rOf_null, rOf_rf, kn_v, kn_0, true_and, and_true, and_self, tin, inA_x, inA_l, ix_add, ix_addl, ix_ladd, ix_mul, ix_mull, ix_lmul, ix_tn, lt_tn, Nat.reduceLeDiff, Nat.reduceLT, Nat.reduceAdd, Nat.reduceMul, true_or, or_true, ↓reduceIte, aOk, ref_null, null_null, false_or, Option.isSome_some, Option.getD_some, ite_true, ite_false, eq_self, not_false_eq_true, not_true_eq_false, bz_ne, bz_1, reduceCtorEq, Bool.not_true, Bool.not_false, hb]
      exact nx _
    · rw [q1] at nx hb
      by_cases q3 : pp.2 < min (st.2.2.2 j) (st.1 - st.2.2.2 j)
      · have d3 : (pp.2 < min (st.2.2.2 j) (st.1 - st.2.2.2 j)) = True := eq_true q3
        rw [decide_eq_true q3, if_pos (show (true && true) = true from rfl)] at nx
        simp (disch := first | assumption | omega | decide | rfl) only [w_X1_parting_28, w_X1_parting_30, w_X1_parting_31, w_X1_parting_33, w_X1_parting_36, w_X1_parting_39, w_X1_parting_41, w_X1_parting_43, w_X1_parting_49, w_X1_parting_51, w_X1_parting_52, w_X1_parting_54, nl_int, nl_ref, nl_null, nl_un, nl_rf, nl_long, isR_ref, isR_null, isR_rf, rf_some, rf_none, rOf_ref, rOf_null, rOf_rf, kn_v, kn_0, true_and, and_true, and_self, tin, inA_x, inA_l, ix_add, ix_addl, ix_ladd, ix_mul, ix_mull, ix_lmul, ix_tn, lt_tn, Nat.reduceLeDiff, Nat.reduceLT, Nat.reduceAdd, Nat.reduceMul, true_or, or_true, ↓reduceIte, aOk, ref_null, null_null, false_or, Option.isSome_some, Option.getD_some, ite_true, ite_false, eq_self, not_false_eq_true, not_true_eq_false, bz_ne, bz_1, reduceCtorEq, Bool.not_true, Bool.not_false, hb, ix_lt, d3]
        exact nx _
      · have d3 : (pp.2 < min (st.2.2.2 j) (st.1 - st.2.2.2 j)) = False := eq_false q3
        rw [decide_eq_false q3, if_neg (by decide)] at nx
        simp (disch := first | assumption | omega | decide | rfl) only [w_X1_parting_28, w_X1_parting_30, w_X1_parting_31, w_X1_parting_33, w_X1_parting_36, w_X1_parting_39, w_X1_parting_41, w_X1_parting_43, w_X1_parting_46, nl_int, nl_ref, nl_null, nl_un, nl_rf, nl_long, isR_ref, isR_null, isR_rf, rf_some, rf_none, rOf_ref, rOf_null, rOf_rf, kn_v, kn_0, true_and, and_true, and_self, tin, inA_x, inA_l, ix_add, ix_addl, ix_ladd, ix_mul, ix_mull, ix_lmul, ix_tn, lt_tn, Nat.reduceLeDiff, Nat.reduceLT, Nat.reduceAdd, Nat.reduceMul, true_or, or_true, ↓reduceIte, aOk, ref_null, null_null, false_or, Option.isSome_some, Option.getD_some, ite_true, ite_false, eq_self, not_false_eq_true, not_true_eq_false, bz_ne, bz_1, reduceCtorEq, Bool.not_true, Bool.not_false, hb, ix_lt, d3]
        exact nx _
theorem tw_st {g : Nat → Int32} (u : Tw x h h1) (ha : Nx h ≤ a) : Tw x h (sAi h1 a g) := by
  refine ⟨u.1.trans (un_sAi (A := fun z => z = a) rfl) (fun z hz q => by omega), fun z hz => ?_⟩
  exact u.2 z hz
theorem Bx.rc (u : Bx (x + 30) h h') (f : XF h x) (r : RC h x O B) : RC h' x O B := by
  have t1 := f.t39
  have t2 := f.t40
  have t3 := f.t41
  obtain ⟨-, -, -, -, -, -, -, -, -, -, u11, -⟩ := u
  exact r.of (u11 _ (by omega) (by omega) (by omega)) (u11 _ (by omega) (by omega) (by omega)) (u11 _ (by omega) (by omega) (by omega))
theorem xcalled (X : XN h x lo hi o b O S) (W : WB O S.B) (wk : WK O S.K S.T) (r1 : Nc h + 1 ≤ 601024) (r2 : Ns h + 10 ≤ 7293034) : Ca (D + 270) 30 [.ref x, .int v] h (fun r h' => r = .inl (some (.int (cldF O S.B S.K S.T v))) ∧ Tw x h h' ∧ Nc h' ≤ Nc h + 1 ∧ Ns h' ≤ Ns h + 10) := by
  have n1 := X.xo.wo.nA
  have n3 := X.xo.wo.nP
  have hh := W.lt X.xo.wo
  have hK : S.K < 1024 := Nat.lt_of_lt_of_le wk.lt (Nat.pow_le_pow_right (n := 2) (j := 10) (by decide) n1)
  have hT : S.T < 1024 := Nat.lt_of_lt_of_le wk.tl (Nat.pow_le_pow_right (n := 2) (j := 10) (by decide) n1)
  generalize hQ : (fun r h' => r = .inl (some (.int (cldF O S.B S.K S.T v))) ∧ Tw x h h' ∧ Nc h' ≤ Nc h + 1 ∧ Ns h' ≤ Ns h + 10 : Rs → AH → Prop) = Q
  rw [e_X1_called]
  by_cases q : 0 ≤ v ∧ v ≤ 3
  · have c1 : decide (0 ≤ v ∧ v ≤ 3) = true := decide_eq_true q
    have fin : ∀ r h', r = cldF O S.B S.K S.T v → Tw x h h' → Nc h' ≤ Nc h + 1 → Ns h' ≤ Ns h + 10 → Q (.inl (some (.int r))) h' := fun r h' e a b c => by rw [← hQ, e]; exact ⟨rfl, a, b, c⟩
    unfold cldF at fin
    rw [if_pos q] at fin
    simp (disch := first | assumption | omega | decide | rfl) only [w_X1_called_0, w_X1_called_1, w_X1_called_2, w_X1_called_3, w_X1_called_6, w_X1_called_11, w_X1_called_12, w_X1_called_15, nl_int, nl_ref, nl_null, nl_un, nl_rf, nl_long, isR_ref, isR_null, isR_rf, rf_some, rf_none, rOf_ref, rOf_null, rOf_rf, kn_v, kn_0, true_and, and_true, and_self, tin, inA_x, inA_l, ix_add, ix_addl, ix_ladd, ix_mul, ix_mull, ix_lmul, ix_tn, lt_tn, Nat.reduceLeDiff, Nat.reduceLT, Nat.reduceAdd, Nat.reduceMul, true_or, or_true, ↓reduceIte, aOk, ref_null, null_null, false_or, Option.isSome_some, Option.getD_some, ite_true, ite_false, eq_self, not_false_eq_true, not_true_eq_false, bz_ne, bz_1, reduceCtorEq, Bool.not_true, Bool.not_false, cx_within, c1, X.f.tx, X.f.f7, X.f.t38]
    refine ca_mono (cx_lays X W) ?_
    rintro r h1 ⟨rfl, t1, rc1⟩
    have X1 := X.tf t1
    have y2 := fun Q => cx_lying (D := D + 266) (v := 2) (Q := Q) X1
    have y1 := fun Q => cx_lying (D := D + 266) (v := 1) (Q := Q) X1
    rw [so_2 wk] at y2
    rw [so_1 wk] at y1
    have ek := k_or wk
    have m1 := t1.2.1
    have m2 := t1.2.2
    have rm1 : Nc h1 + 1 ≤ 601024 := by omega
    have rm2 : Ns h1 + 10 ≤ 7293034 := by omega
    have hx1 : Nx h1 = Nx h := by unfold Nx; rw [m1, t1.1.1.2.2.1]
    simp (disch := first | assumption | omega | decide | rfl) only [w_X1_called_18, w_X1_called_19, w_X1_called_20, w_X1_called_23, w_X1_called_24, w_X1_called_25, w_X1_called_26, w_X1_called_27, w_X1_called_30, w_X1_called_31, w_X1_called_32, w_X1_called_34, w_X1_called_36, w_X1_called_38, w_X1_called_39, w_X1_called_41, w_X1_called_42, w_X1_called_44, w_X1_called_45, w_X1_called_47, w_X1_called_48, nl_int, nl_ref, nl_null, nl_un, nl_rf, nl_long, isR_ref, isR_null, isR_rf, rf_some, rf_none, rOf_ref, rOf_null, rOf_rf, kn_v, kn_0, true_and, and_true, and_self, tin, inA_x, inA_l, ix_add, ix_addl, ix_ladd, ix_mul, ix_mull, ix_lmul, ix_tn, lt_tn, Nat.reduceLeDiff, Nat.reduceLT, Nat.reduceAdd, Nat.reduceMul, true_or, or_true, ↓reduceIte, aOk, ref_null, null_null, false_or, Option.isSome_some, Option.getD_some, ite_true, ite_false, eq_self, not_false_eq_true, not_true_eq_false, bz_ne, bz_1, reduceCtorEq, Bool.not_true, Bool.not_false, X1.f.tx, y1, y2, ix_or, ek, Rm, rm1, rm2, lt_nn]
    have u2 : Tw x h (nCe h1 1003 10) := t1.1.trans tw_new
    have a1 : Nc (nCe h1 1003 10) ≤ Nc h + 1 := by show Nc h1 + 1 ≤ _; omega
    have a2 : Ns (nCe h1 1003 10) ≤ Ns h + 10 := by show Ns h1 + 10 ≤ _; omega
    have a3 : Tg (nCe h1 1003 10) (Nx h1) = 1003 := Tg_new
    have a4 : An (nCe h1 1003 10) (Nx h1) = 10 := An_new
    have a5 : ∀ a, a < 10 → Ai (nCe h1 1003 10) (Nx h1) a = ix 0 := fun a _ => by rw [Ai_new]; rfl
    have a6 : RC (nCe h1 1003 10) x O S.B := by
      have l := X1.f.lt
      exact rc1.of (Ai_old (by omega)) (Ai_old (by omega)) (Ai_old (by omega))
    revert u2 a1 a2 a3 a4 a5 a6
    generalize nCe h1 1003 10 = h2
    generalize Nx h1 = F at hx1 ⊢
    intro u2 a1 a2 a3 a4 a5 a6
    have inv : ∀ (st : Cs) h3, (Tw x h h3 ∧ Nc h3 ≤ Nc h + 1 ∧ Ns h3 ≤ Ns h + 10 ∧ RC h3 x O S.B ∧ Tg h3 F = 1003 ∧ An h3 F = 10 ∧ ∀ a, a < 10 → Ai h3 F a = ix (st.2.2.2 a)) → XN h3 x lo hi o b O S := fun _ h3 q => X.tw q.1
    refine lp (P := fun k => ∀ h3 (v9 v10 : Value) st, st = cdF O S.B S.K S.T (clN O k) → (Tw x h h3 ∧ Nc h3 ≤ Nc h + 1 ∧ Ns h3 ≤ Ns h + 10 ∧ RC h3 x O S.B ∧ Tg h3 F = 1003 ∧ An h3 F = 10 ∧ ∀ a, a < 10 → Ai h3 F a = ix (st.2.2.2 a)) → Ru (D + 269) 30 50 [.ref x, .int v, .int (ix S.T), .int (ix S.K), .ref F, .int (ix st.1), .int (ix st.2.1), .int (ix st.2.2.1), .int (ix k), v9, v10] [] h3 Q) (N := 16 * O.nP) ?_ ?_ h2 un un (0, 0, 0, fun _ => 0) rfl ⟨u2, a1, a2, a6, a3, a4, a5⟩
    · intro h3 v9 v10 st es i3
      have X3 := inv st h3 i3
      obtain ⟨i1, i2, i4, i5, i6, i7, i8⟩ := i3
      obtain ⟨s1, s2⟩ := cdF_le (O := O) (B := S.B) (K := S.K) (T := S.T) (clN O (16 * O.nP))
      have s3 := clN_len (O := O) (16 * O.nP)
      rw [← es] at fin s1 s2
      have e : ¬ 16 * O.nP < 16 * O.nP := by omega
      have pt := fun Q => cx_parting (D := D + 267) (K := S.K) (Q := Q) i6 i7 hh s1 (by omega) i8
      rw [pt_stop W n1] at pt
      rw [w_X1_called_50]
      simp (disch := first | assumption | omega | decide | rfl) only [w_X1_called_52, w_X1_called_53, w_X1_called_56, w_X1_called_59, nl_int, nl_ref, nl_null, nl_un, nl_rf, nl_long, isR_ref, isR_null, isR_rf, rf_some, rf_none, rOf_ref, rOf_null, rOf_rf, kn_v, kn_0, true_and, and_true, and_self, tin, inA_x, inA_l, ix_add, ix_addl, ix_ladd, ix_mul, ix_mull, ix_lmul, ix_tn, lt_tn, Nat.reduceLeDiff, Nat.reduceLT, Nat.reduceAdd, Nat.reduceMul, true_or, or_true, ↓reduceIte, aOk, ref_null, null_null, false_or, Option.isSome_some, Option.getD_some, ite_true, ite_false, eq_self, not_false_eq_true, not_true_eq_false, bz_ne, bz_1, reduceCtorEq, Bool.not_true, Bool.not_false, X3.f.tx, X3.f.f7, X3.f.t38, cx_all X3, ix_lt, e]
      by_cases qn : st.1 = 0
      · have dn : (st.1 = 0) = True := eq_true qn
        by_cases q0 : v = 0
        · have d0 : (v = 0) = True := eq_true q0
          simp (disch := first | assumption | omega | decide | rfl) only [w_X1_called_178, w_X1_called_180, w_X1_called_183, w_X1_called_184, w_X1_called_187, w_X1_called_188, w_X1_called_191, w_X1_called_192, nl_int, nl_ref, nl_null, nl_un, nl_rf, nl_long, isR_ref, isR_null, isR_rf, rf_some, rf_none, rOf_ref, rOf_null, rOf_rf, kn_v, kn_0, true_and, and_true, and_self, tin, inA_x, inA_l, ix_add, ix_addl, ix_ladd, ix_mul, ix_mull, ix_lmul, ix_tn, lt_tn, Nat.reduceLeDiff, Nat.reduceLT, Nat.reduceAdd, Nat.reduceMul, true_or, or_true, ↓reduceIte, aOk, ref_null, null_null, false_or, Option.isSome_some, Option.getD_some, ite_true, ite_false, eq_self, not_false_eq_true, not_true_eq_false, bz_ne, bz_1, reduceCtorEq, Bool.not_true, Bool.not_false, ix_eql, dn, d0]
          exact fin _ h3 (by rw [if_pos q0, qn]; rfl) i1 i2 i4
        · have d0 : (v = 0) = False := eq_false q0
          simp (disch := first | assumption | omega | decide | rfl) only [w_X1_called_178, w_X1_called_180, w_X1_called_183, w_X1_called_184, w_X1_called_187, w_X1_called_188, w_X1_called_191, w_X1_called_192, nl_int, nl_ref, nl_null, nl_un, nl_rf, nl_long, isR_ref, isR_null, isR_rf, rf_some, rf_none, rOf_ref, rOf_null, rOf_rf, kn_v, kn_0, true_and, and_true, and_self, tin, inA_x, inA_l, ix_add, ix_addl, ix_ladd, ix_mul, ix_mull, ix_lmul, ix_tn, lt_tn, Nat.reduceLeDiff, Nat.reduceLT, Nat.reduceAdd, Nat.reduceMul, true_or, or_true, ↓reduceIte, aOk, ref_null, null_null, false_or, Option.isSome_some, Option.getD_some, ite_true, ite_false, eq_self, not_false_eq_true, not_true_eq_false, bz_ne, bz_1, reduceCtorEq, Bool.not_true, Bool.not_false, ix_eql, dn, d0]
          exact fin _ h3 (by rw [if_neg q0, if_pos qn]) i1 i2 i4
      · have dn : (st.1 = 0) = False := eq_false qn
        by_cases q0 : v = 0
        · have d0 : (v = 0) = True := eq_true q0
          simp (disch := first | assumption | omega | decide | rfl) only [w_X1_called_178, w_X1_called_180, w_X1_called_193, w_X1_called_194, w_X1_called_197, w_X1_called_199, w_X1_called_240, nl_int, nl_ref, nl_null, nl_un, nl_rf, nl_long, isR_ref, isR_null, isR_rf, rf_some, rf_none, rOf_ref, rOf_null, rOf_rf, kn_v, kn_0, true_and, and_true, and_self, tin, inA_x, inA_l, ix_add, ix_addl, ix_ladd, ix_mul, ix_mull, ix_lmul, ix_tn, lt_tn, Nat.reduceLeDiff, Nat.reduceLT, Nat.reduceAdd, Nat.reduceMul, true_or, or_true, ↓reduceIte, aOk, ref_null, null_null, false_or, Option.isSome_some, Option.getD_some, ite_true, ite_false, eq_self, not_false_eq_true, not_true_eq_false, bz_ne, bz_1, reduceCtorEq, Bool.not_true, Bool.not_false, ix_eql, dn, d0]
          exact fin _ h3 (by rw [if_pos q0]) i1 i2 i4
        · have d0 : (v = 0) = False := eq_false q0
          rw [if_neg q0, if_neg qn] at fin
          by_cases q1 : v = 1
          · have d1 : (v = 1) = True := eq_true q1
            simp (disch := first | assumption | omega | decide | rfl) only [w_X1_called_178, w_X1_called_180, w_X1_called_193, w_X1_called_194, w_X1_called_197, w_X1_called_199, w_X1_called_202, w_X1_called_203, w_X1_called_204, w_X1_called_207, w_X1_called_209, w_X1_called_240, nl_int, nl_ref, nl_null, nl_un, nl_rf, nl_long, isR_ref, isR_null, isR_rf, rf_some, rf_none, rOf_ref, rOf_null, rOf_rf, kn_v, kn_0, true_and, and_true, and_self, tin, inA_x, inA_l, ix_add, ix_addl, ix_ladd, ix_mul, ix_mull, ix_lmul, ix_tn, lt_tn, Nat.reduceLeDiff, Nat.reduceLT, Nat.reduceAdd, Nat.reduceMul, true_or, or_true, ↓reduceIte, aOk, ref_null, null_null, false_or, Option.isSome_some, Option.getD_some, ite_true, ite_false, eq_self, not_false_eq_true, not_true_eq_false, bz_ne, bz_1, reduceCtorEq, Bool.not_true, Bool.not_false, ix_eql, dn, d0, d1]
            exact fin _ h3 (by rw [if_pos q1]) i1 i2 i4
          · have d1 : (v = 1) = False := eq_false q1
            rw [if_neg q1] at fin
            by_cases q2 : v = 2
            · have d2 : (v = 2) = True := eq_true q2
              simp (disch := first | assumption | omega | decide | rfl) only [w_X1_called_178, w_X1_called_180, w_X1_called_193, w_X1_called_194, w_X1_called_197, w_X1_called_199, w_X1_called_202, w_X1_called_203, w_X1_called_204, w_X1_called_207, w_X1_called_209, w_X1_called_212, w_X1_called_213, w_X1_called_214, w_X1_called_217, w_X1_called_219, w_X1_called_240, nl_int, nl_ref, nl_null, nl_un, nl_rf, nl_long, isR_ref, isR_null, isR_rf, rf_some, rf_none, rOf_ref, rOf_null, rOf_rf, kn_v, kn_0, true_and, and_true, and_self, tin, inA_x, inA_l, ix_add, ix_addl, ix_ladd, ix_mul, ix_mull, ix_lmul, ix_tn, lt_tn, Nat.reduceLeDiff, Nat.reduceLT, Nat.reduceAdd, Nat.reduceMul, true_or, or_true, ↓reduceIte, aOk, ref_null, null_null, false_or, Option.isSome_some, Option.getD_some, ite_true, ite_false, eq_self, not_false_eq_true, not_true_eq_false, bz_ne, bz_1, reduceCtorEq, Bool.not_true, Bool.not_false, ix_eql, dn, d0, d1, d2]
              exact fin _ h3 (by rw [if_pos q2]) i1 i2 i4
            · have d2 : (v = 2) = False := eq_false q2
              simp (disch := first | assumption | omega | decide | rfl) only [w_X1_called_178, w_X1_called_180, w_X1_called_193, w_X1_called_194, w_X1_called_197, w_X1_called_199, w_X1_called_202, w_X1_called_203, w_X1_called_204, w_X1_called_207, w_X1_called_209, w_X1_called_212, w_X1_called_213, w_X1_called_214, w_X1_called_217, w_X1_called_219, w_X1_called_222, w_X1_called_224, w_X1_called_226, w_X1_called_227, w_X1_called_230, w_X1_called_233, w_X1_called_234, w_X1_called_235, w_X1_called_236, w_X1_called_237, w_X1_called_240, nl_int, nl_ref, nl_null, nl_un, nl_rf, nl_long, isR_ref, isR_null, isR_rf, rf_some, rf_none, rOf_ref, rOf_null, rOf_rf, kn_v, kn_0, true_and, and_true, and_self, tin, inA_x, inA_l, ix_add, ix_addl, ix_ladd, ix_mul, ix_mull, ix_lmul, ix_tn, lt_tn, Nat.reduceLeDiff, Nat.reduceLT, Nat.reduceAdd, Nat.reduceMul, true_or, or_true, ↓reduceIte, aOk, ref_null, null_null, false_or, Option.isSome_some, Option.getD_some, ite_true, ite_false, eq_self, not_false_eq_true, not_true_eq_false, bz_ne, bz_1, reduceCtorEq, Bool.not_true, Bool.not_false, ix_eql, dn, d0, d1, d2, X3.f.tx, X3.fb, X3.xb.tg, X3.xb.hang, ix_sd, pt]
              exact fin _ h3 (by rw [if_neg q2]) i1 i2 i4
    · intro k hk nx h3 v9 v10 st es i3
      have X3 := inv st h3 i3
      obtain ⟨i1, i2, i4, i5, i6, i7, i8⟩ := i3
      have nx : ∀ h3 (v9 v10 : Value) st', st' = (if okC O k = true then cdS O S.B S.K S.T st k else st) → (Tw x h h3 ∧ Nc h3 ≤ Nc h + 1 ∧ Ns h3 ≤ Ns h + 10 ∧ RC h3 x O S.B ∧ Tg h3 F = 1003 ∧ An h3 F = 10 ∧ ∀ a, a < 10 → Ai h3 F a = ix (st'.2.2.2 a)) → Ru (D + 269) 30 172 [.ref x, .int v, .int (ix S.T), .int (ix S.K), .ref F, .int (ix st'.1), .int (ix st'.2.1), .int (ix st'.2.2.1), .int (ix k), v9, v10] [] h3 Q := by
        intro h3 v9 v10 st' es' i3
        simp (disch := first | assumption | omega | decide | rfl) only [w_X1_called_172, w_X1_called_175, nl_int, nl_ref, nl_null, nl_un, nl_rf, nl_long, isR_ref, isR_null, isR_rf, rf_some, rf_none, rOf_ref, rOf_null, rOf_rf, kn_v, kn_0, true_and, and_true, and_self, tin, inA_x, inA_l, ix_add, ix_addl, ix_ladd, ix_mul, ix_mull, ix_lmul, ix_tn, lt_tn, Nat.reduceLeDiff, Nat.reduceLT, Nat.reduceAdd, Nat.reduceMul, true_or, or_true, ↓reduceIte, aOk, ref_null, null_null, false_or, Option.isSome_some, Option.getD_some, ite_true, ite_false, eq_self, not_false_eq_true, not_true_eq_false, bz_ne, bz_1, reduceCtorEq, Bool.not_true, Bool.not_false]
        refine nx h3 v9 v10 st' ?_ i3
        rw [es', es, clN_s]
        by_cases qo : okC O k = true
        · rw [if_pos qo, if_pos qo, cdF_app]
        · rw [if_neg qo, if_neg qo]
      rw [w_X1_called_50]
      cases qo : okC O k
      · rw [qo, if_neg (by decide)] at nx
        simp (disch := first | assumption | omega | decide | rfl) only [w_X1_called_52, w_X1_called_53, w_X1_called_56, w_X1_called_59, w_X1_called_62, w_X1_called_63, w_X1_called_66, w_X1_called_68, w_X1_called_71, w_X1_called_74, nl_int, nl_ref, nl_null, nl_un, nl_rf, nl_long, isR_ref, isR_null, isR_rf, rf_some, rf_none, rOf_ref, rOf_null, rOf_rf, kn_v, kn_0, true_and, and_true, and_self, tin, inA_x, inA_l, ix_add, ix_addl, ix_ladd, ix_mul, ix_mull, ix_lmul, ix_tn, lt_tn, Nat.reduceLeDiff, Nat.reduceLT, Nat.reduceAdd, Nat.reduceMul, true_or, or_true, ↓reduceIte, aOk, ref_null, null_null, false_or, Option.isSome_some, Option.getD_some, ite_true, ite_false, eq_self, not_false_eq_true, not_true_eq_false, bz_ne, bz_1, reduceCtorEq, Bool.not_true, Bool.not_false, X3.f.tx, X3.f.f7, X3.f.t38, cx_all X3, ix_lt, hk, cx_may X3 i5 hk, qo]
        exact nx h3 _ _ st rfl ⟨i1, i2, i4, i5, i6, i7, i8⟩
      · rw [qo, if_pos rfl] at nx
        simp (disch := first | assumption | omega | decide | rfl) only [w_X1_called_52, w_X1_called_53, w_X1_called_56, w_X1_called_59, w_X1_called_62, w_X1_called_63, w_X1_called_66, w_X1_called_68, w_X1_called_71, w_X1_called_74, w_X1_called_77, w_X1_called_78, w_X1_called_81, w_X1_called_82, w_X1_called_85, w_X1_called_86, w_X1_called_89, nl_int, nl_ref, nl_null, nl_un, nl_rf, nl_long, isR_ref, isR_null, isR_rf, rf_some, rf_none, rOf_ref, rOf_null, rOf_rf, kn_v, kn_0, true_and, and_true, and_self, tin, inA_x, inA_l, ix_add, ix_addl, ix_ladd, ix_mul, ix_mull, ix_lmul, ix_tn, lt_tn, Nat.reduceLeDiff, Nat.reduceLT, Nat.reduceAdd, Nat.reduceMul, true_or, or_true, ↓reduceIte, aOk, ref_null, null_null, false_or, Option.isSome_some, Option.getD_some, ite_true, ite_false, eq_self, not_false_eq_true, not_true_eq_false, bz_ne, bz_1, reduceCtorEq, Bool.not_true, Bool.not_false, X3.f.tx, X3.f.f7, X3.f.t38, cx_all X3, ix_lt, hk, cx_may X3 i5 hk, qo, X3.f.f2, X3.fb, X3.f.t30]
        refine ca_mono (X3.cp (Or.inl rfl) X3.tr) ?_
        rintro r h4 ⟨rfl, bx4, t4, y4⟩
        have X4 := X3.tf t4
        have rc4 := bx4.rc X3.f i5
        simp (disch := first | assumption | omega | decide | rfl) only [w_X1_called_92, w_X1_called_94, nl_int, nl_ref, nl_null, nl_un, nl_rf, nl_long, isR_ref, isR_null, isR_rf, rf_some, rf_none, rOf_ref, rOf_null, rOf_rf, kn_v, kn_0, true_and, and_true, and_self, tin, inA_x, inA_l, ix_add, ix_addl, ix_ladd, ix_mul, ix_mull, ix_lmul, ix_tn, lt_tn, Nat.reduceLeDiff, Nat.reduceLT, Nat.reduceAdd, Nat.reduceMul, true_or, or_true, ↓reduceIte, aOk, ref_null, null_null, false_or, Option.isSome_some, Option.getD_some, ite_true, ite_false, eq_self, not_false_eq_true, not_true_eq_false, bz_ne, bz_1, reduceCtorEq, Bool.not_true, Bool.not_false, X4.f.t38]
        refine ca_mono (cx_rfalls X4 rc4 hk qo y4 W) ?_
        rintro r h5 ⟨rfl, bx5, -⟩
        have t5 := bx5.tf (x := x) (Or.inl rfl) y4.tg
        have X5 := X4.tf t5
        have rc5 := bx5.rc X4.f rc4
        have w5 : Tw x h h5 := (i1.trans t4.1).trans t5.1
        have b1 : Nc h5 ≤ Nc h + 1 := by have := t4.2.1; have := t5.2.1; omega
        have b2 : Ns h5 ≤ Ns h + 10 := by have := t4.2.2; have := t5.2.2; omega
        have Fx : F ≠ x + 30 + 1 := by have := X.f.lt; omega
        have b3 : Tg h5 F = 1003 := by rw [bx5.1, bx4.1]; exact i6
        have b4 : An h5 F = 10 := by rw [bx5.2.1, bx4.2.1]; exact i7
        have b5 : Ai h5 F = Ai h3 F := by
          have e4 := bx4.2.2.2.2.2.2.2.2.2.2.1 F Fx (by omega) (by omega)
          have e5 := bx5.2.2.2.2.2.2.2.2.2.2.1 F Fx (by rw [bx4.1]; omega) (by rw [bx4.1]; omega)
          rw [e5, e4]
        have hf : cfF O S.B k < 1024 := faF_lt hh
        rw [show faF O S.B.hang S.B.loose (whC O S.B k) (ecC O S.B k) = cfF O S.B k from rfl]
        unfold cdS at nx
        have eqk : (ix (cfF O S.B k &&& S.K) = ix S.T) = (cfF O S.B k &&& S.K = S.T) := ix_eq (by have := and_lt (b := S.K) hf; omega) (by omega)
        have b8 : ∀ a, a < 10 → Ai h5 F a = ix (st.2.2.2 a) := fun a ha => by rw [b5]; exact i8 a ha
        by_cases q1 : cfF O S.B k &&& S.K = S.T
        · have d1 : (cfF O S.B k &&& S.K = S.T) = True := eq_true q1
          rw [if_pos q1] at nx
          have r2 : ix k / 16 = ix (k / 16) := ix_dvl (n := 16) (by omega) (by decide) (by decide)
          have o1 := ix_one (k := k % 16) (by omega)
          have o2 := ix_one (k := k / 16) (by omega)
          simp (disch := first | assumption | omega | decide | rfl) only [w_X1_called_97, w_X1_called_99, w_X1_called_101, w_X1_called_102, w_X1_called_103, w_X1_called_104, w_X1_called_107, w_X1_called_110, w_X1_called_113, w_X1_called_115, w_X1_called_116, w_X1_called_118, w_X1_called_120, w_X1_called_121, w_X1_called_122, w_X1_called_123, w_X1_called_125, w_X1_called_127, w_X1_called_128, w_X1_called_130, w_X1_called_132, w_X1_called_133, w_X1_called_134, w_X1_called_135, w_X1_called_137, w_X1_called_138, nl_int, nl_ref, nl_null, nl_un, nl_rf, nl_long, isR_ref, isR_null, isR_rf, rf_some, rf_none, rOf_ref, rOf_null, rOf_rf, kn_v, kn_0, true_and, and_true, and_self, tin, inA_x, inA_l, ix_add, ix_addl, ix_ladd, ix_mul, ix_mull, ix_lmul, ix_tn, lt_tn, Nat.reduceLeDiff, Nat.reduceLT, Nat.reduceAdd, Nat.reduceMul, true_or, or_true, ↓reduceIte, aOk, ref_null, null_null, false_or, Option.isSome_some, Option.getD_some, ite_true, ite_false, eq_self, not_false_eq_true, not_true_eq_false, bz_ne, bz_1, reduceCtorEq, Bool.not_true, Bool.not_false, ix_and, eqk, d1, r2, ix_rem2, o1, o2, ix_or]
          refine lp (P := fun i => ∀ h6, (Tw x h h6 ∧ Nc h6 ≤ Nc h + 1 ∧ Ns h6 ≤ Ns h + 10 ∧ RC h6 x O S.B ∧ Tg h6 F = 1003 ∧ An h6 F = 10 ∧ ∀ a, a < 10 → Ai h6 F a = ix (if a < i then st.2.2.2 a + ((cfF O S.B k).testBit a).toNat else st.2.2.2 a)) → Ru (D + 269) 30 140 [.ref x, .int v, .int (ix S.T), .int (ix S.K), .ref F, .int (ix (st.1 + 1)), .int (ix (st.2.1 ||| 2 ^ (k % 16))), .int (ix (st.2.2.1 ||| 2 ^ (k / 16))), .int (ix k), .int (ix (cfF O S.B k)), .int (ix i)] [] h6 Q) (N := 10) ?_ ?_ h5 ⟨w5, b1, b2, rc5, b3, b4, fun a ha => by rw [if_neg (by omega)]; exact b8 a ha⟩
          · rintro h6 ⟨j1, j2, j3, j4, j5, j6, j7⟩
            have e : (ix 10 < 10) = False := eq_false (by decide)
            rw [w_X1_called_140]
            simp (disch := first | assumption | omega | decide | rfl) only [w_X1_called_142, w_X1_called_144, nl_int, nl_ref, nl_null, nl_un, nl_rf, nl_long, isR_ref, isR_null, isR_rf, rf_some, rf_none, rOf_ref, rOf_null, rOf_rf, kn_v, kn_0, true_and, and_true, and_self, tin, inA_x, inA_l, ix_add, ix_addl, ix_ladd, ix_mul, ix_mull, ix_lmul, ix_tn, lt_tn, Nat.reduceLeDiff, Nat.reduceLT, Nat.reduceAdd, Nat.reduceMul, true_or, or_true, ↓reduceIte, aOk, ref_null, null_null, false_or, Option.isSome_some, Option.getD_some, ite_true, ite_false, eq_self, not_false_eq_true, not_true_eq_false, bz_ne, bz_1, reduceCtorEq, Bool.not_true, Bool.not_false, e]
            exact nx h6 _ _ (_, _, _, _) rfl ⟨j1, j2, j3, j4, j5, j6, fun a ha => by rw [j7 a ha, if_pos ha]⟩
          · rintro i hi nx2 h6 ⟨j1, j2, j3, j4, j5, j6, j7⟩
            have e : (ix i < 10) = True := ltT (n := 10) hi (by decide)
            have gi := j7 i hi
            rw [if_neg (by omega)] at gi
            have hb := fun Q => c_has (d := D + 268) (h := h6) (Q := Q) hf hi
            have tf1 : 1000 ≤ Tg h6 F := by omega
            have tf2 : Tg h6 F < 2000 := by omega
            have tf3 : Tg h6 F < 1900 := by omega
            have l39 := X.f.lt
            rw [w_X1_called_140]
            cases qb : (cfF O S.B k).testBit i
            · rw [qb] at hb
              simp (disch := first | assumption | omega | decide | rfl) only [w_X1_called_142, w_X1_called_144, w_X1_called_147, w_X1_called_149, w_X1_called_151, w_X1_called_154, w_X1_called_166, w_X1_called_169, nl_int, nl_ref, nl_null, nl_un, nl_rf, nl_long, isR_ref, isR_null, isR_rf, rf_some, rf_none, rOf_ref, rOf_null, rOf_rf, kn_v, kn_0, true_and, and_true, and_self, tin, inA_x, inA_l, ix_add, ix_addl, ix_ladd, ix_mul, ix_mull, ix_lmul, ix_tn, lt_tn, Nat.reduceLeDiff, Nat.reduceLT, Nat.reduceAdd, Nat.reduceMul, true_or, or_true, ↓reduceIte, aOk, ref_null, null_null, false_or, Option.isSome_some, Option.getD_some, ite_true, ite_false, eq_self, not_false_eq_true, not_true_eq_false, bz_ne, bz_1, reduceCtorEq, Bool.not_true, Bool.not_false, e, hb]
              refine nx2 h6 ⟨j1, j2, j3, j4, j5, j6, fun a ha => ?_⟩
              rw [j7 a ha]
              by_cases qa : a = i
              · rw [qa, if_neg (by omega), if_pos (by omega), qb]; rfl
              · have : (a < i + 1) = (a < i) := by apply propext; omega
                simp only [this]
            · rw [qb] at hb
              simp (disch := first | assumption | omega | decide | rfl) only [w_X1_called_142, w_X1_called_144, w_X1_called_147, w_X1_called_149, w_X1_called_151, w_X1_called_154, w_X1_called_157, w_X1_called_159, w_X1_called_161, w_X1_called_162, w_X1_called_163, w_X1_called_164, w_X1_called_165, w_X1_called_166, w_X1_called_169, nl_int, nl_ref, nl_null, nl_un, nl_rf, nl_long, isR_ref, isR_null, isR_rf, rf_some, rf_none, rOf_ref, rOf_null, rOf_rf, kn_v, kn_0, true_and, and_true, and_self, tin, inA_x, inA_l, ix_add, ix_addl, ix_ladd, ix_mul, ix_mull, ix_lmul, ix_tn, lt_tn, Nat.reduceLeDiff, Nat.reduceLT, Nat.reduceAdd, Nat.reduceMul, true_or, or_true, ↓reduceIte, aOk, ref_null, null_null, false_or, Option.isSome_some, Option.getD_some, ite_true, ite_false, eq_self, not_false_eq_true, not_true_eq_false, bz_ne, bz_1, reduceCtorEq, Bool.not_true, Bool.not_false, e, hb, tf1, tf2, tf3, j6, gi]
              refine nx2 _ ⟨tw_st j1 (by omega), j2, j3, j4.of (Ai_other (by omega)) (Ai_other (by omega)) (Ai_other (by omega)), j5, j6, fun a ha => ?_⟩
              rw [Ai_same]
              by_cases qa : a = i
              · rw [qa, upd_s, if_pos (by omega), qb]; rfl
              · rw [upd_n qa, j7 a ha]
                have : (a < i + 1) = (a < i) := by apply propext; omega
                simp only [this]
        · have d1 : (cfF O S.B k &&& S.K = S.T) = False := eq_false q1
          rw [if_neg q1] at nx
          simp (disch := first | assumption | omega | decide | rfl) only [w_X1_called_97, w_X1_called_99, w_X1_called_101, w_X1_called_102, w_X1_called_103, w_X1_called_104, w_X1_called_107, nl_int, nl_ref, nl_null, nl_un, nl_rf, nl_long, isR_ref, isR_null, isR_rf, rf_some, rf_none, rOf_ref, rOf_null, rOf_rf, kn_v, kn_0, true_and, and_true, and_self, tin, inA_x, inA_l, ix_add, ix_addl, ix_ladd, ix_mul, ix_mull, ix_lmul, ix_tn, lt_tn, Nat.reduceLeDiff, Nat.reduceLT, Nat.reduceAdd, Nat.reduceMul, true_or, or_true, ↓reduceIte, aOk, ref_null, null_null, false_or, Option.isSome_some, Option.getD_some, ite_true, ite_false, eq_self, not_false_eq_true, not_true_eq_false, bz_ne, bz_1, reduceCtorEq, Bool.not_true, Bool.not_false, ix_and, eqk, d1]
          exact nx h5 _ _ st rfl ⟨w5, b1, b2, rc5, b3, b4, b8⟩
  · have c1 : decide (0 ≤ v ∧ v ≤ 3) = false := decide_eq_false q
    simp (disch := first | assumption | omega | decide | rfl) only [w_X1_called_0, w_X1_called_1, w_X1_called_2, w_X1_called_3, w_X1_called_6, w_X1_called_9, w_X1_called_10, nl_int, nl_ref, nl_null, nl_un, nl_rf, nl_long, isR_ref, isR_null, isR_rf, rf_some, rf_none, rOf_ref, rOf_null, rOf_rf, kn_v, kn_0, true_and, and_true, and_self, tin, inA_x, inA_l, ix_add, ix_addl, ix_ladd, ix_mul, ix_mull, ix_lmul, ix_tn, lt_tn, Nat.reduceLeDiff, Nat.reduceLT, Nat.reduceAdd, Nat.reduceMul, true_or, or_true, ↓reduceIte, aOk, ref_null, null_null, false_or, Option.isSome_some, Option.getD_some, ite_true, ite_false, eq_self, not_false_eq_true, not_true_eq_false, bz_ne, bz_1, reduceCtorEq, Bool.not_true, Bool.not_false, cx_within, c1]
    rw [← hQ]
    exact ⟨by unfold cldF; rw [if_neg q], Tw.refl, by omega, by omega⟩
end
