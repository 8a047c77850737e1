/-! THE MODEL: who was called -/
set_option maxRecDepth 100000
abbrev Cs : Type := Nat × Nat × Nat × (Nat → Nat)
noncomputable def cfF (O : Oc) (B : Bo) (c : Nat) : Nat := faF O B.hang B.loose (whC O B c) (ecC O B c)
noncomputable def cdS (O : Oc) (B : Bo) (K T : Nat) (st : Cs) (c : Nat) : Cs := if cfF O B c &&& K = T then (st.1 + 1, st.2.1 ||| 2 ^ (c % 16), st.2.2.1 ||| 2 ^ (c / 16), fun a => st.2.2.2 a + ((cfF O B c).testBit a).toNat) else st
noncomputable def cdF (O : Oc) (B : Bo) (K T : Nat) (l : List Nat) : Cs := l.foldl (cdS O B K T) (0, 0, 0, fun _ => 0)
noncomputable def ptS (B : Bo) (K : Nat) (st : Cs) (p : Int32 × Nat) (a : Nat) : Int32 × Nat := if (B.hang.testBit a && !K.testBit a && decide (p.2 < min (st.2.2.2 a) (st.1 - st.2.2.2 a))) = true then (ix a, min (st.2.2.2 a) (st.1 - st.2.2.2 a)) else p
noncomputable def ptF (B : Bo) (K : Nat) (st : Cs) (n : Nat) : Int32 × Nat := foI (ptS B K st) (-1, 0) n
noncomputable def cldF (O : Oc) (B : Bo) (K T : Nat) (v : Int32) : Int32 := if 0 ≤ v ∧ v ≤ 3 then (if v = 0 then ix (cdF O B K T (clN O (16 * O.nP))).1 else if (cdF O B K T (clN O (16 * O.nP))).1 = 0 then -1 else if v = 1 then ix (cdF O B K T (clN O (16 * O.nP))).2.1 else if v = 2 then ix (cdF O B K T (clN O (16 * O.nP))).2.2.1 else (ptF B K (cdF O B K T (clN O (16 * O.nP))) O.nA).1) else -1
section
variable {d D m a b c p q s n k i j K T : Nat} {h h' : AH} {Q : Rs → AH → Prop} {O : Oc} {B : Bo} {A F : List Nat} {u v w : Int32} {l : List Nat}
theorem cd_le : ∀ (l : List Nat) (z : Cs), (∀ a, z.2.2.2 a ≤ z.1) → (∀ a, (l.foldl (cdS O B K T) z).2.2.2 a ≤ (l.foldl (cdS O B K T) z).1) ∧ (l.foldl (cdS O B K T) z).1 ≤ z.1 + l.length := by
  intro l
  induction l with
  | nil => intro z hz; exact ⟨hz, Nat.le_refl _⟩
  | cons c l ih =>
    intro z hz
    have h1 : ∀ a, (cdS O B K T z c).2.2.2 a ≤ (cdS O B K T z c).1 := by
      intro a
      unfold cdS
      by_cases q : cfF O B c &&& K = T
      · rw [if_pos q]
        have := hz a
        have := Bool.toNat_le ((cfF O B c).testBit a)
        show z.2.2.2 a + ((cfF O B c).testBit a).toNat ≤ z.1 + 1
        omega
      · rw [if_neg q]; exact hz a
    have h2 : (cdS O B K T z c).1 ≤ z.1 + 1 := by
      unfold cdS
      by_cases q : cfF O B c &&& K = T
      · rw [if_pos q]; exact Nat.le_refl _
      · rw [if_neg q]; omega
    obtain ⟨i1, i2⟩ := ih _ h1
    rw [List.foldl_cons]
    refine ⟨i1, ?_⟩
    rw [List.length_cons]
    omega
theorem cdF_le (l : List Nat) : (∀ a, (cdF O B K T l).2.2.2 a ≤ (cdF O B K T l).1) ∧ (cdF O B K T l).1 ≤ l.length := by
  have := cd_le (O := O) (B := B) (K := K) (T := T) l (0, 0, 0, fun _ => 0) (fun _ => Nat.le_refl _)
  rw [Nat.zero_add] at this
  exact this
theorem cdF_app : cdF O B K T (l ++ [c]) = cdS O B K T (cdF O B K T l) c := by
  unfold cdF
  rw [List.foldl_append]
  rfl
abbrev clA : List Nat := [58, 59, 60, 64]
abbrev clG : List Nat := [60, 130, 131, 132, 137]
theorem called_d (x : M0 h m O) (y : MB h (m + 53) 0 O.nA B) (z : WB O B) (k1 : Ai h (m + 47) 0 = ix K) (hK : K < 1024) (st : Cs) (s1 : ∀ a, st.2.2.2 a ≤ st.1) (s2 : st.1 ≤ 80) (g : ∀ a, a < 10 → Ai h (m + 64) a = ix (st.2.2.2 a)) {l3 l8 : Value} {l4 : Int32} : Ru (D + 5) 223 236 [.ref m, .int v, .int (ix st.1), l3, .int l4, .int (-1), .int 0, .int 0, l8] [] h Q = Q (.inl (some (.int (ptF B K st O.nA).1))) h := by
  have n1 := x.wo.nA
  have hm := x.mo
  have hh := z.lt x.wo
  have y0 := y.h0
  refine lp (P := fun j => ∀ l8 : Value, Ru (D + 5) 223 236 [.ref m, .int v, .int (ix st.1), l3, .int l4, .int (ptF B K st j).1, .int (ix (ptF B K st j).2), .int (ix j), l8] [] h Q = Q (.inl (some (.int (ptF B K st O.nA).1))) h) (N := O.nA) ?_ ?_ l8
  · intro l8
    have e : ¬ O.nA < O.nA := by omega
    rw [w_X9_called_236]
    simp (disch := first | assumption | omega | decide | rfl) only [w_X9_called_238, w_X9_called_239, w_X9_called_242, w_X9_called_243, w_X9_called_244, w_X9_called_316, w_X9_called_318, nl_int, nl_ref, nl_null, nl_un, nl_rf, nl_long, isR_ref, isR_null, isR_rf, rf_some, rf_none, rOf_ref, rOf_null, rOf_rf, kn_v, kn_0, true_and, and_true, and_self, tin, inA_x, inA_l, ix_add, ix_addl, ix_ladd, ix_mul, ix_mull, ix_lmul, ix_tn, lt_tn, Nat.reduceLeDiff, Nat.reduceLT, Nat.reduceAdd, Nat.reduceMul, true_or, or_true, ↓reduceIte, aOk, ref_null, null_null, false_or, Option.isSome_some, Option.getD_some, ite_true, ite_false, eq_self, not_false_eq_true, not_true_eq_false, bz_ne, bz_1, reduceCtorEq, Bool.not_true, Bool.not_false, mo_0 hm, mo_fallIn hm, mt_fallIn hm, ml_fallIn hm, mo_s hm, mt_s hm, ml_s hm, mo_heardBy hm, mt_heardBy hm, ml_heardBy hm, mo_halfBy hm, mt_halfBy hm, ml_halfBy hm, mo_liesKnown hm, mt_liesKnown hm, ml_liesKnown hm, mo_liesThere hm, mt_liesThere hm, ml_liesThere hm, mo_callAs hm, mt_callAs hm, ml_callAs hm, mo_orchard hm, mt_orchard hm, ml_orchard hm, x.aA, ix_lt, e]
  · intro j hj nx l8
    have gj := g j (by omega)
    have sj := s1 j
    have kb := has_b (n := K) (k := j) (by omega) (by omega)
    have nx := fun l8 => nx l8
    have es : ptF B K st (j + 1) = ptS B K st (ptF B K st j) j := rfl
    rw [es] at nx
    unfold ptS at nx
    have hp : (ptF B K st j).2 < 2147483648 := by
      have : ∀ n, (ptF B K st n).2 ≤ 80 := by
        intro n
        induction n with
        | zero => exact Nat.zero_le _
        | succ n ih =>
          show (ptS B K st (ptF B K st n) n).2 ≤ 80
          unfold ptS
          split
          · have := s1 n; show min _ _ ≤ 80; omega
          · exact ih
      have := this j
      omega
    revert nx hp
    generalize ptF B K st j = pp
    intro nx hp
    rw [w_X9_called_236]
    simp (disch := first | assumption | omega | decide | rfl) only [w_X9_called_238, w_X9_called_239, w_X9_called_242, w_X9_called_243, w_X9_called_244, w_X9_called_247, w_X9_called_248, w_X9_called_251, w_X9_called_253, w_X9_called_254, w_X9_called_255, w_X9_called_256, w_X9_called_259, w_X9_called_261, w_X9_called_262, w_X9_called_263, nl_int, nl_ref, nl_null, nl_un, nl_rf, nl_long, isR_ref, isR_null, isR_rf, rf_some, rf_none, rOf_ref, rOf_null, rOf_rf, kn_v, kn_0, true_and, and_true, and_self, tin, inA_x, inA_l, ix_add, ix_addl, ix_ladd, ix_mul, ix_mull, ix_lmul, ix_tn, lt_tn, Nat.reduceLeDiff, Nat.reduceLT, Nat.reduceAdd, Nat.reduceMul, true_or, or_true, ↓reduceIte, aOk, ref_null, null_null, false_or, Option.isSome_some, Option.getD_some, ite_true, ite_false, eq_self, not_false_eq_true, not_true_eq_false, bz_ne, bz_1, reduceCtorEq, Bool.not_true, Bool.not_false, mo_0 hm, mo_fallIn hm, mt_fallIn hm, ml_fallIn hm, mo_s hm, mt_s hm, ml_s hm, mo_heardBy hm, mt_heardBy hm, ml_heardBy hm, mo_halfBy hm, mt_halfBy hm, ml_halfBy hm, mo_liesKnown hm, mt_liesKnown hm, ml_liesKnown hm, mo_liesThere hm, mt_liesThere hm, ml_liesThere hm, mo_callAs hm, mt_callAs hm, ml_callAs hm, mo_orchard hm, mt_orchard hm, ml_orchard hm, x.aA, ix_lt, hj, gj, ix_sub]
    rw [c_minx (by omega) (by omega), kn_v]
    simp (disch := first | assumption | omega | decide | rfl) only [w_X9_called_266, w_X9_called_268, w_X9_called_269, w_X9_called_271, nl_int, nl_ref, nl_null, nl_un, nl_rf, nl_long, isR_ref, isR_null, isR_rf, rf_some, rf_none, rOf_ref, rOf_null, rOf_rf, kn_v, kn_0, true_and, and_true, and_self, tin, inA_x, inA_l, ix_add, ix_addl, ix_ladd, ix_mul, ix_mull, ix_lmul, ix_tn, lt_tn, Nat.reduceLeDiff, Nat.reduceLT, Nat.reduceAdd, Nat.reduceMul, true_or, or_true, ↓reduceIte, aOk, ref_null, null_null, false_or, Option.isSome_some, Option.getD_some, ite_true, ite_false, eq_self, not_false_eq_true, not_true_eq_false, bz_ne, bz_1, reduceCtorEq, Bool.not_true, Bool.not_false, mo_0 hm]
    rw [cm_hangs hm y0 hh (by omega), kn_v]
    have jn : ∀ pp' : Int32 × Nat, (∀ l8 : Value, Ru (D + 5) 223 236 [.ref m, .int v, .int (ix st.1), l3, .int l4, .int pp'.1, .int (ix pp'.2), .int (ix (j + 1)), l8] [] h Q = Q (.inl (some (.int (ptF B K st O.nA).1))) h) → ∀ l8 : Value, Ru (D + 5) 223 310 [.ref m, .int v, .int (ix st.1), l3, .int l4, .int pp'.1, .int (ix pp'.2), .int (ix j), l8] [] h Q = Q (.inl (some (.int (ptF B K st O.nA).1))) h := by
      intro pp' hx l8
      simp (disch := first | assumption | omega | decide | rfl) only [w_X9_called_310, w_X9_called_313, nl_int, nl_ref, nl_null, nl_un, nl_rf, nl_long, isR_ref, isR_null, isR_rf, rf_some, rf_none, rOf_ref, rOf_null, rOf_rf, kn_v, kn_0, true_and, and_true, and_self, tin, inA_x, inA_l, ix_add, ix_addl, ix_ladd, ix_mul, ix_mull, ix_lmul, ix_tn, lt_tn, Nat.reduceLeDiff, Nat.reduceLT, Nat.reduceAdd, Nat.reduceMul, true_or, or_true, ↓reduceIte, aOk, ref_null, null_null, false_or, Option.isSome_some, Option.getD_some, ite_true, ite_false, eq_self, not_false_eq_true, not_true_eq_false, bz_ne, bz_1, reduceCtorEq, Bool.not_true, Bool.not_false]
      exact hx l8
    cases q1 : B.hang.testBit j
    · simp only [q1, Bool.false_and, if_false, Bool.false_eq_true] at nx
      simp (disch := first | assumption | omega | decide | rfl) only [w_X9_called_274, nl_int, nl_ref, nl_null, nl_un, nl_rf, nl_long, isR_ref, isR_null, isR_rf, rf_some, rf_none, rOf_ref, rOf_null, rOf_rf, kn_v, kn_0, true_and, and_true, and_self, tin, inA_x, inA_l, ix_add, ix_addl, ix_ladd, ix_mul, ix_mull, ix_lmul, ix_tn, lt_tn, Nat.reduceLeDiff, Nat.reduceLT, Nat.reduceAdd, Nat.reduceMul, true_or, or_true, ↓reduceIte, aOk, ref_null, null_null, false_or, Option.isSome_some, Option.getD_some, ite_true, ite_false, eq_self, not_false_eq_true, not_true_eq_false, bz_ne, bz_1, reduceCtorEq, Bool.not_true, Bool.not_false, q1]
      exact jn pp nx _
    · cases q2 : K.testBit j
      · have kb : (ix K >>> (ix j &&& 31) &&& 1 = 1) = False := by rw [kb, q2]; simp
        by_cases q3 : pp.2 < min (st.2.2.2 j) (st.1 - st.2.2.2 j)
        · rw [if_pos (by simp [q1, q2, q3])] at nx
          simp (disch := first | assumption | omega | decide | rfl) only [w_X9_called_274, w_X9_called_277, w_X9_called_278, w_X9_called_281, w_X9_called_282, w_X9_called_283, w_X9_called_285, w_X9_called_286, w_X9_called_287, w_X9_called_288, w_X9_called_289, w_X9_called_292, w_X9_called_294, w_X9_called_296, w_X9_called_299, w_X9_called_302, w_X9_called_304, w_X9_called_306, w_X9_called_308, nl_int, nl_ref, nl_null, nl_un, nl_rf, nl_long, isR_ref, isR_null, isR_rf, rf_some, rf_none, rOf_ref, rOf_null, rOf_rf, kn_v, kn_0, true_and, and_true, and_self, tin, inA_x, inA_l, ix_add, ix_addl, ix_ladd, ix_mul, ix_mull, ix_lmul, ix_tn, lt_tn, Nat.reduceLeDiff, Nat.reduceLT, Nat.reduceAdd, Nat.reduceMul, true_or, or_true, ↓reduceIte, aOk, ref_null, null_null, false_or, Option.isSome_some, Option.getD_some, ite_true, ite_false, eq_self, not_false_eq_true, not_true_eq_false, bz_ne, bz_1, reduceCtorEq, Bool.not_true, Bool.not_false, mo_0 hm, mo_fallIn hm, mt_fallIn hm, ml_fallIn hm, mo_s hm, mt_s hm, ml_s hm, mo_heardBy hm, mt_heardBy hm, ml_heardBy hm, mo_halfBy hm, mt_halfBy hm, ml_halfBy hm, mo_liesKnown hm, mt_liesKnown hm, ml_liesKnown hm, mo_liesThere hm, mt_liesThere hm, ml_liesThere hm, mo_callAs hm, mt_callAs hm, ml_callAs hm, mo_orchard hm, mt_orchard hm, ml_orchard hm, q1, k1, kb, ix_lt, q3]
          exact jn (_, _) nx _
        · rw [if_neg (by simp [q1, q2, q3])] at nx
          simp (disch := first | assumption | omega | decide | rfl) only [w_X9_called_274, w_X9_called_277, w_X9_called_278, w_X9_called_281, w_X9_called_282, w_X9_called_283, w_X9_called_285, w_X9_called_286, w_X9_called_287, w_X9_called_288, w_X9_called_289, w_X9_called_292, w_X9_called_294, w_X9_called_296, w_X9_called_299, nl_int, nl_ref, nl_null, nl_un, nl_rf, nl_long, isR_ref, isR_null, isR_rf, rf_some, rf_none, rOf_ref, rOf_null, rOf_rf, kn_v, kn_0, true_and, and_true, and_self, tin, inA_x, inA_l, ix_add, ix_addl, ix_ladd, ix_mul, ix_mull, ix_lmul, ix_tn, lt_tn, Nat.reduceLeDiff, Nat.reduceLT, Nat.reduceAdd, Nat.reduceMul, true_or, or_true, ↓reduceIte, aOk, ref_null, null_null, false_or, Option.isSome_some, Option.getD_some, ite_true, ite_false, eq_self, not_false_eq_true, not_true_eq_false, bz_ne, bz_1, reduceCtorEq, Bool.not_true, Bool.not_false, mo_0 hm, mo_fallIn hm, mt_fallIn hm, ml_fallIn hm, mo_s hm, mt_s hm, ml_s hm, mo_heardBy hm, mt_heardBy hm, ml_heardBy hm, mo_halfBy hm, mt_halfBy hm, ml_halfBy hm, mo_liesKnown hm, mt_liesKnown hm, ml_liesKnown hm, mo_liesThere hm, mt_liesThere hm, ml_liesThere hm, mo_callAs hm, mt_callAs hm, ml_callAs hm, mo_orchard hm, mt_orchard hm, ml_orchard hm, q1, k1, kb, ix_lt, q3]
          exact jn pp nx _
      · have kb : (ix K >>> (ix j &&& 31) &&& 1 = 1) = True := by rw [kb, q2]; simp
        rw [if_neg (by simp [q2])] at nx
        simp (disch := first | assumption | omega | decide | rfl) only [w_X9_called_274, w_X9_called_277, w_X9_called_278, w_X9_called_281, w_X9_called_282, w_X9_called_283, w_X9_called_285, w_X9_called_286, w_X9_called_287, w_X9_called_288, w_X9_called_289, nl_int, nl_ref, nl_null, nl_un, nl_rf, nl_long, isR_ref, isR_null, isR_rf, rf_some, rf_none, rOf_ref, rOf_null, rOf_rf, kn_v, kn_0, true_and, and_true, and_self, tin, inA_x, inA_l, ix_add, ix_addl, ix_ladd, ix_mul, ix_mull, ix_lmul, ix_tn, lt_tn, Nat.reduceLeDiff, Nat.reduceLT, Nat.reduceAdd, Nat.reduceMul, true_or, or_true, ↓reduceIte, aOk, ref_null, null_null, false_or, Option.isSome_some, Option.getD_some, ite_true, ite_false, eq_self, not_false_eq_true, not_true_eq_false, bz_ne, bz_1, reduceCtorEq, Bool.not_true, Bool.not_false, mo_0 hm, mo_fallIn hm, mt_fallIn hm, ml_fallIn hm, mo_s hm, mt_s hm, ml_s hm, mo_heardBy hm, mt_heardBy hm, ml_heardBy hm, mo_halfBy hm, mt_halfBy hm, ml_halfBy hm, mo_liesKnown hm, mt_liesKnown hm, ml_liesKnown hm, mo_liesThere hm, mt_liesThere hm, ml_liesThere hm, mo_callAs hm, mt_callAs hm, ml_callAs hm, mo_orchard hm, mt_orchard hm, ml_orchard hm, q1, k1, kb]
        exact jn pp nx _
theorem cm_called (x : M0 h m O) (y : MB h (m + 53) 0 O.nA B) (z : WB O B) (l : MK h m 0 K T) : Ca (D + 6) 223 [.ref m, .int v] h (fun r h' => r = .inl (some (.int (cldF O B K T v))) ∧ Md m clA clG h h' ∧ Fi h' 60 m = 0) := by
  have n1 := x.wo.nA
  have n3 := x.wo.nP
  have hh := z.lt x.wo
  generalize hQ : (fun r h' => r = .inl (some (.int (cldF O B K T v))) ∧ Md m clA clG h h' ∧ Fi h' 60 m = 0 : Rs → AH → Prop) = Q
  have fin : ∀ r : Int32, ∀ h2, Md m clA clG h h2 → Fi h2 60 m = 0 → r = cldF O B K T v → Q (.inl (some (.int r))) h2 := fun r h2 a b c => by
    rw [← hQ, c]; exact ⟨rfl, a, b⟩
  rw [e_X9_called]
  simp (disch := first | assumption | omega | decide | rfl) only [w_X9_called_0, w_X9_called_1, w_X9_called_2, w_X9_called_5, w_X9_called_6, w_X9_called_7, w_X9_called_8, nl_int, nl_ref, nl_null, nl_un, nl_rf, nl_long, isR_ref, isR_null, isR_rf, rf_some, rf_none, rOf_ref, rOf_null, rOf_rf, kn_v, kn_0, true_and, and_true, and_self, tin, inA_x, inA_l, ix_add, ix_addl, ix_ladd, ix_mul, ix_mull, ix_lmul, ix_tn, lt_tn, Nat.reduceLeDiff, Nat.reduceLT, Nat.reduceAdd, Nat.reduceMul, true_or, or_true, ↓reduceIte, aOk, ref_null, null_null, false_or, Option.isSome_some, Option.getD_some, ite_true, ite_false, eq_self, not_false_eq_true, not_true_eq_false, bz_ne, bz_1, reduceCtorEq, Bool.not_true, Bool.not_false, mo_0 x.mo, cm_within]
  have u1 : Md m clA clG h (sFi h 60 m 0) := md_sFi (by decide)
  have f1 : Fi (sFi h 60 m 0) 60 m = 0 := Fi_same
  revert u1 f1
  generalize sFi h 60 m 0 = h1
  intro u1 f1
  by_cases q : 0 ≤ v ∧ v ≤ 3
  · have c1 : decide (0 ≤ v ∧ v ≤ 3) = true := decide_eq_true q
    have x1 : M0 h1 m O := x.md u1
    have hm1 := x1.mo
    simp (disch := first | assumption | omega | decide | rfl) only [w_X9_called_11, w_X9_called_14, w_X9_called_15, w_X9_called_16, w_X9_called_17, nl_int, nl_ref, nl_null, nl_un, nl_rf, nl_long, isR_ref, isR_null, isR_rf, rf_some, rf_none, rOf_ref, rOf_null, rOf_rf, kn_v, kn_0, true_and, and_true, and_self, tin, inA_x, inA_l, ix_add, ix_addl, ix_ladd, ix_mul, ix_mull, ix_lmul, ix_tn, lt_tn, Nat.reduceLeDiff, Nat.reduceLT, Nat.reduceAdd, Nat.reduceMul, true_or, or_true, ↓reduceIte, aOk, ref_null, null_null, false_or, Option.isSome_some, Option.getD_some, ite_true, ite_false, eq_self, not_false_eq_true, not_true_eq_false, bz_ne, bz_1, reduceCtorEq, Bool.not_true, Bool.not_false, c1, mo_0 hm1]
    refine ca_mono (cm_laysCalls x1 (y.md u1 (by decide)) z) ?_
    rintro r h2 ⟨rfl, u2, lc2⟩
    rw [kn_0]
    have f2 : Fi h2 60 m = 0 := by rw [u2.fi (by decide)]; exact f1
    have u2 : Md m clA clG h h2 := u1.t u2
    have lb : (clN O (16 * O.nP)).length ≤ 80 := Nat.le_trans (clN_len _) (by omega)
    have lv : ∀ i, i < (clN O (16 * O.nP)).length → (clN O (16 * O.nP)).getD i 0 < 80 := fun i hi => Nat.lt_of_lt_of_le (clN_lt _ i hi) (by omega)
    unfold cldF at fin
    rw [if_pos q] at fin
    revert fin lc2 lb lv
    generalize clN O (16 * O.nP) = cl
    intro fin lc2 lb lv
    simp (disch := first | assumption | omega | decide | rfl) only [w_X9_called_20, w_X9_called_21, w_X9_called_22, w_X9_called_23, w_X9_called_24, w_X9_called_25, w_X9_called_27, w_X9_called_28, nl_int, nl_ref, nl_null, nl_un, nl_rf, nl_long, isR_ref, isR_null, isR_rf, rf_some, rf_none, rOf_ref, rOf_null, rOf_rf, kn_v, kn_0, true_and, and_true, and_self, tin, inA_x, inA_l, ix_add, ix_addl, ix_ladd, ix_mul, ix_mull, ix_lmul, ix_tn, lt_tn, Nat.reduceLeDiff, Nat.reduceLT, Nat.reduceAdd, Nat.reduceMul, true_or, or_true, ↓reduceIte, aOk, ref_null, null_null, false_or, Option.isSome_some, Option.getD_some, ite_true, ite_false, eq_self, not_false_eq_true, not_true_eq_false, bz_ne, bz_1, reduceCtorEq, Bool.not_true, Bool.not_false]
    refine lp (P := fun j => ∀ h3, Md m clA clG h h3 → Fi h3 60 m = 0 → LC h3 m O B cl → (∀ a, a < j → Ai h3 (m + 64) a = ix 0) → Ru (D + 5) 223 30 [.ref m, .int v, .int 0, .int 0, .int 0, .int (ix j), un, un, un] [] h3 Q) (N := 10) ?_ ?_ h2 u2 f2 lc2 (fun a ha => absurd ha (by omega))
    · intro h3 u3 f3 lc3 g3
      have e : (ix 10 < 10) = False := eq_false (by decide)
      rw [w_X9_called_30]
      simp (disch := first | assumption | omega | decide | rfl) only [w_X9_called_32, w_X9_called_34, w_X9_called_51, w_X9_called_52, nl_int, nl_ref, nl_null, nl_un, nl_rf, nl_long, isR_ref, isR_null, isR_rf, rf_some, rf_none, rOf_ref, rOf_null, rOf_rf, kn_v, kn_0, true_and, and_true, and_self, tin, inA_x, inA_l, ix_add, ix_addl, ix_ladd, ix_mul, ix_mull, ix_lmul, ix_tn, lt_tn, Nat.reduceLeDiff, Nat.reduceLT, Nat.reduceAdd, Nat.reduceMul, true_or, or_true, ↓reduceIte, aOk, ref_null, null_null, false_or, Option.isSome_some, Option.getD_some, ite_true, ite_false, eq_self, not_false_eq_true, not_true_eq_false, bz_ne, bz_1, reduceCtorEq, Bool.not_true, Bool.not_false, e]
      refine lp (P := fun j => ∀ h4 (v6 v7 v8 : Value), Md m clA clG h h4 → Fi h4 60 m = 0 → LC h4 m O B cl → (∀ a, a < 10 → Ai h4 (m + 64) a = ix ((cdF O B K T (cl.take j)).2.2.2 a)) → Ru (D + 5) 223 54 [.ref m, .int v, .int (ix (cdF O B K T (cl.take j)).1), .int (ix (cdF O B K T (cl.take j)).2.1), .int (ix (cdF O B K T (cl.take j)).2.2.1), .int (ix j), v6, v7, v8] [] h4 Q) (N := cl.length) ?_ ?_ h3 un un un u3 f3 lc3 g3
      · intro h4 v6 v7 v8 u4 f4 lc4 g4
        rw [List.take_length] at g4 ⊢
        have x4 : M0 h4 m O := x.md u4
        have hm4 := x4.mo
        have e : ¬ cl.length < cl.length := by omega
        have c4 := lc4.n
        have k4 := (l.md u4 (by decide) (by decide)).kn
        obtain ⟨s1, s2⟩ := cdF_le (O := O) (B := B) (K := K) (T := T) cl
        revert fin g4 s1 s2
        generalize cdF O B K T cl = st
        intro fin g4 s1 s2
        rw [w_X9_called_54]
        simp (disch := first | assumption | omega | decide | rfl) only [w_X9_called_56, w_X9_called_57, w_X9_called_60, nl_int, nl_ref, nl_null, nl_un, nl_rf, nl_long, isR_ref, isR_null, isR_rf, rf_some, rf_none, rOf_ref, rOf_null, rOf_rf, kn_v, kn_0, true_and, and_true, and_self, tin, inA_x, inA_l, ix_add, ix_addl, ix_ladd, ix_mul, ix_mull, ix_lmul, ix_tn, lt_tn, Nat.reduceLeDiff, Nat.reduceLT, Nat.reduceAdd, Nat.reduceMul, true_or, or_true, ↓reduceIte, aOk, ref_null, null_null, false_or, Option.isSome_some, Option.getD_some, ite_true, ite_false, eq_self, not_false_eq_true, not_true_eq_false, bz_ne, bz_1, reduceCtorEq, Bool.not_true, Bool.not_false, mo_0 hm4, c4, ix_lt, e]
        by_cases q0 : v = 0
        · have d0 : (v = 0) = True := eq_true q0
          have d3 : (v < 3) = True := by rw [q0]; decide
          rw [if_pos q0] at fin
          by_cases qn : st.1 = 0
          · have dn : (st.1 = 0) = True := eq_true qn
            simp (disch := first | assumption | omega | decide | rfl) only [w_X9_called_190, w_X9_called_191, w_X9_called_199, w_X9_called_200, w_X9_called_203, w_X9_called_204, w_X9_called_226, nl_int, nl_ref, nl_null, nl_un, nl_rf, nl_long, isR_ref, isR_null, isR_rf, rf_some, rf_none, rOf_ref, rOf_null, rOf_rf, kn_v, kn_0, true_and, and_true, and_self, tin, inA_x, inA_l, ix_add, ix_addl, ix_ladd, ix_mul, ix_mull, ix_lmul, ix_tn, lt_tn, Nat.reduceLeDiff, Nat.reduceLT, Nat.reduceAdd, Nat.reduceMul, true_or, or_true, ↓reduceIte, aOk, ref_null, null_null, false_or, Option.isSome_some, Option.getD_some, ite_true, ite_false, eq_self, not_false_eq_true, not_true_eq_false, bz_ne, bz_1, reduceCtorEq, Bool.not_true, Bool.not_false, ix_eql, dn, d0]
            exact fin _ _ u4 f4 rfl
          · have dn : (st.1 = 0) = False := eq_false qn
            simp (disch := first | assumption | omega | decide | rfl) only [w_X9_called_190, w_X9_called_191, w_X9_called_194, w_X9_called_195, w_X9_called_196, w_X9_called_199, w_X9_called_200, w_X9_called_203, w_X9_called_204, w_X9_called_226, nl_int, nl_ref, nl_null, nl_un, nl_rf, nl_long, isR_ref, isR_null, isR_rf, rf_some, rf_none, rOf_ref, rOf_null, rOf_rf, kn_v, kn_0, true_and, and_true, and_self, tin, inA_x, inA_l, ix_add, ix_addl, ix_ladd, ix_mul, ix_mull, ix_lmul, ix_tn, lt_tn, Nat.reduceLeDiff, Nat.reduceLT, Nat.reduceAdd, Nat.reduceMul, true_or, or_true, ↓reduceIte, aOk, ref_null, null_null, false_or, Option.isSome_some, Option.getD_some, ite_true, ite_false, eq_self, not_false_eq_true, not_true_eq_false, bz_ne, bz_1, reduceCtorEq, Bool.not_true, Bool.not_false, ix_eql, dn, d0, d3]
            exact fin _ _ u4 f4 rfl
        · have d0 : (v = 0) = False := eq_false q0
          rw [if_neg q0] at fin
          by_cases qn : st.1 = 0
          · have dn : (st.1 = 0) = True := eq_true qn
            rw [if_pos qn] at fin
            simp (disch := first | assumption | omega | decide | rfl) only [w_X9_called_190, w_X9_called_191, w_X9_called_199, w_X9_called_200, w_X9_called_203, w_X9_called_204, w_X9_called_207, w_X9_called_208, w_X9_called_211, w_X9_called_212, w_X9_called_226, nl_int, nl_ref, nl_null, nl_un, nl_rf, nl_long, isR_ref, isR_null, isR_rf, rf_some, rf_none, rOf_ref, rOf_null, rOf_rf, kn_v, kn_0, true_and, and_true, and_self, tin, inA_x, inA_l, ix_add, ix_addl, ix_ladd, ix_mul, ix_mull, ix_lmul, ix_tn, lt_tn, Nat.reduceLeDiff, Nat.reduceLT, Nat.reduceAdd, Nat.reduceMul, true_or, or_true, ↓reduceIte, aOk, ref_null, null_null, false_or, Option.isSome_some, Option.getD_some, ite_true, ite_false, eq_self, not_false_eq_true, not_true_eq_false, bz_ne, bz_1, reduceCtorEq, Bool.not_true, Bool.not_false, ix_eql, dn, d0]
            exact fin _ _ u4 f4 rfl
          · have dn : (st.1 = 0) = False := eq_false qn
            rw [if_neg qn] at fin
            by_cases q1 : v = 1
            · have d1 : (v = 1) = True := eq_true q1
              have d3 : (v < 3) = True := by rw [q1]; decide
              rw [if_pos q1] at fin
              simp (disch := first | assumption | omega | decide | rfl) only [w_X9_called_190, w_X9_called_191, w_X9_called_194, w_X9_called_195, w_X9_called_196, w_X9_called_199, w_X9_called_200, w_X9_called_203, w_X9_called_204, w_X9_called_207, w_X9_called_208, w_X9_called_211, w_X9_called_212, w_X9_called_215, w_X9_called_216, w_X9_called_217, w_X9_called_220, w_X9_called_221, w_X9_called_224, w_X9_called_226, nl_int, nl_ref, nl_null, nl_un, nl_rf, nl_long, isR_ref, isR_null, isR_rf, rf_some, rf_none, rOf_ref, rOf_null, rOf_rf, kn_v, kn_0, true_and, and_true, and_self, tin, inA_x, inA_l, ix_add, ix_addl, ix_ladd, ix_mul, ix_mull, ix_lmul, ix_tn, lt_tn, Nat.reduceLeDiff, Nat.reduceLT, Nat.reduceAdd, Nat.reduceMul, true_or, or_true, ↓reduceIte, aOk, ref_null, null_null, false_or, Option.isSome_some, Option.getD_some, ite_true, ite_false, eq_self, not_false_eq_true, not_true_eq_false, bz_ne, bz_1, reduceCtorEq, Bool.not_true, Bool.not_false, ix_eql, dn, d0, d1, d3]
              exact fin _ _ u4 f4 rfl
            · have d1 : (v = 1) = False := eq_false q1
              rw [if_neg q1] at fin
              by_cases q2 : v = 2
              · have d3 : (v < 3) = True := by rw [q2]; decide
                rw [if_pos q2] at fin
                simp (disch := first | assumption | omega | decide | rfl) only [w_X9_called_190, w_X9_called_191, w_X9_called_194, w_X9_called_195, w_X9_called_196, w_X9_called_199, w_X9_called_200, w_X9_called_203, w_X9_called_204, w_X9_called_207, w_X9_called_208, w_X9_called_211, w_X9_called_212, w_X9_called_215, w_X9_called_216, w_X9_called_217, w_X9_called_220, w_X9_called_221, w_X9_called_224, w_X9_called_226, nl_int, nl_ref, nl_null, nl_un, nl_rf, nl_long, isR_ref, isR_null, isR_rf, rf_some, rf_none, rOf_ref, rOf_null, rOf_rf, kn_v, kn_0, true_and, and_true, and_self, tin, inA_x, inA_l, ix_add, ix_addl, ix_ladd, ix_mul, ix_mull, ix_lmul, ix_tn, lt_tn, Nat.reduceLeDiff, Nat.reduceLT, Nat.reduceAdd, Nat.reduceMul, true_or, or_true, ↓reduceIte, aOk, ref_null, null_null, false_or, Option.isSome_some, Option.getD_some, ite_true, ite_false, eq_self, not_false_eq_true, not_true_eq_false, bz_ne, bz_1, reduceCtorEq, Bool.not_true, Bool.not_false, ix_eql, dn, d0, d1, d3]
                exact fin _ _ u4 f4 rfl
              · rw [if_neg q2] at fin
                have q3 : v = 3 := by
                  obtain ⟨k, hk, rfl⟩ := v3_ex q
                  have e0 : k ≠ 0 := fun e => q0 (by rw [e]; rfl)
                  have e1 : k ≠ 1 := fun e => q1 (by rw [e]; rfl)
                  have e2 : k ≠ 2 := fun e => q2 (by rw [e]; rfl)
                  have : k = 3 := by omega
                  rw [this]; rfl
                have d3 : (v < 3) = False := by rw [q3]; decide
                simp (disch := first | assumption | omega | decide | rfl) only [w_X9_called_190, w_X9_called_191, w_X9_called_194, w_X9_called_195, w_X9_called_196, w_X9_called_227, w_X9_called_228, w_X9_called_230, w_X9_called_231, w_X9_called_233, w_X9_called_234, nl_int, nl_ref, nl_null, nl_un, nl_rf, nl_long, isR_ref, isR_null, isR_rf, rf_some, rf_none, rOf_ref, rOf_null, rOf_rf, kn_v, kn_0, true_and, and_true, and_self, tin, inA_x, inA_l, ix_add, ix_addl, ix_ladd, ix_mul, ix_mull, ix_lmul, ix_tn, lt_tn, Nat.reduceLeDiff, Nat.reduceLT, Nat.reduceAdd, Nat.reduceMul, true_or, or_true, ↓reduceIte, aOk, ref_null, null_null, false_or, Option.isSome_some, Option.getD_some, ite_true, ite_false, eq_self, not_false_eq_true, not_true_eq_false, bz_ne, bz_1, reduceCtorEq, Bool.not_true, Bool.not_false, ix_eql, dn, d3]
                rw [called_d x4 (y.md u4 (by decide)) z k4 l.kl st s1 (by omega) g4]
                exact fin _ _ u4 f4 rfl
      · intro j hj nx h4 v6 v7 v8 u4 f4 lc4 g4
        have x4 : M0 h4 m O := x.md u4
        have hm4 := x4.mo
        have y4 : MB h4 (m + 53) 0 O.nA B := y.md u4 (by decide)
        have c4 := lc4.n
        have c5 := lc4.c j hj
        have c6 := lc4.w j hj
        have c7 := lc4.e j hj
        have k4 := (l.md u4 (by decide) (by decide)).kn
        have k5 := (l.md u4 (by decide) (by decide)).th
        have hc := lv j hj
        rw [take_s hj, cdF_app] at nx
        revert nx g4
        generalize cdF O B K T (cl.take j) = st
        generalize cl.getD j 0 = c at c5 c6 c7 hc
        intro nx g4
        rw [w_X9_called_54]
        simp (disch := first | assumption | omega | decide | rfl) only [w_X9_called_56, w_X9_called_57, w_X9_called_60, w_X9_called_63, w_X9_called_64, w_X9_called_65, w_X9_called_68, w_X9_called_69, w_X9_called_70, w_X9_called_71, w_X9_called_74, w_X9_called_75, w_X9_called_76, w_X9_called_77, w_X9_called_80, w_X9_called_82, w_X9_called_83, w_X9_called_84, w_X9_called_87, w_X9_called_89, w_X9_called_90, nl_int, nl_ref, nl_null, nl_un, nl_rf, nl_long, isR_ref, isR_null, isR_rf, rf_some, rf_none, rOf_ref, rOf_null, rOf_rf, kn_v, kn_0, true_and, and_true, and_self, tin, inA_x, inA_l, ix_add, ix_addl, ix_ladd, ix_mul, ix_mull, ix_lmul, ix_tn, lt_tn, Nat.reduceLeDiff, Nat.reduceLT, Nat.reduceAdd, Nat.reduceMul, true_or, or_true, ↓reduceIte, aOk, ref_null, null_null, false_or, Option.isSome_some, Option.getD_some, ite_true, ite_false, eq_self, not_false_eq_true, not_true_eq_false, bz_ne, bz_1, reduceCtorEq, Bool.not_true, Bool.not_false, mo_0 hm4, mo_fallIn hm4, mt_fallIn hm4, ml_fallIn hm4, mo_s hm4, mt_s hm4, ml_s hm4, mo_heardBy hm4, mt_heardBy hm4, ml_heardBy hm4, mo_halfBy hm4, mt_halfBy hm4, ml_halfBy hm4, mo_liesKnown hm4, mt_liesKnown hm4, ml_liesKnown hm4, mo_liesThere hm4, mt_liesThere hm4, ml_liesThere hm4, mo_callAs hm4, mt_callAs hm4, ml_callAs hm4, mo_orchard hm4, mt_orchard hm4, ml_orchard hm4, c4, c6, c7, y4.h0, y4.l0, ix_lt, hj, cm_fallsBy x4 hh]
        have ef : faF O B.hang B.loose (whC O B c) (ecC O B c) = cfF O B c := rfl
        have hf : cfF O B c < 1024 := faF_lt hh
        rw [ef]
        have u5 : Md m clA clG h (sFi h4 132 m (ix (loF O B.hang B.loose (whC O B c) (ecC O B c)))) := u4.sFi (by decide)
        have u45 : Md m [] [132] h4 (sFi h4 132 m (ix (loF O B.hang B.loose (whC O B c) (ecC O B c)))) := md_sFi (by decide)
        revert u5 u45
        generalize sFi h4 132 m (ix (loF O B.hang B.loose (whC O B c) (ecC O B c))) = h5
        intro u5 u45
        have hm5 := u45.mo hm4
        have k4 : Ai h5 (m + 47) 0 = ix K := by rw [u45.ai (by decide)]; exact k4
        have k5 : Ai h5 (m + 48) 0 = ix T := by rw [u45.ai (by decide)]; exact k5
        have c5 : Ai h5 (m + 60) j = ix c := by rw [u45.ai (by decide)]; exact c5
        have f5 : Fi h5 60 m = 0 := by rw [u45.fi (by decide)]; exact f4
        have lc5 := lc4.md u45 (by decide) (by decide) (by decide) (by decide)
        have g5 : ∀ a, a < 10 → Ai h5 (m + 64) a = ix (st.2.2.2 a) := fun a ha => by rw [u45.ai (by decide)]; exact g4 a ha
        have ek : ix (cfF O B c) &&& ix K = ix (cfF O B c &&& K) := ix_and
        have eq : (ix (cfF O B c &&& K) = ix T) = (cfF O B c &&& K = T) := ix_eq (by have := and_lt (b := K) hf; omega) (by have := l.tl; omega)
        have jn : ∀ (st' : Cs) h6 (v6 v7 : Value), (∀ h4 (v6 v7 v8 : Value), Md m clA clG h h4 → Fi h4 60 m = 0 → LC h4 m O B cl → (∀ a, a < 10 → Ai h4 (m + 64) a = ix (st'.2.2.2 a)) → Ru (D + 5) 223 54 [.ref m, .int v, .int (ix st'.1), .int (ix st'.2.1), .int (ix st'.2.2.1), .int (ix (j + 1)), v6, v7, v8] [] h4 Q) → Md m clA clG h h6 → Fi h6 60 m = 0 → LC h6 m O B cl → (∀ a, a < 10 → Ai h6 (m + 64) a = ix (st'.2.2.2 a)) → Ru (D + 5) 223 184 [.ref m, .int v, .int (ix st'.1), .int (ix st'.2.1), .int (ix st'.2.2.1), .int (ix j), v6, v7, v8] [] h6 Q := by
          intro st' h6 v6 v7 nx u6 f6 lc6 g6
          simp (disch := first | assumption | omega | decide | rfl) only [w_X9_called_184, w_X9_called_187, nl_int, nl_ref, nl_null, nl_un, nl_rf, nl_long, isR_ref, isR_null, isR_rf, rf_some, rf_none, rOf_ref, rOf_null, rOf_rf, kn_v, kn_0, true_and, and_true, and_self, tin, inA_x, inA_l, ix_add, ix_addl, ix_ladd, ix_mul, ix_mull, ix_lmul, ix_tn, lt_tn, Nat.reduceLeDiff, Nat.reduceLT, Nat.reduceAdd, Nat.reduceMul, true_or, or_true, ↓reduceIte, aOk, ref_null, null_null, false_or, Option.isSome_some, Option.getD_some, ite_true, ite_false, eq_self, not_false_eq_true, not_true_eq_false, bz_ne, bz_1, reduceCtorEq, Bool.not_true, Bool.not_false]
          exact nx h6 v6 v7 v8 u6 f6 lc6 g6
        unfold cdS at nx
        by_cases q1 : cfF O B c &&& K = T
        · have d1 : (cfF O B c &&& K = T) = True := eq_true q1
          rw [if_pos q1] at nx
          have r2 : ix c / 16 = ix (c / 16) := ix_dvl (n := 16) (by omega) (by decide) (by decide)
          have o1 := ix_one (k := c % 16) (by omega)
          have o2 := ix_one (k := c / 16) (by omega)
          simp (disch := first | assumption | omega | decide | rfl) only [w_X9_called_93, w_X9_called_95, w_X9_called_97, w_X9_called_98, w_X9_called_101, w_X9_called_102, w_X9_called_103, w_X9_called_104, w_X9_called_105, w_X9_called_108, w_X9_called_109, w_X9_called_110, w_X9_called_113, w_X9_called_116, w_X9_called_119, w_X9_called_120, w_X9_called_121, w_X9_called_122, w_X9_called_125, w_X9_called_127, w_X9_called_128, w_X9_called_130, w_X9_called_131, w_X9_called_132, w_X9_called_133, w_X9_called_134, w_X9_called_136, w_X9_called_137, w_X9_called_138, w_X9_called_141, w_X9_called_143, w_X9_called_144, w_X9_called_146, w_X9_called_147, w_X9_called_148, w_X9_called_149, w_X9_called_151, w_X9_called_152, nl_int, nl_ref, nl_null, nl_un, nl_rf, nl_long, isR_ref, isR_null, isR_rf, rf_some, rf_none, rOf_ref, rOf_null, rOf_rf, kn_v, kn_0, true_and, and_true, and_self, tin, inA_x, inA_l, ix_add, ix_addl, ix_ladd, ix_mul, ix_mull, ix_lmul, ix_tn, lt_tn, Nat.reduceLeDiff, Nat.reduceLT, Nat.reduceAdd, Nat.reduceMul, true_or, or_true, ↓reduceIte, aOk, ref_null, null_null, false_or, Option.isSome_some, Option.getD_some, ite_true, ite_false, eq_self, not_false_eq_true, not_true_eq_false, bz_ne, bz_1, reduceCtorEq, Bool.not_true, Bool.not_false, mo_0 hm5, mo_fallIn hm5, mt_fallIn hm5, ml_fallIn hm5, mo_s hm5, mt_s hm5, ml_s hm5, mo_heardBy hm5, mt_heardBy hm5, ml_heardBy hm5, mo_halfBy hm5, mt_halfBy hm5, ml_halfBy hm5, mo_liesKnown hm5, mt_liesKnown hm5, ml_liesKnown hm5, mo_liesThere hm5, mt_liesThere hm5, ml_liesThere hm5, mo_callAs hm5, mt_callAs hm5, ml_callAs hm5, mo_orchard hm5, mt_orchard hm5, ml_orchard hm5, k4, k5, c5, ek, eq, d1, r2, ix_rem2, o1, o2, ix_or]
          refine lp (P := fun i => ∀ h6, Md m clA clG h h6 → Fi h6 60 m = 0 → LC h6 m O B cl → (∀ a, a < 10 → Ai h6 (m + 64) a = ix (if a < i then st.2.2.2 a + ((cfF O B c).testBit a).toNat else st.2.2.2 a)) → Ru (D + 5) 223 154 [.ref m, .int v, .int (ix (st.1 + 1)), .int (ix (st.2.1 ||| 2 ^ (c % 16))), .int (ix (st.2.2.1 ||| 2 ^ (c / 16))), .int (ix j), .int (ix (cfF O B c)), .int (ix i), v8] [] h6 Q) (N := 10) ?_ ?_ h5 u5 f5 lc5 (fun a ha => by rw [if_neg (by omega)]; exact g5 a ha)
          · intro h6 u6 f6 lc6 g6
            have e : (ix 10 < 10) = False := eq_false (by decide)
            rw [w_X9_called_154]
            simp (disch := first | assumption | omega | decide | rfl) only [w_X9_called_156, w_X9_called_158, nl_int, nl_ref, nl_null, nl_un, nl_rf, nl_long, isR_ref, isR_null, isR_rf, rf_some, rf_none, rOf_ref, rOf_null, rOf_rf, kn_v, kn_0, true_and, and_true, and_self, tin, inA_x, inA_l, ix_add, ix_addl, ix_ladd, ix_mul, ix_mull, ix_lmul, ix_tn, lt_tn, Nat.reduceLeDiff, Nat.reduceLT, Nat.reduceAdd, Nat.reduceMul, true_or, or_true, ↓reduceIte, aOk, ref_null, null_null, false_or, Option.isSome_some, Option.getD_some, ite_true, ite_false, eq_self, not_false_eq_true, not_true_eq_false, bz_ne, bz_1, reduceCtorEq, Bool.not_true, Bool.not_false, e]
            exact jn (_, _, _, _) h6 _ _ nx u6 f6 lc6 (fun a ha => by rw [g6 a ha, if_pos ha])
          · intro i hi nx2 h6 u6 f6 lc6 g6
            have hm6 := u6.mo x.mo
            have e : (ix i < 10) = True := ltT (n := 10) hi (by decide)
            have gi := g6 i hi
            rw [if_neg (by omega)] at gi
            have hb := has_i (n := cfF O B c) (k := i) (by omega) (by omega)
            rw [w_X9_called_154]
            simp (disch := first | assumption | omega | decide | rfl) only [w_X9_called_156, w_X9_called_158, w_X9_called_161, w_X9_called_162, w_X9_called_165, w_X9_called_167, w_X9_called_168, w_X9_called_169, w_X9_called_171, w_X9_called_173, w_X9_called_174, w_X9_called_175, w_X9_called_176, w_X9_called_177, w_X9_called_178, w_X9_called_181, nl_int, nl_ref, nl_null, nl_un, nl_rf, nl_long, isR_ref, isR_null, isR_rf, rf_some, rf_none, rOf_ref, rOf_null, rOf_rf, kn_v, kn_0, true_and, and_true, and_self, tin, inA_x, inA_l, ix_add, ix_addl, ix_ladd, ix_mul, ix_mull, ix_lmul, ix_tn, lt_tn, Nat.reduceLeDiff, Nat.reduceLT, Nat.reduceAdd, Nat.reduceMul, true_or, or_true, ↓reduceIte, aOk, ref_null, null_null, false_or, Option.isSome_some, Option.getD_some, ite_true, ite_false, eq_self, not_false_eq_true, not_true_eq_false, bz_ne, bz_1, reduceCtorEq, Bool.not_true, Bool.not_false, mo_0 hm6, mo_fallIn hm6, mt_fallIn hm6, ml_fallIn hm6, mo_s hm6, mt_s hm6, ml_s hm6, mo_heardBy hm6, mt_heardBy hm6, ml_heardBy hm6, mo_halfBy hm6, mt_halfBy hm6, ml_halfBy hm6, mo_liesKnown hm6, mt_liesKnown hm6, ml_liesKnown hm6, mo_liesThere hm6, mt_liesThere hm6, ml_liesThere hm6, mo_callAs hm6, mt_callAs hm6, ml_callAs hm6, mo_orchard hm6, mt_orchard hm6, ml_orchard hm6, e, gi, hb, ix_bzn]
            refine nx2 _ (u6.sAi (by decide)) f6 (lc6.md (md_sAi (A := [64]) (F := []) (by decide)) (by decide) (by decide) (by decide) (by decide)) (fun a ha => ?_)
            rw [Ai_same]
            by_cases qa : a = i
            · subst qa
              rw [upd_s, if_pos (by omega)]
            · rw [upd_n qa, g6 a ha]
              have : (a < i + 1) = (a < i) := by apply propext; omega
              simp only [this]
        · have d1 : (cfF O B c &&& K = T) = False := eq_false q1
          rw [if_neg q1] at nx
          simp (disch := first | assumption | omega | decide | rfl) only [w_X9_called_93, w_X9_called_95, w_X9_called_97, w_X9_called_98, w_X9_called_101, w_X9_called_102, w_X9_called_103, w_X9_called_104, w_X9_called_105, w_X9_called_108, w_X9_called_109, w_X9_called_110, w_X9_called_113, nl_int, nl_ref, nl_null, nl_un, nl_rf, nl_long, isR_ref, isR_null, isR_rf, rf_some, rf_none, rOf_ref, rOf_null, rOf_rf, kn_v, kn_0, true_and, and_true, and_self, tin, inA_x, inA_l, ix_add, ix_addl, ix_ladd, ix_mul, ix_mull, ix_lmul, ix_tn, lt_tn, Nat.reduceLeDiff, Nat.reduceLT, Nat.reduceAdd, Nat.reduceMul, true_or, or_true, ↓reduceIte, aOk, ref_null, null_null, false_or, Option.isSome_some, Option.getD_some, ite_true, ite_false, eq_self, not_false_eq_true, not_true_eq_false, bz_ne, bz_1, reduceCtorEq, Bool.not_true, Bool.not_false, mo_0 hm5, mo_fallIn hm5, mt_fallIn hm5, ml_fallIn hm5, mo_s hm5, mt_s hm5, ml_s hm5, mo_heardBy hm5, mt_heardBy hm5, ml_heardBy hm5, mo_halfBy hm5, mt_halfBy hm5, ml_halfBy hm5, mo_liesKnown hm5, mt_liesKnown hm5, ml_liesKnown hm5, mo_liesThere hm5, mt_liesThere hm5, ml_liesThere hm5, mo_callAs hm5, mt_callAs hm5, ml_callAs hm5, mo_orchard hm5, mt_orchard hm5, ml_orchard hm5, k4, k5, ek, eq, d1]
          exact jn st h5 _ _ nx u5 f5 lc5 g5
    · intro j hj nx h3 u3 f3 lc3 g3
      have hm3 := u3.mo x.mo
      have e : (ix j < 10) = True := ltT (n := 10) hj (by decide)
      rw [w_X9_called_30]
      simp (disch := first | assumption | omega | decide | rfl) only [w_X9_called_32, w_X9_called_34, w_X9_called_37, w_X9_called_38, w_X9_called_41, w_X9_called_43, w_X9_called_44, w_X9_called_45, w_X9_called_48, nl_int, nl_ref, nl_null, nl_un, nl_rf, nl_long, isR_ref, isR_null, isR_rf, rf_some, rf_none, rOf_ref, rOf_null, rOf_rf, kn_v, kn_0, true_and, and_true, and_self, tin, inA_x, inA_l, ix_add, ix_addl, ix_ladd, ix_mul, ix_mull, ix_lmul, ix_tn, lt_tn, Nat.reduceLeDiff, Nat.reduceLT, Nat.reduceAdd, Nat.reduceMul, true_or, or_true, ↓reduceIte, aOk, ref_null, null_null, false_or, Option.isSome_some, Option.getD_some, ite_true, ite_false, eq_self, not_false_eq_true, not_true_eq_false, bz_ne, bz_1, reduceCtorEq, Bool.not_true, Bool.not_false, mo_0 hm3, mo_fallIn hm3, mt_fallIn hm3, ml_fallIn hm3, mo_s hm3, mt_s hm3, ml_s hm3, mo_heardBy hm3, mt_heardBy hm3, ml_heardBy hm3, mo_halfBy hm3, mt_halfBy hm3, ml_halfBy hm3, mo_liesKnown hm3, mt_liesKnown hm3, ml_liesKnown hm3, mo_liesThere hm3, mt_liesThere hm3, ml_liesThere hm3, mo_callAs hm3, mt_callAs hm3, ml_callAs hm3, mo_orchard hm3, mt_orchard hm3, ml_orchard hm3, e]
      refine nx _ (u3.sAi (by decide)) f3 (lc3.md (md_sAi (A := [64]) (F := []) (by decide)) (by decide) (by decide) (by decide) (by decide)) (fun a ha => ?_)
      rw [Ai_same]
      by_cases qa : a = j
      · subst qa; rw [upd_s]; rfl
      · rw [upd_n qa]; exact g3 a (by omega)
  · have c1 : decide (0 ≤ v ∧ v ≤ 3) = false := decide_eq_false q
    simp (disch := first | assumption | omega | decide | rfl) only [w_X9_called_11, w_X9_called_14, w_X9_called_15, nl_int, nl_ref, nl_null, nl_un, nl_rf, nl_long, isR_ref, isR_null, isR_rf, rf_some, rf_none, rOf_ref, rOf_null, rOf_rf, kn_v, kn_0, true_and, and_true, and_self, tin, inA_x, inA_l, ix_add, ix_addl, ix_ladd, ix_mul, ix_mull, ix_lmul, ix_tn, lt_tn, Nat.reduceLeDiff, Nat.reduceLT, Nat.reduceAdd, Nat.reduceMul, true_or, or_true, ↓reduceIte, aOk, ref_null, null_null, false_or, Option.isSome_some, Option.getD_some, ite_true, ite_false, eq_self, not_false_eq_true, not_true_eq_false, bz_ne, bz_1, reduceCtorEq, Bool.not_true, Bool.not_false, c1]
    exact fin _ _ u1 f1 (by unfold cldF; rw [if_neg q])
end
