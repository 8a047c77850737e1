/-! NAMEORCHARD: told; laws that stand -/
set_option maxRecDepth 100000
noncomputable def cnN (P : Nat → Bool) : Nat → Nat
  | 0 => 0
  | n + 1 => cnN P n + (P (n + 1)).toNat
noncomputable def mxN (P : Nat → Bool) : Nat → Nat
  | 0 => 0
  | n + 1 => if P (n + 1) = true then n + 1 else mxN P n
abbrev Ls : Type := Nat × Int32 × Int32
noncomputable def dsS (a : Nat) (P : Nat → Bool) (st : Ls) (b : Nat) : Ls := if P b = true then (st.1 + 1, if st.1 = 0 then (ix a, ix b) else st.2) else st
noncomputable def dsF (a : Nat) (P : Nat → Bool) : Nat → Ls → Ls
  | 0, st => st
  | n + 1, st => dsF a P n (dsS a P st (n + 1))
noncomputable def rwF (a : Nat) (P : Nat → Bool) (n : Nat) (st : Ls) : Ls := if st.1 = 0 then (if cnN P n = 0 then st else (cnN P n, ix a, ix (mxN P n))) else (st.1 + cnN P n, st.2)
noncomputable def xlF (O : Oc) (T : To) : Nat → Ls
  | 0 => (0, -1, -1)
  | a + 1 => rwF a (fun b => ilF O T a b) 8 (xlF O T a)
section
variable {h h' h1 h2 : AH} {A : Nat → Prop} {x a b c p q l o lo hi n k t d D s j i : Nat} {O : Oc} {S : Sg} {B C : Bo} {Q : Rs → AH → Prop} {u v w y : Int32} {T T' : To} {P : Nat → Bool} {st : Ls}
theorem ds_rw : ∀ n st, dsF a P n st = rwF a P n st := by
  intro n
  induction n with
  | zero =>
    intro st
    rw [dsF]
    unfold rwF
    rw [cnN, if_pos rfl, Nat.add_zero]
    split <;> rfl
  | succ n ih =>
    intro st
    rw [dsF, ih]
    unfold rwF dsS
    rw [cnN, mxN]
    cases q : P (n + 1)
    · simp only [Bool.false_eq_true, if_false, Bool.toNat_false, Nat.add_zero]
    · rw [if_pos rfl, if_pos rfl]
      by_cases q1 : st.1 = 0
      · rw [if_pos q1, if_pos q1, if_neg (by show ¬ st.1 + 1 = 0; omega), if_neg (by show ¬ cnN P n + 1 = 0; omega)]
        show (st.1 + 1 + cnN P n, _) = (cnN P n + 1, _)
        rw [q1, Nat.zero_add, Nat.add_comm]
      · rw [if_neg q1, if_neg q1, if_neg (by show ¬ st.1 + 1 = 0; omega)]
        show (st.1 + 1 + cnN P n, _) = (st.1 + (cnN P n + 1), _)
        rw [Nat.add_assoc, Nat.add_comm 1]
theorem cn_le : ∀ n, cnN P n ≤ n
  | 0 => Nat.le_refl _
  | n + 1 => by
    have := cn_le n
    have := Bool.toNat_le (P (n + 1))
    rw [cnN]
    omega
/-- the model's row a -/
theorem lw_row (ha : a < 5) (h0 : (st.1 = 0 ∧ st.2 = (-1, -1)) ∨ (0 < st.1 ∧ ∃ a', a' < a ∧ st.2.1 = ix a')) (e : lwF O T (8 * a) = (ix st.1, st.2)) : ∀ n, n ≤ 8 → lwF O T (8 * a + n) = (ix (rwF a (fun b => ilF O T a b) n st).1, (rwF a (fun b => ilF O T a b) n st).2) := by
  intro n
  induction n with
  | zero =>
    intro _
    rw [Nat.add_zero, e]
    unfold rwF
    rw [cnN, if_pos rfl, Nat.add_zero]
    split <;> rfl
  | succ n ih =>
    intro hn
    have es : lwF O T (8 * a + n + 1) = lwS O T (lwF O T (8 * a + n)) (8 * a + n) := by unfold lwF; rw [foI]
    rw [← Nat.add_assoc, es, ih (by omega)]
    unfold lwS
    rw [show (8 * a + n) / 8 = a by omega, show (8 * a + n) % 8 = n by omega]
    have e1 : ∀ st : Ls, rwF a (fun b => ilF O T a b) (n + 1) st = if ilF O T a (n + 1) = true then (if st.1 = 0 then (cnN (fun b => ilF O T a b) n + 1, ix a, ix (n + 1)) else (st.1 + (cnN (fun b => ilF O T a b) n + 1), st.2)) else rwF a (fun b => ilF O T a b) n st := by
      intro st
      unfold rwF
      rw [cnN, mxN]
      cases q : ilF O T a (n + 1)
      · simp only [Bool.false_eq_true, if_false, Bool.toNat_false, Nat.add_zero]
      · rw [if_pos rfl, if_pos rfl]
        by_cases q1 : st.1 = 0
        · rw [if_pos q1, if_pos q1, if_neg (by show ¬ cnN _ n + 1 = 0; omega)]
          rfl
        · rw [if_neg q1, if_neg q1]
          rfl
    rw [e1]
    by_cases q : ilF O T a (n + 1) = true
    · rw [if_pos q, if_pos q]
      have nn : ¬ (ix a < 0) := ix_nn (by omega)
      unfold rwF
      rcases h0 with ⟨h1, h2⟩ | ⟨h1, a', ha', h2⟩
      · rw [if_pos h1, if_pos h1]
        by_cases q2 : cnN (fun b => ilF O T a b) n = 0
        · rw [if_pos q2, q2, h1]
          show (ix 0 + 1, (if st.2.1 < 0 then ix a else st.2.1), if (if st.2.1 < 0 then ix a else st.2.1) = ix a then ix (n + 1) else st.2.2) = (ix (0 + 1), ix a, ix (n + 1))
          have e5 : st.2.1 < 0 := by rw [h2]; decide
          rw [if_pos e5, if_pos rfl, ix_addl]
        · rw [if_neg q2]
          show (ix (cnN (fun b => ilF O T a b) n) + 1, (if ix a < 0 then ix a else ix a), if (if ix a < 0 then ix a else ix a) = ix a then ix (n + 1) else _) = _
          rw [if_neg nn, if_pos rfl, ix_addl]
      · have q1 : ¬ st.1 = 0 := by omega
        rw [if_neg q1, if_neg q1]
        show (ix (st.1 + cnN (fun b => ilF O T a b) n) + 1, (if st.2.1 < 0 then ix a else st.2.1), if (if st.2.1 < 0 then ix a else st.2.1) = ix a then ix (n + 1) else st.2.2) = _
        rw [h2, if_neg (ix_nn (by omega)), if_neg (by rw [ix_eq (by omega) (by omega)]; omega), ix_addl, Nat.add_assoc, ← h2]
    · rw [if_neg q, if_neg q]
theorem xl_inv : ∀ a, a ≤ 5 → (((xlF O T a).1 = 0 ∧ (xlF O T a).2 = (-1, -1)) ∨ (0 < (xlF O T a).1 ∧ ∃ a', a' < a ∧ (xlF O T a).2.1 = ix a')) ∧ (xlF O T a).1 ≤ 8 * a ∧ lwF O T (8 * a) = (ix (xlF O T a).1, (xlF O T a).2) := by
  intro a
  induction a with
  | zero =>
    intro _
    rw [xlF]
    refine ⟨Or.inl ⟨rfl, rfl⟩, Nat.le_refl _, ?_⟩
    unfold lwF
    rw [foI]
    rfl
  | succ a ih =>
    intro ha
    obtain ⟨i1, i2, i3⟩ := ih (by omega)
    have r := lw_row (by omega) i1 i3 8 (Nat.le_refl _)
    have cl := cn_le (P := fun b => ilF O T a b) 8
    rw [xlF]
    refine ⟨?_, ?_, by rw [show 8 * (a + 1) = 8 * a + 8 by omega]; exact r⟩
    · unfold rwF
      rcases i1 with ⟨h1, h2⟩ | ⟨h1, a', ha', h2⟩
      · rw [if_pos h1]
        by_cases q : cnN (fun b => ilF O T a b) 8 = 0
        · rw [if_pos q]; exact Or.inl ⟨h1, h2⟩
        · rw [if_neg q]
          right
          exact ⟨by show 0 < cnN _ 8; omega, a, by omega, rfl⟩
      · rw [if_neg (by omega)]
        right
        exact ⟨by show 0 < (xlF O T a).1 + _; omega, a', by omega, h2⟩
    · unfold rwF
      split
      · split
        · omega
        · show cnN _ 8 ≤ _; omega
      · show (xlF O T a).1 + cnN _ 8 ≤ _; omega
theorem law_x : lawF O T v = (if 0 ≤ v ∧ v ≤ 2 then (if v = 0 then ix (xlF O T 5).1 else if v = 1 then (xlF O T 5).2.1 else (xlF O T 5).2.2) else -1) := by
  unfold lawF
  rw [show lwF O T 40 = lwF O T (8 * 5) from rfl, (xl_inv 5 (Nat.le_refl _)).2.2]
theorem cx_isLaw (X : XN h x lo hi o b O S) (wt : WT O S.To) (le : S.To.1 ≤ 12) (ha : a < 100) {b' : Nat} (hb : b' < 100) : Ca (D + 10) 35 [.ref x, .int (ix a), .int (ix b')] h (fun r h' => r = .inl (some (.int (bz (ilF O S.To a b')))) ∧ Tf x h h') := by
  have n2 := X.xo.wo.nS
  generalize hQ : (fun r h' => r = .inl (some (.int (bz (ilF O S.To a b')))) ∧ Tf x h h' : Rs → AH → Prop) = Q
  rw [e_X1_isLaw]
  simp (disch := first | assumption | omega | decide | rfl) only [w_X1_isLaw_0, w_X1_isLaw_1, nl_int, nl_ref, nl_null, nl_un, nl_rf, nl_long, isR_ref, isR_null, isR_rf, rf_some, rf_none, rOf_ref, rOf_null, rOf_rf, kn_v, kn_0, true_and, and_true, and_self, tin, inA_x, inA_l, ix_add, ix_addl, ix_ladd, ix_mul, ix_mull, ix_lmul, ix_tn, lt_tn, Nat.reduceLeDiff, Nat.reduceLT, Nat.reduceAdd, Nat.reduceMul, true_or, or_true, ↓reduceIte, aOk, ref_null, null_null, false_or, Option.isSome_some, Option.getD_some, ite_true, ite_false, eq_self, not_false_eq_true, not_true_eq_false, bz_ne, bz_1, reduceCtorEq, Bool.not_true, Bool.not_false]
  have key : ∀ m j, j + m = S.To.1 → ∀ h2 (v4 v5 : Value), nl v4 = true → Tf x h h2 → (∀ r h', r = (!(anyb (fun j => !decide (laF O S.To a b' j = decide (S.To.2 2 j = 1))) m j)) → Tf x h h' → Q (.inl (some (.int (bz r)))) h') → Ru (D + 9) 35 2 [.ref x, .int (ix a), .int (ix b'), .int (ix j), v4, v5] [] h2 Q := by
    intro m
    induction m with
    | zero =>
      intro j hj h2 v4 v5 nv t2 fin
      have X2 := X.tf t2
      have e : ¬ j < S.To.1 := by omega
      have sz2 : ∀ Q, Ca (D + 9) 301 [.ref (ol h2 x 5)] h2 Q = Q (.inl (some (.int (ix S.To.1)))) h2 := fun Q => by rw [c_size X2.to.ol.wl, X2.to.sz]
      rw [w_X1_isLaw_2]
      simp (disch := first | assumption | omega | decide | rfl) only [w_X1_isLaw_3, w_X1_isLaw_4, w_X1_isLaw_7, w_X1_isLaw_10, w_X1_isLaw_97, w_X1_isLaw_98, nl_int, nl_ref, nl_null, nl_un, nl_rf, nl_long, isR_ref, isR_null, isR_rf, rf_some, rf_none, rOf_ref, rOf_null, rOf_rf, kn_v, kn_0, true_and, and_true, and_self, tin, inA_x, inA_l, ix_add, ix_addl, ix_ladd, ix_mul, ix_mull, ix_lmul, ix_tn, lt_tn, Nat.reduceLeDiff, Nat.reduceLT, Nat.reduceAdd, Nat.reduceMul, true_or, or_true, ↓reduceIte, aOk, ref_null, null_null, false_or, Option.isSome_some, Option.getD_some, ite_true, ite_false, eq_self, not_false_eq_true, not_true_eq_false, bz_ne, bz_1, reduceCtorEq, Bool.not_true, Bool.not_false, X2.f.tx, X2.ft, X2.to.ol.wl.tg, sz2, ix_lt, e]
      exact fin true h2 rfl t2
    | succ m ih =>
      intro j hj h2 v4 v5 nv t2 fin
      have X2 := X.tf t2
      have e : j < S.To.1 := by omega
      have sz2 : ∀ Q, Ca (D + 9) 301 [.ref (ol h2 x 5)] h2 Q = Q (.inl (some (.int (ix S.To.1)))) h2 := fun Q => by rw [c_size X2.to.ol.wl, X2.to.sz]
      have gt := fun Q => c_get (d := D + 6) (Q := Q) X2.to.ol.wl (show j < sz h2 (ol h2 x 5) by rw [X2.to.sz]; exact e)
      obtain ⟨q1, q2, q3, q4, q5⟩ := X2.to.ln j e
      have w1 := wt.c j e
      have w2 := wt.s j e
      have w3 := wt.r j e
      rw [anyb] at fin
      generalize el h2 (ol h2 x 5) j = p at gt q1 q2 q3 q4 q5
      have tm : Tg h2 p ∈ [1001, 1002, 1003, 1004, 1005, 1006, 1007, 1008, 1009, 1010, 1011, 1012, 1013, 1014, 1015, 1016, 1017, 1018, 1019, 1020] := by rw [q1]; decide
      have t1 : 1000 ≤ Tg h2 p := by omega
      have t3 : Tg h2 p < 2000 := by omega
      have t4 : Tg h2 p < 1900 := by omega
      rw [w_X1_isLaw_2]
      simp (disch := first | assumption | omega | decide | rfl) only [w_X1_isLaw_3, w_X1_isLaw_4, w_X1_isLaw_7, w_X1_isLaw_10, w_X1_isLaw_13, w_X1_isLaw_14, w_X1_isLaw_17, w_X1_isLaw_18, w_X1_isLaw_21, w_X1_isLaw_24, w_X1_isLaw_26, w_X1_isLaw_27, w_X1_isLaw_30, w_X1_isLaw_32, w_X1_isLaw_33, w_X1_isLaw_34, w_X1_isLaw_36, w_X1_isLaw_37, w_X1_isLaw_38, nl_int, nl_ref, nl_null, nl_un, nl_rf, nl_long, isR_ref, isR_null, isR_rf, rf_some, rf_none, rOf_ref, rOf_null, rOf_rf, kn_v, kn_0, true_and, and_true, and_self, tin, inA_x, inA_l, ix_add, ix_addl, ix_ladd, ix_mul, ix_mull, ix_lmul, ix_tn, lt_tn, Nat.reduceLeDiff, Nat.reduceLT, Nat.reduceAdd, Nat.reduceMul, true_or, or_true, ↓reduceIte, aOk, ref_null, null_null, false_or, Option.isSome_some, Option.getD_some, ite_true, ite_false, eq_self, not_false_eq_true, not_true_eq_false, bz_ne, bz_1, reduceCtorEq, Bool.not_true, Bool.not_false, X2.f.tx, X2.ft, X2.to.ol.wl.tg, sz2, ix_lt, e, gt, tm, t1, t3, t4, q2, q3, q4, cx_now X2, X2.xo.tg]
      refine ca_mono (cx_edits X2.xo w1 w2) ?_
      rintro r h3 ⟨rfl, sc⟩
      have t5 := t2.trans (sc.tf (x := x))
      have X3 := X.tf t5
      have p1 : Tg h3 p = 1004 := by rw [sc.1]; exact q1
      have p2 : An h3 p = 3 := by rw [sc.2.1]; exact q2
      have pa : Ai h3 p = Ai h2 p := sc.ai (by omega) (by omega)
      rw [← pa] at q3 q4 q5
      have t6 : 1000 ≤ Tg h3 p := by omega
      have t7 : Tg h3 p < 2000 := by omega
      have le1 : edF (O.sn (S.To.2 0 j)) (O.sn (S.To.2 1 j)) ≤ 16 := edF_le
      have le2 : rhF (O.sn (S.To.2 0 j)) (O.sn (S.To.2 1 j)) ≤ 8 := by
        unfold rhF
        have := (cpre_le (fun k => decide (ltr (O.sn (S.To.2 0 j)) (wl (O.sn (S.To.2 0 j)) - 1 - k) = ltr (O.sn (S.To.2 1 j)) (wl (O.sn (S.To.2 1 j)) - 1 - k))) (min (wl (O.sn (S.To.2 0 j))) (wl (O.sn (S.To.2 1 j)))) 0).2
        have := wl_le (O.sn (S.To.2 0 j))
        omega
      have tail : ∀ nr : Bool, nr = laF O S.To a b' j → Ru (D + 9) 35 69 [.ref x, .int (ix a), .int (ix b'), .int (ix j), .ref p, v5] [.int (bz nr)] h3 Q := by
        intro nr en
        rw [← en] at fin
        have e1 : (ix (S.To.2 2 j) = 1) = (S.To.2 2 j = 1) := ix_eql (n := 1) (by omega) (by decide)
        by_cases q6 : S.To.2 2 j = 1
        · have d6 : (S.To.2 2 j = 1) = True := eq_true q6
          rw [decide_eq_true q6] at fin
          cases nr
          · have d7 : ((0 : Int32) = 1) = False := by decide
            simp (disch := first | assumption | omega | decide | rfl) only [w_X1_isLaw_69, w_X1_isLaw_71, w_X1_isLaw_73, w_X1_isLaw_75, w_X1_isLaw_76, w_X1_isLaw_77, w_X1_isLaw_78, w_X1_isLaw_81, w_X1_isLaw_82, w_X1_isLaw_85, w_X1_isLaw_86, w_X1_isLaw_89, w_X1_isLaw_90, nl_int, nl_ref, nl_null, nl_un, nl_rf, nl_long, isR_ref, isR_null, isR_rf, rf_some, rf_none, rOf_ref, rOf_null, rOf_rf, kn_v, kn_0, true_and, and_true, and_self, tin, inA_x, inA_l, ix_add, ix_addl, ix_ladd, ix_mul, ix_mull, ix_lmul, ix_tn, lt_tn, Nat.reduceLeDiff, Nat.reduceLT, Nat.reduceAdd, Nat.reduceMul, true_or, or_true, ↓reduceIte, aOk, ref_null, null_null, false_or, Option.isSome_some, Option.getD_some, ite_true, ite_false, eq_self, not_false_eq_true, not_true_eq_false, bz_ne, bz_1, reduceCtorEq, Bool.not_true, Bool.not_false, t6, t7, p2, q5, e1, d6, bz, Bool.false_eq_true, d7]
            exact fin false h3 (by rw [if_pos (by decide)]; rfl) t5
          · have d7 : ((1 : Int32) = 1) = True := by decide
            simp (disch := first | assumption | omega | decide | rfl) only [w_X1_isLaw_69, w_X1_isLaw_71, w_X1_isLaw_73, w_X1_isLaw_75, w_X1_isLaw_76, w_X1_isLaw_77, w_X1_isLaw_78, w_X1_isLaw_81, w_X1_isLaw_82, w_X1_isLaw_85, w_X1_isLaw_86, w_X1_isLaw_91, w_X1_isLaw_94, nl_int, nl_ref, nl_null, nl_un, nl_rf, nl_long, isR_ref, isR_null, isR_rf, rf_some, rf_none, rOf_ref, rOf_null, rOf_rf, kn_v, kn_0, true_and, and_true, and_self, tin, inA_x, inA_l, ix_add, ix_addl, ix_ladd, ix_mul, ix_mull, ix_lmul, ix_tn, lt_tn, Nat.reduceLeDiff, Nat.reduceLT, Nat.reduceAdd, Nat.reduceMul, true_or, or_true, ↓reduceIte, aOk, ref_null, null_null, false_or, Option.isSome_some, Option.getD_some, ite_true, ite_false, eq_self, not_false_eq_true, not_true_eq_false, bz_ne, bz_1, reduceCtorEq, Bool.not_true, Bool.not_false, t6, t7, p2, q5, e1, d6, bz, d7]
            refine ih (j + 1) (by omega) h3 _ _ rfl t5 (fun r h' er => fin r h' ?_)
            rw [if_neg (by decide)]
            exact er
        · have d6 : (S.To.2 2 j = 1) = False := eq_false q6
          rw [decide_eq_false q6] at fin
          cases nr
          · have d7 : ((0 : Int32) = 0) = True := by decide
            simp (disch := first | assumption | omega | decide | rfl) only [w_X1_isLaw_69, w_X1_isLaw_71, w_X1_isLaw_73, w_X1_isLaw_75, w_X1_isLaw_76, w_X1_isLaw_77, w_X1_isLaw_78, w_X1_isLaw_81, w_X1_isLaw_82, w_X1_isLaw_85, w_X1_isLaw_86, w_X1_isLaw_91, w_X1_isLaw_94, nl_int, nl_ref, nl_null, nl_un, nl_rf, nl_long, isR_ref, isR_null, isR_rf, rf_some, rf_none, rOf_ref, rOf_null, rOf_rf, kn_v, kn_0, true_and, and_true, and_self, tin, inA_x, inA_l, ix_add, ix_addl, ix_ladd, ix_mul, ix_mull, ix_lmul, ix_tn, lt_tn, Nat.reduceLeDiff, Nat.reduceLT, Nat.reduceAdd, Nat.reduceMul, true_or, or_true, ↓reduceIte, aOk, ref_null, null_null, false_or, Option.isSome_some, Option.getD_some, ite_true, ite_false, eq_self, not_false_eq_true, not_true_eq_false, bz_ne, bz_1, reduceCtorEq, Bool.not_true, Bool.not_false, t6, t7, p2, q5, e1, d6, bz, Bool.false_eq_true, d7]
            refine ih (j + 1) (by omega) h3 _ _ rfl t5 (fun r h' er => fin r h' ?_)
            rw [if_neg (by decide)]
            exact er
          · have d7 : ((1 : Int32) = 0) = False := by decide
            simp (disch := first | assumption | omega | decide | rfl) only [w_X1_isLaw_69, w_X1_isLaw_71, w_X1_isLaw_73, w_X1_isLaw_75, w_X1_isLaw_76, w_X1_isLaw_77, w_X1_isLaw_78, w_X1_isLaw_81, w_X1_isLaw_82, w_X1_isLaw_85, w_X1_isLaw_86, w_X1_isLaw_89, w_X1_isLaw_90, nl_int, nl_ref, nl_null, nl_un, nl_rf, nl_long, isR_ref, isR_null, isR_rf, rf_some, rf_none, rOf_ref, rOf_null, rOf_rf, kn_v, kn_0, true_and, and_true, and_self, tin, inA_x, inA_l, ix_add, ix_addl, ix_ladd, ix_mul, ix_mull, ix_lmul, ix_tn, lt_tn, Nat.reduceLeDiff, Nat.reduceLT, Nat.reduceAdd, Nat.reduceMul, true_or, or_true, ↓reduceIte, aOk, ref_null, null_null, false_or, Option.isSome_some, Option.getD_some, ite_true, ite_false, eq_self, not_false_eq_true, not_true_eq_false, bz_ne, bz_1, reduceCtorEq, Bool.not_true, Bool.not_false, t6, t7, p2, q5, e1, d6, bz, d7]
            exact fin false h3 (by rw [if_pos (by decide)]; rfl) t5
      unfold laF at tail
      by_cases q8 : edF (O.sn (S.To.2 0 j)) (O.sn (S.To.2 1 j)) ≤ a
      · have d8 : (ix a < ix (edF (O.sn (S.To.2 0 j)) (O.sn (S.To.2 1 j)))) = False := by rw [ix_lt (by omega) (by omega)]; exact eq_false (by omega)
        have d9 : (ix (edF (O.sn (S.To.2 0 j)) (O.sn (S.To.2 1 j))) ≤ ix a) = True := eq_true (Int32.not_lt.mp (by rw [d8]; exact not_false))
        simp (disch := first | assumption | omega | decide | rfl) only [w_X1_isLaw_41, w_X1_isLaw_42, w_X1_isLaw_64, w_X1_isLaw_65, nl_int, nl_ref, nl_null, nl_un, nl_rf, nl_long, isR_ref, isR_null, isR_rf, rf_some, rf_none, rOf_ref, rOf_null, rOf_rf, kn_v, kn_0, true_and, and_true, and_self, tin, inA_x, inA_l, ix_add, ix_addl, ix_ladd, ix_mul, ix_mull, ix_lmul, ix_tn, lt_tn, Nat.reduceLeDiff, Nat.reduceLT, Nat.reduceAdd, Nat.reduceMul, true_or, or_true, ↓reduceIte, aOk, ref_null, null_null, false_or, Option.isSome_some, Option.getD_some, ite_true, ite_false, eq_self, not_false_eq_true, not_true_eq_false, bz_ne, bz_1, reduceCtorEq, Bool.not_true, Bool.not_false, d8, d9]
        exact tail true (by rw [decide_eq_true (Or.inl q8)])
      · have d8 : (ix a < ix (edF (O.sn (S.To.2 0 j)) (O.sn (S.To.2 1 j)))) = True := by rw [ix_lt (by omega) (by omega)]; exact eq_true (by omega)
        have d9 : (ix (edF (O.sn (S.To.2 0 j)) (O.sn (S.To.2 1 j))) ≤ ix a) = False := eq_false (Int32.not_le.mpr (by rw [d8]; exact True.intro))
        by_cases q10 : b' ≤ rhF (O.sn (S.To.2 0 j)) (O.sn (S.To.2 1 j))
        · have d10 : (ix (rhF (O.sn (S.To.2 0 j)) (O.sn (S.To.2 1 j))) < ix b') = False := by rw [ix_lt (by omega) (by omega)]; exact eq_false (by omega)
          simp (disch := first | assumption | omega | decide | rfl) only [w_X1_isLaw_41, w_X1_isLaw_42, w_X1_isLaw_45, w_X1_isLaw_46, w_X1_isLaw_49, w_X1_isLaw_51, w_X1_isLaw_52, w_X1_isLaw_53, w_X1_isLaw_55, w_X1_isLaw_56, w_X1_isLaw_57, w_X1_isLaw_60, w_X1_isLaw_61, w_X1_isLaw_64, w_X1_isLaw_65, nl_int, nl_ref, nl_null, nl_un, nl_rf, nl_long, isR_ref, isR_null, isR_rf, rf_some, rf_none, rOf_ref, rOf_null, rOf_rf, kn_v, kn_0, true_and, and_true, and_self, tin, inA_x, inA_l, ix_add, ix_addl, ix_ladd, ix_mul, ix_mull, ix_lmul, ix_tn, lt_tn, Nat.reduceLeDiff, Nat.reduceLT, Nat.reduceAdd, Nat.reduceMul, true_or, or_true, ↓reduceIte, aOk, ref_null, null_null, false_or, Option.isSome_some, Option.getD_some, ite_true, ite_false, eq_self, not_false_eq_true, not_true_eq_false, bz_ne, bz_1, reduceCtorEq, Bool.not_true, Bool.not_false, d8, d9, X3.f.tx, cx_now X3, X3.xo.tg, t6, t7, p2, q3, q4, cx_rhyme X3.xo w1 w2, d10]
          exact tail true (by rw [decide_eq_true (Or.inr q10)])
        · have d10 : (ix (rhF (O.sn (S.To.2 0 j)) (O.sn (S.To.2 1 j))) < ix b') = True := by rw [ix_lt (by omega) (by omega)]; exact eq_true (by omega)
          simp (disch := first | assumption | omega | decide | rfl) only [w_X1_isLaw_41, w_X1_isLaw_42, w_X1_isLaw_45, w_X1_isLaw_46, w_X1_isLaw_49, w_X1_isLaw_51, w_X1_isLaw_52, w_X1_isLaw_53, w_X1_isLaw_55, w_X1_isLaw_56, w_X1_isLaw_57, w_X1_isLaw_60, w_X1_isLaw_61, w_X1_isLaw_68, nl_int, nl_ref, nl_null, nl_un, nl_rf, nl_long, isR_ref, isR_null, isR_rf, rf_some, rf_none, rOf_ref, rOf_null, rOf_rf, kn_v, kn_0, true_and, and_true, and_self, tin, inA_x, inA_l, ix_add, ix_addl, ix_ladd, ix_mul, ix_mull, ix_lmul, ix_tn, lt_tn, Nat.reduceLeDiff, Nat.reduceLT, Nat.reduceAdd, Nat.reduceMul, true_or, or_true, ↓reduceIte, aOk, ref_null, null_null, false_or, Option.isSome_some, Option.getD_some, ite_true, ite_false, eq_self, not_false_eq_true, not_true_eq_false, bz_ne, bz_1, reduceCtorEq, Bool.not_true, Bool.not_false, d8, d9, X3.f.tx, cx_now X3, X3.xo.tg, t6, t7, p2, q3, q4, cx_rhyme X3.xo w1 w2, d10]
          exact tail false (by rw [decide_eq_false (fun q => q.elim q8 q10)])
  refine key S.To.1 0 (by omega) h _ _ rfl Tf.refl (fun r h' e t => ?_)
  rw [← hQ, e]
  exact ⟨rfl, t⟩
theorem xlaws (X : XN h x lo hi o b O S) (wt : WT O S.To) (le : S.To.1 ≤ 12) : Ca (D + 11) 34 [.ref x, .int v] h (fun r h' => r = .inl (some (.int (lawF O S.To v))) ∧ Tf x h h') := by
  generalize hQ : (fun r h' => r = .inl (some (.int (lawF O S.To v))) ∧ Tf x h h' : Rs → AH → Prop) = Q
  rw [law_x] at hQ
  rw [e_X1_laws]
  by_cases q : 0 ≤ v ∧ v ≤ 2
  · have c1 : decide (0 ≤ v ∧ v ≤ 2) = true := decide_eq_true q
    rw [if_pos q] at hQ
    simp (disch := first | assumption | omega | decide | rfl) only [w_X1_laws_0, w_X1_laws_1, w_X1_laws_2, w_X1_laws_3, w_X1_laws_6, w_X1_laws_11, w_X1_laws_12, w_X1_laws_13, w_X1_laws_14, w_X1_laws_15, w_X1_laws_16, w_X1_laws_18, w_X1_laws_19, nl_int, nl_ref, nl_null, nl_un, nl_rf, nl_long, isR_ref, isR_null, isR_rf, rf_some, rf_none, rOf_ref, rOf_null, rOf_rf, kn_v, kn_0, true_and, and_true, and_self, tin, inA_x, inA_l, ix_add, ix_addl, ix_ladd, ix_mul, ix_mull, ix_lmul, ix_tn, lt_tn, Nat.reduceLeDiff, Nat.reduceLT, Nat.reduceAdd, Nat.reduceMul, true_or, or_true, ↓reduceIte, aOk, ref_null, null_null, false_or, Option.isSome_some, Option.getD_some, ite_true, ite_false, eq_self, not_false_eq_true, not_true_eq_false, bz_ne, bz_1, reduceCtorEq, Bool.not_true, Bool.not_false, cx_within, c1]
    refine lp (P := fun a => ∀ h2 (v6 : Value), Tf x h h2 → ∀ st, st = xlF O S.To a → Ru (D + 10) 34 21 [.ref x, .int v, .int (ix st.1), .int st.2.1, .int st.2.2, .int (ix a), v6] [] h2 Q) (N := 5) ?_ ?_ h un Tf.refl (0, -1, -1) (by rw [xlF])
    · intro h2 v6 t2 st es
      have e : ((4 : Int32) < ix 5) = True := eq_true (by decide)
      have fin : ∀ r : Int32, r = (if v = 0 then ix st.1 else if v = 1 then st.2.1 else st.2.2) → Q (.inl (some (.int r))) h2 := fun r er => by rw [← hQ, er, es]; exact ⟨rfl, t2⟩
      rw [w_X1_laws_21]
      by_cases q0 : v = 0
      · have d0 : (v = 0) = True := eq_true q0
        simp (disch := first | assumption | omega | decide | rfl) only [w_X1_laws_23, w_X1_laws_24, w_X1_laws_76, w_X1_laws_77, w_X1_laws_80, w_X1_laws_81, w_X1_laws_95, nl_int, nl_ref, nl_null, nl_un, nl_rf, nl_long, isR_ref, isR_null, isR_rf, rf_some, rf_none, rOf_ref, rOf_null, rOf_rf, kn_v, kn_0, true_and, and_true, and_self, tin, inA_x, inA_l, ix_add, ix_addl, ix_ladd, ix_mul, ix_mull, ix_lmul, ix_tn, lt_tn, Nat.reduceLeDiff, Nat.reduceLT, Nat.reduceAdd, Nat.reduceMul, true_or, or_true, ↓reduceIte, aOk, ref_null, null_null, false_or, Option.isSome_some, Option.getD_some, ite_true, ite_false, eq_self, not_false_eq_true, not_true_eq_false, bz_ne, bz_1, reduceCtorEq, Bool.not_true, Bool.not_false, e, d0]
        exact fin _ (by rw [if_pos q0])
      · have d0 : (v = 0) = False := eq_false q0
        by_cases q1 : v = 1
        · have d1 : (v = 1) = True := eq_true q1
          simp (disch := first | assumption | omega | decide | rfl) only [w_X1_laws_23, w_X1_laws_24, w_X1_laws_76, w_X1_laws_77, w_X1_laws_80, w_X1_laws_81, w_X1_laws_84, w_X1_laws_85, w_X1_laws_86, w_X1_laws_89, w_X1_laws_90, w_X1_laws_93, w_X1_laws_95, nl_int, nl_ref, nl_null, nl_un, nl_rf, nl_long, isR_ref, isR_null, isR_rf, rf_some, rf_none, rOf_ref, rOf_null, rOf_rf, kn_v, kn_0, true_and, and_true, and_self, tin, inA_x, inA_l, ix_add, ix_addl, ix_ladd, ix_mul, ix_mull, ix_lmul, ix_tn, lt_tn, Nat.reduceLeDiff, Nat.reduceLT, Nat.reduceAdd, Nat.reduceMul, true_or, or_true, ↓reduceIte, aOk, ref_null, null_null, false_or, Option.isSome_some, Option.getD_some, ite_true, ite_false, eq_self, not_false_eq_true, not_true_eq_false, bz_ne, bz_1, reduceCtorEq, Bool.not_true, Bool.not_false, e, d0, d1]
          exact fin _ (by rw [if_neg q0, if_pos q1])
        · have d1 : (v = 1) = False := eq_false q1
          simp (disch := first | assumption | omega | decide | rfl) only [w_X1_laws_23, w_X1_laws_24, w_X1_laws_76, w_X1_laws_77, w_X1_laws_80, w_X1_laws_81, w_X1_laws_84, w_X1_laws_85, w_X1_laws_86, w_X1_laws_89, w_X1_laws_90, w_X1_laws_93, w_X1_laws_95, nl_int, nl_ref, nl_null, nl_un, nl_rf, nl_long, isR_ref, isR_null, isR_rf, rf_some, rf_none, rOf_ref, rOf_null, rOf_rf, kn_v, kn_0, true_and, and_true, and_self, tin, inA_x, inA_l, ix_add, ix_addl, ix_ladd, ix_mul, ix_mull, ix_lmul, ix_tn, lt_tn, Nat.reduceLeDiff, Nat.reduceLT, Nat.reduceAdd, Nat.reduceMul, true_or, or_true, ↓reduceIte, aOk, ref_null, null_null, false_or, Option.isSome_some, Option.getD_some, ite_true, ite_false, eq_self, not_false_eq_true, not_true_eq_false, bz_ne, bz_1, reduceCtorEq, Bool.not_true, Bool.not_false, e, d0, d1]
          exact fin _ (by rw [if_neg q0, if_neg q1])
    · intro a ha nx h2 v6 t2 st es
      have e : ((4 : Int32) < ix a) = False := by rw [show ((4 : Int32) < ix a) = (4 < a) from ix_llt (n := 4) (by decide) (by omega)]; exact eq_false (by omega)
      have b0 := (xl_inv (O := O) (T := S.To) a (by omega)).2.1
      rw [← es] at b0
      rw [w_X1_laws_21]
      simp (disch := first | assumption | omega | decide | rfl) only [w_X1_laws_23, w_X1_laws_24, w_X1_laws_27, w_X1_laws_29, nl_int, nl_ref, nl_null, nl_un, nl_rf, nl_long, isR_ref, isR_null, isR_rf, rf_some, rf_none, rOf_ref, rOf_null, rOf_rf, kn_v, kn_0, true_and, and_true, and_self, tin, inA_x, inA_l, ix_add, ix_addl, ix_ladd, ix_mul, ix_mull, ix_lmul, ix_tn, lt_tn, Nat.reduceLeDiff, Nat.reduceLT, Nat.reduceAdd, Nat.reduceMul, true_or, or_true, ↓reduceIte, aOk, ref_null, null_null, false_or, Option.isSome_some, Option.getD_some, ite_true, ite_false, eq_self, not_false_eq_true, not_true_eq_false, bz_ne, bz_1, reduceCtorEq, Bool.not_true, Bool.not_false, e]
      have key : ∀ b' h3 st', b' ≤ 8 → st'.1 + b' ≤ 100 → Tf x h h3 → dsF a (fun b => ilF O S.To a b) b' st' = rwF a (fun b => ilF O S.To a b) 8 st → Ru (D + 10) 34 31 [.ref x, .int v, .int (ix st'.1), .int st'.2.1, .int st'.2.2, .int (ix a), .int (ix b')] [] h3 Q := by
        intro b'
        induction b' with
        | zero =>
          intro h3 st' hb hs t3 ed
          have e0 : ((0 : Int32) < ix 0) = False := eq_false (by decide)
          rw [dsF] at ed
          rw [w_X1_laws_31]
          simp (disch := first | assumption | omega | decide | rfl) only [w_X1_laws_33, w_X1_laws_70, w_X1_laws_73, nl_int, nl_ref, nl_null, nl_un, nl_rf, nl_long, isR_ref, isR_null, isR_rf, rf_some, rf_none, rOf_ref, rOf_null, rOf_rf, kn_v, kn_0, true_and, and_true, and_self, tin, inA_x, inA_l, ix_add, ix_addl, ix_ladd, ix_mul, ix_mull, ix_lmul, ix_tn, lt_tn, Nat.reduceLeDiff, Nat.reduceLT, Nat.reduceAdd, Nat.reduceMul, true_or, or_true, ↓reduceIte, aOk, ref_null, null_null, false_or, Option.isSome_some, Option.getD_some, ite_true, ite_false, eq_self, not_false_eq_true, not_true_eq_false, bz_ne, bz_1, reduceCtorEq, Bool.not_true, Bool.not_false, e0]
          exact nx h3 _ t3 st' (by rw [ed, es, xlF])
        | succ b' ih =>
          intro h3 st' hb hs t3 ed
          have X3 := X.tf t3
          have e0 : ((0 : Int32) < ix (b' + 1)) = True := by rw [ix_0lt (by omega)]; exact eq_true (by omega)
          have em : ix (b' + 1) + -1 = ix b' := by rw [i32_m1]; exact ix_subl (n := 1) (by omega)
          rw [dsF] at ed
          have nj : ∀ h4 st2, st2.1 + b' ≤ 100 → Tf x h h4 → dsF a (fun b => ilF O S.To a b) b' st2 = rwF a (fun b => ilF O S.To a b) 8 st → Ru (D + 10) 34 64 [.ref x, .int v, .int (ix st2.1), .int st2.2.1, .int st2.2.2, .int (ix a), .int (ix (b' + 1))] [] h4 Q := by
            intro h4 st2 hs2 t4 e4
            simp (disch := first | assumption | omega | decide | rfl) only [w_X1_laws_64, w_X1_laws_67, nl_int, nl_ref, nl_null, nl_un, nl_rf, nl_long, isR_ref, isR_null, isR_rf, rf_some, rf_none, rOf_ref, rOf_null, rOf_rf, kn_v, kn_0, true_and, and_true, and_self, tin, inA_x, inA_l, ix_add, ix_addl, ix_ladd, ix_mul, ix_mull, ix_lmul, ix_tn, lt_tn, Nat.reduceLeDiff, Nat.reduceLT, Nat.reduceAdd, Nat.reduceMul, true_or, or_true, ↓reduceIte, aOk, ref_null, null_null, false_or, Option.isSome_some, Option.getD_some, ite_true, ite_false, eq_self, not_false_eq_true, not_true_eq_false, bz_ne, bz_1, reduceCtorEq, Bool.not_true, Bool.not_false, em]
            exact ih h4 st2 (by omega) hs2 t4 e4
          rw [w_X1_laws_31]
          simp (disch := first | assumption | omega | decide | rfl) only [w_X1_laws_33, w_X1_laws_36, w_X1_laws_37, w_X1_laws_39, w_X1_laws_41, nl_int, nl_ref, nl_null, nl_un, nl_rf, nl_long, isR_ref, isR_null, isR_rf, rf_some, rf_none, rOf_ref, rOf_null, rOf_rf, kn_v, kn_0, true_and, and_true, and_self, tin, inA_x, inA_l, ix_add, ix_addl, ix_ladd, ix_mul, ix_mull, ix_lmul, ix_tn, lt_tn, Nat.reduceLeDiff, Nat.reduceLT, Nat.reduceAdd, Nat.reduceMul, true_or, or_true, ↓reduceIte, aOk, ref_null, null_null, false_or, Option.isSome_some, Option.getD_some, ite_true, ite_false, eq_self, not_false_eq_true, not_true_eq_false, bz_ne, bz_1, reduceCtorEq, Bool.not_true, Bool.not_false, e0, X3.f.tx]
          refine ca_mono (cx_isLaw X3 wt le (by omega) (by omega)) ?_
          rintro r h4 ⟨rfl, t4⟩
          have t5 := t3.trans t4
          cases q1 : ilF O S.To a (b' + 1)
          · rw [show dsS a (fun b => ilF O S.To a b) st' (b' + 1) = st' from if_neg (show ¬ ilF O S.To a (b' + 1) = true by rw [q1]; decide)] at ed
            simp (disch := first | assumption | omega | decide | rfl) only [w_X1_laws_44, w_X1_laws_47, nl_int, nl_ref, nl_null, nl_un, nl_rf, nl_long, isR_ref, isR_null, isR_rf, rf_some, rf_none, rOf_ref, rOf_null, rOf_rf, kn_v, kn_0, true_and, and_true, and_self, tin, inA_x, inA_l, ix_add, ix_addl, ix_ladd, ix_mul, ix_mull, ix_lmul, ix_tn, lt_tn, Nat.reduceLeDiff, Nat.reduceLT, Nat.reduceAdd, Nat.reduceMul, true_or, or_true, ↓reduceIte, aOk, ref_null, null_null, false_or, Option.isSome_some, Option.getD_some, ite_true, ite_false, eq_self, not_false_eq_true, not_true_eq_false, bz_ne, bz_1, reduceCtorEq, Bool.not_true, Bool.not_false]
            exact nj h4 st' (by omega) t5 ed
          · rw [show dsS a (fun b => ilF O S.To a b) st' (b' + 1) = (st'.1 + 1, if st'.1 = 0 then (ix a, ix (b' + 1)) else st'.2) from if_pos q1] at ed
            by_cases q2 : st'.1 = 0
            · have d2 : (st'.1 = 0) = True := eq_true q2
              rw [if_pos q2] at ed
              simp (disch := first | assumption | omega | decide | rfl) only [w_X1_laws_44, w_X1_laws_50, w_X1_laws_51, w_X1_laws_54, w_X1_laws_56, w_X1_laws_57, w_X1_laws_59, w_X1_laws_61, nl_int, nl_ref, nl_null, nl_un, nl_rf, nl_long, isR_ref, isR_null, isR_rf, rf_some, rf_none, rOf_ref, rOf_null, rOf_rf, kn_v, kn_0, true_and, and_true, and_self, tin, inA_x, inA_l, ix_add, ix_addl, ix_ladd, ix_mul, ix_mull, ix_lmul, ix_tn, lt_tn, Nat.reduceLeDiff, Nat.reduceLT, Nat.reduceAdd, Nat.reduceMul, true_or, or_true, ↓reduceIte, aOk, ref_null, null_null, false_or, Option.isSome_some, Option.getD_some, ite_true, ite_false, eq_self, not_false_eq_true, not_true_eq_false, bz_ne, bz_1, reduceCtorEq, Bool.not_true, Bool.not_false, ix_eql, d2]
              exact nj h4 (st'.1 + 1, ix a, ix (b' + 1)) (by show st'.1 + 1 + b' ≤ 100; omega) t5 ed
            · have d2 : (st'.1 = 0) = False := eq_false q2
              rw [if_neg q2] at ed
              simp (disch := first | assumption | omega | decide | rfl) only [w_X1_laws_44, w_X1_laws_50, w_X1_laws_51, w_X1_laws_61, nl_int, nl_ref, nl_null, nl_un, nl_rf, nl_long, isR_ref, isR_null, isR_rf, rf_some, rf_none, rOf_ref, rOf_null, rOf_rf, kn_v, kn_0, true_and, and_true, and_self, tin, inA_x, inA_l, ix_add, ix_addl, ix_ladd, ix_mul, ix_mull, ix_lmul, ix_tn, lt_tn, Nat.reduceLeDiff, Nat.reduceLT, Nat.reduceAdd, Nat.reduceMul, true_or, or_true, ↓reduceIte, aOk, ref_null, null_null, false_or, Option.isSome_some, Option.getD_some, ite_true, ite_false, eq_self, not_false_eq_true, not_true_eq_false, bz_ne, bz_1, reduceCtorEq, Bool.not_true, Bool.not_false, ix_eql, d2]
              exact nj h4 (st'.1 + 1, st'.2) (by show st'.1 + 1 + b' ≤ 100; omega) t5 ed
      exact key 8 h2 st (Nat.le_refl _) (by omega) t2 (ds_rw 8 st)
  · have c1 : decide (0 ≤ v ∧ v ≤ 2) = false := decide_eq_false q
    rw [if_neg q] at hQ
    simp (disch := first | assumption | omega | decide | rfl) only [w_X1_laws_0, w_X1_laws_1, w_X1_laws_2, w_X1_laws_3, w_X1_laws_6, w_X1_laws_9, w_X1_laws_10, nl_int, nl_ref, nl_null, nl_un, nl_rf, nl_long, isR_ref, isR_null, isR_rf, rf_some, rf_none, rOf_ref, rOf_null, rOf_rf, kn_v, kn_0, true_and, and_true, and_self, tin, inA_x, inA_l, ix_add, ix_addl, ix_ladd, ix_mul, ix_mull, ix_lmul, ix_tn, lt_tn, Nat.reduceLeDiff, Nat.reduceLT, Nat.reduceAdd, Nat.reduceMul, true_or, or_true, ↓reduceIte, aOk, ref_null, null_null, false_or, Option.isSome_some, Option.getD_some, ite_true, ite_false, eq_self, not_false_eq_true, not_true_eq_false, bz_ne, bz_1, reduceCtorEq, Bool.not_true, Bool.not_false, cx_within, c1]
    rw [← hQ]
    exact ⟨rfl, Tf.refl⟩
theorem xtell (X : XN h x lo hi o b O S) (le : S.To.1 ≤ 12) (r1 : Nc h + 2 ≤ 601024) (r2 : Ns h + 40 ≤ 7293034) (t : Bool) : Ca (D + 10) 33 [.ref x, .int u, .int v, .int (bz t)] h (fun r h' => r = .inl (some (.int (bz (mayT O S.To u v)))) ∧ XN h' x lo hi o b O ((S.B, S.L, (S.K, S.T), if mayT O S.To u v = true then teF S.To (tn u) (tn v) t else S.To), S.2) ∧ Uq h h' ∧ Nc h' ≤ Nc h + 2 ∧ Ns h' ≤ Ns h + 40) := by
  have n2 := X.xo.wo.nS
  have w := X.to.ol.wl
  have z := X.to.sz
  have sz2 : ∀ Q, Ca (D + 9) 301 [.ref (ol h x 5)] h Q = Q (.inl (some (.int (ix S.To.1)))) h := fun Q => by rw [c_size w, z]
  generalize hQ : (fun r h' => r = .inl (some (.int (bz (mayT O S.To u v)))) ∧ XN h' x lo hi o b O ((S.B, S.L, (S.K, S.T), if mayT O S.To u v = true then teF S.To (tn u) (tn v) t else S.To), S.2) ∧ Uq h h' ∧ Nc h' ≤ Nc h + 2 ∧ Ns h' ≤ Ns h + 40 : Rs → AH → Prop) = Q
  have bad : mayT O S.To u v = false → Ru (D + 9) 33 28 [.ref x, .int u, .int v, .int (bz t)] [] h Q := by
    intro q
    simp (disch := first | assumption | omega | decide | rfl) only [w_X1_tell_28, w_X1_tell_29, nl_int, nl_ref, nl_null, nl_un, nl_rf, nl_long, isR_ref, isR_null, isR_rf, rf_some, rf_none, rOf_ref, rOf_null, rOf_rf, kn_v, kn_0, true_and, and_true, and_self, tin, inA_x, inA_l, ix_add, ix_addl, ix_ladd, ix_mul, ix_mull, ix_lmul, ix_tn, lt_tn, Nat.reduceLeDiff, Nat.reduceLT, Nat.reduceAdd, Nat.reduceMul, true_or, or_true, ↓reduceIte, aOk, ref_null, null_null, false_or, Option.isSome_some, Option.getD_some, ite_true, ite_false, eq_self, not_false_eq_true, not_true_eq_false, bz_ne, bz_1, reduceCtorEq, Bool.not_true, Bool.not_false]
    rw [← hQ, q]
    exact ⟨rfl, X, Uq.refl, by omega, by omega⟩
  unfold mayT at bad
  rw [e_X1_tell]
  cases q1 : inN u O.nS
  · simp (disch := first | assumption | omega | decide | rfl) only [w_X1_tell_0, w_X1_tell_1, w_X1_tell_2, w_X1_tell_5, nl_int, nl_ref, nl_null, nl_un, nl_rf, nl_long, isR_ref, isR_null, isR_rf, rf_some, rf_none, rOf_ref, rOf_null, rOf_rf, kn_v, kn_0, true_and, and_true, and_self, tin, inA_x, inA_l, ix_add, ix_addl, ix_ladd, ix_mul, ix_mull, ix_lmul, ix_tn, lt_tn, Nat.reduceLeDiff, Nat.reduceLT, Nat.reduceAdd, Nat.reduceMul, true_or, or_true, ↓reduceIte, aOk, ref_null, null_null, false_or, Option.isSome_some, Option.getD_some, ite_true, ite_false, eq_self, not_false_eq_true, not_true_eq_false, bz_ne, bz_1, reduceCtorEq, Bool.not_true, Bool.not_false, X.f.tx, cx_isSound X, q1]
    exact bad (by rw [q1]; rfl)
  · cases q2 : inN v O.nS
    · simp (disch := first | assumption | omega | decide | rfl) only [w_X1_tell_0, w_X1_tell_1, w_X1_tell_2, w_X1_tell_5, w_X1_tell_8, w_X1_tell_9, w_X1_tell_10, w_X1_tell_13, nl_int, nl_ref, nl_null, nl_un, nl_rf, nl_long, isR_ref, isR_null, isR_rf, rf_some, rf_none, rOf_ref, rOf_null, rOf_rf, kn_v, kn_0, true_and, and_true, and_self, tin, inA_x, inA_l, ix_add, ix_addl, ix_ladd, ix_mul, ix_mull, ix_lmul, ix_tn, lt_tn, Nat.reduceLeDiff, Nat.reduceLT, Nat.reduceAdd, Nat.reduceMul, true_or, or_true, ↓reduceIte, aOk, ref_null, null_null, false_or, Option.isSome_some, Option.getD_some, ite_true, ite_false, eq_self, not_false_eq_true, not_true_eq_false, bz_ne, bz_1, reduceCtorEq, Bool.not_true, Bool.not_false, X.f.tx, cx_isSound X, q1, q2]
      exact bad (by rw [q2, Bool.and_false]; rfl)
    · by_cases q3 : S.To.1 = 12
      · have d3 : (S.To.1 = 12) = True := eq_true q3
        simp (disch := first | assumption | omega | decide | rfl) only [w_X1_tell_0, w_X1_tell_1, w_X1_tell_2, w_X1_tell_5, w_X1_tell_8, w_X1_tell_9, w_X1_tell_10, w_X1_tell_13, w_X1_tell_16, w_X1_tell_17, w_X1_tell_20, w_X1_tell_23, w_X1_tell_25, nl_int, nl_ref, nl_null, nl_un, nl_rf, nl_long, isR_ref, isR_null, isR_rf, rf_some, rf_none, rOf_ref, rOf_null, rOf_rf, kn_v, kn_0, true_and, and_true, and_self, tin, inA_x, inA_l, ix_add, ix_addl, ix_ladd, ix_mul, ix_mull, ix_lmul, ix_tn, lt_tn, Nat.reduceLeDiff, Nat.reduceLT, Nat.reduceAdd, Nat.reduceMul, true_or, or_true, ↓reduceIte, aOk, ref_null, null_null, false_or, Option.isSome_some, Option.getD_some, ite_true, ite_false, eq_self, not_false_eq_true, not_true_eq_false, bz_ne, bz_1, reduceCtorEq, Bool.not_true, Bool.not_false, X.f.tx, cx_isSound X, q1, q2, X.ft, w.tg, sz2, ix_eql, d3]
        exact bad (by rw [decide_eq_true q3, Bool.not_true, Bool.and_false])
      · have d3 : (S.To.1 = 12) = False := eq_false q3
        have ok : mayT O S.To u v = true := by unfold mayT; rw [q1, q2, decide_eq_false q3]; rfl
        obtain ⟨a, ha, rfl⟩ := inN_ex (by omega) q1
        obtain ⟨s, hs, rfl⟩ := inN_ex (by omega) q2
        rw [ok, tn_ix (by omega), tn_ix (by omega)] at hQ
        clear bad
        have rm1 : Nc h + 1 ≤ 601024 := by omega
        have rm2 : Ns h + 3 ≤ 7293034 := by omega
        have lx : ol h x 5 < Nx h := w.lt
        simp (disch := first | assumption | omega | decide | rfl) only [w_X1_tell_0, w_X1_tell_1, w_X1_tell_2, w_X1_tell_5, w_X1_tell_8, w_X1_tell_9, w_X1_tell_10, w_X1_tell_13, w_X1_tell_16, w_X1_tell_17, w_X1_tell_20, w_X1_tell_23, w_X1_tell_25, w_X1_tell_30, w_X1_tell_31, w_X1_tell_34, w_X1_tell_35, nl_int, nl_ref, nl_null, nl_un, nl_rf, nl_long, isR_ref, isR_null, isR_rf, rf_some, rf_none, rOf_ref, rOf_null, rOf_rf, kn_v, kn_0, true_and, and_true, and_self, tin, inA_x, inA_l, ix_add, ix_addl, ix_ladd, ix_mul, ix_mull, ix_lmul, ix_tn, lt_tn, Nat.reduceLeDiff, Nat.reduceLT, Nat.reduceAdd, Nat.reduceMul, true_or, or_true, ↓reduceIte, aOk, ref_null, null_null, false_or, Option.isSome_some, Option.getD_some, ite_true, ite_false, eq_self, not_false_eq_true, not_true_eq_false, bz_ne, bz_1, reduceCtorEq, Bool.not_true, Bool.not_false, X.f.tx, cx_isSound X, q1, q2, X.ft, w.tg, sz2, ix_eql, d3, Rm, rm1, rm2, lt_nn]
        have ux : Ux h (nCe h 1004 3) := un_nCe
        have a1 : Tg (nCe h 1004 3) (Nx h) = 1004 := Tg_new
        have a2 : An (nCe h 1004 3) (Nx h) = 3 := An_new
        have a3 : Nc (nCe h 1004 3) = Nc h + 1 := rfl
        have a4 : Ns (nCe h 1004 3) = Ns h + 3 := rfl
        have uf : Un (fun _ => False) h (nCe h 1004 3) := un_nCe
        revert ux a1 a2 a3 a4 uf
        generalize nCe h 1004 3 = h1
        intro ux a1 a2 a3 a4 uf
        have t1 : 1000 ≤ Tg h1 (Nx h) := by omega
        have t2 : Tg h1 (Nx h) < 1900 := by omega
        have fin : ∀ h2 z, z = (if t = true then 1 else 0) → Un (fun a => a = Nx h) h1 h2 → Ai h2 (Nx h) 0 = ix a → Ai h2 (Nx h) 1 = ix s → Ai h2 (Nx h) 2 = ix z → Nc h2 = Nc h1 → Ns h2 = Ns h1 → Ru (D + 9) 33 57 [.ref x, .int (ix a), .int (ix s), .int (bz t)] [.ref (Nx h), .ref (ol h x 5)] h2 Q := by
          intro h2 z ez u2 g0 g1 g2 c1 c2
          have uh : Un (fun _ => False) h h2 := Un.trans uf u2 (fun z hz q => by omega)
          have X2 := X.ux (un_f uh)
          have o5 : ol h2 x 5 = ol h x 5 := by
            have := (uh.uk (Tg_nz X.f.tx (by decide)) (fun q => q)).2.2.2.2.1 5
            unfold ol
            rw [this]
          have tF : Tg h2 (Nx h) = 1004 := u2.tg a1 (by decide)
          have nF : An h2 (Nx h) = 3 := by rw [u2.an (by rw [a1]; decide)]; exact a2
          have w2 := X2.to.ol.wl
          have z2 := X2.to.sz
          rw [o5] at w2 z2
          simp (disch := first | assumption | omega | decide | rfl) only [w_X1_tell_57, nl_int, nl_ref, nl_null, nl_un, nl_rf, nl_long, isR_ref, isR_null, isR_rf, rf_some, rf_none, rOf_ref, rOf_null, rOf_rf, kn_v, kn_0, true_and, and_true, and_self, tin, inA_x, inA_l, ix_add, ix_addl, ix_ladd, ix_mul, ix_mull, ix_lmul, ix_tn, lt_tn, Nat.reduceLeDiff, Nat.reduceLT, Nat.reduceAdd, Nat.reduceMul, true_or, or_true, ↓reduceIte, aOk, ref_null, null_null, false_or, Option.isSome_some, Option.getD_some, ite_true, ite_false, eq_self, not_false_eq_true, not_true_eq_false, bz_ne, bz_1, reduceCtorEq, Bool.not_true, Bool.not_false, w2.tg]
          refine ca_mono (c_add (d := D + 2) w2 X2.dv (by omega) (by rw [tF]; decide) (by omega) (by omega)) ?_
          rintro r h3 ⟨rfl, ad⟩
          obtain ⟨w3, z3, e3, e4, un, d3', m3, m4⟩ := ad
          rw [z2] at z3 e3 e4 m4
          have nxx : Nx h1 ≤ Nx h2 := u2.nx
          have hn2 := X2.hn
          have nA := nA_tol w2 (by have := X2.to.ol.de; rw [o5] at this; exact this)
          have XX := X2.tol (h' := h3) (T' := teF S.To a s t) (by rw [o5]; exact un) (by rw [o5]; rcases d3' with q | q; exact Or.inl q; right; omega) (by
            rw [o5]
            have de := X2.to.ol.de
            have ou := X2.to.ol.ou
            rw [o5] at de ou
            have l2 := w2.elt
            refine ⟨⟨w3, ?_, ou.1, ?_⟩, z3, fun j hj => ?_⟩
            · rcases d3' with q | q
              · rw [q, (un.2.2.2.2.1 _ l2).1]; exact de
              · have := w3.2.2.2.2.1
                intro e5
                rcases this with h5 | h5
                · omega
                · have e6 := h5.2.1
                  rw [un.2.2.2.1, q] at e6
                  have := Tg_nz X2.dv (by decide)
                  omega
            · rcases d3' with q | q
              · rw [q]; exact ou.2
              · right; omega
            · have hj : j < S.To.1 + 1 := hj
              by_cases qj : j = S.To.1
              · rw [qj, e4]
                have k := un.uk (Tg_nz tF (by decide)) (nA _ (by rw [tF]; decide) (by rw [tF]; decide))
                rw [k.1, k.2.1, k.2.2.2.2.2.1, g0, g1, g2, ez]
                refine ⟨tF, nF, ?_, ?_, ?_⟩
                · show _ = ix (if S.To.1 = S.To.1 then (if 0 = 0 then a else _) else _)
                  rw [if_pos rfl, if_pos rfl]
                · show _ = ix (if S.To.1 = S.To.1 then (if 1 = 0 then a else if 1 = 1 then s else _) else _)
                  rw [if_pos rfl, if_neg (by decide), if_pos rfl]
                · show _ = ix (if S.To.1 = S.To.1 then (if 2 = 0 then a else if 2 = 1 then s else (if t = true then 1 else 0)) else _)
                  rw [if_pos (show S.To.1 = S.To.1 from rfl), if_neg (show ¬ (2 = 0) by decide), if_neg (show ¬ (2 = 1) by decide)]
              · have hj2 : j < S.To.1 := by omega
                obtain ⟨q1, q2, q3, q4, q5⟩ := X2.to.ln j hj2
                rw [o5] at q1 q2 q3 q4 q5
                rw [e3 j hj2]
                have k := un.uk (Tg_nz q1 (by decide)) (nA _ (by rw [q1]; decide) (by rw [q1]; decide))
                rw [k.1, k.2.1, k.2.2.2.2.2.1]
                refine ⟨q1, q2, ?_, ?_, ?_⟩
                · show _ = ix (if j = S.To.1 then _ else S.To.2 0 j)
                  rw [if_neg qj]; exact q3
                · show _ = ix (if j = S.To.1 then _ else S.To.2 1 j)
                  rw [if_neg qj]; exact q4
                · show _ = ix (if j = S.To.1 then _ else S.To.2 2 j)
                  rw [if_neg qj]; exact q5)
          simp (disch := first | assumption | omega | decide | rfl) only [w_X1_tell_60, w_X1_tell_61, w_X1_tell_62, nl_int, nl_ref, nl_null, nl_un, nl_rf, nl_long, isR_ref, isR_null, isR_rf, rf_some, rf_none, rOf_ref, rOf_null, rOf_rf, kn_v, kn_0, true_and, and_true, and_self, tin, inA_x, inA_l, ix_add, ix_addl, ix_ladd, ix_mul, ix_mull, ix_lmul, ix_tn, lt_tn, Nat.reduceLeDiff, Nat.reduceLT, Nat.reduceAdd, Nat.reduceMul, true_or, or_true, ↓reduceIte, aOk, ref_null, null_null, false_or, Option.isSome_some, Option.getD_some, ite_true, ite_false, eq_self, not_false_eq_true, not_true_eq_false, bz_ne, bz_1, reduceCtorEq, Bool.not_true, Bool.not_false]
          rw [← hQ]
          refine ⟨rfl, XX, Uq.trans (Un.uq uh (fun _ _ q => q.elim)) (un.uq (fun a _ q => ?_)), by omega, by omega⟩
          have := edT w2
          have de := X2.to.ol.de
          rw [o5] at de
          rcases q with q | q
          · rw [q, w2.tg]; omega
          · rw [q]; omega
        cases t
        · simp (disch := first | assumption | omega | decide | rfl) only [w_X1_tell_37, w_X1_tell_38, w_X1_tell_39, w_X1_tell_40, w_X1_tell_41, w_X1_tell_42, w_X1_tell_43, w_X1_tell_44, w_X1_tell_45, w_X1_tell_46, w_X1_tell_47, w_X1_tell_48, w_X1_tell_55, w_X1_tell_56, nl_int, nl_ref, nl_null, nl_un, nl_rf, nl_long, isR_ref, isR_null, isR_rf, rf_some, rf_none, rOf_ref, rOf_null, rOf_rf, kn_v, kn_0, true_and, and_true, and_self, tin, inA_x, inA_l, ix_add, ix_addl, ix_ladd, ix_mul, ix_mull, ix_lmul, ix_tn, lt_tn, Nat.reduceLeDiff, Nat.reduceLT, Nat.reduceAdd, Nat.reduceMul, true_or, or_true, ↓reduceIte, aOk, ref_null, null_null, false_or, Option.isSome_some, Option.getD_some, ite_true, ite_false, eq_self, not_false_eq_true, not_true_eq_false, bz_ne, bz_1, reduceCtorEq, Bool.not_true, Bool.not_false, t1, t2, a2, Tg_sFi, Tg_sFl, Tg_sFr, Tg_sAi, Tg_sAl, Tg_sAr, An_sFi, An_sFl, An_sFr, An_sAi, An_sAl, An_sAr, Fi_sFl, Fi_sFr, Fi_sAi, Fi_sAl, Fi_sAr, Fl_sFi, Fl_sFr, Fl_sAi, Fl_sAl, Fl_sAr, Fr_sFi, Fr_sFl, Fr_sAi, Fr_sAl, Fr_sAr, Ai_sFi, Ai_sFl, Ai_sFr, Ai_sAl, Ai_sAr, Al_sFi, Al_sFl, Al_sFr, Al_sAi, Al_sAr, Ar_sFi, Ar_sFl, Ar_sFr, Ar_sAi, Ar_sAl, Fi_same, Fl_same, Fr_same, Ai_same, Al_same, Ar_same, Fi_otherf, Fl_otherf, Fr_otherf, sAi_sAi, bz, Bool.false_eq_true]
          refine fin _ 0 rfl (un_sAi rfl) ?_ ?_ ?_ rfl rfl
          · rw [Ai_same, upd_n (by decide), upd_n (by decide), upd_s]
          · rw [Ai_same, upd_n (by decide), upd_s]
          · rw [Ai_same, upd_s]; rfl
        · have d1 : ((1 : Int32) = 0) = False := by decide
          simp (disch := first | assumption | omega | decide | rfl) only [w_X1_tell_37, w_X1_tell_38, w_X1_tell_39, w_X1_tell_40, w_X1_tell_41, w_X1_tell_42, w_X1_tell_43, w_X1_tell_44, w_X1_tell_45, w_X1_tell_46, w_X1_tell_47, w_X1_tell_48, w_X1_tell_51, w_X1_tell_52, w_X1_tell_55, w_X1_tell_56, nl_int, nl_ref, nl_null, nl_un, nl_rf, nl_long, isR_ref, isR_null, isR_rf, rf_some, rf_none, rOf_ref, rOf_null, rOf_rf, kn_v, kn_0, true_and, and_true, and_self, tin, inA_x, inA_l, ix_add, ix_addl, ix_ladd, ix_mul, ix_mull, ix_lmul, ix_tn, lt_tn, Nat.reduceLeDiff, Nat.reduceLT, Nat.reduceAdd, Nat.reduceMul, true_or, or_true, ↓reduceIte, aOk, ref_null, null_null, false_or, Option.isSome_some, Option.getD_some, ite_true, ite_false, eq_self, not_false_eq_true, not_true_eq_false, bz_ne, bz_1, reduceCtorEq, Bool.not_true, Bool.not_false, t1, t2, a2, Tg_sFi, Tg_sFl, Tg_sFr, Tg_sAi, Tg_sAl, Tg_sAr, An_sFi, An_sFl, An_sFr, An_sAi, An_sAl, An_sAr, Fi_sFl, Fi_sFr, Fi_sAi, Fi_sAl, Fi_sAr, Fl_sFi, Fl_sFr, Fl_sAi, Fl_sAl, Fl_sAr, Fr_sFi, Fr_sFl, Fr_sAi, Fr_sAl, Fr_sAr, Ai_sFi, Ai_sFl, Ai_sFr, Ai_sAl, Ai_sAr, Al_sFi, Al_sFl, Al_sFr, Al_sAi, Al_sAr, Ar_sFi, Ar_sFl, Ar_sFr, Ar_sAi, Ar_sAl, Fi_same, Fl_same, Fr_same, Ai_same, Al_same, Ar_same, Fi_otherf, Fl_otherf, Fr_otherf, sAi_sAi, bz, d1]
          refine fin _ 1 rfl (un_sAi rfl) ?_ ?_ ?_ rfl rfl
          · rw [Ai_same, upd_n (by decide), upd_n (by decide), upd_s]
          · rw [Ai_same, upd_n (by decide), upd_s]
          · rw [Ai_same, upd_s]; rfl
end
