/-! THE MODEL: what strangers take -/
set_option maxRecDepth 100000
noncomputable def noS (O : Oc) (s a z k : Nat) : Nat := if xhF O (O.st k) s a = true then z * (10 - O.sb k) / 10 else z
noncomputable def noF (O : Oc) (s a n : Nat) : Nat := foI (fun z _ => foI (noS O s a) z O.nT) 1000000 n
noncomputable def loV (O : Oc) (s a n : Nat) : Nat := O.wo a * (1000000 - noF O s a n) / 1000
noncomputable def loS (O : Oc) (B : Bo) (n : Nat) : Int32 := su B.hang (fun a => ix (loV O (B.snd a) a n)) O.nA
noncomputable def bsS (O : Oc) (B : Bo) (a n : Nat) (st : Int32 × Int32) (s : Nat) : Int32 × Int32 := if frF O.nA B a s = true then (if ¬ st.1 < 0 ∧ ¬ loS O (chB B a s) n < st.2 then st else (ix s, loS O (chB B a s) n)) else st
noncomputable def bsF (O : Oc) (B : Bo) (a n j : Nat) : Int32 × Int32 := foI (bsS O B a n) (-1, 0) j
noncomputable def losF (O : Oc) (B : Bo) (v : Int32) : Int32 := if 1 ≤ v ∧ v ≤ 30 then loS O B (tn v) else -1
noncomputable def mayB (O : Oc) (B : Bo) (u v : Int32) : Bool := inN u O.nA && B.hang.testBit (tn u) && decide (1 ≤ v ∧ v ≤ 30)
noncomputable def besF (O : Oc) (B : Bo) (u v : Int32) : Int32 := if mayB O B u v = true then (bsF O B (tn u) (tn v) O.nS).1 else -1
section
variable {d D m a b c p q s n k i j K T : Nat} {h h' : AH} {Q : Rs → AH → Prop} {O : Oc} {B : Bo} {A F : List Nat} {u v w : Int32} {l : List Nat}
theorem noS_le {z : Nat} : noS O s a z k ≤ z := by
  unfold noS
  split
  · have : z * (10 - O.sb k) ≤ z * 10 := Nat.mul_le_mul_left _ (Nat.sub_le _ _)
    omega
  · exact Nat.le_refl _
theorem foI_le {f : Nat → Nat → Nat} (hf : ∀ z k, f z k ≤ z) {z : Nat} : ∀ n, foI f z n ≤ z
  | 0 => Nat.le_refl _
  | n + 1 => Nat.le_trans (hf _ _) (foI_le hf n)
theorem noF_le : noF O s a n ≤ 1000000 := foI_le (fun z _ => foI_le (fun z k => noS_le) O.nT) n
theorem noF_3 (q : O.kd a = 3) : noF O s a n = 1000000 := by
  have e1 : ∀ z k, noS O s a z k = z := fun z k => by
    unfold noS xhF
    rw [if_neg (by simp [q])]
  have e2 : ∀ z n, foI (noS O s a) z n = z := fun z n => by
    induction n with
    | zero => rfl
    | succ n ih => show noS O s a _ n = z; rw [e1]; exact ih
  unfold noF
  induction n with
  | zero => rfl
  | succ n ih => show foI (noS O s a) _ O.nT = _; rw [e2]; exact ih
theorem lix_mul {x y : Nat} : lix x * lix y = lix (x * y) := (Int64.ofNat_mul x y).symm
theorem lix_dv {x : Nat} (hx : x < 9223372036854775808) : lix x / 1000 = lix (x / 1000) := pk_lDiv (a := x) (b := 1000) hx (by decide) (by decide)
theorem cm_lossOf (x : M0 h m O) (y : MB h (m + 53) 0 O.nA B) (z : WB O B) (hn : n ≤ 30) (fin : Q (.inl (some (.int (loS O B n)))) h) : Ca (D + 2) 228 [.ref m, .int (ix n)] h Q := by
  have n1 := x.wo.nA
  have n2 := x.wo.nS
  have n4 := x.wo.nT
  have hm := x.mo
  have hh := z.lt x.wo
  rw [e_X9_lossOf]
  simp (disch := first | assumption | omega | decide | rfl) only [w_X9_lossOf_0, w_X9_lossOf_1, w_X9_lossOf_2, w_X9_lossOf_3, nl_int, nl_ref, nl_null, nl_un, nl_rf, nl_long, isR_ref, isR_null, isR_rf, rf_some, rf_none, rOf_ref, rOf_null, rOf_rf, kn_v, kn_0, true_and, and_true, and_self, tin, inA_x, inA_l, ix_add, ix_addl, ix_ladd, ix_mul, ix_mull, ix_lmul, ix_tn, lt_tn, Nat.reduceLeDiff, Nat.reduceLT, Nat.reduceAdd, Nat.reduceMul, true_or, or_true, ↓reduceIte, aOk, ref_null, null_null, false_or, Option.isSome_some, Option.getD_some, ite_true, ite_false, eq_self, not_false_eq_true, not_true_eq_false, bz_ne, bz_1, reduceCtorEq, Bool.not_true, Bool.not_false]
  refine lp (P := fun j => ∀ v4 v5 v6 : Value, Ru (D + 1) 228 4 [.ref m, .int (ix n), .int (su B.hang (fun a => ix (loV O (B.snd a) a n)) j), .int (ix j), v4, v5, v6] [] h Q) (N := O.nA) ?_ ?_ un un un
  · intro v4 v5 v6
    have e : ¬ O.nA < O.nA := by omega
    rw [w_X9_lossOf_4]
    simp (disch := first | assumption | omega | decide | rfl) only [w_X9_lossOf_5, w_X9_lossOf_6, w_X9_lossOf_9, w_X9_lossOf_10, w_X9_lossOf_11, w_X9_lossOf_137, w_X9_lossOf_138, nl_int, nl_ref, nl_null, nl_un, nl_rf, nl_long, isR_ref, isR_null, isR_rf, rf_some, rf_none, rOf_ref, rOf_null, rOf_rf, kn_v, kn_0, true_and, and_true, and_self, tin, inA_x, inA_l, ix_add, ix_addl, ix_ladd, ix_mul, ix_mull, ix_lmul, ix_tn, lt_tn, Nat.reduceLeDiff, Nat.reduceLT, Nat.reduceAdd, Nat.reduceMul, true_or, or_true, ↓reduceIte, aOk, ref_null, null_null, false_or, Option.isSome_some, Option.getD_some, ite_true, ite_false, eq_self, not_false_eq_true, not_true_eq_false, bz_ne, bz_1, reduceCtorEq, Bool.not_true, Bool.not_false, mo_0 hm, mo_orchard hm, mt_orchard hm, ml_orchard hm, mo_sort hm, mt_sort hm, ml_sort hm, mo_strangerOf hm, mt_strangerOf hm, ml_strangerOf hm, mo_strangerBy hm, mt_strangerBy hm, ml_strangerBy hm, mo_worthTold hm, mt_worthTold hm, ml_worthTold hm, x.aA, ix_lt, e]
    exact fin
  · intro j hj nx v4 v5 v6
    have nx : ∀ v4 v5 v6 : Value, Ru (D + 1) 228 131 [.ref m, .int (ix n), .int (su B.hang (fun a => ix (loV O (B.snd a) a n)) (j + 1)), .int (ix j), v4, v5, v6] [] h Q := by
      intro v4 v5 v6
      simp (disch := first | assumption | omega | decide | rfl) only [w_X9_lossOf_131, w_X9_lossOf_134, nl_int, nl_ref, nl_null, nl_un, nl_rf, nl_long, isR_ref, isR_null, isR_rf, rf_some, rf_none, rOf_ref, rOf_null, rOf_rf, kn_v, kn_0, true_and, and_true, and_self, tin, inA_x, inA_l, ix_add, ix_addl, ix_ladd, ix_mul, ix_mull, ix_lmul, ix_tn, lt_tn, Nat.reduceLeDiff, Nat.reduceLT, Nat.reduceAdd, Nat.reduceMul, true_or, or_true, ↓reduceIte, aOk, ref_null, null_null, false_or, Option.isSome_some, Option.getD_some, ite_true, ite_false, eq_self, not_false_eq_true, not_true_eq_false, bz_ne, bz_1, reduceCtorEq, Bool.not_true, Bool.not_false]
      exact nx v4 v5 v6
    rw [su] at nx
    have kdj := x.kd hj
    have wtj := x.wt hj
    have b1 := x.wo.kd j hj
    have b2 := x.wo.wo j hj
    rw [w_X9_lossOf_4]
    simp (disch := first | assumption | omega | decide | rfl) only [w_X9_lossOf_5, w_X9_lossOf_6, w_X9_lossOf_9, w_X9_lossOf_10, w_X9_lossOf_11, w_X9_lossOf_14, w_X9_lossOf_15, w_X9_lossOf_16, nl_int, nl_ref, nl_null, nl_un, nl_rf, nl_long, isR_ref, isR_null, isR_rf, rf_some, rf_none, rOf_ref, rOf_null, rOf_rf, kn_v, kn_0, true_and, and_true, and_self, tin, inA_x, inA_l, ix_add, ix_addl, ix_ladd, ix_mul, ix_mull, ix_lmul, ix_tn, lt_tn, Nat.reduceLeDiff, Nat.reduceLT, Nat.reduceAdd, Nat.reduceMul, true_or, or_true, ↓reduceIte, aOk, ref_null, null_null, false_or, Option.isSome_some, Option.getD_some, ite_true, ite_false, eq_self, not_false_eq_true, not_true_eq_false, bz_ne, bz_1, reduceCtorEq, Bool.not_true, Bool.not_false, mo_0 hm, mo_orchard hm, mt_orchard hm, ml_orchard hm, mo_sort hm, mt_sort hm, ml_sort hm, mo_strangerOf hm, mt_strangerOf hm, ml_strangerOf hm, mo_strangerBy hm, mt_strangerBy hm, ml_strangerBy hm, mo_worthTold hm, mt_worthTold hm, ml_worthTold hm, x.aA, ix_lt, hj]
    rw [cm_hangs hm y.h0 hh (by omega), kn_v]
    cases q1 : B.hang.testBit j
    · rw [q1, if_neg (by decide), i32_0] at nx
      simp (disch := first | assumption | omega | decide | rfl) only [w_X9_lossOf_19, nl_int, nl_ref, nl_null, nl_un, nl_rf, nl_long, isR_ref, isR_null, isR_rf, rf_some, rf_none, rOf_ref, rOf_null, rOf_rf, kn_v, kn_0, true_and, and_true, and_self, tin, inA_x, inA_l, ix_add, ix_addl, ix_ladd, ix_mul, ix_mull, ix_lmul, ix_tn, lt_tn, Nat.reduceLeDiff, Nat.reduceLT, Nat.reduceAdd, Nat.reduceMul, true_or, or_true, ↓reduceIte, aOk, ref_null, null_null, false_or, Option.isSome_some, Option.getD_some, ite_true, ite_false, eq_self, not_false_eq_true, not_true_eq_false, bz_ne, bz_1, reduceCtorEq, Bool.not_true, Bool.not_false]
      exact nx _ _ _
    · rw [q1, if_pos rfl] at nx
      by_cases q2 : O.kd j = 3
      · have d2 : (O.kd j = 3) = True := eq_true q2
        have e3 : ix (loV O (B.snd j) j n) = 0 := by
          unfold loV
          rw [noF_3 q2, Nat.sub_self, Nat.mul_zero]
          rfl
        rw [e3, i32_0] at nx
        simp (disch := first | assumption | omega | decide | rfl) only [w_X9_lossOf_19, w_X9_lossOf_22, w_X9_lossOf_23, w_X9_lossOf_26, w_X9_lossOf_27, w_X9_lossOf_28, w_X9_lossOf_29, w_X9_lossOf_32, nl_int, nl_ref, nl_null, nl_un, nl_rf, nl_long, isR_ref, isR_null, isR_rf, rf_some, rf_none, rOf_ref, rOf_null, rOf_rf, kn_v, kn_0, true_and, and_true, and_self, tin, inA_x, inA_l, ix_add, ix_addl, ix_ladd, ix_mul, ix_mull, ix_lmul, ix_tn, lt_tn, Nat.reduceLeDiff, Nat.reduceLT, Nat.reduceAdd, Nat.reduceMul, true_or, or_true, ↓reduceIte, aOk, ref_null, null_null, false_or, Option.isSome_some, Option.getD_some, ite_true, ite_false, eq_self, not_false_eq_true, not_true_eq_false, bz_ne, bz_1, reduceCtorEq, Bool.not_true, Bool.not_false, mo_0 hm, mo_orchard hm, mt_orchard hm, ml_orchard hm, mo_sort hm, mt_sort hm, ml_sort hm, mo_strangerOf hm, mt_strangerOf hm, ml_strangerOf hm, mo_strangerBy hm, mt_strangerBy hm, ml_strangerBy hm, mo_worthTold hm, mt_worthTold hm, ml_worthTold hm, kdj, ix_eql, d2]
        exact nx _ _ _
      · have d2 : (O.kd j = 3) = False := eq_false q2
        simp (disch := first | assumption | omega | decide | rfl) only [w_X9_lossOf_19, w_X9_lossOf_22, w_X9_lossOf_23, w_X9_lossOf_26, w_X9_lossOf_27, w_X9_lossOf_28, w_X9_lossOf_29, w_X9_lossOf_32, w_X9_lossOf_35, w_X9_lossOf_38, w_X9_lossOf_40, w_X9_lossOf_41, nl_int, nl_ref, nl_null, nl_un, nl_rf, nl_long, isR_ref, isR_null, isR_rf, rf_some, rf_none, rOf_ref, rOf_null, rOf_rf, kn_v, kn_0, true_and, and_true, and_self, tin, inA_x, inA_l, ix_add, ix_addl, ix_ladd, ix_mul, ix_mull, ix_lmul, ix_tn, lt_tn, Nat.reduceLeDiff, Nat.reduceLT, Nat.reduceAdd, Nat.reduceMul, true_or, or_true, ↓reduceIte, aOk, ref_null, null_null, false_or, Option.isSome_some, Option.getD_some, ite_true, ite_false, eq_self, not_false_eq_true, not_true_eq_false, bz_ne, bz_1, reduceCtorEq, Bool.not_true, Bool.not_false, mo_0 hm, mo_orchard hm, mt_orchard hm, ml_orchard hm, mo_sort hm, mt_sort hm, ml_sort hm, mo_strangerOf hm, mt_strangerOf hm, ml_strangerOf hm, mo_strangerBy hm, mt_strangerBy hm, ml_strangerBy hm, mo_worthTold hm, mt_worthTold hm, ml_worthTold hm, kdj, ix_eql, d2]
        refine lp (P := fun d => ∀ v6 : Value, Ru (D + 1) 228 43 [.ref m, .int (ix n), .int (su B.hang (fun a => ix (loV O (B.snd a) a n)) j), .int (ix j), .int (ix (noF O (B.snd j) j d)), .int (ix d), v6] [] h Q) (N := n) ?_ ?_ _
        · intro v6
          have e : ¬ n < n := by omega
          have le := noF_le (O := O) (s := B.snd j) (a := j) (n := n)
          have bb : O.wo j * (1000000 - noF O (B.snd j) j n) ≤ 100 * 1000000 := Nat.mul_le_mul (by omega) (Nat.sub_le _ _)
          rw [w_X9_lossOf_43]
          have es : (1000000 : Int32) - ix (noF O (B.snd j) j n) = ix (1000000 - noF O (B.snd j) j n) := ix_lsub (n := 1000000) le
          simp (disch := first | assumption | omega | decide | rfl) only [w_X9_lossOf_45, w_X9_lossOf_46, w_X9_lossOf_108, w_X9_lossOf_109, w_X9_lossOf_110, w_X9_lossOf_113, w_X9_lossOf_114, w_X9_lossOf_115, w_X9_lossOf_116, w_X9_lossOf_119, w_X9_lossOf_121, w_X9_lossOf_122, w_X9_lossOf_123, w_X9_lossOf_124, w_X9_lossOf_127, w_X9_lossOf_128, w_X9_lossOf_129, w_X9_lossOf_130, nl_int, nl_ref, nl_null, nl_un, nl_rf, nl_long, isR_ref, isR_null, isR_rf, rf_some, rf_none, rOf_ref, rOf_null, rOf_rf, kn_v, kn_0, true_and, and_true, and_self, tin, inA_x, inA_l, ix_add, ix_addl, ix_ladd, ix_mul, ix_mull, ix_lmul, ix_tn, lt_tn, Nat.reduceLeDiff, Nat.reduceLT, Nat.reduceAdd, Nat.reduceMul, true_or, or_true, ↓reduceIte, aOk, ref_null, null_null, false_or, Option.isSome_some, Option.getD_some, ite_true, ite_false, eq_self, not_false_eq_true, not_true_eq_false, bz_ne, bz_1, reduceCtorEq, Bool.not_true, Bool.not_false, mo_0 hm, mo_orchard hm, mt_orchard hm, ml_orchard hm, mo_sort hm, mt_sort hm, ml_sort hm, mo_strangerOf hm, mt_strangerOf hm, ml_strangerOf hm, mo_strangerBy hm, mt_strangerBy hm, ml_strangerBy hm, mo_worthTold hm, mt_worthTold hm, ml_worthTold hm, ix_lt, e, wtj, es, ix_l, lix_mul, lix_dv, lix_i]
          exact nx _ _ _
        · intro d hd nd v6
          have nd : ∀ v6 : Value, Ru (D + 1) 228 102 [.ref m, .int (ix n), .int (su B.hang (fun a => ix (loV O (B.snd a) a n)) j), .int (ix j), .int (ix (noF O (B.snd j) j (d + 1))), .int (ix d), v6] [] h Q := by
            intro v6
            simp (disch := first | assumption | omega | decide | rfl) only [w_X9_lossOf_102, w_X9_lossOf_105, nl_int, nl_ref, nl_null, nl_un, nl_rf, nl_long, isR_ref, isR_null, isR_rf, rf_some, rf_none, rOf_ref, rOf_null, rOf_rf, kn_v, kn_0, true_and, and_true, and_self, tin, inA_x, inA_l, ix_add, ix_addl, ix_ladd, ix_mul, ix_mull, ix_lmul, ix_tn, lt_tn, Nat.reduceLeDiff, Nat.reduceLT, Nat.reduceAdd, Nat.reduceMul, true_or, or_true, ↓reduceIte, aOk, ref_null, null_null, false_or, Option.isSome_some, Option.getD_some, ite_true, ite_false, eq_self, not_false_eq_true, not_true_eq_false, bz_ne, bz_1, reduceCtorEq, Bool.not_true, Bool.not_false]
            exact nd v6
          rw [show noF O (B.snd j) j (d + 1) = foI (noS O (B.snd j) j) (noF O (B.snd j) j d) O.nT from rfl] at nd
          have le := noF_le (O := O) (s := B.snd j) (a := j) (n := d)
          revert nd le
          generalize noF O (B.snd j) j d = zz
          intro nd le
          rw [w_X9_lossOf_43]
          simp (disch := first | assumption | omega | decide | rfl) only [w_X9_lossOf_45, w_X9_lossOf_46, w_X9_lossOf_49, w_X9_lossOf_50, nl_int, nl_ref, nl_null, nl_un, nl_rf, nl_long, isR_ref, isR_null, isR_rf, rf_some, rf_none, rOf_ref, rOf_null, rOf_rf, kn_v, kn_0, true_and, and_true, and_self, tin, inA_x, inA_l, ix_add, ix_addl, ix_ladd, ix_mul, ix_mull, ix_lmul, ix_tn, lt_tn, Nat.reduceLeDiff, Nat.reduceLT, Nat.reduceAdd, Nat.reduceMul, true_or, or_true, ↓reduceIte, aOk, ref_null, null_null, false_or, Option.isSome_some, Option.getD_some, ite_true, ite_false, eq_self, not_false_eq_true, not_true_eq_false, bz_ne, bz_1, reduceCtorEq, Bool.not_true, Bool.not_false, ix_lt, hd]
          refine lp (P := fun k => Ru (D + 1) 228 52 [.ref m, .int (ix n), .int (su B.hang (fun a => ix (loV O (B.snd a) a n)) j), .int (ix j), .int (ix (foI (noS O (B.snd j) j) zz k)), .int (ix d), .int (ix k)] [] h Q) (N := O.nT) ?_ ?_
          · have e : ¬ O.nT < O.nT := by omega
            rw [w_X9_lossOf_52]
            simp (disch := first | assumption | omega | decide | rfl) only [w_X9_lossOf_54, w_X9_lossOf_55, w_X9_lossOf_58, w_X9_lossOf_59, w_X9_lossOf_60, nl_int, nl_ref, nl_null, nl_un, nl_rf, nl_long, isR_ref, isR_null, isR_rf, rf_some, rf_none, rOf_ref, rOf_null, rOf_rf, kn_v, kn_0, true_and, and_true, and_self, tin, inA_x, inA_l, ix_add, ix_addl, ix_ladd, ix_mul, ix_mull, ix_lmul, ix_tn, lt_tn, Nat.reduceLeDiff, Nat.reduceLT, Nat.reduceAdd, Nat.reduceMul, true_or, or_true, ↓reduceIte, aOk, ref_null, null_null, false_or, Option.isSome_some, Option.getD_some, ite_true, ite_false, eq_self, not_false_eq_true, not_true_eq_false, bz_ne, bz_1, reduceCtorEq, Bool.not_true, Bool.not_false, mo_0 hm, mo_orchard hm, mt_orchard hm, ml_orchard hm, mo_sort hm, mt_sort hm, ml_sort hm, mo_strangerOf hm, mt_strangerOf hm, ml_strangerOf hm, mo_strangerBy hm, mt_strangerBy hm, ml_strangerBy hm, mo_worthTold hm, mt_worthTold hm, ml_worthTold hm, x.aT, ix_lt, e]
            exact nd _
          · intro k hk nk
            have nk : Ru (D + 1) 228 96 [.ref m, .int (ix n), .int (su B.hang (fun a => ix (loV O (B.snd a) a n)) j), .int (ix j), .int (ix (foI (noS O (B.snd j) j) zz (k + 1))), .int (ix d), .int (ix k)] [] h Q := by
              simp (disch := first | assumption | omega | decide | rfl) only [w_X9_lossOf_96, w_X9_lossOf_99, nl_int, nl_ref, nl_null, nl_un, nl_rf, nl_long, isR_ref, isR_null, isR_rf, rf_some, rf_none, rOf_ref, rOf_null, rOf_rf, kn_v, kn_0, true_and, and_true, and_self, tin, inA_x, inA_l, ix_add, ix_addl, ix_ladd, ix_mul, ix_mull, ix_lmul, ix_tn, lt_tn, Nat.reduceLeDiff, Nat.reduceLT, Nat.reduceAdd, Nat.reduceMul, true_or, or_true, ↓reduceIte, aOk, ref_null, null_null, false_or, Option.isSome_some, Option.getD_some, ite_true, ite_false, eq_self, not_false_eq_true, not_true_eq_false, bz_ne, bz_1, reduceCtorEq, Bool.not_true, Bool.not_false]
              exact nk
            rw [show foI (noS O (B.snd j) j) zz (k + 1) = noS O (B.snd j) j (foI (noS O (B.snd j) j) zz k) k from rfl] at nk
            have le2 : foI (noS O (B.snd j) j) zz k ≤ zz := foI_le (fun _ _ => noS_le) k
            revert nk le2
            generalize foI (noS O (B.snd j) j) zz k = yy
            intro nk le2
            have s1 := x.st hk
            have s2 := x.sb hk
            have s3 := x.wo.st k hk
            have s4 := x.wo.sb k hk
            unfold noS at nk
            have exh : xhF O (O.st k) (B.snd j) j = liF O B.snd (O.st k) j := by
              unfold xhF
              simp [q2]
              rfl
            rw [exh] at nk
            rw [w_X9_lossOf_52]
            simp (disch := first | assumption | omega | decide | rfl) only [w_X9_lossOf_54, w_X9_lossOf_55, w_X9_lossOf_58, w_X9_lossOf_59, w_X9_lossOf_60, w_X9_lossOf_63, w_X9_lossOf_64, w_X9_lossOf_65, w_X9_lossOf_68, w_X9_lossOf_70, w_X9_lossOf_71, w_X9_lossOf_72, nl_int, nl_ref, nl_null, nl_un, nl_rf, nl_long, isR_ref, isR_null, isR_rf, rf_some, rf_none, rOf_ref, rOf_null, rOf_rf, kn_v, kn_0, true_and, and_true, and_self, tin, inA_x, inA_l, ix_add, ix_addl, ix_ladd, ix_mul, ix_mull, ix_lmul, ix_tn, lt_tn, Nat.reduceLeDiff, Nat.reduceLT, Nat.reduceAdd, Nat.reduceMul, true_or, or_true, ↓reduceIte, aOk, ref_null, null_null, false_or, Option.isSome_some, Option.getD_some, ite_true, ite_false, eq_self, not_false_eq_true, not_true_eq_false, bz_ne, bz_1, reduceCtorEq, Bool.not_true, Bool.not_false, mo_0 hm, mo_orchard hm, mt_orchard hm, ml_orchard hm, mo_sort hm, mt_sort hm, ml_sort hm, mo_strangerOf hm, mt_strangerOf hm, ml_strangerOf hm, mo_strangerBy hm, mt_strangerBy hm, ml_strangerBy hm, mo_worthTold hm, mt_worthTold hm, ml_worthTold hm, x.aT, ix_lt, hk, s1]
            rw [cm_like x s3 hj z.snd y.s0, kn_v]
            cases q3 : liF O B.snd (O.st k) j
            · rw [q3, if_neg (by decide)] at nk
              simp (disch := first | assumption | omega | decide | rfl) only [w_X9_lossOf_75, nl_int, nl_ref, nl_null, nl_un, nl_rf, nl_long, isR_ref, isR_null, isR_rf, rf_some, rf_none, rOf_ref, rOf_null, rOf_rf, kn_v, kn_0, true_and, and_true, and_self, tin, inA_x, inA_l, ix_add, ix_addl, ix_ladd, ix_mul, ix_mull, ix_lmul, ix_tn, lt_tn, Nat.reduceLeDiff, Nat.reduceLT, Nat.reduceAdd, Nat.reduceMul, true_or, or_true, ↓reduceIte, aOk, ref_null, null_null, false_or, Option.isSome_some, Option.getD_some, ite_true, ite_false, eq_self, not_false_eq_true, not_true_eq_false, bz_ne, bz_1, reduceCtorEq, Bool.not_true, Bool.not_false]
              exact nk
            · rw [q3, if_pos rfl] at nk
              have b5 : yy * (10 - O.sb k) ≤ 1000000 * 10 := Nat.mul_le_mul (by omega) (Nat.sub_le _ _)
              have es : (10 : Int32) - ix (O.sb k) = ix (10 - O.sb k) := ix_lsub (n := 10) (by omega)
              have ev : ix (yy * (10 - O.sb k)) / 10 = ix (yy * (10 - O.sb k) / 10) := ix_dvl (n := 10) (by omega) (by decide) (by decide)
              simp (disch := first | assumption | omega | decide | rfl) only [w_X9_lossOf_75, w_X9_lossOf_78, w_X9_lossOf_80, w_X9_lossOf_82, w_X9_lossOf_83, w_X9_lossOf_86, w_X9_lossOf_88, w_X9_lossOf_89, w_X9_lossOf_90, w_X9_lossOf_91, w_X9_lossOf_93, w_X9_lossOf_94, nl_int, nl_ref, nl_null, nl_un, nl_rf, nl_long, isR_ref, isR_null, isR_rf, rf_some, rf_none, rOf_ref, rOf_null, rOf_rf, kn_v, kn_0, true_and, and_true, and_self, tin, inA_x, inA_l, ix_add, ix_addl, ix_ladd, ix_mul, ix_mull, ix_lmul, ix_tn, lt_tn, Nat.reduceLeDiff, Nat.reduceLT, Nat.reduceAdd, Nat.reduceMul, true_or, or_true, ↓reduceIte, aOk, ref_null, null_null, false_or, Option.isSome_some, Option.getD_some, ite_true, ite_false, eq_self, not_false_eq_true, not_true_eq_false, bz_ne, bz_1, reduceCtorEq, Bool.not_true, Bool.not_false, mo_0 hm, mo_orchard hm, mt_orchard hm, ml_orchard hm, mo_sort hm, mt_sort hm, ml_sort hm, mo_strangerOf hm, mt_strangerOf hm, ml_strangerOf hm, mo_strangerBy hm, mt_strangerBy hm, ml_strangerBy hm, mo_worthTold hm, mt_worthTold hm, ml_worthTold hm, s2, es, ev]
              exact nk
theorem cm_loss (x : M0 h m O) (y : MB h (m + 53) 0 O.nA B) (z : WB O B) : Ca (D + 3) 227 [.ref m, .int v] h (fun r h' => r = .inl (some (.int (losF O B v))) ∧ Md m [] [60] h h' ∧ Fi h' 60 m = 0) := by
  rw [e_X9_loss]
  simp (disch := first | assumption | omega | decide | rfl) only [w_X9_loss_0, w_X9_loss_1, w_X9_loss_2, w_X9_loss_5, w_X9_loss_6, w_X9_loss_7, w_X9_loss_9, nl_int, nl_ref, nl_null, nl_un, nl_rf, nl_long, isR_ref, isR_null, isR_rf, rf_some, rf_none, rOf_ref, rOf_null, rOf_rf, kn_v, kn_0, true_and, and_true, and_self, tin, inA_x, inA_l, ix_add, ix_addl, ix_ladd, ix_mul, ix_mull, ix_lmul, ix_tn, lt_tn, Nat.reduceLeDiff, Nat.reduceLT, Nat.reduceAdd, Nat.reduceMul, true_or, or_true, ↓reduceIte, aOk, ref_null, null_null, false_or, Option.isSome_some, Option.getD_some, ite_true, ite_false, eq_self, not_false_eq_true, not_true_eq_false, bz_ne, bz_1, reduceCtorEq, Bool.not_true, Bool.not_false, mo_0 x.mo, cm_within]
  have u1 : Md m [] [60] h (sFi h 60 m 0) := md_sFi (by decide)
  have f1 : Fi (sFi h 60 m 0) 60 m = 0 := Fi_same
  revert u1 f1
  generalize sFi h 60 m 0 = h1
  intro u1 f1
  have x1 : M0 h1 m O := x.md u1
  by_cases q : 1 ≤ v ∧ v ≤ 30
  · have c1 : decide (1 ≤ v ∧ v ≤ 30) = true := decide_eq_true q
    obtain ⟨k, h1k, h2k, rfl⟩ := vr_ex (lo := 1) (hi := 30) (by decide) q (by decide)
    simp (disch := first | assumption | omega | decide | rfl) only [w_X9_loss_12, w_X9_loss_15, w_X9_loss_16, w_X9_loss_17, nl_int, nl_ref, nl_null, nl_un, nl_rf, nl_long, isR_ref, isR_null, isR_rf, rf_some, rf_none, rOf_ref, rOf_null, rOf_rf, kn_v, kn_0, true_and, and_true, and_self, tin, inA_x, inA_l, ix_add, ix_addl, ix_ladd, ix_mul, ix_mull, ix_lmul, ix_tn, lt_tn, Nat.reduceLeDiff, Nat.reduceLT, Nat.reduceAdd, Nat.reduceMul, true_or, or_true, ↓reduceIte, aOk, ref_null, null_null, false_or, Option.isSome_some, Option.getD_some, ite_true, ite_false, eq_self, not_false_eq_true, not_true_eq_false, bz_ne, bz_1, reduceCtorEq, Bool.not_true, Bool.not_false, c1, mo_0 x1.mo]
    refine cm_lossOf x1 (y.md u1 (by decide)) z (by omega) ?_
    simp (disch := first | assumption | omega | decide | rfl) only [w_X9_loss_20, w_X9_loss_23, w_X9_loss_24, nl_int, nl_ref, nl_null, nl_un, nl_rf, nl_long, isR_ref, isR_null, isR_rf, rf_some, rf_none, rOf_ref, rOf_null, rOf_rf, kn_v, kn_0, true_and, and_true, and_self, tin, inA_x, inA_l, ix_add, ix_addl, ix_ladd, ix_mul, ix_mull, ix_lmul, ix_tn, lt_tn, Nat.reduceLeDiff, Nat.reduceLT, Nat.reduceAdd, Nat.reduceMul, true_or, or_true, ↓reduceIte, aOk, ref_null, null_null, false_or, Option.isSome_some, Option.getD_some, ite_true, ite_false, eq_self, not_false_eq_true, not_true_eq_false, bz_ne, bz_1, reduceCtorEq, Bool.not_true, Bool.not_false]
    refine ⟨?_, u1, f1⟩
    unfold losF
    rw [if_pos q, tn_ix (by omega)]
  · have c1 : decide (1 ≤ v ∧ v ≤ 30) = false := decide_eq_false q
    simp (disch := first | assumption | omega | decide | rfl) only [w_X9_loss_12, w_X9_loss_15, w_X9_loss_16, w_X9_loss_17, w_X9_loss_20, w_X9_loss_23, w_X9_loss_24, nl_int, nl_ref, nl_null, nl_un, nl_rf, nl_long, isR_ref, isR_null, isR_rf, rf_some, rf_none, rOf_ref, rOf_null, rOf_rf, kn_v, kn_0, true_and, and_true, and_self, tin, inA_x, inA_l, ix_add, ix_addl, ix_ladd, ix_mul, ix_mull, ix_lmul, ix_tn, lt_tn, Nat.reduceLeDiff, Nat.reduceLT, Nat.reduceAdd, Nat.reduceMul, true_or, or_true, ↓reduceIte, aOk, ref_null, null_null, false_or, Option.isSome_some, Option.getD_some, ite_true, ite_false, eq_self, not_false_eq_true, not_true_eq_false, bz_ne, bz_1, reduceCtorEq, Bool.not_true, Bool.not_false, c1]
    refine ⟨?_, u1, f1⟩
    unfold losF
    rw [if_neg q]
theorem fr_ch {s' : Nat} : frF n (chB B a s') a s = frF n B a s := by
  unfold frF
  congr 2
  funext e
  by_cases q : e = a
  · simp [q]
  · have : (chB B a s').snd e = B.snd e := if_neg q
    rw [this]
    rfl
theorem mb_ch {s' : Nat} {G : Nat → Int32} (y : MB h k 0 n B) (e : Ai h' k = upd (Ai h k) (5 + a) (ix s')) : MB h' k 0 n (chB B a s') := by
  obtain ⟨g1, g2, g3, g4, g5, g6⟩ := y
  unfold MB
  rw [e]
  refine ⟨?_, ?_, ?_, ?_, ?_, fun t ht => ?_⟩
  · rw [upd_n (by omega)]; exact g1
  · rw [upd_n (by omega)]; exact g2
  · rw [upd_n (by omega)]; exact g3
  · rw [upd_n (by omega)]; exact g4
  · rw [upd_n (by omega)]; exact g5
  · show _ = ix (if t = a then s' else B.snd t)
    by_cases q : t = a
    · subst q
      rw [Nat.zero_add, upd_s, if_pos rfl]
    · rw [upd_n (by omega), if_neg q]; exact g6 t ht
theorem cm_best (x : M0 h m O) (y : MB h (m + 53) 0 O.nA B) (z : WB O B) : Ca (D + 4) 229 [.ref m, .int u, .int v] h (fun r h' => r = .inl (some (.int (besF O B u v))) ∧ Md m [53] [60] h h' ∧ Fi h' 60 m = 0 ∧ MB h' (m + 53) 0 O.nA B) := by
  have n1 := x.wo.nA
  have n2 := x.wo.nS
  have hh := z.lt x.wo
  generalize hQ : (fun r h' => r = .inl (some (.int (besF O B u v))) ∧ Md m [53] [60] h h' ∧ Fi h' 60 m = 0 ∧ MB h' (m + 53) 0 O.nA B : Rs → AH → Prop) = Q
  have fin : ∀ r : Int32, ∀ h2, Md m [53] [60] h h2 → Fi h2 60 m = 0 → MB h2 (m + 53) 0 O.nA B → r = besF O B u v → Q (.inl (some (.int r))) h2 := fun r h2 a b c e => by
    rw [← hQ, e]; exact ⟨rfl, a, b, c⟩
  rw [e_X9_best]
  simp (disch := first | assumption | omega | decide | rfl) only [w_X9_best_0, w_X9_best_1, w_X9_best_2, nl_int, nl_ref, nl_null, nl_un, nl_rf, nl_long, isR_ref, isR_null, isR_rf, rf_some, rf_none, rOf_ref, rOf_null, rOf_rf, kn_v, kn_0, true_and, and_true, and_self, tin, inA_x, inA_l, ix_add, ix_addl, ix_ladd, ix_mul, ix_mull, ix_lmul, ix_tn, lt_tn, Nat.reduceLeDiff, Nat.reduceLT, Nat.reduceAdd, Nat.reduceMul, true_or, or_true, ↓reduceIte, aOk, ref_null, null_null, false_or, Option.isSome_some, Option.getD_some, ite_true, ite_false, eq_self, not_false_eq_true, not_true_eq_false, bz_ne, bz_1, reduceCtorEq, Bool.not_true, Bool.not_false, mo_0 x.mo]
  have u1 : Md m [53] [60] h (sFi h 60 m 0) := md_sFi (by decide)
  have u01 : Md m [] [60] h (sFi h 60 m 0) := md_sFi (by decide)
  have f1 : Fi (sFi h 60 m 0) 60 m = 0 := Fi_same
  revert u1 u01 f1
  generalize sFi h 60 m 0 = h1
  intro u1 u01 f1
  have x1 : M0 h1 m O := x.md u1
  have y1 : MB h1 (m + 53) 0 O.nA B := y.md u01 (by decide)
  have hm1 := x1.mo
  simp (disch := first | assumption | omega | decide | rfl) only [w_X9_best_5, w_X9_best_6, w_X9_best_7, nl_int, nl_ref, nl_null, nl_un, nl_rf, nl_long, isR_ref, isR_null, isR_rf, rf_some, rf_none, rOf_ref, rOf_null, rOf_rf, kn_v, kn_0, true_and, and_true, and_self, tin, inA_x, inA_l, ix_add, ix_addl, ix_ladd, ix_mul, ix_mull, ix_lmul, ix_tn, lt_tn, Nat.reduceLeDiff, Nat.reduceLT, Nat.reduceAdd, Nat.reduceMul, true_or, or_true, ↓reduceIte, aOk, ref_null, null_null, false_or, Option.isSome_some, Option.getD_some, ite_true, ite_false, eq_self, not_false_eq_true, not_true_eq_false, bz_ne, bz_1, reduceCtorEq, Bool.not_true, Bool.not_false, mo_0 hm1, cm_isApple x1]
  cases q1 : inN u O.nA
  · simp (disch := first | assumption | omega | decide | rfl) only [w_X9_best_10, w_X9_best_31, w_X9_best_32, nl_int, nl_ref, nl_null, nl_un, nl_rf, nl_long, isR_ref, isR_null, isR_rf, rf_some, rf_none, rOf_ref, rOf_null, rOf_rf, kn_v, kn_0, true_and, and_true, and_self, tin, inA_x, inA_l, ix_add, ix_addl, ix_ladd, ix_mul, ix_mull, ix_lmul, ix_tn, lt_tn, Nat.reduceLeDiff, Nat.reduceLT, Nat.reduceAdd, Nat.reduceMul, true_or, or_true, ↓reduceIte, aOk, ref_null, null_null, false_or, Option.isSome_some, Option.getD_some, ite_true, ite_false, eq_self, not_false_eq_true, not_true_eq_false, bz_ne, bz_1, reduceCtorEq, Bool.not_true, Bool.not_false]
    exact fin _ _ u1 f1 y1 (by unfold besF mayB; rw [q1, Bool.false_and, Bool.false_and, if_neg (by decide)])
  · obtain ⟨a, ha, rfl⟩ := inN_ex (by omega) q1
    have ta : tn (ix a) = a := tn_ix (by omega)
    simp (disch := first | assumption | omega | decide | rfl) only [w_X9_best_10, w_X9_best_13, w_X9_best_14, w_X9_best_15, nl_int, nl_ref, nl_null, nl_un, nl_rf, nl_long, isR_ref, isR_null, isR_rf, rf_some, rf_none, rOf_ref, rOf_null, rOf_rf, kn_v, kn_0, true_and, and_true, and_self, tin, inA_x, inA_l, ix_add, ix_addl, ix_ladd, ix_mul, ix_mull, ix_lmul, ix_tn, lt_tn, Nat.reduceLeDiff, Nat.reduceLT, Nat.reduceAdd, Nat.reduceMul, true_or, or_true, ↓reduceIte, aOk, ref_null, null_null, false_or, Option.isSome_some, Option.getD_some, ite_true, ite_false, eq_self, not_false_eq_true, not_true_eq_false, bz_ne, bz_1, reduceCtorEq, Bool.not_true, Bool.not_false, mo_0 hm1]
    rw [cm_hangs hm1 y1.h0 hh (by omega), kn_v]
    cases q2 : B.hang.testBit a
    · simp (disch := first | assumption | omega | decide | rfl) only [w_X9_best_18, w_X9_best_31, w_X9_best_32, nl_int, nl_ref, nl_null, nl_un, nl_rf, nl_long, isR_ref, isR_null, isR_rf, rf_some, rf_none, rOf_ref, rOf_null, rOf_rf, kn_v, kn_0, true_and, and_true, and_self, tin, inA_x, inA_l, ix_add, ix_addl, ix_ladd, ix_mul, ix_mull, ix_lmul, ix_tn, lt_tn, Nat.reduceLeDiff, Nat.reduceLT, Nat.reduceAdd, Nat.reduceMul, true_or, or_true, ↓reduceIte, aOk, ref_null, null_null, false_or, Option.isSome_some, Option.getD_some, ite_true, ite_false, eq_self, not_false_eq_true, not_true_eq_false, bz_ne, bz_1, reduceCtorEq, Bool.not_true, Bool.not_false]
      exact fin _ _ u1 f1 y1 (by unfold besF mayB; rw [ta, q2, Bool.and_false, Bool.false_and, if_neg (by decide)])
    · simp (disch := first | assumption | omega | decide | rfl) only [w_X9_best_18, w_X9_best_21, w_X9_best_22, w_X9_best_23, w_X9_best_25, nl_int, nl_ref, nl_null, nl_un, nl_rf, nl_long, isR_ref, isR_null, isR_rf, rf_some, rf_none, rOf_ref, rOf_null, rOf_rf, kn_v, kn_0, true_and, and_true, and_self, tin, inA_x, inA_l, ix_add, ix_addl, ix_ladd, ix_mul, ix_mull, ix_lmul, ix_tn, lt_tn, Nat.reduceLeDiff, Nat.reduceLT, Nat.reduceAdd, Nat.reduceMul, true_or, or_true, ↓reduceIte, aOk, ref_null, null_null, false_or, Option.isSome_some, Option.getD_some, ite_true, ite_false, eq_self, not_false_eq_true, not_true_eq_false, bz_ne, bz_1, reduceCtorEq, Bool.not_true, Bool.not_false, cm_within]
      by_cases q : 1 ≤ v ∧ v ≤ 30
      · have c1 : decide (1 ≤ v ∧ v ≤ 30) = true := decide_eq_true q
        obtain ⟨k, h1k, h2k, rfl⟩ := vr_ex (lo := 1) (hi := 30) (by decide) q (by decide)
        have ok : mayB O B (ix a) (ix k) = true := by unfold mayB; rw [q1, ta, q2, c1]; rfl
        unfold besF at fin
        rw [if_pos ok, ta, tn_ix (by omega)] at fin
        have ws := y1.s0 a ha
        simp (disch := first | assumption | omega | decide | rfl) only [w_X9_best_28, w_X9_best_31, w_X9_best_32, w_X9_best_33, w_X9_best_34, w_X9_best_37, w_X9_best_38, w_X9_best_39, w_X9_best_40, w_X9_best_41, w_X9_best_42, w_X9_best_43, w_X9_best_45, w_X9_best_46, w_X9_best_48, w_X9_best_49, nl_int, nl_ref, nl_null, nl_un, nl_rf, nl_long, isR_ref, isR_null, isR_rf, rf_some, rf_none, rOf_ref, rOf_null, rOf_rf, kn_v, kn_0, true_and, and_true, and_self, tin, inA_x, inA_l, ix_add, ix_addl, ix_ladd, ix_mul, ix_mull, ix_lmul, ix_tn, lt_tn, Nat.reduceLeDiff, Nat.reduceLT, Nat.reduceAdd, Nat.reduceMul, true_or, or_true, ↓reduceIte, aOk, ref_null, null_null, false_or, Option.isSome_some, Option.getD_some, ite_true, ite_false, eq_self, not_false_eq_true, not_true_eq_false, bz_ne, bz_1, reduceCtorEq, Bool.not_true, Bool.not_false, mo_0 hm1, mo_s hm1, mt_s hm1, ml_s hm1, mo_orchard hm1, mt_orchard hm1, ml_orchard hm1, c1, ws]
        refine lp (P := fun j => ∀ h2 s' (v7 : Value), Md m [53] [60] h h2 → Fi h2 60 m = 0 → s' < O.nS → MB h2 (m + 53) 0 O.nA (chB B a s') → Ru (D + 3) 229 51 [.ref m, .int (ix a), .int (ix k), .int (ix (B.snd a)), .int (bsF O B a k j).1, .int (bsF O B a k j).2, .int (ix j), v7] [] h2 Q) (N := O.nS) ?_ ?_ h1 (B.snd a) un u1 f1 (z.snd a ha) (by
          obtain ⟨g1, g2, g3, g4, g5, g6⟩ := y1
          refine ⟨g1, g2, g3, g4, g5, fun t ht => ?_⟩
          rw [g6 t ht]
          show _ = ix (if t = a then B.snd a else B.snd t)
          by_cases qt : t = a
          · rw [if_pos qt, qt]
          · rw [if_neg qt])
        · intro h2 s' v7 u2 f2 hs' y2
          have x2 : M0 h2 m O := x.md u2
          have hm2 := x2.mo
          have e : ¬ O.nS < O.nS := by omega
          rw [w_X9_best_51]
          simp (disch := first | assumption | omega | decide | rfl) only [w_X9_best_53, w_X9_best_54, w_X9_best_57, w_X9_best_58, w_X9_best_59, w_X9_best_121, w_X9_best_122, w_X9_best_125, w_X9_best_126, w_X9_best_127, w_X9_best_128, w_X9_best_129, w_X9_best_130, w_X9_best_132, nl_int, nl_ref, nl_null, nl_un, nl_rf, nl_long, isR_ref, isR_null, isR_rf, rf_some, rf_none, rOf_ref, rOf_null, rOf_rf, kn_v, kn_0, true_and, and_true, and_self, tin, inA_x, inA_l, ix_add, ix_addl, ix_ladd, ix_mul, ix_mull, ix_lmul, ix_tn, lt_tn, Nat.reduceLeDiff, Nat.reduceLT, Nat.reduceAdd, Nat.reduceMul, true_or, or_true, ↓reduceIte, aOk, ref_null, null_null, false_or, Option.isSome_some, Option.getD_some, ite_true, ite_false, eq_self, not_false_eq_true, not_true_eq_false, bz_ne, bz_1, reduceCtorEq, Bool.not_true, Bool.not_false, mo_0 hm2, mo_s hm2, mt_s hm2, ml_s hm2, mo_orchard hm2, mt_orchard hm2, ml_orchard hm2, x2.aS, ix_lt, e]
          refine fin _ _ (u2.sAi (by decide)) f2 ?_ rfl
          have := mb_ch (h' := sAi h2 (m + 53) (upd (Ai h2 (m + 53)) (5 + a) (ix (B.snd a)))) (G := fun _ => 0) y2 Ai_same
          obtain ⟨g1, g2, g3, g4, g5, g6⟩ := this
          refine ⟨g1, g2, g3, g4, g5, fun t ht => ?_⟩
          rw [g6 t ht]
          show ix (if t = a then B.snd a else (if t = a then s' else B.snd t)) = _
          by_cases qt : t = a
          · rw [if_pos qt, qt]
          · rw [if_neg qt, if_neg qt]
        · intro j hj nx h2 s' v7 u2 f2 hs' y2
          have x2 : M0 h2 m O := x.md u2
          have hm2 := x2.mo
          have z2 : WB O (chB B a s') := wb_ch z hs'
          have jn : ∀ (st' : Int32 × Int32) h2 s' (v7 : Value), bsF O B a k (j + 1) = st' → Md m [53] [60] h h2 → Fi h2 60 m = 0 → s' < O.nS → MB h2 (m + 53) 0 O.nA (chB B a s') → Ru (D + 3) 229 115 [.ref m, .int (ix a), .int (ix k), .int (ix (B.snd a)), .int st'.1, .int st'.2, .int (ix j), v7] [] h2 Q := by
            intro st' h2 s' v7 es u2 f2 hs' y2
            rw [← es]
            simp (disch := first | assumption | omega | decide | rfl) only [w_X9_best_115, w_X9_best_118, nl_int, nl_ref, nl_null, nl_un, nl_rf, nl_long, isR_ref, isR_null, isR_rf, rf_some, rf_none, rOf_ref, rOf_null, rOf_rf, kn_v, kn_0, true_and, and_true, and_self, tin, inA_x, inA_l, ix_add, ix_addl, ix_ladd, ix_mul, ix_mull, ix_lmul, ix_tn, lt_tn, Nat.reduceLeDiff, Nat.reduceLT, Nat.reduceAdd, Nat.reduceMul, true_or, or_true, ↓reduceIte, aOk, ref_null, null_null, false_or, Option.isSome_some, Option.getD_some, ite_true, ite_false, eq_self, not_false_eq_true, not_true_eq_false, bz_ne, bz_1, reduceCtorEq, Bool.not_true, Bool.not_false]
            exact nx h2 s' v7 u2 f2 hs' y2
          have es : bsF O B a k (j + 1) = bsS O B a k (bsF O B a k j) j := rfl
          rw [es] at jn
          unfold bsS at jn
          revert jn
          generalize bsF O B a k j = st
          intro jn
          rw [w_X9_best_51]
          simp (disch := first | assumption | omega | decide | rfl) only [w_X9_best_53, w_X9_best_54, w_X9_best_57, w_X9_best_58, w_X9_best_59, w_X9_best_62, w_X9_best_63, w_X9_best_65, w_X9_best_66, nl_int, nl_ref, nl_null, nl_un, nl_rf, nl_long, isR_ref, isR_null, isR_rf, rf_some, rf_none, rOf_ref, rOf_null, rOf_rf, kn_v, kn_0, true_and, and_true, and_self, tin, inA_x, inA_l, ix_add, ix_addl, ix_ladd, ix_mul, ix_mull, ix_lmul, ix_tn, lt_tn, Nat.reduceLeDiff, Nat.reduceLT, Nat.reduceAdd, Nat.reduceMul, true_or, or_true, ↓reduceIte, aOk, ref_null, null_null, false_or, Option.isSome_some, Option.getD_some, ite_true, ite_false, eq_self, not_false_eq_true, not_true_eq_false, bz_ne, bz_1, reduceCtorEq, Bool.not_true, Bool.not_false, mo_0 hm2, mo_s hm2, mt_s hm2, ml_s hm2, mo_orchard hm2, mt_orchard hm2, ml_orchard hm2, x2.aS, ix_lt, hj]
          rw [cm_isFree x2 y2 z2 hj ha, kn_v, fr_ch]
          cases q3 : frF O.nA B a j
          · rw [q3, if_neg (by decide)] at jn
            simp (disch := first | assumption | omega | decide | rfl) only [w_X9_best_69, w_X9_best_72, nl_int, nl_ref, nl_null, nl_un, nl_rf, nl_long, isR_ref, isR_null, isR_rf, rf_some, rf_none, rOf_ref, rOf_null, rOf_rf, kn_v, kn_0, true_and, and_true, and_self, tin, inA_x, inA_l, ix_add, ix_addl, ix_ladd, ix_mul, ix_mull, ix_lmul, ix_tn, lt_tn, Nat.reduceLeDiff, Nat.reduceLT, Nat.reduceAdd, Nat.reduceMul, true_or, or_true, ↓reduceIte, aOk, ref_null, null_null, false_or, Option.isSome_some, Option.getD_some, ite_true, ite_false, eq_self, not_false_eq_true, not_true_eq_false, bz_ne, bz_1, reduceCtorEq, Bool.not_true, Bool.not_false]
            exact jn st h2 s' _ rfl u2 f2 hs' y2
          · rw [q3, if_pos rfl] at jn
            simp (disch := first | assumption | omega | decide | rfl) only [w_X9_best_69, w_X9_best_75, w_X9_best_76, w_X9_best_79, w_X9_best_80, w_X9_best_81, w_X9_best_82, w_X9_best_84, nl_int, nl_ref, nl_null, nl_un, nl_rf, nl_long, isR_ref, isR_null, isR_rf, rf_some, rf_none, rOf_ref, rOf_null, rOf_rf, kn_v, kn_0, true_and, and_true, and_self, tin, inA_x, inA_l, ix_add, ix_addl, ix_ladd, ix_mul, ix_mull, ix_lmul, ix_tn, lt_tn, Nat.reduceLeDiff, Nat.reduceLT, Nat.reduceAdd, Nat.reduceMul, true_or, or_true, ↓reduceIte, aOk, ref_null, null_null, false_or, Option.isSome_some, Option.getD_some, ite_true, ite_false, eq_self, not_false_eq_true, not_true_eq_false, bz_ne, bz_1, reduceCtorEq, Bool.not_true, Bool.not_false, mo_0 hm2, mo_s hm2, mt_s hm2, ml_s hm2, mo_orchard hm2, mt_orchard hm2, ml_orchard hm2]
            have u3 : Md m [53] [60] h (sAi h2 (m + 53) (upd (Ai h2 (m + 53)) (5 + a) (ix j))) := u2.sAi (by decide)
            have y3 : MB (sAi h2 (m + 53) (upd (Ai h2 (m + 53)) (5 + a) (ix j))) (m + 53) 0 O.nA (chB (chB B a s') a j) := mb_ch (G := fun _ => 0) y2 Ai_same
            have f3 : Fi (sAi h2 (m + 53) (upd (Ai h2 (m + 53)) (5 + a) (ix j))) 60 m = 0 := f2
            revert u3 y3 f3
            generalize sAi h2 (m + 53) (upd (Ai h2 (m + 53)) (5 + a) (ix j)) = h3
            intro u3 y3 f3
            have x3 : M0 h3 m O := x.md u3
            have ec : chB (chB B a s') a j = chB B a j := by
              have e0 : (fun t => if t = a then j else (chB B a s').snd t) = (fun t => if t = a then j else B.snd t) := by
                funext t
                by_cases qt : t = a
                · rw [if_pos qt, if_pos qt]
                · rw [if_neg qt, if_neg qt]; exact if_neg qt
              show (B.hang, B.loose, (fun t => if t = a then j else (chB B a s').snd t), B.day, B.had, B.pk) = _
              rw [e0]
              rfl
            rw [ec] at y3
            simp (disch := first | assumption | omega | decide | rfl) only [w_X9_best_85, w_X9_best_86, w_X9_best_87, nl_int, nl_ref, nl_null, nl_un, nl_rf, nl_long, isR_ref, isR_null, isR_rf, rf_some, rf_none, rOf_ref, rOf_null, rOf_rf, kn_v, kn_0, true_and, and_true, and_self, tin, inA_x, inA_l, ix_add, ix_addl, ix_ladd, ix_mul, ix_mull, ix_lmul, ix_tn, lt_tn, Nat.reduceLeDiff, Nat.reduceLT, Nat.reduceAdd, Nat.reduceMul, true_or, or_true, ↓reduceIte, aOk, ref_null, null_null, false_or, Option.isSome_some, Option.getD_some, ite_true, ite_false, eq_self, not_false_eq_true, not_true_eq_false, bz_ne, bz_1, reduceCtorEq, Bool.not_true, Bool.not_false, mo_0 x3.mo]
            refine cm_lossOf x3 y3 (wb_ch z hj) h2k ?_
            rw [kn_v]
            generalize loS O (chB B a j) k = lv at jn ⊢
            by_cases q4 : st.1 < 0
            · rw [if_neg (by simp [q4])] at jn
              simp (disch := first | assumption | omega | decide | rfl) only [w_X9_best_90, w_X9_best_92, w_X9_best_94, w_X9_best_107, w_X9_best_109, w_X9_best_111, w_X9_best_113, nl_int, nl_ref, nl_null, nl_un, nl_rf, nl_long, isR_ref, isR_null, isR_rf, rf_some, rf_none, rOf_ref, rOf_null, rOf_rf, kn_v, kn_0, true_and, and_true, and_self, tin, inA_x, inA_l, ix_add, ix_addl, ix_ladd, ix_mul, ix_mull, ix_lmul, ix_tn, lt_tn, Nat.reduceLeDiff, Nat.reduceLT, Nat.reduceAdd, Nat.reduceMul, true_or, or_true, ↓reduceIte, aOk, ref_null, null_null, false_or, Option.isSome_some, Option.getD_some, ite_true, ite_false, eq_self, not_false_eq_true, not_true_eq_false, bz_ne, bz_1, reduceCtorEq, Bool.not_true, Bool.not_false, q4]
              exact jn (_, _) h3 j _ rfl u3 f3 hj y3
            · by_cases q5 : lv < st.2
              · rw [if_neg (by simp [q5])] at jn
                simp (disch := first | assumption | omega | decide | rfl) only [w_X9_best_90, w_X9_best_92, w_X9_best_94, w_X9_best_97, w_X9_best_99, w_X9_best_101, w_X9_best_104, w_X9_best_107, w_X9_best_109, w_X9_best_111, w_X9_best_113, nl_int, nl_ref, nl_null, nl_un, nl_rf, nl_long, isR_ref, isR_null, isR_rf, rf_some, rf_none, rOf_ref, rOf_null, rOf_rf, kn_v, kn_0, true_and, and_true, and_self, tin, inA_x, inA_l, ix_add, ix_addl, ix_ladd, ix_mul, ix_mull, ix_lmul, ix_tn, lt_tn, Nat.reduceLeDiff, Nat.reduceLT, Nat.reduceAdd, Nat.reduceMul, true_or, or_true, ↓reduceIte, aOk, ref_null, null_null, false_or, Option.isSome_some, Option.getD_some, ite_true, ite_false, eq_self, not_false_eq_true, not_true_eq_false, bz_ne, bz_1, reduceCtorEq, Bool.not_true, Bool.not_false, q4, q5]
                exact jn (_, _) h3 j _ rfl u3 f3 hj y3
              · rw [if_pos ⟨q4, q5⟩] at jn
                simp (disch := first | assumption | omega | decide | rfl) only [w_X9_best_90, w_X9_best_92, w_X9_best_94, w_X9_best_97, w_X9_best_99, w_X9_best_101, w_X9_best_104, nl_int, nl_ref, nl_null, nl_un, nl_rf, nl_long, isR_ref, isR_null, isR_rf, rf_some, rf_none, rOf_ref, rOf_null, rOf_rf, kn_v, kn_0, true_and, and_true, and_self, tin, inA_x, inA_l, ix_add, ix_addl, ix_ladd, ix_mul, ix_mull, ix_lmul, ix_tn, lt_tn, Nat.reduceLeDiff, Nat.reduceLT, Nat.reduceAdd, Nat.reduceMul, true_or, or_true, ↓reduceIte, aOk, ref_null, null_null, false_or, Option.isSome_some, Option.getD_some, ite_true, ite_false, eq_self, not_false_eq_true, not_true_eq_false, bz_ne, bz_1, reduceCtorEq, Bool.not_true, Bool.not_false, q4, q5]
                exact jn st h3 j _ rfl u3 f3 hj y3
      · have c1 : decide (1 ≤ v ∧ v ≤ 30) = false := decide_eq_false q
        simp (disch := first | assumption | omega | decide | rfl) only [w_X9_best_28, w_X9_best_31, w_X9_best_32, nl_int, nl_ref, nl_null, nl_un, nl_rf, nl_long, isR_ref, isR_null, isR_rf, rf_some, rf_none, rOf_ref, rOf_null, rOf_rf, kn_v, kn_0, true_and, and_true, and_self, tin, inA_x, inA_l, ix_add, ix_addl, ix_ladd, ix_mul, ix_mull, ix_lmul, ix_tn, lt_tn, Nat.reduceLeDiff, Nat.reduceLT, Nat.reduceAdd, Nat.reduceMul, true_or, or_true, ↓reduceIte, aOk, ref_null, null_null, false_or, Option.isSome_some, Option.getD_some, ite_true, ite_false, eq_self, not_false_eq_true, not_true_eq_false, bz_ne, bz_1, reduceCtorEq, Bool.not_true, Bool.not_false, c1]
        exact fin _ _ u1 f1 y1 (by unfold besF mayB; rw [c1, Bool.and_false, if_neg (by decide)])
end
