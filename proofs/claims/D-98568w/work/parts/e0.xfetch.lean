/-! NAMEORCHARD: all fetched -/
set_option maxRecDepth 100000
noncomputable def gdF (O : Oc) (C : Bo) : Bool := decide (sd C.hang (deF O) = 0)
noncomputable def fsF (O : Oc) (B : Bo) : Nat → Bo → Bool
  | 0, C => gdF O C
  | n + 1, C => gdF O C || anyb (fun k => okC O k && fsF O B n (afF O B C k)) (16 * O.nP) 0
noncomputable def chg (C D : Bo) : Bool := !decide (D.hang = C.hang) || !decide (D.loose = C.loose)
noncomputable def xfF (O : Oc) (B : Bo) : Nat → Bo → Bool
  | 0, C => gdF O C
  | n + 1, C => gdF O C || anyb (fun k => nwC O B k && (chg C (afF O B C k) && xfF O B n (afF O B C k))) (16 * O.nP) 0
noncomputable def lfN (O : Oc) (C : Bo) : Nat → Nat
  | 0 => 0
  | n + 1 => lfN O C n + (if (C.hang.testBit n && !decide (O.kd n = 3)) = true then 1 else 0)
noncomputable def fetF (O : Oc) (B : Bo) : Int32 := if cpre (fun n => !fsF O B n B) 5 0 = 5 then -1 else ix (cpre (fun n => !fsF O B n B) 5 0)
/-- steps below n, scratch -/
def Cq (x n : Nat) (h h' : AH) : Prop := Un (fun a => Tg h a = 1014 ∨ Tg h a = 1015 ∨ (x + 44 ≤ a ∧ a < x + 44 + 2 * n)) h h'
section
variable {h h' h1 h2 : AH} {A : Nat → Prop} {x a b c p q l o lo hi n k t d D s j i c' hang loose w e : Nat} {O : Oc} {S : Sg} {B C E : Bo} {Q : Rs → AH → Prop} {u v y : Int32}
theorem Cq.refl : Cq x n h h := Un.refl
theorem Cq.trans (u : Cq x n h h1) (t : Cq x n h1 h2) : Cq x n h h2 := Un.trans u t (fun z hz q => by
  have e := (u.2.2.2.2.1 z hz).1
  rw [e] at q
  exact q)
theorem Cq.up (u : Cq x n h h1) (hn : n ≤ k) : Cq x k h h1 := Un.mono u (fun z _ q => by omega)
theorem Cq.cr (u : Cq x n h h1) (hn : n ≤ 4) : Cr x 3 h h1 := Un.mono u (fun z _ q => by omega)
theorem Bx.cq (u : Bx (x + (44 + 2 * i)) h h') (hn : i < n) : Cq x n h h' := u.un.mono (fun z _ q => by omega)
theorem Cq.xb (u : Cq x n h h') (y : XB lo hi h t o c C) (h3 : t + 1 < x + 44 ∨ x + 44 + 2 * n ≤ t) : XB lo hi h' t o c C := y.un u (by have := y.tg; omega) (by have := y.ta; omega)
theorem lf_le : ∀ n, lfN O C n ≤ n
  | 0 => Nat.le_refl _
  | n + 1 => by rw [lfN]; have := lf_le n; split <;> omega
theorem lf_0 : ∀ n, lfN O C n = 0 ↔ ∀ a, a < n → (C.hang.testBit a && !decide (O.kd a = 3)) = false
  | 0 => ⟨fun _ a ha => absurd ha (by omega), fun _ => rfl⟩
  | n + 1 => by
    rw [lfN]
    cases q : (C.hang.testBit n && !decide (O.kd n = 3))
    · rw [if_neg (by decide), Nat.add_zero, lf_0 n]
      refine ⟨fun hh a ha => ?_, fun hh a ha => hh a (by omega)⟩
      by_cases e : a = n
      · rw [e]; exact q
      · exact hh a (by omega)
    · rw [if_pos rfl]
      refine ⟨fun hh => absurd hh (by omega), fun hh => ?_⟩
      have := hh n (by omega)
      rw [q] at this
      exact absurd this (by decide)
theorem lf_gd (z : WB O C) : (lfN O C O.nA = 0) = (gdF O C = true) := by
  unfold gdF
  rw [decide_eq_true_eq]
  refine propext ?_
  rw [lf_0]
  constructor
  · intro hh
    refine set_ext (fun i => ?_)
    rw [sd_bit, Nat.zero_testBit]
    unfold deF
    rw [so_bit]
    by_cases hi : i < O.nA
    · have := hh i hi
      rw [decide_eq_true hi, Bool.true_and]
      exact this
    · rw [hang_bit z.hang (by omega), Bool.false_and]
  · intro hh a ha
    have b := congrArg (fun s => Nat.testBit s a) hh
    simp only [sd_bit, Nat.zero_testBit] at b
    unfold deF at b
    rw [so_bit, decide_eq_true ha, Bool.true_and] at b
    exact b
/-- how many are left -/
theorem left_x (X : XN h x lo hi o b O S) (y : XB lo hi h t o O.nA C) (z : WB O C) (hd : 4 ≤ D) {l2 : Int32} {l5 : Value} (nx : ∀ l4 : Int32, Ru (D + 1) 130 60 [.ref (x + 42), .ref t, .int l2, .int (ix (lfN O C O.nA)), .int l4, l5] [] h Q) : Ru (D + 1) 130 5 [.ref (x + 42), .ref t, .int l2, .int 0, .int 0, l5] [] h Q := by
  have n1 := X.xo.wo.nA
  have hh := z.lt X.xo.wo
  obtain ⟨D, rfl⟩ : ∃ E, D = E + 4 := ⟨D - 4, by omega⟩
  refine lp (P := fun j => Ru (D + 4 + 1) 130 5 [.ref (x + 42), .ref t, .int l2, .int (ix (lfN O C j)), .int (ix j), l5] [] h Q) (N := O.nA) ?_ ?_
  · have e : ¬ O.nA < O.nA := by omega
    rw [w_X7_isFetched_5]
    simp (disch := first | assumption | omega | decide | rfl) only [w_X7_isFetched_7, w_X7_isFetched_8, w_X7_isFetched_11, w_X7_isFetched_14, nl_int, nl_ref, nl_null, nl_un, nl_rf, nl_long, isR_ref, isR_null, isR_rf, rf_some, rf_none, rOf_ref, rOf_null, rOf_rf, kn_v, kn_0, true_and, and_true, and_self, tin, inA_x, inA_l, ix_add, ix_addl, ix_ladd, ix_mul, ix_mull, ix_lmul, ix_tn, lt_tn, Nat.reduceLeDiff, Nat.reduceLT, Nat.reduceAdd, Nat.reduceMul, true_or, or_true, ↓reduceIte, aOk, ref_null, null_null, false_or, Option.isSome_some, Option.getD_some, ite_true, ite_false, eq_self, not_false_eq_true, not_true_eq_false, bz_ne, bz_1, reduceCtorEq, Bool.not_true, Bool.not_false, X.f.t42, X.f.f52, X.f.tx, cx_apples X, ix_lt, e]
    exact nx _
  · intro j hj nj
    rw [lfN] at nj
    have nj : ∀ v, v = lfN O C j + (if (C.hang.testBit j && !decide (O.kd j = 3)) = true then 1 else 0) → Ru (D + 4 + 1) 130 54 [.ref (x + 42), .ref t, .int l2, .int (ix v), .int (ix j), l5] [] h Q := by
      rintro v rfl
      simp (disch := first | assumption | omega | decide | rfl) only [w_X7_isFetched_54, w_X7_isFetched_57, nl_int, nl_ref, nl_null, nl_un, nl_rf, nl_long, isR_ref, isR_null, isR_rf, rf_some, rf_none, rOf_ref, rOf_null, rOf_rf, kn_v, kn_0, true_and, and_true, and_self, tin, inA_x, inA_l, ix_add, ix_addl, ix_ladd, ix_mul, ix_mull, ix_lmul, ix_tn, lt_tn, Nat.reduceLeDiff, Nat.reduceLT, Nat.reduceAdd, Nat.reduceMul, true_or, or_true, ↓reduceIte, aOk, ref_null, null_null, false_or, Option.isSome_some, Option.getD_some, ite_true, ite_false, eq_self, not_false_eq_true, not_true_eq_false, bz_ne, bz_1, reduceCtorEq, Bool.not_true, Bool.not_false]
      exact nj
    obtain ⟨-, p1, -⟩ := X.xo.ap1 j hj
    have kd := X.xo.wo.kd j hj
    have tm := tg_ap kd p1
    obtain ⟨zz, z1, z2⟩ := kind_x (d := D + 4) kd p1
    have hb1 := fun Q => cx_hangs (d := D + 3) (Q := Q) y hh (show j < 10 by omega)
    rw [w_X7_isFetched_5]
    cases q1 : C.hang.testBit j
    · rw [q1, Bool.false_and, if_neg (by decide), Nat.add_zero] at nj
      simp (disch := first | assumption | omega | decide | rfl) only [w_X7_isFetched_7, w_X7_isFetched_8, w_X7_isFetched_11, w_X7_isFetched_14, w_X7_isFetched_17, w_X7_isFetched_18, w_X7_isFetched_20, w_X7_isFetched_23, nl_int, nl_ref, nl_null, nl_un, nl_rf, nl_long, isR_ref, isR_null, isR_rf, rf_some, rf_none, rOf_ref, rOf_null, rOf_rf, kn_v, kn_0, true_and, and_true, and_self, tin, inA_x, inA_l, ix_add, ix_addl, ix_ladd, ix_mul, ix_mull, ix_lmul, ix_tn, lt_tn, Nat.reduceLeDiff, Nat.reduceLT, Nat.reduceAdd, Nat.reduceMul, true_or, or_true, ↓reduceIte, aOk, ref_null, null_null, false_or, Option.isSome_some, Option.getD_some, ite_true, ite_false, eq_self, not_false_eq_true, not_true_eq_false, bz_ne, bz_1, reduceCtorEq, Bool.not_true, Bool.not_false, X.f.t42, X.f.f52, X.f.tx, cx_apples X, ix_lt, hj, y.tg, hb1, q1]
      exact nj _ rfl
    · by_cases q2 : O.kd j = 3
      · have d2 : (O.kd j = 3) = True := eq_true q2
        rw [q1, decide_eq_true q2, if_neg (by decide), Nat.add_zero] at nj
        simp (disch := first | assumption | omega | decide | rfl) only [w_X7_isFetched_7, w_X7_isFetched_8, w_X7_isFetched_11, w_X7_isFetched_14, w_X7_isFetched_17, w_X7_isFetched_18, w_X7_isFetched_20, w_X7_isFetched_23, w_X7_isFetched_26, w_X7_isFetched_27, w_X7_isFetched_30, w_X7_isFetched_33, w_X7_isFetched_36, w_X7_isFetched_38, w_X7_isFetched_41, w_X7_isFetched_44, w_X7_isFetched_47, w_X7_isFetched_48, nl_int, nl_ref, nl_null, nl_un, nl_rf, nl_long, isR_ref, isR_null, isR_rf, rf_some, rf_none, rOf_ref, rOf_null, rOf_rf, kn_v, kn_0, true_and, and_true, and_self, tin, inA_x, inA_l, ix_add, ix_addl, ix_ladd, ix_mul, ix_mull, ix_lmul, ix_tn, lt_tn, Nat.reduceLeDiff, Nat.reduceLT, Nat.reduceAdd, Nat.reduceMul, true_or, or_true, ↓reduceIte, aOk, ref_null, null_null, false_or, Option.isSome_some, Option.getD_some, ite_true, ite_false, eq_self, not_false_eq_true, not_true_eq_false, bz_ne, bz_1, reduceCtorEq, Bool.not_true, Bool.not_false, X.f.t42, X.f.f52, X.f.tx, cx_apples X, cx_now X, X.xo.tg, X.xo.ap.fr, X.xo.ap.wl.tg, X.xo.ap.get hj, tm, z1, z2, ix_lt, hj, y.tg, hb1, q1, ix_eql, d2]
        exact nj _ rfl
      · have d2 : (O.kd j = 3) = False := eq_false q2
        rw [q1, decide_eq_false q2, if_pos (by decide)] at nj
        simp (disch := first | assumption | omega | decide | rfl) only [w_X7_isFetched_7, w_X7_isFetched_8, w_X7_isFetched_11, w_X7_isFetched_14, w_X7_isFetched_17, w_X7_isFetched_18, w_X7_isFetched_20, w_X7_isFetched_23, w_X7_isFetched_26, w_X7_isFetched_27, w_X7_isFetched_30, w_X7_isFetched_33, w_X7_isFetched_36, w_X7_isFetched_38, w_X7_isFetched_41, w_X7_isFetched_44, w_X7_isFetched_47, w_X7_isFetched_48, w_X7_isFetched_51, nl_int, nl_ref, nl_null, nl_un, nl_rf, nl_long, isR_ref, isR_null, isR_rf, rf_some, rf_none, rOf_ref, rOf_null, rOf_rf, kn_v, kn_0, true_and, and_true, and_self, tin, inA_x, inA_l, ix_add, ix_addl, ix_ladd, ix_mul, ix_mull, ix_lmul, ix_tn, lt_tn, Nat.reduceLeDiff, Nat.reduceLT, Nat.reduceAdd, Nat.reduceMul, true_or, or_true, ↓reduceIte, aOk, ref_null, null_null, false_or, Option.isSome_some, Option.getD_some, ite_true, ite_false, eq_self, not_false_eq_true, not_true_eq_false, bz_ne, bz_1, reduceCtorEq, Bool.not_true, Bool.not_false, X.f.t42, X.f.f52, X.f.tx, cx_apples X, cx_now X, X.xo.tg, X.xo.ap.fr, X.xo.ap.wl.tg, X.xo.ap.get hj, tm, z1, z2, ix_lt, hj, y.tg, hb1, q1, ix_eql, d2]
        exact nj _ rfl
theorem cx_isFetched : ∀ n, n ≤ 4 → ∀ D, n ≤ D → ∀ h t C, XN h x lo hi o b O S → RC h x O S.B → NC h x O S.B → XB lo hi h t o O.nA C → WB O C → (t = b ∨ t = x + (44 + 2 * n)) → Ca (D + 270) 130 [.ref (x + 42), .ref t, .int (ix n)] h (fun r h' => r = .inl (some (.int (bz (xfF O S.B n C)))) ∧ Tf x h h' ∧ Cq x n h h') := by
  intro n
  induction n with
  | zero =>
    intro _ D hD h t C X r nc y z ht
    generalize hQ : (fun r h' => r = .inl (some (.int (bz (xfF O S.B 0 C)))) ∧ Tf x h h' ∧ Cq x 0 h h' : Rs → AH → Prop) = QQ
    have n1 := X.xo.wo.nA
    have ll := lf_le (O := O) (C := C) O.nA
    have gd := lf_gd z
    rw [e_X7_isFetched nl_ref]
    simp (disch := first | assumption | omega | decide | rfl) only [w_X7_isFetched_0, w_X7_isFetched_1, w_X7_isFetched_2, w_X7_isFetched_3, nl_int, nl_ref, nl_null, nl_un, nl_rf, nl_long, isR_ref, isR_null, isR_rf, rf_some, rf_none, rOf_ref, rOf_null, rOf_rf, kn_v, kn_0, true_and, and_true, and_self, tin, inA_x, inA_l, ix_add, ix_addl, ix_ladd, ix_mul, ix_mull, ix_lmul, ix_tn, lt_tn, Nat.reduceLeDiff, Nat.reduceLT, Nat.reduceAdd, Nat.reduceMul, true_or, or_true, ↓reduceIte, aOk, ref_null, null_null, false_or, Option.isSome_some, Option.getD_some, ite_true, ite_false, eq_self, not_false_eq_true, not_true_eq_false, bz_ne, bz_1, reduceCtorEq, Bool.not_true, Bool.not_false]
    refine left_x (D := D + 268) X y z (by omega) (fun l4 => ?_)
    have fin : QQ (.inl (some (.int (bz (gdF O C))))) h := by rw [← hQ, xfF]; exact ⟨rfl, Tf.refl, Cq.refl⟩
    have e0 : (ix 0 = 0) = True := eq_true rfl
    cases q : gdF O C
    · rw [q] at gd fin
      have d1 : (lfN O C O.nA = 0) = False := by rw [gd]; simp
      simp (disch := first | assumption | omega | decide | rfl) only [w_X7_isFetched_60, w_X7_isFetched_61, w_X7_isFetched_64, w_X7_isFetched_65, w_X7_isFetched_68, w_X7_isFetched_69, w_X7_isFetched_72, w_X7_isFetched_73, w_X7_isFetched_76, w_X7_isFetched_77, nl_int, nl_ref, nl_null, nl_un, nl_rf, nl_long, isR_ref, isR_null, isR_rf, rf_some, rf_none, rOf_ref, rOf_null, rOf_rf, kn_v, kn_0, true_and, and_true, and_self, tin, inA_x, inA_l, ix_add, ix_addl, ix_ladd, ix_mul, ix_mull, ix_lmul, ix_tn, lt_tn, Nat.reduceLeDiff, Nat.reduceLT, Nat.reduceAdd, Nat.reduceMul, true_or, or_true, ↓reduceIte, aOk, ref_null, null_null, false_or, Option.isSome_some, Option.getD_some, ite_true, ite_false, eq_self, not_false_eq_true, not_true_eq_false, bz_ne, bz_1, reduceCtorEq, Bool.not_true, Bool.not_false, ix_eql, d1, e0]
      exact fin
    · rw [q] at gd fin
      have d1 : (lfN O C O.nA = 0) = True := by rw [gd]; simp
      simp (disch := first | assumption | omega | decide | rfl) only [w_X7_isFetched_60, w_X7_isFetched_61, w_X7_isFetched_68, w_X7_isFetched_69, w_X7_isFetched_72, w_X7_isFetched_73, w_X7_isFetched_76, w_X7_isFetched_77, nl_int, nl_ref, nl_null, nl_un, nl_rf, nl_long, isR_ref, isR_null, isR_rf, rf_some, rf_none, rOf_ref, rOf_null, rOf_rf, kn_v, kn_0, true_and, and_true, and_self, tin, inA_x, inA_l, ix_add, ix_addl, ix_ladd, ix_mul, ix_mull, ix_lmul, ix_tn, lt_tn, Nat.reduceLeDiff, Nat.reduceLT, Nat.reduceAdd, Nat.reduceMul, true_or, or_true, ↓reduceIte, aOk, ref_null, null_null, false_or, Option.isSome_some, Option.getD_some, ite_true, ite_false, eq_self, not_false_eq_true, not_true_eq_false, bz_ne, bz_1, reduceCtorEq, Bool.not_true, Bool.not_false, ix_eql, d1, e0]
      exact fin
  | succ n ih =>
    intro hn D hD h t C X r nc y z ht
    obtain ⟨D, rfl⟩ : ∃ E, D = E + 1 := ⟨D - 1, by omega⟩
    have hD : n ≤ D := by omega
    have n1 := X.xo.wo.nA
    have n3 := X.xo.wo.nP
    have nb := X.nb
    have ll := lf_le (O := O) (C := C) O.nA
    have gd := lf_gd z
    have tne : t ≠ x + (44 + 2 * n) := by omega
    have tou : t + 1 < x + 44 ∨ x + 44 + 2 * (n + 1) ≤ t := by omega
    have hb : Fb x (x + (44 + 2 * n)) := by omega
    rw [show D + 1 + 270 = D + 270 + 1 by omega, e_X7_isFetched nl_ref, xfF]
    generalize hQ : (fun r h' => r = .inl (some (.int (bz (gdF O C || anyb (fun k => nwC O S.B k && (chg C (afF O S.B C k) && xfF O S.B n (afF O S.B C k))) (16 * O.nP) 0)))) ∧ Tf x h h' ∧ Cq x (n + 1) h h' : Rs → AH → Prop) = QQ
    simp (disch := first | assumption | omega | decide | rfl) only [w_X7_isFetched_0, w_X7_isFetched_1, w_X7_isFetched_2, w_X7_isFetched_3, nl_int, nl_ref, nl_null, nl_un, nl_rf, nl_long, isR_ref, isR_null, isR_rf, rf_some, rf_none, rOf_ref, rOf_null, rOf_rf, kn_v, kn_0, true_and, and_true, and_self, tin, inA_x, inA_l, ix_add, ix_addl, ix_ladd, ix_mul, ix_mull, ix_lmul, ix_tn, lt_tn, Nat.reduceLeDiff, Nat.reduceLT, Nat.reduceAdd, Nat.reduceMul, true_or, or_true, ↓reduceIte, aOk, ref_null, null_null, false_or, Option.isSome_some, Option.getD_some, ite_true, ite_false, eq_self, not_false_eq_true, not_true_eq_false, bz_ne, bz_1, reduceCtorEq, Bool.not_true, Bool.not_false]
    refine left_x (D := D + 269) X y z (by omega) (fun l4 => ?_)
    cases q : gdF O C
    · rw [q] at gd hQ
      have d1 : (lfN O C O.nA = 0) = False := by rw [gd]; simp
      have e0 : (ix (n + 1) = 0) = False := by rw [show ((0 : Int32)) = ix 0 from rfl, ix_eq (by omega) (by decide)]; exact eq_false (by omega)
      have es : ix (n + 1) - 1 = ix n := ix_subl (n := 1) (by omega)
      rw [Bool.false_or] at hQ
      simp (disch := first | assumption | omega | decide | rfl) only [w_X7_isFetched_60, w_X7_isFetched_61, w_X7_isFetched_64, w_X7_isFetched_65, w_X7_isFetched_78, w_X7_isFetched_79, nl_int, nl_ref, nl_null, nl_un, nl_rf, nl_long, isR_ref, isR_null, isR_rf, rf_some, rf_none, rOf_ref, rOf_null, rOf_rf, kn_v, kn_0, true_and, and_true, and_self, tin, inA_x, inA_l, ix_add, ix_addl, ix_ladd, ix_mul, ix_mull, ix_lmul, ix_tn, lt_tn, Nat.reduceLeDiff, Nat.reduceLT, Nat.reduceAdd, Nat.reduceMul, true_or, or_true, ↓reduceIte, aOk, ref_null, null_null, false_or, Option.isSome_some, Option.getD_some, ite_true, ite_false, eq_self, not_false_eq_true, not_true_eq_false, bz_ne, bz_1, reduceCtorEq, Bool.not_true, Bool.not_false, ix_eql, d1, e0]
      have key : ∀ m j, j + m = 16 * O.nP → ∀ h2 (v5 : Value), Tf x h h2 → Cq x (n + 1) h h2 → (∀ r h', r = anyb (fun k => nwC O S.B k && (chg C (afF O S.B C k) && xfF O S.B n (afF O S.B C k))) m j → Tf x h h' → Cq x (n + 1) h h' → QQ (.inl (some (.int (bz r)))) h') → Ru (D + 270) 130 81 [.ref (x + 42), .ref t, .int (ix (n + 1)), .int (ix (lfN O C O.nA)), .int (ix j), v5] [] h2 QQ := by
        intro m
        induction m with
        | zero =>
          intro j hj h2 v5 t2 c2 fin
          have X2 := X.tf t2
          have e : ¬ j < 16 * O.nP := by omega
          rw [w_X7_isFetched_81]
          simp (disch := first | assumption | omega | decide | rfl) only [w_X7_isFetched_83, w_X7_isFetched_84, w_X7_isFetched_87, w_X7_isFetched_90, w_X7_isFetched_93, w_X7_isFetched_182, w_X7_isFetched_183, nl_int, nl_ref, nl_null, nl_un, nl_rf, nl_long, isR_ref, isR_null, isR_rf, rf_some, rf_none, rOf_ref, rOf_null, rOf_rf, kn_v, kn_0, true_and, and_true, and_self, tin, inA_x, inA_l, ix_add, ix_addl, ix_ladd, ix_mul, ix_mull, ix_lmul, ix_tn, lt_tn, Nat.reduceLeDiff, Nat.reduceLT, Nat.reduceAdd, Nat.reduceMul, true_or, or_true, ↓reduceIte, aOk, ref_null, null_null, false_or, Option.isSome_some, Option.getD_some, ite_true, ite_false, eq_self, not_false_eq_true, not_true_eq_false, bz_ne, bz_1, reduceCtorEq, Bool.not_true, Bool.not_false, X2.f.t42, X2.f.f52, X2.f.tx, X2.f.f7, X2.f.t38, cx_all X2, ix_lt, e]
          exact fin false h2 rfl t2 c2
        | succ m ihm =>
          intro j hj h2 v5 t2 c2 fin
          have hk : j < 16 * O.nP := by omega
          have X2 := X.tf t2
          have r2 := (c2.cr (by omega)).rc X.f r (by omega)
          have nc2 := (c2.cr (by omega)).nc X.f nc (by omega)
          have gk := nc2 j hk
          rw [anyb] at fin
          have nxt : ∀ h3 (v5 : Value), Tf x h h3 → Cq x (n + 1) h h3 → (nwC O S.B j && (chg C (afF O S.B C j) && xfF O S.B n (afF O S.B C j))) = false → Ru (D + 270) 130 176 [.ref (x + 42), .ref t, .int (ix (n + 1)), .int (ix (lfN O C O.nA)), .int (ix j), v5] [] h3 QQ := by
            intro h3 v5 t3 c3 qq
            simp (disch := first | assumption | omega | decide | rfl) only [w_X7_isFetched_176, w_X7_isFetched_179, nl_int, nl_ref, nl_null, nl_un, nl_rf, nl_long, isR_ref, isR_null, isR_rf, rf_some, rf_none, rOf_ref, rOf_null, rOf_rf, kn_v, kn_0, true_and, and_true, and_self, tin, inA_x, inA_l, ix_add, ix_addl, ix_ladd, ix_mul, ix_mull, ix_lmul, ix_tn, lt_tn, Nat.reduceLeDiff, Nat.reduceLT, Nat.reduceAdd, Nat.reduceMul, true_or, or_true, ↓reduceIte, aOk, ref_null, null_null, false_or, Option.isSome_some, Option.getD_some, ite_true, ite_false, eq_self, not_false_eq_true, not_true_eq_false, bz_ne, bz_1, reduceCtorEq, Bool.not_true, Bool.not_false]
            refine ihm (j + 1) (by omega) h3 v5 t3 c3 (fun r h' e => fin r h' ?_)
            rw [if_neg (by rw [qq]; decide)]
            exact e
          rw [w_X7_isFetched_81]
          cases q1 : nwC O S.B j
          · rw [q1] at gk
            simp (disch := first | assumption | omega | decide | rfl) only [w_X7_isFetched_83, w_X7_isFetched_84, w_X7_isFetched_87, w_X7_isFetched_90, w_X7_isFetched_93, w_X7_isFetched_96, w_X7_isFetched_97, w_X7_isFetched_100, w_X7_isFetched_102, w_X7_isFetched_103, w_X7_isFetched_106, nl_int, nl_ref, nl_null, nl_un, nl_rf, nl_long, isR_ref, isR_null, isR_rf, rf_some, rf_none, rOf_ref, rOf_null, rOf_rf, kn_v, kn_0, true_and, and_true, and_self, tin, inA_x, inA_l, ix_add, ix_addl, ix_ladd, ix_mul, ix_mull, ix_lmul, ix_tn, lt_tn, Nat.reduceLeDiff, Nat.reduceLT, Nat.reduceAdd, Nat.reduceMul, true_or, or_true, ↓reduceIte, aOk, ref_null, null_null, false_or, Option.isSome_some, Option.getD_some, ite_true, ite_false, eq_self, not_false_eq_true, not_true_eq_false, bz_ne, bz_1, reduceCtorEq, Bool.not_true, Bool.not_false, X2.f.t42, X2.f.f52, X2.f.tx, X2.f.f7, X2.f.t38, cx_all X2, ix_lt, hk, X2.f.f50, X2.f.t52, X2.f.n52, gk]
            exact nxt h2 _ t2 c2 (by rw [q1]; rfl)
          · rw [q1] at gk
            have ok := nw_ok q1
            have s2 := X2.st1 (i := n) (by omega)
            simp (disch := first | assumption | omega | decide | rfl) only [w_X7_isFetched_83, w_X7_isFetched_84, w_X7_isFetched_87, w_X7_isFetched_90, w_X7_isFetched_93, w_X7_isFetched_96, w_X7_isFetched_97, w_X7_isFetched_100, w_X7_isFetched_102, w_X7_isFetched_103, w_X7_isFetched_106, w_X7_isFetched_109, w_X7_isFetched_110, w_X7_isFetched_113, w_X7_isFetched_114, w_X7_isFetched_115, w_X7_isFetched_116, w_X7_isFetched_117, w_X7_isFetched_118, nl_int, nl_ref, nl_null, nl_un, nl_rf, nl_long, isR_ref, isR_null, isR_rf, rf_some, rf_none, rOf_ref, rOf_null, rOf_rf, kn_v, kn_0, true_and, and_true, and_self, tin, inA_x, inA_l, ix_add, ix_addl, ix_ladd, ix_mul, ix_mull, ix_lmul, ix_tn, lt_tn, Nat.reduceLeDiff, Nat.reduceLT, Nat.reduceAdd, Nat.reduceMul, true_or, or_true, ↓reduceIte, aOk, ref_null, null_null, false_or, Option.isSome_some, Option.getD_some, ite_true, ite_false, eq_self, not_false_eq_true, not_true_eq_false, bz_ne, bz_1, reduceCtorEq, Bool.not_true, Bool.not_false, X2.f.t42, X2.f.f52, X2.f.tx, X2.f.f7, X2.f.t38, cx_all X2, ix_lt, hk, X2.f.f50, X2.f.t52, X2.f.n52, gk, es, X2.f.f49, X2.f.t43, X2.f.n43, X2.f.st (show n < 4 by omega), s2.tg]
            refine ca_mono (cx_copies s2 (c2.xb y tou) tne n1) ?_
            rintro r' h3 ⟨rfl, bx3, y3⟩
            have t3 := t2.trans (bx3.tf (x := x) hb s2.tg)
            have c3 := c2.trans (bx3.cq (n := n + 1) (by omega))
            have X3 := X.tf t3
            simp (disch := first | assumption | omega | decide | rfl) only [w_X7_isFetched_121, w_X7_isFetched_123, w_X7_isFetched_124, w_X7_isFetched_127, w_X7_isFetched_130, w_X7_isFetched_132, w_X7_isFetched_134, nl_int, nl_ref, nl_null, nl_un, nl_rf, nl_long, isR_ref, isR_null, isR_rf, rf_some, rf_none, rOf_ref, rOf_null, rOf_rf, kn_v, kn_0, true_and, and_true, and_self, tin, inA_x, inA_l, ix_add, ix_addl, ix_ladd, ix_mul, ix_mull, ix_lmul, ix_tn, lt_tn, Nat.reduceLeDiff, Nat.reduceLT, Nat.reduceAdd, Nat.reduceMul, true_or, or_true, ↓reduceIte, aOk, ref_null, null_null, false_or, Option.isSome_some, Option.getD_some, ite_true, ite_false, eq_self, not_false_eq_true, not_true_eq_false, bz_ne, bz_1, reduceCtorEq, Bool.not_true, Bool.not_false, X3.f.t42, X3.f.f52, X3.f.tx, X3.f.f7, X3.f.t38]
            refine ca_mono (cx_rfalls X3 ((c3.cr (by omega)).rc X.f r (by omega)) hk ok y3 z) ?_
            rintro r' h4 ⟨rfl, bx4, y4⟩
            have t4 := t3.trans (bx4.tf (x := x) hb y3.tg)
            have c4 := c3.trans (bx4.cq (n := n + 1) (by omega))
            have X4 := X.tf t4
            have yt := c4.xb y tou
            have za : WB O (afF O S.B C j) := wb_af z
            have l1 := za.lt X.xo.wo
            have l2 := z.lt X.xo.wo
            have l3 := loose_lt za X.xo.wo
            have l4 := loose_lt z X.xo.wo
            rw [show (sd C.hang (faF O C.hang C.loose (whC O S.B j) (ecC O S.B j)), loF O C.hang C.loose (whC O S.B j) (ecC O S.B j), C.snd, C.day, C.had, C.pk) = afF O S.B C j from rfl] at y4
            have go : chg C (afF O S.B C j) = true → Ru (D + 270) 130 162 [.ref (x + 42), .ref t, .int (ix (n + 1)), .int (ix (lfN O C O.nA)), .int (ix j), .ref (x + (44 + 2 * n))] [] h4 QQ := by
              intro qc
              simp (disch := first | assumption | omega | decide | rfl) only [w_X7_isFetched_162, w_X7_isFetched_163, w_X7_isFetched_165, w_X7_isFetched_166, w_X7_isFetched_167, w_X7_isFetched_168, nl_int, nl_ref, nl_null, nl_un, nl_rf, nl_long, isR_ref, isR_null, isR_rf, rf_some, rf_none, rOf_ref, rOf_null, rOf_rf, kn_v, kn_0, true_and, and_true, and_self, tin, inA_x, inA_l, ix_add, ix_addl, ix_ladd, ix_mul, ix_mull, ix_lmul, ix_tn, lt_tn, Nat.reduceLeDiff, Nat.reduceLT, Nat.reduceAdd, Nat.reduceMul, true_or, or_true, ↓reduceIte, aOk, ref_null, null_null, false_or, Option.isSome_some, Option.getD_some, ite_true, ite_false, eq_self, not_false_eq_true, not_true_eq_false, bz_ne, bz_1, reduceCtorEq, Bool.not_true, Bool.not_false, X4.f.t42, es]
              refine ca_mono (ih (by omega) D hD h4 _ (afF O S.B C j) X4 ((c4.cr (by omega)).rc X.f r (by omega)) ((c4.cr (by omega)).nc X.f nc (by omega)) y4 za (Or.inr rfl)) ?_
              rintro r' h5 ⟨rfl, t5, c5⟩
              have t6 := t4.trans t5
              have c6 := c4.trans (c5.up (k := n + 1) (by omega))
              cases q2 : xfF O S.B n (afF O S.B C j)
              · simp (disch := first | assumption | omega | decide | rfl) only [w_X7_isFetched_171, nl_int, nl_ref, nl_null, nl_un, nl_rf, nl_long, isR_ref, isR_null, isR_rf, rf_some, rf_none, rOf_ref, rOf_null, rOf_rf, kn_v, kn_0, true_and, and_true, and_self, tin, inA_x, inA_l, ix_add, ix_addl, ix_ladd, ix_mul, ix_mull, ix_lmul, ix_tn, lt_tn, Nat.reduceLeDiff, Nat.reduceLT, Nat.reduceAdd, Nat.reduceMul, true_or, or_true, ↓reduceIte, aOk, ref_null, null_null, false_or, Option.isSome_some, Option.getD_some, ite_true, ite_false, eq_self, not_false_eq_true, not_true_eq_false, bz_ne, bz_1, reduceCtorEq, Bool.not_true, Bool.not_false]
                exact nxt h5 _ t6 c6 (by rw [q2, Bool.and_false, Bool.and_false])
              · simp (disch := first | assumption | omega | decide | rfl) only [w_X7_isFetched_171, w_X7_isFetched_174, w_X7_isFetched_175, nl_int, nl_ref, nl_null, nl_un, nl_rf, nl_long, isR_ref, isR_null, isR_rf, rf_some, rf_none, rOf_ref, rOf_null, rOf_rf, kn_v, kn_0, true_and, and_true, and_self, tin, inA_x, inA_l, ix_add, ix_addl, ix_ladd, ix_mul, ix_mull, ix_lmul, ix_tn, lt_tn, Nat.reduceLeDiff, Nat.reduceLT, Nat.reduceAdd, Nat.reduceMul, true_or, or_true, ↓reduceIte, aOk, ref_null, null_null, false_or, Option.isSome_some, Option.getD_some, ite_true, ite_false, eq_self, not_false_eq_true, not_true_eq_false, bz_ne, bz_1, reduceCtorEq, Bool.not_true, Bool.not_false]
                exact fin true h5 (by rw [if_pos (by rw [q1, qc, q2]; rfl)]) t6 c6
            by_cases q3 : (afF O S.B C j).hang = C.hang
            · have d3 : ((afF O S.B C j).hang = C.hang) = True := eq_true q3
              by_cases q4 : (afF O S.B C j).loose = C.loose
              · have d4 : ((afF O S.B C j).loose = C.loose) = True := eq_true q4
                simp (disch := first | assumption | omega | decide | rfl) only [w_X7_isFetched_137, w_X7_isFetched_138, w_X7_isFetched_140, w_X7_isFetched_143, w_X7_isFetched_144, w_X7_isFetched_147, w_X7_isFetched_150, w_X7_isFetched_152, w_X7_isFetched_155, w_X7_isFetched_156, w_X7_isFetched_159, nl_int, nl_ref, nl_null, nl_un, nl_rf, nl_long, isR_ref, isR_null, isR_rf, rf_some, rf_none, rOf_ref, rOf_null, rOf_rf, kn_v, kn_0, true_and, and_true, and_self, tin, inA_x, inA_l, ix_add, ix_addl, ix_ladd, ix_mul, ix_mull, ix_lmul, ix_tn, lt_tn, Nat.reduceLeDiff, Nat.reduceLT, Nat.reduceAdd, Nat.reduceMul, true_or, or_true, ↓reduceIte, aOk, ref_null, null_null, false_or, Option.isSome_some, Option.getD_some, ite_true, ite_false, eq_self, not_false_eq_true, not_true_eq_false, bz_ne, bz_1, reduceCtorEq, Bool.not_true, Bool.not_false, y4.tg, y4.hang, y4.loose, yt.tg, yt.hang, yt.loose, ix_eq, d3, d4]
                exact nxt h4 _ t4 c4 (by unfold chg; rw [decide_eq_true q3, decide_eq_true q4, q1]; rfl)
              · have d4 : ((afF O S.B C j).loose = C.loose) = False := eq_false q4
                simp (disch := first | assumption | omega | decide | rfl) only [w_X7_isFetched_137, w_X7_isFetched_138, w_X7_isFetched_140, w_X7_isFetched_143, w_X7_isFetched_144, w_X7_isFetched_147, w_X7_isFetched_150, w_X7_isFetched_152, w_X7_isFetched_155, w_X7_isFetched_156, w_X7_isFetched_159, nl_int, nl_ref, nl_null, nl_un, nl_rf, nl_long, isR_ref, isR_null, isR_rf, rf_some, rf_none, rOf_ref, rOf_null, rOf_rf, kn_v, kn_0, true_and, and_true, and_self, tin, inA_x, inA_l, ix_add, ix_addl, ix_ladd, ix_mul, ix_mull, ix_lmul, ix_tn, lt_tn, Nat.reduceLeDiff, Nat.reduceLT, Nat.reduceAdd, Nat.reduceMul, true_or, or_true, ↓reduceIte, aOk, ref_null, null_null, false_or, Option.isSome_some, Option.getD_some, ite_true, ite_false, eq_self, not_false_eq_true, not_true_eq_false, bz_ne, bz_1, reduceCtorEq, Bool.not_true, Bool.not_false, y4.tg, y4.hang, y4.loose, yt.tg, yt.hang, yt.loose, ix_eq, d3, d4]
                exact go (by unfold chg; rw [decide_eq_true q3, decide_eq_false q4]; rfl)
            · have d3 : ((afF O S.B C j).hang = C.hang) = False := eq_false q3
              simp (disch := first | assumption | omega | decide | rfl) only [w_X7_isFetched_137, w_X7_isFetched_138, w_X7_isFetched_140, w_X7_isFetched_143, w_X7_isFetched_144, w_X7_isFetched_147, nl_int, nl_ref, nl_null, nl_un, nl_rf, nl_long, isR_ref, isR_null, isR_rf, rf_some, rf_none, rOf_ref, rOf_null, rOf_rf, kn_v, kn_0, true_and, and_true, and_self, tin, inA_x, inA_l, ix_add, ix_addl, ix_ladd, ix_mul, ix_mull, ix_lmul, ix_tn, lt_tn, Nat.reduceLeDiff, Nat.reduceLT, Nat.reduceAdd, Nat.reduceMul, true_or, or_true, ↓reduceIte, aOk, ref_null, null_null, false_or, Option.isSome_some, Option.getD_some, ite_true, ite_false, eq_self, not_false_eq_true, not_true_eq_false, bz_ne, bz_1, reduceCtorEq, Bool.not_true, Bool.not_false, y4.tg, y4.hang, yt.tg, yt.hang, ix_eq, d3]
              exact go (by unfold chg; rw [decide_eq_false q3]; rfl)
      refine key (16 * O.nP) 0 (by omega) h _ Tf.refl Cq.refl (fun r h' e a b => ?_)
      rw [← hQ, e]
      exact ⟨rfl, a, b⟩
    · rw [q] at gd hQ
      have d1 : (lfN O C O.nA = 0) = True := by rw [gd]; simp
      simp (disch := first | assumption | omega | decide | rfl) only [w_X7_isFetched_60, w_X7_isFetched_61, w_X7_isFetched_68, w_X7_isFetched_69, w_X7_isFetched_72, w_X7_isFetched_73, w_X7_isFetched_76, w_X7_isFetched_77, nl_int, nl_ref, nl_null, nl_un, nl_rf, nl_long, isR_ref, isR_null, isR_rf, rf_some, rf_none, rOf_ref, rOf_null, rOf_rf, kn_v, kn_0, true_and, and_true, and_self, tin, inA_x, inA_l, ix_add, ix_addl, ix_ladd, ix_mul, ix_mull, ix_lmul, ix_tn, lt_tn, Nat.reduceLeDiff, Nat.reduceLT, Nat.reduceAdd, Nat.reduceMul, true_or, or_true, ↓reduceIte, aOk, ref_null, null_null, false_or, Option.isSome_some, Option.getD_some, ite_true, ite_false, eq_self, not_false_eq_true, not_true_eq_false, bz_ne, bz_1, reduceCtorEq, Bool.not_true, Bool.not_false, ix_eql, d1]
      rw [← hQ]
      exact ⟨rfl, Tf.refl, Cq.refl⟩
/-! dropping calls that do nothing, or what one ahead does, changes nothing -/
theorem xf_mono : ∀ n C, xfF O B n C = true → xfF O B (n + 1) C = true := by
  intro n
  induction n with
  | zero =>
    intro C q
    rw [xfF] at q
    rw [xfF, q]
    rfl
  | succ n ih =>
    intro C q
    rw [xfF, Bool.or_eq_true] at q ⊢
    rcases q with q | q
    · exact Or.inl q
    · right
      rw [anyb_t] at q ⊢
      obtain ⟨j, hj, hp⟩ := q
      refine ⟨j, hj, ?_⟩
      rw [Bool.and_eq_true, Bool.and_eq_true] at hp ⊢
      exact ⟨hp.1, hp.2.1, ih _ hp.2.2⟩
theorem xf_irr : ∀ n C E, C.hang = E.hang → C.loose = E.loose → xfF O B n C = xfF O B n E := by
  intro n
  induction n with
  | zero => intro C E h1 h2; rw [xfF, xfF]; unfold gdF; rw [h1]
  | succ n ih =>
    intro C E h1 h2
    rw [xfF, xfF]
    have e1 : gdF O C = gdF O E := by unfold gdF; rw [h1]
    have e2 : ∀ k, (afF O B C k).hang = (afF O B E k).hang := fun k => by show sd C.hang _ = sd E.hang _; rw [h1, h2]
    have e3 : ∀ k, (afF O B C k).loose = (afF O B E k).loose := fun k => by show loF O C.hang C.loose _ _ = loF O E.hang E.loose _ _; rw [h1, h2]
    have e4 : (fun k => nwC O B k && (chg C (afF O B C k) && xfF O B n (afF O B C k))) = (fun k => nwC O B k && (chg E (afF O B E k) && xfF O B n (afF O B E k))) := by
      funext k
      rw [ih _ _ (e2 k) (e3 k)]
      unfold chg
      rw [e2, e3, h1, h2]
    rw [e1, e4]
theorem xf_fs : ∀ n C, WB O C → xfF O B n C = fsF O B n C := by
  intro n
  induction n with
  | zero => intro C z; rw [xfF, fsF]
  | succ n ih =>
    intro C z
    have key : xfF O B (n + 1) C = true ↔ fsF O B (n + 1) C = true := by
      rw [xfF, fsF, Bool.or_eq_true, Bool.or_eq_true, anyb_t, anyb_t]
      constructor
      · rintro (q | ⟨j, hj, hp⟩)
        · exact Or.inl q
        · rw [Bool.and_eq_true, Bool.and_eq_true] at hp
          refine Or.inr ⟨j, hj, ?_⟩
          rw [Bool.and_eq_true, nw_ok hp.1, ← ih _ (wb_af z)]
          exact ⟨rfl, hp.2.2⟩
      · rintro (q | ⟨j, hj, hp⟩)
        · exact Or.inl q
        · rw [Nat.zero_add, Bool.and_eq_true, ← ih _ (wb_af z)] at hp
          obtain ⟨ok, hf⟩ := hp
          -- one that does the same, and is new, or nothing is done
          have fnd : ∀ m k, k ≤ m → okC O k = true → k < 16 * O.nP → afF O B C k = afF O B C j → (∃ i, i < 16 * O.nP ∧ nwC O B i = true ∧ afF O B C i = afF O B C j) ∨ afF O B C j = C := by
            intro m
            induction m with
            | zero =>
              intro k hk ok hk2 e
              cases qn : nwC O B k
              · rcases nw_no ok qn with q1 | ⟨e', he, -⟩
                · right; rw [← e]; exact noop_af z (by rw [q1, Nat.and_zero])
                · omega
              · exact Or.inl ⟨k, hk2, qn, e⟩
            | succ m ihm =>
              intro k hk ok hk2 e
              cases qn : nwC O B k
              · rcases nw_no ok qn with q1 | ⟨e', he, o1, e1, e2⟩
                · right; rw [← e]; exact noop_af z (by rw [q1, Nat.and_zero])
                · refine ihm e' (by omega) o1 (by omega) ?_
                  rw [← e]
                  unfold afF
                  rw [e1, e2]
              · exact Or.inl ⟨k, hk2, qn, e⟩
          have same : (afF O B C j).hang = C.hang → (afF O B C j).loose = C.loose → gdF O C = true ∨ ∃ j, j < 16 * O.nP ∧ (nwC O B (0 + j) && (chg C (afF O B C (0 + j)) && xfF O B n (afF O B C (0 + j)))) = true := by
            intro h1 h2
            rw [xf_irr n _ C h1 h2] at hf
            have := xf_mono n C hf
            rw [xfF, Bool.or_eq_true, anyb_t] at this
            exact this
          rcases fnd j j (Nat.le_refl _) ok hj rfl with ⟨i, hi, n1, e1⟩ | e1
          · by_cases q3 : (afF O B C j).hang = C.hang ∧ (afF O B C j).loose = C.loose
            · exact same q3.1 q3.2
            · refine Or.inr ⟨i, hi, ?_⟩
              rw [Nat.zero_add, n1, e1, hf, Bool.true_and, Bool.and_true]
              unfold chg
              by_cases q4 : (afF O B C j).hang = C.hang
              · have q5 : ¬ (afF O B C j).loose = C.loose := fun q5 => q3 ⟨q4, q5⟩
                rw [decide_eq_false q5]
                simp
              · rw [decide_eq_false q4]
                rfl
          · exact same (by rw [e1]) (by rw [e1])
    cases q1 : fsF O B (n + 1) C
    · cases q2 : xfF O B (n + 1) C
      · rfl
      · rw [key.mp q2] at q1; exact absurd q1 (by decide)
    · exact key.mpr q1
theorem xfetch (X : XN h x lo hi o b O S) (W : WB O S.B) : Ca (D + 275) 28 [.ref x] h (fun r h' => r = .inl (some (.int (fetF O S.B))) ∧ Tf x h h') := by
  generalize hQ : (fun r h' => r = .inl (some (.int (fetF O S.B))) ∧ Tf x h h' : Rs → AH → Prop) = Q
  rw [e_X1_fetch]
  simp (disch := first | assumption | omega | decide | rfl) only [w_X1_fetch_0, w_X1_fetch_1, w_X1_fetch_4, nl_int, nl_ref, nl_null, nl_un, nl_rf, nl_long, isR_ref, isR_null, isR_rf, rf_some, rf_none, rOf_ref, rOf_null, rOf_rf, kn_v, kn_0, true_and, and_true, and_self, tin, inA_x, inA_l, ix_add, ix_addl, ix_ladd, ix_mul, ix_mull, ix_lmul, ix_tn, lt_tn, Nat.reduceLeDiff, Nat.reduceLT, Nat.reduceAdd, Nat.reduceMul, true_or, or_true, ↓reduceIte, aOk, ref_null, null_null, false_or, Option.isSome_some, Option.getD_some, ite_true, ite_false, eq_self, not_false_eq_true, not_true_eq_false, bz_ne, bz_1, reduceCtorEq, Bool.not_true, Bool.not_false, X.f.tx, X.f.f8, X.f.t42]
  refine ca_mono (cx_clays X W) ?_
  rintro r h1 ⟨rfl, t1, r1, nc1⟩
  simp (disch := first | assumption | omega | decide | rfl) only [w_X1_fetch_7, w_X1_fetch_8, nl_int, nl_ref, nl_null, nl_un, nl_rf, nl_long, isR_ref, isR_null, isR_rf, rf_some, rf_none, rOf_ref, rOf_null, rOf_rf, kn_v, kn_0, true_and, and_true, and_self, tin, inA_x, inA_l, ix_add, ix_addl, ix_ladd, ix_mul, ix_mull, ix_lmul, ix_tn, lt_tn, Nat.reduceLeDiff, Nat.reduceLT, Nat.reduceAdd, Nat.reduceMul, true_or, or_true, ↓reduceIte, aOk, ref_null, null_null, false_or, Option.isSome_some, Option.getD_some, ite_true, ite_false, eq_self, not_false_eq_true, not_true_eq_false, bz_ne, bz_1, reduceCtorEq, Bool.not_true, Bool.not_false]
  have key : ∀ m j, j + m = 5 → cpre (fun n => !fsF O S.B n S.B) m j = cpre (fun n => !fsF O S.B n S.B) 5 0 → ∀ h2, Tf x h h2 → RC h2 x O S.B → NC h2 x O S.B → Ru (D + 274) 28 9 [.ref x, .int (ix j)] [] h2 Q := by
    intro m
    induction m with
    | zero =>
      intro j hj ej h2 t2 r2 nc2
      have ej2 : j = 5 := by omega
      subst ej2
      have e : ((4 : Int32) < ix 5) = True := eq_true (by decide)
      rw [w_X1_fetch_9]
      simp (disch := first | assumption | omega | decide | rfl) only [w_X1_fetch_10, w_X1_fetch_11, w_X1_fetch_37, w_X1_fetch_38, nl_int, nl_ref, nl_null, nl_un, nl_rf, nl_long, isR_ref, isR_null, isR_rf, rf_some, rf_none, rOf_ref, rOf_null, rOf_rf, kn_v, kn_0, true_and, and_true, and_self, tin, inA_x, inA_l, ix_add, ix_addl, ix_ladd, ix_mul, ix_mull, ix_lmul, ix_tn, lt_tn, Nat.reduceLeDiff, Nat.reduceLT, Nat.reduceAdd, Nat.reduceMul, true_or, or_true, ↓reduceIte, aOk, ref_null, null_null, false_or, Option.isSome_some, Option.getD_some, ite_true, ite_false, eq_self, not_false_eq_true, not_true_eq_false, bz_ne, bz_1, reduceCtorEq, Bool.not_true, Bool.not_false, e]
      rw [← hQ]
      unfold fetF
      rw [← ej, if_pos (by rw [cpre])]
      exact ⟨rfl, t2⟩
    | succ m ih =>
      intro j hj ej h2 t2 r2 nc2
      have X2 := X.tf t2
      have e : ((4 : Int32) < ix j) = False := by rw [show ((4 : Int32) < ix j) = (4 < j) from ix_llt (n := 4) (by decide) (by omega)]; exact eq_false (by omega)
      rw [w_X1_fetch_9]
      simp (disch := first | assumption | omega | decide | rfl) only [w_X1_fetch_10, w_X1_fetch_11, w_X1_fetch_14, w_X1_fetch_15, w_X1_fetch_18, w_X1_fetch_19, w_X1_fetch_22, w_X1_fetch_23, nl_int, nl_ref, nl_null, nl_un, nl_rf, nl_long, isR_ref, isR_null, isR_rf, rf_some, rf_none, rOf_ref, rOf_null, rOf_rf, kn_v, kn_0, true_and, and_true, and_self, tin, inA_x, inA_l, ix_add, ix_addl, ix_ladd, ix_mul, ix_mull, ix_lmul, ix_tn, lt_tn, Nat.reduceLeDiff, Nat.reduceLT, Nat.reduceAdd, Nat.reduceMul, true_or, or_true, ↓reduceIte, aOk, ref_null, null_null, false_or, Option.isSome_some, Option.getD_some, ite_true, ite_false, eq_self, not_false_eq_true, not_true_eq_false, bz_ne, bz_1, reduceCtorEq, Bool.not_true, Bool.not_false, e, X2.f.tx, X2.f.f8, X2.f.t42, X2.fb]
      rw [show D + 274 = D + 4 + 270 from rfl]
      refine ca_mono (cx_isFetched j (by omega) (D + 4) (by omega) h2 b S.B X2 r2 nc2 X2.xb W (Or.inl rfl)) ?_
      rintro r h3 ⟨rfl, t3, c3⟩
      rw [xf_fs j S.B W]
      rw [cpre] at ej
      cases q : fsF O S.B j S.B
      · rw [if_pos (by rw [q]; rfl)] at ej
        simp (disch := first | assumption | omega | decide | rfl) only [w_X1_fetch_26, w_X1_fetch_31, w_X1_fetch_34, nl_int, nl_ref, nl_null, nl_un, nl_rf, nl_long, isR_ref, isR_null, isR_rf, rf_some, rf_none, rOf_ref, rOf_null, rOf_rf, kn_v, kn_0, true_and, and_true, and_self, tin, inA_x, inA_l, ix_add, ix_addl, ix_ladd, ix_mul, ix_mull, ix_lmul, ix_tn, lt_tn, Nat.reduceLeDiff, Nat.reduceLT, Nat.reduceAdd, Nat.reduceMul, true_or, or_true, ↓reduceIte, aOk, ref_null, null_null, false_or, Option.isSome_some, Option.getD_some, ite_true, ite_false, eq_self, not_false_eq_true, not_true_eq_false, bz_ne, bz_1, reduceCtorEq, Bool.not_true, Bool.not_false]
        exact ih (j + 1) (by omega) ej h3 (t2.trans t3) ((c3.cr (by omega)).rc X2.f r2 (by omega)) ((c3.cr (by omega)).nc X2.f nc2 (by omega))
      · rw [if_neg (by rw [q]; decide)] at ej
        simp (disch := first | assumption | omega | decide | rfl) only [w_X1_fetch_26, w_X1_fetch_29, w_X1_fetch_30, nl_int, nl_ref, nl_null, nl_un, nl_rf, nl_long, isR_ref, isR_null, isR_rf, rf_some, rf_none, rOf_ref, rOf_null, rOf_rf, kn_v, kn_0, true_and, and_true, and_self, tin, inA_x, inA_l, ix_add, ix_addl, ix_ladd, ix_mul, ix_mull, ix_lmul, ix_tn, lt_tn, Nat.reduceLeDiff, Nat.reduceLT, Nat.reduceAdd, Nat.reduceMul, true_or, or_true, ↓reduceIte, aOk, ref_null, null_null, false_or, Option.isSome_some, Option.getD_some, ite_true, ite_false, eq_self, not_false_eq_true, not_true_eq_false, bz_ne, bz_1, reduceCtorEq, Bool.not_true, Bool.not_false]
        rw [← hQ]
        unfold fetF
        rw [← ej, if_neg (by omega)]
        exact ⟨rfl, t2.trans t3⟩
  exact key 5 0 (by omega) rfl h1 t1 r1 nc1
end
