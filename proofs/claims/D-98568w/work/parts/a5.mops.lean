/-! THE MODEL: says, falls, call, pick -/
set_option maxRecDepth 100000
noncomputable def tn (v : Int32) : Nat := v.toNatClampNeg
noncomputable def mayC (O : Oc) (u v : Int32) : Bool := inN u O.nP && inN v O.nS && saF O (tn u) (tn v)
noncomputable def sayF (O : Oc) (u v : Int32) : Int32 := if (inN u O.nP && inN v O.nS) = true then bz (saF O (tn u) (tn v)) else -1
section
variable {d D m a b c p q s w n k i j : Nat} {h h' : AH} {Q : Rs → AH → Prop} {O : Oc} {B : Bo} {A F : List Nat} {U : Nat → Bo} {u v : Int32}
theorem tn_ix (hk : k < 2147483648) : tn (ix k) = k := ix_tn hk
theorem cm_says (x : M0 h m O) : Ca (D + 2) 189 [.ref m, .int u, .int v] h (fun r h' => r = .inl (some (.int (sayF O u v))) ∧ Md m [] [60] h h' ∧ Fi h' 60 m = 0) := by
  have n2 := x.wo.nS
  have n3 := x.wo.nP
  rw [e_X9_says]
  simp (disch := first | assumption | omega | decide | rfl) only [w_X9_says_0, w_X9_says_1, w_X9_says_2, mo_0 x.mo, nl_int, nl_ref, nl_null, nl_un, nl_rf, nl_long, isR_ref, isR_null, isR_rf, rf_some, rf_none, rOf_ref, rOf_null, rOf_rf, kn_v, kn_0, true_and, and_true, and_self, tin, inA_x, inA_l, ix_add, ix_addl, ix_ladd, ix_mul, ix_mull, ix_lmul, ix_tn, lt_tn, Nat.reduceLeDiff, Nat.reduceLT, Nat.reduceAdd, Nat.reduceMul, true_or, or_true, ↓reduceIte, aOk, ref_null, null_null, false_or, Option.isSome_some, Option.getD_some, ite_true, ite_false, eq_self, not_false_eq_true, not_true_eq_false]
  have u1 : Md m [] [60] h (sFi h 60 m 0) := md_sFi (by decide)
  have f1 : Fi (sFi h 60 m 0) 60 m = 0 := Fi_same
  revert u1 f1
  generalize sFi h 60 m 0 = h1
  intro u1 f1
  have x1 : M0 h1 m O := x.md u1
  simp (disch := first | assumption | omega | decide | rfl) only [w_X9_says_5, w_X9_says_6, w_X9_says_7, mo_0 x1.mo, nl_int, nl_ref, nl_null, nl_un, nl_rf, nl_long, isR_ref, isR_null, isR_rf, rf_some, rf_none, rOf_ref, rOf_null, rOf_rf, kn_v, kn_0, true_and, and_true, and_self, tin, inA_x, inA_l, ix_add, ix_addl, ix_ladd, ix_mul, ix_mull, ix_lmul, ix_tn, lt_tn, Nat.reduceLeDiff, Nat.reduceLT, Nat.reduceAdd, Nat.reduceMul, true_or, or_true, ↓reduceIte, aOk, ref_null, null_null, false_or, Option.isSome_some, Option.getD_some, ite_true, ite_false, eq_self, not_false_eq_true, not_true_eq_false, cm_isPerson x1]
  by_cases q1 : inN u O.nP = true
  · have d1 : (bz (inN u O.nP) = 0) = False := by rw [bz_ne]; exact eq_false (by rw [q1]; decide)
    simp (disch := first | assumption | omega | decide | rfl) only [w_X9_says_10, w_X9_says_13, w_X9_says_14, w_X9_says_15, mo_0 x1.mo, nl_int, nl_ref, nl_null, nl_un, nl_rf, nl_long, isR_ref, isR_null, isR_rf, rf_some, rf_none, rOf_ref, rOf_null, rOf_rf, kn_v, kn_0, true_and, and_true, and_self, tin, inA_x, inA_l, ix_add, ix_addl, ix_ladd, ix_mul, ix_mull, ix_lmul, ix_tn, lt_tn, Nat.reduceLeDiff, Nat.reduceLT, Nat.reduceAdd, Nat.reduceMul, true_or, or_true, ↓reduceIte, aOk, ref_null, null_null, false_or, Option.isSome_some, Option.getD_some, ite_true, ite_false, eq_self, not_false_eq_true, not_true_eq_false, d1, cm_isSound x1]
    by_cases q2 : inN v O.nS = true
    · have d2 : (bz (inN v O.nS) = 0) = False := by rw [bz_ne]; exact eq_false (by rw [q2]; decide)
      obtain ⟨a, ha, rfl⟩ := inN_ex (by omega) q1
      obtain ⟨b, hb, rfl⟩ := inN_ex (by omega) q2
      have es : sayF O (ix a) (ix b) = bz (saF O a b) := by unfold sayF; rw [q1, q2, if_pos (by rfl), tn_ix (by omega), tn_ix (by omega)]
      rw [es]
      simp (disch := first | assumption | omega | decide | rfl) only [w_X9_says_18, w_X9_says_21, w_X9_says_22, w_X9_says_23, w_X9_says_24, mo_0 x1.mo, nl_int, nl_ref, nl_null, nl_un, nl_rf, nl_long, isR_ref, isR_null, isR_rf, rf_some, rf_none, rOf_ref, rOf_null, rOf_rf, kn_v, kn_0, true_and, and_true, and_self, tin, inA_x, inA_l, ix_add, ix_addl, ix_ladd, ix_mul, ix_mull, ix_lmul, ix_tn, lt_tn, Nat.reduceLeDiff, Nat.reduceLT, Nat.reduceAdd, Nat.reduceMul, true_or, or_true, ↓reduceIte, aOk, ref_null, null_null, false_or, Option.isSome_some, Option.getD_some, ite_true, ite_false, eq_self, not_false_eq_true, not_true_eq_false, d2, cm_isSaid x1 ha hb]
      by_cases q3 : saF O a b = true
      · have d3 : (bz (saF O a b) = 0) = False := by rw [bz_ne]; exact eq_false (by rw [q3]; decide)
        simp (disch := first | assumption | omega | decide | rfl) only [w_X9_says_27, w_X9_says_30, w_X9_says_31, w_X9_says_34, w_X9_says_35, w_X9_says_38, w_X9_says_39, nl_int, nl_ref, nl_null, nl_un, nl_rf, nl_long, isR_ref, isR_null, isR_rf, rf_some, rf_none, rOf_ref, rOf_null, rOf_rf, kn_v, kn_0, true_and, and_true, and_self, tin, inA_x, inA_l, ix_add, ix_addl, ix_ladd, ix_mul, ix_mull, ix_lmul, ix_tn, lt_tn, Nat.reduceLeDiff, Nat.reduceLT, Nat.reduceAdd, Nat.reduceMul, true_or, or_true, ↓reduceIte, aOk, ref_null, null_null, false_or, Option.isSome_some, Option.getD_some, ite_true, ite_false, eq_self, not_false_eq_true, not_true_eq_false, d3]
        exact ⟨by rw [q3]; rfl, u1, f1⟩
      · have d3 : (bz (saF O a b) = 0) = True := by rw [bz_ne]; exact eq_true (Bool.not_eq_true _ ▸ q3)
        simp (disch := first | assumption | omega | decide | rfl) only [w_X9_says_27, w_X9_says_30, w_X9_says_31, w_X9_says_34, w_X9_says_35, w_X9_says_38, w_X9_says_39, nl_int, nl_ref, nl_null, nl_un, nl_rf, nl_long, isR_ref, isR_null, isR_rf, rf_some, rf_none, rOf_ref, rOf_null, rOf_rf, kn_v, kn_0, true_and, and_true, and_self, tin, inA_x, inA_l, ix_add, ix_addl, ix_ladd, ix_mul, ix_mull, ix_lmul, ix_tn, lt_tn, Nat.reduceLeDiff, Nat.reduceLT, Nat.reduceAdd, Nat.reduceMul, true_or, or_true, ↓reduceIte, aOk, ref_null, null_null, false_or, Option.isSome_some, Option.getD_some, ite_true, ite_false, eq_self, not_false_eq_true, not_true_eq_false, d3]
        exact ⟨by rw [show saF O a b = false by simpa using q3]; rfl, u1, f1⟩
    · have d2 : (bz (inN v O.nS) = 0) = True := by rw [bz_ne]; exact eq_true (Bool.not_eq_true _ ▸ q2)
      simp (disch := first | assumption | omega | decide | rfl) only [w_X9_says_18, w_X9_says_38, w_X9_says_39, nl_int, nl_ref, nl_null, nl_un, nl_rf, nl_long, isR_ref, isR_null, isR_rf, rf_some, rf_none, rOf_ref, rOf_null, rOf_rf, kn_v, kn_0, true_and, and_true, and_self, tin, inA_x, inA_l, ix_add, ix_addl, ix_ladd, ix_mul, ix_mull, ix_lmul, ix_tn, lt_tn, Nat.reduceLeDiff, Nat.reduceLT, Nat.reduceAdd, Nat.reduceMul, true_or, or_true, ↓reduceIte, aOk, ref_null, null_null, false_or, Option.isSome_some, Option.getD_some, ite_true, ite_false, eq_self, not_false_eq_true, not_true_eq_false, d2]
      exact ⟨by unfold sayF; rw [if_neg (by simp [q2])], u1, f1⟩
  · have d1 : (bz (inN u O.nP) = 0) = True := by rw [bz_ne]; exact eq_true (Bool.not_eq_true _ ▸ q1)
    simp (disch := first | assumption | omega | decide | rfl) only [w_X9_says_10, w_X9_says_38, w_X9_says_39, nl_int, nl_ref, nl_null, nl_un, nl_rf, nl_long, isR_ref, isR_null, isR_rf, rf_some, rf_none, rOf_ref, rOf_null, rOf_rf, kn_v, kn_0, true_and, and_true, and_self, tin, inA_x, inA_l, ix_add, ix_addl, ix_ladd, ix_mul, ix_mull, ix_lmul, ix_tn, lt_tn, Nat.reduceLeDiff, Nat.reduceLT, Nat.reduceAdd, Nat.reduceMul, true_or, or_true, ↓reduceIte, aOk, ref_null, null_null, false_or, Option.isSome_some, Option.getD_some, ite_true, ite_false, eq_self, not_false_eq_true, not_true_eq_false, d1]
    exact ⟨by unfold sayF; rw [if_neg (by simp [q1])], u1, f1⟩
theorem cm_call (x : M0 h m O) (y : MB h (m + 53) 0 O.nA B) (z : WB O B) (t : MU h m O.nA c U) : Ca (D + 9) 198 [.ref m, .int u, .int v] h (fun r h' => r = .inl (some (.int (if mayC O u v = true then ix (flF O B (tn v) (O.ln (tn u)) (O.ld (tn u))) else -1))) ∧ Md m (35 :: 53 :: 56 :: eA) [60, 129, 130, 131, 132] h h' ∧ Fi h' 60 m = 0 ∧ MB h' (m + 53) 0 O.nA (if mayC O u v = true then caF O B (tn v) (O.ln (tn u)) (O.ld (tn u)) else B) ∧ MU h' m O.nA (if mayC O u v = true then kpN c else c) (if mayC O u v = true then kpU U c B else U)) := by
  have n1 := x.wo.nA
  have n2 := x.wo.nS
  have n3 := x.wo.nP
  generalize hQ : (fun r h' => r = .inl (some (.int (if mayC O u v = true then ix (flF O B (tn v) (O.ln (tn u)) (O.ld (tn u))) else -1))) ∧ Md m (35 :: 53 :: 56 :: eA) [60, 129, 130, 131, 132] h h' ∧ Fi h' 60 m = 0 ∧ MB h' (m + 53) 0 O.nA (if mayC O u v = true then caF O B (tn v) (O.ln (tn u)) (O.ld (tn u)) else B) ∧ MU h' m O.nA (if mayC O u v = true then kpN c else c) (if mayC O u v = true then kpU U c B else U) : Rs → AH → Prop) = Q
  rw [e_X9_call]
  simp (disch := first | assumption | omega | decide | rfl) only [w_X9_call_0, w_X9_call_1, w_X9_call_2, mo_0 x.mo, nl_int, nl_ref, nl_null, nl_un, nl_rf, nl_long, isR_ref, isR_null, isR_rf, rf_some, rf_none, rOf_ref, rOf_null, rOf_rf, kn_v, kn_0, true_and, and_true, and_self, tin, inA_x, inA_l, ix_add, ix_addl, ix_ladd, ix_mul, ix_mull, ix_lmul, ix_tn, lt_tn, Nat.reduceLeDiff, Nat.reduceLT, Nat.reduceAdd, Nat.reduceMul, true_or, or_true, ↓reduceIte, aOk, ref_null, null_null, false_or, Option.isSome_some, Option.getD_some, ite_true, ite_false, eq_self, not_false_eq_true, not_true_eq_false]
  have u1 : Md m [] [60, 129, 130, 131, 132] h (sFi h 60 m 0) := md_sFi (by decide)
  have z1 : Md m [] [60] h (sFi h 60 m 0) := md_sFi (by decide)
  have f1 : Fi (sFi h 60 m 0) 60 m = 0 := Fi_same
  revert u1 z1 f1
  generalize sFi h 60 m 0 = h1
  intro u1 z1 f1
  have x1 : M0 h1 m O := x.md u1
  have y1 : MB h1 (m + 53) 0 O.nA B := y.md u1 (by decide)
  have t1 := t.md z1 (by decide) (by decide)
  have v1 : Md m (35 :: 53 :: 56 :: eA) [60, 129, 130, 131, 132] h h1 := u1.mono (by simp) (fun _ q => q)
  have no : mayC O u v = false → Q (.inl (some (.int (-1)))) h1 := fun e => by
    rw [← hQ, e]
    exact ⟨rfl, v1, f1, y1, t1⟩
  simp (disch := first | assumption | omega | decide | rfl) only [w_X9_call_5, w_X9_call_6, w_X9_call_7, mo_0 x1.mo, nl_int, nl_ref, nl_null, nl_un, nl_rf, nl_long, isR_ref, isR_null, isR_rf, rf_some, rf_none, rOf_ref, rOf_null, rOf_rf, kn_v, kn_0, true_and, and_true, and_self, tin, inA_x, inA_l, ix_add, ix_addl, ix_ladd, ix_mul, ix_mull, ix_lmul, ix_tn, lt_tn, Nat.reduceLeDiff, Nat.reduceLT, Nat.reduceAdd, Nat.reduceMul, true_or, or_true, ↓reduceIte, aOk, ref_null, null_null, false_or, Option.isSome_some, Option.getD_some, ite_true, ite_false, eq_self, not_false_eq_true, not_true_eq_false, cm_isPerson x1]
  by_cases q1 : inN u O.nP = true
  · have d1 : (bz (inN u O.nP) = 0) = False := by rw [bz_ne]; exact eq_false (by rw [q1]; decide)
    simp (disch := first | assumption | omega | decide | rfl) only [w_X9_call_10, w_X9_call_13, w_X9_call_14, w_X9_call_15, mo_0 x1.mo, nl_int, nl_ref, nl_null, nl_un, nl_rf, nl_long, isR_ref, isR_null, isR_rf, rf_some, rf_none, rOf_ref, rOf_null, rOf_rf, kn_v, kn_0, true_and, and_true, and_self, tin, inA_x, inA_l, ix_add, ix_addl, ix_ladd, ix_mul, ix_mull, ix_lmul, ix_tn, lt_tn, Nat.reduceLeDiff, Nat.reduceLT, Nat.reduceAdd, Nat.reduceMul, true_or, or_true, ↓reduceIte, aOk, ref_null, null_null, false_or, Option.isSome_some, Option.getD_some, ite_true, ite_false, eq_self, not_false_eq_true, not_true_eq_false, d1, cm_isSound x1]
    by_cases q2 : inN v O.nS = true
    · have d2 : (bz (inN v O.nS) = 0) = False := by rw [bz_ne]; exact eq_false (by rw [q2]; decide)
      obtain ⟨a, ha, rfl⟩ := inN_ex (by omega) q1
      obtain ⟨b, hb, rfl⟩ := inN_ex (by omega) q2
      have em : mayC O (ix a) (ix b) = saF O a b := by unfold mayC; rw [q1, q2, tn_ix (by omega), tn_ix (by omega)]; rfl
      simp (disch := first | assumption | omega | decide | rfl) only [w_X9_call_18, w_X9_call_21, w_X9_call_22, w_X9_call_23, w_X9_call_24, mo_0 x1.mo, nl_int, nl_ref, nl_null, nl_un, nl_rf, nl_long, isR_ref, isR_null, isR_rf, rf_some, rf_none, rOf_ref, rOf_null, rOf_rf, kn_v, kn_0, true_and, and_true, and_self, tin, inA_x, inA_l, ix_add, ix_addl, ix_ladd, ix_mul, ix_mull, ix_lmul, ix_tn, lt_tn, Nat.reduceLeDiff, Nat.reduceLT, Nat.reduceAdd, Nat.reduceMul, true_or, or_true, ↓reduceIte, aOk, ref_null, null_null, false_or, Option.isSome_some, Option.getD_some, ite_true, ite_false, eq_self, not_false_eq_true, not_true_eq_false, d2, cm_isSaid x1 ha hb]
      by_cases q3 : saF O a b = true
      · have d3 : (bz (saF O a b) = 0) = False := by rw [bz_ne]; exact eq_false (by rw [q3]; decide)
        simp (disch := first | assumption | omega | decide | rfl) only [w_X9_call_27, w_X9_call_30, w_X9_call_31, w_X9_call_32, w_X9_call_33, mo_0 x1.mo, nl_int, nl_ref, nl_null, nl_un, nl_rf, nl_long, isR_ref, isR_null, isR_rf, rf_some, rf_none, rOf_ref, rOf_null, rOf_rf, kn_v, kn_0, true_and, and_true, and_self, tin, inA_x, inA_l, ix_add, ix_addl, ix_ladd, ix_mul, ix_mull, ix_lmul, ix_tn, lt_tn, Nat.reduceLeDiff, Nat.reduceLT, Nat.reduceAdd, Nat.reduceMul, true_or, or_true, ↓reduceIte, aOk, ref_null, null_null, false_or, Option.isSome_some, Option.getD_some, ite_true, ite_false, eq_self, not_false_eq_true, not_true_eq_false, d3]
        refine ca_mono (cm_keeps x1.mo y1 n1 t1) ?_
        rintro r h2 ⟨rfl, u2, t2⟩
        have x2 : M0 h2 m O := x1.md u2
        have hm2 := x2.mo
        have y2 := y1.md u2 (by decide)
        have p1 := x2.mr.ln a ha
        have p2 := x2.mr.ld a ha
        rw [Nat.mul_zero, Nat.zero_add] at p1 p2
        simp (disch := first | assumption | omega | decide | rfl) only [w_X9_call_36, w_X9_call_37, w_X9_call_38, w_X9_call_39, w_X9_call_42, w_X9_call_43, w_X9_call_44, w_X9_call_45, w_X9_call_48, w_X9_call_49, w_X9_call_50, mo_0 hm2, mo_lane hm2, mt_lane hm2, ml_lane hm2, mo_loud hm2, mt_loud hm2, ml_loud hm2, nl_int, nl_ref, nl_null, nl_un, nl_rf, nl_long, isR_ref, isR_null, isR_rf, rf_some, rf_none, rOf_ref, rOf_null, rOf_rf, kn_v, kn_0, true_and, and_true, and_self, tin, inA_x, inA_l, ix_add, ix_addl, ix_ladd, ix_mul, ix_mull, ix_lmul, ix_tn, lt_tn, Nat.reduceLeDiff, Nat.reduceLT, Nat.reduceAdd, Nat.reduceMul, true_or, or_true, ↓reduceIte, aOk, ref_null, null_null, false_or, Option.isSome_some, Option.getD_some, ite_true, ite_false, eq_self, not_false_eq_true, not_true_eq_false, p1, p2]
        refine ca_mono (cm_calls x2 y2 z hb (x.wo.ln a ha) (x.wo.ld a ha)) ?_
        rintro r h3 ⟨rfl, u3, y3⟩
        simp (disch := first | assumption | omega | decide | rfl) only [w_X9_call_53, nl_int, nl_ref, nl_null, nl_un, nl_rf, nl_long, isR_ref, isR_null, isR_rf, rf_some, rf_none, rOf_ref, rOf_null, rOf_rf, kn_v, kn_0, true_and, and_true, and_self, tin, inA_x, inA_l, ix_add, ix_addl, ix_ladd, ix_mul, ix_mull, ix_lmul, ix_tn, lt_tn, Nat.reduceLeDiff, Nat.reduceLT, Nat.reduceAdd, Nat.reduceMul, true_or, or_true, ↓reduceIte, aOk, ref_null, null_null, false_or, Option.isSome_some, Option.getD_some, ite_true, ite_false, eq_self, not_false_eq_true, not_true_eq_false]
        rw [← hQ, em, q3, if_pos rfl, if_pos rfl, if_pos rfl, if_pos rfl, tn_ix (by omega), tn_ix (by omega)]
        exact ⟨rfl, (v1.trans u2 (by decide) (by decide)).trans u3 (by decide) (by decide), by rw [u3.fi (by decide), u2.fi (by decide)]; exact f1, y3, t2.md u3 (by decide) (by decide)⟩
      · have d3 : (bz (saF O a b) = 0) = True := by rw [bz_ne]; exact eq_true (Bool.not_eq_true _ ▸ q3)
        simp (disch := first | assumption | omega | decide | rfl) only [w_X9_call_27, w_X9_call_30, w_X9_call_31, nl_int, nl_ref, nl_null, nl_un, nl_rf, nl_long, isR_ref, isR_null, isR_rf, rf_some, rf_none, rOf_ref, rOf_null, rOf_rf, kn_v, kn_0, true_and, and_true, and_self, tin, inA_x, inA_l, ix_add, ix_addl, ix_ladd, ix_mul, ix_mull, ix_lmul, ix_tn, lt_tn, Nat.reduceLeDiff, Nat.reduceLT, Nat.reduceAdd, Nat.reduceMul, true_or, or_true, ↓reduceIte, aOk, ref_null, null_null, false_or, Option.isSome_some, Option.getD_some, ite_true, ite_false, eq_self, not_false_eq_true, not_true_eq_false, d3]
        exact no (by rw [em]; simpa using q3)
    · have d2 : (bz (inN v O.nS) = 0) = True := by rw [bz_ne]; exact eq_true (Bool.not_eq_true _ ▸ q2)
      simp (disch := first | assumption | omega | decide | rfl) only [w_X9_call_18, w_X9_call_30, w_X9_call_31, nl_int, nl_ref, nl_null, nl_un, nl_rf, nl_long, isR_ref, isR_null, isR_rf, rf_some, rf_none, rOf_ref, rOf_null, rOf_rf, kn_v, kn_0, true_and, and_true, and_self, tin, inA_x, inA_l, ix_add, ix_addl, ix_ladd, ix_mul, ix_mull, ix_lmul, ix_tn, lt_tn, Nat.reduceLeDiff, Nat.reduceLT, Nat.reduceAdd, Nat.reduceMul, true_or, or_true, ↓reduceIte, aOk, ref_null, null_null, false_or, Option.isSome_some, Option.getD_some, ite_true, ite_false, eq_self, not_false_eq_true, not_true_eq_false, d2]
      exact no (by unfold mayC; simp [q2])
  · have d1 : (bz (inN u O.nP) = 0) = True := by rw [bz_ne]; exact eq_true (Bool.not_eq_true _ ▸ q1)
    simp (disch := first | assumption | omega | decide | rfl) only [w_X9_call_10, w_X9_call_30, w_X9_call_31, nl_int, nl_ref, nl_null, nl_un, nl_rf, nl_long, isR_ref, isR_null, isR_rf, rf_some, rf_none, rOf_ref, rOf_null, rOf_rf, kn_v, kn_0, true_and, and_true, and_self, tin, inA_x, inA_l, ix_add, ix_addl, ix_ladd, ix_mul, ix_mull, ix_lmul, ix_tn, lt_tn, Nat.reduceLeDiff, Nat.reduceLT, Nat.reduceAdd, Nat.reduceMul, true_or, or_true, ↓reduceIte, aOk, ref_null, null_null, false_or, Option.isSome_some, Option.getD_some, ite_true, ite_false, eq_self, not_false_eq_true, not_true_eq_false, d1]
    exact no (by unfold mayC; simp [q1])
noncomputable def mayP (O : Oc) (B : Bo) (v : Int32) : Bool := inN v O.nA && (B.hang.testBit (tn v) && !B.pk)
theorem cm_pick (x : M0 h m O) (y : MB h (m + 53) 0 O.nA B) (z : WB O B) (t : MU h m O.nA c U) : Ca (D + 8) 203 [.ref m, .int v] h (fun r h' => r = .inl (some (.int (if mayP O B v = true then vaF O (tn v) B.day else -1))) ∧ Md m (35 :: 53 :: 56 :: eA) [60, 129] h h' ∧ Fi h' 60 m = 0 ∧ MB h' (m + 53) 0 O.nA (if mayP O B v = true then piF O B (tn v) else B) ∧ MU h' m O.nA (if mayP O B v = true then kpN c else c) (if mayP O B v = true then kpU U c B else U)) := by
  have n1 := x.wo.nA
  have hh := z.lt x.wo
  generalize hQ : (fun r h' => r = .inl (some (.int (if mayP O B v = true then vaF O (tn v) B.day else -1))) ∧ Md m (35 :: 53 :: 56 :: eA) [60, 129] h h' ∧ Fi h' 60 m = 0 ∧ MB h' (m + 53) 0 O.nA (if mayP O B v = true then piF O B (tn v) else B) ∧ MU h' m O.nA (if mayP O B v = true then kpN c else c) (if mayP O B v = true then kpU U c B else U) : Rs → AH → Prop) = Q
  rw [e_X9_pick]
  simp (disch := first | assumption | omega | decide | rfl) only [w_X9_pick_0, w_X9_pick_1, w_X9_pick_2, mo_0 x.mo, nl_int, nl_ref, nl_null, nl_un, nl_rf, nl_long, isR_ref, isR_null, isR_rf, rf_some, rf_none, rOf_ref, rOf_null, rOf_rf, kn_v, kn_0, true_and, and_true, and_self, tin, inA_x, inA_l, ix_add, ix_addl, ix_ladd, ix_mul, ix_mull, ix_lmul, ix_tn, lt_tn, Nat.reduceLeDiff, Nat.reduceLT, Nat.reduceAdd, Nat.reduceMul, true_or, or_true, ↓reduceIte, aOk, ref_null, null_null, false_or, Option.isSome_some, Option.getD_some, ite_true, ite_false, eq_self, not_false_eq_true, not_true_eq_false]
  have u1 : Md m [] [60, 129] h (sFi h 60 m 0) := md_sFi (by decide)
  have z1 : Md m [] [60] h (sFi h 60 m 0) := md_sFi (by decide)
  have f1 : Fi (sFi h 60 m 0) 60 m = 0 := Fi_same
  revert u1 z1 f1
  generalize sFi h 60 m 0 = h1
  intro u1 z1 f1
  have x1 : M0 h1 m O := x.md u1
  have y1 : MB h1 (m + 53) 0 O.nA B := y.md u1 (by decide)
  have t1 := t.md z1 (by decide) (by decide)
  have v1 : Md m (35 :: 53 :: 56 :: eA) [60, 129] h h1 := u1.mono (by simp) (fun _ q => q)
  have no : mayP O B v = false → Q (.inl (some (.int (-1)))) h1 := fun e => by
    rw [← hQ, e]
    exact ⟨rfl, v1, f1, y1, t1⟩
  simp (disch := first | assumption | omega | decide | rfl) only [w_X9_pick_5, w_X9_pick_6, w_X9_pick_7, mo_0 x1.mo, nl_int, nl_ref, nl_null, nl_un, nl_rf, nl_long, isR_ref, isR_null, isR_rf, rf_some, rf_none, rOf_ref, rOf_null, rOf_rf, kn_v, kn_0, true_and, and_true, and_self, tin, inA_x, inA_l, ix_add, ix_addl, ix_ladd, ix_mul, ix_mull, ix_lmul, ix_tn, lt_tn, Nat.reduceLeDiff, Nat.reduceLT, Nat.reduceAdd, Nat.reduceMul, true_or, or_true, ↓reduceIte, aOk, ref_null, null_null, false_or, Option.isSome_some, Option.getD_some, ite_true, ite_false, eq_self, not_false_eq_true, not_true_eq_false, cm_isApple x1]
  by_cases q1 : inN v O.nA = true
  · have d1 : (bz (inN v O.nA) = 0) = False := by rw [bz_ne]; exact eq_false (by rw [q1]; decide)
    obtain ⟨a, ha, rfl⟩ := inN_ex (by omega) q1
    have em : mayP O B (ix a) = (B.hang.testBit a && !B.pk) := by unfold mayP; rw [q1, tn_ix (by omega)]; rfl
    simp (disch := first | assumption | omega | decide | rfl) only [w_X9_pick_10, w_X9_pick_13, w_X9_pick_14, w_X9_pick_15, mo_0 x1.mo, nl_int, nl_ref, nl_null, nl_un, nl_rf, nl_long, isR_ref, isR_null, isR_rf, rf_some, rf_none, rOf_ref, rOf_null, rOf_rf, kn_v, kn_0, true_and, and_true, and_self, tin, inA_x, inA_l, ix_add, ix_addl, ix_ladd, ix_mul, ix_mull, ix_lmul, ix_tn, lt_tn, Nat.reduceLeDiff, Nat.reduceLT, Nat.reduceAdd, Nat.reduceMul, true_or, or_true, ↓reduceIte, aOk, ref_null, null_null, false_or, Option.isSome_some, Option.getD_some, ite_true, ite_false, eq_self, not_false_eq_true, not_true_eq_false, d1, cm_canPick x1.mo y1 hh (show a < 10 by omega)]
    by_cases q3 : (B.hang.testBit a && !B.pk) = true
    · have d3 : (bz (B.hang.testBit a && !B.pk) = 0) = False := by rw [bz_ne]; exact eq_false (by rw [q3]; decide)
      simp (disch := first | assumption | omega | decide | rfl) only [w_X9_pick_18, w_X9_pick_21, w_X9_pick_22, w_X9_pick_23, w_X9_pick_24, mo_0 x1.mo, nl_int, nl_ref, nl_null, nl_un, nl_rf, nl_long, isR_ref, isR_null, isR_rf, rf_some, rf_none, rOf_ref, rOf_null, rOf_rf, kn_v, kn_0, true_and, and_true, and_self, tin, inA_x, inA_l, ix_add, ix_addl, ix_ladd, ix_mul, ix_mull, ix_lmul, ix_tn, lt_tn, Nat.reduceLeDiff, Nat.reduceLT, Nat.reduceAdd, Nat.reduceMul, true_or, or_true, ↓reduceIte, aOk, ref_null, null_null, false_or, Option.isSome_some, Option.getD_some, ite_true, ite_false, eq_self, not_false_eq_true, not_true_eq_false, d3]
      refine ca_mono (cm_keeps x1.mo y1 n1 t1) ?_
      rintro r h2 ⟨rfl, u2, t2⟩
      have x2 : M0 h2 m O := x1.md u2
      have y2 := y1.md u2 (by decide)
      simp (disch := first | assumption | omega | decide | rfl) only [w_X9_pick_27, w_X9_pick_28, w_X9_pick_29, mo_0 x2.mo, nl_int, nl_ref, nl_null, nl_un, nl_rf, nl_long, isR_ref, isR_null, isR_rf, rf_some, rf_none, rOf_ref, rOf_null, rOf_rf, kn_v, kn_0, true_and, and_true, and_self, tin, inA_x, inA_l, ix_add, ix_addl, ix_ladd, ix_mul, ix_mull, ix_lmul, ix_tn, lt_tn, Nat.reduceLeDiff, Nat.reduceLT, Nat.reduceAdd, Nat.reduceMul, true_or, or_true, ↓reduceIte, aOk, ref_null, null_null, false_or, Option.isSome_some, Option.getD_some, ite_true, ite_false, eq_self, not_false_eq_true, not_true_eq_false]
      refine ca_mono (cm_picks x2 y2 ha) ?_
      rintro r h3 ⟨rfl, u3, y3⟩
      simp (disch := first | assumption | omega | decide | rfl) only [w_X9_pick_32, nl_int, nl_ref, nl_null, nl_un, nl_rf, nl_long, isR_ref, isR_null, isR_rf, rf_some, rf_none, rOf_ref, rOf_null, rOf_rf, kn_v, kn_0, true_and, and_true, and_self, tin, inA_x, inA_l, ix_add, ix_addl, ix_ladd, ix_mul, ix_mull, ix_lmul, ix_tn, lt_tn, Nat.reduceLeDiff, Nat.reduceLT, Nat.reduceAdd, Nat.reduceMul, true_or, or_true, ↓reduceIte, aOk, ref_null, null_null, false_or, Option.isSome_some, Option.getD_some, ite_true, ite_false, eq_self, not_false_eq_true, not_true_eq_false]
      rw [← hQ, em, q3, if_pos rfl, if_pos rfl, if_pos rfl, if_pos rfl, tn_ix (by omega)]
      exact ⟨rfl, (v1.trans u2 (by decide) (by decide)).trans u3 (by decide) (by decide), by rw [u3.fi (by decide), u2.fi (by decide)]; exact f1, y3, t2.md u3 (by decide) (by decide)⟩
    · have d3 : (bz (B.hang.testBit a && !B.pk) = 0) = True := by rw [bz_ne]; exact eq_true (Bool.not_eq_true _ ▸ q3)
      simp (disch := first | assumption | omega | decide | rfl) only [w_X9_pick_18, w_X9_pick_21, w_X9_pick_22, nl_int, nl_ref, nl_null, nl_un, nl_rf, nl_long, isR_ref, isR_null, isR_rf, rf_some, rf_none, rOf_ref, rOf_null, rOf_rf, kn_v, kn_0, true_and, and_true, and_self, tin, inA_x, inA_l, ix_add, ix_addl, ix_ladd, ix_mul, ix_mull, ix_lmul, ix_tn, lt_tn, Nat.reduceLeDiff, Nat.reduceLT, Nat.reduceAdd, Nat.reduceMul, true_or, or_true, ↓reduceIte, aOk, ref_null, null_null, false_or, Option.isSome_some, Option.getD_some, ite_true, ite_false, eq_self, not_false_eq_true, not_true_eq_false, d3]
      exact no (by rw [em]; exact Bool.not_eq_true _ ▸ q3)
  · have d1 : (bz (inN v O.nA) = 0) = True := by rw [bz_ne]; exact eq_true (Bool.not_eq_true _ ▸ q1)
    simp (disch := first | assumption | omega | decide | rfl) only [w_X9_pick_10, w_X9_pick_21, w_X9_pick_22, nl_int, nl_ref, nl_null, nl_un, nl_rf, nl_long, isR_ref, isR_null, isR_rf, rf_some, rf_none, rOf_ref, rOf_null, rOf_rf, kn_v, kn_0, true_and, and_true, and_self, tin, inA_x, inA_l, ix_add, ix_addl, ix_ladd, ix_mul, ix_mull, ix_lmul, ix_tn, lt_tn, Nat.reduceLeDiff, Nat.reduceLT, Nat.reduceAdd, Nat.reduceMul, true_or, or_true, ↓reduceIte, aOk, ref_null, null_null, false_or, Option.isSome_some, Option.getD_some, ite_true, ite_false, eq_self, not_false_eq_true, not_true_eq_false, d1]
    exact no (by unfold mayP; simp [q1])
end
