/-! THE MODEL: near, christen -/
set_option maxRecDepth 100000
noncomputable def neF (O : Oc) (u v w : Int32) : Int32 := if (inN u O.nS && inN v O.nS && decide (0 ≤ w ∧ w ≤ 3)) = true then (if w = 0 then ix (edF (O.sn (tn u)) (O.sn (tn v))) else if w = 1 then ix (stF (O.sn (tn u)) (O.sn (tn v))) else if w = 2 then ix (rhF (O.sn (tn u)) (O.sn (tn v))) else bz (nrF O.nr (O.sn (tn u)) (O.sn (tn v)))) else -1
noncomputable def mayN (O : Oc) (B : Bo) (u v : Int32) : Bool := inN u O.nA && inN v O.nS && (B.hang.testBit (tn u) && decide (B.day < ix (O.rp (tn u))) && !decide (B.snd (tn u) = tn v) && frF O.nA B (tn u) (tn v))
noncomputable def chB (B : Bo) (a s : Nat) : Bo := (B.hang, B.loose, fun j => if j = a then s else B.snd j, B.day, B.had, B.pk)
section
variable {d D m a b c p q s n k i j : Nat} {h h' : AH} {Q : Rs → AH → Prop} {O : Oc} {B : Bo} {A F : List Nat} {U : Nat → Bo} {u v w : Int32}
theorem wb_ch (z : WB O B) (hs : s < O.nS) : WB O (chB B a s) := by
  refine ⟨z.hang, z.loose, fun j hj => ?_⟩
  show (if j = a then s else B.snd j) < O.nS
  split
  · exact hs
  · exact z.snd j hj
theorem cm_near (x : M0 h m O) : Ca (D + 2) 187 [.ref m, .int u, .int v, .int w] h (fun r h' => r = .inl (some (.int (neF O u v w))) ∧ Md m [] [60] h h' ∧ Fi h' 60 m = 0) := by
  have n2 := x.wo.nS
  rw [e_X9_near]
  simp (disch := first | assumption | omega | decide | rfl) only [w_X9_near_0, w_X9_near_1, w_X9_near_2, mo_0 x.mo, nl_int, nl_ref, nl_null, nl_un, nl_rf, nl_long, isR_ref, isR_null, isR_rf, rf_some, rf_none, rOf_ref, rOf_null, rOf_rf, kn_v, kn_0, true_and, and_true, and_self, tin, inA_x, inA_l, ix_add, ix_addl, ix_ladd, ix_mul, ix_mull, ix_lmul, ix_tn, lt_tn, Nat.reduceLeDiff, Nat.reduceLT, Nat.reduceAdd, Nat.reduceMul, true_or, or_true, ↓reduceIte, aOk, ref_null, null_null, false_or, Option.isSome_some, Option.getD_some, ite_true, ite_false, eq_self, not_false_eq_true, not_true_eq_false]
  have u1 : Md m [] [60] h (sFi h 60 m 0) := md_sFi (by decide)
  have f1 : Fi (sFi h 60 m 0) 60 m = 0 := Fi_same
  revert u1 f1
  generalize sFi h 60 m 0 = h1
  intro u1 f1
  have x1 : M0 h1 m O := x.md u1
  have hm1 := x1.mo
  simp (disch := first | assumption | omega | decide | rfl) only [w_X9_near_5, w_X9_near_6, w_X9_near_7, mo_0 x1.mo, nl_int, nl_ref, nl_null, nl_un, nl_rf, nl_long, isR_ref, isR_null, isR_rf, rf_some, rf_none, rOf_ref, rOf_null, rOf_rf, kn_v, kn_0, true_and, and_true, and_self, tin, inA_x, inA_l, ix_add, ix_addl, ix_ladd, ix_mul, ix_mull, ix_lmul, ix_tn, lt_tn, Nat.reduceLeDiff, Nat.reduceLT, Nat.reduceAdd, Nat.reduceMul, true_or, or_true, ↓reduceIte, aOk, ref_null, null_null, false_or, Option.isSome_some, Option.getD_some, ite_true, ite_false, eq_self, not_false_eq_true, not_true_eq_false, cm_isSound x1]
  by_cases q1 : inN u O.nS = true
  · have d1 : (bz (inN u O.nS) = 0) = False := by rw [bz_ne]; exact eq_false (by rw [q1]; decide)
    simp (disch := first | assumption | omega | decide | rfl) only [w_X9_near_10, w_X9_near_13, w_X9_near_14, w_X9_near_15, mo_0 x1.mo, nl_int, nl_ref, nl_null, nl_un, nl_rf, nl_long, isR_ref, isR_null, isR_rf, rf_some, rf_none, rOf_ref, rOf_null, rOf_rf, kn_v, kn_0, true_and, and_true, and_self, tin, inA_x, inA_l, ix_add, ix_addl, ix_ladd, ix_mul, ix_mull, ix_lmul, ix_tn, lt_tn, Nat.reduceLeDiff, Nat.reduceLT, Nat.reduceAdd, Nat.reduceMul, true_or, or_true, ↓reduceIte, aOk, ref_null, null_null, false_or, Option.isSome_some, Option.getD_some, ite_true, ite_false, eq_self, not_false_eq_true, not_true_eq_false, d1, cm_isSound x1]
    by_cases q2 : inN v O.nS = true
    · have d2 : (bz (inN v O.nS) = 0) = False := by rw [bz_ne]; exact eq_false (by rw [q2]; decide)
      obtain ⟨a, ha, rfl⟩ := inN_ex (by omega) q1
      obtain ⟨b, hb, rfl⟩ := inN_ex (by omega) q2
      simp (disch := first | assumption | omega | decide | rfl) only [w_X9_near_18, w_X9_near_21, w_X9_near_22, w_X9_near_23, w_X9_near_24, nl_int, nl_ref, nl_null, nl_un, nl_rf, nl_long, isR_ref, isR_null, isR_rf, rf_some, rf_none, rOf_ref, rOf_null, rOf_rf, kn_v, kn_0, true_and, and_true, and_self, tin, inA_x, inA_l, ix_add, ix_addl, ix_ladd, ix_mul, ix_mull, ix_lmul, ix_tn, lt_tn, Nat.reduceLeDiff, Nat.reduceLT, Nat.reduceAdd, Nat.reduceMul, true_or, or_true, ↓reduceIte, aOk, ref_null, null_null, false_or, Option.isSome_some, Option.getD_some, ite_true, ite_false, eq_self, not_false_eq_true, not_true_eq_false, d2, cm_within]
      by_cases q3 : 0 ≤ w ∧ w ≤ 3
      · have d3 : (bz (decide (0 ≤ w ∧ w ≤ 3)) = 0) = False := by rw [bz_ne]; exact eq_false (by rw [decide_eq_true q3]; decide)
        have es : neF O (ix a) (ix b) w = (if w = 0 then ix (edF (O.sn a) (O.sn b)) else if w = 1 then ix (stF (O.sn a) (O.sn b)) else if w = 2 then ix (rhF (O.sn a) (O.sn b)) else bz (nrF O.nr (O.sn a) (O.sn b))) := by
          unfold neF; rw [q1, q2, decide_eq_true q3, if_pos (by rfl), tn_ix (by omega), tn_ix (by omega)]
        rw [es]
        have g1 := x1.nt.ed a b ha hb
        have g2 := x1.nt.st a b ha hb
        have g3 := x1.nt.rh a b ha hb
        have g4 := x1.nt.nr a b ha hb
        simp (disch := first | assumption | omega | decide | rfl) only [w_X9_near_27, w_X9_near_30, w_X9_near_31, w_X9_near_32, w_X9_near_34, w_X9_near_35, w_X9_near_36, w_X9_near_37, w_X9_near_38, nl_int, nl_ref, nl_null, nl_un, nl_rf, nl_long, isR_ref, isR_null, isR_rf, rf_some, rf_none, rOf_ref, rOf_null, rOf_rf, kn_v, kn_0, true_and, and_true, and_self, tin, inA_x, inA_l, ix_add, ix_addl, ix_ladd, ix_mul, ix_mull, ix_lmul, ix_tn, lt_tn, Nat.reduceLeDiff, Nat.reduceLT, Nat.reduceAdd, Nat.reduceMul, true_or, or_true, ↓reduceIte, aOk, ref_null, null_null, false_or, Option.isSome_some, Option.getD_some, ite_true, ite_false, eq_self, not_false_eq_true, not_true_eq_false, d3]
        by_cases p0 : w = 0
        · have d4 : (w = 0) = True := eq_true p0
          simp (disch := first | assumption | omega | decide | rfl) only [w_X9_near_40, w_X9_near_41, w_X9_near_44, w_X9_near_45, w_X9_near_48, w_X9_near_50, w_X9_near_51, w_X9_near_99, mo_0 hm1, mo_edits hm1, mt_edits hm1, ml_edits hm1, mo_startOf hm1, mt_startOf hm1, ml_startOf hm1, mo_rhymeOf hm1, mt_rhymeOf hm1, ml_rhymeOf hm1, mo_isNear hm1, mt_isNear hm1, ml_isNear hm1, nl_int, nl_ref, nl_null, nl_un, nl_rf, nl_long, isR_ref, isR_null, isR_rf, rf_some, rf_none, rOf_ref, rOf_null, rOf_rf, kn_v, kn_0, true_and, and_true, and_self, tin, inA_x, inA_l, ix_add, ix_addl, ix_ladd, ix_mul, ix_mull, ix_lmul, ix_tn, lt_tn, Nat.reduceLeDiff, Nat.reduceLT, Nat.reduceAdd, Nat.reduceMul, true_or, or_true, ↓reduceIte, aOk, ref_null, null_null, false_or, Option.isSome_some, Option.getD_some, ite_true, ite_false, eq_self, not_false_eq_true, not_true_eq_false, d4, g1]
          exact ⟨u1, f1⟩
        · have d4 : (w = 0) = False := eq_false p0
          by_cases p1 : w = 1
          · have d5 : (w = 1) = True := eq_true p1
            simp (disch := first | assumption | omega | decide | rfl) only [w_X9_near_40, w_X9_near_41, w_X9_near_44, w_X9_near_45, w_X9_near_48, w_X9_near_50, w_X9_near_51, w_X9_near_54, w_X9_near_55, w_X9_near_56, w_X9_near_59, w_X9_near_60, w_X9_near_63, w_X9_near_65, w_X9_near_66, w_X9_near_99, mo_0 hm1, mo_edits hm1, mt_edits hm1, ml_edits hm1, mo_startOf hm1, mt_startOf hm1, ml_startOf hm1, mo_rhymeOf hm1, mt_rhymeOf hm1, ml_rhymeOf hm1, mo_isNear hm1, mt_isNear hm1, ml_isNear hm1, nl_int, nl_ref, nl_null, nl_un, nl_rf, nl_long, isR_ref, isR_null, isR_rf, rf_some, rf_none, rOf_ref, rOf_null, rOf_rf, kn_v, kn_0, true_and, and_true, and_self, tin, inA_x, inA_l, ix_add, ix_addl, ix_ladd, ix_mul, ix_mull, ix_lmul, ix_tn, lt_tn, Nat.reduceLeDiff, Nat.reduceLT, Nat.reduceAdd, Nat.reduceMul, true_or, or_true, ↓reduceIte, aOk, ref_null, null_null, false_or, Option.isSome_some, Option.getD_some, ite_true, ite_false, eq_self, not_false_eq_true, not_true_eq_false, d4, d5, g2]
            exact ⟨u1, f1⟩
          · have d5 : (w = 1) = False := eq_false p1
            by_cases p2 : w = 2
            · have d6 : (w = 2) = True := eq_true p2
              simp (disch := first | assumption | omega | decide | rfl) only [w_X9_near_40, w_X9_near_41, w_X9_near_44, w_X9_near_45, w_X9_near_48, w_X9_near_50, w_X9_near_51, w_X9_near_54, w_X9_near_55, w_X9_near_56, w_X9_near_59, w_X9_near_60, w_X9_near_63, w_X9_near_65, w_X9_near_66, w_X9_near_69, w_X9_near_70, w_X9_near_71, w_X9_near_74, w_X9_near_75, w_X9_near_78, w_X9_near_80, w_X9_near_81, w_X9_near_99, mo_0 hm1, mo_edits hm1, mt_edits hm1, ml_edits hm1, mo_startOf hm1, mt_startOf hm1, ml_startOf hm1, mo_rhymeOf hm1, mt_rhymeOf hm1, ml_rhymeOf hm1, mo_isNear hm1, mt_isNear hm1, ml_isNear hm1, nl_int, nl_ref, nl_null, nl_un, nl_rf, nl_long, isR_ref, isR_null, isR_rf, rf_some, rf_none, rOf_ref, rOf_null, rOf_rf, kn_v, kn_0, true_and, and_true, and_self, tin, inA_x, inA_l, ix_add, ix_addl, ix_ladd, ix_mul, ix_mull, ix_lmul, ix_tn, lt_tn, Nat.reduceLeDiff, Nat.reduceLT, Nat.reduceAdd, Nat.reduceMul, true_or, or_true, ↓reduceIte, aOk, ref_null, null_null, false_or, Option.isSome_some, Option.getD_some, ite_true, ite_false, eq_self, not_false_eq_true, not_true_eq_false, d4, d5, d6, g3]
              exact ⟨u1, f1⟩
            · have d6 : (w = 2) = False := eq_false p2
              cases e : nrF O.nr (O.sn a) (O.sn b) with
              | false =>
                rw [e] at g4
                have d7 : (bz false = 0) = True := eq_true rfl
                simp (disch := first | assumption | omega | decide | rfl) only [w_X9_near_40, w_X9_near_41, w_X9_near_44, w_X9_near_45, w_X9_near_48, w_X9_near_50, w_X9_near_51, w_X9_near_54, w_X9_near_55, w_X9_near_56, w_X9_near_59, w_X9_near_60, w_X9_near_63, w_X9_near_65, w_X9_near_66, w_X9_near_69, w_X9_near_70, w_X9_near_71, w_X9_near_74, w_X9_near_75, w_X9_near_78, w_X9_near_80, w_X9_near_81, w_X9_near_84, w_X9_near_85, w_X9_near_88, w_X9_near_90, w_X9_near_91, w_X9_near_94, w_X9_near_95, w_X9_near_98, w_X9_near_99, mo_0 hm1, mo_edits hm1, mt_edits hm1, ml_edits hm1, mo_startOf hm1, mt_startOf hm1, ml_startOf hm1, mo_rhymeOf hm1, mt_rhymeOf hm1, ml_rhymeOf hm1, mo_isNear hm1, mt_isNear hm1, ml_isNear hm1, nl_int, nl_ref, nl_null, nl_un, nl_rf, nl_long, isR_ref, isR_null, isR_rf, rf_some, rf_none, rOf_ref, rOf_null, rOf_rf, kn_v, kn_0, true_and, and_true, and_self, tin, inA_x, inA_l, ix_add, ix_addl, ix_ladd, ix_mul, ix_mull, ix_lmul, ix_tn, lt_tn, Nat.reduceLeDiff, Nat.reduceLT, Nat.reduceAdd, Nat.reduceMul, true_or, or_true, ↓reduceIte, aOk, ref_null, null_null, false_or, Option.isSome_some, Option.getD_some, ite_true, ite_false, eq_self, not_false_eq_true, not_true_eq_false, d4, d5, d6, d7, g4]
                exact ⟨rfl, u1, f1⟩
              | true =>
                rw [e] at g4
                have d7 : (bz true = 0) = False := eq_false (by decide)
                simp (disch := first | assumption | omega | decide | rfl) only [w_X9_near_40, w_X9_near_41, w_X9_near_44, w_X9_near_45, w_X9_near_48, w_X9_near_50, w_X9_near_51, w_X9_near_54, w_X9_near_55, w_X9_near_56, w_X9_near_59, w_X9_near_60, w_X9_near_63, w_X9_near_65, w_X9_near_66, w_X9_near_69, w_X9_near_70, w_X9_near_71, w_X9_near_74, w_X9_near_75, w_X9_near_78, w_X9_near_80, w_X9_near_81, w_X9_near_84, w_X9_near_85, w_X9_near_88, w_X9_near_90, w_X9_near_91, w_X9_near_94, w_X9_near_95, w_X9_near_98, w_X9_near_99, mo_0 hm1, mo_edits hm1, mt_edits hm1, ml_edits hm1, mo_startOf hm1, mt_startOf hm1, ml_startOf hm1, mo_rhymeOf hm1, mt_rhymeOf hm1, ml_rhymeOf hm1, mo_isNear hm1, mt_isNear hm1, ml_isNear hm1, nl_int, nl_ref, nl_null, nl_un, nl_rf, nl_long, isR_ref, isR_null, isR_rf, rf_some, rf_none, rOf_ref, rOf_null, rOf_rf, kn_v, kn_0, true_and, and_true, and_self, tin, inA_x, inA_l, ix_add, ix_addl, ix_ladd, ix_mul, ix_mull, ix_lmul, ix_tn, lt_tn, Nat.reduceLeDiff, Nat.reduceLT, Nat.reduceAdd, Nat.reduceMul, true_or, or_true, ↓reduceIte, aOk, ref_null, null_null, false_or, Option.isSome_some, Option.getD_some, ite_true, ite_false, eq_self, not_false_eq_true, not_true_eq_false, d4, d5, d6, d7, g4]
                exact ⟨rfl, u1, f1⟩
      · have d3 : (bz (decide (0 ≤ w ∧ w ≤ 3)) = 0) = True := by rw [bz_ne]; exact eq_true (decide_eq_false q3)
        simp (disch := first | assumption | omega | decide | rfl) only [w_X9_near_27, w_X9_near_30, w_X9_near_31, nl_int, nl_ref, nl_null, nl_un, nl_rf, nl_long, isR_ref, isR_null, isR_rf, rf_some, rf_none, rOf_ref, rOf_null, rOf_rf, kn_v, kn_0, true_and, and_true, and_self, tin, inA_x, inA_l, ix_add, ix_addl, ix_ladd, ix_mul, ix_mull, ix_lmul, ix_tn, lt_tn, Nat.reduceLeDiff, Nat.reduceLT, Nat.reduceAdd, Nat.reduceMul, true_or, or_true, ↓reduceIte, aOk, ref_null, null_null, false_or, Option.isSome_some, Option.getD_some, ite_true, ite_false, eq_self, not_false_eq_true, not_true_eq_false, d3]
        exact ⟨by unfold neF; rw [decide_eq_false q3, if_neg (by simp)], u1, f1⟩
    · have d2 : (bz (inN v O.nS) = 0) = True := by rw [bz_ne]; exact eq_true (Bool.not_eq_true _ ▸ q2)
      simp (disch := first | assumption | omega | decide | rfl) only [w_X9_near_18, w_X9_near_30, w_X9_near_31, nl_int, nl_ref, nl_null, nl_un, nl_rf, nl_long, isR_ref, isR_null, isR_rf, rf_some, rf_none, rOf_ref, rOf_null, rOf_rf, kn_v, kn_0, true_and, and_true, and_self, tin, inA_x, inA_l, ix_add, ix_addl, ix_ladd, ix_mul, ix_mull, ix_lmul, ix_tn, lt_tn, Nat.reduceLeDiff, Nat.reduceLT, Nat.reduceAdd, Nat.reduceMul, true_or, or_true, ↓reduceIte, aOk, ref_null, null_null, false_or, Option.isSome_some, Option.getD_some, ite_true, ite_false, eq_self, not_false_eq_true, not_true_eq_false, d2]
      exact ⟨by unfold neF; rw [if_neg (by simp [q2])], u1, f1⟩
  · have d1 : (bz (inN u O.nS) = 0) = True := by rw [bz_ne]; exact eq_true (Bool.not_eq_true _ ▸ q1)
    simp (disch := first | assumption | omega | decide | rfl) only [w_X9_near_10, w_X9_near_30, w_X9_near_31, nl_int, nl_ref, nl_null, nl_un, nl_rf, nl_long, isR_ref, isR_null, isR_rf, rf_some, rf_none, rOf_ref, rOf_null, rOf_rf, kn_v, kn_0, true_and, and_true, and_self, tin, inA_x, inA_l, ix_add, ix_addl, ix_ladd, ix_mul, ix_mull, ix_lmul, ix_tn, lt_tn, Nat.reduceLeDiff, Nat.reduceLT, Nat.reduceAdd, Nat.reduceMul, true_or, or_true, ↓reduceIte, aOk, ref_null, null_null, false_or, Option.isSome_some, Option.getD_some, ite_true, ite_false, eq_self, not_false_eq_true, not_true_eq_false, d1]
    exact ⟨by unfold neF; rw [if_neg (by simp [q1])], u1, f1⟩
theorem cm_christen (x : M0 h m O) (y : MB h (m + 53) 0 O.nA B) (z : WB O B) (t : MU h m O.nA c U) : Ca (D + 3) 207 [.ref m, .int u, .int v] h (fun r h' => r = .inl (some (.int (bz (mayN O B u v)))) ∧ Md m [53, 56] [60, 129] h h' ∧ Fi h' 60 m = 0 ∧ MB h' (m + 53) 0 O.nA (if mayN O B u v = true then chB B (tn u) (tn v) else B) ∧ MU h' m O.nA (if mayN O B u v = true then kpN c else c) (if mayN O B u v = true then kpU U c B else U)) := by
  have n1 := x.wo.nA
  have n2 := x.wo.nS
  have hh := z.lt x.wo
  generalize hQ : (fun r h' => r = .inl (some (.int (bz (mayN O B u v)))) ∧ Md m [53, 56] [60, 129] h h' ∧ Fi h' 60 m = 0 ∧ MB h' (m + 53) 0 O.nA (if mayN O B u v = true then chB B (tn u) (tn v) else B) ∧ MU h' m O.nA (if mayN O B u v = true then kpN c else c) (if mayN O B u v = true then kpU U c B else U) : Rs → AH → Prop) = Q
  rw [e_X9_christen]
  simp (disch := first | assumption | omega | decide | rfl) only [w_X9_christen_0, w_X9_christen_1, w_X9_christen_2, mo_0 x.mo, nl_int, nl_ref, nl_null, nl_un, nl_rf, nl_long, isR_ref, isR_null, isR_rf, rf_some, rf_none, rOf_ref, rOf_null, rOf_rf, kn_v, kn_0, true_and, and_true, and_self, tin, inA_x, inA_l, ix_add, ix_addl, ix_ladd, ix_mul, ix_mull, ix_lmul, ix_tn, lt_tn, Nat.reduceLeDiff, Nat.reduceLT, Nat.reduceAdd, Nat.reduceMul, true_or, or_true, ↓reduceIte, aOk, ref_null, null_null, false_or, Option.isSome_some, Option.getD_some, ite_true, ite_false, eq_self, not_false_eq_true, not_true_eq_false]
  have u1 : Md m [] [60, 129] h (sFi h 60 m 0) := md_sFi (by decide)
  have z1 : Md m [] [60] h (sFi h 60 m 0) := md_sFi (by decide)
  have f1 : Fi (sFi h 60 m 0) 60 m = 0 := Fi_same
  revert u1 z1 f1
  generalize sFi h 60 m 0 = h1
  intro u1 z1 f1
  have x1 : M0 h1 m O := x.md u1
  have hm1 := x1.mo
  have y1 : MB h1 (m + 53) 0 O.nA B := y.md u1 (by decide)
  have t1 := t.md z1 (by decide) (by decide)
  have v1 : Md m [53, 56] [60, 129] h h1 := u1.mono (by simp) (fun _ q => q)
  have no : mayN O B u v = false → Q (.inl (some (.int 0))) h1 := fun e => by
    rw [← hQ, e]
    exact ⟨rfl, v1, f1, y1, t1⟩
  simp (disch := first | assumption | omega | decide | rfl) only [w_X9_christen_5, w_X9_christen_6, w_X9_christen_7, mo_0 x1.mo, nl_int, nl_ref, nl_null, nl_un, nl_rf, nl_long, isR_ref, isR_null, isR_rf, rf_some, rf_none, rOf_ref, rOf_null, rOf_rf, kn_v, kn_0, true_and, and_true, and_self, tin, inA_x, inA_l, ix_add, ix_addl, ix_ladd, ix_mul, ix_mull, ix_lmul, ix_tn, lt_tn, Nat.reduceLeDiff, Nat.reduceLT, Nat.reduceAdd, Nat.reduceMul, true_or, or_true, ↓reduceIte, aOk, ref_null, null_null, false_or, Option.isSome_some, Option.getD_some, ite_true, ite_false, eq_self, not_false_eq_true, not_true_eq_false, cm_isApple x1]
  by_cases q1 : inN u O.nA = true
  · have d1 : (bz (inN u O.nA) = 0) = False := by rw [bz_ne]; exact eq_false (by rw [q1]; decide)
    simp (disch := first | assumption | omega | decide | rfl) only [w_X9_christen_10, w_X9_christen_13, w_X9_christen_14, w_X9_christen_15, mo_0 x1.mo, nl_int, nl_ref, nl_null, nl_un, nl_rf, nl_long, isR_ref, isR_null, isR_rf, rf_some, rf_none, rOf_ref, rOf_null, rOf_rf, kn_v, kn_0, true_and, and_true, and_self, tin, inA_x, inA_l, ix_add, ix_addl, ix_ladd, ix_mul, ix_mull, ix_lmul, ix_tn, lt_tn, Nat.reduceLeDiff, Nat.reduceLT, Nat.reduceAdd, Nat.reduceMul, true_or, or_true, ↓reduceIte, aOk, ref_null, null_null, false_or, Option.isSome_some, Option.getD_some, ite_true, ite_false, eq_self, not_false_eq_true, not_true_eq_false, d1, cm_isSound x1]
    by_cases q2 : inN v O.nS = true
    · have d2 : (bz (inN v O.nS) = 0) = False := by rw [bz_ne]; exact eq_false (by rw [q2]; decide)
      obtain ⟨a, ha, rfl⟩ := inN_ex (by omega) q1
      obtain ⟨b, hb, rfl⟩ := inN_ex (by omega) q2
      have em : mayN O B (ix a) (ix b) = (B.hang.testBit a && decide (B.day < ix (O.rp a)) && !decide (B.snd a = b) && frF O.nA B a b) := by unfold mayN; rw [q1, q2, tn_ix (by omega), tn_ix (by omega)]; rfl
      have g1 := y1.hang
      have g3 := y1.day
      have g6 := y1.snd a ha
      have g7 := x1.mr.rp a ha
      have b6 := z.snd a ha
      rw [Nat.zero_add] at g3 g6
      rw [Nat.mul_zero, Nat.zero_add] at g7
      simp (disch := first | assumption | omega | decide | rfl) only [w_X9_christen_18, w_X9_christen_21, w_X9_christen_22, w_X9_christen_23, mo_0 x1.mo, nl_int, nl_ref, nl_null, nl_un, nl_rf, nl_long, isR_ref, isR_null, isR_rf, rf_some, rf_none, rOf_ref, rOf_null, rOf_rf, kn_v, kn_0, true_and, and_true, and_self, tin, inA_x, inA_l, ix_add, ix_addl, ix_ladd, ix_mul, ix_mull, ix_lmul, ix_tn, lt_tn, Nat.reduceLeDiff, Nat.reduceLT, Nat.reduceAdd, Nat.reduceMul, true_or, or_true, ↓reduceIte, aOk, ref_null, null_null, false_or, Option.isSome_some, Option.getD_some, ite_true, ite_false, eq_self, not_false_eq_true, not_true_eq_false, d2, cm_hangs hm1 g1 hh (show a < 10 by omega)]
      by_cases q3 : B.hang.testBit a = true
      · have d3 : (bz (B.hang.testBit a) = 0) = False := by rw [bz_ne]; exact eq_false (by rw [q3]; decide)
        by_cases q4 : B.day < ix (O.rp a)
        · by_cases q5 : B.snd a = b
          · have d5 : (ix (B.snd a) = ix b) = True := by rw [q5]; exact eq_true rfl
            simp (disch := first | assumption | omega | decide | rfl) only [w_X9_christen_26, w_X9_christen_29, w_X9_christen_30, w_X9_christen_33, w_X9_christen_34, w_X9_christen_35, w_X9_christen_36, w_X9_christen_39, w_X9_christen_40, w_X9_christen_41, w_X9_christen_44, w_X9_christen_45, w_X9_christen_48, w_X9_christen_49, w_X9_christen_50, w_X9_christen_51, w_X9_christen_52, w_X9_christen_53, w_X9_christen_65, w_X9_christen_66, mo_0 hm1, mo_s hm1, mt_s hm1, ml_s hm1, mo_ripe hm1, mt_ripe hm1, ml_ripe hm1, nl_int, nl_ref, nl_null, nl_un, nl_rf, nl_long, isR_ref, isR_null, isR_rf, rf_some, rf_none, rOf_ref, rOf_null, rOf_rf, kn_v, kn_0, true_and, and_true, and_self, tin, inA_x, inA_l, ix_add, ix_addl, ix_ladd, ix_mul, ix_mull, ix_lmul, ix_tn, lt_tn, Nat.reduceLeDiff, Nat.reduceLT, Nat.reduceAdd, Nat.reduceMul, true_or, or_true, ↓reduceIte, aOk, ref_null, null_null, false_or, Option.isSome_some, Option.getD_some, ite_true, ite_false, eq_self, not_false_eq_true, not_true_eq_false, d3, q4, d5, g3, g6, g7]
            exact no (by rw [em]; simp [q5])
          · have d5 : (ix (B.snd a) = ix b) = False := by rw [ix_eq (by omega) (by omega)]; exact eq_false q5
            simp (disch := first | assumption | omega | decide | rfl) only [w_X9_christen_26, w_X9_christen_29, w_X9_christen_30, w_X9_christen_33, w_X9_christen_34, w_X9_christen_35, w_X9_christen_36, w_X9_christen_39, w_X9_christen_40, w_X9_christen_41, w_X9_christen_44, w_X9_christen_45, w_X9_christen_48, w_X9_christen_49, w_X9_christen_50, w_X9_christen_51, w_X9_christen_52, w_X9_christen_53, w_X9_christen_56, w_X9_christen_57, w_X9_christen_58, w_X9_christen_59, mo_0 hm1, mo_s hm1, mt_s hm1, ml_s hm1, mo_ripe hm1, mt_ripe hm1, ml_ripe hm1, nl_int, nl_ref, nl_null, nl_un, nl_rf, nl_long, isR_ref, isR_null, isR_rf, rf_some, rf_none, rOf_ref, rOf_null, rOf_rf, kn_v, kn_0, true_and, and_true, and_self, tin, inA_x, inA_l, ix_add, ix_addl, ix_ladd, ix_mul, ix_mull, ix_lmul, ix_tn, lt_tn, Nat.reduceLeDiff, Nat.reduceLT, Nat.reduceAdd, Nat.reduceMul, true_or, or_true, ↓reduceIte, aOk, ref_null, null_null, false_or, Option.isSome_some, Option.getD_some, ite_true, ite_false, eq_self, not_false_eq_true, not_true_eq_false, d3, q4, d5, g3, g6, g7, cm_isFree x1 y1 z hb ha]
            by_cases q6 : frF O.nA B a b = true
            · have d6 : (bz (frF O.nA B a b) = 0) = False := by rw [bz_ne]; exact eq_false (by rw [q6]; decide)
              simp (disch := first | assumption | omega | decide | rfl) only [w_X9_christen_62, w_X9_christen_65, w_X9_christen_66, w_X9_christen_67, w_X9_christen_68, mo_0 x1.mo, nl_int, nl_ref, nl_null, nl_un, nl_rf, nl_long, isR_ref, isR_null, isR_rf, rf_some, rf_none, rOf_ref, rOf_null, rOf_rf, kn_v, kn_0, true_and, and_true, and_self, tin, inA_x, inA_l, ix_add, ix_addl, ix_ladd, ix_mul, ix_mull, ix_lmul, ix_tn, lt_tn, Nat.reduceLeDiff, Nat.reduceLT, Nat.reduceAdd, Nat.reduceMul, true_or, or_true, ↓reduceIte, aOk, ref_null, null_null, false_or, Option.isSome_some, Option.getD_some, ite_true, ite_false, eq_self, not_false_eq_true, not_true_eq_false, d6]
              refine ca_mono (cm_keeps x1.mo y1 n1 t1) ?_
              rintro r h2 ⟨rfl, u2, t2⟩
              have hm2 := u2.mo hm1
              obtain ⟨k1, k2, k3, k4, k5, k6⟩ := y1.md u2 (by decide)
              simp only [Nat.zero_add] at k1 k2 k3 k4 k5 k6
              simp (disch := first | assumption | omega | decide | rfl) only [w_X9_christen_71, w_X9_christen_72, w_X9_christen_75, w_X9_christen_76, w_X9_christen_77, w_X9_christen_78, w_X9_christen_79, w_X9_christen_80, w_X9_christen_81, mo_0 hm2, mo_s hm2, mt_s hm2, ml_s hm2, mo_ripe hm2, mt_ripe hm2, ml_ripe hm2, nl_int, nl_ref, nl_null, nl_un, nl_rf, nl_long, isR_ref, isR_null, isR_rf, rf_some, rf_none, rOf_ref, rOf_null, rOf_rf, kn_v, kn_0, true_and, and_true, and_self, tin, inA_x, inA_l, ix_add, ix_addl, ix_ladd, ix_mul, ix_mull, ix_lmul, ix_tn, lt_tn, Nat.reduceLeDiff, Nat.reduceLT, Nat.reduceAdd, Nat.reduceMul, true_or, or_true, ↓reduceIte, aOk, ref_null, null_null, false_or, Option.isSome_some, Option.getD_some, ite_true, ite_false, eq_self, not_false_eq_true, not_true_eq_false]
              have em2 : mayN O B (ix a) (ix b) = true := by rw [em]; simp [q3, q4, q5, q6]
              rw [← hQ, em2, if_pos rfl, if_pos rfl, if_pos rfl, tn_ix (by omega), tn_ix (by omega)]
              refine ⟨rfl, (v1.trans u2 (by decide) (by decide)).trans (md_sAi (A := [53, 56]) (F := [60, 129]) (by simp)) (fun _ q => q) (fun _ q => q), by rw [Fi_sAi, u2.fi (by decide)]; exact f1, ?_, t2.md (md_sAi (A := [53]) (F := []) (by simp)) (by decide) (by simp)⟩
              unfold MB
              simp only [Ai_same, Nat.zero_add]
              refine ⟨?_, ?_, ?_, ?_, ?_, fun j hj => ?_⟩
              · rw [upd_n (by omega)]; exact k1
              · rw [upd_n (by omega)]; exact k2
              · rw [upd_n (by omega)]; exact k3
              · rw [upd_n (by omega)]; exact k4
              · rw [upd_n (by omega)]; exact k5
              · show _ = ix (if j = a then b else B.snd j)
                by_cases e : j = a
                · subst e; rw [if_pos rfl]; exact upd_s
                · rw [if_neg e, upd_n (by omega)]; exact k6 j hj
            · have d6 : (bz (frF O.nA B a b) = 0) = True := by rw [bz_ne]; exact eq_true (Bool.not_eq_true _ ▸ q6)
              simp (disch := first | assumption | omega | decide | rfl) only [w_X9_christen_62, w_X9_christen_65, w_X9_christen_66, nl_int, nl_ref, nl_null, nl_un, nl_rf, nl_long, isR_ref, isR_null, isR_rf, rf_some, rf_none, rOf_ref, rOf_null, rOf_rf, kn_v, kn_0, true_and, and_true, and_self, tin, inA_x, inA_l, ix_add, ix_addl, ix_ladd, ix_mul, ix_mull, ix_lmul, ix_tn, lt_tn, Nat.reduceLeDiff, Nat.reduceLT, Nat.reduceAdd, Nat.reduceMul, true_or, or_true, ↓reduceIte, aOk, ref_null, null_null, false_or, Option.isSome_some, Option.getD_some, ite_true, ite_false, eq_self, not_false_eq_true, not_true_eq_false, d6]
              exact no (by rw [em]; simp [q6])
        · simp (disch := first | assumption | omega | decide | rfl) only [w_X9_christen_26, w_X9_christen_29, w_X9_christen_30, w_X9_christen_33, w_X9_christen_34, w_X9_christen_35, w_X9_christen_36, w_X9_christen_39, w_X9_christen_40, w_X9_christen_41, w_X9_christen_65, w_X9_christen_66, mo_0 hm1, mo_s hm1, mt_s hm1, ml_s hm1, mo_ripe hm1, mt_ripe hm1, ml_ripe hm1, nl_int, nl_ref, nl_null, nl_un, nl_rf, nl_long, isR_ref, isR_null, isR_rf, rf_some, rf_none, rOf_ref, rOf_null, rOf_rf, kn_v, kn_0, true_and, and_true, and_self, tin, inA_x, inA_l, ix_add, ix_addl, ix_ladd, ix_mul, ix_mull, ix_lmul, ix_tn, lt_tn, Nat.reduceLeDiff, Nat.reduceLT, Nat.reduceAdd, Nat.reduceMul, true_or, or_true, ↓reduceIte, aOk, ref_null, null_null, false_or, Option.isSome_some, Option.getD_some, ite_true, ite_false, eq_self, not_false_eq_true, not_true_eq_false, d3, q4, g3, g7]
          exact no (by rw [em]; simp [q4])
      · have d3 : (bz (B.hang.testBit a) = 0) = True := by rw [bz_ne]; exact eq_true (Bool.not_eq_true _ ▸ q3)
        simp (disch := first | assumption | omega | decide | rfl) only [w_X9_christen_26, w_X9_christen_65, w_X9_christen_66, nl_int, nl_ref, nl_null, nl_un, nl_rf, nl_long, isR_ref, isR_null, isR_rf, rf_some, rf_none, rOf_ref, rOf_null, rOf_rf, kn_v, kn_0, true_and, and_true, and_self, tin, inA_x, inA_l, ix_add, ix_addl, ix_ladd, ix_mul, ix_mull, ix_lmul, ix_tn, lt_tn, Nat.reduceLeDiff, Nat.reduceLT, Nat.reduceAdd, Nat.reduceMul, true_or, or_true, ↓reduceIte, aOk, ref_null, null_null, false_or, Option.isSome_some, Option.getD_some, ite_true, ite_false, eq_self, not_false_eq_true, not_true_eq_false, d3]
        exact no (by rw [em]; simp [q3])
    · have d2 : (bz (inN v O.nS) = 0) = True := by rw [bz_ne]; exact eq_true (Bool.not_eq_true _ ▸ q2)
      simp (disch := first | assumption | omega | decide | rfl) only [w_X9_christen_18, w_X9_christen_65, w_X9_christen_66, nl_int, nl_ref, nl_null, nl_un, nl_rf, nl_long, isR_ref, isR_null, isR_rf, rf_some, rf_none, rOf_ref, rOf_null, rOf_rf, kn_v, kn_0, true_and, and_true, and_self, tin, inA_x, inA_l, ix_add, ix_addl, ix_ladd, ix_mul, ix_mull, ix_lmul, ix_tn, lt_tn, Nat.reduceLeDiff, Nat.reduceLT, Nat.reduceAdd, Nat.reduceMul, true_or, or_true, ↓reduceIte, aOk, ref_null, null_null, false_or, Option.isSome_some, Option.getD_some, ite_true, ite_false, eq_self, not_false_eq_true, not_true_eq_false, d2]
      exact no (by unfold mayN; simp [q2])
  · have d1 : (bz (inN u O.nA) = 0) = True := by rw [bz_ne]; exact eq_true (Bool.not_eq_true _ ▸ q1)
    simp (disch := first | assumption | omega | decide | rfl) only [w_X9_christen_10, w_X9_christen_65, w_X9_christen_66, nl_int, nl_ref, nl_null, nl_un, nl_rf, nl_long, isR_ref, isR_null, isR_rf, rf_some, rf_none, rOf_ref, rOf_null, rOf_rf, kn_v, kn_0, true_and, and_true, and_self, tin, inA_x, inA_l, ix_add, ix_addl, ix_ladd, ix_mul, ix_mull, ix_lmul, ix_tn, lt_tn, Nat.reduceLeDiff, Nat.reduceLT, Nat.reduceAdd, Nat.reduceMul, true_or, or_true, ↓reduceIte, aOk, ref_null, null_null, false_or, Option.isSome_some, Option.getD_some, ite_true, ite_false, eq_self, not_false_eq_true, not_true_eq_false, d1]
    exact no (by unfold mayN; simp [q1])
end
