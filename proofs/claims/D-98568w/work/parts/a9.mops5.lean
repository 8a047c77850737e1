/-! THE MODEL: tell -/
set_option maxRecDepth 100000
noncomputable def mayT (O : Oc) (T : To) (u v : Int32) : Bool := inN u O.nS && inN v O.nS && !decide (T.1 = 12)
noncomputable def teF (T : To) (a b : Nat) (t : Bool) : To := (T.1 + 1, fun k j => if j = T.1 then (if k = 0 then a else if k = 1 then b else (if t = true then 1 else 0)) else T.2 k j)
section
variable {d D m a b c p q s n k i j K : Nat} {h h' : AH} {Q : Rs → AH → Prop} {O : Oc} {B : Bo} {A F : List Nat} {T : To} {u v w : Int32}
theorem wt_te (w : WT O T) (ha : a < O.nS) (hb : b < O.nS) (t : Bool) : WT O (teF T a b t) := by
  refine ⟨fun j hj => ?_, fun j hj => ?_, fun j hj => ?_⟩
  · show (if j = T.1 then a else T.2 0 j) < _
    have hj : j < T.1 + 1 := hj
    split
    · exact ha
    · exact w.c j (by omega)
  · show (if j = T.1 then b else T.2 1 j) < _
    have hj : j < T.1 + 1 := hj
    split
    · exact hb
    · exact w.s j (by omega)
  · show (if j = T.1 then (if t = true then 1 else 0) else T.2 2 j) < _
    have hj : j < T.1 + 1 := hj
    split
    · split <;> decide
    · exact w.r j (by omega)
theorem cm_tell (x : M0 h m O) (l : MT h m 0 T) (t : Bool) : Ca (D + 2) 224 [.ref m, .int u, .int v, .int (bz t)] h (fun r h' => r = .inl (some (.int (bz (mayT O T u v)))) ∧ Md m [49, 50, 51, 52] [60] h h' ∧ Fi h' 60 m = 0 ∧ MT h' m 0 (if mayT O T u v = true then teF T (tn u) (tn v) t else T)) := by
  have n2 := x.wo.nS
  generalize hQ : (fun r h' => r = .inl (some (.int (bz (mayT O T u v)))) ∧ Md m [49, 50, 51, 52] [60] h h' ∧ Fi h' 60 m = 0 ∧ MT h' m 0 (if mayT O T u v = true then teF T (tn u) (tn v) t else T) : Rs → AH → Prop) = Q
  rw [e_X9_tell]
  simp (disch := first | assumption | omega | decide | rfl) only [w_X9_tell_0, w_X9_tell_1, w_X9_tell_2, mo_0 x.mo, nl_int, nl_ref, nl_null, nl_un, nl_rf, nl_long, isR_ref, isR_null, isR_rf, rf_some, rf_none, rOf_ref, rOf_null, rOf_rf, kn_v, kn_0, true_and, and_true, and_self, tin, inA_x, inA_l, ix_add, ix_addl, ix_ladd, ix_mul, ix_mull, ix_lmul, ix_tn, lt_tn, Nat.reduceLeDiff, Nat.reduceLT, Nat.reduceAdd, Nat.reduceMul, true_or, or_true, ↓reduceIte, aOk, ref_null, null_null, false_or, Option.isSome_some, Option.getD_some, ite_true, ite_false, eq_self, not_false_eq_true, not_true_eq_false]
  have u1 : Md m [] [60] h (sFi h 60 m 0) := md_sFi (by decide)
  have f1 : Fi (sFi h 60 m 0) 60 m = 0 := Fi_same
  revert u1 f1
  generalize sFi h 60 m 0 = h1
  intro u1 f1
  have x1 : M0 h1 m O := x.md u1
  have hm1 := x1.mo
  have l1 := l.md u1 (by decide) (by decide) (by decide) (by decide)
  obtain ⟨k1, k2, k3, k4, k5⟩ := id l1
  have v1 : Md m [49, 50, 51, 52] [60] h h1 := u1.mono (by simp) (fun _ q => q)
  have no : mayT O T u v = false → Q (.inl (some (.int 0))) h1 := fun e => by
    rw [← hQ, e]
    exact ⟨rfl, v1, f1, l1⟩
  simp (disch := first | assumption | omega | decide | rfl) only [w_X9_tell_5, w_X9_tell_6, w_X9_tell_7, mo_0 x1.mo, nl_int, nl_ref, nl_null, nl_un, nl_rf, nl_long, isR_ref, isR_null, isR_rf, rf_some, rf_none, rOf_ref, rOf_null, rOf_rf, kn_v, kn_0, true_and, and_true, and_self, tin, inA_x, inA_l, ix_add, ix_addl, ix_ladd, ix_mul, ix_mull, ix_lmul, ix_tn, lt_tn, Nat.reduceLeDiff, Nat.reduceLT, Nat.reduceAdd, Nat.reduceMul, true_or, or_true, ↓reduceIte, aOk, ref_null, null_null, false_or, Option.isSome_some, Option.getD_some, ite_true, ite_false, eq_self, not_false_eq_true, not_true_eq_false, cm_isSound x1]
  by_cases q1 : inN u O.nS = true
  · have d1 : (bz (inN u O.nS) = 0) = False := by rw [bz_ne]; exact eq_false (by rw [q1]; decide)
    simp (disch := first | assumption | omega | decide | rfl) only [w_X9_tell_10, w_X9_tell_13, w_X9_tell_14, w_X9_tell_15, mo_0 x1.mo, nl_int, nl_ref, nl_null, nl_un, nl_rf, nl_long, isR_ref, isR_null, isR_rf, rf_some, rf_none, rOf_ref, rOf_null, rOf_rf, kn_v, kn_0, true_and, and_true, and_self, tin, inA_x, inA_l, ix_add, ix_addl, ix_ladd, ix_mul, ix_mull, ix_lmul, ix_tn, lt_tn, Nat.reduceLeDiff, Nat.reduceLT, Nat.reduceAdd, Nat.reduceMul, true_or, or_true, ↓reduceIte, aOk, ref_null, null_null, false_or, Option.isSome_some, Option.getD_some, ite_true, ite_false, eq_self, not_false_eq_true, not_true_eq_false, d1, cm_isSound x1]
    by_cases q2 : inN v O.nS = true
    · have d2 : (bz (inN v O.nS) = 0) = False := by rw [bz_ne]; exact eq_false (by rw [q2]; decide)
      obtain ⟨a, ha, rfl⟩ := inN_ex (by omega) q1
      obtain ⟨b, hb, rfl⟩ := inN_ex (by omega) q2
      have e12 : (ix T.1 = 12) = (T.1 = 12) := ix_eql (n := 12) (by omega) (by decide)
      by_cases q3 : T.1 = 12
      · have e12 : (ix T.1 = 12) = True := by rw [e12]; exact eq_true q3
        simp (disch := first | assumption | omega | decide | rfl) only [w_X9_tell_18, w_X9_tell_21, w_X9_tell_22, w_X9_tell_25, w_X9_tell_26, w_X9_tell_27, w_X9_tell_29, w_X9_tell_32, w_X9_tell_33, mo_0 hm1, mo_tolds hm1, mt_tolds hm1, ml_tolds hm1, mo_toldCall hm1, mt_toldCall hm1, ml_toldCall hm1, mo_toldSound hm1, mt_toldSound hm1, ml_toldSound hm1, mo_toldNear hm1, mt_toldNear hm1, ml_toldNear hm1, nl_int, nl_ref, nl_null, nl_un, nl_rf, nl_long, isR_ref, isR_null, isR_rf, rf_some, rf_none, rOf_ref, rOf_null, rOf_rf, kn_v, kn_0, true_and, and_true, and_self, tin, inA_x, inA_l, ix_add, ix_addl, ix_ladd, ix_mul, ix_mull, ix_lmul, ix_tn, lt_tn, Nat.reduceLeDiff, Nat.reduceLT, Nat.reduceAdd, Nat.reduceMul, true_or, or_true, ↓reduceIte, aOk, ref_null, null_null, false_or, Option.isSome_some, Option.getD_some, ite_true, ite_false, eq_self, not_false_eq_true, not_true_eq_false, d2, k1, e12]
        exact no (by unfold mayT; simp [q3])
      · have e12 : (ix T.1 = 12) = False := by rw [e12]; exact eq_false q3
        have em : mayT O T (ix a) (ix b) = true := by unfold mayT; rw [q1, q2]; simp [q3]
        rw [em, if_pos rfl, tn_ix (by omega), tn_ix (by omega)] at hQ
        have bt := bz_01 (p := t)
        simp (disch := first | assumption | omega | decide | rfl) only [w_X9_tell_18, w_X9_tell_21, w_X9_tell_22, w_X9_tell_25, w_X9_tell_26, w_X9_tell_27, w_X9_tell_29, mo_0 hm1, mo_tolds hm1, mt_tolds hm1, ml_tolds hm1, mo_toldCall hm1, mt_toldCall hm1, ml_toldCall hm1, mo_toldSound hm1, mt_toldSound hm1, ml_toldSound hm1, mo_toldNear hm1, mt_toldNear hm1, ml_toldNear hm1, nl_int, nl_ref, nl_null, nl_un, nl_rf, nl_long, isR_ref, isR_null, isR_rf, rf_some, rf_none, rOf_ref, rOf_null, rOf_rf, kn_v, kn_0, true_and, and_true, and_self, tin, inA_x, inA_l, ix_add, ix_addl, ix_ladd, ix_mul, ix_mull, ix_lmul, ix_tn, lt_tn, Nat.reduceLeDiff, Nat.reduceLT, Nat.reduceAdd, Nat.reduceMul, true_or, or_true, ↓reduceIte, aOk, ref_null, null_null, false_or, Option.isSome_some, Option.getD_some, ite_true, ite_false, eq_self, not_false_eq_true, not_true_eq_false, d2, k1, e12]
        simp (disch := first | assumption | omega | decide | rfl) only [w_X9_tell_34, w_X9_tell_35, w_X9_tell_38, w_X9_tell_39, w_X9_tell_42, w_X9_tell_43, w_X9_tell_44, w_X9_tell_45, mo_0 hm1, mo_tolds hm1, mt_tolds hm1, ml_tolds hm1, mo_toldCall hm1, mt_toldCall hm1, ml_toldCall hm1, mo_toldSound hm1, mt_toldSound hm1, ml_toldSound hm1, mo_toldNear hm1, mt_toldNear hm1, ml_toldNear hm1, nl_int, nl_ref, nl_null, nl_un, nl_rf, nl_long, isR_ref, isR_null, isR_rf, rf_some, rf_none, rOf_ref, rOf_null, rOf_rf, kn_v, kn_0, true_and, and_true, and_self, tin, inA_x, inA_l, ix_add, ix_addl, ix_ladd, ix_mul, ix_mull, ix_lmul, ix_tn, lt_tn, Nat.reduceLeDiff, Nat.reduceLT, Nat.reduceAdd, Nat.reduceMul, true_or, or_true, ↓reduceIte, aOk, ref_null, null_null, false_or, Option.isSome_some, Option.getD_some, ite_true, ite_false, eq_self, not_false_eq_true, not_true_eq_false, k1]
        have w1 : Md m [50] [] h1 (sAi h1 (m + 50) (upd (Ai h1 (m + 50)) T.1 (ix a))) := md_sAi (by decide)
        have b1 : Ai (sAi h1 (m + 50) (upd (Ai h1 (m + 50)) T.1 (ix a))) (m + 50) = upd (Ai h1 (m + 50)) T.1 (ix a) := Ai_same
        revert w1 b1
        generalize sAi h1 (m + 50) (upd (Ai h1 (m + 50)) T.1 (ix a)) = g1
        intro w1 b1
        have hg1 := w1.mo hm1
        have c1 : Ai g1 (m + 49) 0 = ix T.1 := by rw [w1.ai (by decide)]; exact k1
        simp (disch := first | assumption | omega | decide | rfl) only [w_X9_tell_46, w_X9_tell_47, w_X9_tell_50, w_X9_tell_51, w_X9_tell_54, w_X9_tell_55, w_X9_tell_56, w_X9_tell_57, mo_0 hg1, mo_tolds hg1, mt_tolds hg1, ml_tolds hg1, mo_toldCall hg1, mt_toldCall hg1, ml_toldCall hg1, mo_toldSound hg1, mt_toldSound hg1, ml_toldSound hg1, mo_toldNear hg1, mt_toldNear hg1, ml_toldNear hg1, nl_int, nl_ref, nl_null, nl_un, nl_rf, nl_long, isR_ref, isR_null, isR_rf, rf_some, rf_none, rOf_ref, rOf_null, rOf_rf, kn_v, kn_0, true_and, and_true, and_self, tin, inA_x, inA_l, ix_add, ix_addl, ix_ladd, ix_mul, ix_mull, ix_lmul, ix_tn, lt_tn, Nat.reduceLeDiff, Nat.reduceLT, Nat.reduceAdd, Nat.reduceMul, true_or, or_true, ↓reduceIte, aOk, ref_null, null_null, false_or, Option.isSome_some, Option.getD_some, ite_true, ite_false, eq_self, not_false_eq_true, not_true_eq_false, c1]
        have w2 : Md m [51] [] g1 (sAi g1 (m + 51) (upd (Ai g1 (m + 51)) T.1 (ix b))) := md_sAi (by decide)
        have b2 : Ai (sAi g1 (m + 51) (upd (Ai g1 (m + 51)) T.1 (ix b))) (m + 51) = upd (Ai g1 (m + 51)) T.1 (ix b) := Ai_same
        revert w2 b2
        generalize sAi g1 (m + 51) (upd (Ai g1 (m + 51)) T.1 (ix b)) = g2
        intro w2 b2
        have hg2 := w2.mo hg1
        have c2 : Ai g2 (m + 49) 0 = ix T.1 := by rw [w2.ai (by decide)]; exact c1
        simp (disch := first | assumption | omega | decide | rfl) only [w_X9_tell_58, w_X9_tell_59, w_X9_tell_62, w_X9_tell_63, w_X9_tell_66, w_X9_tell_67, w_X9_tell_68, w_X9_tell_69, mo_0 hg2, mo_tolds hg2, mt_tolds hg2, ml_tolds hg2, mo_toldCall hg2, mt_toldCall hg2, ml_toldCall hg2, mo_toldSound hg2, mt_toldSound hg2, ml_toldSound hg2, mo_toldNear hg2, mt_toldNear hg2, ml_toldNear hg2, nl_int, nl_ref, nl_null, nl_un, nl_rf, nl_long, isR_ref, isR_null, isR_rf, rf_some, rf_none, rOf_ref, rOf_null, rOf_rf, kn_v, kn_0, true_and, and_true, and_self, tin, inA_x, inA_l, ix_add, ix_addl, ix_ladd, ix_mul, ix_mull, ix_lmul, ix_tn, lt_tn, Nat.reduceLeDiff, Nat.reduceLT, Nat.reduceAdd, Nat.reduceMul, true_or, or_true, ↓reduceIte, aOk, ref_null, null_null, false_or, Option.isSome_some, Option.getD_some, ite_true, ite_false, eq_self, not_false_eq_true, not_true_eq_false, c2]
        have w3 : Md m [52] [] g2 (sAi g2 (m + 52) (upd (Ai g2 (m + 52)) T.1 (bz t))) := md_sAi (by decide)
        have a3 : Ai (sAi g2 (m + 52) (upd (Ai g2 (m + 52)) T.1 (bz t))) (m + 52) = upd (Ai g2 (m + 52)) T.1 (bz t) := Ai_same
        revert w3 a3
        generalize sAi g2 (m + 52) (upd (Ai g2 (m + 52)) T.1 (bz t)) = h2
        intro w3 a3
        have u2 : Md m [49, 50, 51, 52] [60] h h2 := ((v1.trans w1 (by decide) (by simp)).trans w2 (by decide) (by simp)).trans w3 (by decide) (by simp)
        have a0 : Ai h2 (m + 49) 0 = ix T.1 := by rw [w3.ai (by decide)]; exact c2
        have a1 : Ai h2 (m + 50) = upd (Ai h1 (m + 50)) T.1 (ix a) := by rw [w3.ai (by decide), w2.ai (by decide), b1]
        have a2 : Ai h2 (m + 51) = upd (Ai h1 (m + 51)) T.1 (ix b) := by rw [w3.ai (by decide), b2, w1.ai (by decide)]
        rw [w2.ai (by decide), w1.ai (by decide)] at a3
        have f2 : Fi h2 60 m = 0 := by rw [w3.fi (by simp), w2.fi (by simp), w1.fi (by simp)]; exact f1
        have hm2 := u2.mo x.mo
        simp (disch := first | assumption | omega | decide | rfl) only [w_X9_tell_70, w_X9_tell_71, w_X9_tell_74, w_X9_tell_75, w_X9_tell_76, w_X9_tell_77, w_X9_tell_78, w_X9_tell_79, w_X9_tell_80, w_X9_tell_81, mo_0 hm2, mo_tolds hm2, mt_tolds hm2, ml_tolds hm2, mo_toldCall hm2, mt_toldCall hm2, ml_toldCall hm2, mo_toldSound hm2, mt_toldSound hm2, ml_toldSound hm2, mo_toldNear hm2, mt_toldNear hm2, ml_toldNear hm2, nl_int, nl_ref, nl_null, nl_un, nl_rf, nl_long, isR_ref, isR_null, isR_rf, rf_some, rf_none, rOf_ref, rOf_null, rOf_rf, kn_v, kn_0, true_and, and_true, and_self, tin, inA_x, inA_l, ix_add, ix_addl, ix_ladd, ix_mul, ix_mull, ix_lmul, ix_tn, lt_tn, Nat.reduceLeDiff, Nat.reduceLT, Nat.reduceAdd, Nat.reduceMul, true_or, or_true, ↓reduceIte, aOk, ref_null, null_null, false_or, Option.isSome_some, Option.getD_some, ite_true, ite_false, eq_self, not_false_eq_true, not_true_eq_false, a0]
        rw [← hQ]
        refine ⟨bt, rfl, u2.trans (md_sAi (A := [49, 50, 51, 52]) (F := [60]) (by decide)) (fun _ q => q) (fun _ q => q), by rw [Fi_sAi]; exact f2, ?_, ?_, fun j hj => ?_, fun j hj => ?_, fun j hj => ?_⟩
        · rw [Ai_same, upd_s]; rfl
        · show T.1 + 1 ≤ 12; omega
        · have hj : j < T.1 + 1 := hj
          rw [Ai_other (by omega), a1, Nat.mul_zero, Nat.zero_add]
          show _ = ix (if j = T.1 then a else T.2 0 j)
          by_cases e : j = T.1
          · rw [if_pos e, e]; exact upd_s
          · rw [if_neg e, upd_n e]
            have := k3 j (by omega)
            rw [Nat.mul_zero, Nat.zero_add] at this
            exact this
        · have hj : j < T.1 + 1 := hj
          rw [Ai_other (by omega), a2, Nat.mul_zero, Nat.zero_add]
          show _ = ix (if j = T.1 then b else T.2 1 j)
          by_cases e : j = T.1
          · rw [if_pos e, e]; exact upd_s
          · rw [if_neg e, upd_n e]
            have := k4 j (by omega)
            rw [Nat.mul_zero, Nat.zero_add] at this
            exact this
        · have hj : j < T.1 + 1 := hj
          rw [Ai_other (by omega), a3, Nat.mul_zero, Nat.zero_add]
          show _ = ix (if j = T.1 then (if t = true then 1 else 0) else T.2 2 j)
          by_cases e : j = T.1
          · rw [if_pos e, e, upd_s]
            cases t <;> rfl
          · rw [if_neg e, upd_n e]
            have := k5 j (by omega)
            rw [Nat.mul_zero, Nat.zero_add] at this
            exact this
    · have d2 : (bz (inN v O.nS) = 0) = True := by rw [bz_ne]; exact eq_true (Bool.not_eq_true _ ▸ q2)
      simp (disch := first | assumption | omega | decide | rfl) only [w_X9_tell_18, w_X9_tell_32, w_X9_tell_33, nl_int, nl_ref, nl_null, nl_un, nl_rf, nl_long, isR_ref, isR_null, isR_rf, rf_some, rf_none, rOf_ref, rOf_null, rOf_rf, kn_v, kn_0, true_and, and_true, and_self, tin, inA_x, inA_l, ix_add, ix_addl, ix_ladd, ix_mul, ix_mull, ix_lmul, ix_tn, lt_tn, Nat.reduceLeDiff, Nat.reduceLT, Nat.reduceAdd, Nat.reduceMul, true_or, or_true, ↓reduceIte, aOk, ref_null, null_null, false_or, Option.isSome_some, Option.getD_some, ite_true, ite_false, eq_self, not_false_eq_true, not_true_eq_false, d2]
      exact no (by unfold mayT; simp [q2])
  · have d1 : (bz (inN u O.nS) = 0) = True := by rw [bz_ne]; exact eq_true (Bool.not_eq_true _ ▸ q1)
    simp (disch := first | assumption | omega | decide | rfl) only [w_X9_tell_10, w_X9_tell_32, w_X9_tell_33, nl_int, nl_ref, nl_null, nl_un, nl_rf, nl_long, isR_ref, isR_null, isR_rf, rf_some, rf_none, rOf_ref, rOf_null, rOf_rf, kn_v, kn_0, true_and, and_true, and_self, tin, inA_x, inA_l, ix_add, ix_addl, ix_ladd, ix_mul, ix_mull, ix_lmul, ix_tn, lt_tn, Nat.reduceLeDiff, Nat.reduceLT, Nat.reduceAdd, Nat.reduceMul, true_or, or_true, ↓reduceIte, aOk, ref_null, null_null, false_or, Option.isSome_some, Option.getD_some, ite_true, ite_false, eq_self, not_false_eq_true, not_true_eq_false, d1]
    exact no (by unfold mayT; simp [q1])
end
