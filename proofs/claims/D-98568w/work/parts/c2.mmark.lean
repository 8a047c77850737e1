/-! THE MODEL: marks -/
set_option maxRecDepth 100000
def Zb (h : AH) (m : Nat) : Prop := ∀ j, Ai h (m + 52) j = 0 ∨ Ai h (m + 52) j = 1
section
variable {d D m a b c p q s n k i j K T lane loud G : Nat} {h h' h2 : AH} {Q : Rs → AH → Prop} {O : Oc} {B B0 : Bo} {A F : List Nat} {u v w : Int32} {l : List Nat} {L L' : Dy}
theorem cm_laysLines (hm : MO h m) (hp : p < 6) (hq : q < 6) (ne : p ≠ q) : Ca (D + 1) 182 [.ref m, .int (ix p), .int (ix q)] h (fun r h' => r = .inl none ∧ Md m [43, 44, 45, 46] [] h h' ∧ Ai h' (m + 43) = upd (Ai h (m + 43)) q (Ai h (m + 43) p) ∧ Ai h' (m + 44) = cpF (Ai h (m + 44)) (40 * p) (Ai h (m + 44)) (40 * q) 40 ∧ Ai h' (m + 45) = cpF (Ai h (m + 45)) (40 * p) (Ai h (m + 45)) (40 * q) 40 ∧ Ai h' (m + 46) = cpF (Ai h (m + 46)) (40 * p) (Ai h (m + 46)) (40 * q) 40) := by
  rw [e_X9_laysLines]
  simp (disch := first | assumption | omega | decide | rfl) only [w_X9_laysLines_0, w_X9_laysLines_1, w_X9_laysLines_4, w_X9_laysLines_5, w_X9_laysLines_6, w_X9_laysLines_9, w_X9_laysLines_10, w_X9_laysLines_11, w_X9_laysLines_12, w_X9_laysLines_13, nl_int, nl_ref, nl_null, nl_un, nl_rf, nl_long, isR_ref, isR_null, isR_rf, rf_some, rf_none, rOf_ref, rOf_null, rOf_rf, kn_v, kn_0, true_and, and_true, and_self, tin, inA_x, inA_l, ix_add, ix_addl, ix_ladd, ix_mul, ix_mull, ix_lmul, ix_tn, lt_tn, Nat.reduceLeDiff, Nat.reduceLT, Nat.reduceAdd, Nat.reduceMul, true_or, or_true, ↓reduceIte, aOk, ref_null, null_null, false_or, Option.isSome_some, Option.getD_some, ite_true, ite_false, eq_self, not_false_eq_true, not_true_eq_false, bz_ne, bz_1, reduceCtorEq, Bool.not_true, Bool.not_false, mo_0 hm, mo_lines hm, mt_lines hm, ml_lines hm, mo_lineWhat hm, mt_lineWhat hm, ml_lineWhat hm, mo_lineWho hm, mt_lineWho hm, ml_lineWho hm, mo_lineOf hm, mt_lineOf hm, ml_lineOf hm]
  refine lp (P := fun j => ∀ h2, Md m [43, 44, 45, 46] [] h h2 → Ai h2 (m + 43) = upd (Ai h (m + 43)) q (Ai h (m + 43) p) → Ai h2 (m + 44) = cpF (Ai h (m + 44)) (40 * p) (Ai h (m + 44)) (40 * q) j → Ai h2 (m + 45) = cpF (Ai h (m + 45)) (40 * p) (Ai h (m + 45)) (40 * q) j → Ai h2 (m + 46) = cpF (Ai h (m + 46)) (40 * p) (Ai h (m + 46)) (40 * q) j → Ru D 182 14 [.ref m, .int (ix p), .int (ix q), .int (ix j)] [] h2 _) (N := 40) ?_ ?_ _ (md_sAi (by decide)) Ai_same (by rw [cpF_0, Ai_other (by omega)]) (by rw [cpF_0, Ai_other (by omega)]) (by rw [cpF_0, Ai_other (by omega)])
  · intro h2 u2 e1 e2 e3 e4
    have e : (ix 40 < 40) = False := eq_false (by decide)
    rw [w_X9_laysLines_14]
    simp (disch := first | assumption | omega | decide | rfl) only [w_X9_laysLines_15, w_X9_laysLines_17, w_X9_laysLines_92, nl_int, nl_ref, nl_null, nl_un, nl_rf, nl_long, isR_ref, isR_null, isR_rf, rf_some, rf_none, rOf_ref, rOf_null, rOf_rf, kn_v, kn_0, true_and, and_true, and_self, tin, inA_x, inA_l, ix_add, ix_addl, ix_ladd, ix_mul, ix_mull, ix_lmul, ix_tn, lt_tn, Nat.reduceLeDiff, Nat.reduceLT, Nat.reduceAdd, Nat.reduceMul, true_or, or_true, ↓reduceIte, aOk, ref_null, null_null, false_or, Option.isSome_some, Option.getD_some, ite_true, ite_false, eq_self, not_false_eq_true, not_true_eq_false, bz_ne, bz_1, reduceCtorEq, Bool.not_true, Bool.not_false, e]
    exact ⟨u2, e1, e2, e3, e4⟩
  · intro j hj nx h2 u2 e1 e2 e3 e4
    have hm2 := u2.mo hm
    have e : (ix j < 40) = True := ltT (n := 40) hj (by decide)
    have ou : 40 * p + j < 40 * q ∨ 40 * q + j ≤ 40 * p + j := by omega
    rw [w_X9_laysLines_14]
    simp (disch := first | assumption | omega | decide | rfl) only [w_X9_laysLines_15, w_X9_laysLines_17, w_X9_laysLines_20, w_X9_laysLines_21, w_X9_laysLines_24, w_X9_laysLines_26, w_X9_laysLines_27, w_X9_laysLines_28, w_X9_laysLines_29, w_X9_laysLines_30, w_X9_laysLines_31, w_X9_laysLines_34, w_X9_laysLines_36, w_X9_laysLines_37, w_X9_laysLines_38, w_X9_laysLines_39, w_X9_laysLines_40, w_X9_laysLines_41, nl_int, nl_ref, nl_null, nl_un, nl_rf, nl_long, isR_ref, isR_null, isR_rf, rf_some, rf_none, rOf_ref, rOf_null, rOf_rf, kn_v, kn_0, true_and, and_true, and_self, tin, inA_x, inA_l, ix_add, ix_addl, ix_ladd, ix_mul, ix_mull, ix_lmul, ix_tn, lt_tn, Nat.reduceLeDiff, Nat.reduceLT, Nat.reduceAdd, Nat.reduceMul, true_or, or_true, ↓reduceIte, aOk, ref_null, null_null, false_or, Option.isSome_some, Option.getD_some, ite_true, ite_false, eq_self, not_false_eq_true, not_true_eq_false, bz_ne, bz_1, reduceCtorEq, Bool.not_true, Bool.not_false, mo_0 hm2, mo_lines hm2, mt_lines hm2, ml_lines hm2, mo_lineWhat hm2, mt_lineWhat hm2, ml_lineWhat hm2, mo_lineWho hm2, mt_lineWho hm2, ml_lineWho hm2, mo_lineOf hm2, mt_lineOf hm2, ml_lineOf hm2, e]
    have u3 : Md m [43, 44, 45, 46] [] h (sAi h2 (m + 44) (upd (Ai h2 (m + 44)) (40 * q + j) (Ai h2 (m + 44) (40 * p + j)))) := u2.sAi (by decide)
    have e1 : Ai (sAi h2 (m + 44) (upd (Ai h2 (m + 44)) (40 * q + j) (Ai h2 (m + 44) (40 * p + j)))) (m + 43) = upd (Ai h (m + 43)) q (Ai h (m + 43) p) := by rw [Ai_other (by omega)]; exact e1
    have e2 : Ai (sAi h2 (m + 44) (upd (Ai h2 (m + 44)) (40 * q + j) (Ai h2 (m + 44) (40 * p + j)))) (m + 44) = cpF (Ai h (m + 44)) (40 * p) (Ai h (m + 44)) (40 * q) (j + 1) := by rw [Ai_same, e2, cpF_out ou, cpF_s]
    have e3 : Ai (sAi h2 (m + 44) (upd (Ai h2 (m + 44)) (40 * q + j) (Ai h2 (m + 44) (40 * p + j)))) (m + 45) = cpF (Ai h (m + 45)) (40 * p) (Ai h (m + 45)) (40 * q) j := by rw [Ai_other (by omega)]; exact e3
    have e4 : Ai (sAi h2 (m + 44) (upd (Ai h2 (m + 44)) (40 * q + j) (Ai h2 (m + 44) (40 * p + j)))) (m + 46) = cpF (Ai h (m + 46)) (40 * p) (Ai h (m + 46)) (40 * q) j := by rw [Ai_other (by omega)]; exact e4
    revert u3 e1 e2 e3 e4
    generalize sAi h2 (m + 44) (upd (Ai h2 (m + 44)) (40 * q + j) (Ai h2 (m + 44) (40 * p + j))) = h3
    intro u3 e1 e2 e3 e4
    have hm3 := u3.mo hm
    simp (disch := first | assumption | omega | decide | rfl) only [w_X9_laysLines_42, w_X9_laysLines_43, w_X9_laysLines_46, w_X9_laysLines_48, w_X9_laysLines_49, w_X9_laysLines_50, w_X9_laysLines_51, w_X9_laysLines_52, w_X9_laysLines_53, w_X9_laysLines_56, w_X9_laysLines_58, w_X9_laysLines_59, w_X9_laysLines_60, w_X9_laysLines_61, w_X9_laysLines_62, w_X9_laysLines_63, nl_int, nl_ref, nl_null, nl_un, nl_rf, nl_long, isR_ref, isR_null, isR_rf, rf_some, rf_none, rOf_ref, rOf_null, rOf_rf, kn_v, kn_0, true_and, and_true, and_self, tin, inA_x, inA_l, ix_add, ix_addl, ix_ladd, ix_mul, ix_mull, ix_lmul, ix_tn, lt_tn, Nat.reduceLeDiff, Nat.reduceLT, Nat.reduceAdd, Nat.reduceMul, true_or, or_true, ↓reduceIte, aOk, ref_null, null_null, false_or, Option.isSome_some, Option.getD_some, ite_true, ite_false, eq_self, not_false_eq_true, not_true_eq_false, bz_ne, bz_1, reduceCtorEq, Bool.not_true, Bool.not_false, mo_0 hm3, mo_lines hm3, mt_lines hm3, ml_lines hm3, mo_lineWhat hm3, mt_lineWhat hm3, ml_lineWhat hm3, mo_lineWho hm3, mt_lineWho hm3, ml_lineWho hm3, mo_lineOf hm3, mt_lineOf hm3, ml_lineOf hm3]
    have u4 : Md m [43, 44, 45, 46] [] h (sAi h3 (m + 45) (upd (Ai h3 (m + 45)) (40 * q + j) (Ai h3 (m + 45) (40 * p + j)))) := u3.sAi (by decide)
    have e1 : Ai (sAi h3 (m + 45) (upd (Ai h3 (m + 45)) (40 * q + j) (Ai h3 (m + 45) (40 * p + j)))) (m + 43) = upd (Ai h (m + 43)) q (Ai h (m + 43) p) := by rw [Ai_other (by omega)]; exact e1
    have e2 : Ai (sAi h3 (m + 45) (upd (Ai h3 (m + 45)) (40 * q + j) (Ai h3 (m + 45) (40 * p + j)))) (m + 44) = cpF (Ai h (m + 44)) (40 * p) (Ai h (m + 44)) (40 * q) (j + 1) := by rw [Ai_other (by omega)]; exact e2
    have e3 : Ai (sAi h3 (m + 45) (upd (Ai h3 (m + 45)) (40 * q + j) (Ai h3 (m + 45) (40 * p + j)))) (m + 45) = cpF (Ai h (m + 45)) (40 * p) (Ai h (m + 45)) (40 * q) (j + 1) := by rw [Ai_same, e3, cpF_out ou, cpF_s]
    have e4 : Ai (sAi h3 (m + 45) (upd (Ai h3 (m + 45)) (40 * q + j) (Ai h3 (m + 45) (40 * p + j)))) (m + 46) = cpF (Ai h (m + 46)) (40 * p) (Ai h (m + 46)) (40 * q) j := by rw [Ai_other (by omega)]; exact e4
    revert u4 e1 e2 e3 e4
    generalize sAi h3 (m + 45) (upd (Ai h3 (m + 45)) (40 * q + j) (Ai h3 (m + 45) (40 * p + j))) = h4
    intro u4 e1 e2 e3 e4
    have hm4 := u4.mo hm
    simp (disch := first | assumption | omega | decide | rfl) only [w_X9_laysLines_64, w_X9_laysLines_65, w_X9_laysLines_68, w_X9_laysLines_70, w_X9_laysLines_71, w_X9_laysLines_72, w_X9_laysLines_73, w_X9_laysLines_74, w_X9_laysLines_75, w_X9_laysLines_78, w_X9_laysLines_80, w_X9_laysLines_81, w_X9_laysLines_82, w_X9_laysLines_83, w_X9_laysLines_84, w_X9_laysLines_85, w_X9_laysLines_86, w_X9_laysLines_89, nl_int, nl_ref, nl_null, nl_un, nl_rf, nl_long, isR_ref, isR_null, isR_rf, rf_some, rf_none, rOf_ref, rOf_null, rOf_rf, kn_v, kn_0, true_and, and_true, and_self, tin, inA_x, inA_l, ix_add, ix_addl, ix_ladd, ix_mul, ix_mull, ix_lmul, ix_tn, lt_tn, Nat.reduceLeDiff, Nat.reduceLT, Nat.reduceAdd, Nat.reduceMul, true_or, or_true, ↓reduceIte, aOk, ref_null, null_null, false_or, Option.isSome_some, Option.getD_some, ite_true, ite_false, eq_self, not_false_eq_true, not_true_eq_false, bz_ne, bz_1, reduceCtorEq, Bool.not_true, Bool.not_false, mo_0 hm4, mo_lines hm4, mt_lines hm4, ml_lines hm4, mo_lineWhat hm4, mt_lineWhat hm4, ml_lineWhat hm4, mo_lineWho hm4, mt_lineWho hm4, ml_lineWho hm4, mo_lineOf hm4, mt_lineOf hm4, ml_lineOf hm4]
    exact nx _ (u4.sAi (by decide)) (by rw [Ai_other (by omega)]; exact e1) (by rw [Ai_other (by omega)]; exact e2) (by rw [Ai_other (by omega)]; exact e3) (by rw [Ai_same, e4, cpF_out ou, cpF_s])
theorem ml_to (x : ML h m p L) (e1 : Ai h' (m + 43) = upd (Ai h (m + 43)) q (Ai h (m + 43) p)) (e2 : Ai h' (m + 44) = cpF (Ai h (m + 44)) (40 * p) (Ai h (m + 44)) (40 * q) 40) (e3 : Ai h' (m + 45) = cpF (Ai h (m + 45)) (40 * p) (Ai h (m + 45)) (40 * q) 40) (e4 : Ai h' (m + 46) = cpF (Ai h (m + 46)) (40 * p) (Ai h (m + 46)) (40 * q) 40) : ML h' m q L := by
  obtain ⟨x1, x2, x3, x4, x5⟩ := x
  refine ⟨by rw [e1, upd_s]; exact x1, x2, fun j hj => ?_, fun j hj hh => ?_, fun j hj hh => ?_⟩
  · rw [e2, cpF_in (by omega)]; exact x3 j hj
  · rw [e3, cpF_in (by omega)]; exact x4 j hj hh
  · rw [e4, cpF_in (by omega)]; exact x5 j hj hh
theorem ml_ot (x : ML h m k L) (ne : k ≠ q) (e1 : Ai h' (m + 43) = upd (Ai h (m + 43)) q (Ai h (m + 43) p)) (e2 : Ai h' (m + 44) = cpF (Ai h (m + 44)) (40 * p) (Ai h (m + 44)) (40 * q) 40) (e3 : Ai h' (m + 45) = cpF (Ai h (m + 45)) (40 * p) (Ai h (m + 45)) (40 * q) 40) (e4 : Ai h' (m + 46) = cpF (Ai h (m + 46)) (40 * p) (Ai h (m + 46)) (40 * q) 40) : ML h' m k L := by
  obtain ⟨x1, x2, x3, x4, x5⟩ := x
  refine ⟨by rw [e1, upd_n ne]; exact x1, x2, fun j hj => ?_, fun j hj hh => ?_, fun j hj hh => ?_⟩
  · rw [e2, cpF_out (by omega)]; exact x3 j hj
  · rw [e3, cpF_out (by omega)]; exact x4 j hj hh
  · rw [e4, cpF_out (by omega)]; exact x5 j hj hh
/-- rows told laid from p to q -/
def LT (h : AH) (h' : AH) (m : Nat) (p : Nat) (q : Nat) (t : Nat) : Prop := (Ai h' (m + 47) = upd (Ai h (m + 47)) q (Ai h (m + 47) p)) ∧ (Ai h' (m + 48) = upd (Ai h (m + 48)) q (Ai h (m + 48) p)) ∧ (Ai h' (m + 49) = upd (Ai h (m + 49)) q (Ai h (m + 49) p)) ∧ (Ai h' (m + 50) = cpF (Ai h (m + 50)) (12 * p) (Ai h (m + 50)) (12 * q) t) ∧ (Ai h' (m + 51) = cpF (Ai h (m + 51)) (12 * p) (Ai h (m + 51)) (12 * q) t) ∧ (Ai h' (m + 52) = cpF (Ai h (m + 52)) (12 * p) (Ai h (m + 52)) (12 * q) t)
theorem LT.ka {h : AH} {h' : AH} {m : Nat} {p : Nat} {q : Nat} {t : Nat} (x : LT h h' m p q t) : Ai h' (m + 47) = upd (Ai h (m + 47)) q (Ai h (m + 47) p) := x.1
theorem LT.kb {h : AH} {h' : AH} {m : Nat} {p : Nat} {q : Nat} {t : Nat} (x : LT h h' m p q t) : Ai h' (m + 48) = upd (Ai h (m + 48)) q (Ai h (m + 48) p) := x.2.1
theorem LT.kc {h : AH} {h' : AH} {m : Nat} {p : Nat} {q : Nat} {t : Nat} (x : LT h h' m p q t) : Ai h' (m + 49) = upd (Ai h (m + 49)) q (Ai h (m + 49) p) := x.2.2.1
theorem LT.kd {h : AH} {h' : AH} {m : Nat} {p : Nat} {q : Nat} {t : Nat} (x : LT h h' m p q t) : Ai h' (m + 50) = cpF (Ai h (m + 50)) (12 * p) (Ai h (m + 50)) (12 * q) t := x.2.2.2.1
theorem LT.ke {h : AH} {h' : AH} {m : Nat} {p : Nat} {q : Nat} {t : Nat} (x : LT h h' m p q t) : Ai h' (m + 51) = cpF (Ai h (m + 51)) (12 * p) (Ai h (m + 51)) (12 * q) t := x.2.2.2.2.1
theorem LT.kf {h : AH} {h' : AH} {m : Nat} {p : Nat} {q : Nat} {t : Nat} (x : LT h h' m p q t) : Ai h' (m + 52) = cpF (Ai h (m + 52)) (12 * p) (Ai h (m + 52)) (12 * q) t := x.2.2.2.2.2
abbrev toA : List Nat := [47, 48, 49, 50, 51, 52]
theorem cm_laysTold (hm : MO h m) (zb : Zb h m) (hp : p < 5) (hq : q < 5) (ne : p ≠ q) : Ca (D + 1) 241 [.ref m, .int (ix p), .int (ix q)] h (fun r h' => r = .inl none ∧ Md m toA [] h h' ∧ LT h h' m p q 12) := by
  rw [e_X9_laysTold]
  simp (disch := first | assumption | omega | decide | rfl) only [w_X9_laysTold_0, w_X9_laysTold_1, w_X9_laysTold_4, w_X9_laysTold_5, w_X9_laysTold_6, w_X9_laysTold_9, w_X9_laysTold_10, w_X9_laysTold_11, nl_int, nl_ref, nl_null, nl_un, nl_rf, nl_long, isR_ref, isR_null, isR_rf, rf_some, rf_none, rOf_ref, rOf_null, rOf_rf, kn_v, kn_0, true_and, and_true, and_self, tin, inA_x, inA_l, ix_add, ix_addl, ix_ladd, ix_mul, ix_mull, ix_lmul, ix_tn, lt_tn, Nat.reduceLeDiff, Nat.reduceLT, Nat.reduceAdd, Nat.reduceMul, true_or, or_true, ↓reduceIte, aOk, ref_null, null_null, false_or, Option.isSome_some, Option.getD_some, ite_true, ite_false, eq_self, not_false_eq_true, not_true_eq_false, bz_ne, bz_1, reduceCtorEq, Bool.not_true, Bool.not_false, mo_0 hm, mo_liesKnown hm, mt_liesKnown hm, ml_liesKnown hm, mo_liesThere hm, mt_liesThere hm, ml_liesThere hm, mo_tolds hm, mt_tolds hm, ml_tolds hm, mo_toldCall hm, mt_toldCall hm, ml_toldCall hm, mo_toldSound hm, mt_toldSound hm, ml_toldSound hm, mo_toldNear hm, mt_toldNear hm, ml_toldNear hm]
  have u1 : Md m toA [] h (sAi h (m + 47) (upd (Ai h (m + 47)) q (Ai h (m + 47) p))) := md_sAi (by decide)
  have a1 : Ai (sAi h (m + 47) (upd (Ai h (m + 47)) q (Ai h (m + 47) p))) (m + 47) = upd (Ai h (m + 47)) q (Ai h (m + 47) p) := Ai_same
  have o1 : ∀ k, k ≠ 47 → Ai (sAi h (m + 47) (upd (Ai h (m + 47)) q (Ai h (m + 47) p))) (m + k) = Ai h (m + k) := fun k hk => Ai_other (by omega)
  revert u1 a1 o1
  generalize sAi h (m + 47) (upd (Ai h (m + 47)) q (Ai h (m + 47) p)) = h1
  intro u1 a1 o1
  have hm1 := u1.mo hm
  simp (disch := first | assumption | omega | decide | rfl) only [w_X9_laysTold_12, w_X9_laysTold_13, w_X9_laysTold_16, w_X9_laysTold_17, w_X9_laysTold_18, w_X9_laysTold_21, w_X9_laysTold_22, w_X9_laysTold_23, nl_int, nl_ref, nl_null, nl_un, nl_rf, nl_long, isR_ref, isR_null, isR_rf, rf_some, rf_none, rOf_ref, rOf_null, rOf_rf, kn_v, kn_0, true_and, and_true, and_self, tin, inA_x, inA_l, ix_add, ix_addl, ix_ladd, ix_mul, ix_mull, ix_lmul, ix_tn, lt_tn, Nat.reduceLeDiff, Nat.reduceLT, Nat.reduceAdd, Nat.reduceMul, true_or, or_true, ↓reduceIte, aOk, ref_null, null_null, false_or, Option.isSome_some, Option.getD_some, ite_true, ite_false, eq_self, not_false_eq_true, not_true_eq_false, bz_ne, bz_1, reduceCtorEq, Bool.not_true, Bool.not_false, mo_0 hm1, mo_liesKnown hm1, mt_liesKnown hm1, ml_liesKnown hm1, mo_liesThere hm1, mt_liesThere hm1, ml_liesThere hm1, mo_tolds hm1, mt_tolds hm1, ml_tolds hm1, mo_toldCall hm1, mt_toldCall hm1, ml_toldCall hm1, mo_toldSound hm1, mt_toldSound hm1, ml_toldSound hm1, mo_toldNear hm1, mt_toldNear hm1, ml_toldNear hm1]
  have u2 : Md m toA [] h (sAi h1 (m + 48) (upd (Ai h1 (m + 48)) q (Ai h1 (m + 48) p))) := u1.sAi (by decide)
  have a2 : Ai (sAi h1 (m + 48) (upd (Ai h1 (m + 48)) q (Ai h1 (m + 48) p))) (m + 48) = upd (Ai h (m + 48)) q (Ai h (m + 48) p) := by rw [Ai_same, o1 _ (by decide)]
  have a1 : Ai (sAi h1 (m + 48) (upd (Ai h1 (m + 48)) q (Ai h1 (m + 48) p))) (m + 47) = upd (Ai h (m + 47)) q (Ai h (m + 47) p) := by rw [Ai_other (by omega)]; exact a1
  have o2 : ∀ k, k ≠ 47 → k ≠ 48 → Ai (sAi h1 (m + 48) (upd (Ai h1 (m + 48)) q (Ai h1 (m + 48) p))) (m + k) = Ai h (m + k) := fun k h1 h2 => by rw [Ai_other (by omega)]; exact o1 k h1
  revert u2 a2 a1 o2
  generalize sAi h1 (m + 48) (upd (Ai h1 (m + 48)) q (Ai h1 (m + 48) p)) = h2
  intro u2 a2 a1 o2
  have hm2 := u2.mo hm
  simp (disch := first | assumption | omega | decide | rfl) only [w_X9_laysTold_24, w_X9_laysTold_25, w_X9_laysTold_28, w_X9_laysTold_29, w_X9_laysTold_30, w_X9_laysTold_33, w_X9_laysTold_34, w_X9_laysTold_35, w_X9_laysTold_36, w_X9_laysTold_37, nl_int, nl_ref, nl_null, nl_un, nl_rf, nl_long, isR_ref, isR_null, isR_rf, rf_some, rf_none, rOf_ref, rOf_null, rOf_rf, kn_v, kn_0, true_and, and_true, and_self, tin, inA_x, inA_l, ix_add, ix_addl, ix_ladd, ix_mul, ix_mull, ix_lmul, ix_tn, lt_tn, Nat.reduceLeDiff, Nat.reduceLT, Nat.reduceAdd, Nat.reduceMul, true_or, or_true, ↓reduceIte, aOk, ref_null, null_null, false_or, Option.isSome_some, Option.getD_some, ite_true, ite_false, eq_self, not_false_eq_true, not_true_eq_false, bz_ne, bz_1, reduceCtorEq, Bool.not_true, Bool.not_false, mo_0 hm2, mo_liesKnown hm2, mt_liesKnown hm2, ml_liesKnown hm2, mo_liesThere hm2, mt_liesThere hm2, ml_liesThere hm2, mo_tolds hm2, mt_tolds hm2, ml_tolds hm2, mo_toldCall hm2, mt_toldCall hm2, ml_toldCall hm2, mo_toldSound hm2, mt_toldSound hm2, ml_toldSound hm2, mo_toldNear hm2, mt_toldNear hm2, ml_toldNear hm2]
  have u3 : Md m toA [] h (sAi h2 (m + 49) (upd (Ai h2 (m + 49)) q (Ai h2 (m + 49) p))) := u2.sAi (by decide)
  have a3 : Ai (sAi h2 (m + 49) (upd (Ai h2 (m + 49)) q (Ai h2 (m + 49) p))) (m + 49) = upd (Ai h (m + 49)) q (Ai h (m + 49) p) := by rw [Ai_same, o2 _ (by decide) (by decide)]
  have a1 : Ai (sAi h2 (m + 49) (upd (Ai h2 (m + 49)) q (Ai h2 (m + 49) p))) (m + 47) = upd (Ai h (m + 47)) q (Ai h (m + 47) p) := by rw [Ai_other (by omega)]; exact a1
  have a2 : Ai (sAi h2 (m + 49) (upd (Ai h2 (m + 49)) q (Ai h2 (m + 49) p))) (m + 48) = upd (Ai h (m + 48)) q (Ai h (m + 48) p) := by rw [Ai_other (by omega)]; exact a2
  have o3 : ∀ k, k ≠ 47 → k ≠ 48 → k ≠ 49 → Ai (sAi h2 (m + 49) (upd (Ai h2 (m + 49)) q (Ai h2 (m + 49) p))) (m + k) = Ai h (m + k) := fun k h1 h2 h3 => by rw [Ai_other (by omega)]; exact o2 k h1 h2
  revert u3 a3 a1 a2 o3
  generalize sAi h2 (m + 49) (upd (Ai h2 (m + 49)) q (Ai h2 (m + 49) p)) = h3
  intro u3 a3 a1 a2 o3
  refine lp (P := fun j => ∀ h4, Md m toA [] h h4 → LT h h4 m p q j → Ru D 241 38 [.ref m, .int (ix p), .int (ix q), .int (ix j)] [] h4 _) (N := 12) ?_ ?_ h3 u3 ⟨a1, a2, a3, by rw [cpF_0]; exact o3 _ (by decide) (by decide) (by decide), by rw [cpF_0]; exact o3 _ (by decide) (by decide) (by decide), by rw [cpF_0]; exact o3 _ (by decide) (by decide) (by decide)⟩
  · intro h4 u4 x4
    have e : (ix 12 < 12) = False := eq_false (by decide)
    rw [w_X9_laysTold_38]
    simp (disch := first | assumption | omega | decide | rfl) only [w_X9_laysTold_39, w_X9_laysTold_41, w_X9_laysTold_116, nl_int, nl_ref, nl_null, nl_un, nl_rf, nl_long, isR_ref, isR_null, isR_rf, rf_some, rf_none, rOf_ref, rOf_null, rOf_rf, kn_v, kn_0, true_and, and_true, and_self, tin, inA_x, inA_l, ix_add, ix_addl, ix_ladd, ix_mul, ix_mull, ix_lmul, ix_tn, lt_tn, Nat.reduceLeDiff, Nat.reduceLT, Nat.reduceAdd, Nat.reduceMul, true_or, or_true, ↓reduceIte, aOk, ref_null, null_null, false_or, Option.isSome_some, Option.getD_some, ite_true, ite_false, eq_self, not_false_eq_true, not_true_eq_false, bz_ne, bz_1, reduceCtorEq, Bool.not_true, Bool.not_false, e]
    exact ⟨u4, x4⟩
  · intro j hj nx h4 u4 x4
    obtain ⟨x1, x2, x3, x5, x6, x7⟩ := x4
    have hm4 := u4.mo hm
    have e : (ix j < 12) = True := ltT (n := 12) hj (by decide)
    have ou : 12 * p + j < 12 * q ∨ 12 * q + j ≤ 12 * p + j := by omega
    rw [w_X9_laysTold_38]
    simp (disch := first | assumption | omega | decide | rfl) only [w_X9_laysTold_39, w_X9_laysTold_41, w_X9_laysTold_44, w_X9_laysTold_45, w_X9_laysTold_48, w_X9_laysTold_50, w_X9_laysTold_51, w_X9_laysTold_52, w_X9_laysTold_53, w_X9_laysTold_54, w_X9_laysTold_55, w_X9_laysTold_58, w_X9_laysTold_60, w_X9_laysTold_61, w_X9_laysTold_62, w_X9_laysTold_63, w_X9_laysTold_64, w_X9_laysTold_65, nl_int, nl_ref, nl_null, nl_un, nl_rf, nl_long, isR_ref, isR_null, isR_rf, rf_some, rf_none, rOf_ref, rOf_null, rOf_rf, kn_v, kn_0, true_and, and_true, and_self, tin, inA_x, inA_l, ix_add, ix_addl, ix_ladd, ix_mul, ix_mull, ix_lmul, ix_tn, lt_tn, Nat.reduceLeDiff, Nat.reduceLT, Nat.reduceAdd, Nat.reduceMul, true_or, or_true, ↓reduceIte, aOk, ref_null, null_null, false_or, Option.isSome_some, Option.getD_some, ite_true, ite_false, eq_self, not_false_eq_true, not_true_eq_false, bz_ne, bz_1, reduceCtorEq, Bool.not_true, Bool.not_false, mo_0 hm4, mo_liesKnown hm4, mt_liesKnown hm4, ml_liesKnown hm4, mo_liesThere hm4, mt_liesThere hm4, ml_liesThere hm4, mo_tolds hm4, mt_tolds hm4, ml_tolds hm4, mo_toldCall hm4, mt_toldCall hm4, ml_toldCall hm4, mo_toldSound hm4, mt_toldSound hm4, ml_toldSound hm4, mo_toldNear hm4, mt_toldNear hm4, ml_toldNear hm4, e]
    have u5 : Md m toA [] h (sAi h4 (m + 50) (upd (Ai h4 (m + 50)) (12 * q + j) (Ai h4 (m + 50) (12 * p + j)))) := u4.sAi (by decide)
    have x5 : Ai (sAi h4 (m + 50) (upd (Ai h4 (m + 50)) (12 * q + j) (Ai h4 (m + 50) (12 * p + j)))) (m + 50) = cpF (Ai h (m + 50)) (12 * p) (Ai h (m + 50)) (12 * q) (j + 1) := by rw [Ai_same, x5, cpF_out ou, cpF_s]
    have o5 : ∀ k, k ≠ 50 → Ai (sAi h4 (m + 50) (upd (Ai h4 (m + 50)) (12 * q + j) (Ai h4 (m + 50) (12 * p + j)))) (m + k) = Ai h4 (m + k) := fun k hk => Ai_other (by omega)
    revert u5 x5 o5
    generalize sAi h4 (m + 50) (upd (Ai h4 (m + 50)) (12 * q + j) (Ai h4 (m + 50) (12 * p + j))) = h5
    intro u5 x5 o5
    rw [← o5 _ (by decide)] at x1 x2 x3 x6 x7
    have hm5 := u5.mo hm
    simp (disch := first | assumption | omega | decide | rfl) only [w_X9_laysTold_66, w_X9_laysTold_67, w_X9_laysTold_70, w_X9_laysTold_72, w_X9_laysTold_73, w_X9_laysTold_74, w_X9_laysTold_75, w_X9_laysTold_76, w_X9_laysTold_77, w_X9_laysTold_80, w_X9_laysTold_82, w_X9_laysTold_83, w_X9_laysTold_84, w_X9_laysTold_85, w_X9_laysTold_86, w_X9_laysTold_87, nl_int, nl_ref, nl_null, nl_un, nl_rf, nl_long, isR_ref, isR_null, isR_rf, rf_some, rf_none, rOf_ref, rOf_null, rOf_rf, kn_v, kn_0, true_and, and_true, and_self, tin, inA_x, inA_l, ix_add, ix_addl, ix_ladd, ix_mul, ix_mull, ix_lmul, ix_tn, lt_tn, Nat.reduceLeDiff, Nat.reduceLT, Nat.reduceAdd, Nat.reduceMul, true_or, or_true, ↓reduceIte, aOk, ref_null, null_null, false_or, Option.isSome_some, Option.getD_some, ite_true, ite_false, eq_self, not_false_eq_true, not_true_eq_false, bz_ne, bz_1, reduceCtorEq, Bool.not_true, Bool.not_false, mo_0 hm5, mo_liesKnown hm5, mt_liesKnown hm5, ml_liesKnown hm5, mo_liesThere hm5, mt_liesThere hm5, ml_liesThere hm5, mo_tolds hm5, mt_tolds hm5, ml_tolds hm5, mo_toldCall hm5, mt_toldCall hm5, ml_toldCall hm5, mo_toldSound hm5, mt_toldSound hm5, ml_toldSound hm5, mo_toldNear hm5, mt_toldNear hm5, ml_toldNear hm5]
    have u6 : Md m toA [] h (sAi h5 (m + 51) (upd (Ai h5 (m + 51)) (12 * q + j) (Ai h5 (m + 51) (12 * p + j)))) := u5.sAi (by decide)
    have x6 : Ai (sAi h5 (m + 51) (upd (Ai h5 (m + 51)) (12 * q + j) (Ai h5 (m + 51) (12 * p + j)))) (m + 51) = cpF (Ai h (m + 51)) (12 * p) (Ai h (m + 51)) (12 * q) (j + 1) := by rw [Ai_same, x6, cpF_out ou, cpF_s]
    have o6 : ∀ k, k ≠ 51 → Ai (sAi h5 (m + 51) (upd (Ai h5 (m + 51)) (12 * q + j) (Ai h5 (m + 51) (12 * p + j)))) (m + k) = Ai h5 (m + k) := fun k hk => Ai_other (by omega)
    revert u6 x6 o6
    generalize sAi h5 (m + 51) (upd (Ai h5 (m + 51)) (12 * q + j) (Ai h5 (m + 51) (12 * p + j))) = h6
    intro u6 x6 o6
    rw [← o6 _ (by decide)] at x1 x2 x3 x5 x7
    have hm6 := u6.mo hm
    have z6 : Ai h6 (m + 52) (12 * p + j) = 0 ∨ Ai h6 (m + 52) (12 * p + j) = 1 := by rw [x7, cpF_out ou]; exact zb _
    simp (disch := first | assumption | omega | decide | rfl) only [w_X9_laysTold_88, w_X9_laysTold_89, w_X9_laysTold_92, w_X9_laysTold_94, w_X9_laysTold_95, w_X9_laysTold_96, w_X9_laysTold_97, w_X9_laysTold_98, w_X9_laysTold_99, w_X9_laysTold_102, w_X9_laysTold_104, w_X9_laysTold_105, w_X9_laysTold_106, w_X9_laysTold_107, w_X9_laysTold_108, w_X9_laysTold_109, w_X9_laysTold_110, w_X9_laysTold_113, nl_int, nl_ref, nl_null, nl_un, nl_rf, nl_long, isR_ref, isR_null, isR_rf, rf_some, rf_none, rOf_ref, rOf_null, rOf_rf, kn_v, kn_0, true_and, and_true, and_self, tin, inA_x, inA_l, ix_add, ix_addl, ix_ladd, ix_mul, ix_mull, ix_lmul, ix_tn, lt_tn, Nat.reduceLeDiff, Nat.reduceLT, Nat.reduceAdd, Nat.reduceMul, true_or, or_true, ↓reduceIte, aOk, ref_null, null_null, false_or, Option.isSome_some, Option.getD_some, ite_true, ite_false, eq_self, not_false_eq_true, not_true_eq_false, bz_ne, bz_1, reduceCtorEq, Bool.not_true, Bool.not_false, mo_0 hm6, mo_liesKnown hm6, mt_liesKnown hm6, ml_liesKnown hm6, mo_liesThere hm6, mt_liesThere hm6, ml_liesThere hm6, mo_tolds hm6, mt_tolds hm6, ml_tolds hm6, mo_toldCall hm6, mt_toldCall hm6, ml_toldCall hm6, mo_toldSound hm6, mt_toldSound hm6, ml_toldSound hm6, mo_toldNear hm6, mt_toldNear hm6, ml_toldNear hm6, eq_true z6]
    refine nx _ (u6.sAi (by decide)) ⟨?_, ?_, ?_, ?_, ?_, ?_⟩
    · rw [Ai_other (by omega)]; exact x1
    · rw [Ai_other (by omega)]; exact x2
    · rw [Ai_other (by omega)]; exact x3
    · rw [Ai_other (by omega)]; exact x5
    · rw [Ai_other (by omega)]; exact x6
    · rw [Ai_same, x7, cpF_out ou, cpF_s]
theorem LT.mk {T : Nat} (x : LT h h' m p q 12) (y : MK h m p K T) : MK h' m q K T := ⟨by rw [x.ka, upd_s]; exact y.kn, by rw [x.kb, upd_s]; exact y.th, y.kl, y.tl⟩
theorem LT.mko {T : Nat} (x : LT h h' m p q 12) (y : MK h m k K T) (ne : k ≠ q) : MK h' m k K T := ⟨by rw [x.ka, upd_n ne]; exact y.kn, by rw [x.kb, upd_n ne]; exact y.th, y.kl, y.tl⟩
theorem LT.mt {T : To} (x : LT h h' m p q 12) (y : MT h m p T) : MT h' m q T := by
  have := y.le
  exact ⟨by rw [x.kc, upd_s]; exact y.n, y.le, fun j hj => by rw [x.kd, cpF_in (by omega)]; exact y.c j hj, fun j hj => by rw [x.ke, cpF_in (by omega)]; exact y.s j hj, fun j hj => by rw [x.kf, cpF_in (by omega)]; exact y.r j hj⟩
theorem LT.mto {T : To} (x : LT h h' m p q 12) (y : MT h m k T) (ne : k ≠ q) : MT h' m k T := by
  have := y.le
  exact ⟨by rw [x.kc, upd_n ne]; exact y.n, y.le, fun j hj => by rw [x.kd, cpF_out (by omega)]; exact y.c j hj, fun j hj => by rw [x.ke, cpF_out (by omega)]; exact y.s j hj, fun j hj => by rw [x.kf, cpF_out (by omega)]; exact y.r j hj⟩
theorem LT.zb (x : LT h h' m p q 12) (z : Zb h m) : Zb h' m := by
  intro j
  rw [x.kf]
  unfold cpF
  split
  · exact z _
  · exact z _
end
