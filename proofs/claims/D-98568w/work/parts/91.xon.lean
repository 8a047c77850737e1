/-! ORCHARDS as objects: nearness, value, who hears -/
set_option maxRecDepth 100000
section
variable {lo hi d D o a b c f n p k t w s : Nat} {h h' h1 h2 : AH} {A : Nat → Prop} {O : Oc} {φ : Ph} {Q : Rs → AH → Prop} {day : Int32} {F : Nat → Int32}
theorem Sc.fc (u : Sc h h') : fcA h' o = fcA h o := by unfold fcA; rw [u.2.2.2.2.1]
theorem near_tail {hh : AH} (x : XO lo hi h o O) (hsc : Sc hh h) (ha : a < O.nS) (hb : b < O.nS) (hr : O.nr = some φ) (g0 : Ai h (fcA h o) 0 = ix (edF (O.sn a) (O.sn b))) {v3 : Value} : Ru (D + 249) 117 34 [.ref o, .int (ix a), .int (ix b), v3] [] h (fun r h' => r = .inl (some (.int (bz (nrF O.nr (O.sn a) (O.sn b))))) ∧ Sc hh h') := by
  generalize hQ : (fun r h' => r = .inl (some (.int (bz (nrF O.nr (O.sn a) (O.sn b))))) ∧ Sc hh h' : Rs → AH → Prop) = Q
  obtain ⟨f, q1, -, q3, q4, -, q6, q7⟩ := x.fc
  have t0 := x.tg
  have s1 := (x.sn1 a ha).2.2
  have s2 := (x.sn1 b hb).2.2
  have g1 := x.sn.fr
  have g2 := x.sn.wl.tg
  simp (disch := first | assumption | omega | decide | rfl) only [w_X4_isNear_34, w_X4_isNear_35, w_X4_isNear_38, w_X4_isNear_41, w_X4_isNear_42, w_X4_isNear_43, w_X4_isNear_46, w_X4_isNear_47, w_X4_isNear_50, w_X4_isNear_53, w_X4_isNear_54, w_X4_isNear_57, w_X4_isNear_58, w_X4_isNear_61, w_X4_isNear_64, w_X4_isNear_67, nl_int, nl_ref, nl_null, nl_un, nl_rf, nl_long, isR_ref, isR_null, isR_rf, rf_some, rf_none, rOf_ref, rOf_null, rOf_rf, kn_v, kn_0, true_and, and_true, and_self, tin, inA_x, inA_l, ix_add, ix_addl, ix_ladd, ix_mul, ix_mull, ix_lmul, ix_tn, lt_tn, Nat.reduceLeDiff, Nat.reduceLT, Nat.reduceAdd, Nat.reduceMul, true_or, or_true, ↓reduceIte, aOk, ref_null, null_null, false_or, Option.isSome_some, Option.getD_some, ite_true, ite_false, eq_self, not_false_eq_true, not_true_eq_false, Tg_sFi, Tg_sFl, Tg_sFr, Tg_sAi, Tg_sAl, Tg_sAr, An_sFi, An_sFl, An_sFr, An_sAi, An_sAl, An_sAr, Fi_sFl, Fi_sFr, Fi_sAi, Fi_sAl, Fi_sAr, Fl_sFi, Fl_sFr, Fl_sAi, Fl_sAl, Fl_sAr, Fr_sFi, Fr_sFl, Fr_sAi, Fr_sAl, Fr_sAr, Ai_sFi, Ai_sFl, Ai_sFr, Ai_sAl, Ai_sAr, Al_sFi, Al_sFl, Al_sFr, Al_sAi, Al_sAr, Ar_sFi, Ar_sFl, Ar_sFr, Ar_sAi, Ar_sAl, Fi_same, Fl_same, Fr_same, Ai_same, Al_same, Ar_same, Fi_otherf, Fl_otherf, Fr_otherf, t0, q1, q3, q4, q6, q7, g1, g2, x.sn.get ha, x.sn.get hb, s1.1, s2.1, c_start s1 s2]
  have u1 : Sc h (sAi h (fcA h o) (upd (Ai h (fcA h o)) 1 (ix (stF (O.sn a) (O.sn b))))) := sc_s (Or.inr q6)
  have k0 : Ai (sAi h (fcA h o) (upd (Ai h (fcA h o)) 1 (ix (stF (O.sn a) (O.sn b))))) (fcA h o) 0 = ix (edF (O.sn a) (O.sn b)) := by rw [Ai_same, upd_n (by decide)]; exact g0
  have k1 : Ai (sAi h (fcA h o) (upd (Ai h (fcA h o)) 1 (ix (stF (O.sn a) (O.sn b))))) (fcA h o) 1 = ix (stF (O.sn a) (O.sn b)) := by rw [Ai_same, upd_s]
  revert u1 k0 k1
  generalize sAi h (fcA h o) (upd (Ai h (fcA h o)) 1 (ix (stF (O.sn a) (O.sn b)))) = h1
  intro u1 k0 k1
  rw [← u1.fc] at k0 k1
  have x1 := u1.xo x
  clear q1 q3 q4 q6 q7 t0 s1 s2 g1 g2
  obtain ⟨f, q1, -, q3, q4, -, q6, q7⟩ := x1.fc
  have t0 := x1.tg
  rw [w_X4_isNear_68]
  simp (disch := first | assumption | omega | decide | rfl) only [w_X4_isNear_69, w_X4_isNear_72, w_X4_isNear_75, w_X4_isNear_76, w_X4_isNear_77, w_X4_isNear_78, w_X4_isNear_79, w_X4_isNear_82, nl_int, nl_ref, nl_null, nl_un, nl_rf, nl_long, isR_ref, isR_null, isR_rf, rf_some, rf_none, rOf_ref, rOf_null, rOf_rf, kn_v, kn_0, true_and, and_true, and_self, tin, inA_x, inA_l, ix_add, ix_addl, ix_ladd, ix_mul, ix_mull, ix_lmul, ix_tn, lt_tn, Nat.reduceLeDiff, Nat.reduceLT, Nat.reduceAdd, Nat.reduceMul, true_or, or_true, ↓reduceIte, aOk, ref_null, null_null, false_or, Option.isSome_some, Option.getD_some, ite_true, ite_false, eq_self, not_false_eq_true, not_true_eq_false, Tg_sFi, Tg_sFl, Tg_sFr, Tg_sAi, Tg_sAl, Tg_sAr, An_sFi, An_sFl, An_sFr, An_sAi, An_sAl, An_sAr, Fi_sFl, Fi_sFr, Fi_sAi, Fi_sAl, Fi_sAr, Fl_sFi, Fl_sFr, Fl_sAi, Fl_sAl, Fl_sAr, Fr_sFi, Fr_sFl, Fr_sAi, Fr_sAl, Fr_sAr, Ai_sFi, Ai_sFl, Ai_sFr, Ai_sAl, Ai_sAr, Al_sFi, Al_sFl, Al_sFr, Al_sAi, Al_sAr, Ar_sFi, Ar_sFl, Ar_sFr, Ar_sAi, Ar_sAl, Fi_same, Fl_same, Fr_same, Ai_same, Al_same, Ar_same, Fi_otherf, Fl_otherf, Fr_otherf, t0, q1, q3, q4, q6, q7, cx_rhyme x1 ha hb]
  have u2 : Sc h1 (sAi h1 (fcA h1 o) (upd (Ai h1 (fcA h1 o)) 2 (ix (rhF (O.sn a) (O.sn b))))) := sc_s (Or.inr q6)
  have l0 : Ai (sAi h1 (fcA h1 o) (upd (Ai h1 (fcA h1 o)) 2 (ix (rhF (O.sn a) (O.sn b))))) (fcA h1 o) 0 = ix (edF (O.sn a) (O.sn b)) := by rw [Ai_same, upd_n (by decide)]; exact k0
  have l1 : Ai (sAi h1 (fcA h1 o) (upd (Ai h1 (fcA h1 o)) 2 (ix (rhF (O.sn a) (O.sn b))))) (fcA h1 o) 1 = ix (stF (O.sn a) (O.sn b)) := by rw [Ai_same, upd_n (by decide)]; exact k1
  have l2 : Ai (sAi h1 (fcA h1 o) (upd (Ai h1 (fcA h1 o)) 2 (ix (rhF (O.sn a) (O.sn b))))) (fcA h1 o) 2 = ix (rhF (O.sn a) (O.sn b)) := by rw [Ai_same, upd_s]
  revert u2 l0 l1 l2
  generalize sAi h1 (fcA h1 o) (upd (Ai h1 (fcA h1 o)) 2 (ix (rhF (O.sn a) (O.sn b)))) = h2
  intro u2 l0 l1 l2
  rw [← u2.fc] at l0 l1 l2
  have x2 := u2.xo x1
  clear q1 q3 q4 q6 q7 t0
  obtain ⟨f, q1, -, q3, q4, -, q6, q7⟩ := x2.fc
  have t0 := x2.tg
  have s1 := (x2.sn1 a ha).2.2
  have g1 := x2.sn.fr
  have g2 := x2.sn.wl.tg
  simp (disch := first | assumption | omega | decide | rfl) only [w_X4_isNear_83, w_X4_isNear_84, w_X4_isNear_87, w_X4_isNear_90, w_X4_isNear_91, w_X4_isNear_92, w_X4_isNear_95, w_X4_isNear_96, w_X4_isNear_99, w_X4_isNear_102, w_X4_isNear_105, nl_int, nl_ref, nl_null, nl_un, nl_rf, nl_long, isR_ref, isR_null, isR_rf, rf_some, rf_none, rOf_ref, rOf_null, rOf_rf, kn_v, kn_0, true_and, and_true, and_self, tin, inA_x, inA_l, ix_add, ix_addl, ix_ladd, ix_mul, ix_mull, ix_lmul, ix_tn, lt_tn, Nat.reduceLeDiff, Nat.reduceLT, Nat.reduceAdd, Nat.reduceMul, true_or, or_true, ↓reduceIte, aOk, ref_null, null_null, false_or, Option.isSome_some, Option.getD_some, ite_true, ite_false, eq_self, not_false_eq_true, not_true_eq_false, Tg_sFi, Tg_sFl, Tg_sFr, Tg_sAi, Tg_sAl, Tg_sAr, An_sFi, An_sFl, An_sFr, An_sAi, An_sAl, An_sAr, Fi_sFl, Fi_sFr, Fi_sAi, Fi_sAl, Fi_sAr, Fl_sFi, Fl_sFr, Fl_sAi, Fl_sAl, Fl_sAr, Fr_sFi, Fr_sFl, Fr_sAi, Fr_sAl, Fr_sAr, Ai_sFi, Ai_sFl, Ai_sFr, Ai_sAl, Ai_sAr, Al_sFi, Al_sFl, Al_sFr, Al_sAi, Al_sAr, Ar_sFi, Ar_sFl, Ar_sFr, Ar_sAi, Ar_sAl, Fi_same, Fl_same, Fr_same, Ai_same, Al_same, Ar_same, Fi_otherf, Fl_otherf, Fr_otherf, t0, q1, q3, q4, q6, q7, g1, g2, x2.sn.get ha, s1.1, c_many s1]
  have u3 : Sc h2 (sAi h2 (fcA h2 o) (upd (Ai h2 (fcA h2 o)) 3 (ix (wl (O.sn a))))) := sc_s (Or.inr q6)
  have m0 : Ai (sAi h2 (fcA h2 o) (upd (Ai h2 (fcA h2 o)) 3 (ix (wl (O.sn a))))) (fcA h2 o) 0 = ix (edF (O.sn a) (O.sn b)) := by rw [Ai_same, upd_n (by decide)]; exact l0
  have m1 : Ai (sAi h2 (fcA h2 o) (upd (Ai h2 (fcA h2 o)) 3 (ix (wl (O.sn a))))) (fcA h2 o) 1 = ix (stF (O.sn a) (O.sn b)) := by rw [Ai_same, upd_n (by decide)]; exact l1
  have m2 : Ai (sAi h2 (fcA h2 o) (upd (Ai h2 (fcA h2 o)) 3 (ix (wl (O.sn a))))) (fcA h2 o) 2 = ix (rhF (O.sn a) (O.sn b)) := by rw [Ai_same, upd_n (by decide)]; exact l2
  have m3 : Ai (sAi h2 (fcA h2 o) (upd (Ai h2 (fcA h2 o)) 3 (ix (wl (O.sn a))))) (fcA h2 o) 3 = ix (wl (O.sn a)) := by rw [Ai_same, upd_s]
  revert u3 m0 m1 m2 m3
  generalize sAi h2 (fcA h2 o) (upd (Ai h2 (fcA h2 o)) 3 (ix (wl (O.sn a)))) = h3
  intro u3 m0 m1 m2 m3
  rw [← u3.fc] at m0 m1 m2 m3
  have x3 := u3.xo x2
  clear q1 q3 q4 q6 q7 t0
  obtain ⟨f, q1, -, q3, q4, -, q6, q7⟩ := x3.fc
  have t0 := x3.tg
  have hn := x3.nr
  rw [hr] at hn
  obtain ⟨e, k, hn, hx, hk, hloc⟩ := hn
  obtain ⟨z, hz, hc⟩ := c_of q3 q4 q6 q7 k e φ hx
  simp (disch := first | assumption | omega | decide | rfl) only [w_X4_isNear_106, w_X4_isNear_107, w_X4_isNear_110, w_X4_isNear_111, nl_int, nl_ref, nl_null, nl_un, nl_rf, nl_long, isR_ref, isR_null, isR_rf, rf_some, rf_none, rOf_ref, rOf_null, rOf_rf, kn_v, kn_0, true_and, and_true, and_self, tin, inA_x, inA_l, ix_add, ix_addl, ix_ladd, ix_mul, ix_mull, ix_lmul, ix_tn, lt_tn, Nat.reduceLeDiff, Nat.reduceLT, Nat.reduceAdd, Nat.reduceMul, true_or, or_true, ↓reduceIte, aOk, ref_null, null_null, false_or, Option.isSome_some, Option.getD_some, ite_true, ite_false, eq_self, not_false_eq_true, not_true_eq_false, t0, hn, q1]
  rw [w_X4_isNear_114 hz, hc _ _ (by omega), kn_v]
  have eq : φ (fun j => Ai h3 (fcA h3 o) (j - 1)) = φ (fcF (O.sn a) (O.sn b)) := by
    refine hloc _ _ (fun f h1 h2 => ?_)
    unfold fcF
    rcases (show f = 1 ∨ f = 2 ∨ f = 3 ∨ f = 4 by omega) with rfl | rfl | rfl | rfl
    · exact m0
    · exact m1
    · exact m2
    · exact m3
  rw [eq]
  simp (disch := first | assumption | omega | decide | rfl) only [w_X4_isNear_117, w_X4_isNear_120, w_X4_isNear_121, w_X4_isNear_124, nl_int, nl_ref, nl_null, nl_un, nl_rf, nl_long, isR_ref, isR_null, isR_rf, rf_some, rf_none, rOf_ref, rOf_null, rOf_rf, kn_v, kn_0, true_and, and_true, and_self, tin, inA_x, inA_l, ix_add, ix_addl, ix_ladd, ix_mul, ix_mull, ix_lmul, ix_tn, lt_tn, Nat.reduceLeDiff, Nat.reduceLT, Nat.reduceAdd, Nat.reduceMul, true_or, or_true, ↓reduceIte, aOk, ref_null, null_null, false_or, Option.isSome_some, Option.getD_some, ite_true, ite_false, eq_self, not_false_eq_true, not_true_eq_false, ru_join, ite_cons, ite_int, ite_self]
  have ebz : (if φ (fcF (O.sn a) (O.sn b)) = 0 then (0 : Int32) else 1) = bz (nrF O.nr (O.sn a) (O.sn b)) := by
    rw [hr]
    show _ = bz (decide (¬ φ (fcF (O.sn a) (O.sn b)) = 0))
    by_cases q : φ (fcF (O.sn a) (O.sn b)) = 0 <;> simp [q, bz]
  rw [ebz]
  simp (disch := first | assumption | omega | decide | rfl) only [w_X4_isNear_125, nl_int, nl_ref, nl_null, nl_un, nl_rf, nl_long, isR_ref, isR_null, isR_rf, rf_some, rf_none, rOf_ref, rOf_null, rOf_rf, kn_v, kn_0, true_and, and_true, and_self, tin, inA_x, inA_l, ix_add, ix_addl, ix_ladd, ix_mul, ix_mull, ix_lmul, ix_tn, lt_tn, Nat.reduceLeDiff, Nat.reduceLT, Nat.reduceAdd, Nat.reduceMul, true_or, or_true, ↓reduceIte, aOk, ref_null, null_null, false_or, Option.isSome_some, Option.getD_some, ite_true, ite_false, eq_self, not_false_eq_true, not_true_eq_false, fot, bz_ne, bz_1, ite_bz, Bool.not_eq_false, Bool.not_eq_true]
  rw [← hQ]
  exact ⟨rfl, ((hsc.trans u1).trans u2).trans u3⟩
theorem cx_isNear (x : XO lo hi h o O) (ha : a < O.nS) (hb : b < O.nS) : Ca (D + 250) 117 [.ref o, .int (ix a), .int (ix b)] h (fun r h' => r = .inl (some (.int (bz (nrF O.nr (O.sn a) (O.sn b))))) ∧ Sc h h') := by
  have hed := edF_le (w := O.sn a) (u := O.sn b)
  generalize hQ : (fun r h' => r = .inl (some (.int (bz (nrF O.nr (O.sn a) (O.sn b))))) ∧ Sc h h' : Rs → AH → Prop) = Q
  rw [e_X4_isNear, w_X4_isNear_0]
  simp (disch := first | assumption | omega | decide | rfl) only [w_X4_isNear_1, w_X4_isNear_2, w_X4_isNear_3, nl_int, nl_ref, nl_null, nl_un, nl_rf, nl_long, isR_ref, isR_null, isR_rf, rf_some, rf_none, rOf_ref, rOf_null, rOf_rf, kn_v, kn_0, true_and, and_true, and_self, tin, inA_x, inA_l, ix_add, ix_addl, ix_ladd, ix_mul, ix_mull, ix_lmul, ix_tn, lt_tn, Nat.reduceLeDiff, Nat.reduceLT, Nat.reduceAdd, Nat.reduceMul, true_or, or_true, ↓reduceIte, aOk, ref_null, null_null, false_or, Option.isSome_some, Option.getD_some, ite_true, ite_false, eq_self, not_false_eq_true, not_true_eq_false, x.tg]
  refine ca_mono (cx_edits x ha hb) ?_
  rintro z h1 ⟨rfl, u⟩
  rw [kn_v]
  have x1 := u.xo x
  have t0 := x1.tg
  have s1 := (x1.sn1 a ha).2.2
  have s2 := (x1.sn1 b hb).2.2
  have g1 := x1.sn.fr
  have g2 := x1.sn.wl.tg
  have hn := x1.nr
  have e0 : (ix (edF (O.sn a) (O.sn b)) = 0) = (edF (O.sn a) (O.sn b) = 0) := ix_eql (n := 0) (by omega) (by decide)
  obtain ⟨f, q1, -, q3, q4, -, q6, q7⟩ := x1.fc
  generalize hv : O.nr = e at hn hQ
  cases e with
  | none =>
    have hn : Fr h1 39 o = none := hn
    simp (disch := first | assumption | omega | decide | rfl) only [w_X4_isNear_6, w_X4_isNear_7, w_X4_isNear_8, w_X4_isNear_11, w_X4_isNear_14, w_X4_isNear_15, w_X4_isNear_18, w_X4_isNear_19, w_X4_isNear_22, nl_int, nl_ref, nl_null, nl_un, nl_rf, nl_long, isR_ref, isR_null, isR_rf, rf_some, rf_none, rOf_ref, rOf_null, rOf_rf, kn_v, kn_0, true_and, and_true, and_self, tin, inA_x, inA_l, ix_add, ix_addl, ix_ladd, ix_mul, ix_mull, ix_lmul, ix_tn, lt_tn, Nat.reduceLeDiff, Nat.reduceLT, Nat.reduceAdd, Nat.reduceMul, true_or, or_true, ↓reduceIte, aOk, ref_null, null_null, false_or, Option.isSome_some, Option.getD_some, ite_true, ite_false, eq_self, not_false_eq_true, not_true_eq_false, t0, hn, e0, ru_join, ite_cons, ite_int, ite_self]
    simp (disch := first | assumption | omega | decide | rfl) only [w_X4_isNear_23, nl_int, nl_ref, nl_null, nl_un, nl_rf, nl_long, isR_ref, isR_null, isR_rf, rf_some, rf_none, rOf_ref, rOf_null, rOf_rf, kn_v, kn_0, true_and, and_true, and_self, tin, inA_x, inA_l, ix_add, ix_addl, ix_ladd, ix_mul, ix_mull, ix_lmul, ix_tn, lt_tn, Nat.reduceLeDiff, Nat.reduceLT, Nat.reduceAdd, Nat.reduceMul, true_or, or_true, ↓reduceIte, aOk, ref_null, null_null, false_or, Option.isSome_some, Option.getD_some, ite_true, ite_false, eq_self, not_false_eq_true, not_true_eq_false, fot, bz_ne, bz_1, ite_bz, Bool.not_eq_false, Bool.not_eq_true]
    rw [← hQ]
    exact ⟨rfl, u⟩
  | some φ =>
    obtain ⟨e, k, hn, hx, hk, hloc⟩ := hn
    simp (disch := first | assumption | omega | decide | rfl) only [w_X4_isNear_6, w_X4_isNear_7, w_X4_isNear_8, w_X4_isNear_11, w_X4_isNear_24, w_X4_isNear_25, w_X4_isNear_28, w_X4_isNear_31, w_X4_isNear_32, w_X4_isNear_33, nl_int, nl_ref, nl_null, nl_un, nl_rf, nl_long, isR_ref, isR_null, isR_rf, rf_some, rf_none, rOf_ref, rOf_null, rOf_rf, kn_v, kn_0, true_and, and_true, and_self, tin, inA_x, inA_l, ix_add, ix_addl, ix_ladd, ix_mul, ix_mull, ix_lmul, ix_tn, lt_tn, Nat.reduceLeDiff, Nat.reduceLT, Nat.reduceAdd, Nat.reduceMul, true_or, or_true, ↓reduceIte, aOk, ref_null, null_null, false_or, Option.isSome_some, Option.getD_some, ite_true, ite_false, eq_self, not_false_eq_true, not_true_eq_false, Tg_sFi, Tg_sFl, Tg_sFr, Tg_sAi, Tg_sAl, Tg_sAr, An_sFi, An_sFl, An_sFr, An_sAi, An_sAl, An_sAr, Fi_sFl, Fi_sFr, Fi_sAi, Fi_sAl, Fi_sAr, Fl_sFi, Fl_sFr, Fl_sAi, Fl_sAl, Fl_sAr, Fr_sFi, Fr_sFl, Fr_sAi, Fr_sAl, Fr_sAr, Ai_sFi, Ai_sFl, Ai_sFr, Ai_sAl, Ai_sAr, Al_sFi, Al_sFl, Al_sFr, Al_sAi, Al_sAr, Ar_sFi, Ar_sFl, Ar_sFr, Ar_sAi, Ar_sAl, Fi_same, Fl_same, Fr_same, Ai_same, Al_same, Ar_same, Fi_otherf, Fl_otherf, Fr_otherf, t0, hn, q1, q3, q4, q6, q7]
    have u2 : Sc h1 (sAi h1 (fcA h1 o) (upd (Ai h1 (fcA h1 o)) 0 (ix (edF (O.sn a) (O.sn b))))) := sc_s (Or.inr q6)
    have k0 : Ai (sAi h1 (fcA h1 o) (upd (Ai h1 (fcA h1 o)) 0 (ix (edF (O.sn a) (O.sn b))))) (fcA h1 o) 0 = ix (edF (O.sn a) (O.sn b)) := by rw [Ai_same, upd_s]
    revert u2 k0
    generalize sAi h1 (fcA h1 o) (upd (Ai h1 (fcA h1 o)) 0 (ix (edF (O.sn a) (O.sn b)))) = h2
    intro u2 k0
    rw [← u2.fc] at k0
    rw [← hQ, ← hv]
    exact near_tail (u2.xo x1) (u.trans u2) ha hb hv k0
end
