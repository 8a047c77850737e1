/-! ORCHARDS as objects: value, who hears -/
set_option maxRecDepth 100000
section
variable {lo hi d D o a b c f n p k t w s : Nat} {h h' h1 h2 : AH} {A : Nat → Prop} {O : Oc} {φ : Ph} {Q : Rs → AH → Prop} {day : Int32} {F : Nat → Int32}
theorem tg_ap (hk : k < 4) (e : Tg h p = 12 + k) : Tg h p ∈ [12, 13, 14, 15] := by
  rw [e]
  rcases (show k = 0 ∨ k = 1 ∨ k = 2 ∨ k = 3 by omega) with rfl | rfl | rfl | rfl <;> decide
theorem clx {v : Int32} : (if (0 : Int32) < (if v < 999 then v else 999) then (if v < 999 then v else 999) else 0) = clF v := by
  unfold clF
  by_cases q : v < 0
  · have q1 : v < 999 := Int32.lt_trans q (by decide)
    have q2 : ¬ (0 : Int32) < v := Int32.not_lt.mpr (Int32.le_of_lt q)
    simp [q, q1, q2]
  · by_cases q1 : (999 : Int32) < v
    · have q2 : ¬ v < 999 := Int32.not_lt.mpr (Int32.le_of_lt q1)
      simp [q, q1, q2]
    · by_cases q2 : v < 999
      · by_cases q3 : (0 : Int32) < v
        · simp [q, q1, q2, q3]
        · have : v = 0 := Int32.le_antisymm (Int32.not_lt.mp q3) (Int32.not_lt.mp q)
          subst this; decide
      · have : v = 999 := Int32.le_antisymm (Int32.not_lt.mp q1) (Int32.not_lt.mp q2)
        subst this; decide
theorem cx_value (x : XO lo hi h o O) (ha : a < O.nA) : Ca (D + 250) 114 [.ref o, .int (ix a), .int day] h (fun r h' => r = .inl (some (.int (vaF O a day))) ∧ Sc h h') := by
  have t0 := x.tg
  obtain ⟨-, p1, p2, p3, p4, p5, p6, p7⟩ := x.ap1 a ha
  have b1 := x.wo.kd a ha
  have tm := tg_ap b1 p1
  have g1 := x.ap.fr
  have g2 := x.ap.wl.tg
  have hn := x.vl
  obtain ⟨f, q1, -, q3, q4, -, q6, q7⟩ := x.fc
  generalize hv : O.vl = e at hn
  rw [e_X4_value]
  cases e with
  | none =>
    have hn : Fr h 40 o = none := hn
    have ev : vaF O a day = if day - ix (O.rp a) < 0 then 0 else ix (O.wo a) := by unfold vaF; rw [hv]
    rw [ev]
    by_cases q : day - ix (O.rp a) < 0
    · simp (disch := first | assumption | omega | decide | rfl) only [w_X4_value_0, w_X4_value_1, w_X4_value_4, w_X4_value_5, w_X4_value_8, w_X4_value_11, w_X4_value_12, w_X4_value_13, w_X4_value_14, w_X4_value_17, w_X4_value_18, w_X4_value_20, w_X4_value_21, w_X4_value_24, w_X4_value_27, w_X4_value_29, w_X4_value_32, w_X4_value_33, w_X4_value_36, w_X4_value_37, w_X4_value_40, nl_int, nl_ref, nl_null, nl_un, nl_rf, nl_long, isR_ref, isR_null, isR_rf, rf_some, rf_none, rOf_ref, rOf_null, rOf_rf, kn_v, kn_0, true_and, and_true, and_self, tin, inA_x, inA_l, ix_add, ix_addl, ix_ladd, ix_mul, ix_mull, ix_lmul, ix_tn, lt_tn, Nat.reduceLeDiff, Nat.reduceLT, Nat.reduceAdd, Nat.reduceMul, true_or, or_true, ↓reduceIte, aOk, ref_null, null_null, false_or, Option.isSome_some, Option.getD_some, ite_true, ite_false, eq_self, not_false_eq_true, not_true_eq_false, t0, g1, g2, x.ap.get ha, tm, p5, p6, hn, q]
      exact Sc.refl
    · simp (disch := first | assumption | omega | decide | rfl) only [w_X4_value_0, w_X4_value_1, w_X4_value_4, w_X4_value_5, w_X4_value_8, w_X4_value_11, w_X4_value_12, w_X4_value_13, w_X4_value_14, w_X4_value_17, w_X4_value_18, w_X4_value_20, w_X4_value_21, w_X4_value_24, w_X4_value_27, w_X4_value_29, w_X4_value_32, w_X4_value_33, w_X4_value_36, w_X4_value_37, w_X4_value_40, nl_int, nl_ref, nl_null, nl_un, nl_rf, nl_long, isR_ref, isR_null, isR_rf, rf_some, rf_none, rOf_ref, rOf_null, rOf_rf, kn_v, kn_0, true_and, and_true, and_self, tin, inA_x, inA_l, ix_add, ix_addl, ix_ladd, ix_mul, ix_mull, ix_lmul, ix_tn, lt_tn, Nat.reduceLeDiff, Nat.reduceLT, Nat.reduceAdd, Nat.reduceMul, true_or, or_true, ↓reduceIte, aOk, ref_null, null_null, false_or, Option.isSome_some, Option.getD_some, ite_true, ite_false, eq_self, not_false_eq_true, not_true_eq_false, t0, g1, g2, x.ap.get ha, tm, p5, p6, hn, q]
      exact Sc.refl
  | some φ =>
    obtain ⟨e, k, hn, hx, hk, hloc⟩ := hn
    have ev : vaF O a day = clF (φ (fun k => if k = 5 then ix (O.wo a) else day - ix (O.rp a))) := by unfold vaF; rw [hv]
    simp (disch := first | assumption | omega | decide | rfl) only [w_X4_value_0, w_X4_value_1, w_X4_value_4, w_X4_value_5, w_X4_value_8, w_X4_value_11, w_X4_value_12, w_X4_value_13, w_X4_value_14, w_X4_value_17, w_X4_value_18, w_X4_value_20, w_X4_value_21, w_X4_value_24, w_X4_value_41, w_X4_value_42, w_X4_value_45, w_X4_value_48, w_X4_value_49, w_X4_value_50, w_X4_value_53, w_X4_value_54, w_X4_value_55, w_X4_value_58, w_X4_value_61, w_X4_value_62, w_X4_value_64, nl_int, nl_ref, nl_null, nl_un, nl_rf, nl_long, isR_ref, isR_null, isR_rf, rf_some, rf_none, rOf_ref, rOf_null, rOf_rf, kn_v, kn_0, true_and, and_true, and_self, tin, inA_x, inA_l, ix_add, ix_addl, ix_ladd, ix_mul, ix_mull, ix_lmul, ix_tn, lt_tn, Nat.reduceLeDiff, Nat.reduceLT, Nat.reduceAdd, Nat.reduceMul, true_or, or_true, ↓reduceIte, aOk, ref_null, null_null, false_or, Option.isSome_some, Option.getD_some, ite_true, ite_false, eq_self, not_false_eq_true, not_true_eq_false, Tg_sFi, Tg_sFl, Tg_sFr, Tg_sAi, Tg_sAl, Tg_sAr, An_sFi, An_sFl, An_sFr, An_sAi, An_sAl, An_sAr, Fi_sFl, Fi_sFr, Fi_sAi, Fi_sAl, Fi_sAr, Fl_sFi, Fl_sFr, Fl_sAi, Fl_sAl, Fl_sAr, Fr_sFi, Fr_sFl, Fr_sAi, Fr_sAl, Fr_sAr, Ai_sFi, Ai_sFl, Ai_sFr, Ai_sAl, Ai_sAr, Al_sFi, Al_sFl, Al_sFr, Al_sAi, Al_sAr, Ar_sFi, Ar_sFl, Ar_sFr, Ar_sAi, Ar_sAl, Fi_same, Fl_same, Fr_same, Ai_same, Al_same, Ar_same, Fi_otherf, Fl_otherf, Fr_otherf, t0, g1, g2, x.ap.get ha, tm, p5, p6, hn, q1, q3, q4, q6, q7, sAi_sAi]
    have u1 : Sc h (sAi h (fcA h o) (upd (upd (Ai h (fcA h o)) 0 (ix (O.wo a))) 1 (day - ix (O.rp a)))) := sc_s (Or.inr q6)
    have k0 : Ai (sAi h (fcA h o) (upd (upd (Ai h (fcA h o)) 0 (ix (O.wo a))) 1 (day - ix (O.rp a)))) (fcA h o) 0 = ix (O.wo a) := by rw [Ai_same, upd_n (by decide), upd_s]
    have k1 : Ai (sAi h (fcA h o) (upd (upd (Ai h (fcA h o)) 0 (ix (O.wo a))) 1 (day - ix (O.rp a)))) (fcA h o) 1 = day - ix (O.rp a) := by rw [Ai_same, upd_s]
    revert u1 k0 k1
    generalize sAi h (fcA h o) (upd (upd (Ai h (fcA h o)) 0 (ix (O.wo a))) 1 (day - ix (O.rp a))) = h1
    intro u1 k0 k1
    rw [← u1.fc] at k0 k1
    have x1 := u1.xo x
    clear q1 q3 q4 q6 q7 t0
    obtain ⟨f, q1, -, q3, q4, -, q6, q7⟩ := x1.fc
    have t0 := x1.tg
    have hn := x1.vl
    rw [hv] at hn
    obtain ⟨e, k, hn, hx, hk, hloc⟩ := hn
    obtain ⟨z, hz, hc⟩ := c_of q3 q4 q6 q7 k e φ hx
    simp (disch := first | assumption | omega | decide | rfl) only [w_X4_value_65, w_X4_value_66, w_X4_value_69, w_X4_value_70, w_X4_value_73, w_X4_value_74, nl_int, nl_ref, nl_null, nl_un, nl_rf, nl_long, isR_ref, isR_null, isR_rf, rf_some, rf_none, rOf_ref, rOf_null, rOf_rf, kn_v, kn_0, true_and, and_true, and_self, tin, inA_x, inA_l, ix_add, ix_addl, ix_ladd, ix_mul, ix_mull, ix_lmul, ix_tn, lt_tn, Nat.reduceLeDiff, Nat.reduceLT, Nat.reduceAdd, Nat.reduceMul, true_or, or_true, ↓reduceIte, aOk, ref_null, null_null, false_or, Option.isSome_some, Option.getD_some, ite_true, ite_false, eq_self, not_false_eq_true, not_true_eq_false, t0, hn, q1]
    rw [w_X4_value_77 hz, hc _ _ (by omega), kn_v]
    have eq : φ (fun j => Ai h1 (fcA h1 o) (j - 5)) = φ (fun k => if k = 5 then ix (O.wo a) else day - ix (O.rp a)) := by
      refine hloc _ _ (fun f h1 h2 => ?_)
      rcases (show f = 5 ∨ f = 6 by omega) with rfl | rfl
      · exact k0
      · exact k1
    rw [eq]
    simp (disch := first | assumption | omega | decide | rfl) only [w_X4_value_80, w_X4_value_83, w_X4_value_86, nl_int, nl_ref, nl_null, nl_un, nl_rf, nl_long, isR_ref, isR_null, isR_rf, rf_some, rf_none, rOf_ref, rOf_null, rOf_rf, kn_v, kn_0, true_and, and_true, and_self, tin, inA_x, inA_l, ix_add, ix_addl, ix_ladd, ix_mul, ix_mull, ix_lmul, ix_tn, lt_tn, Nat.reduceLeDiff, Nat.reduceLT, Nat.reduceAdd, Nat.reduceMul, true_or, or_true, ↓reduceIte, aOk, ref_null, null_null, false_or, Option.isSome_some, Option.getD_some, ite_true, ite_false, eq_self, not_false_eq_true, not_true_eq_false, c_min, c_max, clx, ev]
    exact u1
noncomputable def xhF (O : Oc) (c s a : Nat) : Bool := !decide (O.kd a = 3) && liF O (fun _ => s) c a
theorem cx_hears (x : XO lo hi h o O) (ha : a < O.nA) (hc : c < O.nS) (hs : s < O.nS) : Ca (D + 252) 119 [.ref o, .int (ix a), .int (ix c), .int (ix s)] h (fun r h' => r = .inl (some (.int (bz (xhF O c s a)))) ∧ Sc h h') := by
  have n2 := x.wo.nS
  have t0 := x.tg
  obtain ⟨-, p1, -⟩ := x.ap1 a ha
  have b1 := x.wo.kd a ha
  have tm := tg_ap b1 p1
  have g1 := x.ap.fr
  have g2 := x.ap.wl.tg
  generalize hQ : (fun r h' => r = .inl (some (.int (bz (xhF O c s a)))) ∧ Sc h h' : Rs → AH → Prop) = Q
  rw [e_X4_hears]
  simp (disch := first | assumption | omega | decide | rfl) only [w_X4_hears_0, w_X4_hears_1, w_X4_hears_4, w_X4_hears_5, w_X4_hears_8, nl_int, nl_ref, nl_null, nl_un, nl_rf, nl_long, isR_ref, isR_null, isR_rf, rf_some, rf_none, rOf_ref, rOf_null, rOf_rf, kn_v, kn_0, true_and, and_true, and_self, tin, inA_x, inA_l, ix_add, ix_addl, ix_ladd, ix_mul, ix_mull, ix_lmul, ix_tn, lt_tn, Nat.reduceLeDiff, Nat.reduceLT, Nat.reduceAdd, Nat.reduceMul, true_or, or_true, ↓reduceIte, aOk, ref_null, null_null, false_or, Option.isSome_some, Option.getD_some, ite_true, ite_false, eq_self, not_false_eq_true, not_true_eq_false, t0, g1, g2, x.ap.get ha, tm]
  rw [w_X4_hears_11]
  simp (disch := first | assumption | omega | decide | rfl) only [w_X4_hears_12, w_X4_hears_13, w_X4_hears_14, nl_int, nl_ref, nl_null, nl_un, nl_rf, nl_long, isR_ref, isR_null, isR_rf, rf_some, rf_none, rOf_ref, rOf_null, rOf_rf, kn_v, kn_0, true_and, and_true, and_self, tin, inA_x, inA_l, ix_add, ix_addl, ix_ladd, ix_mul, ix_mull, ix_lmul, ix_tn, lt_tn, Nat.reduceLeDiff, Nat.reduceLT, Nat.reduceAdd, Nat.reduceMul, true_or, or_true, ↓reduceIte, aOk, ref_null, null_null, false_or, Option.isSome_some, Option.getD_some, ite_true, ite_false, eq_self, not_false_eq_true, not_true_eq_false, t0]
  refine ca_mono (cx_isNear x hc hs) ?_
  rintro z h1 ⟨rfl, u⟩
  rw [kn_v]
  have p2 : Tg h1 (oe h o 32 a) = 12 + O.kd a := by rw [u.1]; exact p1
  simp (disch := first | assumption | omega | decide | rfl) only [w_X4_hears_17, w_X4_hears_18, w_X4_hears_19, w_X4_hears_22, w_X4_hears_23, w_X4_hears_26, nl_int, nl_ref, nl_null, nl_un, nl_rf, nl_long, isR_ref, isR_null, isR_rf, rf_some, rf_none, rOf_ref, rOf_null, rOf_rf, kn_v, kn_0, true_and, and_true, and_self, tin, inA_x, inA_l, ix_add, ix_addl, ix_ladd, ix_mul, ix_mull, ix_lmul, ix_tn, lt_tn, Nat.reduceLeDiff, Nat.reduceLT, Nat.reduceAdd, Nat.reduceMul, true_or, or_true, ↓reduceIte, aOk, ref_null, null_null, false_or, Option.isSome_some, Option.getD_some, ite_true, ite_false, eq_self, not_false_eq_true, not_true_eq_false, ix_eq, ru_join, ite_cons, ite_int, ite_self, ite_bz]
  rcases (show O.kd a = 0 ∨ O.kd a = 1 ∨ O.kd a = 2 ∨ O.kd a = 3 by omega) with q | q | q | q
  · have l : lk [(12, 246), (13, 250), (14, 246), (15, 256)] (Tg h1 (oe h o 32 a)) = some 246 := by rw [p2, q]; rfl
    rw [w_X4_hears_27 l, e_X11_hears]
    simp (disch := first | assumption | omega | decide | rfl) only [w_X11_hears_0, w_X11_hears_1, w_X4_hears_30, nl_int, nl_ref, nl_null, nl_un, nl_rf, nl_long, isR_ref, isR_null, isR_rf, rf_some, rf_none, rOf_ref, rOf_null, rOf_rf, kn_v, kn_0, true_and, and_true, and_self, tin, inA_x, inA_l, ix_add, ix_addl, ix_ladd, ix_mul, ix_mull, ix_lmul, ix_tn, lt_tn, Nat.reduceLeDiff, Nat.reduceLT, Nat.reduceAdd, Nat.reduceMul, true_or, or_true, ↓reduceIte, aOk, ref_null, null_null, false_or, Option.isSome_some, Option.getD_some, ite_true, ite_false, eq_self, not_false_eq_true, not_true_eq_false, fot, bz_ne, bz_1, ite_bz, Bool.not_eq_false, Bool.not_eq_true]
    rw [← hQ]
    exact ⟨by simp [xhF, liF, q], u⟩
  · have l : lk [(12, 246), (13, 250), (14, 246), (15, 256)] (Tg h1 (oe h o 32 a)) = some 250 := by rw [p2, q]; rfl
    rw [w_X4_hears_27 l, e_X12_hears]
    simp (disch := first | assumption | omega | decide | rfl) only [w_X12_hears_0, w_X12_hears_1, w_X4_hears_30, nl_int, nl_ref, nl_null, nl_un, nl_rf, nl_long, isR_ref, isR_null, isR_rf, rf_some, rf_none, rOf_ref, rOf_null, rOf_rf, kn_v, kn_0, true_and, and_true, and_self, tin, inA_x, inA_l, ix_add, ix_addl, ix_ladd, ix_mul, ix_mull, ix_lmul, ix_tn, lt_tn, Nat.reduceLeDiff, Nat.reduceLT, Nat.reduceAdd, Nat.reduceMul, true_or, or_true, ↓reduceIte, aOk, ref_null, null_null, false_or, Option.isSome_some, Option.getD_some, ite_true, ite_false, eq_self, not_false_eq_true, not_true_eq_false, fot, bz_ne, bz_1, ite_bz, Bool.not_eq_false, Bool.not_eq_true]
    rw [← hQ]
    exact ⟨by simp [xhF, liF, q], u⟩
  · have l : lk [(12, 246), (13, 250), (14, 246), (15, 256)] (Tg h1 (oe h o 32 a)) = some 246 := by rw [p2, q]; rfl
    rw [w_X4_hears_27 l, e_X11_hears]
    simp (disch := first | assumption | omega | decide | rfl) only [w_X11_hears_0, w_X11_hears_1, w_X4_hears_30, nl_int, nl_ref, nl_null, nl_un, nl_rf, nl_long, isR_ref, isR_null, isR_rf, rf_some, rf_none, rOf_ref, rOf_null, rOf_rf, kn_v, kn_0, true_and, and_true, and_self, tin, inA_x, inA_l, ix_add, ix_addl, ix_ladd, ix_mul, ix_mull, ix_lmul, ix_tn, lt_tn, Nat.reduceLeDiff, Nat.reduceLT, Nat.reduceAdd, Nat.reduceMul, true_or, or_true, ↓reduceIte, aOk, ref_null, null_null, false_or, Option.isSome_some, Option.getD_some, ite_true, ite_false, eq_self, not_false_eq_true, not_true_eq_false, fot, bz_ne, bz_1, ite_bz, Bool.not_eq_false, Bool.not_eq_true]
    rw [← hQ]
    exact ⟨by simp [xhF, liF, q], u⟩
  · have l : lk [(12, 246), (13, 250), (14, 246), (15, 256)] (Tg h1 (oe h o 32 a)) = some 256 := by rw [p2, q]; rfl
    rw [w_X4_hears_27 l, e_X14_hears]
    simp (disch := first | assumption | omega | decide | rfl) only [w_X14_hears_0, w_X14_hears_1, w_X4_hears_30, nl_int, nl_ref, nl_null, nl_un, nl_rf, nl_long, isR_ref, isR_null, isR_rf, rf_some, rf_none, rOf_ref, rOf_null, rOf_rf, kn_v, kn_0, true_and, and_true, and_self, tin, inA_x, inA_l, ix_add, ix_addl, ix_ladd, ix_mul, ix_mull, ix_lmul, ix_tn, lt_tn, Nat.reduceLeDiff, Nat.reduceLT, Nat.reduceAdd, Nat.reduceMul, true_or, or_true, ↓reduceIte, aOk, ref_null, null_null, false_or, Option.isSome_some, Option.getD_some, ite_true, ite_false, eq_self, not_false_eq_true, not_true_eq_false, fot, bz_ne, bz_1, ite_bz, Bool.not_eq_false, Bool.not_eq_true]
    rw [← hQ]
    exact ⟨by simp [xhF, q, bz], u⟩
end
