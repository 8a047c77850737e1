/-! THE MODEL: what falls, what it is worth -/
set_option maxRecDepth 100000
section
variable {d D m a b c p s w lane loud hang loose e n : Nat} {h : AH} {Q : Rs → AH → Prop} {O : Oc} {snd : Nat → Nat} {day : Int32}
theorem f1F_lt (hh : hang < 1024) : f1F O hang loose w e < 1024 := Nat.lt_of_le_of_lt Nat.and_le_left hh
theorem twA_lt (hh : hang < 1024) {f : Nat} (hf : f < 1024) : ∀ n, twA O hang f n < 1024
  | 0 => hf
  | n + 1 => by
    rw [twA]
    split
    · exact or_lt (twA_lt hh hf n) (and_lt hh)
    · exact twA_lt hh hf n
theorem faF_lt (hh : hang < 1024) : faF O hang loose w e < 1024 := twA_lt hh (f1F_lt hh) _
theorem cm_fallsBy (x : M0 h m O) (hh : hang < 1024) : Ca (D + 2) 196 [.ref m, .int (ix hang), .int (ix loose), .int (ix w), .int (ix e)] h Q = Q (.inl (some (.int (ix (faF O hang loose w e))))) (sFi h 132 m (ix (loF O hang loose w e))) := by
  have hm := x.mo
  have n1 := x.wo.nA
  have hf := f1F_lt (O := O) (loose := loose) (w := w) (e := e) hh
  rw [e_X9_fallsBy]
  simp (disch := first | assumption | omega | decide | rfl) only [w_X9_fallsBy_0, w_X9_fallsBy_1, w_X9_fallsBy_4, w_X9_fallsBy_6, w_X9_fallsBy_7, w_X9_fallsBy_8, w_X9_fallsBy_10, w_X9_fallsBy_11, w_X9_fallsBy_12, w_X9_fallsBy_13, w_X9_fallsBy_14, w_X9_fallsBy_15, w_X9_fallsBy_17, w_X9_fallsBy_18, w_X9_fallsBy_19, w_X9_fallsBy_20, w_X9_fallsBy_21, w_X9_fallsBy_23, w_X9_fallsBy_24, w_X9_fallsBy_25, w_X9_fallsBy_26, w_X9_fallsBy_27, w_X9_fallsBy_29, w_X9_fallsBy_30, w_X9_fallsBy_32, w_X9_fallsBy_33, w_X9_fallsBy_34, w_X9_fallsBy_35, w_X9_fallsBy_38, w_X9_fallsBy_40, cm_welsh x, mo_0 hm, mo_orchard hm, mt_orchard hm, ml_orchard hm, mo_twin hm, mt_twin hm, ml_twin hm, nl_int, nl_ref, nl_null, nl_un, nl_rf, nl_long, isR_ref, isR_null, isR_rf, rf_some, rf_none, rOf_ref, rOf_null, rOf_rf, kn_v, kn_0, true_and, and_true, and_self, tin, inA_x, inA_l, ix_add, ix_addl, ix_ladd, ix_mul, ix_mull, ix_lmul, ix_tn, lt_tn, Nat.reduceLeDiff, Nat.reduceLT, Nat.reduceAdd, Nat.reduceMul, true_or, or_true, ↓reduceIte, aOk, ref_null, null_null, false_or, Option.isSome_some, Option.getD_some, ite_true, ite_false, eq_self, not_false_eq_true, not_true_eq_false, Tg_sFi, Tg_sFl, Tg_sFr, Tg_sAi, Tg_sAl, Tg_sAr, An_sFi, An_sFl, An_sFr, An_sAi, An_sAl, An_sAr, Fi_sFl, Fi_sFr, Fi_sAi, Fi_sAl, Fi_sAr, Fl_sFi, Fl_sFr, Fl_sAi, Fl_sAl, Fl_sAr, Fr_sFi, Fr_sFl, Fr_sAi, Fr_sAl, Fr_sAr, Ai_sFi, Ai_sFl, Ai_sFr, Ai_sAl, Ai_sAr, Al_sFi, Al_sFl, Al_sFr, Al_sAi, Al_sAr, Ar_sFi, Ar_sFl, Ar_sFr, Ar_sAi, Ar_sAl, Fi_same, Fl_same, Fr_same, Ai_same, Al_same, Ar_same, Fi_otherf, Fl_otherf, Fr_otherf, ix_and, ix_or, ix_sdo]
  rw [show hang &&& ((sd w (weF O) ||| (w &&& loose)) ||| (e &&& loose)) = f1F O hang loose w e from rfl]
  have x1 : M0 (sFi h 132 m (ix (loose ||| hang &&& (w &&& weF O ||| e)))) m O := x.md (md_sFi (A := []) (F := [132]) (by decide))
  have key : ∀ n j, j + n = O.nA → Ru (D + 1) 196 45 [.ref m, .int (ix hang), .int (ix loose), .int (ix w), .int (ix e), .int (ix (weF O)), .int (ix (f1F O hang loose w e)), .int (ix (twA O hang (f1F O hang loose w e) j)), .int (ix j)] [] (sFi h 132 m (ix (loose ||| hang &&& (w &&& weF O ||| e)))) Q = Q (.inl (some (.int (ix (faF O hang loose w e))))) (sFi h 132 m (ix (loF O hang loose w e))) := by
    intro n
    induction n with
    | zero =>
      intro j hj
      have ej : j = O.nA := by omega
      subst ej
      have hm1 := x1.mo
      have g0 := x1.mr.nA
      have e' : ¬ O.nA < O.nA := by omega
      rw [w_X9_fallsBy_45]
      simp (disch := first | assumption | omega | decide | rfl) only [w_X9_fallsBy_47, w_X9_fallsBy_48, w_X9_fallsBy_51, w_X9_fallsBy_52, w_X9_fallsBy_53, w_X9_fallsBy_99, w_X9_fallsBy_100, w_X9_fallsBy_101, w_X9_fallsBy_104, w_X9_fallsBy_105, w_X9_fallsBy_107, w_X9_fallsBy_108, w_X9_fallsBy_109, w_X9_fallsBy_110, w_X9_fallsBy_111, w_X9_fallsBy_114, w_X9_fallsBy_116, mo_0 hm1, mo_orchard hm1, mt_orchard hm1, ml_orchard hm1, mo_twin hm1, mt_twin hm1, ml_twin hm1, nl_int, nl_ref, nl_null, nl_un, nl_rf, nl_long, isR_ref, isR_null, isR_rf, rf_some, rf_none, rOf_ref, rOf_null, rOf_rf, kn_v, kn_0, true_and, and_true, and_self, tin, inA_x, inA_l, ix_add, ix_addl, ix_ladd, ix_mul, ix_mull, ix_lmul, ix_tn, lt_tn, Nat.reduceLeDiff, Nat.reduceLT, Nat.reduceAdd, Nat.reduceMul, true_or, or_true, ↓reduceIte, aOk, ref_null, null_null, false_or, Option.isSome_some, Option.getD_some, ite_true, ite_false, eq_self, not_false_eq_true, not_true_eq_false, Tg_sFi, Tg_sFl, Tg_sFr, Tg_sAi, Tg_sAl, Tg_sAr, An_sFi, An_sFl, An_sFr, An_sAi, An_sAl, An_sAr, Fi_sFl, Fi_sFr, Fi_sAi, Fi_sAl, Fi_sAr, Fl_sFi, Fl_sFr, Fl_sAi, Fl_sAl, Fl_sAr, Fr_sFi, Fr_sFl, Fr_sAi, Fr_sAl, Fr_sAr, Ai_sFi, Ai_sFl, Ai_sFr, Ai_sAl, Ai_sAr, Al_sFi, Al_sFl, Al_sFr, Al_sAi, Al_sAr, Ar_sFi, Ar_sFl, Ar_sFr, Ar_sAi, Ar_sAl, Fi_same, Fl_same, Fr_same, Ai_same, Al_same, Ar_same, Fi_otherf, Fl_otherf, Fr_otherf, Nat.mul_zero, g0, ix_lt, e', ix_sd, ix_and, sFi_sFi]
      rfl
    | succ n ih =>
      intro j hj
      have hm1 := x1.mo
      have g0 := x1.mr.nA
      have e' : j < O.nA := by omega
      have g1 := x1.mr.tw j e'
      rw [Nat.mul_zero, Nat.zero_add] at g1
      have b1 := x.wo.tw j e'
      have hb := has_b (n := f1F O hang loose w e) (k := j) (by omega) (by omega)
      have nxt : Ru (D + 1) 196 93 [.ref m, .int (ix hang), .int (ix loose), .int (ix w), .int (ix e), .int (ix (weF O)), .int (ix (f1F O hang loose w e)), .int (ix (twA O hang (f1F O hang loose w e) (j + 1))), .int (ix j)] [] (sFi h 132 m (ix (loose ||| hang &&& (w &&& weF O ||| e)))) Q = Q (.inl (some (.int (ix (faF O hang loose w e))))) (sFi h 132 m (ix (loF O hang loose w e))) := by
        simp (disch := first | assumption | omega | decide | rfl) only [w_X9_fallsBy_93, w_X9_fallsBy_96, nl_int, nl_ref, nl_null, nl_un, nl_rf, nl_long, isR_ref, isR_null, isR_rf, rf_some, rf_none, rOf_ref, rOf_null, rOf_rf, kn_v, kn_0, true_and, and_true, and_self, tin, inA_x, inA_l, ix_add, ix_addl, ix_ladd, ix_mul, ix_mull, ix_lmul, ix_tn, lt_tn, Nat.reduceLeDiff, Nat.reduceLT, Nat.reduceAdd, Nat.reduceMul, true_or, or_true, ↓reduceIte, aOk, ref_null, null_null, false_or, Option.isSome_some, Option.getD_some, ite_true, ite_false, eq_self, not_false_eq_true, not_true_eq_false]
        exact ih (j + 1) (by omega)
      rw [twA] at nxt
      rw [w_X9_fallsBy_45]
      by_cases q : (f1F O hang loose w e).testBit j = true
      · have hb : (ix (f1F O hang loose w e) >>> (ix j &&& 31) &&& 1 = 1) = True := by rw [hb]; exact eq_true q
        by_cases q2 : O.tw j = 0
        · have g2 : (ix (O.tw j) - 1 < 0) = True := by rw [q2]; exact eq_true (by decide)
          rw [if_neg (by omega)] at nxt
          simp (disch := first | assumption | omega | decide | rfl) only [w_X9_fallsBy_47, w_X9_fallsBy_48, w_X9_fallsBy_51, w_X9_fallsBy_52, w_X9_fallsBy_53, w_X9_fallsBy_56, w_X9_fallsBy_58, w_X9_fallsBy_60, w_X9_fallsBy_61, w_X9_fallsBy_62, w_X9_fallsBy_63, w_X9_fallsBy_64, w_X9_fallsBy_67, w_X9_fallsBy_68, w_X9_fallsBy_71, w_X9_fallsBy_73, w_X9_fallsBy_74, mo_0 hm1, mo_orchard hm1, mt_orchard hm1, ml_orchard hm1, mo_twin hm1, mt_twin hm1, ml_twin hm1, nl_int, nl_ref, nl_null, nl_un, nl_rf, nl_long, isR_ref, isR_null, isR_rf, rf_some, rf_none, rOf_ref, rOf_null, rOf_rf, kn_v, kn_0, true_and, and_true, and_self, tin, inA_x, inA_l, ix_add, ix_addl, ix_ladd, ix_mul, ix_mull, ix_lmul, ix_tn, lt_tn, Nat.reduceLeDiff, Nat.reduceLT, Nat.reduceAdd, Nat.reduceMul, true_or, or_true, ↓reduceIte, aOk, ref_null, null_null, false_or, Option.isSome_some, Option.getD_some, ite_true, ite_false, eq_self, not_false_eq_true, not_true_eq_false, Tg_sFi, Tg_sFl, Tg_sFr, Tg_sAi, Tg_sAl, Tg_sAr, An_sFi, An_sFl, An_sFr, An_sAi, An_sAl, An_sAr, Fi_sFl, Fi_sFr, Fi_sAi, Fi_sAl, Fi_sAr, Fl_sFi, Fl_sFr, Fl_sAi, Fl_sAl, Fl_sAr, Fr_sFi, Fr_sFl, Fr_sAi, Fr_sAl, Fr_sAr, Ai_sFi, Ai_sFl, Ai_sFr, Ai_sAl, Ai_sAr, Al_sFi, Al_sFl, Al_sFr, Al_sAi, Al_sAr, Ar_sFi, Ar_sFl, Ar_sFr, Ar_sAi, Ar_sAl, Fi_same, Fl_same, Fr_same, Ai_same, Al_same, Ar_same, Fi_otherf, Fl_otherf, Fr_otherf, Nat.mul_zero, g0, g1, g2, ix_lt, e', hb]
          exact nxt
        · have e1 : ix (O.tw j) - 1 = ix (O.tw j - 1) := ix_subl (n := 1) (by omega)
          have g2 : (ix (O.tw j - 1) < 0) = False := eq_false (ix_nn (by omega))
          have e2 := ix_one (k := O.tw j - 1) (by omega)
          rw [if_pos ⟨q, by omega⟩] at nxt
          simp (disch := first | assumption | omega | decide | rfl) only [w_X9_fallsBy_47, w_X9_fallsBy_48, w_X9_fallsBy_51, w_X9_fallsBy_52, w_X9_fallsBy_53, w_X9_fallsBy_56, w_X9_fallsBy_58, w_X9_fallsBy_60, w_X9_fallsBy_61, w_X9_fallsBy_62, w_X9_fallsBy_63, w_X9_fallsBy_64, w_X9_fallsBy_67, w_X9_fallsBy_68, w_X9_fallsBy_71, w_X9_fallsBy_73, w_X9_fallsBy_74, w_X9_fallsBy_77, w_X9_fallsBy_79, w_X9_fallsBy_80, w_X9_fallsBy_81, w_X9_fallsBy_82, w_X9_fallsBy_85, w_X9_fallsBy_87, w_X9_fallsBy_88, w_X9_fallsBy_89, w_X9_fallsBy_90, w_X9_fallsBy_91, mo_0 hm1, mo_orchard hm1, mt_orchard hm1, ml_orchard hm1, mo_twin hm1, mt_twin hm1, ml_twin hm1, nl_int, nl_ref, nl_null, nl_un, nl_rf, nl_long, isR_ref, isR_null, isR_rf, rf_some, rf_none, rOf_ref, rOf_null, rOf_rf, kn_v, kn_0, true_and, and_true, and_self, tin, inA_x, inA_l, ix_add, ix_addl, ix_ladd, ix_mul, ix_mull, ix_lmul, ix_tn, lt_tn, Nat.reduceLeDiff, Nat.reduceLT, Nat.reduceAdd, Nat.reduceMul, true_or, or_true, ↓reduceIte, aOk, ref_null, null_null, false_or, Option.isSome_some, Option.getD_some, ite_true, ite_false, eq_self, not_false_eq_true, not_true_eq_false, Tg_sFi, Tg_sFl, Tg_sFr, Tg_sAi, Tg_sAl, Tg_sAr, An_sFi, An_sFl, An_sFr, An_sAi, An_sAl, An_sAr, Fi_sFl, Fi_sFr, Fi_sAi, Fi_sAl, Fi_sAr, Fl_sFi, Fl_sFr, Fl_sAi, Fl_sAl, Fl_sAr, Fr_sFi, Fr_sFl, Fr_sAi, Fr_sAl, Fr_sAr, Ai_sFi, Ai_sFl, Ai_sFr, Ai_sAl, Ai_sAr, Al_sFi, Al_sFl, Al_sFr, Al_sAi, Al_sAr, Ar_sFi, Ar_sFl, Ar_sFr, Ar_sAi, Ar_sAl, Fi_same, Fl_same, Fr_same, Ai_same, Al_same, Ar_same, Fi_otherf, Fl_otherf, Fr_otherf, Nat.mul_zero, g0, g1, e1, g2, e2, ix_lt, e', hb, ix_and, ix_or]
          exact nxt
      · have hb : (ix (f1F O hang loose w e) >>> (ix j &&& 31) &&& 1 = 1) = False := by rw [hb]; exact eq_false q
        rw [if_neg (fun z => q z.1)] at nxt
        simp (disch := first | assumption | omega | decide | rfl) only [w_X9_fallsBy_47, w_X9_fallsBy_48, w_X9_fallsBy_51, w_X9_fallsBy_52, w_X9_fallsBy_53, w_X9_fallsBy_56, w_X9_fallsBy_58, w_X9_fallsBy_60, w_X9_fallsBy_61, w_X9_fallsBy_62, w_X9_fallsBy_63, w_X9_fallsBy_64, mo_0 hm1, mo_orchard hm1, mt_orchard hm1, ml_orchard hm1, mo_twin hm1, mt_twin hm1, ml_twin hm1, nl_int, nl_ref, nl_null, nl_un, nl_rf, nl_long, isR_ref, isR_null, isR_rf, rf_some, rf_none, rOf_ref, rOf_null, rOf_rf, kn_v, kn_0, true_and, and_true, and_self, tin, inA_x, inA_l, ix_add, ix_addl, ix_ladd, ix_mul, ix_mull, ix_lmul, ix_tn, lt_tn, Nat.reduceLeDiff, Nat.reduceLT, Nat.reduceAdd, Nat.reduceMul, true_or, or_true, ↓reduceIte, aOk, ref_null, null_null, false_or, Option.isSome_some, Option.getD_some, ite_true, ite_false, eq_self, not_false_eq_true, not_true_eq_false, Tg_sFi, Tg_sFl, Tg_sFr, Tg_sAi, Tg_sAl, Tg_sAr, An_sFi, An_sFl, An_sFr, An_sAi, An_sAl, An_sAr, Fi_sFl, Fi_sFr, Fi_sAi, Fi_sAl, Fi_sAr, Fl_sFi, Fl_sFr, Fl_sAi, Fl_sAl, Fl_sAr, Fr_sFi, Fr_sFl, Fr_sAi, Fr_sAl, Fr_sAr, Ai_sFi, Ai_sFl, Ai_sFr, Ai_sAl, Ai_sAr, Al_sFi, Al_sFl, Al_sFr, Al_sAi, Al_sAr, Ar_sFi, Ar_sFl, Ar_sFr, Ar_sAi, Ar_sAl, Fi_same, Fl_same, Fr_same, Ai_same, Al_same, Ar_same, Fi_otherf, Fl_otherf, Fr_otherf, Nat.mul_zero, g0, ix_lt, e', hb]
        exact nxt
  simp (disch := first | assumption | omega | decide | rfl) only [w_X9_fallsBy_42, w_X9_fallsBy_43, nl_int, nl_ref, nl_null, nl_un, nl_rf, nl_long, isR_ref, isR_null, isR_rf, rf_some, rf_none, rOf_ref, rOf_null, rOf_rf, kn_v, kn_0, true_and, and_true, and_self, tin, inA_x, inA_l, ix_add, ix_addl, ix_ladd, ix_mul, ix_mull, ix_lmul, ix_tn, lt_tn, Nat.reduceLeDiff, Nat.reduceLT, Nat.reduceAdd, Nat.reduceMul, true_or, or_true, ↓reduceIte, aOk, ref_null, null_null, false_or, Option.isSome_some, Option.getD_some, ite_true, ite_false, eq_self, not_false_eq_true, not_true_eq_false]
  exact key O.nA 0 (by omega)
theorem cm_between {v : Int32} : Ca (D + 1) 186 [.int v, .int 0, .int 999] h Q = Q (.inl (some (.int (clF v)))) h := by
  rw [e_X9_between]
  unfold clF
  by_cases q : v < 0
  · simp (disch := first | assumption | omega | decide | rfl) only [w_X9_between_0, w_X9_between_1, w_X9_between_2, w_X9_between_5, w_X9_between_6, w_X9_between_9, w_X9_between_10, w_X9_between_11, w_X9_between_14, w_X9_between_15, w_X9_between_18, w_X9_between_19, nl_int, nl_ref, nl_null, nl_un, nl_rf, nl_long, isR_ref, isR_null, isR_rf, rf_some, rf_none, rOf_ref, rOf_null, rOf_rf, kn_v, kn_0, true_and, and_true, and_self, tin, inA_x, inA_l, ix_add, ix_addl, ix_ladd, ix_mul, ix_mull, ix_lmul, ix_tn, lt_tn, Nat.reduceLeDiff, Nat.reduceLT, Nat.reduceAdd, Nat.reduceMul, true_or, or_true, ↓reduceIte, aOk, ref_null, null_null, false_or, Option.isSome_some, Option.getD_some, ite_true, ite_false, eq_self, not_false_eq_true, not_true_eq_false, q]
  · by_cases q2 : (999 : Int32) < v
    · simp (disch := first | assumption | omega | decide | rfl) only [w_X9_between_0, w_X9_between_1, w_X9_between_2, w_X9_between_5, w_X9_between_6, w_X9_between_9, w_X9_between_10, w_X9_between_11, w_X9_between_14, w_X9_between_15, w_X9_between_18, w_X9_between_19, nl_int, nl_ref, nl_null, nl_un, nl_rf, nl_long, isR_ref, isR_null, isR_rf, rf_some, rf_none, rOf_ref, rOf_null, rOf_rf, kn_v, kn_0, true_and, and_true, and_self, tin, inA_x, inA_l, ix_add, ix_addl, ix_ladd, ix_mul, ix_mull, ix_lmul, ix_tn, lt_tn, Nat.reduceLeDiff, Nat.reduceLT, Nat.reduceAdd, Nat.reduceMul, true_or, or_true, ↓reduceIte, aOk, ref_null, null_null, false_or, Option.isSome_some, Option.getD_some, ite_true, ite_false, eq_self, not_false_eq_true, not_true_eq_false, q, q2]
    · simp (disch := first | assumption | omega | decide | rfl) only [w_X9_between_0, w_X9_between_1, w_X9_between_2, w_X9_between_5, w_X9_between_6, w_X9_between_9, w_X9_between_10, w_X9_between_11, w_X9_between_14, w_X9_between_15, w_X9_between_18, w_X9_between_19, nl_int, nl_ref, nl_null, nl_un, nl_rf, nl_long, isR_ref, isR_null, isR_rf, rf_some, rf_none, rOf_ref, rOf_null, rOf_rf, kn_v, kn_0, true_and, and_true, and_self, tin, inA_x, inA_l, ix_add, ix_addl, ix_ladd, ix_mul, ix_mull, ix_lmul, ix_tn, lt_tn, Nat.reduceLeDiff, Nat.reduceLT, Nat.reduceAdd, Nat.reduceMul, true_or, or_true, ↓reduceIte, aOk, ref_null, null_null, false_or, Option.isSome_some, Option.getD_some, ite_true, ite_false, eq_self, not_false_eq_true, not_true_eq_false, q, q2]
theorem cm_valueOn (x : M0 h m O) (ha : a < O.nA) : Ca (D + 5) 185 [.ref m, .int (ix a), .int day] h (fun r h' => r = .inl (some (.int (vaF O a day))) ∧ Md m (35 :: eA) [] h h') := by
  have hm := x.mo
  have n1 := x.wo.nA
  have g1 := x.mr.rp a ha
  have g2 := x.mr.wo a ha
  have hl := x.mr.vl
  rw [Nat.mul_zero, Nat.zero_add] at g1 g2 hl
  rw [e_X9_valueOn]
  generalize hv : O.vl = o at hl
  cases o with
  | none =>
    have L1 : Ai h (m + 22) 1 = Ai h (m + 21) 1 := hl
    have ev : vaF O a day = if day - ix (O.rp a) < 0 then 0 else ix (O.wo a) := by unfold vaF; rw [hv]
    rw [ev]
    by_cases q : day - ix (O.rp a) < 0
    · simp (disch := first | assumption | omega | decide | rfl) only [w_X9_valueOn_0, w_X9_valueOn_1, w_X9_valueOn_2, w_X9_valueOn_5, w_X9_valueOn_6, w_X9_valueOn_7, w_X9_valueOn_8, w_X9_valueOn_9, w_X9_valueOn_10, w_X9_valueOn_13, w_X9_valueOn_14, w_X9_valueOn_15, w_X9_valueOn_16, w_X9_valueOn_19, w_X9_valueOn_20, w_X9_valueOn_21, w_X9_valueOn_24, w_X9_valueOn_25, w_X9_valueOn_28, w_X9_valueOn_29, w_X9_valueOn_32, w_X9_valueOn_33, w_X9_valueOn_36, w_X9_valueOn_37, w_X9_valueOn_38, mo_0 hm, mo_ripe hm, mt_ripe hm, ml_ripe hm, mo_lineTo hm, mt_lineTo hm, ml_lineTo hm, mo_lineFrom hm, mt_lineFrom hm, ml_lineFrom hm, mo_worthTold hm, mt_worthTold hm, ml_worthTold hm, mo_valueOf hm, mt_valueOf hm, ml_valueOf hm, nl_int, nl_ref, nl_null, nl_un, nl_rf, nl_long, isR_ref, isR_null, isR_rf, rf_some, rf_none, rOf_ref, rOf_null, rOf_rf, kn_v, kn_0, true_and, and_true, and_self, tin, inA_x, inA_l, ix_add, ix_addl, ix_ladd, ix_mul, ix_mull, ix_lmul, ix_tn, lt_tn, Nat.reduceLeDiff, Nat.reduceLT, Nat.reduceAdd, Nat.reduceMul, true_or, or_true, ↓reduceIte, aOk, ref_null, null_null, false_or, Option.isSome_some, Option.getD_some, ite_true, ite_false, eq_self, not_false_eq_true, not_true_eq_false, L1, g1, g2, q]
      exact Md.refl
    · simp (disch := first | assumption | omega | decide | rfl) only [w_X9_valueOn_0, w_X9_valueOn_1, w_X9_valueOn_2, w_X9_valueOn_5, w_X9_valueOn_6, w_X9_valueOn_7, w_X9_valueOn_8, w_X9_valueOn_9, w_X9_valueOn_10, w_X9_valueOn_13, w_X9_valueOn_14, w_X9_valueOn_15, w_X9_valueOn_16, w_X9_valueOn_19, w_X9_valueOn_20, w_X9_valueOn_21, w_X9_valueOn_24, w_X9_valueOn_25, w_X9_valueOn_28, w_X9_valueOn_29, w_X9_valueOn_32, w_X9_valueOn_33, w_X9_valueOn_36, w_X9_valueOn_37, w_X9_valueOn_38, mo_0 hm, mo_ripe hm, mt_ripe hm, ml_ripe hm, mo_lineTo hm, mt_lineTo hm, ml_lineTo hm, mo_lineFrom hm, mt_lineFrom hm, ml_lineFrom hm, mo_worthTold hm, mt_worthTold hm, ml_worthTold hm, mo_valueOf hm, mt_valueOf hm, ml_valueOf hm, nl_int, nl_ref, nl_null, nl_un, nl_rf, nl_long, isR_ref, isR_null, isR_rf, rf_some, rf_none, rOf_ref, rOf_null, rOf_rf, kn_v, kn_0, true_and, and_true, and_self, tin, inA_x, inA_l, ix_add, ix_addl, ix_ladd, ix_mul, ix_mull, ix_lmul, ix_tn, lt_tn, Nat.reduceLeDiff, Nat.reduceLT, Nat.reduceAdd, Nat.reduceMul, true_or, or_true, ↓reduceIte, aOk, ref_null, null_null, false_or, Option.isSome_some, Option.getD_some, ite_true, ite_false, eq_self, not_false_eq_true, not_true_eq_false, L1, g1, g2, q]
      exact Md.refl
  | some φ =>
    have ev : vaF O a day = clF (φ (fun k => if k = 5 then ix (O.wo a) else day - ix (O.rp a))) := by unfold vaF; rw [hv]
    have ne : (Ai h (m + 22) 1 = Ai h (m + 21) 1) = False := by
      obtain ⟨F0, k, cs, c1, c2, c3, c4, -⟩ := hl
      rw [c3, c4, ix_eq (by omega) (by omega)]
      exact eq_false (by omega)
    simp (disch := first | assumption | omega | decide | rfl) only [w_X9_valueOn_0, w_X9_valueOn_1, w_X9_valueOn_2, w_X9_valueOn_5, w_X9_valueOn_6, w_X9_valueOn_7, w_X9_valueOn_8, w_X9_valueOn_9, w_X9_valueOn_10, w_X9_valueOn_13, w_X9_valueOn_14, w_X9_valueOn_15, w_X9_valueOn_16, w_X9_valueOn_19, w_X9_valueOn_20, w_X9_valueOn_21, w_X9_valueOn_24, w_X9_valueOn_25, w_X9_valueOn_28, w_X9_valueOn_29, w_X9_valueOn_32, w_X9_valueOn_33, w_X9_valueOn_36, w_X9_valueOn_37, w_X9_valueOn_38, w_X9_valueOn_39, w_X9_valueOn_40, w_X9_valueOn_43, w_X9_valueOn_44, w_X9_valueOn_45, w_X9_valueOn_48, w_X9_valueOn_49, w_X9_valueOn_50, w_X9_valueOn_51, w_X9_valueOn_52, w_X9_valueOn_55, w_X9_valueOn_57, w_X9_valueOn_58, w_X9_valueOn_59, w_X9_valueOn_60, w_X9_valueOn_61, mo_0 hm, mo_ripe hm, mt_ripe hm, ml_ripe hm, mo_lineTo hm, mt_lineTo hm, ml_lineTo hm, mo_lineFrom hm, mt_lineFrom hm, ml_lineFrom hm, mo_worthTold hm, mt_worthTold hm, ml_worthTold hm, mo_valueOf hm, mt_valueOf hm, ml_valueOf hm, nl_int, nl_ref, nl_null, nl_un, nl_rf, nl_long, isR_ref, isR_null, isR_rf, rf_some, rf_none, rOf_ref, rOf_null, rOf_rf, kn_v, kn_0, true_and, and_true, and_self, tin, inA_x, inA_l, ix_add, ix_addl, ix_ladd, ix_mul, ix_mull, ix_lmul, ix_tn, lt_tn, Nat.reduceLeDiff, Nat.reduceLT, Nat.reduceAdd, Nat.reduceMul, true_or, or_true, ↓reduceIte, aOk, ref_null, null_null, false_or, Option.isSome_some, Option.getD_some, ite_true, ite_false, eq_self, not_false_eq_true, not_true_eq_false, Tg_sFi, Tg_sFl, Tg_sFr, Tg_sAi, Tg_sAl, Tg_sAr, An_sFi, An_sFl, An_sFr, An_sAi, An_sAl, An_sAr, Fi_sFl, Fi_sFr, Fi_sAi, Fi_sAl, Fi_sAr, Fl_sFi, Fl_sFr, Fl_sAi, Fl_sAl, Fl_sAr, Fr_sFi, Fr_sFl, Fr_sAi, Fr_sAl, Fr_sAr, Ai_sFi, Ai_sFl, Ai_sFr, Ai_sAl, Ai_sAr, Al_sFi, Al_sFl, Al_sFr, Al_sAi, Al_sAr, Ar_sFi, Ar_sFl, Ar_sFr, Ar_sAi, Ar_sAl, Fi_same, Fl_same, Fr_same, Ai_same, Al_same, Ar_same, Fi_otherf, Fl_otherf, Fr_otherf, Ai_other, ne, g1, g2, sAi_sAi]
    generalize hG : upd (upd (Ai h (m + 35)) 5 (ix (O.wo a))) 6 (day - ix (O.rp a)) = G
    have u1 : Md m (35 :: eA) [] h (sAi h (m + 35) G) := md_sAi (by simp)
    have g35 : Ai (sAi h (m + 35) G) (m + 35) = G := Ai_same
    revert u1 g35
    generalize sAi h (m + 35) G = h1
    intro u1 g35
    obtain ⟨F0, k, cs, c1, c2, c3, c4, c5, c6, c7⟩ := hl.md u1 (by decide) (by decide) (by decide)
    have eG : φ G = φ (fun k => if k = 5 then ix (O.wo a) else day - ix (O.rp a)) := by
      refine c7 G _ (fun f h1 h2 => ?_)
      rw [← hG]
      rcases (show f = 5 ∨ f = 6 by omega) with rfl | rfl
      · rw [upd_n (by decide), upd_s]; rfl
      · rw [upd_s]; rfl
    refine ca_mono (c_worked (F0 := F0) (k := k) (cs := cs) (φ := φ) (ln := 1) ⟨u1.mo hm, by decide, c4, c2⟩ c3 c5 c6) ?_
    rintro r h5 ⟨rfl, u5⟩
    rw [g35, eG]
    simp (disch := first | assumption | omega | decide | rfl) only [w_X9_valueOn_64, w_X9_valueOn_65, w_X9_valueOn_68, w_X9_valueOn_71, nl_int, nl_ref, nl_null, nl_un, nl_rf, nl_long, isR_ref, isR_null, isR_rf, rf_some, rf_none, rOf_ref, rOf_null, rOf_rf, kn_v, kn_0, true_and, and_true, and_self, tin, inA_x, inA_l, ix_add, ix_addl, ix_ladd, ix_mul, ix_mull, ix_lmul, ix_tn, lt_tn, Nat.reduceLeDiff, Nat.reduceLT, Nat.reduceAdd, Nat.reduceMul, true_or, or_true, ↓reduceIte, aOk, ref_null, null_null, false_or, Option.isSome_some, Option.getD_some, ite_true, ite_false, eq_self, not_false_eq_true, not_true_eq_false, cm_between, ev]
    exact u1.trans u5 (by decide) (fun _ q => q)
theorem cm_worthOf {S : Nat} (x : M0 h m O) (hS : S < 1024) : Ca (D + 6) 202 [.ref m, .int (ix S), .int day] h (fun r h' => r = .inl (some (.int (su S (fun a => vaF O a day) O.nA))) ∧ Md m (35 :: eA) [] h h') := by
  have n1 := x.wo.nA
  generalize hQ : (fun r h' => r = .inl (some (.int (su S (fun a => vaF O a day) O.nA))) ∧ Md m (35 :: eA) [] h h' : Rs → AH → Prop) = Q
  have key : ∀ n j h1, j + n = O.nA → Md m (35 :: eA) [] h h1 → Ru (D + 5) 202 5 [.ref m, .int (ix S), .int day, .int (su S (fun a => vaF O a day) j), .int (ix j)] [] h1 Q := by
    intro n
    induction n with
    | zero =>
      intro j h1 hj u
      have ej : j = O.nA := by omega
      subst ej
      have x1 := x.md u
      have hm1 := x1.mo
      have g0 := x1.mr.nA
      have e : ¬ O.nA < O.nA := by omega
      simp (disch := first | assumption | omega | decide | rfl) only [w_X9_worthOf_5, w_X9_worthOf_7, w_X9_worthOf_8, w_X9_worthOf_11, w_X9_worthOf_12, w_X9_worthOf_13, w_X9_worthOf_46, w_X9_worthOf_47, mo_0 hm1, mo_orchard hm1, mt_orchard hm1, ml_orchard hm1, nl_int, nl_ref, nl_null, nl_un, nl_rf, nl_long, isR_ref, isR_null, isR_rf, rf_some, rf_none, rOf_ref, rOf_null, rOf_rf, kn_v, kn_0, true_and, and_true, and_self, tin, inA_x, inA_l, ix_add, ix_addl, ix_ladd, ix_mul, ix_mull, ix_lmul, ix_tn, lt_tn, Nat.reduceLeDiff, Nat.reduceLT, Nat.reduceAdd, Nat.reduceMul, true_or, or_true, ↓reduceIte, aOk, ref_null, null_null, false_or, Option.isSome_some, Option.getD_some, ite_true, ite_false, eq_self, not_false_eq_true, not_true_eq_false, Nat.mul_zero, g0, ix_lt, e]
      rw [← hQ]
      exact ⟨rfl, u⟩
    | succ n ih =>
      intro j h1 hj u
      have x1 := x.md u
      have hm1 := x1.mo
      have g0 := x1.mr.nA
      have e : j < O.nA := by omega
      have hb := has_b (n := S) (k := j) (by omega) (by omega)
      rw [w_X9_worthOf_5]
      by_cases q : S.testBit j = true
      · have hb : (ix S >>> (ix j &&& 31) &&& 1 = 1) = True := by rw [hb]; exact eq_true q
        simp (disch := first | assumption | omega | decide | rfl) only [w_X9_worthOf_7, w_X9_worthOf_8, w_X9_worthOf_11, w_X9_worthOf_12, w_X9_worthOf_13, w_X9_worthOf_16, w_X9_worthOf_17, w_X9_worthOf_18, w_X9_worthOf_20, w_X9_worthOf_21, w_X9_worthOf_22, w_X9_worthOf_23, w_X9_worthOf_24, w_X9_worthOf_27, w_X9_worthOf_28, w_X9_worthOf_30, w_X9_worthOf_31, mo_0 hm1, mo_orchard hm1, mt_orchard hm1, ml_orchard hm1, nl_int, nl_ref, nl_null, nl_un, nl_rf, nl_long, isR_ref, isR_null, isR_rf, rf_some, rf_none, rOf_ref, rOf_null, rOf_rf, kn_v, kn_0, true_and, and_true, and_self, tin, inA_x, inA_l, ix_add, ix_addl, ix_ladd, ix_mul, ix_mull, ix_lmul, ix_tn, lt_tn, Nat.reduceLeDiff, Nat.reduceLT, Nat.reduceAdd, Nat.reduceMul, true_or, or_true, ↓reduceIte, aOk, ref_null, null_null, false_or, Option.isSome_some, Option.getD_some, ite_true, ite_false, eq_self, not_false_eq_true, not_true_eq_false, Nat.mul_zero, g0, ix_lt, e, hb]
        refine ca_mono (cm_valueOn x1 e) ?_
        rintro r h2 ⟨rfl, u2⟩
        simp (disch := first | assumption | omega | decide | rfl) only [w_X9_worthOf_34, w_X9_worthOf_37, w_X9_worthOf_38, w_X9_worthOf_39, w_X9_worthOf_40, w_X9_worthOf_43, nl_int, nl_ref, nl_null, nl_un, nl_rf, nl_long, isR_ref, isR_null, isR_rf, rf_some, rf_none, rOf_ref, rOf_null, rOf_rf, kn_v, kn_0, true_and, and_true, and_self, tin, inA_x, inA_l, ix_add, ix_addl, ix_ladd, ix_mul, ix_mull, ix_lmul, ix_tn, lt_tn, Nat.reduceLeDiff, Nat.reduceLT, Nat.reduceAdd, Nat.reduceMul, true_or, or_true, ↓reduceIte, aOk, ref_null, null_null, false_or, Option.isSome_some, Option.getD_some, ite_true, ite_false, eq_self, not_false_eq_true, not_true_eq_false]
        have := ih (j + 1) h2 (by omega) (u.trans u2 (fun _ q => q) (fun _ q => q))
        rw [su, if_pos q] at this
        exact this
      · have hb : (ix S >>> (ix j &&& 31) &&& 1 = 1) = False := by rw [hb]; exact eq_false q
        simp (disch := first | assumption | omega | decide | rfl) only [w_X9_worthOf_7, w_X9_worthOf_8, w_X9_worthOf_11, w_X9_worthOf_12, w_X9_worthOf_13, w_X9_worthOf_16, w_X9_worthOf_17, w_X9_worthOf_18, w_X9_worthOf_20, w_X9_worthOf_21, w_X9_worthOf_22, w_X9_worthOf_23, w_X9_worthOf_24, w_X9_worthOf_27, w_X9_worthOf_28, w_X9_worthOf_30, w_X9_worthOf_31, w_X9_worthOf_34, w_X9_worthOf_37, w_X9_worthOf_38, w_X9_worthOf_39, w_X9_worthOf_40, w_X9_worthOf_43, mo_0 hm1, mo_orchard hm1, mt_orchard hm1, ml_orchard hm1, nl_int, nl_ref, nl_null, nl_un, nl_rf, nl_long, isR_ref, isR_null, isR_rf, rf_some, rf_none, rOf_ref, rOf_null, rOf_rf, kn_v, kn_0, true_and, and_true, and_self, tin, inA_x, inA_l, ix_add, ix_addl, ix_ladd, ix_mul, ix_mull, ix_lmul, ix_tn, lt_tn, Nat.reduceLeDiff, Nat.reduceLT, Nat.reduceAdd, Nat.reduceMul, true_or, or_true, ↓reduceIte, aOk, ref_null, null_null, false_or, Option.isSome_some, Option.getD_some, ite_true, ite_false, eq_self, not_false_eq_true, not_true_eq_false, Nat.mul_zero, g0, ix_lt, e, hb]
        have := ih (j + 1) h1 (by omega) u
        rw [su, if_neg q] at this
        exact this
  rw [e_X9_worthOf]
  simp (disch := first | assumption | omega | decide | rfl) only [w_X9_worthOf_0, w_X9_worthOf_1, w_X9_worthOf_2, w_X9_worthOf_3, nl_int, nl_ref, nl_null, nl_un, nl_rf, nl_long, isR_ref, isR_null, isR_rf, rf_some, rf_none, rOf_ref, rOf_null, rOf_rf, kn_v, kn_0, true_and, and_true, and_self, tin, inA_x, inA_l, ix_add, ix_addl, ix_ladd, ix_mul, ix_mull, ix_lmul, ix_tn, lt_tn, Nat.reduceLeDiff, Nat.reduceLT, Nat.reduceAdd, Nat.reduceMul, true_or, or_true, ↓reduceIte, aOk, ref_null, null_null, false_or, Option.isSome_some, Option.getD_some, ite_true, ite_false, eq_self, not_false_eq_true, not_true_eq_false]
  exact key O.nA 0 h (by omega) Md.refl
end
