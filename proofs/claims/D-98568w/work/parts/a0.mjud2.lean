/-! THE MODEL: boughs begun anew; days judged -/
set_option maxRecDepth 100000
section
variable {d D m a b c p q s w lane loud hang loose e n k i j : Nat} {h h' : AH} {Q : Rs → AH → Prop} {O : Oc} {B : Bo} {L : Dy} {snd : Nat → Nat} {day v x y : Int32} {A F : List Nat}
theorem cm_fresh (x : M0 h m O) : Ca (D + 1) 179 [.ref m] h (fun r h' => r = .inl none ∧ Md m [53] [] h h' ∧ MB h' (m + 53) 0 O.nA (beF O)) := by
  have hm := x.mo
  have n1 := x.wo.nA
  have g0 := x.mr.nA
  rw [Nat.mul_zero] at g0
  have e1 := ix_all n1
  rw [e_X9_fresh]
  generalize hQ : (fun r h' => r = .inl none ∧ Md m [53] [] h h' ∧ MB h' (m + 53) 0 O.nA (beF O) : Rs → AH → Prop) = Q
  have k2 : ∀ n j (F : Nat → Int32), j + n = O.nA → F 0 = ix (2 ^ O.nA - 1) → F 1 = 0 → F 2 = 0 → F 3 = 0 → F 4 = 0 → (∀ a, a < j → F (5 + a) = ix (O.ts a)) → Ru D 179 39 [.ref m, .int (ix j)] [] (sAi h (m + 53) F) Q := by
    intro n
    induction n with
    | zero =>
      intro j F hj f0 f1 f2 f3 f4 f5
      have ej : j = O.nA := by omega
      subst ej
      have e : ¬ O.nA < O.nA := by omega
      simp (disch := first | assumption | omega | decide | rfl) only [w_X9_fresh_39, w_X9_fresh_40, w_X9_fresh_41, w_X9_fresh_44, w_X9_fresh_45, w_X9_fresh_46, w_X9_fresh_69, mo_0 hm, mo_s hm, mt_s hm, ml_s hm, mo_orchard hm, mt_orchard hm, ml_orchard hm, mo_soundTold hm, mt_soundTold hm, ml_soundTold hm, nl_int, nl_ref, nl_null, nl_un, nl_rf, nl_long, isR_ref, isR_null, isR_rf, rf_some, rf_none, rOf_ref, rOf_null, rOf_rf, kn_v, kn_0, true_and, and_true, and_self, tin, inA_x, inA_l, ix_add, ix_addl, ix_ladd, ix_mul, ix_mull, ix_lmul, ix_tn, lt_tn, Nat.reduceLeDiff, Nat.reduceLT, Nat.reduceAdd, Nat.reduceMul, true_or, or_true, ↓reduceIte, aOk, ref_null, null_null, false_or, Option.isSome_some, Option.getD_some, ite_true, ite_false, eq_self, not_false_eq_true, not_true_eq_false, Tg_sFi, Tg_sFl, Tg_sFr, Tg_sAi, Tg_sAl, Tg_sAr, An_sFi, An_sFl, An_sFr, An_sAi, An_sAl, An_sAr, Fi_sFl, Fi_sFr, Fi_sAi, Fi_sAl, Fi_sAr, Fl_sFi, Fl_sFr, Fl_sAi, Fl_sAl, Fl_sAr, Fr_sFi, Fr_sFl, Fr_sAi, Fr_sAl, Fr_sAr, Ai_sFi, Ai_sFl, Ai_sFr, Ai_sAl, Ai_sAr, Al_sFi, Al_sFl, Al_sFr, Al_sAi, Al_sAr, Ar_sFi, Ar_sFl, Ar_sFr, Ar_sAi, Ar_sAl, Fi_same, Fl_same, Fr_same, Ai_same, Al_same, Ar_same, Fi_otherf, Fl_otherf, Fr_otherf, Ai_other, g0, ix_lt, e]
      rw [← hQ]
      refine ⟨rfl, md_sAi (by simp), ?_⟩
      unfold MB
      simp only [Ai_same, Nat.zero_add]
      exact ⟨f0, f1, f2, f3, f4, f5⟩
    | succ n ih =>
      intro j F hj f0 f1 f2 f3 f4 f5
      have e : j < O.nA := by omega
      have g1 := x.mr.ts j e
      rw [Nat.mul_zero, Nat.zero_add] at g1
      rw [w_X9_fresh_39]
      simp (disch := first | assumption | omega | decide | rfl) only [w_X9_fresh_40, w_X9_fresh_41, w_X9_fresh_44, w_X9_fresh_45, w_X9_fresh_46, w_X9_fresh_49, w_X9_fresh_50, w_X9_fresh_53, w_X9_fresh_54, w_X9_fresh_55, w_X9_fresh_56, w_X9_fresh_57, w_X9_fresh_60, w_X9_fresh_61, w_X9_fresh_62, w_X9_fresh_63, w_X9_fresh_66, mo_0 hm, mo_s hm, mt_s hm, ml_s hm, mo_orchard hm, mt_orchard hm, ml_orchard hm, mo_soundTold hm, mt_soundTold hm, ml_soundTold hm, nl_int, nl_ref, nl_null, nl_un, nl_rf, nl_long, isR_ref, isR_null, isR_rf, rf_some, rf_none, rOf_ref, rOf_null, rOf_rf, kn_v, kn_0, true_and, and_true, and_self, tin, inA_x, inA_l, ix_add, ix_addl, ix_ladd, ix_mul, ix_mull, ix_lmul, ix_tn, lt_tn, Nat.reduceLeDiff, Nat.reduceLT, Nat.reduceAdd, Nat.reduceMul, true_or, or_true, ↓reduceIte, aOk, ref_null, null_null, false_or, Option.isSome_some, Option.getD_some, ite_true, ite_false, eq_self, not_false_eq_true, not_true_eq_false, Tg_sFi, Tg_sFl, Tg_sFr, Tg_sAi, Tg_sAl, Tg_sAr, An_sFi, An_sFl, An_sFr, An_sAi, An_sAl, An_sAr, Fi_sFl, Fi_sFr, Fi_sAi, Fi_sAl, Fi_sAr, Fl_sFi, Fl_sFr, Fl_sAi, Fl_sAl, Fl_sAr, Fr_sFi, Fr_sFl, Fr_sAi, Fr_sAl, Fr_sAr, Ai_sFi, Ai_sFl, Ai_sFr, Ai_sAl, Ai_sAr, Al_sFi, Al_sFl, Al_sFr, Al_sAi, Al_sAr, Ar_sFi, Ar_sFl, Ar_sFr, Ar_sAi, Ar_sAl, Fi_same, Fl_same, Fr_same, Ai_same, Al_same, Ar_same, Fi_otherf, Fl_otherf, Fr_otherf, Ai_other, g0, g1, ix_lt, e, sAi_sAi]
      refine ih (j + 1) _ (by omega) ?_ ?_ ?_ ?_ ?_ (fun a ha => ?_)
      · rw [upd_n (by omega)]; exact f0
      · rw [upd_n (by omega)]; exact f1
      · rw [upd_n (by omega)]; exact f2
      · rw [upd_n (by omega)]; exact f3
      · rw [upd_n (by omega)]; exact f4
      · by_cases q : a = j
        · subst q; exact upd_s
        · rw [upd_n (by omega)]; exact f5 a (by omega)
  have k1 : ∀ n j (F : Nat → Int32), j + n = 15 → (∀ a, a < j → F a = 0) → Ru D 179 2 [.ref m, .int (ix j)] [] (sAi h (m + 53) F) Q := by
    intro n
    induction n with
    | zero =>
      intro j F hj f
      have ej : j = 15 := by omega
      subst ej
      have e : (ix 15 < 15) = False := eq_false (by decide)
      simp (disch := first | assumption | omega | decide | rfl) only [w_X9_fresh_2, w_X9_fresh_3, w_X9_fresh_5, w_X9_fresh_21, w_X9_fresh_22, w_X9_fresh_25, w_X9_fresh_26, w_X9_fresh_27, w_X9_fresh_28, w_X9_fresh_31, w_X9_fresh_32, w_X9_fresh_33, w_X9_fresh_34, w_X9_fresh_35, w_X9_fresh_36, w_X9_fresh_37, w_X9_fresh_38, mo_0 hm, mo_s hm, mt_s hm, ml_s hm, mo_orchard hm, mt_orchard hm, ml_orchard hm, mo_soundTold hm, mt_soundTold hm, ml_soundTold hm, nl_int, nl_ref, nl_null, nl_un, nl_rf, nl_long, isR_ref, isR_null, isR_rf, rf_some, rf_none, rOf_ref, rOf_null, rOf_rf, kn_v, kn_0, true_and, and_true, and_self, tin, inA_x, inA_l, ix_add, ix_addl, ix_ladd, ix_mul, ix_mull, ix_lmul, ix_tn, lt_tn, Nat.reduceLeDiff, Nat.reduceLT, Nat.reduceAdd, Nat.reduceMul, true_or, or_true, ↓reduceIte, aOk, ref_null, null_null, false_or, Option.isSome_some, Option.getD_some, ite_true, ite_false, eq_self, not_false_eq_true, not_true_eq_false, Tg_sFi, Tg_sFl, Tg_sFr, Tg_sAi, Tg_sAl, Tg_sAr, An_sFi, An_sFl, An_sFr, An_sAi, An_sAl, An_sAr, Fi_sFl, Fi_sFr, Fi_sAi, Fi_sAl, Fi_sAr, Fl_sFi, Fl_sFr, Fl_sAi, Fl_sAl, Fl_sAr, Fr_sFi, Fr_sFl, Fr_sAi, Fr_sAl, Fr_sAr, Ai_sFi, Ai_sFl, Ai_sFr, Ai_sAl, Ai_sAr, Al_sFi, Al_sFl, Al_sFr, Al_sAi, Al_sAr, Ar_sFi, Ar_sFl, Ar_sFr, Ar_sAi, Ar_sAl, Fi_same, Fl_same, Fr_same, Ai_same, Al_same, Ar_same, Fi_otherf, Fl_otherf, Fr_otherf, Ai_other, g0, e, e1, sAi_sAi, ix_0]
      refine k2 O.nA 0 _ (by omega) upd_s ?_ ?_ ?_ ?_ (fun a ha => absurd ha (Nat.not_lt_zero _))
      · rw [upd_n (by decide)]; exact f 1 (by decide)
      · rw [upd_n (by decide)]; exact f 2 (by decide)
      · rw [upd_n (by decide)]; exact f 3 (by decide)
      · rw [upd_n (by decide)]; exact f 4 (by decide)
    | succ n ih =>
      intro j F hj f
      have e : (ix j < 15) = True := by rw [ix_ltl (n := 15) (by omega) (by decide)]; exact eq_true (by omega)
      rw [w_X9_fresh_2]
      simp (disch := first | assumption | omega | decide | rfl) only [w_X9_fresh_3, w_X9_fresh_5, w_X9_fresh_8, w_X9_fresh_9, w_X9_fresh_12, w_X9_fresh_13, w_X9_fresh_14, w_X9_fresh_15, w_X9_fresh_18, mo_0 hm, mo_s hm, mt_s hm, ml_s hm, mo_orchard hm, mt_orchard hm, ml_orchard hm, mo_soundTold hm, mt_soundTold hm, ml_soundTold hm, nl_int, nl_ref, nl_null, nl_un, nl_rf, nl_long, isR_ref, isR_null, isR_rf, rf_some, rf_none, rOf_ref, rOf_null, rOf_rf, kn_v, kn_0, true_and, and_true, and_self, tin, inA_x, inA_l, ix_add, ix_addl, ix_ladd, ix_mul, ix_mull, ix_lmul, ix_tn, lt_tn, Nat.reduceLeDiff, Nat.reduceLT, Nat.reduceAdd, Nat.reduceMul, true_or, or_true, ↓reduceIte, aOk, ref_null, null_null, false_or, Option.isSome_some, Option.getD_some, ite_true, ite_false, eq_self, not_false_eq_true, not_true_eq_false, Tg_sFi, Tg_sFl, Tg_sFr, Tg_sAi, Tg_sAl, Tg_sAr, An_sFi, An_sFl, An_sFr, An_sAi, An_sAl, An_sAr, Fi_sFl, Fi_sFr, Fi_sAi, Fi_sAl, Fi_sAr, Fl_sFi, Fl_sFr, Fl_sAi, Fl_sAl, Fl_sAr, Fr_sFi, Fr_sFl, Fr_sAi, Fr_sAl, Fr_sAr, Ai_sFi, Ai_sFl, Ai_sFr, Ai_sAl, Ai_sAr, Al_sFi, Al_sFl, Al_sFr, Al_sAi, Al_sAr, Ar_sFi, Ar_sFl, Ar_sFr, Ar_sAi, Ar_sAl, Fi_same, Fl_same, Fr_same, Ai_same, Al_same, Ar_same, Fi_otherf, Fl_otherf, Fr_otherf, e, sAi_sAi]
      refine ih (j + 1) _ (by omega) (fun a ha => ?_)
      by_cases q : a = j
      · subst q; exact upd_s
      · rw [upd_n q]; exact f a (by omega)
  have := k1 15 0 (Ai h (m + 53)) (by omega) (fun a ha => absurd ha (Nat.not_lt_zero _))
  rw [sAi_self] at this
  simp (disch := first | assumption | omega | decide | rfl) only [w_X9_fresh_0, w_X9_fresh_1, nl_int, nl_ref, nl_null, nl_un, nl_rf, nl_long, isR_ref, isR_null, isR_rf, rf_some, rf_none, rOf_ref, rOf_null, rOf_rf, kn_v, kn_0, true_and, and_true, and_self, tin, inA_x, inA_l, ix_add, ix_addl, ix_ladd, ix_mul, ix_mull, ix_lmul, ix_tn, lt_tn, Nat.reduceLeDiff, Nat.reduceLT, Nat.reduceAdd, Nat.reduceMul, true_or, or_true, ↓reduceIte, aOk, ref_null, null_null, false_or, Option.isSome_some, Option.getD_some, ite_true, ite_false, eq_self, not_false_eq_true, not_true_eq_false]
  exact this
theorem wb_ju (wo : WO O) : ∀ j, WB O (juF O L j).1
  | 0 => wb_be wo
  | j + 1 => wb_go (wb_ju wo j)
theorem mb_cp {H : Nat → Int32} (y : MB h k 0 n B) (hn : n ≤ 10) (e : Ai h' p = cpF (Ai h k) 0 H 0 15) : MB h' p 0 n B := by
  obtain ⟨y1, y2, y3, y4, y5, y6⟩ := y
  have g : ∀ a, a < 15 → Ai h' p a = Ai h k a := fun a ha => by
    rw [e]
    have := cpF_in (G := Ai h k) (H := H) (a := 0) (b := 0) (n := 15) (j := a) ha
    simpa using this
  refine ⟨(g 0 (by decide)).trans y1, (g 1 (by decide)).trans y2, (g 2 (by decide)).trans y3, (g 3 (by decide)).trans y4, (g 4 (by decide)).trans y5, fun a ha => ?_⟩
  rw [g (0 + 5 + a) (by omega)]
  exact y6 a ha
theorem cm_judged (x : M0 h m O) (y : MB h (m + 53) 0 O.nA B) (l : ML h m 0 L) (w : WD O L) : Ca (D + 10) 212 [.ref m, .int v] h (fun r h' => r = .inl (some (.int (jgF O L v))) ∧ Md m (35 :: 53 :: 54 :: eA) [60, 130, 131, 132, 133] h h' ∧ MB h' (m + 53) 0 O.nA B ∧ Fi h' 60 m = 0) := by
  have n1 := x.wo.nA
  generalize hQ : (fun r h' => r = .inl (some (.int (jgF O L v))) ∧ Md m (35 :: 53 :: 54 :: eA) [60, 130, 131, 132, 133] h h' ∧ MB h' (m + 53) 0 O.nA B ∧ Fi h' 60 m = 0 : Rs → AH → Prop) = Q
  rw [e_X9_judged]
  simp (disch := first | assumption | omega | decide | rfl) only [w_X9_judged_0, w_X9_judged_1, w_X9_judged_2, w_X9_judged_5, w_X9_judged_6, w_X9_judged_7, w_X9_judged_8, mo_0 x.mo, nl_int, nl_ref, nl_null, nl_un, nl_rf, nl_long, isR_ref, isR_null, isR_rf, rf_some, rf_none, rOf_ref, rOf_null, rOf_rf, kn_v, kn_0, true_and, and_true, and_self, tin, inA_x, inA_l, ix_add, ix_addl, ix_ladd, ix_mul, ix_mull, ix_lmul, ix_tn, lt_tn, Nat.reduceLeDiff, Nat.reduceLT, Nat.reduceAdd, Nat.reduceMul, true_or, or_true, ↓reduceIte, aOk, ref_null, null_null, false_or, Option.isSome_some, Option.getD_some, ite_true, ite_false, eq_self, not_false_eq_true, not_true_eq_false, cm_within]
  have u1 : Md m [] [60, 130, 131, 132, 133] h (sFi h 60 m 0) := md_sFi (by decide)
  have f1 : Fi (sFi h 60 m 0) 60 m = 0 := Fi_same
  revert u1 f1
  generalize sFi h 60 m 0 = h1
  intro u1 f1
  have x1 : M0 h1 m O := x.md u1
  have y1 : MB h1 (m + 53) 0 O.nA B := y.md u1 (by decide)
  have l1 : ML h1 m 0 L := l.md u1 (by decide) (by decide) (by decide) (by decide)
  have v1 : Md m (35 :: 53 :: 54 :: eA) [60, 130, 131, 132, 133] h h1 := u1.mono (by simp) (fun _ q => q)
  have hm1 := x1.mo
  by_cases q : 0 ≤ v ∧ v ≤ 2
  · have c1 : (bz (decide (0 ≤ v ∧ v ≤ 2)) = 0) = False := by rw [bz_ne]; exact eq_false (by simp [q])
    simp (disch := first | assumption | omega | decide | rfl) only [w_X9_judged_11, nl_int, nl_ref, nl_null, nl_un, nl_rf, nl_long, isR_ref, isR_null, isR_rf, rf_some, rf_none, rOf_ref, rOf_null, rOf_rf, kn_v, kn_0, true_and, and_true, and_self, tin, inA_x, inA_l, ix_add, ix_addl, ix_ladd, ix_mul, ix_mull, ix_lmul, ix_tn, lt_tn, Nat.reduceLeDiff, Nat.reduceLT, Nat.reduceAdd, Nat.reduceMul, true_or, or_true, ↓reduceIte, aOk, ref_null, null_null, false_or, Option.isSome_some, Option.getD_some, ite_true, ite_false, eq_self, not_false_eq_true, not_true_eq_false, c1]
    simp (disch := first | assumption | omega | decide | rfl) only [w_X9_judged_17, w_X9_judged_18, w_X9_judged_21, w_X9_judged_22, w_X9_judged_23, w_X9_judged_26, mo_0 hm1, mo_s hm1, mt_s hm1, ml_s hm1, mo_aside hm1, mt_aside hm1, ml_aside hm1, mo_lines hm1, mt_lines hm1, ml_lines hm1, nl_int, nl_ref, nl_null, nl_un, nl_rf, nl_long, isR_ref, isR_null, isR_rf, rf_some, rf_none, rOf_ref, rOf_null, rOf_rf, kn_v, kn_0, true_and, and_true, and_self, tin, inA_x, inA_l, ix_add, ix_addl, ix_ladd, ix_mul, ix_mull, ix_lmul, ix_tn, lt_tn, Nat.reduceLeDiff, Nat.reduceLT, Nat.reduceAdd, Nat.reduceMul, true_or, or_true, ↓reduceIte, aOk, ref_null, null_null, false_or, Option.isSome_some, Option.getD_some, ite_true, ite_false, eq_self, not_false_eq_true, not_true_eq_false, ix_0]
    rw [w_X9_judged_27, cm_copies (by omega) (by rw [mt_s hm1]; decide) (by rw [mt_aside hm1]; decide) (by rw [ml_s hm1]; decide) (by rw [ml_aside hm1]; decide) (by rw [ml_s hm1]; decide) (by rw [ml_aside hm1]; decide), kn_0]
    have u2 : Md m (35 :: 53 :: 54 :: eA) [60, 130, 131, 132, 133] h (sAi h1 (m + 54) (cpF (Ai h1 (m + 53)) 0 (Ai h1 (m + 54)) 0 15)) := v1.trans (md_sAi (A := 35 :: 53 :: 54 :: eA) (F := [60, 130, 131, 132, 133]) (by simp)) (fun _ q => q) (fun _ q => q)
    have z2 : Md m [54] [] h1 (sAi h1 (m + 54) (cpF (Ai h1 (m + 53)) 0 (Ai h1 (m + 54)) 0 15)) := md_sAi (by simp)
    have s2 : MB (sAi h1 (m + 54) (cpF (Ai h1 (m + 53)) 0 (Ai h1 (m + 54)) 0 15)) (m + 54) 0 O.nA B := mb_cp y1 n1 Ai_same
    revert u2 z2 s2
    generalize sAi h1 (m + 54) (cpF (Ai h1 (m + 53)) 0 (Ai h1 (m + 54)) 0 15) = h2
    intro u2 z2 s2
    have x2 : M0 h2 m O := x1.md z2
    have l2 : ML h2 m 0 L := l1.md z2 (by decide) (by decide) (by decide) (by decide)
    have f2 : Fi h2 60 m = 0 := by rw [z2.fi (by decide)]; exact f1
    simp (disch := first | assumption | omega | decide | rfl) only [w_X9_judged_30, w_X9_judged_31, mo_0 x2.mo, nl_int, nl_ref, nl_null, nl_un, nl_rf, nl_long, isR_ref, isR_null, isR_rf, rf_some, rf_none, rOf_ref, rOf_null, rOf_rf, kn_v, kn_0, true_and, and_true, and_self, tin, inA_x, inA_l, ix_add, ix_addl, ix_ladd, ix_mul, ix_mull, ix_lmul, ix_tn, lt_tn, Nat.reduceLeDiff, Nat.reduceLT, Nat.reduceAdd, Nat.reduceMul, true_or, or_true, ↓reduceIte, aOk, ref_null, null_null, false_or, Option.isSome_some, Option.getD_some, ite_true, ite_false, eq_self, not_false_eq_true, not_true_eq_false]
    refine ca_mono (cm_fresh x2) ?_
    rintro r h3 ⟨rfl, u3, y3⟩
    have key : ∀ n j h4, j + n = L.1 → Md m (35 :: 53 :: eA) [130, 131, 132, 133] h3 h4 → MB h4 (m + 53) 0 O.nA (juF O L j).1 → Ru (D + 9) 212 41 [.ref m, .int v, .int (juF O L j).2.1, .int (juF O L j).2.2, .int (ix j)] [] h4 Q := by
      have le := l.le
      intro n
      induction n with
      | zero =>
        intro j h4 hj u4 y4
        have ej : j = L.1 := by omega
        subst ej
        have w4 : Md m (35 :: 53 :: 54 :: eA) [60, 130, 131, 132, 133] h h4 := (u2.trans u3 (by decide) (by simp)).trans u4 (by decide) (by decide)
        have x4 : M0 h4 m O := x.md w4
        have l4 := l.md w4 (by decide) (by decide) (by decide) (by decide)
        have hm4 := x4.mo
        have s4 : MB h4 (m + 54) 0 O.nA B := (s2.md u3 (by decide)).md u4 (by decide)
        have f4 : Fi h4 60 m = 0 := by rw [u4.fi (by decide), u3.fi (by decide)]; exact f2
        have g1 := l4.n
        have g2 := y4.had
        rw [Nat.zero_add] at g2
        have e : ¬ L.1 < L.1 := by omega
        simp (disch := first | assumption | omega | decide | rfl) only [w_X9_judged_41, w_X9_judged_43, w_X9_judged_44, w_X9_judged_47, w_X9_judged_48, w_X9_judged_49, w_X9_judged_52, w_X9_judged_53, w_X9_judged_55, w_X9_judged_58, w_X9_judged_61, w_X9_judged_62, w_X9_judged_65, w_X9_judged_67, w_X9_judged_68, w_X9_judged_69, w_X9_judged_72, w_X9_judged_75, w_X9_judged_76, w_X9_judged_79, w_X9_judged_81, w_X9_judged_82, w_X9_judged_85, w_X9_judged_88, w_X9_judged_89, w_X9_judged_92, w_X9_judged_93, w_X9_judged_94, mo_0 hm4, mo_s hm4, mt_s hm4, ml_s hm4, mo_aside hm4, mt_aside hm4, ml_aside hm4, mo_lines hm4, mt_lines hm4, ml_lines hm4, nl_int, nl_ref, nl_null, nl_un, nl_rf, nl_long, isR_ref, isR_null, isR_rf, rf_some, rf_none, rOf_ref, rOf_null, rOf_rf, kn_v, kn_0, true_and, and_true, and_self, tin, inA_x, inA_l, ix_add, ix_addl, ix_ladd, ix_mul, ix_mull, ix_lmul, ix_tn, lt_tn, Nat.reduceLeDiff, Nat.reduceLT, Nat.reduceAdd, Nat.reduceMul, true_or, or_true, ↓reduceIte, aOk, ref_null, null_null, false_or, Option.isSome_some, Option.getD_some, ite_true, ite_false, eq_self, not_false_eq_true, not_true_eq_false, g1, g2, ix_lt, e]
        simp (disch := first | assumption | omega | decide | rfl) only [w_X9_judged_96, w_X9_judged_97, w_X9_judged_100, w_X9_judged_101, w_X9_judged_102, w_X9_judged_105, mo_0 hm4, mo_s hm4, mt_s hm4, ml_s hm4, mo_aside hm4, mt_aside hm4, ml_aside hm4, mo_lines hm4, mt_lines hm4, ml_lines hm4, nl_int, nl_ref, nl_null, nl_un, nl_rf, nl_long, isR_ref, isR_null, isR_rf, rf_some, rf_none, rOf_ref, rOf_null, rOf_rf, kn_v, kn_0, true_and, and_true, and_self, tin, inA_x, inA_l, ix_add, ix_addl, ix_ladd, ix_mul, ix_mull, ix_lmul, ix_tn, lt_tn, Nat.reduceLeDiff, Nat.reduceLT, Nat.reduceAdd, Nat.reduceMul, true_or, or_true, ↓reduceIte, aOk, ref_null, null_null, false_or, Option.isSome_some, Option.getD_some, ite_true, ite_false, eq_self, not_false_eq_true, not_true_eq_false, ix_0]
        rw [w_X9_judged_106, cm_copies (by omega) (by rw [mt_aside hm4]; decide) (by rw [mt_s hm4]; decide) (by rw [ml_aside hm4]; decide) (by rw [ml_s hm4]; decide) (by rw [ml_aside hm4]; decide) (by rw [ml_s hm4]; decide), kn_0]
        have w5 : Md m (35 :: 53 :: 54 :: eA) [60, 130, 131, 132, 133] h (sAi h4 (m + 53) (cpF (Ai h4 (m + 54)) 0 (Ai h4 (m + 53)) 0 15)) := w4.trans (md_sAi (A := 35 :: 53 :: 54 :: eA) (F := [60, 130, 131, 132, 133]) (by simp)) (fun _ q => q) (fun _ q => q)
        have s5 : MB (sAi h4 (m + 53) (cpF (Ai h4 (m + 54)) 0 (Ai h4 (m + 53)) 0 15)) (m + 53) 0 O.nA B := mb_cp s4 n1 Ai_same
        have f5 : Fi (sAi h4 (m + 53) (cpF (Ai h4 (m + 54)) 0 (Ai h4 (m + 53)) 0 15)) 60 m = 0 := f4
        revert w5 s5 f5
        generalize sAi h4 (m + 53) (cpF (Ai h4 (m + 54)) 0 (Ai h4 (m + 53)) 0 15) = h5
        intro w5 s5 f5
        have fin : ∀ r : Int32, r = jgF O L v → Q (.inl (some (.int r))) h5 := fun r hr => by
          rw [← hQ, hr]
          exact ⟨rfl, w5, s5, f5⟩
        unfold jgF at fin
        rw [if_pos q] at fin
        by_cases q1 : v = 0
        · have d1 : (v = 0) = True := eq_true q1
          simp (disch := first | assumption | omega | decide | rfl) only [w_X9_judged_109, w_X9_judged_110, w_X9_judged_113, w_X9_judged_114, w_X9_judged_117, w_X9_judged_118, w_X9_judged_119, w_X9_judged_122, w_X9_judged_123, w_X9_judged_126, w_X9_judged_128, nl_int, nl_ref, nl_null, nl_un, nl_rf, nl_long, isR_ref, isR_null, isR_rf, rf_some, rf_none, rOf_ref, rOf_null, rOf_rf, kn_v, kn_0, true_and, and_true, and_self, tin, inA_x, inA_l, ix_add, ix_addl, ix_ladd, ix_mul, ix_mull, ix_lmul, ix_tn, lt_tn, Nat.reduceLeDiff, Nat.reduceLT, Nat.reduceAdd, Nat.reduceMul, true_or, or_true, ↓reduceIte, aOk, ref_null, null_null, false_or, Option.isSome_some, Option.getD_some, ite_true, ite_false, eq_self, not_false_eq_true, not_true_eq_false, d1]
          exact fin _ (by rw [if_pos q1])
        · have d1 : (v = 0) = False := eq_false q1
          by_cases q2 : v = 1
          · have d2 : (v = 1) = True := eq_true q2
            simp (disch := first | assumption | omega | decide | rfl) only [w_X9_judged_109, w_X9_judged_110, w_X9_judged_113, w_X9_judged_114, w_X9_judged_117, w_X9_judged_118, w_X9_judged_119, w_X9_judged_122, w_X9_judged_123, w_X9_judged_126, w_X9_judged_128, nl_int, nl_ref, nl_null, nl_un, nl_rf, nl_long, isR_ref, isR_null, isR_rf, rf_some, rf_none, rOf_ref, rOf_null, rOf_rf, kn_v, kn_0, true_and, and_true, and_self, tin, inA_x, inA_l, ix_add, ix_addl, ix_ladd, ix_mul, ix_mull, ix_lmul, ix_tn, lt_tn, Nat.reduceLeDiff, Nat.reduceLT, Nat.reduceAdd, Nat.reduceMul, true_or, or_true, ↓reduceIte, aOk, ref_null, null_null, false_or, Option.isSome_some, Option.getD_some, ite_true, ite_false, eq_self, not_false_eq_true, not_true_eq_false, d1, d2]
            exact fin _ (by rw [if_neg q1, if_pos q2])
          · have d2 : (v = 1) = False := eq_false q2
            simp (disch := first | assumption | omega | decide | rfl) only [w_X9_judged_109, w_X9_judged_110, w_X9_judged_113, w_X9_judged_114, w_X9_judged_117, w_X9_judged_118, w_X9_judged_119, w_X9_judged_122, w_X9_judged_123, w_X9_judged_126, w_X9_judged_128, nl_int, nl_ref, nl_null, nl_un, nl_rf, nl_long, isR_ref, isR_null, isR_rf, rf_some, rf_none, rOf_ref, rOf_null, rOf_rf, kn_v, kn_0, true_and, and_true, and_self, tin, inA_x, inA_l, ix_add, ix_addl, ix_ladd, ix_mul, ix_mull, ix_lmul, ix_tn, lt_tn, Nat.reduceLeDiff, Nat.reduceLT, Nat.reduceAdd, Nat.reduceMul, true_or, or_true, ↓reduceIte, aOk, ref_null, null_null, false_or, Option.isSome_some, Option.getD_some, ite_true, ite_false, eq_self, not_false_eq_true, not_true_eq_false, d1, d2]
            exact fin _ (by rw [if_neg q1, if_neg q2])
      | succ n ih =>
        intro j h4 hj u4 y4
        have w4 : Md m (35 :: 53 :: 54 :: eA) [60, 130, 131, 132, 133] h h4 := (u2.trans u3 (by decide) (by simp)).trans u4 (by decide) (by decide)
        have x4 : M0 h4 m O := x.md w4
        have l4 := l.md w4 (by decide) (by decide) (by decide) (by decide)
        have hm4 := x4.mo
        have g1 := l4.n
        have e : j < L.1 := by omega
        rw [w_X9_judged_41]
        simp (disch := first | assumption | omega | decide | rfl) only [w_X9_judged_43, w_X9_judged_44, w_X9_judged_47, w_X9_judged_48, w_X9_judged_49, w_X9_judged_52, w_X9_judged_53, w_X9_judged_55, mo_0 hm4, mo_s hm4, mt_s hm4, ml_s hm4, mo_aside hm4, mt_aside hm4, ml_aside hm4, mo_lines hm4, mt_lines hm4, ml_lines hm4, nl_int, nl_ref, nl_null, nl_un, nl_rf, nl_long, isR_ref, isR_null, isR_rf, rf_some, rf_none, rOf_ref, rOf_null, rOf_rf, kn_v, kn_0, true_and, and_true, and_self, tin, inA_x, inA_l, ix_add, ix_addl, ix_ladd, ix_mul, ix_mull, ix_lmul, ix_tn, lt_tn, Nat.reduceLeDiff, Nat.reduceLT, Nat.reduceAdd, Nat.reduceMul, true_or, or_true, ↓reduceIte, aOk, ref_null, null_null, false_or, Option.isSome_some, Option.getD_some, ite_true, ite_false, eq_self, not_false_eq_true, not_true_eq_false, g1, ix_lt, e]
        refine ca_mono (cm_goes x4 y4 (wb_ju x.wo j) l4 w e) ?_
        rintro r h5 ⟨rfl, u5, y5, f5⟩
        have nx := ih (j + 1) h5 (by omega) (u4.trans u5 (fun _ q => q) (fun _ q => q)) y5
        rw [juF] at nx
        revert nx f5
        generalize (goF O (juF O L j).1 (L.2 0 j) (L.2 1 j) (L.2 2 j)).1 = ok
        generalize (goF O (juF O L j).1 (L.2 0 j) (L.2 1 j) (L.2 2 j)).2.2 = gr
        generalize (juF O L j).2.1 = bd
        generalize (juF O L j).2.2 = gn
        intro f5 nx
        have hm5 := u5.mo hm4
        have mid : Ru (D + 9) 212 68 [.ref m, .int v, .int (if ok = false ∧ bd < 0 then ix j else bd), .int gn, .int (ix j)] [] h5 Q := by
          revert nx
          generalize (if ok = false ∧ bd < 0 then ix j else bd) = bd'
          intro nx
          have nx2 : Ru (D + 9) 212 82 [.ref m, .int v, .int bd', .int (if gr = true ∧ gn < 0 then ix j else gn), .int (ix j)] [] h5 Q := by
            simp (disch := first | assumption | omega | decide | rfl) only [w_X9_judged_82, w_X9_judged_85, nl_int, nl_ref, nl_null, nl_un, nl_rf, nl_long, isR_ref, isR_null, isR_rf, rf_some, rf_none, rOf_ref, rOf_null, rOf_rf, kn_v, kn_0, true_and, and_true, and_self, tin, inA_x, inA_l, ix_add, ix_addl, ix_ladd, ix_mul, ix_mull, ix_lmul, ix_tn, lt_tn, Nat.reduceLeDiff, Nat.reduceLT, Nat.reduceAdd, Nat.reduceMul, true_or, or_true, ↓reduceIte, aOk, ref_null, null_null, false_or, Option.isSome_some, Option.getD_some, ite_true, ite_false, eq_self, not_false_eq_true, not_true_eq_false]
            exact nx
          cases gr with
          | false =>
            have d1 : (bz false = 0) = True := eq_true rfl
            rw [if_neg (by simp)] at nx2
            simp (disch := first | assumption | omega | decide | rfl) only [w_X9_judged_68, w_X9_judged_69, w_X9_judged_72, mo_0 hm5, nl_int, nl_ref, nl_null, nl_un, nl_rf, nl_long, isR_ref, isR_null, isR_rf, rf_some, rf_none, rOf_ref, rOf_null, rOf_rf, kn_v, kn_0, true_and, and_true, and_self, tin, inA_x, inA_l, ix_add, ix_addl, ix_ladd, ix_mul, ix_mull, ix_lmul, ix_tn, lt_tn, Nat.reduceLeDiff, Nat.reduceLT, Nat.reduceAdd, Nat.reduceMul, true_or, or_true, ↓reduceIte, aOk, ref_null, null_null, false_or, Option.isSome_some, Option.getD_some, ite_true, ite_false, eq_self, not_false_eq_true, not_true_eq_false, f5, d1]
            exact nx2
          | true =>
            have d1 : (bz true = 0) = False := eq_false (by decide)
            by_cases q3 : gn < 0
            · rw [if_pos ⟨rfl, q3⟩] at nx2
              simp (disch := first | assumption | omega | decide | rfl) only [w_X9_judged_68, w_X9_judged_69, w_X9_judged_72, w_X9_judged_75, w_X9_judged_76, w_X9_judged_79, w_X9_judged_81, mo_0 hm5, nl_int, nl_ref, nl_null, nl_un, nl_rf, nl_long, isR_ref, isR_null, isR_rf, rf_some, rf_none, rOf_ref, rOf_null, rOf_rf, kn_v, kn_0, true_and, and_true, and_self, tin, inA_x, inA_l, ix_add, ix_addl, ix_ladd, ix_mul, ix_mull, ix_lmul, ix_tn, lt_tn, Nat.reduceLeDiff, Nat.reduceLT, Nat.reduceAdd, Nat.reduceMul, true_or, or_true, ↓reduceIte, aOk, ref_null, null_null, false_or, Option.isSome_some, Option.getD_some, ite_true, ite_false, eq_self, not_false_eq_true, not_true_eq_false, f5, d1, q3]
              exact nx2
            · rw [if_neg (fun k => q3 k.2)] at nx2
              simp (disch := first | assumption | omega | decide | rfl) only [w_X9_judged_68, w_X9_judged_69, w_X9_judged_72, w_X9_judged_75, w_X9_judged_76, mo_0 hm5, nl_int, nl_ref, nl_null, nl_un, nl_rf, nl_long, isR_ref, isR_null, isR_rf, rf_some, rf_none, rOf_ref, rOf_null, rOf_rf, kn_v, kn_0, true_and, and_true, and_self, tin, inA_x, inA_l, ix_add, ix_addl, ix_ladd, ix_mul, ix_mull, ix_lmul, ix_tn, lt_tn, Nat.reduceLeDiff, Nat.reduceLT, Nat.reduceAdd, Nat.reduceMul, true_or, or_true, ↓reduceIte, aOk, ref_null, null_null, false_or, Option.isSome_some, Option.getD_some, ite_true, ite_false, eq_self, not_false_eq_true, not_true_eq_false, f5, d1, q3]
              exact nx2
        cases ok with
        | true =>
          have d1 : (bz true = 0) = False := eq_false (by decide)
          rw [if_neg (by simp)] at mid
          simp (disch := first | assumption | omega | decide | rfl) only [w_X9_judged_58, nl_int, nl_ref, nl_null, nl_un, nl_rf, nl_long, isR_ref, isR_null, isR_rf, rf_some, rf_none, rOf_ref, rOf_null, rOf_rf, kn_v, kn_0, true_and, and_true, and_self, tin, inA_x, inA_l, ix_add, ix_addl, ix_ladd, ix_mul, ix_mull, ix_lmul, ix_tn, lt_tn, Nat.reduceLeDiff, Nat.reduceLT, Nat.reduceAdd, Nat.reduceMul, true_or, or_true, ↓reduceIte, aOk, ref_null, null_null, false_or, Option.isSome_some, Option.getD_some, ite_true, ite_false, eq_self, not_false_eq_true, not_true_eq_false, d1]
          exact mid
        | false =>
          have d1 : (bz false = 0) = True := eq_true rfl
          by_cases q3 : bd < 0
          · rw [if_pos ⟨rfl, q3⟩] at mid
            simp (disch := first | assumption | omega | decide | rfl) only [w_X9_judged_58, w_X9_judged_61, w_X9_judged_62, w_X9_judged_65, w_X9_judged_67, nl_int, nl_ref, nl_null, nl_un, nl_rf, nl_long, isR_ref, isR_null, isR_rf, rf_some, rf_none, rOf_ref, rOf_null, rOf_rf, kn_v, kn_0, true_and, and_true, and_self, tin, inA_x, inA_l, ix_add, ix_addl, ix_ladd, ix_mul, ix_mull, ix_lmul, ix_tn, lt_tn, Nat.reduceLeDiff, Nat.reduceLT, Nat.reduceAdd, Nat.reduceMul, true_or, or_true, ↓reduceIte, aOk, ref_null, null_null, false_or, Option.isSome_some, Option.getD_some, ite_true, ite_false, eq_self, not_false_eq_true, not_true_eq_false, d1, q3]
            exact mid
          · rw [if_neg (fun k => q3 k.2)] at mid
            simp (disch := first | assumption | omega | decide | rfl) only [w_X9_judged_58, w_X9_judged_61, w_X9_judged_62, nl_int, nl_ref, nl_null, nl_un, nl_rf, nl_long, isR_ref, isR_null, isR_rf, rf_some, rf_none, rOf_ref, rOf_null, rOf_rf, kn_v, kn_0, true_and, and_true, and_self, tin, inA_x, inA_l, ix_add, ix_addl, ix_ladd, ix_mul, ix_mull, ix_lmul, ix_tn, lt_tn, Nat.reduceLeDiff, Nat.reduceLT, Nat.reduceAdd, Nat.reduceMul, true_or, or_true, ↓reduceIte, aOk, ref_null, null_null, false_or, Option.isSome_some, Option.getD_some, ite_true, ite_false, eq_self, not_false_eq_true, not_true_eq_false, d1, q3]
            exact mid
    simp (disch := first | assumption | omega | decide | rfl) only [w_X9_judged_34, w_X9_judged_35, w_X9_judged_36, w_X9_judged_37, w_X9_judged_38, w_X9_judged_39, nl_int, nl_ref, nl_null, nl_un, nl_rf, nl_long, isR_ref, isR_null, isR_rf, rf_some, rf_none, rOf_ref, rOf_null, rOf_rf, kn_v, kn_0, true_and, and_true, and_self, tin, inA_x, inA_l, ix_add, ix_addl, ix_ladd, ix_mul, ix_mull, ix_lmul, ix_tn, lt_tn, Nat.reduceLeDiff, Nat.reduceLT, Nat.reduceAdd, Nat.reduceMul, true_or, or_true, ↓reduceIte, aOk, ref_null, null_null, false_or, Option.isSome_some, Option.getD_some, ite_true, ite_false, eq_self, not_false_eq_true, not_true_eq_false, ix_0]
    exact key L.1 0 h3 (by omega) Md.refl y3
  · have c1 : (bz (decide (0 ≤ v ∧ v ≤ 2)) = 0) = True := by rw [bz_ne]; exact eq_true (by simp [q])
    simp (disch := first | assumption | omega | decide | rfl) only [w_X9_judged_11, w_X9_judged_14, w_X9_judged_16, nl_int, nl_ref, nl_null, nl_un, nl_rf, nl_long, isR_ref, isR_null, isR_rf, rf_some, rf_none, rOf_ref, rOf_null, rOf_rf, kn_v, kn_0, true_and, and_true, and_self, tin, inA_x, inA_l, ix_add, ix_addl, ix_ladd, ix_mul, ix_mull, ix_lmul, ix_tn, lt_tn, Nat.reduceLeDiff, Nat.reduceLT, Nat.reduceAdd, Nat.reduceMul, true_or, or_true, ↓reduceIte, aOk, ref_null, null_null, false_or, Option.isSome_some, Option.getD_some, ite_true, ite_false, eq_self, not_false_eq_true, not_true_eq_false, c1]
    rw [← hQ]
    refine ⟨?_, v1, y1, f1⟩
    unfold jgF
    rw [if_neg q]
end
