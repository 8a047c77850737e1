/-! THE MODEL: calls, boughs freshly begun, boughs kept -/
set_option maxRecDepth 100000
section
variable {d D m a b c p q s w lane loud hang loose e n k i : Nat} {h h' : AH} {Q : Rs → AH → Prop} {O : Oc} {B : Bo} {snd : Nat → Nat} {day : Int32} {A F : List Nat}
noncomputable def flF (O : Oc) (B : Bo) (s lane loud : Nat) : Nat := faF O B.hang B.loose (whF O B.snd s lane loud) (ecF O B.snd s lane loud)
noncomputable def caF (O : Oc) (B : Bo) (s lane loud : Nat) : Bo := (sd B.hang (flF O B s lane loud), loF O B.hang B.loose (whF O B.snd s lane loud) (ecF O B.snd s lane loud), B.snd, B.day, B.had + su (flF O B s lane loud) (fun a => vaF O a B.day) O.nA, B.pk)
theorem WB.lt (x : WB O B) (w : WO O) : B.hang < 1024 := Nat.lt_of_lt_of_le x.hang (Nat.pow_le_pow_right (n := 2) (j := 10) (by decide) w.nA)
theorem cm_calls (x : M0 h m O) (y : MB h (m + 53) 0 O.nA B) (z : WB O B) (hs : s < O.nS) (hl : lane < 12) (hd : loud < 7) : Ca (D + 7) 201 [.ref m, .int (ix s), .int (ix lane), .int (ix loud)] h (fun r h' => r = .inl (some (.int (ix (flF O B s lane loud)))) ∧ Md m (35 :: 53 :: eA) [130, 131, 132] h h' ∧ MB h' (m + 53) 0 O.nA (caF O B s lane loud)) := by
  have hm := x.mo
  have n1 := x.wo.nA
  have hh := z.lt x.wo
  have e0 := y.snd
  rw [show (0 : Nat) + 5 = 5 from rfl] at e0
  rw [e_X9_calls]
  rw [w_X9_calls_0]
  simp (disch := first | assumption | omega | decide | rfl) only [w_X9_calls_1, w_X9_calls_2, w_X9_calls_3, w_X9_calls_4, mo_0 hm, mo_s hm, mt_s hm, ml_s hm, nl_int, nl_ref, nl_null, nl_un, nl_rf, nl_long, isR_ref, isR_null, isR_rf, rf_some, rf_none, rOf_ref, rOf_null, rOf_rf, kn_v, kn_0, true_and, and_true, and_self, tin, inA_x, inA_l, ix_add, ix_addl, ix_ladd, ix_mul, ix_mull, ix_lmul, ix_tn, lt_tn, Nat.reduceLeDiff, Nat.reduceLT, Nat.reduceAdd, Nat.reduceMul, true_or, or_true, ↓reduceIte, aOk, ref_null, null_null, false_or, Option.isSome_some, Option.getD_some, ite_true, ite_false, eq_self, not_false_eq_true, not_true_eq_false]
  rw [cm_hears (snd := B.snd) x hs hl hd z.snd e0, kn_0]
  have u1 : Md m [] [130, 131, 132] h (sFi (sFi h 130 m (ix (whF O B.snd s lane loud))) 131 m (ix (ecF O B.snd s lane loud))) := (md_sFi (by decide)).trans (md_sFi (A := []) (F := [130, 131, 132]) (by decide)) (fun _ q => q) (fun _ q => q)
  have f1 : Fi (sFi (sFi h 130 m (ix (whF O B.snd s lane loud))) 131 m (ix (ecF O B.snd s lane loud))) 130 m = ix (whF O B.snd s lane loud) := by rw [Fi_otherf (by decide), Fi_same]
  have f2 : Fi (sFi (sFi h 130 m (ix (whF O B.snd s lane loud))) 131 m (ix (ecF O B.snd s lane loud))) 131 m = ix (ecF O B.snd s lane loud) := Fi_same
  revert u1 f1 f2
  generalize sFi (sFi h 130 m (ix (whF O B.snd s lane loud))) 131 m (ix (ecF O B.snd s lane loud)) = h1
  intro u1 f1 f2
  have x1 := x.md u1
  have hm1 := x1.mo
  obtain ⟨g1, g2, g3, g4, g5, g6⟩ := id (y.md u1 (by decide))
  simp only [Nat.zero_add] at g1 g2 g3 g4 g5 g6
  have ef := cm_fallsBy (D := D + 4) (loose := B.loose) (w := whF O B.snd s lane loud) (e := ecF O B.snd s lane loud) (Q := Kn (D + 6) 201 28 31 [.ref m, .int (ix s), .int (ix lane), .int (ix loud), un] [] (fun r h' => r = .inl (some (.int (ix (flF O B s lane loud)))) ∧ Md m (35 :: 53 :: eA) [130, 131, 132] h h' ∧ MB h' (m + 53) 0 O.nA (caF O B s lane loud))) x1 hh
  rw [w_X9_calls_7, w_X9_calls_8]
  simp (disch := first | assumption | omega | decide | rfl) only [w_X9_calls_9, w_X9_calls_12, w_X9_calls_13, w_X9_calls_14, w_X9_calls_15, w_X9_calls_18, w_X9_calls_19, w_X9_calls_20, w_X9_calls_21, w_X9_calls_24, w_X9_calls_25, w_X9_calls_28, mo_0 hm1, mo_s hm1, mt_s hm1, ml_s hm1, nl_int, nl_ref, nl_null, nl_un, nl_rf, nl_long, isR_ref, isR_null, isR_rf, rf_some, rf_none, rOf_ref, rOf_null, rOf_rf, kn_v, kn_0, true_and, and_true, and_self, tin, inA_x, inA_l, ix_add, ix_addl, ix_ladd, ix_mul, ix_mull, ix_lmul, ix_tn, lt_tn, Nat.reduceLeDiff, Nat.reduceLT, Nat.reduceAdd, Nat.reduceMul, true_or, or_true, ↓reduceIte, aOk, ref_null, null_null, false_or, Option.isSome_some, Option.getD_some, ite_true, ite_false, eq_self, not_false_eq_true, not_true_eq_false, f1, f2, g1, g2]
  rw [ef, kn_v]
  clear ef
  rw [show faF O B.hang B.loose (whF O B.snd s lane loud) (ecF O B.snd s lane loud) = flF O B s lane loud from rfl]
  have hfl : flF O B s lane loud < 1024 := faF_lt hh
  have u2 : Md m [] [130, 131, 132] h (sFi h1 132 m (ix (loF O B.hang B.loose (whF O B.snd s lane loud) (ecF O B.snd s lane loud)))) := u1.trans (md_sFi (A := []) (F := [130, 131, 132]) (by decide)) (fun _ q => q) (fun _ q => q)
  have f3 : Fi (sFi h1 132 m (ix (loF O B.hang B.loose (whF O B.snd s lane loud) (ecF O B.snd s lane loud)))) 132 m = ix (loF O B.hang B.loose (whF O B.snd s lane loud) (ecF O B.snd s lane loud)) := Fi_same
  have g : Ai (sFi h1 132 m (ix (loF O B.hang B.loose (whF O B.snd s lane loud) (ecF O B.snd s lane loud)))) (m + 53) = Ai h1 (m + 53) := rfl
  revert u2 f3 g
  generalize sFi h1 132 m (ix (loF O B.hang B.loose (whF O B.snd s lane loud) (ecF O B.snd s lane loud))) = h2
  intro u2 f3 g
  have hm2 := u2.mo hm
  rw [← g] at g1 g2 g3 g4 g5 g6
  have e2 : ∀ (G : Nat → Int32) (x y : Int32), upd (upd G 0 x) 1 y 4 = G 4 := fun G x y => by rw [upd_n (by decide), upd_n (by decide)]
  have e3 : ∀ (G : Nat → Int32) (x y : Int32), upd (upd G 0 x) 1 y 2 = G 2 := fun G x y => by rw [upd_n (by decide), upd_n (by decide)]
  simp (disch := first | assumption | omega | decide | rfl) only [w_X9_calls_31, w_X9_calls_33, w_X9_calls_34, w_X9_calls_37, w_X9_calls_38, w_X9_calls_39, w_X9_calls_40, w_X9_calls_42, w_X9_calls_43, w_X9_calls_44, w_X9_calls_45, w_X9_calls_46, w_X9_calls_47, w_X9_calls_50, w_X9_calls_51, w_X9_calls_52, w_X9_calls_55, w_X9_calls_56, w_X9_calls_57, w_X9_calls_60, w_X9_calls_61, w_X9_calls_62, w_X9_calls_63, w_X9_calls_64, w_X9_calls_66, w_X9_calls_67, w_X9_calls_70, w_X9_calls_71, w_X9_calls_72, mo_0 hm2, mo_s hm2, mt_s hm2, ml_s hm2, nl_int, nl_ref, nl_null, nl_un, nl_rf, nl_long, isR_ref, isR_null, isR_rf, rf_some, rf_none, rOf_ref, rOf_null, rOf_rf, kn_v, kn_0, true_and, and_true, and_self, tin, inA_x, inA_l, ix_add, ix_addl, ix_ladd, ix_mul, ix_mull, ix_lmul, ix_tn, lt_tn, Nat.reduceLeDiff, Nat.reduceLT, Nat.reduceAdd, Nat.reduceMul, true_or, or_true, ↓reduceIte, aOk, ref_null, null_null, false_or, Option.isSome_some, Option.getD_some, ite_true, ite_false, eq_self, not_false_eq_true, not_true_eq_false, Tg_sFi, Tg_sFl, Tg_sFr, Tg_sAi, Tg_sAl, Tg_sAr, An_sFi, An_sFl, An_sFr, An_sAi, An_sAl, An_sAr, Fi_sFl, Fi_sFr, Fi_sAi, Fi_sAl, Fi_sAr, Fl_sFi, Fl_sFr, Fl_sAi, Fl_sAl, Fl_sAr, Fr_sFi, Fr_sFl, Fr_sAi, Fr_sAl, Fr_sAr, Ai_sFi, Ai_sFl, Ai_sFr, Ai_sAl, Ai_sAr, Al_sFi, Al_sFl, Al_sFr, Al_sAi, Al_sAr, Ar_sFi, Ar_sFl, Ar_sFr, Ar_sAi, Ar_sAl, Fi_same, Fl_same, Fr_same, Ai_same, Al_same, Ar_same, Fi_otherf, Fl_otherf, Fr_otherf, f3, g1, g3, g5, e2, e3, ix_sd, sAi_sAi]
  have u3 : Md m (35 :: 53 :: eA) [130, 131, 132] h (sAi h2 (m + 53) (upd (upd (Ai h2 (m + 53)) 0 (ix (sd B.hang (flF O B s lane loud)))) 1 (ix (loF O B.hang B.loose (whF O B.snd s lane loud) (ecF O B.snd s lane loud))))) := (u2.mono (by simp) (fun _ q => q)).trans (md_sAi (A := 35 :: 53 :: eA) (F := [130, 131, 132]) (by simp)) (fun _ q => q) (fun _ q => q)
  have j1 : Ai (sAi h2 (m + 53) (upd (upd (Ai h2 (m + 53)) 0 (ix (sd B.hang (flF O B s lane loud)))) 1 (ix (loF O B.hang B.loose (whF O B.snd s lane loud) (ecF O B.snd s lane loud))))) (m + 53) = upd (upd (Ai h2 (m + 53)) 0 (ix (sd B.hang (flF O B s lane loud)))) 1 (ix (loF O B.hang B.loose (whF O B.snd s lane loud) (ecF O B.snd s lane loud))) := Ai_same
  revert u3 j1
  generalize sAi h2 (m + 53) (upd (upd (Ai h2 (m + 53)) 0 (ix (sd B.hang (flF O B s lane loud)))) 1 (ix (loF O B.hang B.loose (whF O B.snd s lane loud) (ecF O B.snd s lane loud)))) = h3
  intro u3 j1
  have x3 := x.md u3
  refine ca_mono (cm_worthOf x3 hfl) ?_
  rintro r h4 ⟨rfl, u4⟩
  have hm4 := u4.mo x3.mo
  have j2 : Ai h4 (m + 53) = upd (upd (Ai h2 (m + 53)) 0 (ix (sd B.hang (flF O B s lane loud)))) 1 (ix (loF O B.hang B.loose (whF O B.snd s lane loud) (ecF O B.snd s lane loud))) := by rw [u4.ai (by decide), j1]
  simp (disch := first | assumption | omega | decide | rfl) only [w_X9_calls_75, w_X9_calls_76, w_X9_calls_77, w_X9_calls_79, mo_0 hm4, mo_s hm4, mt_s hm4, ml_s hm4, nl_int, nl_ref, nl_null, nl_un, nl_rf, nl_long, isR_ref, isR_null, isR_rf, rf_some, rf_none, rOf_ref, rOf_null, rOf_rf, kn_v, kn_0, true_and, and_true, and_self, tin, inA_x, inA_l, ix_add, ix_addl, ix_ladd, ix_mul, ix_mull, ix_lmul, ix_tn, lt_tn, Nat.reduceLeDiff, Nat.reduceLT, Nat.reduceAdd, Nat.reduceMul, true_or, or_true, ↓reduceIte, aOk, ref_null, null_null, false_or, Option.isSome_some, Option.getD_some, ite_true, ite_false, eq_self, not_false_eq_true, not_true_eq_false, Tg_sFi, Tg_sFl, Tg_sFr, Tg_sAi, Tg_sAl, Tg_sAr, An_sFi, An_sFl, An_sFr, An_sAi, An_sAl, An_sAr, Fi_sFl, Fi_sFr, Fi_sAi, Fi_sAl, Fi_sAr, Fl_sFi, Fl_sFr, Fl_sAi, Fl_sAl, Fl_sAr, Fr_sFi, Fr_sFl, Fr_sAi, Fr_sAl, Fr_sAr, Ai_sFi, Ai_sFl, Ai_sFr, Ai_sAl, Ai_sAr, Al_sFi, Al_sFl, Al_sFr, Al_sAi, Al_sAr, Ar_sFi, Ar_sFl, Ar_sFr, Ar_sAi, Ar_sAl, Fi_same, Fl_same, Fr_same, Ai_same, Al_same, Ar_same, Fi_otherf, Fl_otherf, Fr_otherf]
  refine ⟨(u3.trans u4 (by decide) (by simp)).trans (md_sAi (A := 35 :: 53 :: eA) (F := [130, 131, 132]) (by simp)) (fun _ q => q) (fun _ q => q), ?_⟩
  unfold MB
  simp only [Ai_same, Nat.zero_add, j2]
  refine ⟨?_, ?_, ?_, ?_, ?_, fun a ha => ?_⟩
  · rw [upd_n (by decide), upd_n (by decide), upd_s]; rfl
  · rw [upd_n (by decide), upd_s]; rfl
  · rw [upd_n (by decide), upd_n (by decide), upd_n (by decide)]; exact g3
  · rw [upd_n (by decide), upd_n (by decide), upd_n (by decide)]; exact g4
  · rw [upd_s]; rfl
  · rw [upd_n (by omega), upd_n (by omega), upd_n (by omega)]; exact g6 a ha
noncomputable def frF (n : Nat) (B : Bo) (a s : Nat) : Bool := !(anyb (fun e => !decide (e = a) && B.hang.testBit e && decide (B.snd e = s)) n 0)
theorem cm_isFree (x : M0 h m O) (y : MB h (m + 53) 0 O.nA B) (z : WB O B) (hs : s < O.nS) (ha : a < O.nA) : Ca (D + 2) 208 [.ref m, .int (ix s), .int (ix a)] h Q = Q (.inl (some (.int (bz (frF O.nA B a s))))) h := by
  have hm := x.mo
  have n1 := x.wo.nA
  have n2 := x.wo.nS
  have hh := z.lt x.wo
  have g0 := x.mr.nA
  obtain ⟨g1, g2, g3, g4, g5, g6⟩ := id y
  simp only [Nat.zero_add] at g1 g2 g3 g4 g5 g6
  have key : ∀ n j, j + n = O.nA → Ru (D + 1) 208 2 [.ref m, .int (ix s), .int (ix a), .int (ix j)] [] h Q = Q (.inl (some (.int (bz (!(anyb (fun e => !decide (e = a) && B.hang.testBit e && decide (B.snd e = s)) n j)))))) h := by
    intro n
    induction n with
    | zero =>
      intro j hj
      have e : ¬ j < O.nA := by omega
      simp (disch := first | assumption | omega | decide | rfl) only [w_X9_isFree_2, w_X9_isFree_3, w_X9_isFree_4, w_X9_isFree_7, w_X9_isFree_8, w_X9_isFree_9, w_X9_isFree_45, w_X9_isFree_46, mo_0 hm, mo_orchard hm, mt_orchard hm, ml_orchard hm, mo_s hm, mt_s hm, ml_s hm, nl_int, nl_ref, nl_null, nl_un, nl_rf, nl_long, isR_ref, isR_null, isR_rf, rf_some, rf_none, rOf_ref, rOf_null, rOf_rf, kn_v, kn_0, true_and, and_true, and_self, tin, inA_x, inA_l, ix_add, ix_addl, ix_ladd, ix_mul, ix_mull, ix_lmul, ix_tn, lt_tn, Nat.reduceLeDiff, Nat.reduceLT, Nat.reduceAdd, Nat.reduceMul, true_or, or_true, ↓reduceIte, aOk, ref_null, null_null, false_or, Option.isSome_some, Option.getD_some, ite_true, ite_false, eq_self, not_false_eq_true, not_true_eq_false, Nat.mul_zero, g0, ix_lt, e]
      rfl
    | succ n ih =>
      intro j hj
      have e : j < O.nA := by omega
      have b1 := z.snd j e
      have g6j := g6 j e
      have nxt : Ru (D + 1) 208 39 [.ref m, .int (ix s), .int (ix a), .int (ix j)] [] h Q = Q (.inl (some (.int (bz (!(anyb (fun e => !decide (e = a) && B.hang.testBit e && decide (B.snd e = s)) n (j + 1))))))) h := by
        simp (disch := first | assumption | omega | decide | rfl) only [w_X9_isFree_39, w_X9_isFree_42, nl_int, nl_ref, nl_null, nl_un, nl_rf, nl_long, isR_ref, isR_null, isR_rf, rf_some, rf_none, rOf_ref, rOf_null, rOf_rf, kn_v, kn_0, true_and, and_true, and_self, tin, inA_x, inA_l, ix_add, ix_addl, ix_ladd, ix_mul, ix_mull, ix_lmul, ix_tn, lt_tn, Nat.reduceLeDiff, Nat.reduceLT, Nat.reduceAdd, Nat.reduceMul, true_or, or_true, ↓reduceIte, aOk, ref_null, null_null, false_or, Option.isSome_some, Option.getD_some, ite_true, ite_false, eq_self, not_false_eq_true, not_true_eq_false]
        exact ih (j + 1) (by omega)
      rw [w_X9_isFree_2, anyb]
      by_cases q1 : j = a
      · have e1 : (ix j = ix a) = True := by rw [ix_eq (by omega) (by omega)]; exact eq_true q1
        simp (disch := first | assumption | omega | decide | rfl) only [w_X9_isFree_3, w_X9_isFree_4, w_X9_isFree_7, w_X9_isFree_8, w_X9_isFree_9, w_X9_isFree_12, w_X9_isFree_13, w_X9_isFree_14, mo_0 hm, mo_orchard hm, mt_orchard hm, ml_orchard hm, mo_s hm, mt_s hm, ml_s hm, nl_int, nl_ref, nl_null, nl_un, nl_rf, nl_long, isR_ref, isR_null, isR_rf, rf_some, rf_none, rOf_ref, rOf_null, rOf_rf, kn_v, kn_0, true_and, and_true, and_self, tin, inA_x, inA_l, ix_add, ix_addl, ix_ladd, ix_mul, ix_mull, ix_lmul, ix_tn, lt_tn, Nat.reduceLeDiff, Nat.reduceLT, Nat.reduceAdd, Nat.reduceMul, true_or, or_true, ↓reduceIte, aOk, ref_null, null_null, false_or, Option.isSome_some, Option.getD_some, ite_true, ite_false, eq_self, not_false_eq_true, not_true_eq_false, Nat.mul_zero, g0, ix_lt, e, e1]
        rw [nxt]
        simp [q1]
      · have e1 : (ix j = ix a) = False := by rw [ix_eq (by omega) (by omega)]; exact eq_false q1
        simp (disch := first | assumption | omega | decide | rfl) only [w_X9_isFree_3, w_X9_isFree_4, w_X9_isFree_7, w_X9_isFree_8, w_X9_isFree_9, w_X9_isFree_12, w_X9_isFree_13, w_X9_isFree_14, w_X9_isFree_17, w_X9_isFree_18, w_X9_isFree_19, mo_0 hm, mo_orchard hm, mt_orchard hm, ml_orchard hm, mo_s hm, mt_s hm, ml_s hm, nl_int, nl_ref, nl_null, nl_un, nl_rf, nl_long, isR_ref, isR_null, isR_rf, rf_some, rf_none, rOf_ref, rOf_null, rOf_rf, kn_v, kn_0, true_and, and_true, and_self, tin, inA_x, inA_l, ix_add, ix_addl, ix_ladd, ix_mul, ix_mull, ix_lmul, ix_tn, lt_tn, Nat.reduceLeDiff, Nat.reduceLT, Nat.reduceAdd, Nat.reduceMul, true_or, or_true, ↓reduceIte, aOk, ref_null, null_null, false_or, Option.isSome_some, Option.getD_some, ite_true, ite_false, eq_self, not_false_eq_true, not_true_eq_false, Nat.mul_zero, g0, ix_lt, e, e1]
        rw [cm_hangs hm g1 hh (by omega), kn_v]
        by_cases q2 : B.hang.testBit j = true
        · have e2 : (bz (B.hang.testBit j) = 0) = False := by rw [bz_ne]; exact eq_false (by rw [q2]; decide)
          by_cases q3 : B.snd j = s
          · have e3 : (ix (B.snd j) = ix s) = True := by rw [q3]; exact eq_true rfl
            simp (disch := first | assumption | omega | decide | rfl) only [w_X9_isFree_22, w_X9_isFree_25, w_X9_isFree_26, w_X9_isFree_29, w_X9_isFree_30, w_X9_isFree_31, w_X9_isFree_32, w_X9_isFree_33, w_X9_isFree_34, w_X9_isFree_37, w_X9_isFree_38, mo_0 hm, mo_orchard hm, mt_orchard hm, ml_orchard hm, mo_s hm, mt_s hm, ml_s hm, nl_int, nl_ref, nl_null, nl_un, nl_rf, nl_long, isR_ref, isR_null, isR_rf, rf_some, rf_none, rOf_ref, rOf_null, rOf_rf, kn_v, kn_0, true_and, and_true, and_self, tin, inA_x, inA_l, ix_add, ix_addl, ix_ladd, ix_mul, ix_mull, ix_lmul, ix_tn, lt_tn, Nat.reduceLeDiff, Nat.reduceLT, Nat.reduceAdd, Nat.reduceMul, true_or, or_true, ↓reduceIte, aOk, ref_null, null_null, false_or, Option.isSome_some, Option.getD_some, ite_true, ite_false, eq_self, not_false_eq_true, not_true_eq_false, e2, e3, g6j]
            simp [q1, q2, q3, bz]
          · have e3 : (ix (B.snd j) = ix s) = False := by rw [ix_eq (by omega) (by omega)]; exact eq_false q3
            simp (disch := first | assumption | omega | decide | rfl) only [w_X9_isFree_22, w_X9_isFree_25, w_X9_isFree_26, w_X9_isFree_29, w_X9_isFree_30, w_X9_isFree_31, w_X9_isFree_32, w_X9_isFree_33, w_X9_isFree_34, mo_0 hm, mo_orchard hm, mt_orchard hm, ml_orchard hm, mo_s hm, mt_s hm, ml_s hm, nl_int, nl_ref, nl_null, nl_un, nl_rf, nl_long, isR_ref, isR_null, isR_rf, rf_some, rf_none, rOf_ref, rOf_null, rOf_rf, kn_v, kn_0, true_and, and_true, and_self, tin, inA_x, inA_l, ix_add, ix_addl, ix_ladd, ix_mul, ix_mull, ix_lmul, ix_tn, lt_tn, Nat.reduceLeDiff, Nat.reduceLT, Nat.reduceAdd, Nat.reduceMul, true_or, or_true, ↓reduceIte, aOk, ref_null, null_null, false_or, Option.isSome_some, Option.getD_some, ite_true, ite_false, eq_self, not_false_eq_true, not_true_eq_false, e2, e3, g6j]
            rw [nxt]
            simp [q3]
        · have e2 : (bz (B.hang.testBit j) = 0) = True := by rw [bz_ne]; exact eq_true (by simpa using q2)
          simp (disch := first | assumption | omega | decide | rfl) only [w_X9_isFree_22, nl_int, nl_ref, nl_null, nl_un, nl_rf, nl_long, isR_ref, isR_null, isR_rf, rf_some, rf_none, rOf_ref, rOf_null, rOf_rf, kn_v, kn_0, true_and, and_true, and_self, tin, inA_x, inA_l, ix_add, ix_addl, ix_ladd, ix_mul, ix_mull, ix_lmul, ix_tn, lt_tn, Nat.reduceLeDiff, Nat.reduceLT, Nat.reduceAdd, Nat.reduceMul, true_or, or_true, ↓reduceIte, aOk, ref_null, null_null, false_or, Option.isSome_some, Option.getD_some, ite_true, ite_false, eq_self, not_false_eq_true, not_true_eq_false, e2]
          rw [nxt]
          simp [q2]
  rw [e_X9_isFree]
  simp (disch := first | assumption | omega | decide | rfl) only [w_X9_isFree_0, w_X9_isFree_1, nl_int, nl_ref, nl_null, nl_un, nl_rf, nl_long, isR_ref, isR_null, isR_rf, rf_some, rf_none, rOf_ref, rOf_null, rOf_rf, kn_v, kn_0, true_and, and_true, and_self, tin, inA_x, inA_l, ix_add, ix_addl, ix_ladd, ix_mul, ix_mull, ix_lmul, ix_tn, lt_tn, Nat.reduceLeDiff, Nat.reduceLT, Nat.reduceAdd, Nat.reduceMul, true_or, or_true, ↓reduceIte, aOk, ref_null, null_null, false_or, Option.isSome_some, Option.getD_some, ite_true, ite_false, eq_self, not_false_eq_true, not_true_eq_false]
  exact key O.nA 0 (by omega)
noncomputable def grF (O : Oc) (S : Nat) (day : Int32) : Int32 := su S (fun a => if day < ix (O.rp a) then 1 else 0) O.nA
theorem cm_greenOf {S : Nat} (x : M0 h m O) (y : MB h (m + 53) 0 O.nA B) (hS : S < 1024) : Ca (D + 1) 214 [.ref m, .int (ix S)] h Q = Q (.inl (some (.int (grF O S B.day)))) h := by
  have hm := x.mo
  have n1 := x.wo.nA
  have g0 := x.mr.nA
  have g3 := y.day
  simp only [Nat.zero_add] at g3
  have key : ∀ n j, j + n = O.nA → Ru D 214 4 [.ref m, .int (ix S), .int (su S (fun a => if B.day < ix (O.rp a) then 1 else 0) j), .int (ix j)] [] h Q = Q (.inl (some (.int (grF O S B.day)))) h := by
    intro n
    induction n with
    | zero =>
      intro j hj
      have ej : j = O.nA := by omega
      subst ej
      have e : ¬ O.nA < O.nA := by omega
      simp (disch := first | assumption | omega | decide | rfl) only [w_X9_greenOf_4, w_X9_greenOf_5, w_X9_greenOf_6, w_X9_greenOf_9, w_X9_greenOf_10, w_X9_greenOf_11, w_X9_greenOf_52, w_X9_greenOf_53, mo_0 hm, mo_orchard hm, mt_orchard hm, ml_orchard hm, mo_s hm, mt_s hm, ml_s hm, mo_ripe hm, mt_ripe hm, ml_ripe hm, nl_int, nl_ref, nl_null, nl_un, nl_rf, nl_long, isR_ref, isR_null, isR_rf, rf_some, rf_none, rOf_ref, rOf_null, rOf_rf, kn_v, kn_0, true_and, and_true, and_self, tin, inA_x, inA_l, ix_add, ix_addl, ix_ladd, ix_mul, ix_mull, ix_lmul, ix_tn, lt_tn, Nat.reduceLeDiff, Nat.reduceLT, Nat.reduceAdd, Nat.reduceMul, true_or, or_true, ↓reduceIte, aOk, ref_null, null_null, false_or, Option.isSome_some, Option.getD_some, ite_true, ite_false, eq_self, not_false_eq_true, not_true_eq_false, Nat.mul_zero, g0, ix_lt, e]
      rfl
    | succ n ih =>
      intro j hj
      have e : j < O.nA := by omega
      have g1 := x.mr.rp j e
      rw [Nat.mul_zero, Nat.zero_add] at g1
      have hb := has_b (n := S) (k := j) (by omega) (by omega)
      have nx := ih (j + 1) (by omega)
      rw [su] at nx
      rw [w_X9_greenOf_4]
      by_cases q : S.testBit j = true
      · have hb : (ix S >>> (ix j &&& 31) &&& 1 = 1) = True := by rw [hb]; exact eq_true q
        rw [if_pos q] at nx
        simp (disch := first | assumption | omega | decide | rfl) only [w_X9_greenOf_5, w_X9_greenOf_6, w_X9_greenOf_9, w_X9_greenOf_10, w_X9_greenOf_11, w_X9_greenOf_14, w_X9_greenOf_15, w_X9_greenOf_16, w_X9_greenOf_17, w_X9_greenOf_18, w_X9_greenOf_19, w_X9_greenOf_20, w_X9_greenOf_21, w_X9_greenOf_24, w_X9_greenOf_25, w_X9_greenOf_28, w_X9_greenOf_29, w_X9_greenOf_30, w_X9_greenOf_31, w_X9_greenOf_34, w_X9_greenOf_35, w_X9_greenOf_36, w_X9_greenOf_39, w_X9_greenOf_40, w_X9_greenOf_43, mo_0 hm, mo_orchard hm, mt_orchard hm, ml_orchard hm, mo_s hm, mt_s hm, ml_s hm, mo_ripe hm, mt_ripe hm, ml_ripe hm, nl_int, nl_ref, nl_null, nl_un, nl_rf, nl_long, isR_ref, isR_null, isR_rf, rf_some, rf_none, rOf_ref, rOf_null, rOf_rf, kn_v, kn_0, true_and, and_true, and_self, tin, inA_x, inA_l, ix_add, ix_addl, ix_ladd, ix_mul, ix_mull, ix_lmul, ix_tn, lt_tn, Nat.reduceLeDiff, Nat.reduceLT, Nat.reduceAdd, Nat.reduceMul, true_or, or_true, ↓reduceIte, aOk, ref_null, null_null, false_or, Option.isSome_some, Option.getD_some, ite_true, ite_false, eq_self, not_false_eq_true, not_true_eq_false, Nat.mul_zero, g0, g1, g3, ix_lt, e, hb, ru_join, ite_cons, ite_int, ite_self]
        simp (disch := first | assumption | omega | decide | rfl) only [w_X9_greenOf_44, w_X9_greenOf_45, w_X9_greenOf_46, w_X9_greenOf_49, nl_int, nl_ref, nl_null, nl_un, nl_rf, nl_long, isR_ref, isR_null, isR_rf, rf_some, rf_none, rOf_ref, rOf_null, rOf_rf, kn_v, kn_0, true_and, and_true, and_self, tin, inA_x, inA_l, ix_add, ix_addl, ix_ladd, ix_mul, ix_mull, ix_lmul, ix_tn, lt_tn, Nat.reduceLeDiff, Nat.reduceLT, Nat.reduceAdd, Nat.reduceMul, true_or, or_true, ↓reduceIte, aOk, ref_null, null_null, false_or, Option.isSome_some, Option.getD_some, ite_true, ite_false, eq_self, not_false_eq_true, not_true_eq_false]
        exact nx
      · have hb : (ix S >>> (ix j &&& 31) &&& 1 = 1) = False := by rw [hb]; exact eq_false q
        rw [if_neg q] at nx
        simp (disch := first | assumption | omega | decide | rfl) only [w_X9_greenOf_5, w_X9_greenOf_6, w_X9_greenOf_9, w_X9_greenOf_10, w_X9_greenOf_11, w_X9_greenOf_14, w_X9_greenOf_15, w_X9_greenOf_16, w_X9_greenOf_17, w_X9_greenOf_18, w_X9_greenOf_19, w_X9_greenOf_20, w_X9_greenOf_21, w_X9_greenOf_24, w_X9_greenOf_25, w_X9_greenOf_28, w_X9_greenOf_29, w_X9_greenOf_30, w_X9_greenOf_31, w_X9_greenOf_34, w_X9_greenOf_35, w_X9_greenOf_36, w_X9_greenOf_39, w_X9_greenOf_40, w_X9_greenOf_43, w_X9_greenOf_44, w_X9_greenOf_45, w_X9_greenOf_46, w_X9_greenOf_49, mo_0 hm, mo_orchard hm, mt_orchard hm, ml_orchard hm, mo_s hm, mt_s hm, ml_s hm, mo_ripe hm, mt_ripe hm, ml_ripe hm, nl_int, nl_ref, nl_null, nl_un, nl_rf, nl_long, isR_ref, isR_null, isR_rf, rf_some, rf_none, rOf_ref, rOf_null, rOf_rf, kn_v, kn_0, true_and, and_true, and_self, tin, inA_x, inA_l, ix_add, ix_addl, ix_ladd, ix_mul, ix_mull, ix_lmul, ix_tn, lt_tn, Nat.reduceLeDiff, Nat.reduceLT, Nat.reduceAdd, Nat.reduceMul, true_or, or_true, ↓reduceIte, aOk, ref_null, null_null, false_or, Option.isSome_some, Option.getD_some, ite_true, ite_false, eq_self, not_false_eq_true, not_true_eq_false, Nat.mul_zero, g0, ix_lt, e, hb]
        exact nx
  rw [e_X9_greenOf]
  simp (disch := first | assumption | omega | decide | rfl) only [w_X9_greenOf_0, w_X9_greenOf_1, w_X9_greenOf_2, w_X9_greenOf_3, nl_int, nl_ref, nl_null, nl_un, nl_rf, nl_long, isR_ref, isR_null, isR_rf, rf_some, rf_none, rOf_ref, rOf_null, rOf_rf, kn_v, kn_0, true_and, and_true, and_self, tin, inA_x, inA_l, ix_add, ix_addl, ix_ladd, ix_mul, ix_mull, ix_lmul, ix_tn, lt_tn, Nat.reduceLeDiff, Nat.reduceLT, Nat.reduceAdd, Nat.reduceMul, true_or, or_true, ↓reduceIte, aOk, ref_null, null_null, false_or, Option.isSome_some, Option.getD_some, ite_true, ite_false, eq_self, not_false_eq_true, not_true_eq_false]
  exact key O.nA 0 (by omega)
end
