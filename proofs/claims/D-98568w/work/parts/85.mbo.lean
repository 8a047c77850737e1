/-! THE MODEL: its boughs -/
set_option maxRecDepth 100000
section
variable {d D m a b c p q s w lane loud hang loose e n k i : Nat} {h h' : AH} {Q : Rs → AH → Prop} {O : Oc} {B : Bo} {snd : Nat → Nat} {day : Int32} {A F : List Nat}
theorem MB.md (x : MB h (m + k) i n B) (u : Md m A F h h') (hk : k ∉ A) : MB h' (m + k) i n B := by
  unfold MB
  rw [u.ai hk]
  exact x
noncomputable def cpF (G : Nat → Int32) (a : Nat) (H : Nat → Int32) (b n : Nat) : Nat → Int32 := fun k => if b ≤ k ∧ k < b + n then G (a + (k - b)) else H k
theorem cpF_0 {G H : Nat → Int32} : cpF G a H b 0 = H := by funext z; unfold cpF; rw [if_neg (by omega)]
theorem cpF_s {G H : Nat → Int32} : upd (cpF G a H b n) (b + n) (G (a + n)) = cpF G a H b (n + 1) := by
  funext z
  unfold upd cpF
  by_cases q : z = b + n
  · subst q
    rw [if_pos rfl, if_pos (by omega), show a + (b + n - b) = a + n by omega]
  · rw [if_neg q]
    by_cases q2 : b ≤ z ∧ z < b + n
    · rw [if_pos q2, if_pos (by omega)]
    · rw [if_neg q2, if_neg (by omega)]
theorem cpF_in {G H : Nat → Int32} {j : Nat} (hj : j < n) : cpF G a H b n (b + j) = G (a + j) := by
  unfold cpF
  rw [if_pos (by omega), show b + j - b = j by omega]
theorem cpF_out {G H : Nat → Int32} {j : Nat} (hj : j < b ∨ b + n ≤ j) : cpF G a H b n j = H j := by
  unfold cpF
  rw [if_neg (by omega)]
theorem cm_copies (hpq : p ≠ q) (tp : 1000 ≤ Tg h p ∧ Tg h p < 1900) (tq : 1000 ≤ Tg h q ∧ Tg h q < 1900) (lp : a + 15 ≤ An h p) (lq : b + 15 ≤ An h q) (bp : An h p ≤ 100000) (bq : An h q ≤ 100000) : Ca (D + 1) 200 [.ref p, .int (ix a), .ref q, .int (ix b)] h Q = Q (.inl none) (sAi h q (cpF (Ai h p) a (Ai h q) b 15)) := by
  have t1 := tp.1
  have t2 : Tg h p < 2000 := by omega
  have t3 := tq.1
  have t4 := tq.2
  have key : ∀ n j, j + n = 15 → Ru D 200 3 [.ref p, .int (ix a), .ref q, .int (ix b), .int (ix j)] [] (sAi h q (cpF (Ai h p) a (Ai h q) b j)) Q = Q (.inl none) (sAi h q (cpF (Ai h p) a (Ai h q) b 15)) := by
    intro n
    induction n with
    | zero =>
      intro j hj
      have ej : j = 15 := by omega
      subst ej
      have e : (ix 15 < 15) = False := eq_false (by decide)
      simp (disch := first | assumption | omega | decide | rfl) only [w_X9_copies_3, w_X9_copies_5, w_X9_copies_7, w_X9_copies_28, nl_int, nl_ref, nl_null, nl_un, nl_rf, nl_long, isR_ref, isR_null, isR_rf, rf_some, rf_none, rOf_ref, rOf_null, rOf_rf, kn_v, kn_0, true_and, and_true, and_self, tin, inA_x, inA_l, ix_add, ix_addl, ix_ladd, ix_mul, ix_mull, ix_lmul, ix_tn, lt_tn, Nat.reduceLeDiff, Nat.reduceLT, Nat.reduceAdd, Nat.reduceMul, true_or, or_true, ↓reduceIte, aOk, ref_null, null_null, false_or, Option.isSome_some, Option.getD_some, ite_true, ite_false, eq_self, not_false_eq_true, not_true_eq_false, e]
    | succ n ih =>
      intro j hj
      have e : (ix j < 15) = True := by rw [ix_ltl (n := 15) (by omega) (by decide)]; exact eq_true (by omega)
      rw [w_X9_copies_3]
      simp (disch := first | assumption | omega | decide | rfl) only [w_X9_copies_5, w_X9_copies_7, w_X9_copies_10, w_X9_copies_11, w_X9_copies_12, w_X9_copies_14, w_X9_copies_15, w_X9_copies_16, w_X9_copies_17, w_X9_copies_19, w_X9_copies_20, w_X9_copies_21, w_X9_copies_22, w_X9_copies_25, nl_int, nl_ref, nl_null, nl_un, nl_rf, nl_long, isR_ref, isR_null, isR_rf, rf_some, rf_none, rOf_ref, rOf_null, rOf_rf, kn_v, kn_0, true_and, and_true, and_self, tin, inA_x, inA_l, ix_add, ix_addl, ix_ladd, ix_mul, ix_mull, ix_lmul, ix_tn, lt_tn, Nat.reduceLeDiff, Nat.reduceLT, Nat.reduceAdd, Nat.reduceMul, true_or, or_true, ↓reduceIte, aOk, ref_null, null_null, false_or, Option.isSome_some, Option.getD_some, ite_true, ite_false, eq_self, not_false_eq_true, not_true_eq_false, Tg_sFi, Tg_sFl, Tg_sFr, Tg_sAi, Tg_sAl, Tg_sAr, An_sFi, An_sFl, An_sFr, An_sAi, An_sAl, An_sAr, Fi_sFl, Fi_sFr, Fi_sAi, Fi_sAl, Fi_sAr, Fl_sFi, Fl_sFr, Fl_sAi, Fl_sAl, Fl_sAr, Fr_sFi, Fr_sFl, Fr_sAi, Fr_sAl, Fr_sAr, Ai_sFi, Ai_sFl, Ai_sFr, Ai_sAl, Ai_sAr, Al_sFi, Al_sFl, Al_sFr, Al_sAi, Al_sAr, Ar_sFi, Ar_sFl, Ar_sFr, Ar_sAi, Ar_sAl, Fi_same, Fl_same, Fr_same, Ai_same, Al_same, Ar_same, Fi_otherf, Fl_otherf, Fr_otherf, Ai_other, e, t1, t2, t3, t4, sAi_sAi, cpF_s]
      exact ih (j + 1) (by omega)
  have := key 15 0 (by omega)
  rw [cpF_0, sAi_self] at this
  rw [e_X9_copies nl_ref nl_ref]
  simp (disch := first | assumption | omega | decide | rfl) only [w_X9_copies_0, w_X9_copies_1, nl_int, nl_ref, nl_null, nl_un, nl_rf, nl_long, isR_ref, isR_null, isR_rf, rf_some, rf_none, rOf_ref, rOf_null, rOf_rf, kn_v, kn_0, true_and, and_true, and_self, tin, inA_x, inA_l, ix_add, ix_addl, ix_ladd, ix_mul, ix_mull, ix_lmul, ix_tn, lt_tn, Nat.reduceLeDiff, Nat.reduceLT, Nat.reduceAdd, Nat.reduceMul, true_or, or_true, ↓reduceIte, aOk, ref_null, null_null, false_or, Option.isSome_some, Option.getD_some, ite_true, ite_false, eq_self, not_false_eq_true, not_true_eq_false]
  exact this
theorem cm_hangs (hm : MO h m) (hb : Ai h (m + 53) 0 = ix hang) (hh : hang < 1024) (ha : a < 10) : Ca (D + 1) 205 [.ref m, .int (ix a)] h Q = Q (.inl (some (.int (bz (hang.testBit a))))) h := by
  have e1 := has_b (n := hang) (k := a) (by omega) (by omega)
  rw [e_X9_hangs]
  simp (disch := first | assumption | omega | decide | rfl) only [w_X9_hangs_0, w_X9_hangs_1, w_X9_hangs_4, w_X9_hangs_5, w_X9_hangs_6, w_X9_hangs_7, w_X9_hangs_8, w_X9_hangs_9, w_X9_hangs_10, w_X9_hangs_11, w_X9_hangs_14, w_X9_hangs_15, w_X9_hangs_18, mo_0 hm, mo_s hm, mt_s hm, ml_s hm, nl_int, nl_ref, nl_null, nl_un, nl_rf, nl_long, isR_ref, isR_null, isR_rf, rf_some, rf_none, rOf_ref, rOf_null, rOf_rf, kn_v, kn_0, true_and, and_true, and_self, tin, inA_x, inA_l, ix_add, ix_addl, ix_ladd, ix_mul, ix_mull, ix_lmul, ix_tn, lt_tn, Nat.reduceLeDiff, Nat.reduceLT, Nat.reduceAdd, Nat.reduceMul, true_or, or_true, ↓reduceIte, aOk, ref_null, null_null, false_or, Option.isSome_some, Option.getD_some, ite_true, ite_false, eq_self, not_false_eq_true, not_true_eq_false, hb, e1, ru_join, ite_cons, ite_int, ite_self]
  simp (disch := first | assumption | omega | decide | rfl) only [w_X9_hangs_19, nl_int, nl_ref, nl_null, nl_un, nl_rf, nl_long, isR_ref, isR_null, isR_rf, rf_some, rf_none, rOf_ref, rOf_null, rOf_rf, kn_v, kn_0, true_and, and_true, and_self, tin, inA_x, inA_l, ix_add, ix_addl, ix_ladd, ix_mul, ix_mull, ix_lmul, ix_tn, lt_tn, Nat.reduceLeDiff, Nat.reduceLT, Nat.reduceAdd, Nat.reduceMul, true_or, or_true, ↓reduceIte, aOk, ref_null, null_null, false_or, Option.isSome_some, Option.getD_some, ite_true, ite_false, eq_self, not_false_eq_true, not_true_eq_false, fot, bz_ne, bz_1, ite_bz, Bool.not_eq_false, Bool.not_eq_true, Bool.decide_eq_true]
theorem cm_canPick (hm : MO h m) (x : MB h (m + 53) 0 n B) (hh : B.hang < 1024) (ha : a < 10) : Ca (D + 2) 204 [.ref m, .int (ix a)] h Q = Q (.inl (some (.int (bz (B.hang.testBit a && !B.pk))))) h := by
  have g1 := x.hang
  have g2 := x.pk
  rw [Nat.zero_add] at g2
  rw [e_X9_canPick]
  simp (disch := first | assumption | omega | decide | rfl) only [w_X9_canPick_0, w_X9_canPick_1, w_X9_canPick_2, cm_hangs hm g1 hh ha, nl_int, nl_ref, nl_null, nl_un, nl_rf, nl_long, isR_ref, isR_null, isR_rf, rf_some, rf_none, rOf_ref, rOf_null, rOf_rf, kn_v, kn_0, true_and, and_true, and_self, tin, inA_x, inA_l, ix_add, ix_addl, ix_ladd, ix_mul, ix_mull, ix_lmul, ix_tn, lt_tn, Nat.reduceLeDiff, Nat.reduceLT, Nat.reduceAdd, Nat.reduceMul, true_or, or_true, ↓reduceIte, aOk, ref_null, null_null, false_or, Option.isSome_some, Option.getD_some, ite_true, ite_false, eq_self, not_false_eq_true, not_true_eq_false]
  cases B.hang.testBit a <;> cases e : B.pk <;> simp (disch := first | assumption | omega | decide | rfl) only [w_X9_canPick_5, w_X9_canPick_8, w_X9_canPick_9, w_X9_canPick_12, w_X9_canPick_13, w_X9_canPick_14, w_X9_canPick_17, w_X9_canPick_18, w_X9_canPick_21, w_X9_canPick_22, mo_0 hm, mo_s hm, mt_s hm, ml_s hm, nl_int, nl_ref, nl_null, nl_un, nl_rf, nl_long, isR_ref, isR_null, isR_rf, rf_some, rf_none, rOf_ref, rOf_null, rOf_rf, kn_v, kn_0, true_and, and_true, and_self, tin, inA_x, inA_l, ix_add, ix_addl, ix_ladd, ix_mul, ix_mull, ix_lmul, ix_tn, lt_tn, Nat.reduceLeDiff, Nat.reduceLT, Nat.reduceAdd, Nat.reduceMul, true_or, or_true, ↓reduceIte, aOk, ref_null, null_null, false_or, Option.isSome_some, Option.getD_some, ite_true, ite_false, eq_self, not_false_eq_true, not_true_eq_false, g2, e, bz, Bool.false_and, Bool.true_and, Bool.not_true, Bool.not_false, Bool.false_eq_true, show ((1 : Int32) = 0) = False from by decide]
noncomputable def paF (B : Bo) : Bo := (B.hang, B.loose, B.snd, B.day + 1, B.had, false)
theorem cm_passes (hm : MO h m) (x : MB h (m + 53) 0 n B) : Ca (D + 1) 210 [.ref m] h (fun r h' => r = .inl none ∧ Md m [53] [] h h' ∧ MB h' (m + 53) 0 n (paF B)) := by
  obtain ⟨g1, g2, g3, g4, g5, g6⟩ := x
  simp only [Nat.zero_add] at g1 g2 g3 g4 g5 g6
  rw [e_X9_passes]
  simp (disch := first | assumption | omega | decide | rfl) only [w_X9_passes_0, w_X9_passes_1, w_X9_passes_4, w_X9_passes_5, w_X9_passes_6, w_X9_passes_7, w_X9_passes_8, w_X9_passes_9, w_X9_passes_10, w_X9_passes_11, w_X9_passes_14, w_X9_passes_15, w_X9_passes_16, w_X9_passes_17, mo_0 hm, mo_s hm, mt_s hm, ml_s hm, nl_int, nl_ref, nl_null, nl_un, nl_rf, nl_long, isR_ref, isR_null, isR_rf, rf_some, rf_none, rOf_ref, rOf_null, rOf_rf, kn_v, kn_0, true_and, and_true, and_self, tin, inA_x, inA_l, ix_add, ix_addl, ix_ladd, ix_mul, ix_mull, ix_lmul, ix_tn, lt_tn, Nat.reduceLeDiff, Nat.reduceLT, Nat.reduceAdd, Nat.reduceMul, true_or, or_true, ↓reduceIte, aOk, ref_null, null_null, false_or, Option.isSome_some, Option.getD_some, ite_true, ite_false, eq_self, not_false_eq_true, not_true_eq_false, Tg_sFi, Tg_sFl, Tg_sFr, Tg_sAi, Tg_sAl, Tg_sAr, An_sFi, An_sFl, An_sFr, An_sAi, An_sAl, An_sAr, Fi_sFl, Fi_sFr, Fi_sAi, Fi_sAl, Fi_sAr, Fl_sFi, Fl_sFr, Fl_sAi, Fl_sAl, Fl_sAr, Fr_sFi, Fr_sFl, Fr_sAi, Fr_sAl, Fr_sAr, Ai_sFi, Ai_sFl, Ai_sFr, Ai_sAl, Ai_sAr, Al_sFi, Al_sFl, Al_sFr, Al_sAi, Al_sAr, Ar_sFi, Ar_sFl, Ar_sFr, Ar_sAi, Ar_sAl, Fi_same, Fl_same, Fr_same, Ai_same, Al_same, Ar_same, Fi_otherf, Fl_otherf, Fr_otherf, g3, sAi_sAi]
  refine ⟨md_sAi (by simp), ?_⟩
  unfold MB
  simp only [Ai_same, Nat.zero_add]
  refine ⟨?_, ?_, ?_, ?_, ?_, fun a ha => ?_⟩
  · rw [upd_n (by decide), upd_n (by decide)]; exact g1
  · rw [upd_n (by decide), upd_n (by decide)]; exact g2
  · rw [upd_n (by decide), upd_s]; rfl
  · rw [upd_s]; rfl
  · rw [upd_n (by decide), upd_n (by decide)]; exact g5
  · rw [upd_n (by omega), upd_n (by omega)]; exact g6 a ha
noncomputable def piF (O : Oc) (B : Bo) (a : Nat) : Bo := (sd B.hang (2 ^ a), sd B.loose (2 ^ a), B.snd, B.day, B.had + vaF O a B.day, true)
theorem cm_picks (x : M0 h m O) (y : MB h (m + 53) 0 O.nA B) (ha : a < O.nA) : Ca (D + 6) 206 [.ref m, .int (ix a)] h (fun r h' => r = .inl (some (.int (vaF O a B.day))) ∧ Md m (35 :: 53 :: eA) [] h h' ∧ MB h' (m + 53) 0 O.nA (piF O B a)) := by
  have hm := x.mo
  have n1 := x.wo.nA
  have g3 := y.day
  rw [Nat.zero_add] at g3
  rw [e_X9_picks]
  simp (disch := first | assumption | omega | decide | rfl) only [w_X9_picks_0, w_X9_picks_1, w_X9_picks_2, w_X9_picks_3, w_X9_picks_6, w_X9_picks_7, w_X9_picks_8, mo_0 hm, mo_s hm, mt_s hm, ml_s hm, nl_int, nl_ref, nl_null, nl_un, nl_rf, nl_long, isR_ref, isR_null, isR_rf, rf_some, rf_none, rOf_ref, rOf_null, rOf_rf, kn_v, kn_0, true_and, and_true, and_self, tin, inA_x, inA_l, ix_add, ix_addl, ix_ladd, ix_mul, ix_mull, ix_lmul, ix_tn, lt_tn, Nat.reduceLeDiff, Nat.reduceLT, Nat.reduceAdd, Nat.reduceMul, true_or, or_true, ↓reduceIte, aOk, ref_null, null_null, false_or, Option.isSome_some, Option.getD_some, ite_true, ite_false, eq_self, not_false_eq_true, not_true_eq_false, g3]
  refine ca_mono (cm_valueOn x ha) ?_
  rintro r h1 ⟨rfl, u⟩
  have hm1 := u.mo hm
  obtain ⟨g1, g2, g3, g4, g5, g6⟩ := y.md u (by decide)
  simp only [Nat.zero_add] at g1 g2 g3 g4 g5 g6
  have e1 := ix_one (k := a) (by omega)
  have e2 : ∀ (G : Nat → Int32) (x y z : Int32), upd (upd (upd G 0 x) 1 y) 3 z 4 = G 4 := fun G x y z => by rw [upd_n (by decide), upd_n (by decide), upd_n (by decide)]
  have e3 : ∀ (G : Nat → Int32) (x : Int32), upd G 0 x 1 = G 1 := fun G x => upd_n (by decide)
  simp (disch := first | assumption | omega | decide | rfl) only [w_X9_picks_11, w_X9_picks_12, w_X9_picks_13, w_X9_picks_16, w_X9_picks_17, w_X9_picks_18, w_X9_picks_19, w_X9_picks_20, w_X9_picks_21, w_X9_picks_22, w_X9_picks_23, w_X9_picks_24, w_X9_picks_25, w_X9_picks_26, w_X9_picks_27, w_X9_picks_30, w_X9_picks_31, w_X9_picks_32, w_X9_picks_33, w_X9_picks_34, w_X9_picks_35, w_X9_picks_36, w_X9_picks_37, w_X9_picks_38, w_X9_picks_39, w_X9_picks_40, w_X9_picks_41, w_X9_picks_44, w_X9_picks_45, w_X9_picks_46, w_X9_picks_47, w_X9_picks_48, w_X9_picks_51, w_X9_picks_52, w_X9_picks_53, w_X9_picks_54, w_X9_picks_55, w_X9_picks_56, w_X9_picks_57, w_X9_picks_58, mo_0 hm1, mo_s hm1, mt_s hm1, ml_s hm1, nl_int, nl_ref, nl_null, nl_un, nl_rf, nl_long, isR_ref, isR_null, isR_rf, rf_some, rf_none, rOf_ref, rOf_null, rOf_rf, kn_v, kn_0, true_and, and_true, and_self, tin, inA_x, inA_l, ix_add, ix_addl, ix_ladd, ix_mul, ix_mull, ix_lmul, ix_tn, lt_tn, Nat.reduceLeDiff, Nat.reduceLT, Nat.reduceAdd, Nat.reduceMul, true_or, or_true, ↓reduceIte, aOk, ref_null, null_null, false_or, Option.isSome_some, Option.getD_some, ite_true, ite_false, eq_self, not_false_eq_true, not_true_eq_false, Tg_sFi, Tg_sFl, Tg_sFr, Tg_sAi, Tg_sAl, Tg_sAr, An_sFi, An_sFl, An_sFr, An_sAi, An_sAl, An_sAr, Fi_sFl, Fi_sFr, Fi_sAi, Fi_sAl, Fi_sAr, Fl_sFi, Fl_sFr, Fl_sAi, Fl_sAl, Fl_sAr, Fr_sFi, Fr_sFl, Fr_sAi, Fr_sAl, Fr_sAr, Ai_sFi, Ai_sFl, Ai_sFr, Ai_sAl, Ai_sAr, Al_sFi, Al_sFl, Al_sFr, Al_sAi, Al_sAr, Ar_sFi, Ar_sFl, Ar_sFr, Ar_sAi, Ar_sAl, Fi_same, Fl_same, Fr_same, Ai_same, Al_same, Ar_same, Fi_otherf, Fl_otherf, Fr_otherf, g1, g2, g5, e1, e2, e3, ix_sd, sAi_sAi]
  refine ⟨(u.mono (by decide) (fun _ q => q)).trans (md_sAi (A := 35 :: 53 :: eA) (F := []) (by simp)) (fun _ q => q) (fun _ q => q), ?_⟩
  unfold MB
  simp only [Ai_same, Nat.zero_add]
  refine ⟨?_, ?_, ?_, ?_, ?_, fun a ha => ?_⟩
  · rw [upd_n (by decide), upd_n (by decide), upd_n (by decide), upd_s]; rfl
  · rw [upd_n (by decide), upd_n (by decide), upd_s]; rfl
  · rw [upd_n (by decide), upd_n (by decide), upd_n (by decide), upd_n (by decide)]; exact g3
  · rw [upd_n (by decide), upd_s]; rfl
  · rw [upd_s]; rfl
  · rw [upd_n (by omega), upd_n (by omega), upd_n (by omega), upd_n (by omega)]; exact g6 a ha
end
