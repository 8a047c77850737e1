/-! BOUGHS as objects: falls, walked -/
set_option maxRecDepth 100000
section
variable {lo hi d D o a b c f n p k t w s e lane loud S hang l x' : Nat} {h h' h1 h2 : AH} {A : Nat → Prop} {O : Oc} {B : Bo} {φ : Ph} {Q : Rs → AH → Prop} {day v : Int32} {F : Nat → Int32} {r : Option Nat}
theorem xb_hang (y : XB lo hi h b o n B) : XB lo hi (sFi h 26 b (ix x')) b o n (x', B.loose, B.snd, B.day, B.had, B.pk) := by
  obtain ⟨y1, y2, y3, y4, y5, y6, y7, y8, y9, y10, y11, y12⟩ := y
  exact ⟨y1, y2, y3, y4, y5, y6, Fi_same, (Fi_otherf (by decide)).trans y8, (Fi_otherf (by decide)).trans y9, (Fi_otherf (by decide)).trans y10, (Fi_otherf (by decide)).trans y11, y12⟩
theorem xb_loose (y : XB lo hi h b o n B) : XB lo hi (sFi h 27 b (ix x')) b o n (B.hang, x', B.snd, B.day, B.had, B.pk) := by
  obtain ⟨y1, y2, y3, y4, y5, y6, y7, y8, y9, y10, y11, y12⟩ := y
  exact ⟨y1, y2, y3, y4, y5, y6, (Fi_otherf (by decide)).trans y7, Fi_same, (Fi_otherf (by decide)).trans y9, (Fi_otherf (by decide)).trans y10, (Fi_otherf (by decide)).trans y11, y12⟩
theorem xb_day (y : XB lo hi h b o n B) : XB lo hi (sFi h 29 b v) b o n (B.hang, B.loose, B.snd, v, B.had, B.pk) := by
  obtain ⟨y1, y2, y3, y4, y5, y6, y7, y8, y9, y10, y11, y12⟩ := y
  exact ⟨y1, y2, y3, y4, y5, y6, (Fi_otherf (by decide)).trans y7, (Fi_otherf (by decide)).trans y8, Fi_same, (Fi_otherf (by decide)).trans y10, (Fi_otherf (by decide)).trans y11, y12⟩
theorem xb_had (y : XB lo hi h b o n B) : XB lo hi (sFi h 30 b v) b o n (B.hang, B.loose, B.snd, B.day, v, B.pk) := by
  obtain ⟨y1, y2, y3, y4, y5, y6, y7, y8, y9, y10, y11, y12⟩ := y
  exact ⟨y1, y2, y3, y4, y5, y6, (Fi_otherf (by decide)).trans y7, (Fi_otherf (by decide)).trans y8, (Fi_otherf (by decide)).trans y9, Fi_same, (Fi_otherf (by decide)).trans y11, y12⟩
theorem xb_pk {q : Bool} (y : XB lo hi h b o n B) : XB lo hi (sFi h 31 b (bz q)) b o n (B.hang, B.loose, B.snd, B.day, B.had, q) := by
  obtain ⟨y1, y2, y3, y4, y5, y6, y7, y8, y9, y10, y11, y12⟩ := y
  exact ⟨y1, y2, y3, y4, y5, y6, (Fi_otherf (by decide)).trans y7, (Fi_otherf (by decide)).trans y8, (Fi_otherf (by decide)).trans y9, (Fi_otherf (by decide)).trans y10, Fi_same, y12⟩
/-- of an apple: whether it falls, loose or not -/
theorem c_apf {lb : Bool} (hk : k < 4) (e : Tg h p = 12 + k) : ∃ z, lk [(12, 247), (13, 247), (14, 253), (15, 247)] (Tg h p) = some z ∧ Ca (d + 1) z [.ref p, .int (bz lb)] h Q = Q (.inl (some (.int (bz (if k = 2 then lb else true))))) h := by
  rcases (show k = 0 ∨ k = 1 ∨ k = 2 ∨ k = 3 by omega) with rfl | rfl | rfl | rfl
  · refine ⟨247, by rw [e]; rfl, ?_⟩
    rw [e_X11_falls]; simp (disch := first | assumption | omega | decide | rfl) only [w_X11_falls_0, w_X11_falls_1, nl_int, nl_ref, nl_null, nl_un, nl_rf, nl_long, isR_ref, isR_null, isR_rf, rf_some, rf_none, rOf_ref, rOf_null, rOf_rf, kn_v, kn_0, true_and, and_true, and_self, tin, inA_x, inA_l, ix_add, ix_addl, ix_ladd, ix_mul, ix_mull, ix_lmul, ix_tn, lt_tn, Nat.reduceLeDiff, Nat.reduceLT, Nat.reduceAdd, Nat.reduceMul, true_or, or_true, ↓reduceIte, aOk, ref_null, null_null, false_or, Option.isSome_some, Option.getD_some, ite_true, ite_false, eq_self, not_false_eq_true, not_true_eq_false, fot, bz_ne, bz_1, ite_bz, Bool.not_eq_false, Bool.not_eq_true]; rfl
  · refine ⟨247, by rw [e]; rfl, ?_⟩
    rw [e_X11_falls]; simp (disch := first | assumption | omega | decide | rfl) only [w_X11_falls_0, w_X11_falls_1, nl_int, nl_ref, nl_null, nl_un, nl_rf, nl_long, isR_ref, isR_null, isR_rf, rf_some, rf_none, rOf_ref, rOf_null, rOf_rf, kn_v, kn_0, true_and, and_true, and_self, tin, inA_x, inA_l, ix_add, ix_addl, ix_ladd, ix_mul, ix_mull, ix_lmul, ix_tn, lt_tn, Nat.reduceLeDiff, Nat.reduceLT, Nat.reduceAdd, Nat.reduceMul, true_or, or_true, ↓reduceIte, aOk, ref_null, null_null, false_or, Option.isSome_some, Option.getD_some, ite_true, ite_false, eq_self, not_false_eq_true, not_true_eq_false, fot, bz_ne, bz_1, ite_bz, Bool.not_eq_false, Bool.not_eq_true]; rfl
  · refine ⟨253, by rw [e]; rfl, ?_⟩
    rw [e_X13_falls]; simp (disch := first | assumption | omega | decide | rfl) only [w_X13_falls_0, w_X13_falls_1, nl_int, nl_ref, nl_null, nl_un, nl_rf, nl_long, isR_ref, isR_null, isR_rf, rf_some, rf_none, rOf_ref, rOf_null, rOf_rf, kn_v, kn_0, true_and, and_true, and_self, tin, inA_x, inA_l, ix_add, ix_addl, ix_ladd, ix_mul, ix_mull, ix_lmul, ix_tn, lt_tn, Nat.reduceLeDiff, Nat.reduceLT, Nat.reduceAdd, Nat.reduceMul, true_or, or_true, ↓reduceIte, aOk, ref_null, null_null, false_or, Option.isSome_some, Option.getD_some, ite_true, ite_false, eq_self, not_false_eq_true, not_true_eq_false, fot, bz_ne, bz_1, ite_bz, Bool.not_eq_false, Bool.not_eq_true]
  · refine ⟨247, by rw [e]; rfl, ?_⟩
    rw [e_X11_falls]; simp (disch := first | assumption | omega | decide | rfl) only [w_X11_falls_0, w_X11_falls_1, nl_int, nl_ref, nl_null, nl_un, nl_rf, nl_long, isR_ref, isR_null, isR_rf, rf_some, rf_none, rOf_ref, rOf_null, rOf_rf, kn_v, kn_0, true_and, and_true, and_self, tin, inA_x, inA_l, ix_add, ix_addl, ix_ladd, ix_mul, ix_mull, ix_lmul, ix_tn, lt_tn, Nat.reduceLeDiff, Nat.reduceLT, Nat.reduceAdd, Nat.reduceMul, true_or, or_true, ↓reduceIte, aOk, ref_null, null_null, false_or, Option.isSome_some, Option.getD_some, ite_true, ite_false, eq_self, not_false_eq_true, not_true_eq_false, fot, bz_ne, bz_1, ite_bz, Bool.not_eq_false, Bool.not_eq_true]; rfl
theorem so_self {P : Nat → Bool} : (so P n).testBit n = false := by rw [so_bit]; simp
theorem cx_falls (x : XO lo hi h o O) (y : XB lo hi h b o O.nA B) (z : WB O B) (hw : w < 1024) (he : e < 1024) : Ca (D + 8) 100 [.ref b, .int (ix w), .int (ix e)] h (fun r h' => r = .inl (some (.int (ix (faF O B.hang B.loose w e)))) ∧ Bx b h h' ∧ XB lo hi h' b o O.nA (sd B.hang (faF O B.hang B.loose w e), loF O B.hang B.loose w e, B.snd, B.day, B.had, B.pk)) := by
  have n1 := x.wo.nA
  have hh := z.lt x.wo
  have hl : B.loose < 1024 := by
    apply Nat.lt_pow_two_of_testBit (n := 10)
    intro i hi
    cases q : B.loose.testBit i
    · rfl
    · exact absurd (z.loose i q) (by rw [lt_bit hh hi]; decide)
  have hwe := or_lt hw he
  generalize hQ : (fun r h' => r = .inl (some (.int (ix (faF O B.hang B.loose w e)))) ∧ Bx b h h' ∧ XB lo hi h' b o O.nA (sd B.hang (faF O B.hang B.loose w e), loF O B.hang B.loose w e, B.snd, B.day, B.had, B.pk) : Rs → AH → Prop) = Q
  -- twins
  have k2 : ∀ n j h1 (v5 : Value), j + n = O.nA → Bx b h h1 → XB lo hi h1 b o O.nA (B.hang, B.loose ||| so (nF O B.hang B.loose w e) O.nA, B.snd, B.day, B.had, B.pk) → Ru (D + 7) 100 130 [.ref b, .int (ix w), .int (ix e), .int (ix (t2F O B.hang (f1F O B.hang B.loose w e) j)), .int (ix j), v5] [] h1 Q := by
    intro n
    induction n with
    | zero =>
      intro j h1 v5 hj u y1
      have ej : j = O.nA := by omega
      subst ej
      have x1 := y.xo x u
      have e' : ¬ O.nA < O.nA := by omega
      have g1 := y1.hang
      have g2 := y1.loose
      have g1 : Fi h1 26 b = ix B.hang := g1
      have g2 : Fi h1 27 b = ix (B.loose ||| so (nF O B.hang B.loose w e) O.nA) := g2
      rw [t2_fa x.wo z.hang, w_X3_falls_130]
      simp (disch := first | assumption | omega | decide | rfl) only [w_X3_falls_132, w_X3_falls_133, w_X3_falls_136, w_X3_falls_139, w_X3_falls_142, w_X3_falls_202, w_X3_falls_203, w_X3_falls_204, w_X3_falls_207, w_X3_falls_208, w_X3_falls_209, w_X3_falls_210, w_X3_falls_211, w_X3_falls_214, w_X3_falls_215, w_X3_falls_216, w_X3_falls_219, w_X3_falls_220, w_X3_falls_221, w_X3_falls_222, w_X3_falls_223, w_X3_falls_226, w_X3_falls_227, nl_int, nl_ref, nl_null, nl_un, nl_rf, nl_long, isR_ref, isR_null, isR_rf, rf_some, rf_none, rOf_ref, rOf_null, rOf_rf, kn_v, kn_0, true_and, and_true, and_self, tin, inA_x, inA_l, ix_add, ix_addl, ix_ladd, ix_mul, ix_mull, ix_lmul, ix_tn, lt_tn, Nat.reduceLeDiff, Nat.reduceLT, Nat.reduceAdd, Nat.reduceMul, true_or, or_true, ↓reduceIte, aOk, ref_null, null_null, false_or, Option.isSome_some, Option.getD_some, ite_true, ite_false, eq_self, not_false_eq_true, not_true_eq_false, Tg_sFi, Tg_sFl, Tg_sFr, Tg_sAi, Tg_sAl, Tg_sAr, An_sFi, An_sFl, An_sFr, An_sAi, An_sAl, An_sAr, Fi_sFl, Fi_sFr, Fi_sAi, Fi_sAl, Fi_sAr, Fl_sFi, Fl_sFr, Fl_sAi, Fl_sAl, Fl_sAr, Fr_sFi, Fr_sFl, Fr_sAi, Fr_sAl, Fr_sAr, Ai_sFi, Ai_sFl, Ai_sFr, Ai_sAl, Ai_sAr, Al_sFi, Al_sFl, Al_sFr, Al_sAi, Al_sAr, Ar_sFi, Ar_sFl, Ar_sFr, Ar_sAi, Ar_sAl, Fi_same, Fl_same, Fr_same, Ai_same, Al_same, Ar_same, Fi_otherf, Fl_otherf, Fr_otherf, y1.tg, y1.oc, x1.tg, x1.ap.fr, x1.ap.wl.tg, x1.ap.size, ix_lt, e', g1, g2, ix_sd]
      rw [lo_x z.hang z.loose]
      rw [← hQ]
      refine ⟨rfl, (u.trans bx_fi).trans bx_fi, ?_⟩
      exact xb_loose (xb_hang y1)
    | succ n ih =>
      intro j h1 v5 hj u y1
      have x1 := y.xo x u
      have e' : j < O.nA := by omega
      obtain ⟨-, p1, p2, p3, p4, p5, p6, p7⟩ := x1.ap1 j e'
      have b1 := x.wo.kd j e'
      have b2 := x.wo.tw j e'
      have tm := tg_ap b1 p1
      have e1 := ix_one (k := j) (by omega)
      have tl : t2F O B.hang (f1F O B.hang B.loose w e) j < 1024 := by
        apply Nat.lt_pow_two_of_testBit (n := 10)
        intro i hi
        rw [t2_bit x.wo z.hang j (by omega), lt_bit (f1F_lt hh) hi, lt_bit hh hi]
        simp
      have nxt : ∀ v5, Ru (D + 7) 100 196 [.ref b, .int (ix w), .int (ix e), .int (ix (t2F O B.hang (f1F O B.hang B.loose w e) (j + 1))), .int (ix j), v5] [] h1 Q := by
        intro v5
        simp (disch := first | assumption | omega | decide | rfl) only [w_X3_falls_196, w_X3_falls_199, nl_int, nl_ref, nl_null, nl_un, nl_rf, nl_long, isR_ref, isR_null, isR_rf, rf_some, rf_none, rOf_ref, rOf_null, rOf_rf, kn_v, kn_0, true_and, and_true, and_self, tin, inA_x, inA_l, ix_add, ix_addl, ix_ladd, ix_mul, ix_mull, ix_lmul, ix_tn, lt_tn, Nat.reduceLeDiff, Nat.reduceLT, Nat.reduceAdd, Nat.reduceMul, true_or, or_true, ↓reduceIte, aOk, ref_null, null_null, false_or, Option.isSome_some, Option.getD_some, ite_true, ite_false, eq_self, not_false_eq_true, not_true_eq_false]
        exact ih (j + 1) h1 v5 (by omega) u y1
      rw [t2F] at nxt
      rw [w_X3_falls_130]
      by_cases q : O.tw j = 0
      · have m1 : (ix (O.tw j) - 1 = -1) = True := by rw [q]; exact eq_true (by decide)
        rw [if_neg (by omega)] at nxt
        simp (disch := first | assumption | omega | decide | rfl) only [w_X3_falls_132, w_X3_falls_133, w_X3_falls_136, w_X3_falls_139, w_X3_falls_142, w_X3_falls_145, w_X3_falls_146, w_X3_falls_149, w_X3_falls_152, w_X3_falls_154, w_X3_falls_157, w_X3_falls_160, w_X3_falls_163, w_X3_falls_165, w_X3_falls_167, w_X3_falls_168, nl_int, nl_ref, nl_null, nl_un, nl_rf, nl_long, isR_ref, isR_null, isR_rf, rf_some, rf_none, rOf_ref, rOf_null, rOf_rf, kn_v, kn_0, true_and, and_true, and_self, tin, inA_x, inA_l, ix_add, ix_addl, ix_ladd, ix_mul, ix_mull, ix_lmul, ix_tn, lt_tn, Nat.reduceLeDiff, Nat.reduceLT, Nat.reduceAdd, Nat.reduceMul, true_or, or_true, ↓reduceIte, aOk, ref_null, null_null, false_or, Option.isSome_some, Option.getD_some, ite_true, ite_false, eq_self, not_false_eq_true, not_true_eq_false, y1.tg, y1.oc, x1.tg, x1.ap.fr, x1.ap.wl.tg, x1.ap.size, x1.ap.get e', tm, p7, m1, ix_lt, e']
        exact nxt _
      · have m0 : ix (O.tw j) - 1 = ix (O.tw j - 1) := ix_subl (n := 1) (by omega)
        have m1 : (ix (O.tw j - 1) = -1) = False := ix_m1 (by omega)
        simp (disch := first | assumption | omega | decide | rfl) only [w_X3_falls_132, w_X3_falls_133, w_X3_falls_136, w_X3_falls_139, w_X3_falls_142, w_X3_falls_145, w_X3_falls_146, w_X3_falls_149, w_X3_falls_152, w_X3_falls_154, w_X3_falls_157, w_X3_falls_160, w_X3_falls_163, w_X3_falls_165, w_X3_falls_167, w_X3_falls_168, w_X3_falls_171, w_X3_falls_172, w_X3_falls_174, nl_int, nl_ref, nl_null, nl_un, nl_rf, nl_long, isR_ref, isR_null, isR_rf, rf_some, rf_none, rOf_ref, rOf_null, rOf_rf, kn_v, kn_0, true_and, and_true, and_self, tin, inA_x, inA_l, ix_add, ix_addl, ix_ladd, ix_mul, ix_mull, ix_lmul, ix_tn, lt_tn, Nat.reduceLeDiff, Nat.reduceLT, Nat.reduceAdd, Nat.reduceMul, true_or, or_true, ↓reduceIte, aOk, ref_null, null_null, false_or, Option.isSome_some, Option.getD_some, ite_true, ite_false, eq_self, not_false_eq_true, not_true_eq_false, y1.tg, y1.oc, x1.tg, x1.ap.fr, x1.ap.wl.tg, x1.ap.size, x1.ap.get e', tm, p7, m0, m1, ix_lt, e', c_has tl (show O.tw j - 1 < 10 by omega)]
        by_cases q2 : (t2F O B.hang (f1F O B.hang B.loose w e) j).testBit (O.tw j - 1) = true
        · have m2 : (bz ((t2F O B.hang (f1F O B.hang B.loose w e) j).testBit (O.tw j - 1)) = 0) = False := by rw [bz_ne]; exact eq_false (by rw [q2]; decide)
          simp (disch := first | assumption | omega | decide | rfl) only [w_X3_falls_177, w_X3_falls_180, w_X3_falls_181, w_X3_falls_183, nl_int, nl_ref, nl_null, nl_un, nl_rf, nl_long, isR_ref, isR_null, isR_rf, rf_some, rf_none, rOf_ref, rOf_null, rOf_rf, kn_v, kn_0, true_and, and_true, and_self, tin, inA_x, inA_l, ix_add, ix_addl, ix_ladd, ix_mul, ix_mull, ix_lmul, ix_tn, lt_tn, Nat.reduceLeDiff, Nat.reduceLT, Nat.reduceAdd, Nat.reduceMul, true_or, or_true, ↓reduceIte, aOk, ref_null, null_null, false_or, Option.isSome_some, Option.getD_some, ite_true, ite_false, eq_self, not_false_eq_true, not_true_eq_false, m2, y1.tg]
          rw [cx_hangs y1 hh (by omega), kn_v]
          show Ru (D + 7) 100 186 _ [.int (bz (B.hang.testBit j))] h1 Q
          by_cases q3 : B.hang.testBit j = true
          · have m3 : (bz (B.hang.testBit j) = 0) = False := by rw [bz_ne]; exact eq_false (by rw [q3]; decide)
            rw [if_pos ⟨by omega, q2, q3⟩] at nxt
            simp (disch := first | assumption | omega | decide | rfl) only [w_X3_falls_186, w_X3_falls_189, w_X3_falls_190, w_X3_falls_191, w_X3_falls_193, w_X3_falls_194, w_X3_falls_195, nl_int, nl_ref, nl_null, nl_un, nl_rf, nl_long, isR_ref, isR_null, isR_rf, rf_some, rf_none, rOf_ref, rOf_null, rOf_rf, kn_v, kn_0, true_and, and_true, and_self, tin, inA_x, inA_l, ix_add, ix_addl, ix_ladd, ix_mul, ix_mull, ix_lmul, ix_tn, lt_tn, Nat.reduceLeDiff, Nat.reduceLT, Nat.reduceAdd, Nat.reduceMul, true_or, or_true, ↓reduceIte, aOk, ref_null, null_null, false_or, Option.isSome_some, Option.getD_some, ite_true, ite_false, eq_self, not_false_eq_true, not_true_eq_false, m3, e1, ix_or]
            exact nxt _
          · have m3 : (bz (B.hang.testBit j) = 0) = True := by rw [bz_ne]; exact eq_true (by simpa using q3)
            rw [if_neg (fun k => q3 k.2.2)] at nxt
            simp (disch := first | assumption | omega | decide | rfl) only [w_X3_falls_186, nl_int, nl_ref, nl_null, nl_un, nl_rf, nl_long, isR_ref, isR_null, isR_rf, rf_some, rf_none, rOf_ref, rOf_null, rOf_rf, kn_v, kn_0, true_and, and_true, and_self, tin, inA_x, inA_l, ix_add, ix_addl, ix_ladd, ix_mul, ix_mull, ix_lmul, ix_tn, lt_tn, Nat.reduceLeDiff, Nat.reduceLT, Nat.reduceAdd, Nat.reduceMul, true_or, or_true, ↓reduceIte, aOk, ref_null, null_null, false_or, Option.isSome_some, Option.getD_some, ite_true, ite_false, eq_self, not_false_eq_true, not_true_eq_false, m3]
            exact nxt _
        · have m2 : (bz ((t2F O B.hang (f1F O B.hang B.loose w e) j).testBit (O.tw j - 1)) = 0) = True := by rw [bz_ne]; exact eq_true (by simpa using q2)
          rw [if_neg (fun k => q2 k.2.1)] at nxt
          simp (disch := first | assumption | omega | decide | rfl) only [w_X3_falls_177, nl_int, nl_ref, nl_null, nl_un, nl_rf, nl_long, isR_ref, isR_null, isR_rf, rf_some, rf_none, rOf_ref, rOf_null, rOf_rf, kn_v, kn_0, true_and, and_true, and_self, tin, inA_x, inA_l, ix_add, ix_addl, ix_ladd, ix_mul, ix_mull, ix_lmul, ix_tn, lt_tn, Nat.reduceLeDiff, Nat.reduceLT, Nat.reduceAdd, Nat.reduceMul, true_or, or_true, ↓reduceIte, aOk, ref_null, null_null, false_or, Option.isSome_some, Option.getD_some, ite_true, ite_false, eq_self, not_false_eq_true, not_true_eq_false, m2]
          exact nxt _
  -- who falls
  have k1 : ∀ n j h1 (v5 : Value), j + n = O.nA → Bx b h h1 → XB lo hi h1 b o O.nA (B.hang, B.loose ||| so (nF O B.hang B.loose w e) j, B.snd, B.day, B.had, B.pk) → Ru (D + 7) 100 5 [.ref b, .int (ix w), .int (ix e), .int (ix (so (pF O B.hang B.loose w e) j)), .int (ix j), v5] [] h1 Q := by
    intro n
    induction n with
    | zero =>
      intro j h1 v5 hj u y1
      have ej : j = O.nA := by omega
      subst ej
      have x1 := y.xo x u
      have e' : ¬ O.nA < O.nA := by omega
      rw [w_X3_falls_5]
      simp (disch := first | assumption | omega | decide | rfl) only [w_X3_falls_7, w_X3_falls_8, w_X3_falls_11, w_X3_falls_14, w_X3_falls_17, w_X3_falls_127, w_X3_falls_128, nl_int, nl_ref, nl_null, nl_un, nl_rf, nl_long, isR_ref, isR_null, isR_rf, rf_some, rf_none, rOf_ref, rOf_null, rOf_rf, kn_v, kn_0, true_and, and_true, and_self, tin, inA_x, inA_l, ix_add, ix_addl, ix_ladd, ix_mul, ix_mull, ix_lmul, ix_tn, lt_tn, Nat.reduceLeDiff, Nat.reduceLT, Nat.reduceAdd, Nat.reduceMul, true_or, or_true, ↓reduceIte, aOk, ref_null, null_null, false_or, Option.isSome_some, Option.getD_some, ite_true, ite_false, eq_self, not_false_eq_true, not_true_eq_false, y1.tg, y1.oc, x1.tg, x1.ap.fr, x1.ap.wl.tg, x1.ap.size, ix_lt, e']
      rw [f1_so z.hang]
      exact k2 O.nA 0 h1 v5 (by omega) u y1
    | succ n ih =>
      intro j h1 v5 hj u y1
      have x1 := y.xo x u
      have e' : j < O.nA := by omega
      obtain ⟨-, p1, p2, p3, p4, p5, p6, p7⟩ := x1.ap1 j e'
      have b1 := x.wo.kd j e'
      have tm := tg_ap b1 p1
      have e1 := ix_one (k := j) (by omega)
      have g2 : Fi h1 27 b = ix (B.loose ||| so (nF O B.hang B.loose w e) j) := y1.loose
      have sl : so (nF O B.hang B.loose w e) j < 1024 := so_lt (by omega)
      have ll := or_lt hl sl
      have lb : (B.loose ||| so (nF O B.hang B.loose w e) j).testBit j = B.loose.testBit j := by rw [Nat.testBit_or, so_self]; simp
      have nxt : ∀ h2 v5, Bx b h h2 → XB lo hi h2 b o O.nA (B.hang, B.loose ||| so (nF O B.hang B.loose w e) (j + 1), B.snd, B.day, B.had, B.pk) → Ru (D + 7) 100 121 [.ref b, .int (ix w), .int (ix e), .int (ix (so (pF O B.hang B.loose w e) (j + 1))), .int (ix j), v5] [] h2 Q := by
        intro h2 v5 u2 y2
        simp (disch := first | assumption | omega | decide | rfl) only [w_X3_falls_121, w_X3_falls_124, nl_int, nl_ref, nl_null, nl_un, nl_rf, nl_long, isR_ref, isR_null, isR_rf, rf_some, rf_none, rOf_ref, rOf_null, rOf_rf, kn_v, kn_0, true_and, and_true, and_self, tin, inA_x, inA_l, ix_add, ix_addl, ix_ladd, ix_mul, ix_mull, ix_lmul, ix_tn, lt_tn, Nat.reduceLeDiff, Nat.reduceLT, Nat.reduceAdd, Nat.reduceMul, true_or, or_true, ↓reduceIte, aOk, ref_null, null_null, false_or, Option.isSome_some, Option.getD_some, ite_true, ite_false, eq_self, not_false_eq_true, not_true_eq_false]
        exact ih (j + 1) h2 v5 (by omega) u2 y2
      rw [so, so] at nxt
      rw [w_X3_falls_5]
      simp (disch := first | assumption | omega | decide | rfl) only [w_X3_falls_7, w_X3_falls_8, w_X3_falls_11, w_X3_falls_14, w_X3_falls_17, w_X3_falls_20, w_X3_falls_21, w_X3_falls_23, nl_int, nl_ref, nl_null, nl_un, nl_rf, nl_long, isR_ref, isR_null, isR_rf, rf_some, rf_none, rOf_ref, rOf_null, rOf_rf, kn_v, kn_0, true_and, and_true, and_self, tin, inA_x, inA_l, ix_add, ix_addl, ix_ladd, ix_mul, ix_mull, ix_lmul, ix_tn, lt_tn, Nat.reduceLeDiff, Nat.reduceLT, Nat.reduceAdd, Nat.reduceMul, true_or, or_true, ↓reduceIte, aOk, ref_null, null_null, false_or, Option.isSome_some, Option.getD_some, ite_true, ite_false, eq_self, not_false_eq_true, not_true_eq_false, y1.tg, y1.oc, x1.tg, x1.ap.fr, x1.ap.wl.tg, x1.ap.size, ix_lt, e']
      rw [cx_hangs y1 hh (by omega), kn_v]
      show Ru (D + 7) 100 26 _ [.int (bz (B.hang.testBit j))] h1 Q
      by_cases q1 : B.hang.testBit j = true
      · have m1 : (bz (B.hang.testBit j) = 0) = False := by rw [bz_ne]; exact eq_false (by rw [q1]; decide)
        simp (disch := first | assumption | omega | decide | rfl) only [w_X3_falls_26, w_X3_falls_29, w_X3_falls_30, w_X3_falls_31, w_X3_falls_32, w_X3_falls_34, nl_int, nl_ref, nl_null, nl_un, nl_rf, nl_long, isR_ref, isR_null, isR_rf, rf_some, rf_none, rOf_ref, rOf_null, rOf_rf, kn_v, kn_0, true_and, and_true, and_self, tin, inA_x, inA_l, ix_add, ix_addl, ix_ladd, ix_mul, ix_mull, ix_lmul, ix_tn, lt_tn, Nat.reduceLeDiff, Nat.reduceLT, Nat.reduceAdd, Nat.reduceMul, true_or, or_true, ↓reduceIte, aOk, ref_null, null_null, false_or, Option.isSome_some, Option.getD_some, ite_true, ite_false, eq_self, not_false_eq_true, not_true_eq_false, m1, ix_or, c_has hwe (show j < 10 by omega)]
        by_cases q2 : (w ||| e).testBit j = true
        · have m2 : (bz ((w ||| e).testBit j) = 0) = False := by rw [bz_ne]; exact eq_false (by rw [q2]; decide)
          have mid : Ru (D + 7) 100 91 [.ref b, .int (ix w), .int (ix e), .int (ix (so (pF O B.hang B.loose w e) j)), .int (ix j), v5] [.int (bz (isF O B.loose w j))] h1 Q := by
            by_cases q3 : isF O B.loose w j = true
            · have m3 : (bz (isF O B.loose w j) = 0) = False := by rw [bz_ne]; exact eq_false (by rw [q3]; decide)
              have pp : pF O B.hang B.loose w e j = true := by unfold pF; rw [q1, q2, q3]; rfl
              have nn : ¬ nF O B.hang B.loose w e j = true := by unfold nF; rw [q3]; simp
              rw [if_pos pp, if_neg nn] at nxt
              simp (disch := first | assumption | omega | decide | rfl) only [w_X3_falls_91, w_X3_falls_93, w_X3_falls_95, w_X3_falls_98, w_X3_falls_99, w_X3_falls_100, w_X3_falls_102, w_X3_falls_103, w_X3_falls_104, w_X3_falls_105, nl_int, nl_ref, nl_null, nl_un, nl_rf, nl_long, isR_ref, isR_null, isR_rf, rf_some, rf_none, rOf_ref, rOf_null, rOf_rf, kn_v, kn_0, true_and, and_true, and_self, tin, inA_x, inA_l, ix_add, ix_addl, ix_ladd, ix_mul, ix_mull, ix_lmul, ix_tn, lt_tn, Nat.reduceLeDiff, Nat.reduceLT, Nat.reduceAdd, Nat.reduceMul, true_or, or_true, ↓reduceIte, aOk, ref_null, null_null, false_or, Option.isSome_some, Option.getD_some, ite_true, ite_false, eq_self, not_false_eq_true, not_true_eq_false, m3, e1, ix_or]
              exact nxt h1 _ u y1
            · have m3 : (bz (isF O B.loose w j) = 0) = True := by rw [bz_ne]; exact eq_true (by simpa using q3)
              have q3 : isF O B.loose w j = false := by simpa using q3
              have pp : ¬ pF O B.hang B.loose w e j = true := by unfold pF; rw [q3]; simp
              have nn : nF O B.hang B.loose w e j = true := by unfold nF; rw [q1, q2, q3]; rfl
              rw [if_neg pp, if_pos nn] at nxt
              simp (disch := first | assumption | omega | decide | rfl) only [w_X3_falls_91, w_X3_falls_93, w_X3_falls_95, w_X3_falls_108, w_X3_falls_109, w_X3_falls_110, w_X3_falls_113, w_X3_falls_114, w_X3_falls_116, w_X3_falls_117, w_X3_falls_118, nl_int, nl_ref, nl_null, nl_un, nl_rf, nl_long, isR_ref, isR_null, isR_rf, rf_some, rf_none, rOf_ref, rOf_null, rOf_rf, kn_v, kn_0, true_and, and_true, and_self, tin, inA_x, inA_l, ix_add, ix_addl, ix_ladd, ix_mul, ix_mull, ix_lmul, ix_tn, lt_tn, Nat.reduceLeDiff, Nat.reduceLT, Nat.reduceAdd, Nat.reduceMul, true_or, or_true, ↓reduceIte, aOk, ref_null, null_null, false_or, Option.isSome_some, Option.getD_some, ite_true, ite_false, eq_self, not_false_eq_true, not_true_eq_false, Tg_sFi, Tg_sFl, Tg_sFr, Tg_sAi, Tg_sAl, Tg_sAr, An_sFi, An_sFl, An_sFr, An_sAi, An_sAl, An_sAr, Fi_sFl, Fi_sFr, Fi_sAi, Fi_sAl, Fi_sAr, Fl_sFi, Fl_sFr, Fl_sAi, Fl_sAl, Fl_sAr, Fr_sFi, Fr_sFl, Fr_sAi, Fr_sAl, Fr_sAr, Ai_sFi, Ai_sFl, Ai_sFr, Ai_sAl, Ai_sAr, Al_sFi, Al_sFl, Al_sFr, Al_sAi, Al_sAr, Ar_sFi, Ar_sFl, Ar_sFr, Ar_sAi, Ar_sAl, Fi_same, Fl_same, Fr_same, Ai_same, Al_same, Ar_same, Fi_otherf, Fl_otherf, Fr_otherf, m3, e1, ix_or, y1.tg, g2]
              refine nxt _ _ (u.trans bx_fi) ?_
              rw [← Nat.or_assoc]
              have y2 := xb_loose (x' := B.loose ||| so (nF O B.hang B.loose w e) j ||| 2 ^ j) y1
              exact y2
          simp (disch := first | assumption | omega | decide | rfl) only [w_X3_falls_37, w_X3_falls_43, w_X3_falls_44, w_X3_falls_46, nl_int, nl_ref, nl_null, nl_un, nl_rf, nl_long, isR_ref, isR_null, isR_rf, rf_some, rf_none, rOf_ref, rOf_null, rOf_rf, kn_v, kn_0, true_and, and_true, and_self, tin, inA_x, inA_l, ix_add, ix_addl, ix_ladd, ix_mul, ix_mull, ix_lmul, ix_tn, lt_tn, Nat.reduceLeDiff, Nat.reduceLT, Nat.reduceAdd, Nat.reduceMul, true_or, or_true, ↓reduceIte, aOk, ref_null, null_null, false_or, Option.isSome_some, Option.getD_some, ite_true, ite_false, eq_self, not_false_eq_true, not_true_eq_false, m2, c_has hw (show j < 10 by omega)]
          by_cases q4 : w.testBit j = true
          · have m4 : (bz (w.testBit j) = 0) = False := by rw [bz_ne]; exact eq_false (by rw [q4]; decide)
            obtain ⟨z3, hz3, hc3⟩ := c_apf (d := D + 6) (lb := B.loose.testBit j) (Q := Kn (D + 7) 100 76 79 [.ref b, .int (ix w), .int (ix e), .int (ix (so (pF O B.hang B.loose w e) j)), .int (ix j), v5] [] Q) b1 p1
            simp (disch := first | assumption | omega | decide | rfl) only [w_X3_falls_49, w_X3_falls_52, w_X3_falls_53, w_X3_falls_56, w_X3_falls_59, w_X3_falls_61, w_X3_falls_64, w_X3_falls_67, w_X3_falls_68, w_X3_falls_71, w_X3_falls_73, nl_int, nl_ref, nl_null, nl_un, nl_rf, nl_long, isR_ref, isR_null, isR_rf, rf_some, rf_none, rOf_ref, rOf_null, rOf_rf, kn_v, kn_0, true_and, and_true, and_self, tin, inA_x, inA_l, ix_add, ix_addl, ix_ladd, ix_mul, ix_mull, ix_lmul, ix_tn, lt_tn, Nat.reduceLeDiff, Nat.reduceLT, Nat.reduceAdd, Nat.reduceMul, true_or, or_true, ↓reduceIte, aOk, ref_null, null_null, false_or, Option.isSome_some, Option.getD_some, ite_true, ite_false, eq_self, not_false_eq_true, not_true_eq_false, m4, y1.tg, y1.oc, x1.tg, x1.ap.fr, x1.ap.wl.tg, x1.ap.get e', tm, g2, c_has ll (show j < 10 by omega), lb]
            rw [w_X3_falls_76 hz3, hc3, kn_v, w_X3_falls_79]
            have : isF O B.loose w j = (if O.kd j = 2 then B.loose.testBit j else true) := by unfold isF; rw [if_pos q4]
            rw [this] at mid
            exact mid
          · have m4 : (bz (w.testBit j) = 0) = True := by rw [bz_ne]; exact eq_true (by simpa using q4)
            simp (disch := first | assumption | omega | decide | rfl) only [w_X3_falls_49, w_X3_falls_82, w_X3_falls_83, w_X3_falls_86, w_X3_falls_88, nl_int, nl_ref, nl_null, nl_un, nl_rf, nl_long, isR_ref, isR_null, isR_rf, rf_some, rf_none, rOf_ref, rOf_null, rOf_rf, kn_v, kn_0, true_and, and_true, and_self, tin, inA_x, inA_l, ix_add, ix_addl, ix_ladd, ix_mul, ix_mull, ix_lmul, ix_tn, lt_tn, Nat.reduceLeDiff, Nat.reduceLT, Nat.reduceAdd, Nat.reduceMul, true_or, or_true, ↓reduceIte, aOk, ref_null, null_null, false_or, Option.isSome_some, Option.getD_some, ite_true, ite_false, eq_self, not_false_eq_true, not_true_eq_false, m4, y1.tg, g2, c_has ll (show j < 10 by omega), lb]
            have : isF O B.loose w j = B.loose.testBit j := by unfold isF; rw [if_neg q4]
            rw [this] at mid
            exact mid
        · have m2 : (bz ((w ||| e).testBit j) = 0) = True := by rw [bz_ne]; exact eq_true (by simpa using q2)
          have q2 : (w ||| e).testBit j = false := by simpa using q2
          have pp : ¬ pF O B.hang B.loose w e j = true := by unfold pF; rw [q2]; simp
          have nn : ¬ nF O B.hang B.loose w e j = true := by unfold nF; rw [q2]; simp
          rw [if_neg pp, if_neg nn] at nxt
          simp (disch := first | assumption | omega | decide | rfl) only [w_X3_falls_37, w_X3_falls_40, nl_int, nl_ref, nl_null, nl_un, nl_rf, nl_long, isR_ref, isR_null, isR_rf, rf_some, rf_none, rOf_ref, rOf_null, rOf_rf, kn_v, kn_0, true_and, and_true, and_self, tin, inA_x, inA_l, ix_add, ix_addl, ix_ladd, ix_mul, ix_mull, ix_lmul, ix_tn, lt_tn, Nat.reduceLeDiff, Nat.reduceLT, Nat.reduceAdd, Nat.reduceMul, true_or, or_true, ↓reduceIte, aOk, ref_null, null_null, false_or, Option.isSome_some, Option.getD_some, ite_true, ite_false, eq_self, not_false_eq_true, not_true_eq_false, m2]
          exact nxt h1 _ u y1
      · have m1 : (bz (B.hang.testBit j) = 0) = True := by rw [bz_ne]; exact eq_true (by simpa using q1)
        have q1 : B.hang.testBit j = false := by simpa using q1
        have pp : ¬ pF O B.hang B.loose w e j = true := by unfold pF; rw [q1]; simp
        have nn : ¬ nF O B.hang B.loose w e j = true := by unfold nF; rw [q1]; simp
        rw [if_neg pp, if_neg nn] at nxt
        simp (disch := first | assumption | omega | decide | rfl) only [w_X3_falls_26, nl_int, nl_ref, nl_null, nl_un, nl_rf, nl_long, isR_ref, isR_null, isR_rf, rf_some, rf_none, rOf_ref, rOf_null, rOf_rf, kn_v, kn_0, true_and, and_true, and_self, tin, inA_x, inA_l, ix_add, ix_addl, ix_ladd, ix_mul, ix_mull, ix_lmul, ix_tn, lt_tn, Nat.reduceLeDiff, Nat.reduceLT, Nat.reduceAdd, Nat.reduceMul, true_or, or_true, ↓reduceIte, aOk, ref_null, null_null, false_or, Option.isSome_some, Option.getD_some, ite_true, ite_false, eq_self, not_false_eq_true, not_true_eq_false, m1]
        exact nxt h1 _ u y1
  rw [e_X3_falls]
  simp (disch := first | assumption | omega | decide | rfl) only [w_X3_falls_0, w_X3_falls_1, w_X3_falls_2, w_X3_falls_3, nl_int, nl_ref, nl_null, nl_un, nl_rf, nl_long, isR_ref, isR_null, isR_rf, rf_some, rf_none, rOf_ref, rOf_null, rOf_rf, kn_v, kn_0, true_and, and_true, and_self, tin, inA_x, inA_l, ix_add, ix_addl, ix_ladd, ix_mul, ix_mull, ix_lmul, ix_tn, lt_tn, Nat.reduceLeDiff, Nat.reduceLT, Nat.reduceAdd, Nat.reduceMul, true_or, or_true, ↓reduceIte, aOk, ref_null, null_null, false_or, Option.isSome_some, Option.getD_some, ite_true, ite_false, eq_self, not_false_eq_true, not_true_eq_false]
  refine k1 O.nA 0 h un (by omega) Bx.refl ?_
  rw [show so (nF O B.hang B.loose w e) 0 = 0 from rfl, Nat.or_zero]
  exact y
end
