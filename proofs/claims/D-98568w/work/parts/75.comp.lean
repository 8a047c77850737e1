/-! THE MODEL: words held against each other -/
set_option maxRecDepth 100000
/-- a line of law as the model keeps it: none, or the codes of an expression over the facts lo .. hi -/
def LnO (h : AH) (m ln lo hi : Nat) (o : Option Ph) : Prop := match o with
  | none => Ai h (m + 22) ln = Ai h (m + 21) ln
  | some φ => ∃ F0 k cs, 0 < cs.length ∧ F0 + cs.length ≤ 2000 ∧ Ai h (m + 21) ln = ix F0 ∧ Ai h (m + 22) ln = ix (F0 + cs.length) ∧ Cd h m F0 cs ∧ AlR (PtR 6) k cs φ ∧ ∀ v v' : Nat → Int32, (∀ f, lo ≤ f → f ≤ hi → v f = v' f) → φ v = φ v'
noncomputable def fcF (w u : Nat) : Nat → Int32 := fun k => if k = 1 then ix (edF w u) else if k = 2 then ix (stF w u) else if k = 3 then ix (rhF w u) else ix (wl w)
noncomputable def nrF (o : Option Ph) (w u : Nat) : Bool := match o with
  | none => decide (edF w u = 0)
  | some φ => decide (¬ φ (fcF w u) = 0)
section
variable {d D m a b w u : Nat} {h : AH} {Q : Rs → AH → Prop} {o : Option Ph}
theorem edF_le : edF w u ≤ 16 := by
  have h1 := lev_le (a := ltr w) (b := ltr u) (wl w) (wl u)
  have h2 := wl_le w
  have h3 := wl_le u
  unfold edF
  omega
/-- the table of changes is filled -/
theorem cp_fill (hm : MO h m) (hA : ∀ k, k < wl w → Ai h (m + 40) k = ix (ltr w k)) (hB : ∀ k, k < wl u → Ai h (m + 41) k = ix (ltr u k)) {l1 l2 l3 : Value} (fin : ∀ F v7 v8, (∀ i j, i ≤ wl w → j ≤ wl u → F (9 * i + j) = ix (lev (ltr w) (ltr u) i j)) → Ru (D + 1) 173 199 [.ref m, l1, l2, l3, .int (ix (wl w)), .int (ix (wl u)), .int (ix (wl w + 1)), v7, v8] [] (sAi h (m + 42) F) Q) : Ru (D + 1) 173 37 [.ref m, l1, l2, l3, .int (ix (wl w)), .int (ix (wl u)), un, un, un] [] h Q := by
  have hw := wl_le w
  have hu := wl_le u
  have k3 : ∀ n j i (F : Nat → Int32) (v8 : Value), j + n = wl u + 1 → i ≤ wl w → (∀ x y, x ≤ wl w → y ≤ wl u → (x < i ∨ (x = i ∧ y < j)) → F (9 * x + y) = ix (lev (ltr w) (ltr u) x y)) → (∀ F' v7 v8', (∀ x y, x ≤ wl w → y ≤ wl u → x < i + 1 → F' (9 * x + y) = ix (lev (ltr w) (ltr u) x y)) → Ru (D + 1) 173 193 [.ref m, l1, l2, l3, .int (ix (wl w)), .int (ix (wl u)), .int (ix i), v7, v8'] [] (sAi h (m + 42) F') Q) → Ru (D + 1) 173 50 [.ref m, l1, l2, l3, .int (ix (wl w)), .int (ix (wl u)), .int (ix i), .int (ix j), v8] [] (sAi h (m + 42) F) Q := by
    intro n
    induction n with
    | zero =>
      intro j i F v8 hj hi hF fin
      have e : wl u < j := by omega
      rw [w_X9_compares_50]
      simp (disch := first | assumption | omega | decide | rfl) only [w_X9_compares_52, w_X9_compares_54, nl_int, nl_ref, nl_null, nl_un, nl_rf, nl_long, isR_ref, isR_null, isR_rf, rf_some, rf_none, rOf_ref, rOf_null, rOf_rf, kn_v, kn_0, true_and, and_true, and_self, tin, inA_x, inA_l, ix_add, ix_addl, ix_ladd, ix_mul, ix_mull, ix_lmul, ix_tn, lt_tn, Nat.reduceLeDiff, Nat.reduceLT, Nat.reduceAdd, Nat.reduceMul, true_or, or_true, ↓reduceIte, aOk, ref_null, null_null, false_or, Option.isSome_some, Option.getD_some, ite_true, ite_false, eq_self, not_false_eq_true, not_true_eq_false, ix_lt, e]
      exact fin F _ _ (fun x y hx hy hq => hF x y hx hy (by omega))
    | succ n ih =>
      intro j i F v8 hj hi hF fin
      have e : ¬ wl u < j := by omega
      rw [w_X9_compares_50]
      have stp : ∀ v8', Ru (D + 1) 173 187 [.ref m, l1, l2, l3, .int (ix (wl w)), .int (ix (wl u)), .int (ix i), .int (ix j), v8'] [] (sAi h (m + 42) (upd F (9 * i + j) (ix (lev (ltr w) (ltr u) i j)))) Q := by
        intro v8'
        simp (disch := first | assumption | omega | decide | rfl) only [w_X9_compares_187, w_X9_compares_190, nl_int, nl_ref, nl_null, nl_un, nl_rf, nl_long, isR_ref, isR_null, isR_rf, rf_some, rf_none, rOf_ref, rOf_null, rOf_rf, kn_v, kn_0, true_and, and_true, and_self, tin, inA_x, inA_l, ix_add, ix_addl, ix_ladd, ix_mul, ix_mull, ix_lmul, ix_tn, lt_tn, Nat.reduceLeDiff, Nat.reduceLT, Nat.reduceAdd, Nat.reduceMul, true_or, or_true, ↓reduceIte, aOk, ref_null, null_null, false_or, Option.isSome_some, Option.getD_some, ite_true, ite_false, eq_self, not_false_eq_true, not_true_eq_false]
        refine ih (j + 1) i _ v8' (by omega) hi (fun x y hx hy hq => ?_) fin
        by_cases q : x = i ∧ y = j
        · obtain ⟨rfl, rfl⟩ := q
          exact upd_s
        · rw [upd_n (by omega)]
          exact hF x y hx hy (by omega)
      by_cases q : i = 0
      · subst q
        have x0 : (ix 0 = 0) = True := eq_true rfl
        have l0 : lev (ltr w) (ltr u) 0 j = 9 * 0 + j := by rw [lev_0]; omega
        simp (disch := first | assumption | omega | decide | rfl) only [w_X9_compares_52, w_X9_compares_54, w_X9_compares_57, w_X9_compares_59, w_X9_compares_62, w_X9_compares_64, w_X9_compares_67, w_X9_compares_68, w_X9_compares_71, w_X9_compares_73, w_X9_compares_75, w_X9_compares_76, w_X9_compares_78, w_X9_compares_79, w_X9_compares_81, w_X9_compares_83, w_X9_compares_84, w_X9_compares_85, mo_0 hm, mo_soundName hm, mt_soundName hm, ml_soundName hm, mo_lettersA hm, mt_lettersA hm, ml_lettersA hm, mo_lettersB hm, mt_lettersB hm, ml_lettersB hm, mo_changes hm, mt_changes hm, ml_changes hm, mo_edits hm, mt_edits hm, ml_edits hm, mo_startOf hm, mt_startOf hm, ml_startOf hm, mo_rhymeOf hm, mt_rhymeOf hm, ml_rhymeOf hm, mo_lineTo hm, mt_lineTo hm, ml_lineTo hm, mo_lineFrom hm, mt_lineFrom hm, ml_lineFrom hm, mo_isNear hm, mt_isNear hm, ml_isNear hm, mo_valueOf hm, mt_valueOf hm, ml_valueOf hm, nl_int, nl_ref, nl_null, nl_un, nl_rf, nl_long, isR_ref, isR_null, isR_rf, rf_some, rf_none, rOf_ref, rOf_null, rOf_rf, kn_v, kn_0, true_and, and_true, and_self, tin, inA_x, inA_l, ix_add, ix_addl, ix_ladd, ix_mul, ix_mull, ix_lmul, ix_tn, lt_tn, Nat.reduceLeDiff, Nat.reduceLT, Nat.reduceAdd, Nat.reduceMul, true_or, or_true, ↓reduceIte, aOk, ref_null, null_null, false_or, Option.isSome_some, Option.getD_some, ite_true, ite_false, eq_self, not_false_eq_true, not_true_eq_false, Tg_sFi, Tg_sFl, Tg_sFr, Tg_sAi, Tg_sAl, Tg_sAr, An_sFi, An_sFl, An_sFr, An_sAi, An_sAl, An_sAr, Fi_sFl, Fi_sFr, Fi_sAi, Fi_sAl, Fi_sAr, Fl_sFi, Fl_sFr, Fl_sAi, Fl_sAl, Fl_sAr, Fr_sFi, Fr_sFl, Fr_sAi, Fr_sAl, Fr_sAr, Ai_sFi, Ai_sFl, Ai_sFr, Ai_sAl, Ai_sAr, Al_sFi, Al_sFl, Al_sFr, Al_sAi, Al_sAr, Ar_sFi, Ar_sFl, Ar_sFr, Ar_sAi, Ar_sAl, Fi_same, Fl_same, Fr_same, Ai_same, Al_same, Ar_same, Fi_otherf, Fl_otherf, Fr_otherf, ix_lt, e, x0, sAi_sAi]
        have := stp v8
        rw [lev_0] at this
        simpa using this
      · by_cases q2 : j = 0
        · subst q2
          have x0 : (ix 0 = 0) = True := eq_true rfl
          have x1 : (ix i = 0) = False := eq_false (fun z => q (ix_inj (by omega) (by decide) z))
          simp (disch := first | assumption | omega | decide | rfl) only [w_X9_compares_52, w_X9_compares_54, w_X9_compares_57, w_X9_compares_59, w_X9_compares_62, w_X9_compares_64, w_X9_compares_67, w_X9_compares_68, w_X9_compares_71, w_X9_compares_73, w_X9_compares_75, w_X9_compares_76, w_X9_compares_78, w_X9_compares_79, w_X9_compares_81, w_X9_compares_83, w_X9_compares_84, w_X9_compares_85, mo_0 hm, mo_soundName hm, mt_soundName hm, ml_soundName hm, mo_lettersA hm, mt_lettersA hm, ml_lettersA hm, mo_lettersB hm, mt_lettersB hm, ml_lettersB hm, mo_changes hm, mt_changes hm, ml_changes hm, mo_edits hm, mt_edits hm, ml_edits hm, mo_startOf hm, mt_startOf hm, ml_startOf hm, mo_rhymeOf hm, mt_rhymeOf hm, ml_rhymeOf hm, mo_lineTo hm, mt_lineTo hm, ml_lineTo hm, mo_lineFrom hm, mt_lineFrom hm, ml_lineFrom hm, mo_isNear hm, mt_isNear hm, ml_isNear hm, mo_valueOf hm, mt_valueOf hm, ml_valueOf hm, nl_int, nl_ref, nl_null, nl_un, nl_rf, nl_long, isR_ref, isR_null, isR_rf, rf_some, rf_none, rOf_ref, rOf_null, rOf_rf, kn_v, kn_0, true_and, and_true, and_self, tin, inA_x, inA_l, ix_add, ix_addl, ix_ladd, ix_mul, ix_mull, ix_lmul, ix_tn, lt_tn, Nat.reduceLeDiff, Nat.reduceLT, Nat.reduceAdd, Nat.reduceMul, true_or, or_true, ↓reduceIte, aOk, ref_null, null_null, false_or, Option.isSome_some, Option.getD_some, ite_true, ite_false, eq_self, not_false_eq_true, not_true_eq_false, Tg_sFi, Tg_sFl, Tg_sFr, Tg_sAi, Tg_sAl, Tg_sAr, An_sFi, An_sFl, An_sFr, An_sAi, An_sAl, An_sAr, Fi_sFl, Fi_sFr, Fi_sAi, Fi_sAl, Fi_sAr, Fl_sFi, Fl_sFr, Fl_sAi, Fl_sAl, Fl_sAr, Fr_sFi, Fr_sFl, Fr_sAi, Fr_sAl, Fr_sAr, Ai_sFi, Ai_sFl, Ai_sFr, Ai_sAl, Ai_sAr, Al_sFi, Al_sFl, Al_sFr, Al_sAi, Al_sAr, Ar_sFi, Ar_sFl, Ar_sFr, Ar_sAi, Ar_sAl, Fi_same, Fl_same, Fr_same, Ai_same, Al_same, Ar_same, Fi_otherf, Fl_otherf, Fr_otherf, ix_lt, e, x0, x1, sAi_sAi]
          have := stp v8
          rw [lev_s0] at this
          simpa using this
        · obtain ⟨i, rfl⟩ : ∃ y, i = y + 1 := ⟨i - 1, by omega⟩
          obtain ⟨j, rfl⟩ : ∃ y, j = y + 1 := ⟨j - 1, by omega⟩
          have x0 : (ix (j + 1) = 0) = False := eq_false (fun z => q2 (ix_inj (by omega) (by decide) z))
          have x1 : (ix (i + 1) = 0) = False := eq_false (fun z => q (ix_inj (by omega) (by decide) z))
          have y1 : ix (j + 1) - 1 = ix j := ix_subl (n := 1) (a := j + 1) (by omega)
          have y2 : ix (i + 1) - 1 = ix i := ix_subl (n := 1) (a := i + 1) (by omega)
          have y3 : ix (9 * i + (j + 1)) - 1 = ix (9 * i + j) := ix_subl (n := 1) (a := 9 * i + j + 1) (by omega)
          have y4 : ix (9 * (i + 1) + (j + 1)) - 1 = ix (9 * (i + 1) + j) := ix_subl (n := 1) (a := 9 * (i + 1) + j + 1) (by omega)
          have f1 := hF i j (by omega) (by omega) (by omega)
          have f2 := hF i (j + 1) (by omega) (by omega) (by omega)
          have f3 := hF (i + 1) j (by omega) (by omega) (by omega)
          have g1 := hA i (by omega)
          have g2 := hB j (by omega)
          have b1 := lev_le (a := ltr w) (b := ltr u) i (j + 1)
          have b2 := lev_le (a := ltr w) (b := ltr u) (i + 1) j
          have b3 := lev_le (a := ltr w) (b := ltr u) i j
          have hl := ltr_lt w i
          have hl2 := ltr_lt u j
          have b4 : lev (ltr w) (ltr u) i j + (if ltr w i = ltr u j then 0 else 1) < 100 := by split <;> omega
          simp (disch := first | assumption | omega | decide | rfl) only [w_X9_compares_52, w_X9_compares_54, w_X9_compares_57, w_X9_compares_59, w_X9_compares_62, w_X9_compares_64, w_X9_compares_67, w_X9_compares_68, w_X9_compares_71, w_X9_compares_73, w_X9_compares_75, w_X9_compares_76, w_X9_compares_78, w_X9_compares_79, w_X9_compares_81, w_X9_compares_83, w_X9_compares_84, w_X9_compares_85, w_X9_compares_88, w_X9_compares_89, w_X9_compares_92, w_X9_compares_94, w_X9_compares_96, w_X9_compares_97, w_X9_compares_98, w_X9_compares_99, w_X9_compares_101, w_X9_compares_102, w_X9_compares_103, w_X9_compares_104, w_X9_compares_105, w_X9_compares_106, w_X9_compares_109, w_X9_compares_111, w_X9_compares_112, w_X9_compares_113, w_X9_compares_114, w_X9_compares_115, w_X9_compares_118, w_X9_compares_120, w_X9_compares_121, w_X9_compares_122, w_X9_compares_123, w_X9_compares_126, w_X9_compares_127, w_X9_compares_130, mo_0 hm, mo_soundName hm, mt_soundName hm, ml_soundName hm, mo_lettersA hm, mt_lettersA hm, ml_lettersA hm, mo_lettersB hm, mt_lettersB hm, ml_lettersB hm, mo_changes hm, mt_changes hm, ml_changes hm, mo_edits hm, mt_edits hm, ml_edits hm, mo_startOf hm, mt_startOf hm, ml_startOf hm, mo_rhymeOf hm, mt_rhymeOf hm, ml_rhymeOf hm, mo_lineTo hm, mt_lineTo hm, ml_lineTo hm, mo_lineFrom hm, mt_lineFrom hm, ml_lineFrom hm, mo_isNear hm, mt_isNear hm, ml_isNear hm, mo_valueOf hm, mt_valueOf hm, ml_valueOf hm, nl_int, nl_ref, nl_null, nl_un, nl_rf, nl_long, isR_ref, isR_null, isR_rf, rf_some, rf_none, rOf_ref, rOf_null, rOf_rf, kn_v, kn_0, true_and, and_true, and_self, tin, inA_x, inA_l, ix_add, ix_addl, ix_ladd, ix_mul, ix_mull, ix_lmul, ix_tn, lt_tn, Nat.reduceLeDiff, Nat.reduceLT, Nat.reduceAdd, Nat.reduceMul, true_or, or_true, ↓reduceIte, aOk, ref_null, null_null, false_or, Option.isSome_some, Option.getD_some, ite_true, ite_false, eq_self, not_false_eq_true, not_true_eq_false, Tg_sFi, Tg_sFl, Tg_sFr, Tg_sAi, Tg_sAl, Tg_sAr, An_sFi, An_sFl, An_sFr, An_sAi, An_sAl, An_sAr, Fi_sFl, Fi_sFr, Fi_sAi, Fi_sAl, Fi_sAr, Fl_sFi, Fl_sFr, Fl_sAi, Fl_sAl, Fl_sAr, Fr_sFi, Fr_sFl, Fr_sAi, Fr_sAl, Fr_sAr, Ai_sFi, Ai_sFl, Ai_sFr, Ai_sAl, Ai_sAr, Al_sFi, Al_sFl, Al_sFr, Al_sAi, Al_sAr, Ar_sFi, Ar_sFl, Ar_sFr, Ar_sAi, Ar_sAl, Fi_same, Fl_same, Fr_same, Ai_same, Al_same, Ar_same, Fi_otherf, Fl_otherf, Fr_otherf, Ai_other, ix_lt, ix_eq, e, x0, x1, y1, y2, y3, y4, f1, g1, g2, ru_join, ite_cons, ite_int, ite_self]
          have yy : (if ltr w i = ltr u j then (0 : Int32) else 1) = ix (if ltr w i = ltr u j then 0 else 1) := by split <;> rfl
          rw [yy]
          have := stp (.int (ix (lev (ltr w) (ltr u) i j + (if ltr w i = ltr u j then 0 else 1))))
          rw [lev_ss] at this
          revert b4 this
          generalize (if ltr w i = ltr u j then 0 else 1) = c
          intro b4 this
          simp (disch := first | assumption | omega | decide | rfl) only [w_X9_compares_131, w_X9_compares_132, w_X9_compares_134, w_X9_compares_135, w_X9_compares_138, w_X9_compares_140, w_X9_compares_142, w_X9_compares_143, w_X9_compares_145, w_X9_compares_146, w_X9_compares_148, w_X9_compares_149, w_X9_compares_150, w_X9_compares_153, w_X9_compares_155, w_X9_compares_157, w_X9_compares_158, w_X9_compares_159, w_X9_compares_160, w_X9_compares_162, w_X9_compares_163, w_X9_compares_164, w_X9_compares_165, w_X9_compares_168, w_X9_compares_170, w_X9_compares_172, w_X9_compares_173, w_X9_compares_175, w_X9_compares_176, w_X9_compares_177, w_X9_compares_178, w_X9_compares_179, w_X9_compares_182, w_X9_compares_183, w_X9_compares_186, mo_0 hm, mo_soundName hm, mt_soundName hm, ml_soundName hm, mo_lettersA hm, mt_lettersA hm, ml_lettersA hm, mo_lettersB hm, mt_lettersB hm, ml_lettersB hm, mo_changes hm, mt_changes hm, ml_changes hm, mo_edits hm, mt_edits hm, ml_edits hm, mo_startOf hm, mt_startOf hm, ml_startOf hm, mo_rhymeOf hm, mt_rhymeOf hm, ml_rhymeOf hm, mo_lineTo hm, mt_lineTo hm, ml_lineTo hm, mo_lineFrom hm, mt_lineFrom hm, ml_lineFrom hm, mo_isNear hm, mt_isNear hm, ml_isNear hm, mo_valueOf hm, mt_valueOf hm, ml_valueOf hm, nl_int, nl_ref, nl_null, nl_un, nl_rf, nl_long, isR_ref, isR_null, isR_rf, rf_some, rf_none, rOf_ref, rOf_null, rOf_rf, kn_v, kn_0, true_and, and_true, and_self, tin, inA_x, inA_l, ix_add, ix_addl, ix_ladd, ix_mul, ix_mull, ix_lmul, ix_tn, lt_tn, Nat.reduceLeDiff, Nat.reduceLT, Nat.reduceAdd, Nat.reduceMul, true_or, or_true, ↓reduceIte, aOk, ref_null, null_null, false_or, Option.isSome_some, Option.getD_some, ite_true, ite_false, eq_self, not_false_eq_true, not_true_eq_false, Tg_sFi, Tg_sFl, Tg_sFr, Tg_sAi, Tg_sAl, Tg_sAr, An_sFi, An_sFl, An_sFr, An_sAi, An_sAl, An_sAr, Fi_sFl, Fi_sFr, Fi_sAi, Fi_sAl, Fi_sAr, Fl_sFi, Fl_sFr, Fl_sAi, Fl_sAl, Fl_sAr, Fr_sFi, Fr_sFl, Fr_sAi, Fr_sAl, Fr_sAr, Ai_sFi, Ai_sFl, Ai_sFr, Ai_sAl, Ai_sAr, Al_sFi, Al_sFl, Al_sFr, Al_sAi, Al_sAr, Ar_sFi, Ar_sFl, Ar_sFr, Ar_sAi, Ar_sAl, Fi_same, Fl_same, Fr_same, Ai_same, Al_same, Ar_same, Fi_otherf, Fl_otherf, Fr_otherf, Ai_other, y1, y2, y3, y4, f2, f3, c_minx, sAi_sAi]
          exact this
  have k2 : ∀ n i (F : Nat → Int32) (v7 v8 : Value), i + n = wl w + 1 → (∀ x y, x ≤ wl w → y ≤ wl u → x < i → F (9 * x + y) = ix (lev (ltr w) (ltr u) x y)) → Ru (D + 1) 173 40 [.ref m, l1, l2, l3, .int (ix (wl w)), .int (ix (wl u)), .int (ix i), v7, v8] [] (sAi h (m + 42) F) Q := by
    intro n
    induction n with
    | zero =>
      intro i F v7 v8 hi hF
      have e : wl w < i := by omega
      have ei : i = wl w + 1 := by omega
      subst ei
      rw [w_X9_compares_40]
      simp (disch := first | assumption | omega | decide | rfl) only [w_X9_compares_42, w_X9_compares_44, nl_int, nl_ref, nl_null, nl_un, nl_rf, nl_long, isR_ref, isR_null, isR_rf, rf_some, rf_none, rOf_ref, rOf_null, rOf_rf, kn_v, kn_0, true_and, and_true, and_self, tin, inA_x, inA_l, ix_add, ix_addl, ix_ladd, ix_mul, ix_mull, ix_lmul, ix_tn, lt_tn, Nat.reduceLeDiff, Nat.reduceLT, Nat.reduceAdd, Nat.reduceMul, true_or, or_true, ↓reduceIte, aOk, ref_null, null_null, false_or, Option.isSome_some, Option.getD_some, ite_true, ite_false, eq_self, not_false_eq_true, not_true_eq_false, ix_lt, e]
      exact fin F v7 v8 (fun x y hx hy => hF x y hx hy (by omega))
    | succ n ih =>
      intro i F v7 v8 hi hF
      have e : ¬ wl w < i := by omega
      rw [w_X9_compares_40]
      simp (disch := first | assumption | omega | decide | rfl) only [w_X9_compares_42, w_X9_compares_44, w_X9_compares_47, w_X9_compares_48, nl_int, nl_ref, nl_null, nl_un, nl_rf, nl_long, isR_ref, isR_null, isR_rf, rf_some, rf_none, rOf_ref, rOf_null, rOf_rf, kn_v, kn_0, true_and, and_true, and_self, tin, inA_x, inA_l, ix_add, ix_addl, ix_ladd, ix_mul, ix_mull, ix_lmul, ix_tn, lt_tn, Nat.reduceLeDiff, Nat.reduceLT, Nat.reduceAdd, Nat.reduceMul, true_or, or_true, ↓reduceIte, aOk, ref_null, null_null, false_or, Option.isSome_some, Option.getD_some, ite_true, ite_false, eq_self, not_false_eq_true, not_true_eq_false, ix_lt, e, ix_0]
      refine k3 (wl u + 1) 0 i F v8 (by omega) (by omega) (fun x y hx hy hq => hF x y hx hy (by omega)) (fun F' v7' v8' hF' => ?_)
      simp (disch := first | assumption | omega | decide | rfl) only [w_X9_compares_193, w_X9_compares_196, nl_int, nl_ref, nl_null, nl_un, nl_rf, nl_long, isR_ref, isR_null, isR_rf, rf_some, rf_none, rOf_ref, rOf_null, rOf_rf, kn_v, kn_0, true_and, and_true, and_self, tin, inA_x, inA_l, ix_add, ix_addl, ix_ladd, ix_mul, ix_mull, ix_lmul, ix_tn, lt_tn, Nat.reduceLeDiff, Nat.reduceLT, Nat.reduceAdd, Nat.reduceMul, true_or, or_true, ↓reduceIte, aOk, ref_null, null_null, false_or, Option.isSome_some, Option.getD_some, ite_true, ite_false, eq_self, not_false_eq_true, not_true_eq_false]
      exact ih (i + 1) F' v7' v8' (by omega) hF'
  simp (disch := first | assumption | omega | decide | rfl) only [w_X9_compares_37, w_X9_compares_38, nl_int, nl_ref, nl_null, nl_un, nl_rf, nl_long, isR_ref, isR_null, isR_rf, rf_some, rf_none, rOf_ref, rOf_null, rOf_rf, kn_v, kn_0, true_and, and_true, and_self, tin, inA_x, inA_l, ix_add, ix_addl, ix_ladd, ix_mul, ix_mull, ix_lmul, ix_tn, lt_tn, Nat.reduceLeDiff, Nat.reduceLT, Nat.reduceAdd, Nat.reduceMul, true_or, or_true, ↓reduceIte, aOk, ref_null, null_null, false_or, Option.isSome_some, Option.getD_some, ite_true, ite_false, eq_self, not_false_eq_true, not_true_eq_false, ix_0]
  have := k2 (wl w + 1) 0 (Ai h (m + 42)) un un (by omega) (fun x y _ _ hx => absurd hx (Nat.not_lt_zero _))
  rwa [sAi_self] at this
end
