/-! THE MODEL: compares, whole -/
set_option maxRecDepth 100000
section
variable {d D m a b w u : Nat} {h : AH} {Q : Rs → AH → Prop} {o : Option Ph} {l1 l2 l3 v7 v8 : Value}
theorem cp_m (hm : MO h m) (ha : a < 16) (hb : b < 16) (hl : LnO h m 0 1 4 o) (hA : ∀ k, k < wl w → Ai h (m + 40) k = ix (ltr w k)) (hB : ∀ k, k < wl u → Ai h (m + 41) k = ix (ltr u k)) (f1 : Ai h (m + 42) (9 * wl w + wl u) = ix (edF w u)) : Ru (D + 4) 173 199 [.ref m, .int (ix a), .int (ix b), .int (ix (16 * a + b)), .int (ix (wl w)), .int (ix (wl u)), .int (ix (wl w + 1)), v7, v8] [] h (fun r h' => r = .inl none ∧ Md m cA [] h h' ∧ Ai h' (m + 36) = upd (Ai h (m + 36)) (16 * a + b) (ix (edF w u)) ∧ Ai h' (m + 37) = upd (Ai h (m + 37)) (16 * a + b) (ix (stF w u)) ∧ Ai h' (m + 38) = upd (Ai h (m + 38)) (16 * a + b) (ix (rhF w u)) ∧ Ai h' (m + 39) = upd (Ai h (m + 39)) (16 * a + b) (bz (nrF o w u))) := by
  have hw8 := wl_le w
  have hu8 := wl_le u
  generalize hQ : (fun r h' => r = .inl none ∧ Md m cA [] h h' ∧ Ai h' (m + 36) = upd (Ai h (m + 36)) (16 * a + b) (ix (edF w u)) ∧ Ai h' (m + 37) = upd (Ai h (m + 37)) (16 * a + b) (ix (stF w u)) ∧ Ai h' (m + 38) = upd (Ai h (m + 38)) (16 * a + b) (ix (rhF w u)) ∧ Ai h' (m + 39) = upd (Ai h (m + 39)) (16 * a + b) (bz (nrF o w u)) : Rs → AH → Prop) = Q
  simp (disch := first | assumption | omega | decide | rfl) only [w_X9_compares_199, w_X9_compares_200, w_X9_compares_203, w_X9_compares_204, w_X9_compares_205, w_X9_compares_208, w_X9_compares_210, w_X9_compares_212, w_X9_compares_213, w_X9_compares_215, w_X9_compares_216, w_X9_compares_217, w_X9_compares_218, w_X9_compares_219, mo_0 hm, mo_soundName hm, mt_soundName hm, ml_soundName hm, mo_lettersA hm, mt_lettersA hm, ml_lettersA hm, mo_lettersB hm, mt_lettersB hm, ml_lettersB hm, mo_changes hm, mt_changes hm, ml_changes hm, mo_edits hm, mt_edits hm, ml_edits hm, mo_startOf hm, mt_startOf hm, ml_startOf hm, mo_rhymeOf hm, mt_rhymeOf hm, ml_rhymeOf hm, mo_lineTo hm, mt_lineTo hm, ml_lineTo hm, mo_lineFrom hm, mt_lineFrom hm, ml_lineFrom hm, mo_isNear hm, mt_isNear hm, ml_isNear hm, mo_valueOf hm, mt_valueOf hm, ml_valueOf hm, nl_int, nl_ref, nl_null, nl_un, nl_rf, nl_long, isR_ref, isR_null, isR_rf, rf_some, rf_none, rOf_ref, rOf_null, rOf_rf, kn_v, kn_0, true_and, and_true, and_self, tin, inA_x, inA_l, ix_add, ix_addl, ix_ladd, ix_mul, ix_mull, ix_lmul, ix_tn, lt_tn, Nat.reduceLeDiff, Nat.reduceLT, Nat.reduceAdd, Nat.reduceMul, true_or, or_true, ↓reduceIte, aOk, ref_null, null_null, false_or, Option.isSome_some, Option.getD_some, ite_true, ite_false, eq_self, not_false_eq_true, not_true_eq_false, Tg_sFi, Tg_sFl, Tg_sFr, Tg_sAi, Tg_sAl, Tg_sAr, An_sFi, An_sFl, An_sFr, An_sAi, An_sAl, An_sAr, Fi_sFl, Fi_sFr, Fi_sAi, Fi_sAl, Fi_sAr, Fl_sFi, Fl_sFr, Fl_sAi, Fl_sAl, Fl_sAr, Fr_sFi, Fr_sFl, Fr_sAi, Fr_sAl, Fr_sAr, Ai_sFi, Ai_sFl, Ai_sFr, Ai_sAl, Ai_sAr, Al_sFi, Al_sFl, Al_sFr, Al_sAi, Al_sAr, Ar_sFi, Ar_sFl, Ar_sFr, Ar_sAi, Ar_sAl, Fi_same, Fl_same, Fr_same, Ai_same, Al_same, Ar_same, Fi_otherf, Fl_otherf, Fr_otherf, Ai_other, f1, ix_0]
  have g36 : Ai (sAi h (m + 36) (upd (Ai h (m + 36)) (16 * a + b) (ix (edF w u)))) (m + 36) = upd (Ai h (m + 36)) (16 * a + b) (ix (edF w u)) := Ai_same
  have u2 : Md m cA [] h (sAi h (m + 36) (upd (Ai h (m + 36)) (16 * a + b) (ix (edF w u)))) := md_sAi (by simp)
  have n2 : ∀ k, k ≠ 36 → Ai (sAi h (m + 36) (upd (Ai h (m + 36)) (16 * a + b) (ix (edF w u)))) (m + k) = Ai h (m + k) := fun k hk => Ai_other (by omega)
  revert g36 u2 n2
  generalize sAi h (m + 36) (upd (Ai h (m + 36)) (16 * a + b) (ix (edF w u))) = h2
  intro g36 u2 n2
  have hm2 := u2.mo hm
  rw [cp_st hm2 (fun k hk => by rw [n2 40 (by decide)]; exact hA k hk) (fun k hk => by rw [n2 41 (by decide)]; exact hB k hk) (min (wl w) (wl u)) 0 (by omega)]
  rw [show cpre (fun k => decide (ltr w k = ltr u k)) (min (wl w) (wl u)) 0 = stF w u from rfl]
  simp (disch := first | assumption | omega | decide | rfl) only [w_X9_compares_258, w_X9_compares_259, w_X9_compares_262, w_X9_compares_263, w_X9_compares_265, w_X9_compares_266, w_X9_compares_267, mo_0 hm2, mo_soundName hm2, mt_soundName hm2, ml_soundName hm2, mo_lettersA hm2, mt_lettersA hm2, ml_lettersA hm2, mo_lettersB hm2, mt_lettersB hm2, ml_lettersB hm2, mo_changes hm2, mt_changes hm2, ml_changes hm2, mo_edits hm2, mt_edits hm2, ml_edits hm2, mo_startOf hm2, mt_startOf hm2, ml_startOf hm2, mo_rhymeOf hm2, mt_rhymeOf hm2, ml_rhymeOf hm2, mo_lineTo hm2, mt_lineTo hm2, ml_lineTo hm2, mo_lineFrom hm2, mt_lineFrom hm2, ml_lineFrom hm2, mo_isNear hm2, mt_isNear hm2, ml_isNear hm2, mo_valueOf hm2, mt_valueOf hm2, ml_valueOf hm2, nl_int, nl_ref, nl_null, nl_un, nl_rf, nl_long, isR_ref, isR_null, isR_rf, rf_some, rf_none, rOf_ref, rOf_null, rOf_rf, kn_v, kn_0, true_and, and_true, and_self, tin, inA_x, inA_l, ix_add, ix_addl, ix_ladd, ix_mul, ix_mull, ix_lmul, ix_tn, lt_tn, Nat.reduceLeDiff, Nat.reduceLT, Nat.reduceAdd, Nat.reduceMul, true_or, or_true, ↓reduceIte, aOk, ref_null, null_null, false_or, Option.isSome_some, Option.getD_some, ite_true, ite_false, eq_self, not_false_eq_true, not_true_eq_false, Tg_sFi, Tg_sFl, Tg_sFr, Tg_sAi, Tg_sAl, Tg_sAr, An_sFi, An_sFl, An_sFr, An_sAi, An_sAl, An_sAr, Fi_sFl, Fi_sFr, Fi_sAi, Fi_sAl, Fi_sAr, Fl_sFi, Fl_sFr, Fl_sAi, Fl_sAl, Fl_sAr, Fr_sFi, Fr_sFl, Fr_sAi, Fr_sAl, Fr_sAr, Ai_sFi, Ai_sFl, Ai_sFr, Ai_sAl, Ai_sAr, Al_sFi, Al_sFl, Al_sFr, Al_sAi, Al_sAr, Ar_sFi, Ar_sFl, Ar_sFr, Ar_sAi, Ar_sAl, Fi_same, Fl_same, Fr_same, Ai_same, Al_same, Ar_same, Fi_otherf, Fl_otherf, Fr_otherf, Ai_other, ix_0]
  have g37 : Ai (sAi h2 (m + 37) (upd (Ai h2 (m + 37)) (16 * a + b) (ix (stF w u)))) (m + 37) = upd (Ai h (m + 37)) (16 * a + b) (ix (stF w u)) := by rw [Ai_same, n2 37 (by decide)]
  have u3 : Md m cA [] h (sAi h2 (m + 37) (upd (Ai h2 (m + 37)) (16 * a + b) (ix (stF w u)))) := u2.trans (md_sAi (A := cA) (F := []) (by simp)) (fun _ q => q) (fun _ q => q)
  have n3 : ∀ k, k ≠ 37 → Ai (sAi h2 (m + 37) (upd (Ai h2 (m + 37)) (16 * a + b) (ix (stF w u)))) (m + k) = Ai h2 (m + k) := fun k hk => Ai_other (by omega)
  revert g37 u3 n3
  generalize sAi h2 (m + 37) (upd (Ai h2 (m + 37)) (16 * a + b) (ix (stF w u))) = h3
  intro g37 u3 n3
  have hm3 := u3.mo hm
  rw [cp_rh hm3 (fun k hk => by rw [n3 40 (by decide), n2 40 (by decide)]; exact hA k hk) (fun k hk => by rw [n3 41 (by decide), n2 41 (by decide)]; exact hB k hk) (min (wl w) (wl u)) 0 (by omega)]
  rw [show cpre (fun k => decide (ltr w (wl w - 1 - k) = ltr u (wl u - 1 - k))) (min (wl w) (wl u)) 0 = rhF w u from rfl]
  refine ru_mono (cp_t hm3 ha hb (hl.md u3 (by decide) (by decide) (by decide)) (by rw [n3 36 (by decide), g36]; exact upd_s) (by rw [g37]; exact upd_s)) ?_
  rintro r h4 ⟨rfl, u4, g38, g39⟩
  rw [← hQ]
  refine ⟨rfl, u3.trans u4 (by decide) (fun _ q => q), ?_, ?_, ?_, ?_⟩
  · rw [u4.ai (by decide), n3 36 (by decide), g36]
  · rw [u4.ai (by decide), g37]
  · rw [g38, n3 38 (by decide), n2 38 (by decide)]
  · rw [g39, n3 39 (by decide), n2 39 (by decide)]
end
