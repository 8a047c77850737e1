/-! THE MODEL: compares -/
set_option maxRecDepth 100000
section
variable {d D m a b w u : Nat} {h : AH} {o : Option Ph}
theorem c_compares (hm : MO h m) (ha : a < 16) (hb : b < 16) (hwa : Al h (m + 3) a = lix w) (hub : Al h (m + 3) b = lix u) (hw : w < wMax) (hu : u < wMax) (hl : LnO h m 0 1 4 o) : Ca (D + 5) 173 [.ref m, .int (ix a), .int (ix b)] h (fun r h' => r = .inl none ∧ Md m cA [] h h' ∧ Ai h' (m + 36) = upd (Ai h (m + 36)) (16 * a + b) (ix (edF w u)) ∧ Ai h' (m + 37) = upd (Ai h (m + 37)) (16 * a + b) (ix (stF w u)) ∧ Ai h' (m + 38) = upd (Ai h (m + 38)) (16 * a + b) (ix (rhF w u)) ∧ Ai h' (m + 39) = upd (Ai h (m + 39)) (16 * a + b) (bz (nrF o w u))) := by
  generalize hQ : (fun r h' => r = .inl none ∧ Md m cA [] h h' ∧ Ai h' (m + 36) = upd (Ai h (m + 36)) (16 * a + b) (ix (edF w u)) ∧ Ai h' (m + 37) = upd (Ai h (m + 37)) (16 * a + b) (ix (stF w u)) ∧ Ai h' (m + 38) = upd (Ai h (m + 38)) (16 * a + b) (ix (rhF w u)) ∧ Ai h' (m + 39) = upd (Ai h (m + 39)) (16 * a + b) (bz (nrF o w u)) : Rs → AH → Prop) = Q
  rw [e_X9_compares]
  simp (disch := first | assumption | omega | decide | rfl) only [w_X9_compares_0, w_X9_compares_2, w_X9_compares_3, w_X9_compares_4, w_X9_compares_5, w_X9_compares_6, w_X9_compares_7, w_X9_compares_8, w_X9_compares_11, w_X9_compares_12, w_X9_compares_13, w_X9_compares_14, w_X9_compares_17, mo_0 hm, mo_soundName hm, mt_soundName hm, ml_soundName hm, mo_lettersA hm, mt_lettersA hm, ml_lettersA hm, mo_lettersB hm, mt_lettersB hm, ml_lettersB hm, mo_changes hm, mt_changes hm, ml_changes hm, mo_edits hm, mt_edits hm, ml_edits hm, mo_startOf hm, mt_startOf hm, ml_startOf hm, mo_rhymeOf hm, mt_rhymeOf hm, ml_rhymeOf hm, mo_lineTo hm, mt_lineTo hm, ml_lineTo hm, mo_lineFrom hm, mt_lineFrom hm, ml_lineFrom hm, mo_isNear hm, mt_isNear hm, ml_isNear hm, mo_valueOf hm, mt_valueOf hm, ml_valueOf hm, nl_int, nl_ref, nl_null, nl_un, nl_rf, nl_long, isR_ref, isR_null, isR_rf, rf_some, rf_none, rOf_ref, rOf_null, rOf_rf, kn_v, kn_0, true_and, and_true, and_self, tin, inA_x, inA_l, ix_add, ix_addl, ix_ladd, ix_mul, ix_mull, ix_lmul, ix_tn, lt_tn, Nat.reduceLeDiff, Nat.reduceLT, Nat.reduceAdd, Nat.reduceMul, true_or, or_true, ↓reduceIte, aOk, ref_null, null_null, false_or, Option.isSome_some, Option.getD_some, ite_true, ite_false, eq_self, not_false_eq_true, not_true_eq_false, hwa]
  refine ca_mono (c_spells hw (by rw [mt_lettersA hm]; decide) (ml_lettersA hm)) ?_
  rintro r h1 ⟨rfl, F1, rfl, hF1⟩
  have hub1 : Al (sAi h (m + 40) F1) (m + 3) b = lix u := hub
  have g40 : ∀ k, k < wl w → Ai (sAi h (m + 40) F1) (m + 40) k = ix (ltr w k) := fun k hk => by rw [Ai_same]; exact hF1 k hk
  have n1 : ∀ k, k ≠ 40 → Ai (sAi h (m + 40) F1) (m + k) = Ai h (m + k) := fun k hk => Ai_other (by omega)
  have u1 : Md m cA [] h (sAi h (m + 40) F1) := md_sAi (by simp)
  revert hub1 g40 n1 u1
  generalize sAi h (m + 40) F1 = h1
  intro hub1 g40 n1 u1
  have hm1 := u1.mo hm
  simp (disch := first | assumption | omega | decide | rfl) only [w_X9_compares_20, w_X9_compares_22, w_X9_compares_23, w_X9_compares_26, w_X9_compares_27, w_X9_compares_28, w_X9_compares_29, w_X9_compares_32, mo_0 hm1, mo_soundName hm1, mt_soundName hm1, ml_soundName hm1, mo_lettersA hm1, mt_lettersA hm1, ml_lettersA hm1, mo_lettersB hm1, mt_lettersB hm1, ml_lettersB hm1, mo_changes hm1, mt_changes hm1, ml_changes hm1, mo_edits hm1, mt_edits hm1, ml_edits hm1, mo_startOf hm1, mt_startOf hm1, ml_startOf hm1, mo_rhymeOf hm1, mt_rhymeOf hm1, ml_rhymeOf hm1, mo_lineTo hm1, mt_lineTo hm1, ml_lineTo hm1, mo_lineFrom hm1, mt_lineFrom hm1, ml_lineFrom hm1, mo_isNear hm1, mt_isNear hm1, ml_isNear hm1, mo_valueOf hm1, mt_valueOf hm1, ml_valueOf hm1, nl_int, nl_ref, nl_null, nl_un, nl_rf, nl_long, isR_ref, isR_null, isR_rf, rf_some, rf_none, rOf_ref, rOf_null, rOf_rf, kn_v, kn_0, true_and, and_true, and_self, tin, inA_x, inA_l, ix_add, ix_addl, ix_ladd, ix_mul, ix_mull, ix_lmul, ix_tn, lt_tn, Nat.reduceLeDiff, Nat.reduceLT, Nat.reduceAdd, Nat.reduceMul, true_or, or_true, ↓reduceIte, aOk, ref_null, null_null, false_or, Option.isSome_some, Option.getD_some, ite_true, ite_false, eq_self, not_false_eq_true, not_true_eq_false, hub1]
  refine ca_mono (c_spells hu (by rw [mt_lettersB hm1]; decide) (ml_lettersB hm1)) ?_
  rintro r h1' ⟨rfl, F2, rfl, hF2⟩
  have g41 : ∀ k, k < wl u → Ai (sAi h1 (m + 41) F2) (m + 41) k = ix (ltr u k) := fun k hk => by rw [Ai_same]; exact hF2 k hk
  have n2 : ∀ k, k ≠ 41 → Ai (sAi h1 (m + 41) F2) (m + k) = Ai h1 (m + k) := fun k hk => Ai_other (by omega)
  have u2 : Md m cA [] h (sAi h1 (m + 41) F2) := u1.trans (md_sAi (A := cA) (F := []) (by simp)) (fun _ q => q) (fun _ q => q)
  revert g41 n2 u2
  generalize sAi h1 (m + 41) F2 = h2
  intro g41 n2 u2
  have hm2 := u2.mo hm
  rw [kn_v]
  simp (disch := first | assumption | omega | decide | rfl) only [w_X9_compares_35, nl_int, nl_ref, nl_null, nl_un, nl_rf, nl_long, isR_ref, isR_null, isR_rf, rf_some, rf_none, rOf_ref, rOf_null, rOf_rf, kn_v, kn_0, true_and, and_true, and_self, tin, inA_x, inA_l, ix_add, ix_addl, ix_ladd, ix_mul, ix_mull, ix_lmul, ix_tn, lt_tn, Nat.reduceLeDiff, Nat.reduceLT, Nat.reduceAdd, Nat.reduceMul, true_or, or_true, ↓reduceIte, aOk, ref_null, null_null, false_or, Option.isSome_some, Option.getD_some, ite_true, ite_false, eq_self, not_false_eq_true, not_true_eq_false]
  refine cp_fill hm2 (fun k hk => by rw [n2 40 (by decide)]; exact g40 k hk) g41 (fun F v7 v8 hF => ?_)
  have f1 : Ai (sAi h2 (m + 42) F) (m + 42) (9 * wl w + wl u) = ix (edF w u) := by rw [Ai_same]; exact hF (wl w) (wl u) (Nat.le_refl _) (Nat.le_refl _)
  have n3 : ∀ k, k ≠ 42 → Ai (sAi h2 (m + 42) F) (m + k) = Ai h2 (m + k) := fun k hk => Ai_other (by omega)
  have u3 : Md m cA [] h (sAi h2 (m + 42) F) := u2.trans (md_sAi (A := cA) (F := []) (by simp)) (fun _ q => q) (fun _ q => q)
  revert f1 n3 u3
  generalize sAi h2 (m + 42) F = h3
  intro f1 n3 u3
  refine ru_mono (cp_m (u3.mo hm) ha hb (hl.md u3 (by decide) (by decide) (by decide)) (fun k hk => by rw [n3 40 (by decide), n2 40 (by decide)]; exact g40 k hk) (fun k hk => by rw [n3 41 (by decide)]; exact g41 k hk) f1) ?_
  rintro r h4 ⟨rfl, u4, t1, t2, t3, t4⟩
  rw [← hQ]
  refine ⟨rfl, u3.trans u4 (fun _ q => q) (fun _ q => q), ?_, ?_, ?_, ?_⟩
  · rw [t1, n3 36 (by decide), n2 36 (by decide), n1 36 (by decide)]
  · rw [t2, n3 37 (by decide), n2 37 (by decide), n1 37 (by decide)]
  · rw [t3, n3 38 (by decide), n2 38 (by decide), n1 38 (by decide)]
  · rw [t4, n3 39 (by decide), n2 39 (by decide), n1 39 (by decide)]
end
