/-! THE MODEL: who hears, what falls, what it is worth -/
set_option maxRecDepth 100000
theorem sFi_mid {h : AH} {f g a : Nat} {v w u : Int32} (e : f ≠ g) : sFi (sFi (sFi h f a v) g a w) f a u = sFi (sFi h g a w) f a u := by
  unfold sFi
  have : up2 (Fi (h.1, up2 (Fi (h.1, up2 (Fi h) f a v, h.2.2)) g a w, h.2.2)) f a u = up2 (Fi (h.1, up2 (Fi h) g a w, h.2.2)) f a u := by
    funext y z
    show (if y = f ∧ z = a then u else (if y = g ∧ z = a then w else (if y = f ∧ z = a then v else Fi h y z))) = if y = f ∧ z = a then u else (if y = g ∧ z = a then w else Fi h y z)
    by_cases q : y = f ∧ z = a
    · rw [if_pos q, if_pos q]
    · rw [if_neg q, if_neg q, if_neg q]
  exact congrArg (fun t => (h.1, t, h.2.2)) this
section
variable {d D m a b c p s w lane loud hang loose e n : Nat} {h : AH} {Q : Rs → AH → Prop} {O : Oc} {snd : Nat → Nat} {day : Int32}
noncomputable def whF (O : Oc) (snd : Nat → Nat) (c lane loud : Nat) : Nat := so (hwF O snd c lane loud) O.nA
noncomputable def ecF (O : Oc) (snd : Nat → Nat) (c lane loud : Nat) : Nat := so (heF O snd c lane loud) O.nA
theorem awF_lt (ha : a < 12) (hb : b < 12) : awF a b < 12 := by unfold awF; split <;> omega
theorem cm_hears (x : M0 h m O) (hc : c < O.nS) (hl : lane < 12) (hd : loud < 7) (hs : ∀ a, a < O.nA → snd a < O.nS) (hb : ∀ a, a < O.nA → Ai h (m + 53) (5 + a) = ix (snd a)) : Ca (D + 2) 193 [.ref m, .int (ix c), .int (ix lane), .int (ix loud)] h Q = Q (.inl none) (sFi (sFi h 130 m (ix (whF O snd c lane loud))) 131 m (ix (ecF O snd c lane loud))) := by
  have hm := x.mo
  have n1 := x.wo.nA
  have key : ∀ n j (h1 : AH) (v5 : Value), j + n = O.nA → Md m [] [130, 131] h h1 → Fi h1 130 m = ix (so (hwF O snd c lane loud) j) → Fi h1 131 m = ix (so (heF O snd c lane loud) j) → (∀ v w, sFi (sFi h1 130 m v) 131 m w = sFi (sFi h 130 m v) 131 m w) → Ru (D + 1) 193 13 [.ref m, .int (ix c), .int (ix lane), .int (ix loud), .int (ix j), v5] [] h1 Q = Q (.inl none) (sFi (sFi h 130 m (ix (whF O snd c lane loud))) 131 m (ix (ecF O snd c lane loud))) := by
    intro n
    induction n with
    | zero =>
      intro j h1 v5 hj u f1 f2 f3
      have ej : j = O.nA := by omega
      subst ej
      have x1 := x.md u
      have hm1 := x1.mo
      have g0 : Ai h1 (m + 2) 0 = ix O.nA := x1.mr.nA
      have e : ¬ O.nA < O.nA := by omega
      rw [w_X9_hears_13]
      simp (disch := first | assumption | omega | decide | rfl) only [w_X9_hears_15, w_X9_hears_16, w_X9_hears_19, w_X9_hears_20, w_X9_hears_21, w_X9_hears_110, mo_0 hm1, mo_orchard hm1, mt_orchard hm1, ml_orchard hm1, mo_sort hm1, mt_sort hm1, ml_sort hm1, mo_rowAt hm1, mt_rowAt hm1, ml_rowAt hm1, nl_int, nl_ref, nl_null, nl_un, nl_rf, nl_long, isR_ref, isR_null, isR_rf, rf_some, rf_none, rOf_ref, rOf_null, rOf_rf, kn_v, kn_0, true_and, and_true, and_self, tin, inA_x, inA_l, ix_add, ix_addl, ix_ladd, ix_mul, ix_mull, ix_lmul, ix_tn, lt_tn, Nat.reduceLeDiff, Nat.reduceLT, Nat.reduceAdd, Nat.reduceMul, true_or, or_true, ↓reduceIte, aOk, ref_null, null_null, false_or, Option.isSome_some, Option.getD_some, ite_true, ite_false, eq_self, not_false_eq_true, not_true_eq_false, g0, ix_lt, e]
      have e2 : h1 = sFi (sFi h1 130 m (ix (whF O snd c lane loud))) 131 m (ix (ecF O snd c lane loud)) := by
        rw [show ix (whF O snd c lane loud) = Fi h1 130 m from f1.symm, sFi_self, show ix (ecF O snd c lane loud) = Fi h1 131 m from f2.symm, sFi_self]
      rw [← f3, ← e2]
    | succ n ih =>
      intro j h1 v5 hj u f1 f2 f3
      have x1 := x.md u
      have hm1 := x1.mo
      have e : j < O.nA := by omega
      have g0 : Ai h1 (m + 2) 0 = ix O.nA := x1.mr.nA
      have g1 : Ai h1 (m + 6) j = ix (O.kd j) := by simpa using x1.mr.kd j e
      have g2 : Ai h1 (m + 8) j = ix (O.rw j) := by simpa using x1.mr.rw j e
      have b1 := x.wo.kd j e
      have b2 := x.wo.rw j e
      have b3 := awF_lt b2 hl
      have e0 : (ix (O.kd j) = 3) = (O.kd j = 3) := ix_eql (n := 3) (by omega) (by decide)
      have e1 := ix_one (k := j) (by omega)
      have hb1 : ∀ a, a < O.nA → Ai h1 (m + 53) (5 + a) = ix (snd a) := fun a ha => by rw [u.ai (by decide)]; exact hb a ha
      have nxt : ∀ (h2 : AH) (v5 : Value), Md m [] [130, 131] h h2 → Fi h2 130 m = ix (so (hwF O snd c lane loud) (j + 1)) → Fi h2 131 m = ix (so (heF O snd c lane loud) (j + 1)) → (∀ v w, sFi (sFi h2 130 m v) 131 m w = sFi (sFi h 130 m v) 131 m w) → Ru (D + 1) 193 104 [.ref m, .int (ix c), .int (ix lane), .int (ix loud), .int (ix j), v5] [] h2 Q = Q (.inl none) (sFi (sFi h 130 m (ix (whF O snd c lane loud))) 131 m (ix (ecF O snd c lane loud))) := by
        intro h2 v5 u2 f4 f5 f6
        simp (disch := first | assumption | omega | decide | rfl) only [w_X9_hears_104, w_X9_hears_107, nl_int, nl_ref, nl_null, nl_un, nl_rf, nl_long, isR_ref, isR_null, isR_rf, rf_some, rf_none, rOf_ref, rOf_null, rOf_rf, kn_v, kn_0, true_and, and_true, and_self, tin, inA_x, inA_l, ix_add, ix_addl, ix_ladd, ix_mul, ix_mull, ix_lmul, ix_tn, lt_tn, Nat.reduceLeDiff, Nat.reduceLT, Nat.reduceAdd, Nat.reduceMul, true_or, or_true, ↓reduceIte, aOk, ref_null, null_null, false_or, Option.isSome_some, Option.getD_some, ite_true, ite_false, eq_self, not_false_eq_true, not_true_eq_false]
        exact ih (j + 1) h2 v5 (by omega) u2 f4 f5 f6
      rw [w_X9_hears_13]
      by_cases q : O.kd j = 3
      · have e0 : (ix (O.kd j) = 3) = True := by rw [e0]; exact eq_true q
        simp (disch := first | assumption | omega | decide | rfl) only [w_X9_hears_15, w_X9_hears_16, w_X9_hears_19, w_X9_hears_20, w_X9_hears_21, w_X9_hears_24, w_X9_hears_25, w_X9_hears_28, w_X9_hears_30, w_X9_hears_31, w_X9_hears_32, mo_0 hm1, mo_orchard hm1, mt_orchard hm1, ml_orchard hm1, mo_sort hm1, mt_sort hm1, ml_sort hm1, mo_rowAt hm1, mt_rowAt hm1, ml_rowAt hm1, nl_int, nl_ref, nl_null, nl_un, nl_rf, nl_long, isR_ref, isR_null, isR_rf, rf_some, rf_none, rOf_ref, rOf_null, rOf_rf, kn_v, kn_0, true_and, and_true, and_self, tin, inA_x, inA_l, ix_add, ix_addl, ix_ladd, ix_mul, ix_mull, ix_lmul, ix_tn, lt_tn, Nat.reduceLeDiff, Nat.reduceLT, Nat.reduceAdd, Nat.reduceMul, true_or, or_true, ↓reduceIte, aOk, ref_null, null_null, false_or, Option.isSome_some, Option.getD_some, ite_true, ite_false, eq_self, not_false_eq_true, not_true_eq_false, g0, g1, ix_lt, e, e0]
        refine nxt h1 _ u ?_ ?_ f3
        · rw [f1, so, if_neg]; simp [hwF, q]
        · rw [f2, so, if_neg]; simp [heF, q]
      · have e0 : (ix (O.kd j) = 3) = False := by rw [e0]; exact eq_false q
        simp (disch := first | assumption | omega | decide | rfl) only [w_X9_hears_15, w_X9_hears_16, w_X9_hears_19, w_X9_hears_20, w_X9_hears_21, w_X9_hears_24, w_X9_hears_25, w_X9_hears_28, w_X9_hears_30, w_X9_hears_31, w_X9_hears_32, w_X9_hears_35, w_X9_hears_36, w_X9_hears_37, w_X9_hears_39, mo_0 hm1, mo_orchard hm1, mt_orchard hm1, ml_orchard hm1, mo_sort hm1, mt_sort hm1, ml_sort hm1, mo_rowAt hm1, mt_rowAt hm1, ml_rowAt hm1, nl_int, nl_ref, nl_null, nl_un, nl_rf, nl_long, isR_ref, isR_null, isR_rf, rf_some, rf_none, rOf_ref, rOf_null, rOf_rf, kn_v, kn_0, true_and, and_true, and_self, tin, inA_x, inA_l, ix_add, ix_addl, ix_ladd, ix_mul, ix_mull, ix_lmul, ix_tn, lt_tn, Nat.reduceLeDiff, Nat.reduceLT, Nat.reduceAdd, Nat.reduceMul, true_or, or_true, ↓reduceIte, aOk, ref_null, null_null, false_or, Option.isSome_some, Option.getD_some, ite_true, ite_false, eq_self, not_false_eq_true, not_true_eq_false, g0, g1, ix_lt, e, e0]
        rw [cm_like (snd := snd) x1 hc e hs hb1]
        by_cases q2 : liF O snd c j = true
        · have c2 : (bz (liF O snd c j) = 0) = False := by rw [bz_ne]; exact eq_false (by rw [q2]; decide)
          simp (disch := first | assumption | omega | decide | rfl) only [w_X9_hears_42, w_X9_hears_45, w_X9_hears_48, w_X9_hears_49, w_X9_hears_52, w_X9_hears_54, w_X9_hears_55, w_X9_hears_56, w_X9_hears_59, w_X9_hears_61, w_X9_hears_63, mo_0 hm1, mo_orchard hm1, mt_orchard hm1, ml_orchard hm1, mo_sort hm1, mt_sort hm1, ml_sort hm1, mo_rowAt hm1, mt_rowAt hm1, ml_rowAt hm1, nl_int, nl_ref, nl_null, nl_un, nl_rf, nl_long, isR_ref, isR_null, isR_rf, rf_some, rf_none, rOf_ref, rOf_null, rOf_rf, kn_v, kn_0, true_and, and_true, and_self, tin, inA_x, inA_l, ix_add, ix_addl, ix_ladd, ix_mul, ix_mull, ix_lmul, ix_tn, lt_tn, Nat.reduceLeDiff, Nat.reduceLT, Nat.reduceAdd, Nat.reduceMul, true_or, or_true, ↓reduceIte, aOk, ref_null, null_null, false_or, Option.isSome_some, Option.getD_some, ite_true, ite_false, eq_self, not_false_eq_true, not_true_eq_false, c2, g2, cm_away]
          by_cases q3 : awF (O.rw j) lane ≤ loud
          · have q4 : ¬ loud < awF (O.rw j) lane := by omega
            simp (disch := first | assumption | omega | decide | rfl) only [w_X9_hears_64, w_X9_hears_67, w_X9_hears_68, w_X9_hears_69, w_X9_hears_72, w_X9_hears_73, w_X9_hears_75, w_X9_hears_76, w_X9_hears_77, w_X9_hears_80, mo_0 hm1, mo_orchard hm1, mt_orchard hm1, ml_orchard hm1, mo_sort hm1, mt_sort hm1, ml_sort hm1, mo_rowAt hm1, mt_rowAt hm1, ml_rowAt hm1, nl_int, nl_ref, nl_null, nl_un, nl_rf, nl_long, isR_ref, isR_null, isR_rf, rf_some, rf_none, rOf_ref, rOf_null, rOf_rf, kn_v, kn_0, true_and, and_true, and_self, tin, inA_x, inA_l, ix_add, ix_addl, ix_ladd, ix_mul, ix_mull, ix_lmul, ix_tn, lt_tn, Nat.reduceLeDiff, Nat.reduceLT, Nat.reduceAdd, Nat.reduceMul, true_or, or_true, ↓reduceIte, aOk, ref_null, null_null, false_or, Option.isSome_some, Option.getD_some, ite_true, ite_false, eq_self, not_false_eq_true, not_true_eq_false, ix_lt, q4, f1, e1, ix_or]
            refine nxt _ _ (u.trans (md_sFi (A := []) (F := [130, 131]) (by decide)) (fun _ q => q) (fun _ q => q)) ?_ ?_ ?_
            · rw [Fi_same, so, if_pos]; simp [hwF, q, q2, q3]
            · rw [Fi_otherf (by decide), f2, so, if_neg]; simp [heF, q, q2]; omega
            · intro v w; rw [sFi_sFi]; exact f3 v w
          · have q4 : loud < awF (O.rw j) lane := by omega
            by_cases q5 : awF (O.rw j) lane ≤ 2 * loud
            · have q6 : ¬ 2 * loud < awF (O.rw j) lane := by omega
              simp (disch := first | assumption | omega | decide | rfl) only [w_X9_hears_64, w_X9_hears_83, w_X9_hears_85, w_X9_hears_86, w_X9_hears_87, w_X9_hears_88, w_X9_hears_91, w_X9_hears_92, w_X9_hears_93, w_X9_hears_96, w_X9_hears_97, w_X9_hears_99, w_X9_hears_100, w_X9_hears_101, mo_0 hm1, mo_orchard hm1, mt_orchard hm1, ml_orchard hm1, mo_sort hm1, mt_sort hm1, ml_sort hm1, mo_rowAt hm1, mt_rowAt hm1, ml_rowAt hm1, nl_int, nl_ref, nl_null, nl_un, nl_rf, nl_long, isR_ref, isR_null, isR_rf, rf_some, rf_none, rOf_ref, rOf_null, rOf_rf, kn_v, kn_0, true_and, and_true, and_self, tin, inA_x, inA_l, ix_add, ix_addl, ix_ladd, ix_mul, ix_mull, ix_lmul, ix_tn, lt_tn, Nat.reduceLeDiff, Nat.reduceLT, Nat.reduceAdd, Nat.reduceMul, true_or, or_true, ↓reduceIte, aOk, ref_null, null_null, false_or, Option.isSome_some, Option.getD_some, ite_true, ite_false, eq_self, not_false_eq_true, not_true_eq_false, ix_lt, q4, q6, f2, e1, ix_or]
              refine nxt _ _ (u.trans (md_sFi (A := []) (F := [130, 131]) (by decide)) (fun _ q => q) (fun _ q => q)) ?_ ?_ ?_
              · rw [Fi_otherf (by decide), f1, so, if_neg]; simp [hwF, q, q2, q3]
              · rw [Fi_same, so, if_pos]; simp [heF, q, q2, q4, q5]
              · intro v w
                have : sFi (sFi (sFi h1 131 m (ix (so (heF O snd c lane loud) j ||| 2 ^ j))) 130 m v) 131 m w = sFi (sFi h1 130 m v) 131 m w := sFi_mid (by decide)
                rw [this]; exact f3 v w
            · have q6 : 2 * loud < awF (O.rw j) lane := by omega
              simp (disch := first | assumption | omega | decide | rfl) only [w_X9_hears_64, w_X9_hears_83, w_X9_hears_85, w_X9_hears_86, w_X9_hears_87, w_X9_hears_88, mo_0 hm1, mo_orchard hm1, mt_orchard hm1, ml_orchard hm1, mo_sort hm1, mt_sort hm1, ml_sort hm1, mo_rowAt hm1, mt_rowAt hm1, ml_rowAt hm1, nl_int, nl_ref, nl_null, nl_un, nl_rf, nl_long, isR_ref, isR_null, isR_rf, rf_some, rf_none, rOf_ref, rOf_null, rOf_rf, kn_v, kn_0, true_and, and_true, and_self, tin, inA_x, inA_l, ix_add, ix_addl, ix_ladd, ix_mul, ix_mull, ix_lmul, ix_tn, lt_tn, Nat.reduceLeDiff, Nat.reduceLT, Nat.reduceAdd, Nat.reduceMul, true_or, or_true, ↓reduceIte, aOk, ref_null, null_null, false_or, Option.isSome_some, Option.getD_some, ite_true, ite_false, eq_self, not_false_eq_true, not_true_eq_false, ix_lt, q4, q6]
              refine nxt h1 _ u ?_ ?_ f3
              · rw [f1, so, if_neg]; simp [hwF, q, q2, q3]
              · rw [f2, so, if_neg]; simp [heF, q, q2, q4]; omega
        · have c2 : (bz (liF O snd c j) = 0) = True := by rw [bz_ne]; exact eq_true (by simpa using q2)
          simp (disch := first | assumption | omega | decide | rfl) only [w_X9_hears_42, w_X9_hears_45, nl_int, nl_ref, nl_null, nl_un, nl_rf, nl_long, isR_ref, isR_null, isR_rf, rf_some, rf_none, rOf_ref, rOf_null, rOf_rf, kn_v, kn_0, true_and, and_true, and_self, tin, inA_x, inA_l, ix_add, ix_addl, ix_ladd, ix_mul, ix_mull, ix_lmul, ix_tn, lt_tn, Nat.reduceLeDiff, Nat.reduceLT, Nat.reduceAdd, Nat.reduceMul, true_or, or_true, ↓reduceIte, aOk, ref_null, null_null, false_or, Option.isSome_some, Option.getD_some, ite_true, ite_false, eq_self, not_false_eq_true, not_true_eq_false, c2]
          refine nxt h1 _ u ?_ ?_ f3
          · rw [f1, so, if_neg]; simp [hwF, q2]
          · rw [f2, so, if_neg]; simp [heF, q2]
  rw [e_X9_hears]
  simp (disch := first | assumption | omega | decide | rfl) only [w_X9_hears_0, w_X9_hears_1, w_X9_hears_2, w_X9_hears_5, w_X9_hears_6, w_X9_hears_7, w_X9_hears_10, w_X9_hears_11, mo_0 hm, mo_orchard hm, mt_orchard hm, ml_orchard hm, mo_sort hm, mt_sort hm, ml_sort hm, mo_rowAt hm, mt_rowAt hm, ml_rowAt hm, nl_int, nl_ref, nl_null, nl_un, nl_rf, nl_long, isR_ref, isR_null, isR_rf, rf_some, rf_none, rOf_ref, rOf_null, rOf_rf, kn_v, kn_0, true_and, and_true, and_self, tin, inA_x, inA_l, ix_add, ix_addl, ix_ladd, ix_mul, ix_mull, ix_lmul, ix_tn, lt_tn, Nat.reduceLeDiff, Nat.reduceLT, Nat.reduceAdd, Nat.reduceMul, true_or, or_true, ↓reduceIte, aOk, ref_null, null_null, false_or, Option.isSome_some, Option.getD_some, ite_true, ite_false, eq_self, not_false_eq_true, not_true_eq_false, Tg_sFi, Tg_sFl, Tg_sFr, Tg_sAi, Tg_sAl, Tg_sAr, An_sFi, An_sFl, An_sFr, An_sAi, An_sAl, An_sAr, Fi_sFl, Fi_sFr, Fi_sAi, Fi_sAl, Fi_sAr, Fl_sFi, Fl_sFr, Fl_sAi, Fl_sAl, Fl_sAr, Fr_sFi, Fr_sFl, Fr_sAi, Fr_sAl, Fr_sAr, Ai_sFi, Ai_sFl, Ai_sFr, Ai_sAl, Ai_sAr, Al_sFi, Al_sFl, Al_sFr, Al_sAi, Al_sAr, Ar_sFi, Ar_sFl, Ar_sFr, Ar_sAi, Ar_sAl, Fi_same, Fl_same, Fr_same, Ai_same, Al_same, Ar_same, Fi_otherf, Fl_otherf, Fr_otherf]
  rw [show (Value.int 0) = Value.int (ix 0) from rfl]
  refine key O.nA 0 _ _ (by omega) ((md_sFi (A := []) (F := [130, 131]) (by decide)).trans (md_sFi (A := []) (F := [130, 131]) (by decide)) (fun _ q => q) (fun _ q => q)) ?_ ?_ (fun v w => ?_)
  · rw [Fi_otherf (by decide), Fi_same]; rfl
  · rw [Fi_same]; rfl
  · rw [sFi_mid (by decide), sFi_sFi]
end
