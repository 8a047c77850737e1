/-! BOUGHS as objects: made, copied, begun -/
set_option maxRecDepth 100000
section
variable {lo hi d D o a b c f n p k t w s e lane loud S hang l x' : Nat} {h h' h1 h2 : AH} {A : Nat → Prop} {O : Oc} {B : Bo} {φ : Ph} {Q : Rs → AH → Prop} {day v : Int32} {F : Nat → Int32} {r : Option Nat}
theorem XB.un (y : XB lo hi h b o n B) (u : Un A h h') (h1 : ¬ A b) (h2 : ¬ A (b + 1)) : XB lo hi h' b o n B := by
  have u1 := u.uk (Tg_nz y.tg (by decide)) h1
  have u2 := u.uk (Tg_nz y.ta (by decide)) h2
  obtain ⟨a1, a2, a3, a4, a5, a6, a7, a8⟩ := u1
  obtain ⟨b1, b2, b3, b4, b5, b6, b7, b8⟩ := u2
  unfold XB at y ⊢
  rw [a1, b1, b2, a5, a5, a3, a3, a3, a3, a3, b6]
  exact y
theorem XS.un (y : XS lo hi h b) (u : Un A h h') (h1 : ¬ A b) : XS lo hi h' b := by
  have u1 := u.uk (Tg_nz y.tg (by decide)) h1
  obtain ⟨a1, a2, a3, a4, a5, a6, a7, a8⟩ := u1
  exact ⟨a1.trans y.tg, by rw [a5]; exact y.sd, u.tg y.ta (by decide), by rw [u.an (by rw [y.ta]; decide)]; exact y.an, y.ou⟩
/-- only rows and facts are changed, cells may be new -/
def Ux (h h' : AH) : Prop := Un (fun a => Tg h a = 1014 ∨ Tg h a = 1015) h h'
theorem Ux.refl : Ux h h := Un.refl
theorem Sc.ux (u : Sc h h') : Ux h h' := u.un
theorem Ux.trans (u : Ux h h1) (t : Ux h1 h2) : Ux h h2 := Un.trans u t (fun z hz q => by
  have := (u.2.2.2.2.1 z hz).1
  rw [this] at q
  exact q)
theorem Ux.xo (u : Ux h h') (x : XO lo hi h o O) : XO lo hi h' o O := x.un sf_sc u
theorem Ux.xb (u : Ux h h') (y : XB lo hi h b o n B) : XB lo hi h' b o n B := y.un u (by rw [y.tg]; decide) (by rw [y.ta]; decide)
theorem Ux.xs (u : Ux h h') (y : XS lo hi h b) : XS lo hi h' b := y.un u (by rw [y.tg]; decide)
theorem c_boI (ht : Tg h b = 4) (hr : Rm h 10) : Ca (D + 2) 93 [.ref b] h Q = Q (.inl none) (sFr (nCe h 1013 10) 28 b (some (Nx h))) := by
  have t2 : Tg (nCe h 1013 10) b = 4 := by rw [Tg_nCe, if_neg (Nat.ne_of_lt (Tg_nz ht (by decide)))]; exact ht
  rw [e_X3_init]
  simp (disch := first | assumption | omega | decide | rfl) only [w_X3_init_0, w_X3_init_1, w_X3_init_4, w_X3_init_5, w_X3_init_7, w_X3_init_9, w_X3_init_12, nl_int, nl_ref, nl_null, nl_un, nl_rf, nl_long, isR_ref, isR_null, isR_rf, rf_some, rf_none, rOf_ref, rOf_null, rOf_rf, kn_v, kn_0, true_and, and_true, and_self, tin, inA_x, inA_l, ix_add, ix_addl, ix_ladd, ix_mul, ix_mull, ix_lmul, ix_tn, lt_tn, Nat.reduceLeDiff, Nat.reduceLT, Nat.reduceAdd, Nat.reduceMul, true_or, or_true, ↓reduceIte, aOk, ref_null, null_null, false_or, Option.isSome_some, Option.getD_some, ite_true, ite_false, eq_self, not_false_eq_true, not_true_eq_false, c_objI, t2, show (10 : Int32).toNatClampNeg = 10 from rfl, show ¬ (10 : Int32) < 0 from by decide, eq_true hr]
/-- new boughs: at Nx h, sounds behind them -/
noncomputable def nB (h : AH) : AH := sFr (nCe (nCe h 4 7) 1013 10) 28 (Nx h) (some (Nx h + 1))
theorem nB_un : Un (fun _ => False) h (nB h) := by
  have u1 : Un (fun _ => False) h (nCe h 4 7) := un_nCe
  have u2 : Un (fun _ => False) (nCe h 4 7) (nCe (nCe h 4 7) 1013 10) := un_nCe
  have u3 : Un (fun a => a = Nx h) (nCe (nCe h 4 7) 1013 10) (nB h) := un_sFr rfl
  have u4 := Un.trans u1 u2 (fun _ _ q => q)
  exact Un.trans u4 u3 (fun z hz q => by omega)
theorem nB_xs (hh : hi ≤ Nx h) : XS lo hi (nB h) (Nx h) := by
  have e1 : Tg (nCe (nCe h 4 7) 1013 10) (Nx h) = 4 := by rw [Tg_nCe, if_neg (by rw [Nx_nCe]; omega)]; exact Tg_new
  have e2 : Tg (nCe (nCe h 4 7) 1013 10) (Nx h + 1) = 1013 := Tg_new (h := nCe h 4 7)
  have e3 : An (nCe (nCe h 4 7) 1013 10) (Nx h + 1) = 10 := An_new (h := nCe h 4 7)
  exact ⟨e1, Fr_same, e2, e3, Or.inr hh⟩
theorem nB_nc : Nc (nB h) = Nc h + 2 ∧ Ns (nB h) = Ns h + 17 := ⟨rfl, rfl⟩
theorem nB_nx : Nx (nB h) = Nx h + 2 := rfl
theorem un_f {hh : AH} (u : Un (fun _ => False) h hh) : Ux h hh := u.mono (fun _ _ q => q.elim)
theorem Bx.ux (u : Bx c h1 h2) (t : Ux h h1) (hc : Nx h ≤ c) : Ux h h2 := Un.trans t u.un (fun z hz q => by
  have := (t.2.2.2.2.1 z hz).1
  rcases q with q | q | q
  · omega
  · omega
  · rw [this] at q; exact q)
theorem cx_copied (y : XB lo hi h b o n B) (hh : hi ≤ Nx h) (hn : n ≤ 10) (r1 : Nc h + 2 ≤ 601024) (r2 : Ns h + 17 ≤ 7293034) : Ca (D + 3) 102 [.ref b] h (fun r h' => r = .inl (some (.ref (Nx h))) ∧ Ux h h' ∧ XB lo hi h' (Nx h) o n B ∧ Nc h' = Nc h + 2 ∧ Ns h' = Ns h + 17) := by
  have hr1 : Rm h 7 := ⟨by omega, by omega⟩
  have hr2 : Rm (nCe h 4 7) 10 := ⟨by rw [Nc_nCe]; omega, by rw [Ns_nCe]; omega⟩
  have lb := Tg_nz y.tg (by decide)
  rw [e_X3_copied]
  simp (disch := first | assumption | omega | decide | rfl) only [w_X3_copied_0, w_X3_copied_3, w_X3_copied_4, nl_int, nl_ref, nl_null, nl_un, nl_rf, nl_long, isR_ref, isR_null, isR_rf, rf_some, rf_none, rOf_ref, rOf_null, rOf_rf, kn_v, kn_0, true_and, and_true, and_self, tin, inA_x, inA_l, ix_add, ix_addl, ix_ladd, ix_mul, ix_mull, ix_lmul, ix_tn, lt_tn, Nat.reduceLeDiff, Nat.reduceLT, Nat.reduceAdd, Nat.reduceMul, true_or, or_true, ↓reduceIte, aOk, ref_null, null_null, false_or, Option.isSome_some, Option.getD_some, ite_true, ite_false, eq_self, not_false_eq_true, not_true_eq_false, eq_true hr1, c_boI (b := Nx h) Tg_new hr2]
  have u1 := nB_un (h := h)
  have s1 := nB_xs (lo := lo) hh
  have z1 := nB_nc (h := h)
  rw [Nx_nCe]
  rw [show (sFr (nCe (nCe h 4 7) 1013 10) 28 (Nx h) (some (Nx h + 1))) = nB h from rfl]
  revert u1 s1 z1
  generalize nB h = h1
  intro u1 s1 z1
  have y1 := y.un u1 (fun q => q) (fun q => q)
  simp (disch := first | assumption | omega | decide | rfl) only [w_X3_copied_7, w_X3_copied_8, nl_int, nl_ref, nl_null, nl_un, nl_rf, nl_long, isR_ref, isR_null, isR_rf, rf_some, rf_none, rOf_ref, rOf_null, rOf_rf, kn_v, kn_0, true_and, and_true, and_self, tin, inA_x, inA_l, ix_add, ix_addl, ix_ladd, ix_mul, ix_mull, ix_lmul, ix_tn, lt_tn, Nat.reduceLeDiff, Nat.reduceLT, Nat.reduceAdd, Nat.reduceMul, true_or, or_true, ↓reduceIte, aOk, ref_null, null_null, false_or, Option.isSome_some, Option.getD_some, ite_true, ite_false, eq_self, not_false_eq_true, not_true_eq_false, s1.tg]
  refine ca_mono (cx_copies s1 y1 (Nat.ne_of_lt lb) hn) ?_
  rintro r h2 ⟨rfl, u2, y2⟩
  simp (disch := first | assumption | omega | decide | rfl) only [w_X3_copied_11, nl_int, nl_ref, nl_null, nl_un, nl_rf, nl_long, isR_ref, isR_null, isR_rf, rf_some, rf_none, rOf_ref, rOf_null, rOf_rf, kn_v, kn_0, true_and, and_true, and_self, tin, inA_x, inA_l, ix_add, ix_addl, ix_ladd, ix_mul, ix_mull, ix_lmul, ix_tn, lt_tn, Nat.reduceLeDiff, Nat.reduceLT, Nat.reduceAdd, Nat.reduceMul, true_or, or_true, ↓reduceIte, aOk, ref_null, null_null, false_or, Option.isSome_some, Option.getD_some, ite_true, ite_false, eq_self, not_false_eq_true, not_true_eq_false, y2.tg]
  refine ⟨u2.ux (un_f u1) (Nat.le_refl _), y2, ?_, ?_⟩
  · rw [u2.2.2.2.2.2.1]; exact z1.1
  · rw [u2.2.2.2.2.2.2.1]; exact z1.2
theorem cx_begins (x : XO lo hi h o O) (s : XS lo hi h b) : Ca (D + 5) 94 [.ref b, .ref o] h (fun r h' => r = .inl (some (.ref b)) ∧ Bx b h h' ∧ XB lo hi h' b o O.nA (beF O)) := by
  have n1 := x.wo.nA
  have e1 := ix_all n1
  rw [e_X3_begins nl_ref]
  generalize hQ : (fun r h' => r = .inl (some (.ref b)) ∧ Bx b h h' ∧ XB lo hi h' b o O.nA (beF O) : Rs → AH → Prop) = Q
  rw [w_X3_begins_0]
  simp (disch := first | assumption | omega | decide | rfl) only [w_X3_begins_1, w_X3_begins_2, nl_int, nl_ref, nl_null, nl_un, nl_rf, nl_long, isR_ref, isR_null, isR_rf, rf_some, rf_none, rOf_ref, rOf_null, rOf_rf, kn_v, kn_0, true_and, and_true, and_self, tin, inA_x, inA_l, ix_add, ix_addl, ix_ladd, ix_mul, ix_mull, ix_lmul, ix_tn, lt_tn, Nat.reduceLeDiff, Nat.reduceLT, Nat.reduceAdd, Nat.reduceMul, true_or, or_true, ↓reduceIte, aOk, ref_null, null_null, false_or, Option.isSome_some, Option.getD_some, ite_true, ite_false, eq_self, not_false_eq_true, not_true_eq_false, s.tg]
  have u1 : Bx b h (sFr h 25 b (some o)) := bx_fr (by decide)
  have a1 : Fr (sFr h 25 b (some o)) 25 b = some o := Fr_same
  revert u1 a1
  generalize sFr h 25 b (some o) = h1
  intro u1 a1
  have x1 := u1.xo x s.tg s.ta s.ou
  have s1 := u1.xs s
  simp (disch := first | assumption | omega | decide | rfl) only [w_X3_begins_5, w_X3_begins_6, w_X3_begins_7, w_X3_begins_8, w_X3_begins_11, w_X3_begins_14, w_X3_begins_15, w_X3_begins_16, w_X3_begins_17, w_X3_begins_20, w_X3_begins_21, w_X3_begins_22, w_X3_begins_25, nl_int, nl_ref, nl_null, nl_un, nl_rf, nl_long, isR_ref, isR_null, isR_rf, rf_some, rf_none, rOf_ref, rOf_null, rOf_rf, kn_v, kn_0, true_and, and_true, and_self, tin, inA_x, inA_l, ix_add, ix_addl, ix_ladd, ix_mul, ix_mull, ix_lmul, ix_tn, lt_tn, Nat.reduceLeDiff, Nat.reduceLT, Nat.reduceAdd, Nat.reduceMul, true_or, or_true, ↓reduceIte, aOk, ref_null, null_null, false_or, Option.isSome_some, Option.getD_some, ite_true, ite_false, eq_self, not_false_eq_true, not_true_eq_false, Tg_sFi, Tg_sFl, Tg_sFr, Tg_sAi, Tg_sAl, Tg_sAr, An_sFi, An_sFl, An_sFr, An_sAi, An_sAl, An_sAr, Fi_sFl, Fi_sFr, Fi_sAi, Fi_sAl, Fi_sAr, Fl_sFi, Fl_sFr, Fl_sAi, Fl_sAl, Fl_sAr, Fr_sFi, Fr_sFl, Fr_sAi, Fr_sAl, Fr_sAr, Ai_sFi, Ai_sFl, Ai_sFr, Ai_sAl, Ai_sAr, Al_sFi, Al_sFl, Al_sFr, Al_sAi, Al_sAr, Ar_sFi, Ar_sFl, Ar_sFr, Ar_sAi, Ar_sAl, Fi_same, Fl_same, Fr_same, Ai_same, Al_same, Ar_same, Fi_otherf, Fl_otherf, Fr_otherf, s1.tg, x1.tg, x1.ap.fr, x1.ap.wl.tg, x1.ap.size, e1]
  have u2 : Bx b h (sFi (sFi h1 26 b (ix (2 ^ O.nA - 1))) 27 b 0) := (u1.trans bx_fi).trans bx_fi
  have b1 : Fr (sFi (sFi h1 26 b (ix (2 ^ O.nA - 1))) 27 b 0) 25 b = some o := a1
  have b2 : Fi (sFi (sFi h1 26 b (ix (2 ^ O.nA - 1))) 27 b 0) 26 b = ix (2 ^ O.nA - 1) := by rw [Fi_otherf (by decide), Fi_same]
  have b3 : Fi (sFi (sFi h1 26 b (ix (2 ^ O.nA - 1))) 27 b 0) 27 b = ix 0 := Fi_same
  revert u2 b1 b2 b3
  generalize sFi (sFi h1 26 b (ix (2 ^ O.nA - 1))) 27 b 0 = h2
  intro u2 b1 b2 b3
  have key : ∀ n j h3, j + n = O.nA → Bx b h h3 → Fr h3 25 b = some o → Fi h3 26 b = ix (2 ^ O.nA - 1) → Fi h3 27 b = ix 0 → (∀ a, a < j → Ai h3 (b + 1) a = ix (O.ts a)) → Ru (D + 4) 94 27 [.ref b, .ref o, .int (ix j)] [] h3 Q := by
    intro n
    induction n with
    | zero =>
      intro j h3 hj u3 c1 c2 c3 c4
      have ej : j = O.nA := by omega
      subst ej
      have x3 := u3.xo x s.tg s.ta s.ou
      have s3 := u3.xs s
      have e : ¬ O.nA < O.nA := by omega
      simp (disch := first | assumption | omega | decide | rfl) only [w_X3_begins_27, w_X3_begins_28, w_X3_begins_29, w_X3_begins_32, w_X3_begins_35, w_X3_begins_38, w_X3_begins_39, w_X3_begins_42, w_X3_begins_43, w_X3_begins_44, w_X3_begins_47, w_X3_begins_48, w_X3_begins_51, w_X3_begins_54, w_X3_begins_57, w_X3_begins_58, w_X3_begins_61, w_X3_begins_64, w_X3_begins_65, w_X3_begins_66, w_X3_begins_69, w_X3_begins_70, w_X3_begins_71, w_X3_begins_74, w_X3_begins_75, w_X3_begins_76, w_X3_begins_79, w_X3_begins_80, nl_int, nl_ref, nl_null, nl_un, nl_rf, nl_long, isR_ref, isR_null, isR_rf, rf_some, rf_none, rOf_ref, rOf_null, rOf_rf, kn_v, kn_0, true_and, and_true, and_self, tin, inA_x, inA_l, ix_add, ix_addl, ix_ladd, ix_mul, ix_mull, ix_lmul, ix_tn, lt_tn, Nat.reduceLeDiff, Nat.reduceLT, Nat.reduceAdd, Nat.reduceMul, true_or, or_true, ↓reduceIte, aOk, ref_null, null_null, false_or, Option.isSome_some, Option.getD_some, ite_true, ite_false, eq_self, not_false_eq_true, not_true_eq_false, Tg_sFi, Tg_sFl, Tg_sFr, Tg_sAi, Tg_sAl, Tg_sAr, An_sFi, An_sFl, An_sFr, An_sAi, An_sAl, An_sAr, Fi_sFl, Fi_sFr, Fi_sAi, Fi_sAl, Fi_sAr, Fl_sFi, Fl_sFr, Fl_sAi, Fl_sAl, Fl_sAr, Fr_sFi, Fr_sFl, Fr_sAi, Fr_sAl, Fr_sAr, Ai_sFi, Ai_sFl, Ai_sFr, Ai_sAl, Ai_sAr, Al_sFi, Al_sFl, Al_sFr, Al_sAi, Al_sAr, Ar_sFi, Ar_sFl, Ar_sFr, Ar_sAi, Ar_sAl, Fi_same, Fl_same, Fr_same, Ai_same, Al_same, Ar_same, Fi_otherf, Fl_otherf, Fr_otherf, fot, bz_ne, bz_1, ite_bz, Bool.not_eq_false, Bool.not_eq_true, s3.tg, x3.tg, x3.ap.fr, x3.ap.wl.tg, x3.ap.size, ix_lt, e]
      rw [← hQ]
      refine ⟨rfl, ((u3.trans bx_fi).trans bx_fi).trans bx_fi, s3.tg, s3.sd, s3.ta, s3.an, s3.ou, c1, ?_, ?_, ?_, ?_, ?_, c4⟩
      · rw [Fi_otherf (by decide), Fi_otherf (by decide), Fi_otherf (by decide)]; exact c2
      · rw [Fi_otherf (by decide), Fi_otherf (by decide), Fi_otherf (by decide)]; exact c3
      · rw [Fi_otherf (by decide), Fi_otherf (by decide), Fi_same]; rfl
      · rw [Fi_otherf (by decide), Fi_same]; rfl
      · rw [Fi_same]; rfl
    | succ n ih =>
      intro j h3 hj u3 c1 c2 c3 c4
      have x3 := u3.xo x s.tg s.ta s.ou
      have s3 := u3.xs s
      have e : j < O.nA := by omega
      obtain ⟨-, p1, p2, p3, p4, p5, p6, p7⟩ := x3.ap1 j e
      have tm := tg_ap (x.wo.kd j e) p1
      rw [w_X3_begins_27]
      simp (disch := first | assumption | omega | decide | rfl) only [w_X3_begins_28, w_X3_begins_29, w_X3_begins_32, w_X3_begins_35, w_X3_begins_38, w_X3_begins_39, w_X3_begins_42, w_X3_begins_43, w_X3_begins_44, w_X3_begins_47, w_X3_begins_48, w_X3_begins_51, w_X3_begins_54, w_X3_begins_57, w_X3_begins_58, w_X3_begins_61, nl_int, nl_ref, nl_null, nl_un, nl_rf, nl_long, isR_ref, isR_null, isR_rf, rf_some, rf_none, rOf_ref, rOf_null, rOf_rf, kn_v, kn_0, true_and, and_true, and_self, tin, inA_x, inA_l, ix_add, ix_addl, ix_ladd, ix_mul, ix_mull, ix_lmul, ix_tn, lt_tn, Nat.reduceLeDiff, Nat.reduceLT, Nat.reduceAdd, Nat.reduceMul, true_or, or_true, ↓reduceIte, aOk, ref_null, null_null, false_or, Option.isSome_some, Option.getD_some, ite_true, ite_false, eq_self, not_false_eq_true, not_true_eq_false, Tg_sFi, Tg_sFl, Tg_sFr, Tg_sAi, Tg_sAl, Tg_sAr, An_sFi, An_sFl, An_sFr, An_sAi, An_sAl, An_sAr, Fi_sFl, Fi_sFr, Fi_sAi, Fi_sAl, Fi_sAr, Fl_sFi, Fl_sFr, Fl_sAi, Fl_sAl, Fl_sAr, Fr_sFi, Fr_sFl, Fr_sAi, Fr_sAl, Fr_sAr, Ai_sFi, Ai_sFl, Ai_sFr, Ai_sAl, Ai_sAr, Al_sFi, Al_sFl, Al_sFr, Al_sAi, Al_sAr, Ar_sFi, Ar_sFl, Ar_sFr, Ar_sAi, Ar_sAl, Fi_same, Fl_same, Fr_same, Ai_same, Al_same, Ar_same, Fi_otherf, Fl_otherf, Fr_otherf, s3.tg, s3.sd, s3.ta, s3.an, x3.tg, x3.ap.fr, x3.ap.wl.tg, x3.ap.size, x3.ap.get e, tm, p2, ix_lt, e]
      refine ih (j + 1) _ (by omega) (u3.trans bx_ai) c1 c2 c3 (fun a ha => ?_)
      rw [Ai_same]
      by_cases q : a = j
      · subst q; exact upd_s
      · rw [upd_n q]; exact c4 a (by omega)
  simp (disch := first | assumption | omega | decide | rfl) only [w_X3_begins_26, nl_int, nl_ref, nl_null, nl_un, nl_rf, nl_long, isR_ref, isR_null, isR_rf, rf_some, rf_none, rOf_ref, rOf_null, rOf_rf, kn_v, kn_0, true_and, and_true, and_self, tin, inA_x, inA_l, ix_add, ix_addl, ix_ladd, ix_mul, ix_mull, ix_lmul, ix_tn, lt_tn, Nat.reduceLeDiff, Nat.reduceLT, Nat.reduceAdd, Nat.reduceMul, true_or, or_true, ↓reduceIte, aOk, ref_null, null_null, false_or, Option.isSome_some, Option.getD_some, ite_true, ite_false, eq_self, not_false_eq_true, not_true_eq_false]
  exact key O.nA 0 h2 (by omega) u2 b1 b2 b3 (fun a ha => absurd ha (Nat.not_lt_zero _))
end
