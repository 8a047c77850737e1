/-! NAMEORCHARD: whom calls reach -/
set_option maxRecDepth 100000
noncomputable def nwC (O : Oc) (B : Bo) (k : Nat) : Bool := okC O k && !decide (whC O B k ||| ecC O B k = 0) && !anyb (fun e => okC O e && decide (whC O B e = whC O B k) && decide (ecC O B e = ecC O B k)) k 0
def RC (h : AH) (x : Nat) (O : Oc) (B : Bo) : Prop := (∀ c, c < 16 * O.nP → c % 16 < O.nS → Ai h (x + 41) c = bz (saF O (c / 16) (c % 16))) ∧ (∀ c, c < 16 * O.nP → c % 16 < O.nS → Ai h (x + 39) c = ix (whC O B c)) ∧ (∀ c, c < 16 * O.nP → c % 16 < O.nS → Ai h (x + 40) c = ix (ecC O B c))
theorem RC.m {h : AH} {x : Nat} {O : Oc} {B : Bo} (z_ : RC h x O B) : ∀ c, c < 16 * O.nP → c % 16 < O.nS → Ai h (x + 41) c = bz (saF O (c / 16) (c % 16)) := z_.1
theorem RC.w {h : AH} {x : Nat} {O : Oc} {B : Bo} (z_ : RC h x O B) : ∀ c, c < 16 * O.nP → c % 16 < O.nS → Ai h (x + 39) c = ix (whC O B c) := z_.2.1
theorem RC.e {h : AH} {x : Nat} {O : Oc} {B : Bo} (z_ : RC h x O B) : ∀ c, c < 16 * O.nP → c % 16 < O.nS → Ai h (x + 40) c = ix (ecC O B c) := z_.2.2
/-- rows of calls laid up to n -/
def RL (h : AH) (x : Nat) (O : Oc) (B : Bo) (n : Nat) : Prop := (∀ c, c < n → c % 16 < O.nS → Ai h (x + 41) c = bz (saF O (c / 16) (c % 16))) ∧ (∀ c, c < n → c % 16 < O.nS → Ai h (x + 39) c = ix (whC O B c)) ∧ (∀ c, c < n → c % 16 < O.nS → Ai h (x + 40) c = ix (ecC O B c))
theorem RL.m {h : AH} {x : Nat} {O : Oc} {B : Bo} {n : Nat} (z_ : RL h x O B n) : ∀ c, c < n → c % 16 < O.nS → Ai h (x + 41) c = bz (saF O (c / 16) (c % 16)) := z_.1
theorem RL.w {h : AH} {x : Nat} {O : Oc} {B : Bo} {n : Nat} (z_ : RL h x O B n) : ∀ c, c < n → c % 16 < O.nS → Ai h (x + 39) c = ix (whC O B c) := z_.2.1
theorem RL.e {h : AH} {x : Nat} {O : Oc} {B : Bo} {n : Nat} (z_ : RL h x O B n) : ∀ c, c < n → c % 16 < O.nS → Ai h (x + 40) c = ix (ecC O B c) := z_.2.2
section
variable {h h' h1 h2 : AH} {A : Nat → Prop} {x a b c p q l o lo hi n k t d D s j c' : Nat} {O : Oc} {S : Sg} {B : Bo} {Q : Rs → AH → Prop} {u v w y : Int32}
theorem XF.t39 (f : XF h x) : Tg h (x + 39) = 1016 := f.t (39, 1016) (by decide)
theorem XF.t40 (f : XF h x) : Tg h (x + 40) = 1017 := f.t (40, 1017) (by decide)
theorem XF.t41 (f : XF h x) : Tg h (x + 41) = 2001 := f.t (41, 2001) (by decide)
theorem XF.t52 (f : XF h x) : Tg h (x + 52) = 2002 := f.t (52, 2002) (by decide)
theorem XF.n39 (f : XF h x) : An h (x + 39) = 80 := f.n (39, 80) (by decide)
theorem XF.n40 (f : XF h x) : An h (x + 40) = 80 := f.n (40, 80) (by decide)
theorem XF.n41 (f : XF h x) : An h (x + 41) = 80 := f.n (41, 80) (by decide)
theorem XF.n52 (f : XF h x) : An h (x + 52) = 80 := f.n (52, 80) (by decide)
theorem XF.f45 (f : XF h x) : Fr h 45 (x + 38) = some (x + 39) := f.r (45, 38, 39) (by decide)
theorem XF.f46 (f : XF h x) : Fr h 46 (x + 38) = some (x + 40) := f.r (46, 38, 40) (by decide)
theorem XF.f47 (f : XF h x) : Fr h 47 (x + 38) = some (x + 41) := f.r (47, 38, 41) (by decide)
theorem XF.f48 (f : XF h x) : Fr h 48 (x + 38) = some x := f.r (48, 38, 0) (by decide)
theorem XF.f49 (f : XF h x) : Fr h 49 (x + 42) = some (x + 43) := f.r (49, 42, 43) (by decide)
theorem XF.f50 (f : XF h x) : Fr h 50 (x + 42) = some (x + 52) := f.r (50, 42, 52) (by decide)
theorem XF.f52 (f : XF h x) : Fr h 52 (x + 42) = some x := f.r (52, 42, 0) (by decide)
theorem RC.of (r : RC h x O B) (e1 : Ai h' (x + 39) = Ai h (x + 39)) (e2 : Ai h' (x + 40) = Ai h (x + 40)) (e3 : Ai h' (x + 41) = Ai h (x + 41)) : RC h' x O B := by
  unfold RC
  rw [e1, e2, e3]
  exact r
theorem Sc.ai (u : Sc h h') (h1 : Tg h a ≠ 1014) (h2 : Tg h a ≠ 1015) : Ai h' a = Ai h a := u.2.2.2.2.2.2.2.2.2.2.2 a h1 h2
theorem cx_lays (X : XN h x lo hi o b O S) (W : WB O S.B) : Ca (D + 264) 122 [.ref (x + 38)] h (fun r h' => r = .inl none ∧ Tf x h h' ∧ RC h' x O S.B) := by
  have n2 := X.xo.wo.nS
  have n3 := X.xo.wo.nP
  rw [e_X6_lays]
  simp (disch := first | assumption | omega | decide | rfl) only [w_X6_lays_0, w_X6_lays_1, nl_int, nl_ref, nl_null, nl_un, nl_rf, nl_long, isR_ref, isR_null, isR_rf, rf_some, rf_none, rOf_ref, rOf_null, rOf_rf, kn_v, kn_0, true_and, and_true, and_self, tin, inA_x, inA_l, ix_add, ix_addl, ix_ladd, ix_mul, ix_mull, ix_lmul, ix_tn, lt_tn, Nat.reduceLeDiff, Nat.reduceLT, Nat.reduceAdd, Nat.reduceMul, true_or, or_true, ↓reduceIte, aOk, ref_null, null_null, false_or, Option.isSome_some, Option.getD_some, ite_true, ite_false, eq_self, not_false_eq_true, not_true_eq_false, bz_ne, bz_1, reduceCtorEq, Bool.not_true, Bool.not_false]
  refine lp (P := fun j => ∀ h2 (v2 v3 v4 : Value), nl v2 = true → Tf x h h2 → RL h2 x O S.B (16 * j) → Ru (D + 263) 122 2 [.ref (x + 38), .int (ix j), v2, v3, v4] [] h2 _) (N := O.nP) ?_ ?_ h un un un rfl Tf.refl ⟨fun c hc => absurd hc (by omega), fun c hc => absurd hc (by omega), fun c hc => absurd hc (by omega)⟩
  · intro h2 v2 v3 v4 nv2 t2 r2
    have X2 := X.tf t2
    have e : ¬ O.nP < O.nP := by omega
    rw [w_X6_lays_2]
    simp (disch := first | assumption | omega | decide | rfl) only [w_X6_lays_3, w_X6_lays_4, w_X6_lays_7, w_X6_lays_10, w_X6_lays_13, w_X6_lays_16, w_X6_lays_143, nl_int, nl_ref, nl_null, nl_un, nl_rf, nl_long, isR_ref, isR_null, isR_rf, rf_some, rf_none, rOf_ref, rOf_null, rOf_rf, kn_v, kn_0, true_and, and_true, and_self, tin, inA_x, inA_l, ix_add, ix_addl, ix_ladd, ix_mul, ix_mull, ix_lmul, ix_tn, lt_tn, Nat.reduceLeDiff, Nat.reduceLT, Nat.reduceAdd, Nat.reduceMul, true_or, or_true, ↓reduceIte, aOk, ref_null, null_null, false_or, Option.isSome_some, Option.getD_some, ite_true, ite_false, eq_self, not_false_eq_true, not_true_eq_false, bz_ne, bz_1, reduceCtorEq, Bool.not_true, Bool.not_false, X2.f.t38, X2.f.f48, X2.f.tx, cx_now X2, X2.xo.tg, X2.xo.pe.fr, X2.xo.pe.wl.tg, X2.xo.pe.size, ix_lt, e]
    exact ⟨t2, r2⟩
  · intro p hp nx h2 v2 v3 v4 nv2 t2 r2
    have X2 := X.tf t2
    rw [w_X6_lays_2]
    obtain ⟨-, pt, -⟩ := X2.xo.pe1 p hp
    simp (disch := first | assumption | omega | decide | rfl) only [w_X6_lays_3, w_X6_lays_4, w_X6_lays_7, w_X6_lays_10, w_X6_lays_13, w_X6_lays_16, w_X6_lays_19, w_X6_lays_20, w_X6_lays_23, w_X6_lays_26, w_X6_lays_29, w_X6_lays_30, w_X6_lays_33, w_X6_lays_36, w_X6_lays_37, w_X6_lays_38, nl_int, nl_ref, nl_null, nl_un, nl_rf, nl_long, isR_ref, isR_null, isR_rf, rf_some, rf_none, rOf_ref, rOf_null, rOf_rf, kn_v, kn_0, true_and, and_true, and_self, tin, inA_x, inA_l, ix_add, ix_addl, ix_ladd, ix_mul, ix_mull, ix_lmul, ix_tn, lt_tn, Nat.reduceLeDiff, Nat.reduceLT, Nat.reduceAdd, Nat.reduceMul, true_or, or_true, ↓reduceIte, aOk, ref_null, null_null, false_or, Option.isSome_some, Option.getD_some, ite_true, ite_false, eq_self, not_false_eq_true, not_true_eq_false, bz_ne, bz_1, reduceCtorEq, Bool.not_true, Bool.not_false, X2.f.t38, X2.f.f48, X2.f.tx, cx_now X2, X2.xo.tg, X2.xo.pe.fr, X2.xo.pe.wl.tg, X2.xo.pe.size, X2.xo.pe.get hp, ix_lt, hp, pt]
    have eoe : ∀ h3, Tf x h2 h3 → oe h3 o 35 p = oe h2 o 35 p := by
      intro h3 t3
      exact (X2.xo.pe.un X2.sfx t3.1.1 (X2.sfx.uk t3.1.1 X2.xo.inn X2.xo.tg (by decide) (by decide) (by decide))).2.2 p
    generalize oe h2 o 35 p = pe at eoe
    refine lp (P := fun s => ∀ h3 (v4 : Value), Tf x h2 h3 → RL h3 x O S.B (16 * p + s) → Ru (D + 263) 122 39 [.ref (x + 38), .int (ix p), .ref pe, .int (ix s), v4] [] h3 _) (N := O.nS) ?_ ?_ h2 _ Tf.refl r2
    · intro h3 v4 t3 r3
      have X3 := X2.tf t3
      have e : ¬ O.nS < O.nS := by omega
      rw [w_X6_lays_39]
      simp (disch := first | assumption | omega | decide | rfl) only [w_X6_lays_40, w_X6_lays_41, w_X6_lays_44, w_X6_lays_47, w_X6_lays_137, w_X6_lays_140, nl_int, nl_ref, nl_null, nl_un, nl_rf, nl_long, isR_ref, isR_null, isR_rf, rf_some, rf_none, rOf_ref, rOf_null, rOf_rf, kn_v, kn_0, true_and, and_true, and_self, tin, inA_x, inA_l, ix_add, ix_addl, ix_ladd, ix_mul, ix_mull, ix_lmul, ix_tn, lt_tn, Nat.reduceLeDiff, Nat.reduceLT, Nat.reduceAdd, Nat.reduceMul, true_or, or_true, ↓reduceIte, aOk, ref_null, null_null, false_or, Option.isSome_some, Option.getD_some, ite_true, ite_false, eq_self, not_false_eq_true, not_true_eq_false, bz_ne, bz_1, reduceCtorEq, Bool.not_true, Bool.not_false, X3.f.t38, X3.f.f48, X3.f.tx, cx_sounds X3, ix_lt, e]
      refine nx h3 _ _ _ rfl (t2.trans t3) ?_
      obtain ⟨a1, a2, a3⟩ := r3
      exact ⟨fun c hc hs => a1 c (by omega) hs, fun c hc hs => a2 c (by omega) hs, fun c hc hs => a3 c (by omega) hs⟩
    · intro s hs ns h3 v4 t3 r3
      have X3 := X2.tf t3
      obtain ⟨-, q1, q2, q3, -⟩ := X3.xo.pe1 p hp
      rw [eoe h3 t3] at q1 q2 q3
      have f16 : ix (16 * p + s) = ix (16 * p + s) := rfl
      have ew : whF O S.B.snd s (O.ln p) (O.ld p) = whC O S.B (16 * p + s) := by unfold whC; rw [show (16 * p + s) % 16 = s by omega, show (16 * p + s) / 16 = p by omega]
      have ee : ecF O S.B.snd s (O.ln p) (O.ld p) = ecC O S.B (16 * p + s) := by unfold ecC; rw [show (16 * p + s) % 16 = s by omega, show (16 * p + s) / 16 = p by omega]
      rw [w_X6_lays_39]
      simp (disch := first | assumption | omega | decide | rfl) only [w_X6_lays_40, w_X6_lays_41, w_X6_lays_44, w_X6_lays_47, w_X6_lays_50, w_X6_lays_52, w_X6_lays_53, w_X6_lays_54, w_X6_lays_55, w_X6_lays_56, w_X6_lays_58, w_X6_lays_59, w_X6_lays_62, w_X6_lays_64, w_X6_lays_65, w_X6_lays_68, w_X6_lays_71, w_X6_lays_72, w_X6_lays_73, w_X6_lays_76, nl_int, nl_ref, nl_null, nl_un, nl_rf, nl_long, isR_ref, isR_null, isR_rf, rf_some, rf_none, rOf_ref, rOf_null, rOf_rf, kn_v, kn_0, true_and, and_true, and_self, tin, inA_x, inA_l, ix_add, ix_addl, ix_ladd, ix_mul, ix_mull, ix_lmul, ix_tn, lt_tn, Nat.reduceLeDiff, Nat.reduceLT, Nat.reduceAdd, Nat.reduceMul, true_or, or_true, ↓reduceIte, aOk, ref_null, null_null, false_or, Option.isSome_some, Option.getD_some, ite_true, ite_false, eq_self, not_false_eq_true, not_true_eq_false, bz_ne, bz_1, reduceCtorEq, Bool.not_true, Bool.not_false, X3.f.t38, X3.f.f48, X3.f.tx, cx_sounds X3, ix_lt, hs, X3.f.f47, X3.f.t41, X3.f.n41, cx_now X3, X3.xo.tg, cx_says X3.xo hp hs, fot]
      have t4 : Tf x h3 (sAi h3 (x + 41) (upd (Ai h3 (x + 41)) (16 * p + s) (bz (saF O p s)))) := tf_ai (by unfold Xs; omega)
      have g1 : Ai (sAi h3 (x + 41) (upd (Ai h3 (x + 41)) (16 * p + s) (bz (saF O p s)))) (x + 41) = upd (Ai h3 (x + 41)) (16 * p + s) (bz (saF O p s)) := Ai_same
      have g2 : ∀ a, a ≠ x + 41 → Ai (sAi h3 (x + 41) (upd (Ai h3 (x + 41)) (16 * p + s) (bz (saF O p s)))) a = Ai h3 a := fun a ha => Ai_other ha
      have tg4 : Tg (sAi h3 (x + 41) (upd (Ai h3 (x + 41)) (16 * p + s) (bz (saF O p s)))) = Tg h3 := rfl
      have fi4 : Fi (sAi h3 (x + 41) (upd (Ai h3 (x + 41)) (16 * p + s) (bz (saF O p s)))) = Fi h3 := rfl
      revert t4 g1 g2 tg4 fi4
      generalize sAi h3 (x + 41) (upd (Ai h3 (x + 41)) (16 * p + s) (bz (saF O p s))) = h4
      intro t4 g1 g2 tg4 fi4
      have X4 := X3.tf t4
      simp (disch := first | assumption | omega | decide | rfl) only [w_X6_lays_77, w_X6_lays_78, w_X6_lays_81, w_X6_lays_83, w_X6_lays_84, w_X6_lays_87, w_X6_lays_90, w_X6_lays_91, w_X6_lays_94, w_X6_lays_95, w_X6_lays_98, w_X6_lays_99, w_X6_lays_100, nl_int, nl_ref, nl_null, nl_un, nl_rf, nl_long, isR_ref, isR_null, isR_rf, rf_some, rf_none, rOf_ref, rOf_null, rOf_rf, kn_v, kn_0, true_and, and_true, and_self, tin, inA_x, inA_l, ix_add, ix_addl, ix_ladd, ix_mul, ix_mull, ix_lmul, ix_tn, lt_tn, Nat.reduceLeDiff, Nat.reduceLT, Nat.reduceAdd, Nat.reduceMul, true_or, or_true, ↓reduceIte, aOk, ref_null, null_null, false_or, Option.isSome_some, Option.getD_some, ite_true, ite_false, eq_self, not_false_eq_true, not_true_eq_false, bz_ne, bz_1, reduceCtorEq, Bool.not_true, Bool.not_false, X4.f.t38, X4.f.f45, X4.f.f48, X4.f.tx, X4.fb, X4.xb.tg, tg4, fi4, q1, q2, q3]
      have hd1 := cx_heard (D := D + 3) X4.xo X4.xb W hs (X.xo.wo.ln p hp) (X.xo.wo.ld p hp) true
      rw [show bz true = 1 from rfl] at hd1
      refine ca_mono hd1 ?_
      rintro r h5 ⟨rfl, sc5⟩
      have X5 := X4.tf sc5.tf
      rw [if_pos rfl, ew]
      simp (disch := first | assumption | omega | decide | rfl) only [w_X6_lays_103, nl_int, nl_ref, nl_null, nl_un, nl_rf, nl_long, isR_ref, isR_null, isR_rf, rf_some, rf_none, rOf_ref, rOf_null, rOf_rf, kn_v, kn_0, true_and, and_true, and_self, tin, inA_x, inA_l, ix_add, ix_addl, ix_ladd, ix_mul, ix_mull, ix_lmul, ix_tn, lt_tn, Nat.reduceLeDiff, Nat.reduceLT, Nat.reduceAdd, Nat.reduceMul, true_or, or_true, ↓reduceIte, aOk, ref_null, null_null, false_or, Option.isSome_some, Option.getD_some, ite_true, ite_false, eq_self, not_false_eq_true, not_true_eq_false, bz_ne, bz_1, reduceCtorEq, Bool.not_true, Bool.not_false, X5.f.t39, X5.f.n39]
      have t6 : Tf x h5 (sAi h5 (x + 39) (upd (Ai h5 (x + 39)) (16 * p + s) (ix (whC O S.B (16 * p + s))))) := tf_ai (by unfold Xs; omega)
      have g3 : Ai (sAi h5 (x + 39) (upd (Ai h5 (x + 39)) (16 * p + s) (ix (whC O S.B (16 * p + s))))) (x + 39) = upd (Ai h5 (x + 39)) (16 * p + s) (ix (whC O S.B (16 * p + s))) := Ai_same
      have g4 : ∀ a, a ≠ x + 39 → Ai (sAi h5 (x + 39) (upd (Ai h5 (x + 39)) (16 * p + s) (ix (whC O S.B (16 * p + s))))) a = Ai h5 a := fun a ha => Ai_other ha
      have tg6 : Tg (sAi h5 (x + 39) (upd (Ai h5 (x + 39)) (16 * p + s) (ix (whC O S.B (16 * p + s))))) = Tg h5 := rfl
      have fi6 : Fi (sAi h5 (x + 39) (upd (Ai h5 (x + 39)) (16 * p + s) (ix (whC O S.B (16 * p + s))))) = Fi h5 := rfl
      revert t6 g3 g4 tg6 fi6
      generalize sAi h5 (x + 39) (upd (Ai h5 (x + 39)) (16 * p + s) (ix (whC O S.B (16 * p + s)))) = h6
      intro t6 g3 g4 tg6 fi6
      have X6 := X5.tf t6
      simp (disch := first | assumption | omega | decide | rfl) only [w_X6_lays_104, w_X6_lays_105, w_X6_lays_108, w_X6_lays_110, w_X6_lays_111, w_X6_lays_114, w_X6_lays_117, w_X6_lays_118, w_X6_lays_121, w_X6_lays_122, w_X6_lays_125, w_X6_lays_126, w_X6_lays_127, nl_int, nl_ref, nl_null, nl_un, nl_rf, nl_long, isR_ref, isR_null, isR_rf, rf_some, rf_none, rOf_ref, rOf_null, rOf_rf, kn_v, kn_0, true_and, and_true, and_self, tin, inA_x, inA_l, ix_add, ix_addl, ix_ladd, ix_mul, ix_mull, ix_lmul, ix_tn, lt_tn, Nat.reduceLeDiff, Nat.reduceLT, Nat.reduceAdd, Nat.reduceMul, true_or, or_true, ↓reduceIte, aOk, ref_null, null_null, false_or, Option.isSome_some, Option.getD_some, ite_true, ite_false, eq_self, not_false_eq_true, not_true_eq_false, bz_ne, bz_1, reduceCtorEq, Bool.not_true, Bool.not_false, X6.f.t38, X6.f.f46, X6.f.f48, X6.f.tx, X6.fb, X6.xb.tg, tg6, fi6, sc5.1, sc5.2.2.1, tg4, fi4, q1, q2, q3]
      have hd2 := cx_heard (D := D + 3) X6.xo X6.xb W hs (X.xo.wo.ln p hp) (X.xo.wo.ld p hp) false
      rw [show bz false = 0 from rfl] at hd2
      refine ca_mono hd2 ?_
      rintro r h7 ⟨rfl, sc7⟩
      have X7 := X6.tf sc7.tf
      rw [if_neg (by decide), ee]
      simp (disch := first | assumption | omega | decide | rfl) only [w_X6_lays_130, w_X6_lays_131, w_X6_lays_134, nl_int, nl_ref, nl_null, nl_un, nl_rf, nl_long, isR_ref, isR_null, isR_rf, rf_some, rf_none, rOf_ref, rOf_null, rOf_rf, kn_v, kn_0, true_and, and_true, and_self, tin, inA_x, inA_l, ix_add, ix_addl, ix_ladd, ix_mul, ix_mull, ix_lmul, ix_tn, lt_tn, Nat.reduceLeDiff, Nat.reduceLT, Nat.reduceAdd, Nat.reduceMul, true_or, or_true, ↓reduceIte, aOk, ref_null, null_null, false_or, Option.isSome_some, Option.getD_some, ite_true, ite_false, eq_self, not_false_eq_true, not_true_eq_false, bz_ne, bz_1, reduceCtorEq, Bool.not_true, Bool.not_false, X7.f.t40, X7.f.n40]
      refine ns _ _ ((((t3.trans t4).trans sc5.tf).trans t6).trans (sc7.tf.trans (tf_ai (by unfold Xs; omega)))) ?_
      obtain ⟨a1, a2, a3⟩ := r3
      have k41 : Ai h7 (x + 41) = upd (Ai h3 (x + 41)) (16 * p + s) (bz (saF O p s)) := by
        rw [sc7.ai (by rw [X6.f.t41]; decide) (by rw [X6.f.t41]; decide), g4 _ (by omega), sc5.ai (by rw [X4.f.t41]; decide) (by rw [X4.f.t41]; decide), g1]
      have k39 : Ai h7 (x + 39) = upd (Ai h3 (x + 39)) (16 * p + s) (ix (whC O S.B (16 * p + s))) := by
        rw [sc7.ai (by rw [X6.f.t39]; decide) (by rw [X6.f.t39]; decide), g3, sc5.ai (by rw [X4.f.t39]; decide) (by rw [X4.f.t39]; decide), g2 _ (by omega)]
      have k40 : Ai h7 (x + 40) = Ai h3 (x + 40) := by
        rw [sc7.ai (by rw [X6.f.t40]; decide) (by rw [X6.f.t40]; decide), g4 _ (by omega), sc5.ai (by rw [X4.f.t40]; decide) (by rw [X4.f.t40]; decide), g2 _ (by omega)]
      refine ⟨fun c hc hs' => ?_, fun c hc hs' => ?_, fun c hc hs' => ?_⟩
      · rw [Ai_other (by omega), k41]
        by_cases qc : c = 16 * p + s
        · rw [qc, upd_s, show (16 * p + s) % 16 = s by omega, show (16 * p + s) / 16 = p by omega]
        · rw [upd_n qc]; exact a1 c (by omega) hs'
      · rw [Ai_other (by omega), k39]
        by_cases qc : c = 16 * p + s
        · rw [qc, upd_s]
        · rw [upd_n qc]; exact a2 c (by omega) hs'
      · rw [Ai_same, k40]
        by_cases qc : c = 16 * p + s
        · rw [qc, upd_s]
        · rw [upd_n qc]; exact a3 c (by omega) hs'
theorem cx_all (X : XN h x lo hi o b O S) : Ca (D + 2) 123 [.ref (x + 38)] h Q = Q (.inl (some (.int (ix (16 * O.nP))))) h := by
  rw [e_X6_all]
  simp (disch := first | assumption | omega | decide | rfl) only [w_X6_all_0, w_X6_all_2, w_X6_all_3, w_X6_all_6, w_X6_all_9, w_X6_all_12, w_X6_all_15, w_X6_all_16, nl_int, nl_ref, nl_null, nl_un, nl_rf, nl_long, isR_ref, isR_null, isR_rf, rf_some, rf_none, rOf_ref, rOf_null, rOf_rf, kn_v, kn_0, true_and, and_true, and_self, tin, inA_x, inA_l, ix_add, ix_addl, ix_ladd, ix_mul, ix_mull, ix_lmul, ix_tn, lt_tn, Nat.reduceLeDiff, Nat.reduceLT, Nat.reduceAdd, Nat.reduceMul, true_or, or_true, ↓reduceIte, aOk, ref_null, null_null, false_or, Option.isSome_some, Option.getD_some, ite_true, ite_false, eq_self, not_false_eq_true, not_true_eq_false, bz_ne, bz_1, reduceCtorEq, Bool.not_true, Bool.not_false, X.f.t38, X.f.f48, X.f.tx, cx_now X, X.xo.tg, X.xo.pe.fr, X.xo.pe.wl.tg, X.xo.pe.size]
theorem cx_may (X : XN h x lo hi o b O S) (r : RC h x O B) (hc : c < 16 * O.nP) : Ca (D + 3) 125 [.ref (x + 38), .int (ix c)] h Q = Q (.inl (some (.int (bz (okC O c))))) h := by
  have n2 := X.xo.wo.nS
  have n3 := X.xo.wo.nP
  have r2 : ix c / 16 = ix (c / 16) := ix_dvl (n := 16) (by omega) (by decide) (by decide)
  rw [e_X6_may]
  unfold okC
  by_cases q : c % 16 < O.nS
  · have d1 : (c % 16 < O.nS) = True := eq_true q
    have g := r.m c hc q
    rw [decide_eq_true q, Bool.true_and]
    cases q2 : saF O (c / 16) (c % 16)
    · rw [q2] at g
      simp (disch := first | assumption | omega | decide | rfl) only [w_X6_may_0, w_X6_may_1, w_X6_may_3, w_X6_may_4, w_X6_may_5, w_X6_may_8, w_X6_may_11, w_X6_may_14, w_X6_may_15, w_X6_may_18, w_X6_may_19, w_X6_may_20, w_X6_may_23, w_X6_may_24, w_X6_may_27, w_X6_may_28, nl_int, nl_ref, nl_null, nl_un, nl_rf, nl_long, isR_ref, isR_null, isR_rf, rf_some, rf_none, rOf_ref, rOf_null, rOf_rf, kn_v, kn_0, true_and, and_true, and_self, tin, inA_x, inA_l, ix_add, ix_addl, ix_ladd, ix_mul, ix_mull, ix_lmul, ix_tn, lt_tn, Nat.reduceLeDiff, Nat.reduceLT, Nat.reduceAdd, Nat.reduceMul, true_or, or_true, ↓reduceIte, aOk, ref_null, null_null, false_or, Option.isSome_some, Option.getD_some, ite_true, ite_false, eq_self, not_false_eq_true, not_true_eq_false, bz_ne, bz_1, reduceCtorEq, Bool.not_true, Bool.not_false, X.f.t38, X.f.f48, X.f.tx, cx_sounds X, r2, ix_rem2, ix_lt, d1, X.f.f47, X.f.t41, X.f.n41, g]
      rfl
    · rw [q2] at g
      simp (disch := first | assumption | omega | decide | rfl) only [w_X6_may_0, w_X6_may_1, w_X6_may_3, w_X6_may_4, w_X6_may_5, w_X6_may_8, w_X6_may_11, w_X6_may_14, w_X6_may_15, w_X6_may_18, w_X6_may_19, w_X6_may_20, w_X6_may_23, w_X6_may_24, w_X6_may_27, w_X6_may_28, nl_int, nl_ref, nl_null, nl_un, nl_rf, nl_long, isR_ref, isR_null, isR_rf, rf_some, rf_none, rOf_ref, rOf_null, rOf_rf, kn_v, kn_0, true_and, and_true, and_self, tin, inA_x, inA_l, ix_add, ix_addl, ix_ladd, ix_mul, ix_mull, ix_lmul, ix_tn, lt_tn, Nat.reduceLeDiff, Nat.reduceLT, Nat.reduceAdd, Nat.reduceMul, true_or, or_true, ↓reduceIte, aOk, ref_null, null_null, false_or, Option.isSome_some, Option.getD_some, ite_true, ite_false, eq_self, not_false_eq_true, not_true_eq_false, bz_ne, bz_1, reduceCtorEq, Bool.not_true, Bool.not_false, X.f.t38, X.f.f48, X.f.tx, cx_sounds X, r2, ix_rem2, ix_lt, d1, X.f.f47, X.f.t41, X.f.n41, g]
      rfl
  · have d1 : (c % 16 < O.nS) = False := eq_false q
    rw [decide_eq_false q, Bool.false_and]
    simp (disch := first | assumption | omega | decide | rfl) only [w_X6_may_0, w_X6_may_1, w_X6_may_3, w_X6_may_4, w_X6_may_5, w_X6_may_8, w_X6_may_11, w_X6_may_27, w_X6_may_28, nl_int, nl_ref, nl_null, nl_un, nl_rf, nl_long, isR_ref, isR_null, isR_rf, rf_some, rf_none, rOf_ref, rOf_null, rOf_rf, kn_v, kn_0, true_and, and_true, and_self, tin, inA_x, inA_l, ix_add, ix_addl, ix_ladd, ix_mul, ix_mull, ix_lmul, ix_tn, lt_tn, Nat.reduceLeDiff, Nat.reduceLT, Nat.reduceAdd, Nat.reduceMul, true_or, or_true, ↓reduceIte, aOk, ref_null, null_null, false_or, Option.isSome_some, Option.getD_some, ite_true, ite_false, eq_self, not_false_eq_true, not_true_eq_false, bz_ne, bz_1, reduceCtorEq, Bool.not_true, Bool.not_false, X.f.t38, X.f.f48, X.f.tx, cx_sounds X, r2, ix_rem2, ix_lt, d1]
    rfl
theorem wc_lt (wo : WO O) : whC O B c < 1024 := so_lt wo.nA
theorem ecc_lt (wo : WO O) : ecC O B c < 1024 := so_lt wo.nA
theorem cx_rfalls (X : XN h x lo hi o b O S) (r : RC h x O S.B) (hc : c < 16 * O.nP) (ok : okC O c = true) (y : XB lo hi h t o O.nA B) (z : WB O B) : Ca (D + 9) 126 [.ref (x + 38), .ref t, .int (ix c)] h (fun r h' => r = .inl (some (.int (ix (faF O B.hang B.loose (whC O S.B c) (ecC O S.B c))))) ∧ Bx t h h' ∧ XB lo hi h' t o O.nA (sd B.hang (faF O B.hang B.loose (whC O S.B c) (ecC O S.B c)), loF O B.hang B.loose (whC O S.B c) (ecC O S.B c), B.snd, B.day, B.had, B.pk)) := by
  have n3 := X.xo.wo.nP
  unfold okC at ok
  rw [Bool.and_eq_true, decide_eq_true_eq] at ok
  rw [e_X6_falls nl_ref]
  simp (disch := first | assumption | omega | decide | rfl) only [w_X6_falls_0, w_X6_falls_1, w_X6_falls_2, w_X6_falls_5, w_X6_falls_6, w_X6_falls_7, w_X6_falls_8, w_X6_falls_11, w_X6_falls_12, w_X6_falls_13, nl_int, nl_ref, nl_null, nl_un, nl_rf, nl_long, isR_ref, isR_null, isR_rf, rf_some, rf_none, rOf_ref, rOf_null, rOf_rf, kn_v, kn_0, true_and, and_true, and_self, tin, inA_x, inA_l, ix_add, ix_addl, ix_ladd, ix_mul, ix_mull, ix_lmul, ix_tn, lt_tn, Nat.reduceLeDiff, Nat.reduceLT, Nat.reduceAdd, Nat.reduceMul, true_or, or_true, ↓reduceIte, aOk, ref_null, null_null, false_or, Option.isSome_some, Option.getD_some, ite_true, ite_false, eq_self, not_false_eq_true, not_true_eq_false, bz_ne, bz_1, reduceCtorEq, Bool.not_true, Bool.not_false, X.f.t38, X.f.f45, X.f.f46, X.f.t39, X.f.t40, X.f.n39, X.f.n40, r.w c hc ok.1, r.e c hc ok.1, y.tg]
  refine ca_mono (cx_falls X.xo y z (wc_lt X.xo.wo) (ecc_lt X.xo.wo)) ?_
  rintro r h2 ⟨rfl, bx, y2⟩
  simp (disch := first | assumption | omega | decide | rfl) only [w_X6_falls_16, nl_int, nl_ref, nl_null, nl_un, nl_rf, nl_long, isR_ref, isR_null, isR_rf, rf_some, rf_none, rOf_ref, rOf_null, rOf_rf, kn_v, kn_0, true_and, and_true, and_self, tin, inA_x, inA_l, ix_add, ix_addl, ix_ladd, ix_mul, ix_mull, ix_lmul, ix_tn, lt_tn, Nat.reduceLeDiff, Nat.reduceLT, Nat.reduceAdd, Nat.reduceMul, true_or, or_true, ↓reduceIte, aOk, ref_null, null_null, false_or, Option.isSome_some, Option.getD_some, ite_true, ite_false, eq_self, not_false_eq_true, not_true_eq_false, bz_ne, bz_1, reduceCtorEq, Bool.not_true, Bool.not_false]
  first | exact ⟨rfl, bx, y2⟩ | exact ⟨bx, y2⟩
theorem cx_isNew (X : XN h x lo hi o b O S) (r : RC h x O S.B) (hc : c < 16 * O.nP) : Ca (D + 4) 124 [.ref (x + 38), .int (ix c)] h Q = Q (.inl (some (.int (bz (nwC O S.B c))))) h := by
  have n3 := X.xo.wo.nP
  have w1 := wc_lt (B := S.B) (c := c) X.xo.wo
  have w2 := ecc_lt (B := S.B) (c := c) X.xo.wo
  rw [e_X6_isNew]
  unfold nwC
  cases q : okC O c
  · simp (disch := first | assumption | omega | decide | rfl) only [w_X6_isNew_0, w_X6_isNew_1, w_X6_isNew_2, w_X6_isNew_5, w_X6_isNew_24, w_X6_isNew_25, nl_int, nl_ref, nl_null, nl_un, nl_rf, nl_long, isR_ref, isR_null, isR_rf, rf_some, rf_none, rOf_ref, rOf_null, rOf_rf, kn_v, kn_0, true_and, and_true, and_self, tin, inA_x, inA_l, ix_add, ix_addl, ix_ladd, ix_mul, ix_mull, ix_lmul, ix_tn, lt_tn, Nat.reduceLeDiff, Nat.reduceLT, Nat.reduceAdd, Nat.reduceMul, true_or, or_true, ↓reduceIte, aOk, ref_null, null_null, false_or, Option.isSome_some, Option.getD_some, ite_true, ite_false, eq_self, not_false_eq_true, not_true_eq_false, bz_ne, bz_1, reduceCtorEq, Bool.not_true, Bool.not_false, X.f.t38, cx_may X r hc, q, Bool.false_and]
    rfl
  · have ok := q
    unfold okC at ok
    rw [Bool.and_eq_true, decide_eq_true_eq] at ok
    have g1 := r.w c hc ok.1
    have g2 := r.e c hc ok.1
    have b1 : whC O S.B c ||| ecC O S.B c < 1024 := or_lt w1 w2
    by_cases q2 : whC O S.B c ||| ecC O S.B c = 0
    · have d2 : (whC O S.B c ||| ecC O S.B c = 0) = True := eq_true q2
      simp (disch := first | assumption | omega | decide | rfl) only [w_X6_isNew_0, w_X6_isNew_1, w_X6_isNew_2, w_X6_isNew_5, w_X6_isNew_8, w_X6_isNew_9, w_X6_isNew_12, w_X6_isNew_13, w_X6_isNew_14, w_X6_isNew_15, w_X6_isNew_18, w_X6_isNew_19, w_X6_isNew_20, w_X6_isNew_21, w_X6_isNew_24, w_X6_isNew_25, nl_int, nl_ref, nl_null, nl_un, nl_rf, nl_long, isR_ref, isR_null, isR_rf, rf_some, rf_none, rOf_ref, rOf_null, rOf_rf, kn_v, kn_0, true_and, and_true, and_self, tin, inA_x, inA_l, ix_add, ix_addl, ix_ladd, ix_mul, ix_mull, ix_lmul, ix_tn, lt_tn, Nat.reduceLeDiff, Nat.reduceLT, Nat.reduceAdd, Nat.reduceMul, true_or, or_true, ↓reduceIte, aOk, ref_null, null_null, false_or, Option.isSome_some, Option.getD_some, ite_true, ite_false, eq_self, not_false_eq_true, not_true_eq_false, bz_ne, bz_1, reduceCtorEq, Bool.not_true, Bool.not_false, X.f.t38, cx_may X r hc, q, X.f.f45, X.f.f46, X.f.t39, X.f.t40, X.f.n39, X.f.n40, g1, g2, ix_or, ix_eql, d2, decide_true, Bool.and_false, Bool.false_and]
      rfl
    · have d2 : (whC O S.B c ||| ecC O S.B c = 0) = False := eq_false q2
      rw [decide_eq_false q2]
      simp (disch := first | assumption | omega | decide | rfl) only [w_X6_isNew_0, w_X6_isNew_1, w_X6_isNew_2, w_X6_isNew_5, w_X6_isNew_8, w_X6_isNew_9, w_X6_isNew_12, w_X6_isNew_13, w_X6_isNew_14, w_X6_isNew_15, w_X6_isNew_18, w_X6_isNew_19, w_X6_isNew_20, w_X6_isNew_21, w_X6_isNew_26, w_X6_isNew_27, nl_int, nl_ref, nl_null, nl_un, nl_rf, nl_long, isR_ref, isR_null, isR_rf, rf_some, rf_none, rOf_ref, rOf_null, rOf_rf, kn_v, kn_0, true_and, and_true, and_self, tin, inA_x, inA_l, ix_add, ix_addl, ix_ladd, ix_mul, ix_mull, ix_lmul, ix_tn, lt_tn, Nat.reduceLeDiff, Nat.reduceLT, Nat.reduceAdd, Nat.reduceMul, true_or, or_true, ↓reduceIte, aOk, ref_null, null_null, false_or, Option.isSome_some, Option.getD_some, ite_true, ite_false, eq_self, not_false_eq_true, not_true_eq_false, bz_ne, bz_1, reduceCtorEq, Bool.not_true, Bool.not_false, X.f.t38, cx_may X r hc, q, X.f.f45, X.f.f46, X.f.t39, X.f.t40, X.f.n39, X.f.n40, g1, g2, ix_or, ix_eql, d2]
      have key : ∀ n j, j + n = c → Ru (D + 3) 124 28 [.ref (x + 38), .int (ix c), .int (ix j)] [] h Q = Q (.inl (some (.int (bz (!anyb (fun e => okC O e && decide (whC O S.B e = whC O S.B c) && decide (ecC O S.B e = ecC O S.B c)) n j))))) h := by
        intro n
        induction n with
        | zero =>
          intro j hj
          have e : ¬ j < c := by omega
          rw [w_X6_isNew_28]
          simp (disch := first | assumption | omega | decide | rfl) only [w_X6_isNew_29, w_X6_isNew_30, w_X6_isNew_79, w_X6_isNew_80, nl_int, nl_ref, nl_null, nl_un, nl_rf, nl_long, isR_ref, isR_null, isR_rf, rf_some, rf_none, rOf_ref, rOf_null, rOf_rf, kn_v, kn_0, true_and, and_true, and_self, tin, inA_x, inA_l, ix_add, ix_addl, ix_ladd, ix_mul, ix_mull, ix_lmul, ix_tn, lt_tn, Nat.reduceLeDiff, Nat.reduceLT, Nat.reduceAdd, Nat.reduceMul, true_or, or_true, ↓reduceIte, aOk, ref_null, null_null, false_or, Option.isSome_some, Option.getD_some, ite_true, ite_false, eq_self, not_false_eq_true, not_true_eq_false, bz_ne, bz_1, reduceCtorEq, Bool.not_true, Bool.not_false, ix_lt, e]
          rfl
        | succ n ih =>
          intro j hj
          have e : j < c := by omega
          have nx : Ru (D + 3) 124 73 [.ref (x + 38), .int (ix c), .int (ix j)] [] h Q = Q (.inl (some (.int (bz (!anyb (fun e => okC O e && decide (whC O S.B e = whC O S.B c) && decide (ecC O S.B e = ecC O S.B c)) n (j + 1)))))) h := by
            simp (disch := first | assumption | omega | decide | rfl) only [w_X6_isNew_73, w_X6_isNew_76, nl_int, nl_ref, nl_null, nl_un, nl_rf, nl_long, isR_ref, isR_null, isR_rf, rf_some, rf_none, rOf_ref, rOf_null, rOf_rf, kn_v, kn_0, true_and, and_true, and_self, tin, inA_x, inA_l, ix_add, ix_addl, ix_ladd, ix_mul, ix_mull, ix_lmul, ix_tn, lt_tn, Nat.reduceLeDiff, Nat.reduceLT, Nat.reduceAdd, Nat.reduceMul, true_or, or_true, ↓reduceIte, aOk, ref_null, null_null, false_or, Option.isSome_some, Option.getD_some, ite_true, ite_false, eq_self, not_false_eq_true, not_true_eq_false, bz_ne, bz_1, reduceCtorEq, Bool.not_true, Bool.not_false]
            exact ih (j + 1) (by omega)
          rw [w_X6_isNew_28, anyb]
          cases q5 : okC O j
          · simp (disch := first | assumption | omega | decide | rfl) only [w_X6_isNew_29, w_X6_isNew_30, w_X6_isNew_33, w_X6_isNew_34, w_X6_isNew_35, w_X6_isNew_38, nl_int, nl_ref, nl_null, nl_un, nl_rf, nl_long, isR_ref, isR_null, isR_rf, rf_some, rf_none, rOf_ref, rOf_null, rOf_rf, kn_v, kn_0, true_and, and_true, and_self, tin, inA_x, inA_l, ix_add, ix_addl, ix_ladd, ix_mul, ix_mull, ix_lmul, ix_tn, lt_tn, Nat.reduceLeDiff, Nat.reduceLT, Nat.reduceAdd, Nat.reduceMul, true_or, or_true, ↓reduceIte, aOk, ref_null, null_null, false_or, Option.isSome_some, Option.getD_some, ite_true, ite_false, eq_self, not_false_eq_true, not_true_eq_false, bz_ne, bz_1, reduceCtorEq, Bool.not_true, Bool.not_false, ix_lt, e, X.f.t38, cx_may X r (show j < 16 * O.nP by omega), q5, Bool.false_and, Bool.false_eq_true]
            exact nx
          · have ok5 := q5
            unfold okC at ok5
            rw [Bool.and_eq_true, decide_eq_true_eq] at ok5
            have g3 := r.w j (by omega) ok5.1
            have g4 := r.e j (by omega) ok5.1
            have w3 := wc_lt (B := S.B) (c := j) X.xo.wo
            have w4 := ecc_lt (B := S.B) (c := j) X.xo.wo
            by_cases q6 : whC O S.B j = whC O S.B c
            · have d6 : (whC O S.B j = whC O S.B c) = True := eq_true q6
              by_cases q7 : ecC O S.B j = ecC O S.B c
              · have d7 : (ecC O S.B j = ecC O S.B c) = True := eq_true q7
                simp (disch := first | assumption | omega | decide | rfl) only [w_X6_isNew_29, w_X6_isNew_30, w_X6_isNew_33, w_X6_isNew_34, w_X6_isNew_35, w_X6_isNew_38, w_X6_isNew_41, w_X6_isNew_42, w_X6_isNew_45, w_X6_isNew_46, w_X6_isNew_47, w_X6_isNew_48, w_X6_isNew_51, w_X6_isNew_52, w_X6_isNew_53, w_X6_isNew_56, w_X6_isNew_57, w_X6_isNew_60, w_X6_isNew_61, w_X6_isNew_62, w_X6_isNew_63, w_X6_isNew_66, w_X6_isNew_67, w_X6_isNew_68, w_X6_isNew_71, w_X6_isNew_72, nl_int, nl_ref, nl_null, nl_un, nl_rf, nl_long, isR_ref, isR_null, isR_rf, rf_some, rf_none, rOf_ref, rOf_null, rOf_rf, kn_v, kn_0, true_and, and_true, and_self, tin, inA_x, inA_l, ix_add, ix_addl, ix_ladd, ix_mul, ix_mull, ix_lmul, ix_tn, lt_tn, Nat.reduceLeDiff, Nat.reduceLT, Nat.reduceAdd, Nat.reduceMul, true_or, or_true, ↓reduceIte, aOk, ref_null, null_null, false_or, Option.isSome_some, Option.getD_some, ite_true, ite_false, eq_self, not_false_eq_true, not_true_eq_false, bz_ne, bz_1, reduceCtorEq, Bool.not_true, Bool.not_false, ix_lt, e, X.f.t38, cx_may X r (show j < 16 * O.nP by omega), q5, X.f.f45, X.f.f46, X.f.t39, X.f.t40, X.f.n39, X.f.n40, g1, g2, g3, g4, ix_eq, d6, d7, decide_true, Bool.and_true]
                rfl
              · have d7 : (ecC O S.B j = ecC O S.B c) = False := eq_false q7
                simp (disch := first | assumption | omega | decide | rfl) only [w_X6_isNew_29, w_X6_isNew_30, w_X6_isNew_33, w_X6_isNew_34, w_X6_isNew_35, w_X6_isNew_38, w_X6_isNew_41, w_X6_isNew_42, w_X6_isNew_45, w_X6_isNew_46, w_X6_isNew_47, w_X6_isNew_48, w_X6_isNew_51, w_X6_isNew_52, w_X6_isNew_53, w_X6_isNew_56, w_X6_isNew_57, w_X6_isNew_60, w_X6_isNew_61, w_X6_isNew_62, w_X6_isNew_63, w_X6_isNew_66, w_X6_isNew_67, w_X6_isNew_68, nl_int, nl_ref, nl_null, nl_un, nl_rf, nl_long, isR_ref, isR_null, isR_rf, rf_some, rf_none, rOf_ref, rOf_null, rOf_rf, kn_v, kn_0, true_and, and_true, and_self, tin, inA_x, inA_l, ix_add, ix_addl, ix_ladd, ix_mul, ix_mull, ix_lmul, ix_tn, lt_tn, Nat.reduceLeDiff, Nat.reduceLT, Nat.reduceAdd, Nat.reduceMul, true_or, or_true, ↓reduceIte, aOk, ref_null, null_null, false_or, Option.isSome_some, Option.getD_some, ite_true, ite_false, eq_self, not_false_eq_true, not_true_eq_false, bz_ne, bz_1, reduceCtorEq, Bool.not_true, Bool.not_false, ix_lt, e, X.f.t38, cx_may X r (show j < 16 * O.nP by omega), q5, X.f.f45, X.f.f46, X.f.t39, X.f.t40, X.f.n39, X.f.n40, g1, g2, g3, g4, ix_eq, d6, d7, decide_false, Bool.and_false, Bool.false_eq_true]
                exact nx
            · have d6 : (whC O S.B j = whC O S.B c) = False := eq_false q6
              simp (disch := first | assumption | omega | decide | rfl) only [w_X6_isNew_29, w_X6_isNew_30, w_X6_isNew_33, w_X6_isNew_34, w_X6_isNew_35, w_X6_isNew_38, w_X6_isNew_41, w_X6_isNew_42, w_X6_isNew_45, w_X6_isNew_46, w_X6_isNew_47, w_X6_isNew_48, w_X6_isNew_51, w_X6_isNew_52, w_X6_isNew_53, nl_int, nl_ref, nl_null, nl_un, nl_rf, nl_long, isR_ref, isR_null, isR_rf, rf_some, rf_none, rOf_ref, rOf_null, rOf_rf, kn_v, kn_0, true_and, and_true, and_self, tin, inA_x, inA_l, ix_add, ix_addl, ix_ladd, ix_mul, ix_mull, ix_lmul, ix_tn, lt_tn, Nat.reduceLeDiff, Nat.reduceLT, Nat.reduceAdd, Nat.reduceMul, true_or, or_true, ↓reduceIte, aOk, ref_null, null_null, false_or, Option.isSome_some, Option.getD_some, ite_true, ite_false, eq_self, not_false_eq_true, not_true_eq_false, bz_ne, bz_1, reduceCtorEq, Bool.not_true, Bool.not_false, ix_lt, e, X.f.t38, cx_may X r (show j < 16 * O.nP by omega), q5, X.f.f45, X.f.f46, X.f.t39, X.f.t40, X.f.n39, X.f.n40, g1, g2, g3, g4, ix_eq, d6, decide_false, Bool.and_false, Bool.false_and, Bool.false_eq_true]
              exact nx
      exact key c 0 (by omega)
end
