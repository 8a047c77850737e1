/-! NAMEORCHARD: crops -/
set_option maxRecDepth 100000
noncomputable def afF (O : Oc) (B C : Bo) (k : Nat) : Bo := (sd C.hang (faF O C.hang C.loose (whC O B k) (ecC O B k)), loF O C.hang C.loose (whC O B k) (ecC O B k), C.snd, C.day, C.had, C.pk)
noncomputable def xvF (O : Oc) (B C : Bo) (R : Bo → Int32) (k : Nat) : Int32 := su (faF O C.hang C.loose (whC O B k) (ecC O B k)) (fun a => vaF O a C.day) O.nA + R (paF (afF O B C k))
noncomputable def xmS (O : Oc) (B : Bo) (R : Bo → Int32) (C : Bo) (st : Int32 × Int32) (k : Nat) : Int32 × Int32 := if nwC O B k = true then (if st.1 < xvF O B C R k then (xvF O B C R k, ix k) else st) else st
noncomputable def xmF (O : Oc) (B : Bo) : Nat → Bo → Int32 × Int32
  | 0, _ => (0, -1)
  | n + 1, C => foI (xmS O B (fun D => (xmF O B n D).1) C) ((xmF O B n (paF C)).1, -1) (16 * O.nP)
def NC (h : AH) (x : Nat) (O : Oc) (B : Bo) : Prop := ∀ k, k < 16 * O.nP → Ai h (x + 52) k = bz (nwC O B k)
/-- steps up to n, scratch, the first call -/
def Cr (x n : Nat) (h h' : AH) : Prop := Un (fun a => Tg h a = 1014 ∨ Tg h a = 1015 ∨ a = x + 42 ∨ (x + 44 ≤ a ∧ a ≤ x + 45 + 2 * n)) h h'
section
variable {h h' h1 h2 : AH} {A : Nat → Prop} {x a b c p q l o lo hi n k t d D s j i c' : Nat} {O : Oc} {S : Sg} {B C : Bo} {Q : Rs → AH → Prop} {u v w y : Int32}
theorem Cr.refl : Cr x n h h := Un.refl
theorem Cr.trans (u : Cr x n h h1) (t : Cr x n h1 h2) : Cr x n h h2 := Un.trans u t (fun z hz q => by
  have e := (u.2.2.2.2.1 z hz).1
  rw [e] at q
  exact q)
theorem Cr.up (u : Cr x n h h1) (hn : n ≤ k) : Cr x k h h1 := Un.mono u (fun z _ q => by omega)
theorem Sc.cr (u : Sc h h') : Cr x n h h' := u.un.mono (fun z _ q => by omega)
theorem Bx.cr (u : Bx (x + (44 + 2 * i)) h h') (hn : i ≤ n) : Cr x n h h' := u.un.mono (fun z _ q => by omega)
theorem Cr.ai (u : Cr x n h h') (ht : Tg h a ≠ 0) (h1 : Tg h a ≠ 1014) (h2 : Tg h a ≠ 1015) (h3 : a ≠ x + 42) (h4 : a < x + 44 ∨ x + 45 + 2 * n < a) : Ai h' a = Ai h a := (Un.uk u (Tg_lt ht) (by omega)).2.2.2.2.2.1
theorem Cr.rc (u : Cr x n h h') (f : XF h x) (r : RC h x O B) (hn : n ≤ 3) : RC h' x O B := by
  have t1 := f.t39
  have t2 := f.t40
  have t3 := f.t41
  exact r.of (u.ai (by omega) (by omega) (by omega) (by omega) (by omega)) (u.ai (by omega) (by omega) (by omega) (by omega) (by omega)) (u.ai (by omega) (by omega) (by omega) (by omega) (by omega))
theorem Cr.nc (u : Cr x n h h') (f : XF h x) (r : NC h x O B) (hn : n ≤ 3) : NC h' x O B := by
  have t1 := f.t52
  unfold NC
  rw [u.ai (by omega) (by omega) (by omega) (by omega) (by omega)]
  exact r
theorem Cr.xb (u : Cr x n h h') (y : XB lo hi h t o c C) (h3 : t + 1 < x + 42 ∨ x + 45 + 2 * n < t) : XB lo hi h' t o c C := y.un u (by have := y.tg; omega) (by have := y.ta; omega)
theorem cx_clays (X : XN h x lo hi o b O S) (W : WB O S.B) : Ca (D + 266) 128 [.ref (x + 42)] h (fun r h' => r = .inl none ∧ Tf x h h' ∧ RC h' x O S.B ∧ NC h' x O S.B) := by
  have n3 := X.xo.wo.nP
  rw [e_X7_lays]
  simp (disch := first | assumption | omega | decide | rfl) only [w_X7_lays_0, w_X7_lays_1, w_X7_lays_4, w_X7_lays_7, nl_int, nl_ref, nl_null, nl_un, nl_rf, nl_long, isR_ref, isR_null, isR_rf, rf_some, rf_none, rOf_ref, rOf_null, rOf_rf, kn_v, kn_0, true_and, and_true, and_self, tin, inA_x, inA_l, ix_add, ix_addl, ix_ladd, ix_mul, ix_mull, ix_lmul, ix_tn, lt_tn, Nat.reduceLeDiff, Nat.reduceLT, Nat.reduceAdd, Nat.reduceMul, true_or, or_true, ↓reduceIte, aOk, ref_null, null_null, false_or, Option.isSome_some, Option.getD_some, ite_true, ite_false, eq_self, not_false_eq_true, not_true_eq_false, bz_ne, bz_1, reduceCtorEq, Bool.not_true, Bool.not_false, X.f.t42, X.f.f52, X.f.tx, X.f.f7, X.f.t38]
  refine ca_mono (cx_lays X W) ?_
  rintro r h1 ⟨rfl, t1, r1⟩
  simp (disch := first | assumption | omega | decide | rfl) only [w_X7_lays_10, w_X7_lays_11, nl_int, nl_ref, nl_null, nl_un, nl_rf, nl_long, isR_ref, isR_null, isR_rf, rf_some, rf_none, rOf_ref, rOf_null, rOf_rf, kn_v, kn_0, true_and, and_true, and_self, tin, inA_x, inA_l, ix_add, ix_addl, ix_ladd, ix_mul, ix_mull, ix_lmul, ix_tn, lt_tn, Nat.reduceLeDiff, Nat.reduceLT, Nat.reduceAdd, Nat.reduceMul, true_or, or_true, ↓reduceIte, aOk, ref_null, null_null, false_or, Option.isSome_some, Option.getD_some, ite_true, ite_false, eq_self, not_false_eq_true, not_true_eq_false, bz_ne, bz_1, reduceCtorEq, Bool.not_true, Bool.not_false]
  refine lp (P := fun j => ∀ h2, Tf x h h2 → RC h2 x O S.B → (∀ k, k < j → Ai h2 (x + 52) k = bz (nwC O S.B k)) → Ru (D + 265) 128 12 [.ref (x + 42), .int (ix j)] [] h2 _) (N := 16 * O.nP) ?_ ?_ h1 t1 r1 (fun k hk => absurd hk (by omega))
  · intro h2 t2 r2 g2
    have X2 := X.tf t2
    have e : ¬ 16 * O.nP < 16 * O.nP := by omega
    rw [w_X7_lays_12]
    simp (disch := first | assumption | omega | decide | rfl) only [w_X7_lays_13, w_X7_lays_14, w_X7_lays_17, w_X7_lays_20, w_X7_lays_23, w_X7_lays_49, nl_int, nl_ref, nl_null, nl_un, nl_rf, nl_long, isR_ref, isR_null, isR_rf, rf_some, rf_none, rOf_ref, rOf_null, rOf_rf, kn_v, kn_0, true_and, and_true, and_self, tin, inA_x, inA_l, ix_add, ix_addl, ix_ladd, ix_mul, ix_mull, ix_lmul, ix_tn, lt_tn, Nat.reduceLeDiff, Nat.reduceLT, Nat.reduceAdd, Nat.reduceMul, true_or, or_true, ↓reduceIte, aOk, ref_null, null_null, false_or, Option.isSome_some, Option.getD_some, ite_true, ite_false, eq_self, not_false_eq_true, not_true_eq_false, bz_ne, bz_1, reduceCtorEq, Bool.not_true, Bool.not_false, X2.f.t42, X2.f.f52, X2.f.tx, X2.f.f7, X2.f.t38, cx_all X2, ix_lt, e]
    first | exact ⟨rfl, t2, r2, g2⟩ | exact ⟨t2, r2, g2⟩
  · intro j hj nx h2 t2 r2 g2
    have X2 := X.tf t2
    rw [w_X7_lays_12]
    simp (disch := first | assumption | omega | decide | rfl) only [w_X7_lays_13, w_X7_lays_14, w_X7_lays_17, w_X7_lays_20, w_X7_lays_23, w_X7_lays_26, w_X7_lays_27, w_X7_lays_30, w_X7_lays_31, w_X7_lays_32, w_X7_lays_35, w_X7_lays_38, w_X7_lays_39, w_X7_lays_42, w_X7_lays_43, w_X7_lays_46, nl_int, nl_ref, nl_null, nl_un, nl_rf, nl_long, isR_ref, isR_null, isR_rf, rf_some, rf_none, rOf_ref, rOf_null, rOf_rf, kn_v, kn_0, true_and, and_true, and_self, tin, inA_x, inA_l, ix_add, ix_addl, ix_ladd, ix_mul, ix_mull, ix_lmul, ix_tn, lt_tn, Nat.reduceLeDiff, Nat.reduceLT, Nat.reduceAdd, Nat.reduceMul, true_or, or_true, ↓reduceIte, aOk, ref_null, null_null, false_or, Option.isSome_some, Option.getD_some, ite_true, ite_false, eq_self, not_false_eq_true, not_true_eq_false, bz_ne, bz_1, reduceCtorEq, Bool.not_true, Bool.not_false, X2.f.t42, X2.f.f52, X2.f.tx, X2.f.f7, X2.f.t38, cx_all X2, ix_lt, hj, X2.f.f50, cx_isNew X2 r2 hj, X2.f.t52, X2.f.n52, fot]
    refine nx _ (t2.trans (tf_ai (by unfold Xs; omega))) (r2.of (Ai_other (by omega)) (Ai_other (by omega)) (Ai_other (by omega))) (fun k hk => ?_)
    rw [Ai_same]
    by_cases qk : k = j
    · rw [qk, upd_s]
    · rw [upd_n qk]; exact g2 k (by omega)
theorem m1_ix (ha : a < 2147483648) : ((-1 : Int32) < ix a) = True := by
  refine eq_true (Int32.lt_iff_toInt_lt.mpr ?_)
  rw [toInt_ix ha, show (-1 : Int32).toInt = -1 from by decide]
  omega
theorem ix_em1 (ha : a < 2147483648) : (ix a = -1) = False := ix_m1 ha
theorem wb_af (z : WB O C) : WB O (afF O B C k) := wb_fall z
theorem XF.st (f : XF h x) (hn : n < 4) : Ar h (x + 43) n = some (x + (44 + 2 * n)) := by
  have := f.s1 n hn
  rw [Nat.add_assoc] at this
  exact this
theorem XF.t43 (f : XF h x) : Tg h (x + 43) = 5006 := f.t (43, 5006) (by decide)
theorem XF.n43 (f : XF h x) : An h (x + 43) = 4 := f.n (43, 4) (by decide)
theorem nw_ok (q : nwC O B k = true) : okC O k = true := by
  unfold nwC at q
  rw [Bool.and_eq_true, Bool.and_eq_true] at q
  exact q.1.1
/-- the rest of a step: it passes, the days behind it -/
theorem most_r (X : XN h x lo hi o b O S) (r : RC h x O S.B) (nc : NC h x O S.B) (hn : n + 1 ≤ 3) (y : XB lo hi h (x + (44 + 2 * (n + 1))) o O.nA C) (z : WB O C) (ih : ∀ h t C, XN h x lo hi o b O S → RC h x O S.B → NC h x O S.B → XB lo hi h t o O.nA C → WB O C → (t = b ∨ t = x + (44 + 2 * (n + 1))) → Ca (D + 270) 129 [.ref (x + 42), .ref t, .int (ix n)] h (fun r h' => r = .inl (some (.int (xmF O S.B n C).1)) ∧ Tf x h h' ∧ Cr x n h h')) {l1 l3 l4 l5 : Value} (nx : ∀ h', Tf x h h' → Cr x (n + 1) h h' → Ru (D + 270) 129 110 [.ref (x + 42), l1, .int (ix (n + 1)), l3, l4, l5, .ref (x + (44 + 2 * (n + 1))), .int (v + (xmF O S.B n (paF C)).1)] [] h' Q) : Ru (D + 270) 129 91 [.ref (x + 42), l1, .int (ix (n + 1)), l3, l4, l5, .ref (x + (44 + 2 * (n + 1))), .int v] [] h Q := by
  have hb : Fb x (x + (44 + 2 * (n + 1))) := by omega
  simp (disch := first | assumption | omega | decide | rfl) only [w_X7_most_91, w_X7_most_93, nl_int, nl_ref, nl_null, nl_un, nl_rf, nl_long, isR_ref, isR_null, isR_rf, rf_some, rf_none, rOf_ref, rOf_null, rOf_rf, kn_v, kn_0, true_and, and_true, and_self, tin, inA_x, inA_l, ix_add, ix_addl, ix_ladd, ix_mul, ix_mull, ix_lmul, ix_tn, lt_tn, Nat.reduceLeDiff, Nat.reduceLT, Nat.reduceAdd, Nat.reduceMul, true_or, or_true, ↓reduceIte, aOk, ref_null, null_null, false_or, Option.isSome_some, Option.getD_some, ite_true, ite_false, eq_self, not_false_eq_true, not_true_eq_false, bz_ne, bz_1, reduceCtorEq, Bool.not_true, Bool.not_false, y.tg]
  refine ca_mono (cx_passes y) ?_
  rintro r' h1 ⟨rfl, bx, y1⟩
  have t1 := bx.tf (x := x) hb y.tg
  have X1 := X.tf t1
  have c1 : Cr x (n + 1) h h1 := bx.cr (Nat.le_refl _)
  have es : ix (n + 1) - 1 = ix n := ix_subl (n := 1) (by omega)
  simp (disch := first | assumption | omega | decide | rfl) only [w_X7_most_96, w_X7_most_98, w_X7_most_99, w_X7_most_101, w_X7_most_102, w_X7_most_103, w_X7_most_104, nl_int, nl_ref, nl_null, nl_un, nl_rf, nl_long, isR_ref, isR_null, isR_rf, rf_some, rf_none, rOf_ref, rOf_null, rOf_rf, kn_v, kn_0, true_and, and_true, and_self, tin, inA_x, inA_l, ix_add, ix_addl, ix_ladd, ix_mul, ix_mull, ix_lmul, ix_tn, lt_tn, Nat.reduceLeDiff, Nat.reduceLT, Nat.reduceAdd, Nat.reduceMul, true_or, or_true, ↓reduceIte, aOk, ref_null, null_null, false_or, Option.isSome_some, Option.getD_some, ite_true, ite_false, eq_self, not_false_eq_true, not_true_eq_false, bz_ne, bz_1, reduceCtorEq, Bool.not_true, Bool.not_false, X1.f.t42, es]
  refine ca_mono (ih h1 _ (paF C) X1 (c1.rc X.f r hn) (c1.nc X.f nc hn) y1 (wb_pa z) (Or.inr rfl)) ?_
  rintro r' h2 ⟨rfl, t2, c2⟩
  simp (disch := first | assumption | omega | decide | rfl) only [w_X7_most_107, w_X7_most_108, nl_int, nl_ref, nl_null, nl_un, nl_rf, nl_long, isR_ref, isR_null, isR_rf, rf_some, rf_none, rOf_ref, rOf_null, rOf_rf, kn_v, kn_0, true_and, and_true, and_self, tin, inA_x, inA_l, ix_add, ix_addl, ix_ladd, ix_mul, ix_mull, ix_lmul, ix_tn, lt_tn, Nat.reduceLeDiff, Nat.reduceLT, Nat.reduceAdd, Nat.reduceMul, true_or, or_true, ↓reduceIte, aOk, ref_null, null_null, false_or, Option.isSome_some, Option.getD_some, ite_true, ite_false, eq_self, not_false_eq_true, not_true_eq_false, bz_ne, bz_1, reduceCtorEq, Bool.not_true, Bool.not_false]
  exact nx h2 (t1.trans t2) (c1.trans (c2.up (by omega)))
theorem cx_most : ∀ n, n ≤ 3 → ∀ D, n ≤ D → ∀ h t C, XN h x lo hi o b O S → RC h x O S.B → NC h x O S.B → XB lo hi h t o O.nA C → WB O C → (t = b ∨ t = x + (44 + 2 * (n + 1))) → Ca (D + 270) 129 [.ref (x + 42), .ref t, .int (ix n)] h (fun r h' => r = .inl (some (.int (xmF O S.B n C).1)) ∧ Tf x h h' ∧ Cr x n h h' ∧ (0 < n → Fi h' 51 (x + 42) = (xmF O S.B n C).2) ∧ (n = 0 → Fi h' 51 (x + 42) = Fi h 51 (x + 42))) := by
  intro n
  induction n with
  | zero =>
    intro _ D hD h t C X r nc y z ht
    generalize hQ : (fun r h' => r = .inl (some (.int (xmF O S.B 0 C).1)) ∧ Tf x h h' ∧ Cr x 0 h h' ∧ (0 < 0 → Fi h' 51 (x + 42) = (xmF O S.B 0 C).2) ∧ (0 = 0 → Fi h' 51 (x + 42) = Fi h 51 (x + 42)) : Rs → AH → Prop) = QQ
    rw [e_X7_most nl_ref]
    have e : (ix 0 = 0) = True := eq_true rfl
    simp (disch := first | assumption | omega | decide | rfl) only [w_X7_most_0, w_X7_most_1, w_X7_most_4, w_X7_most_5, nl_int, nl_ref, nl_null, nl_un, nl_rf, nl_long, isR_ref, isR_null, isR_rf, rf_some, rf_none, rOf_ref, rOf_null, rOf_rf, kn_v, kn_0, true_and, and_true, and_self, tin, inA_x, inA_l, ix_add, ix_addl, ix_ladd, ix_mul, ix_mull, ix_lmul, ix_tn, lt_tn, Nat.reduceLeDiff, Nat.reduceLT, Nat.reduceAdd, Nat.reduceMul, true_or, or_true, ↓reduceIte, aOk, ref_null, null_null, false_or, Option.isSome_some, Option.getD_some, ite_true, ite_false, eq_self, not_false_eq_true, not_true_eq_false, bz_ne, bz_1, reduceCtorEq, Bool.not_true, Bool.not_false, e]
    rw [← hQ]
    exact ⟨by rw [xmF], Tf.refl, Cr.refl, fun q => absurd q (by omega), fun _ => rfl⟩
  | succ n ih =>
    intro hn D hD h t C X r nc y z ht
    obtain ⟨D, rfl⟩ : ∃ E, D = E + 1 := ⟨D - 1, by omega⟩
    have hD : n ≤ D := by omega
    have n3 := X.xo.wo.nP
    have n1 := X.xo.wo.nA
    have nb := X.nb
    have ih' : ∀ h t C, XN h x lo hi o b O S → RC h x O S.B → NC h x O S.B → XB lo hi h t o O.nA C → WB O C → (t = b ∨ t = x + (44 + 2 * (n + 1))) → Ca (D + 270) 129 [.ref (x + 42), .ref t, .int (ix n)] h (fun r h' => r = .inl (some (.int (xmF O S.B n C).1)) ∧ Tf x h h' ∧ Cr x n h h') := by
      intro h t C a1 a2 a3 a4 a5 a6
      refine ca_mono (ih (by omega) D hD h t C a1 a2 a3 a4 a5 a6) ?_
      rintro r h' ⟨e1, e2, e3, _⟩
      exact ⟨e1, e2, e3⟩
    clear ih
    have tne : t ≠ x + (44 + 2 * (n + 1)) := by omega
    have tou : t + 1 < x + 42 ∨ x + 45 + 2 * (n + 1) < t := by omega
    have hb : Fb x (x + (44 + 2 * (n + 1))) := by omega
    rw [show D + 1 + 270 = D + 270 + 1 by omega, e_X7_most nl_ref, xmF]
    generalize hQ : (fun r h' => r = .inl (some (.int (foI (xmS O S.B (fun D => (xmF O S.B n D).1) C) ((xmF O S.B n (paF C)).1, -1) (16 * O.nP)).1)) ∧ Tf x h h' ∧ Cr x (n + 1) h h' ∧ (0 < n + 1 → Fi h' 51 (x + 42) = (foI (xmS O S.B (fun D => (xmF O S.B n D).1) C) ((xmF O S.B n (paF C)).1, -1) (16 * O.nP)).2) ∧ (n + 1 = 0 → Fi h' 51 (x + 42) = Fi h 51 (x + 42)) : Rs → AH → Prop) = QQ
    have e0 : (ix (n + 1) = 0) = False := by rw [show ((0 : Int32)) = ix 0 from rfl, ix_eq (by omega) (by decide)]; exact eq_false (by omega)
    have em : ((-1 : Int32) < ix (16 * O.nP)) = True := m1_ix (by omega)
    have e1 : ((-1 : Int32) = -1) = True := eq_true rfl
    -- a copy in the step
    have cpy : ∀ h2, Tf x h h2 → Cr x (n + 1) h h2 → Ca (D + 270) 96 [.ref (x + (44 + 2 * (n + 1))), .ref t] h2 (fun r h' => r = .inl (some (.ref (x + (44 + 2 * (n + 1))))) ∧ Tf x h h' ∧ Cr x (n + 1) h h' ∧ XB lo hi h' (x + (44 + 2 * (n + 1))) o O.nA C) := by
      intro h2 t2 c2
      have X2 := X.tf t2
      have s2 := X2.st1 (i := n + 1) (by omega)
      refine ca_mono (cx_copies s2 (c2.xb y tou) tne n1) ?_
      rintro r h3 ⟨e, bx, y3⟩
      exact ⟨e, t2.trans (bx.tf hb s2.tg), c2.trans (bx.cr (Nat.le_refl _)), y3⟩
    simp (disch := first | assumption | omega | decide | rfl) only [w_X7_most_0, w_X7_most_1, w_X7_most_6, w_X7_most_7, w_X7_most_8, w_X7_most_9, w_X7_most_11, w_X7_most_12, nl_int, nl_ref, nl_null, nl_un, nl_rf, nl_long, isR_ref, isR_null, isR_rf, rf_some, rf_none, rOf_ref, rOf_null, rOf_rf, kn_v, kn_0, true_and, and_true, and_self, tin, inA_x, inA_l, ix_add, ix_addl, ix_ladd, ix_mul, ix_mull, ix_lmul, ix_tn, lt_tn, Nat.reduceLeDiff, Nat.reduceLT, Nat.reduceAdd, Nat.reduceMul, true_or, or_true, ↓reduceIte, aOk, ref_null, null_null, false_or, Option.isSome_some, Option.getD_some, ite_true, ite_false, eq_self, not_false_eq_true, not_true_eq_false, bz_ne, bz_1, reduceCtorEq, Bool.not_true, Bool.not_false, e0]
    rw [w_X7_most_14]
    simp (disch := first | assumption | omega | decide | rfl) only [w_X7_most_16, w_X7_most_17, w_X7_most_20, w_X7_most_23, w_X7_most_26, w_X7_most_29, w_X7_most_31, w_X7_most_32, w_X7_most_48, w_X7_most_49, w_X7_most_52, w_X7_most_53, w_X7_most_54, w_X7_most_55, nl_int, nl_ref, nl_null, nl_un, nl_rf, nl_long, isR_ref, isR_null, isR_rf, rf_some, rf_none, rOf_ref, rOf_null, rOf_rf, kn_v, kn_0, true_and, and_true, and_self, tin, inA_x, inA_l, ix_add, ix_addl, ix_ladd, ix_mul, ix_mull, ix_lmul, ix_tn, lt_tn, Nat.reduceLeDiff, Nat.reduceLT, Nat.reduceAdd, Nat.reduceMul, true_or, or_true, ↓reduceIte, aOk, ref_null, null_null, false_or, Option.isSome_some, Option.getD_some, ite_true, ite_false, eq_self, not_false_eq_true, not_true_eq_false, bz_ne, bz_1, reduceCtorEq, Bool.not_true, Bool.not_false, X.f.t42, X.f.f52, X.f.tx, X.f.f7, X.f.t38, cx_all X, em, e1, X.f.f49, X.f.t43, X.f.n43, X.f.st (show n + 1 < 4 by omega), (X.st1 (show n + 1 < 4 by omega)).tg]
    refine ca_mono (cpy h Tf.refl Cr.refl) ?_
    rintro r' h1 ⟨rfl, t1, c1, y1⟩
    have X1 := X.tf t1
    simp (disch := first | assumption | omega | decide | rfl) only [w_X7_most_58, w_X7_most_60, w_X7_most_62, w_X7_most_63, w_X7_most_66, w_X7_most_67, w_X7_most_89, nl_int, nl_ref, nl_null, nl_un, nl_rf, nl_long, isR_ref, isR_null, isR_rf, rf_some, rf_none, rOf_ref, rOf_null, rOf_rf, kn_v, kn_0, true_and, and_true, and_self, tin, inA_x, inA_l, ix_add, ix_addl, ix_ladd, ix_mul, ix_mull, ix_lmul, ix_tn, lt_tn, Nat.reduceLeDiff, Nat.reduceLT, Nat.reduceAdd, Nat.reduceMul, true_or, or_true, ↓reduceIte, aOk, ref_null, null_null, false_or, Option.isSome_some, Option.getD_some, ite_true, ite_false, eq_self, not_false_eq_true, not_true_eq_false, bz_ne, bz_1, reduceCtorEq, Bool.not_true, Bool.not_false, e1]
    refine most_r X1 (c1.rc X.f r hn) (c1.nc X.f nc hn) hn y1 z ih' (fun h2 t2 c2 => ?_)
    rw [Int32.zero_add]
    simp (disch := first | assumption | omega | decide | rfl) only [w_X7_most_110, w_X7_most_112, w_X7_most_113, w_X7_most_126, w_X7_most_128, w_X7_most_129, w_X7_most_131, w_X7_most_133, w_X7_most_136, nl_int, nl_ref, nl_null, nl_un, nl_rf, nl_long, isR_ref, isR_null, isR_rf, rf_some, rf_none, rOf_ref, rOf_null, rOf_rf, kn_v, kn_0, true_and, and_true, and_self, tin, inA_x, inA_l, ix_add, ix_addl, ix_ladd, ix_mul, ix_mull, ix_lmul, ix_tn, lt_tn, Nat.reduceLeDiff, Nat.reduceLT, Nat.reduceAdd, Nat.reduceMul, true_or, or_true, ↓reduceIte, aOk, ref_null, null_null, false_or, Option.isSome_some, Option.getD_some, ite_true, ite_false, eq_self, not_false_eq_true, not_true_eq_false, bz_ne, bz_1, reduceCtorEq, Bool.not_true, Bool.not_false, e1]
    rw [show (-1 : Int32) + 1 = ix 0 from by decide]
    refine lp (P := fun k => ∀ h3 (v6 v7 : Value), Tf x h h3 → Cr x (n + 1) h h3 → ∀ st, st = foI (xmS O S.B (fun D => (xmF O S.B n D).1) C) ((xmF O S.B n (paF C)).1, -1) k → Ru (D + 270) 129 14 [.ref (x + 42), .ref t, .int (ix (n + 1)), .int st.2, .int st.1, .int (ix k), v6, v7] [] h3 QQ) (N := 16 * O.nP) ?_ ?_ h2 _ _ (t1.trans t2) (c1.trans c2) ((xmF O S.B n (paF C)).1, -1) rfl
    · intro h3 v6 v7 t3 c3 st es
      have X3 := X.tf t3
      have e : ¬ 16 * O.nP < 16 * O.nP := by omega
      rw [w_X7_most_14]
      rw [← es] at hQ
      simp (disch := first | assumption | omega | decide | rfl) only [w_X7_most_16, w_X7_most_17, w_X7_most_20, w_X7_most_23, w_X7_most_26, w_X7_most_139, w_X7_most_140, w_X7_most_141, w_X7_most_144, w_X7_most_146, nl_int, nl_ref, nl_null, nl_un, nl_rf, nl_long, isR_ref, isR_null, isR_rf, rf_some, rf_none, rOf_ref, rOf_null, rOf_rf, kn_v, kn_0, true_and, and_true, and_self, tin, inA_x, inA_l, ix_add, ix_addl, ix_ladd, ix_mul, ix_mull, ix_lmul, ix_tn, lt_tn, Nat.reduceLeDiff, Nat.reduceLT, Nat.reduceAdd, Nat.reduceMul, true_or, or_true, ↓reduceIte, aOk, ref_null, null_null, false_or, Option.isSome_some, Option.getD_some, ite_true, ite_false, eq_self, not_false_eq_true, not_true_eq_false, bz_ne, bz_1, reduceCtorEq, Bool.not_true, Bool.not_false, X3.f.t42, X3.f.f52, X3.f.tx, X3.f.f7, X3.f.t38, cx_all X3, ix_lt, e]
      have fin : Tf x h (sFi h3 51 (x + 42) st.2) ∧ Cr x (n + 1) h (sFi h3 51 (x + 42) st.2) ∧ (0 < n + 1 → Fi (sFi h3 51 (x + 42) st.2) 51 (x + 42) = st.2) ∧ (n + 1 = 0 → Fi (sFi h3 51 (x + 42) st.2) 51 (x + 42) = Fi h 51 (x + 42)) := by
        refine ⟨t3.trans (tf_fi (by unfold Xs; omega)), c3.trans (un_sFi (Or.inr (Or.inr (Or.inl rfl)))), fun _ => Fi_same, fun q => absurd q (by omega)⟩
      rw [← hQ]
      exact ⟨rfl, fin⟩
    · intro k hk nx h3 v6 v7 t3 c3 st es
      have X3 := X.tf t3
      have r3 := c3.rc X.f r hn
      have nc3 := c3.nc X.f nc hn
      have gk := nc3 k hk
      have ek := ix_em1 (a := k) (by omega)
      have jn : ∀ h4 (v6 v7 : Value) st', st' = xmS O S.B (fun D => (xmF O S.B n D).1) C st k → Tf x h h4 → Cr x (n + 1) h h4 → Ru (D + 270) 129 133 [.ref (x + 42), .ref t, .int (ix (n + 1)), .int st'.2, .int st'.1, .int (ix k), v6, v7] [] h4 QQ := by
        intro h4 v6 v7 st' es' t4 c4
        simp (disch := first | assumption | omega | decide | rfl) only [w_X7_most_133, w_X7_most_136, nl_int, nl_ref, nl_null, nl_un, nl_rf, nl_long, isR_ref, isR_null, isR_rf, rf_some, rf_none, rOf_ref, rOf_null, rOf_rf, kn_v, kn_0, true_and, and_true, and_self, tin, inA_x, inA_l, ix_add, ix_addl, ix_ladd, ix_mul, ix_mull, ix_lmul, ix_tn, lt_tn, Nat.reduceLeDiff, Nat.reduceLT, Nat.reduceAdd, Nat.reduceMul, true_or, or_true, ↓reduceIte, aOk, ref_null, null_null, false_or, Option.isSome_some, Option.getD_some, ite_true, ite_false, eq_self, not_false_eq_true, not_true_eq_false, bz_ne, bz_1, reduceCtorEq, Bool.not_true, Bool.not_false]
        exact nx h4 v6 v7 t4 c4 st' (by rw [es', es, foI])
      unfold xmS at jn
      rw [w_X7_most_14]
      cases q1 : nwC O S.B k
      · rw [q1, if_neg (by decide)] at jn
        rw [q1] at gk
        simp (disch := first | assumption | omega | decide | rfl) only [w_X7_most_16, w_X7_most_17, w_X7_most_20, w_X7_most_23, w_X7_most_26, w_X7_most_29, w_X7_most_31, w_X7_most_32, w_X7_most_35, w_X7_most_36, w_X7_most_39, w_X7_most_41, w_X7_most_42, w_X7_most_45, nl_int, nl_ref, nl_null, nl_un, nl_rf, nl_long, isR_ref, isR_null, isR_rf, rf_some, rf_none, rOf_ref, rOf_null, rOf_rf, kn_v, kn_0, true_and, and_true, and_self, tin, inA_x, inA_l, ix_add, ix_addl, ix_ladd, ix_mul, ix_mull, ix_lmul, ix_tn, lt_tn, Nat.reduceLeDiff, Nat.reduceLT, Nat.reduceAdd, Nat.reduceMul, true_or, or_true, ↓reduceIte, aOk, ref_null, null_null, false_or, Option.isSome_some, Option.getD_some, ite_true, ite_false, eq_self, not_false_eq_true, not_true_eq_false, bz_ne, bz_1, reduceCtorEq, Bool.not_true, Bool.not_false, X3.f.t42, X3.f.f52, X3.f.tx, X3.f.f7, X3.f.t38, cx_all X3, ix_lt, hk, ek, X3.f.f50, X3.f.t52, X3.f.n52, gk]
        exact jn h3 _ _ st rfl t3 c3
      · rw [q1, if_pos rfl] at jn
        rw [q1] at gk
        have ok := nw_ok q1
        simp (disch := first | assumption | omega | decide | rfl) only [w_X7_most_16, w_X7_most_17, w_X7_most_20, w_X7_most_23, w_X7_most_26, w_X7_most_29, w_X7_most_31, w_X7_most_32, w_X7_most_35, w_X7_most_36, w_X7_most_39, w_X7_most_41, w_X7_most_42, w_X7_most_45, w_X7_most_48, w_X7_most_49, w_X7_most_52, w_X7_most_53, w_X7_most_54, w_X7_most_55, nl_int, nl_ref, nl_null, nl_un, nl_rf, nl_long, isR_ref, isR_null, isR_rf, rf_some, rf_none, rOf_ref, rOf_null, rOf_rf, kn_v, kn_0, true_and, and_true, and_self, tin, inA_x, inA_l, ix_add, ix_addl, ix_ladd, ix_mul, ix_mull, ix_lmul, ix_tn, lt_tn, Nat.reduceLeDiff, Nat.reduceLT, Nat.reduceAdd, Nat.reduceMul, true_or, or_true, ↓reduceIte, aOk, ref_null, null_null, false_or, Option.isSome_some, Option.getD_some, ite_true, ite_false, eq_self, not_false_eq_true, not_true_eq_false, bz_ne, bz_1, reduceCtorEq, Bool.not_true, Bool.not_false, X3.f.t42, X3.f.f52, X3.f.tx, X3.f.f7, X3.f.t38, cx_all X3, ix_lt, hk, ek, X3.f.f50, X3.f.t52, X3.f.n52, gk, X3.f.f49, X3.f.t43, X3.f.n43, X3.f.st (show n + 1 < 4 by omega), (X3.st1 (show n + 1 < 4 by omega)).tg]
        refine ca_mono (cpy h3 t3 c3) ?_
        rintro r' h4 ⟨rfl, t4, c4, y4⟩
        have X4 := X.tf t4
        simp (disch := first | assumption | omega | decide | rfl) only [w_X7_most_58, w_X7_most_60, w_X7_most_62, w_X7_most_63, w_X7_most_70, w_X7_most_72, w_X7_most_73, w_X7_most_76, w_X7_most_79, w_X7_most_81, w_X7_most_83, nl_int, nl_ref, nl_null, nl_un, nl_rf, nl_long, isR_ref, isR_null, isR_rf, rf_some, rf_none, rOf_ref, rOf_null, rOf_rf, kn_v, kn_0, true_and, and_true, and_self, tin, inA_x, inA_l, ix_add, ix_addl, ix_ladd, ix_mul, ix_mull, ix_lmul, ix_tn, lt_tn, Nat.reduceLeDiff, Nat.reduceLT, Nat.reduceAdd, Nat.reduceMul, true_or, or_true, ↓reduceIte, aOk, ref_null, null_null, false_or, Option.isSome_some, Option.getD_some, ite_true, ite_false, eq_self, not_false_eq_true, not_true_eq_false, bz_ne, bz_1, reduceCtorEq, Bool.not_true, Bool.not_false, ek, X4.f.t42, X4.f.f52, X4.f.tx, X4.f.f7, X4.f.t38]
        refine ca_mono (cx_rfalls X4 (c4.rc X.f r hn) hk ok y4 z) ?_
        rintro r' h5 ⟨rfl, bx5, y5⟩
        have t5 := t4.trans (bx5.tf (x := x) hb y4.tg)
        have c5 := c4.trans (bx5.cr (n := n + 1) (Nat.le_refl _))
        have X5 := X.tf t5
        have hf : faF O C.hang C.loose (whC O S.B k) (ecC O S.B k) < 1024 := faF_lt (z.lt X.xo.wo)
        simp (disch := first | assumption | omega | decide | rfl) only [w_X7_most_86, nl_int, nl_ref, nl_null, nl_un, nl_rf, nl_long, isR_ref, isR_null, isR_rf, rf_some, rf_none, rOf_ref, rOf_null, rOf_rf, kn_v, kn_0, true_and, and_true, and_self, tin, inA_x, inA_l, ix_add, ix_addl, ix_ladd, ix_mul, ix_mull, ix_lmul, ix_tn, lt_tn, Nat.reduceLeDiff, Nat.reduceLT, Nat.reduceAdd, Nat.reduceMul, true_or, or_true, ↓reduceIte, aOk, ref_null, null_null, false_or, Option.isSome_some, Option.getD_some, ite_true, ite_false, eq_self, not_false_eq_true, not_true_eq_false, bz_ne, bz_1, reduceCtorEq, Bool.not_true, Bool.not_false, y5.tg]
        refine ca_mono (cx_values X5.xo y5 hf) ?_
        rintro r' h6 ⟨rfl, sc6⟩
        have t6 := t5.trans (sc6.tf (x := x))
        have c6 := c5.trans (sc6.cr (x := x) (n := n + 1))
        simp (disch := first | assumption | omega | decide | rfl) only [w_X7_most_89, nl_int, nl_ref, nl_null, nl_un, nl_rf, nl_long, isR_ref, isR_null, isR_rf, rf_some, rf_none, rOf_ref, rOf_null, rOf_rf, kn_v, kn_0, true_and, and_true, and_self, tin, inA_x, inA_l, ix_add, ix_addl, ix_ladd, ix_mul, ix_mull, ix_lmul, ix_tn, lt_tn, Nat.reduceLeDiff, Nat.reduceLT, Nat.reduceAdd, Nat.reduceMul, true_or, or_true, ↓reduceIte, aOk, ref_null, null_null, false_or, Option.isSome_some, Option.getD_some, ite_true, ite_false, eq_self, not_false_eq_true, not_true_eq_false, bz_ne, bz_1, reduceCtorEq, Bool.not_true, Bool.not_false]
        refine most_r (X.tf t6) (c6.rc X.f r hn) (c6.nc X.f nc hn) hn (sc6.xb y5) (wb_fall z) ih' (fun h7 t7 c7 => ?_)
        have t8 := t6.trans t7
        have c8 := c6.trans c7
        rw [show su (faF O C.hang C.loose (whC O S.B k) (ecC O S.B k)) (fun a => vaF O a (Bo.day (sd C.hang (faF O C.hang C.loose (whC O S.B k) (ecC O S.B k)), loF O C.hang C.loose (whC O S.B k) (ecC O S.B k), C.snd, C.day, C.had, C.pk))) O.nA + (xmF O S.B n (paF (sd C.hang (faF O C.hang C.loose (whC O S.B k) (ecC O S.B k)), loF O C.hang C.loose (whC O S.B k) (ecC O S.B k), C.snd, C.day, C.had, C.pk))).1 = xvF O S.B C (fun D => (xmF O S.B n D).1) k from rfl]
        generalize xvF O S.B C (fun D => (xmF O S.B n D).1) k = xv at jn ⊢
        by_cases q2 : st.1 < xv
        · rw [if_pos q2] at jn
          simp (disch := first | assumption | omega | decide | rfl) only [w_X7_most_110, w_X7_most_112, w_X7_most_113, w_X7_most_116, w_X7_most_118, w_X7_most_120, w_X7_most_126, w_X7_most_128, w_X7_most_129, w_X7_most_131, nl_int, nl_ref, nl_null, nl_un, nl_rf, nl_long, isR_ref, isR_null, isR_rf, rf_some, rf_none, rOf_ref, rOf_null, rOf_rf, kn_v, kn_0, true_and, and_true, and_self, tin, inA_x, inA_l, ix_add, ix_addl, ix_ladd, ix_mul, ix_mull, ix_lmul, ix_tn, lt_tn, Nat.reduceLeDiff, Nat.reduceLT, Nat.reduceAdd, Nat.reduceMul, true_or, or_true, ↓reduceIte, aOk, ref_null, null_null, false_or, Option.isSome_some, Option.getD_some, ite_true, ite_false, eq_self, not_false_eq_true, not_true_eq_false, bz_ne, bz_1, reduceCtorEq, Bool.not_true, Bool.not_false, ek, q2]
          exact jn h7 _ _ (xv, ix k) rfl t8 c8
        · rw [if_neg q2] at jn
          simp (disch := first | assumption | omega | decide | rfl) only [w_X7_most_110, w_X7_most_112, w_X7_most_113, w_X7_most_116, w_X7_most_118, w_X7_most_120, w_X7_most_123, nl_int, nl_ref, nl_null, nl_un, nl_rf, nl_long, isR_ref, isR_null, isR_rf, rf_some, rf_none, rOf_ref, rOf_null, rOf_rf, kn_v, kn_0, true_and, and_true, and_self, tin, inA_x, inA_l, ix_add, ix_addl, ix_ladd, ix_mul, ix_mull, ix_lmul, ix_tn, lt_tn, Nat.reduceLeDiff, Nat.reduceLT, Nat.reduceAdd, Nat.reduceMul, true_or, or_true, ↓reduceIte, aOk, ref_null, null_null, false_or, Option.isSome_some, Option.getD_some, ite_true, ite_false, eq_self, not_false_eq_true, not_true_eq_false, bz_ne, bz_1, reduceCtorEq, Bool.not_true, Bool.not_false, ek, q2]
          exact jn h7 _ _ st rfl t8 c8
end
