/-! NAMEORCHARD: thieves -/
set_option maxRecDepth 100000
section
variable {h h' h1 h2 : AH} {A : Nat → Prop} {x a b c p q l o lo hi n k t d D s j i lane loud : Nat} {O : Oc} {S : Sg} {B C E : Bo} {Q : Rs → AH → Prop} {u v w y ren snd : Int32}
theorem cx_areLane : Ca (D + 2) 40 [.int v, .int w] h Q = Q (.inl (some (.int (bz (voF v w))))) h := by
  rw [e_X1_areLane]
  unfold voF
  cases q1 : decide (0 ≤ v ∧ v ≤ 11)
  · simp (disch := first | assumption | omega | decide | rfl) only [w_X1_areLane_0, w_X1_areLane_1, w_X1_areLane_2, w_X1_areLane_4, w_X1_areLane_7, w_X1_areLane_24, w_X1_areLane_25, nl_int, nl_ref, nl_null, nl_un, nl_rf, nl_long, isR_ref, isR_null, isR_rf, rf_some, rf_none, rOf_ref, rOf_null, rOf_rf, kn_v, kn_0, true_and, and_true, and_self, tin, inA_x, inA_l, ix_add, ix_addl, ix_ladd, ix_mul, ix_mull, ix_lmul, ix_tn, lt_tn, Nat.reduceLeDiff, Nat.reduceLT, Nat.reduceAdd, Nat.reduceMul, true_or, or_true, ↓reduceIte, aOk, ref_null, null_null, false_or, Option.isSome_some, Option.getD_some, ite_true, ite_false, eq_self, not_false_eq_true, not_true_eq_false, bz_ne, bz_1, reduceCtorEq, Bool.not_true, Bool.not_false, cx_within, q1, Bool.false_and]
    rfl
  · cases q2 : decide (0 ≤ w ∧ w ≤ 6)
    · simp (disch := first | assumption | omega | decide | rfl) only [w_X1_areLane_0, w_X1_areLane_1, w_X1_areLane_2, w_X1_areLane_4, w_X1_areLane_7, w_X1_areLane_10, w_X1_areLane_11, w_X1_areLane_12, w_X1_areLane_14, w_X1_areLane_17, w_X1_areLane_24, w_X1_areLane_25, nl_int, nl_ref, nl_null, nl_un, nl_rf, nl_long, isR_ref, isR_null, isR_rf, rf_some, rf_none, rOf_ref, rOf_null, rOf_rf, kn_v, kn_0, true_and, and_true, and_self, tin, inA_x, inA_l, ix_add, ix_addl, ix_ladd, ix_mul, ix_mull, ix_lmul, ix_tn, lt_tn, Nat.reduceLeDiff, Nat.reduceLT, Nat.reduceAdd, Nat.reduceMul, true_or, or_true, ↓reduceIte, aOk, ref_null, null_null, false_or, Option.isSome_some, Option.getD_some, ite_true, ite_false, eq_self, not_false_eq_true, not_true_eq_false, bz_ne, bz_1, reduceCtorEq, Bool.not_true, Bool.not_false, cx_within, q1, q2, Bool.and_false]
      rfl
    · simp (disch := first | assumption | omega | decide | rfl) only [w_X1_areLane_0, w_X1_areLane_1, w_X1_areLane_2, w_X1_areLane_4, w_X1_areLane_7, w_X1_areLane_10, w_X1_areLane_11, w_X1_areLane_12, w_X1_areLane_14, w_X1_areLane_17, w_X1_areLane_20, w_X1_areLane_21, w_X1_areLane_25, nl_int, nl_ref, nl_null, nl_un, nl_rf, nl_long, isR_ref, isR_null, isR_rf, rf_some, rf_none, rOf_ref, rOf_null, rOf_rf, kn_v, kn_0, true_and, and_true, and_self, tin, inA_x, inA_l, ix_add, ix_addl, ix_ladd, ix_mul, ix_mull, ix_lmul, ix_tn, lt_tn, Nat.reduceLeDiff, Nat.reduceLT, Nat.reduceAdd, Nat.reduceMul, true_or, or_true, ↓reduceIte, aOk, ref_null, null_null, false_or, Option.isSome_some, Option.getD_some, ite_true, ite_false, eq_self, not_false_eq_true, not_true_eq_false, bz_ne, bz_1, reduceCtorEq, Bool.not_true, Bool.not_false, cx_within, q1, q2, Bool.and_true]
      rfl
theorem XN.pgs (X : XN h x lo hi o b O S) {Q : Rs → AH → Prop} : Ca (D + 1) 301 [.ref (ol h o 37)] h Q = Q (.inl (some (.int (ix O.nG)))) h := X.xo.pg.size
theorem cx_stolen (X : XN h x lo hi o b O S) (W : WB O S.B) (hp : p < O.nG) (hl : lane < 12) (hd : loud < 7) : Ca (D + 268) 41 [.ref x, .int (ix p), .int (ix lane), .int (ix loud)] h (fun r h' => r = .inl (some (.int (thA O S.B p lane loud))) ∧ Tf x h h') := by
  have n5 := X.xo.wo.nG
  have pb := X.xo.wo.pm p hp
  generalize hQ : (fun r h' => r = .inl (some (.int (thA O S.B p lane loud))) ∧ Tf x h h' : Rs → AH → Prop) = Q
  rw [e_X1_stolen]
  simp (disch := first | assumption | omega | decide | rfl) only [w_X1_stolen_0, w_X1_stolen_1, w_X1_stolen_4, w_X1_stolen_5, w_X1_stolen_8, nl_int, nl_ref, nl_null, nl_un, nl_rf, nl_long, isR_ref, isR_null, isR_rf, rf_some, rf_none, rOf_ref, rOf_null, rOf_rf, kn_v, kn_0, true_and, and_true, and_self, tin, inA_x, inA_l, ix_add, ix_addl, ix_ladd, ix_mul, ix_mull, ix_lmul, ix_tn, lt_tn, Nat.reduceLeDiff, Nat.reduceLT, Nat.reduceAdd, Nat.reduceMul, true_or, or_true, ↓reduceIte, aOk, ref_null, null_null, false_or, Option.isSome_some, Option.getD_some, ite_true, ite_false, eq_self, not_false_eq_true, not_true_eq_false, bz_ne, bz_1, reduceCtorEq, Bool.not_true, Bool.not_false, X.f.tx, X.f.f2, X.fb, X.f.t30]
  refine ca_mono (X.cp (Or.inl rfl) X.tr) ?_
  rintro r h1 ⟨rfl, bx, tf, y⟩
  have X1 := X.tf tf
  obtain ⟨-, q1, q2, q3⟩ := X1.xo.pg1 p hp
  have tm := tmI (t := Tg h1 (oe h1 o 37 p)) (by omega) (by omega)
  simp (disch := first | assumption | omega | decide | rfl) only [w_X1_stolen_11, w_X1_stolen_12, w_X1_stolen_13, w_X1_stolen_16, w_X1_stolen_19, w_X1_stolen_20, w_X1_stolen_23, w_X1_stolen_26, w_X1_stolen_28, w_X1_stolen_29, w_X1_stolen_31, w_X1_stolen_32, nl_int, nl_ref, nl_null, nl_un, nl_rf, nl_long, isR_ref, isR_null, isR_rf, rf_some, rf_none, rOf_ref, rOf_null, rOf_rf, kn_v, kn_0, true_and, and_true, and_self, tin, inA_x, inA_l, ix_add, ix_addl, ix_ladd, ix_mul, ix_mull, ix_lmul, ix_tn, lt_tn, Nat.reduceLeDiff, Nat.reduceLT, Nat.reduceAdd, Nat.reduceMul, true_or, or_true, ↓reduceIte, aOk, ref_null, null_null, false_or, Option.isSome_some, Option.getD_some, ite_true, ite_false, eq_self, not_false_eq_true, not_true_eq_false, bz_ne, bz_1, reduceCtorEq, Bool.not_true, Bool.not_false, X1.f.tx, cx_now X1, X1.xo.tg, X1.xo.pg.fr, X1.xo.pg.wl.tg, X1.xo.pg.get hp, tm]
  have eoe : ∀ h2, Tf x h1 h2 → oe h2 o 37 p = oe h1 o 37 p := fun h2 t2 => (X1.xo.pg.un X1.sfx t2.1.1 (X1.sfx.uk t2.1.1 X1.xo.inn X1.xo.tg (by decide) (by decide) (by decide))).2.2 p
  generalize oe h1 o 37 p = pg at eoe
  refine lp (P := fun j => ∀ h2, Tf x h1 h2 → XB lo hi h2 (x + 30) o O.nA (thF O S.B p lane loud j).1 → Ru (D + 267) 41 34 [.ref x, .int (ix p), .int (ix lane), .int (ix loud), .ref pg, .int (thF O S.B p lane loud j).2, .int (ix j)] [] h2 Q) (N := O.pm p) ?_ ?_ h1 Tf.refl y
  · intro h2 t2 y2
    have X2 := X1.tf t2
    obtain ⟨-, q1, q2, q3⟩ := X2.xo.pg1 p hp
    rw [eoe h2 t2] at q1 q2 q3
    have t5 : 1000 ≤ Tg h2 pg := by omega
    have t6 : Tg h2 pg < 6000 := by omega
    have e : ¬ O.pm p < O.pm p := by omega
    have en : Int32.ofNat (An h2 pg) = ix (O.pm p) := by rw [q2]; rfl
    rw [w_X1_stolen_34]
    simp (disch := first | assumption | omega | decide | rfl) only [w_X1_stolen_36, w_X1_stolen_38, w_X1_stolen_39, w_X1_stolen_90, w_X1_stolen_92, nl_int, nl_ref, nl_null, nl_un, nl_rf, nl_long, isR_ref, isR_null, isR_rf, rf_some, rf_none, rOf_ref, rOf_null, rOf_rf, kn_v, kn_0, true_and, and_true, and_self, tin, inA_x, inA_l, ix_add, ix_addl, ix_ladd, ix_mul, ix_mull, ix_lmul, ix_tn, lt_tn, Nat.reduceLeDiff, Nat.reduceLT, Nat.reduceAdd, Nat.reduceMul, true_or, or_true, ↓reduceIte, aOk, ref_null, null_null, false_or, Option.isSome_some, Option.getD_some, ite_true, ite_false, eq_self, not_false_eq_true, not_true_eq_false, bz_ne, bz_1, reduceCtorEq, Bool.not_true, Bool.not_false, t5, t6, en, ix_lt, e]
    rw [← hQ]
    exact ⟨rfl, tf.trans t2⟩
  · intro j hj nx h2 t2 y2
    have X2 := X1.tf t2
    obtain ⟨-, q1, q2, q3⟩ := X2.xo.pg1 p hp
    rw [eoe h2 t2] at q1 q2 q3
    have t5 : 1000 ≤ Tg h2 pg := by omega
    have t6 : Tg h2 pg < 6000 := by omega
    have t7 : Tg h2 pg < 2000 := by omega
    have en : Int32.ofNat (O.pm p) = ix (O.pm p) := rfl
    have g := q3 j hj
    have b1 := X.xo.wo.pg p hp j hj
    have n1 := X.xo.wo.nA
    obtain ⟨-, p1, p2, -⟩ := X2.xo.ap1 _ b1
    have tm := tg_ap (X.xo.wo.kd _ b1) p1
    have b2 := X.xo.wo.ts _ b1
    have es : thF O S.B p lane loud (j + 1) = thS O p lane loud (thF O S.B p lane loud j) j := by unfold thF; rw [foI]
    have wb := th_wb (O := O) (B := S.B) (p := p) (lane := lane) (loud := loud) W j
    rw [es] at nx
    generalize thF O S.B p lane loud j = st at nx wb y2 ⊢
    unfold thS at nx
    rw [w_X1_stolen_34]
    simp (disch := first | assumption | omega | decide | rfl) only [w_X1_stolen_36, w_X1_stolen_38, w_X1_stolen_39, w_X1_stolen_42, w_X1_stolen_44, w_X1_stolen_45, w_X1_stolen_48, w_X1_stolen_49, w_X1_stolen_52, w_X1_stolen_53, w_X1_stolen_54, w_X1_stolen_55, w_X1_stolen_58, w_X1_stolen_61, w_X1_stolen_63, w_X1_stolen_65, w_X1_stolen_66, w_X1_stolen_69, w_X1_stolen_72, w_X1_stolen_75, nl_int, nl_ref, nl_null, nl_un, nl_rf, nl_long, isR_ref, isR_null, isR_rf, rf_some, rf_none, rOf_ref, rOf_null, rOf_rf, kn_v, kn_0, true_and, and_true, and_self, tin, inA_x, inA_l, ix_add, ix_addl, ix_ladd, ix_mul, ix_mull, ix_lmul, ix_tn, lt_tn, Nat.reduceLeDiff, Nat.reduceLT, Nat.reduceAdd, Nat.reduceMul, true_or, or_true, ↓reduceIte, aOk, ref_null, null_null, false_or, Option.isSome_some, Option.getD_some, ite_true, ite_false, eq_self, not_false_eq_true, not_true_eq_false, bz_ne, bz_1, reduceCtorEq, Bool.not_true, Bool.not_false, t5, t6, t7, en, q2, ix_lt, hj, g, X2.f.tx, X2.f.f2, cx_now X2, X2.xo.tg, X2.xo.ap.fr, X2.xo.ap.wl.tg, X2.xo.ap.get b1, tm, p2, X2.f.t30]
    refine ca_mono (cx_called X2.xo y2 wb b2 hl hd) ?_
    rintro r h3 ⟨rfl, bx3, y3⟩
    have t3 := bx3.tf (x := x) (Or.inl rfl) X2.f.t30
    have X3 := X2.tf t3
    have hf : flF O st.1 (O.ts (O.pg p j)) lane loud < 1024 := faF_lt (wb.lt X.xo.wo)
    simp (disch := first | assumption | omega | decide | rfl) only [w_X1_stolen_78, w_X1_stolen_81, w_X1_stolen_82, w_X1_stolen_84, w_X1_stolen_87, nl_int, nl_ref, nl_null, nl_un, nl_rf, nl_long, isR_ref, isR_null, isR_rf, rf_some, rf_none, rOf_ref, rOf_null, rOf_rf, kn_v, kn_0, true_and, and_true, and_self, tin, inA_x, inA_l, ix_add, ix_addl, ix_ladd, ix_mul, ix_mull, ix_lmul, ix_tn, lt_tn, Nat.reduceLeDiff, Nat.reduceLT, Nat.reduceAdd, Nat.reduceMul, true_or, or_true, ↓reduceIte, aOk, ref_null, null_null, false_or, Option.isSome_some, Option.getD_some, ite_true, ite_false, eq_self, not_false_eq_true, not_true_eq_false, bz_ne, bz_1, reduceCtorEq, Bool.not_true, Bool.not_false, y3.tg, cx_worths X3.xo y3 hf]
    exact nx h3 (t2.trans t3) y3
theorem hi_nn : ∀ j, j ≤ 16 → (hiF O B lane loud j).1 = -1 ∨ ¬ (hiF O B lane loud j).1 < 0 := by
  intro j
  induction j with
  | zero => intro _; left; unfold hiF; rw [foI]
  | succ j ih =>
    intro hj
    have es : hiF O B lane loud (j + 1) = hiS O B lane loud (hiF O B lane loud j) j := by unfold hiF; rw [foI]
    rw [es]
    unfold hiS
    split
    · exact ih (by omega)
    · exact Or.inr (ix_nn (by omega))
theorem xhide (X : XN h x lo hi o b O S) (W : WB O S.B) : Ca (D + 269) 39 [.ref x, .int v, .int w] h (fun r h' => r = .inl (some (.int (hidF O S.B v w))) ∧ Tf x h h') := by
  have n5 := X.xo.wo.nG
  generalize hQ : (fun r h' => r = .inl (some (.int (hidF O S.B v w))) ∧ Tf x h h' : Rs → AH → Prop) = Q
  rw [e_X1_hide]
  cases q1 : voF v w
  · simp (disch := first | assumption | omega | decide | rfl) only [w_X1_hide_0, w_X1_hide_1, w_X1_hide_2, w_X1_hide_5, w_X1_hide_22, w_X1_hide_23, nl_int, nl_ref, nl_null, nl_un, nl_rf, nl_long, isR_ref, isR_null, isR_rf, rf_some, rf_none, rOf_ref, rOf_null, rOf_rf, kn_v, kn_0, true_and, and_true, and_self, tin, inA_x, inA_l, ix_add, ix_addl, ix_ladd, ix_mul, ix_mull, ix_lmul, ix_tn, lt_tn, Nat.reduceLeDiff, Nat.reduceLT, Nat.reduceAdd, Nat.reduceMul, true_or, or_true, ↓reduceIte, aOk, ref_null, null_null, false_or, Option.isSome_some, Option.getD_some, ite_true, ite_false, eq_self, not_false_eq_true, not_true_eq_false, bz_ne, bz_1, reduceCtorEq, Bool.not_true, Bool.not_false, cx_areLane, q1]
    rw [← hQ]
    exact ⟨by unfold hidF; rw [q1]; rfl, Tf.refl⟩
  · obtain ⟨a, s, ha, hs, rfl, rfl⟩ := voF_ex q1
    by_cases q2 : O.nG < 2
    · have d2 : (O.nG < 2) = True := eq_true q2
      simp (disch := first | assumption | omega | decide | rfl) only [w_X1_hide_0, w_X1_hide_1, w_X1_hide_2, w_X1_hide_5, w_X1_hide_8, w_X1_hide_9, w_X1_hide_12, w_X1_hide_15, w_X1_hide_18, w_X1_hide_19, w_X1_hide_22, w_X1_hide_23, nl_int, nl_ref, nl_null, nl_un, nl_rf, nl_long, isR_ref, isR_null, isR_rf, rf_some, rf_none, rOf_ref, rOf_null, rOf_rf, kn_v, kn_0, true_and, and_true, and_self, tin, inA_x, inA_l, ix_add, ix_addl, ix_ladd, ix_mul, ix_mull, ix_lmul, ix_tn, lt_tn, Nat.reduceLeDiff, Nat.reduceLT, Nat.reduceAdd, Nat.reduceMul, true_or, or_true, ↓reduceIte, aOk, ref_null, null_null, false_or, Option.isSome_some, Option.getD_some, ite_true, ite_false, eq_self, not_false_eq_true, not_true_eq_false, bz_ne, bz_1, reduceCtorEq, Bool.not_true, Bool.not_false, cx_areLane, q1, X.f.tx, cx_now X, X.xo.tg, X.xo.pg.fr, X.xo.pg.wl.tg, X.pgs, ix_ltl, d2]
      rw [← hQ]
      exact ⟨by unfold hidF; rw [decide_eq_true q2, q1]; rfl, Tf.refl⟩
    · have d2 : (O.nG < 2) = False := eq_false q2
      unfold hidF at hQ
      rw [q1, decide_eq_false q2, Bool.not_false, Bool.and_true, if_pos rfl, tn_ix (by omega), tn_ix (by omega)] at hQ
      simp (disch := first | assumption | omega | decide | rfl) only [w_X1_hide_0, w_X1_hide_1, w_X1_hide_2, w_X1_hide_5, w_X1_hide_8, w_X1_hide_9, w_X1_hide_12, w_X1_hide_15, w_X1_hide_18, w_X1_hide_19, w_X1_hide_24, w_X1_hide_25, w_X1_hide_26, w_X1_hide_27, w_X1_hide_29, w_X1_hide_30, nl_int, nl_ref, nl_null, nl_un, nl_rf, nl_long, isR_ref, isR_null, isR_rf, rf_some, rf_none, rOf_ref, rOf_null, rOf_rf, kn_v, kn_0, true_and, and_true, and_self, tin, inA_x, inA_l, ix_add, ix_addl, ix_ladd, ix_mul, ix_mull, ix_lmul, ix_tn, lt_tn, Nat.reduceLeDiff, Nat.reduceLT, Nat.reduceAdd, Nat.reduceMul, true_or, or_true, ↓reduceIte, aOk, ref_null, null_null, false_or, Option.isSome_some, Option.getD_some, ite_true, ite_false, eq_self, not_false_eq_true, not_true_eq_false, bz_ne, bz_1, reduceCtorEq, Bool.not_true, Bool.not_false, cx_areLane, q1, X.f.tx, cx_now X, X.xo.tg, X.xo.pg.fr, X.xo.pg.wl.tg, X.pgs, ix_ltl, d2]
      refine lp (P := fun j => ∀ h2 (v6 v7 : Value), Tf x h h2 → ∀ st, st = hiF O S.B a s j → Ru (D + 268) 39 32 [.ref x, .int (ix a), .int (ix s), .int st.1, .int st.2, .int (ix j), v6, v7] [] h2 Q) (N := O.nG) ?_ ?_ h un un Tf.refl (-1, 0) (by unfold hiF; rw [foI])
      · intro h2 v6 v7 t2 st es
        have X2 := X.tf t2
        have e : ¬ O.nG < O.nG := by omega
        rw [w_X1_hide_32]
        simp (disch := first | assumption | omega | decide | rfl) only [w_X1_hide_34, w_X1_hide_35, w_X1_hide_38, w_X1_hide_41, w_X1_hide_44, w_X1_hide_124, w_X1_hide_125, nl_int, nl_ref, nl_null, nl_un, nl_rf, nl_long, isR_ref, isR_null, isR_rf, rf_some, rf_none, rOf_ref, rOf_null, rOf_rf, kn_v, kn_0, true_and, and_true, and_self, tin, inA_x, inA_l, ix_add, ix_addl, ix_ladd, ix_mul, ix_mull, ix_lmul, ix_tn, lt_tn, Nat.reduceLeDiff, Nat.reduceLT, Nat.reduceAdd, Nat.reduceMul, true_or, or_true, ↓reduceIte, aOk, ref_null, null_null, false_or, Option.isSome_some, Option.getD_some, ite_true, ite_false, eq_self, not_false_eq_true, not_true_eq_false, bz_ne, bz_1, reduceCtorEq, Bool.not_true, Bool.not_false, X2.f.tx, cx_now X2, X2.xo.tg, X2.xo.pg.fr, X2.xo.pg.wl.tg, X2.pgs, ix_lt, e]
        rw [← hQ, es]
        exact ⟨rfl, t2⟩
      · intro j hj nx h2 v6 v7 t2 st es
        have X2 := X.tf t2
        have nn := hi_nn (O := O) (B := S.B) (lane := a) (loud := s) j (by omega)
        rw [← es] at nn
        have mm := m1_lt nn
        have jn : ∀ h3 (v6 v7 : Value) st', st' = hiS O S.B a s st j → Tf x h h3 → Ru (D + 268) 39 118 [.ref x, .int (ix a), .int (ix s), .int st'.1, .int st'.2, .int (ix j), v6, v7] [] h3 Q := by
          intro h3 v6 v7 st' e' t3
          simp (disch := first | assumption | omega | decide | rfl) only [w_X1_hide_118, w_X1_hide_121, nl_int, nl_ref, nl_null, nl_un, nl_rf, nl_long, isR_ref, isR_null, isR_rf, rf_some, rf_none, rOf_ref, rOf_null, rOf_rf, kn_v, kn_0, true_and, and_true, and_self, tin, inA_x, inA_l, ix_add, ix_addl, ix_ladd, ix_mul, ix_mull, ix_lmul, ix_tn, lt_tn, Nat.reduceLeDiff, Nat.reduceLT, Nat.reduceAdd, Nat.reduceMul, true_or, or_true, ↓reduceIte, aOk, ref_null, null_null, false_or, Option.isSome_some, Option.getD_some, ite_true, ite_false, eq_self, not_false_eq_true, not_true_eq_false, bz_ne, bz_1, reduceCtorEq, Bool.not_true, Bool.not_false]
          exact nx h3 v6 v7 t3 st' (by rw [e', es]; unfold hiF; rw [foI])
        unfold hiS at jn
        rw [w_X1_hide_32]
        simp (disch := first | assumption | omega | decide | rfl) only [w_X1_hide_34, w_X1_hide_35, w_X1_hide_38, w_X1_hide_41, w_X1_hide_44, w_X1_hide_47, w_X1_hide_48, w_X1_hide_50, w_X1_hide_51, nl_int, nl_ref, nl_null, nl_un, nl_rf, nl_long, isR_ref, isR_null, isR_rf, rf_some, rf_none, rOf_ref, rOf_null, rOf_rf, kn_v, kn_0, true_and, and_true, and_self, tin, inA_x, inA_l, ix_add, ix_addl, ix_ladd, ix_mul, ix_mull, ix_lmul, ix_tn, lt_tn, Nat.reduceLeDiff, Nat.reduceLT, Nat.reduceAdd, Nat.reduceMul, true_or, or_true, ↓reduceIte, aOk, ref_null, null_null, false_or, Option.isSome_some, Option.getD_some, ite_true, ite_false, eq_self, not_false_eq_true, not_true_eq_false, bz_ne, bz_1, reduceCtorEq, Bool.not_true, Bool.not_false, X2.f.tx, cx_now X2, X2.xo.tg, X2.xo.pg.fr, X2.xo.pg.wl.tg, X2.pgs, ix_lt, hj]
        refine lp (P := fun p => ∀ h3, Tf x h h3 → ∀ mx, mx = hiM O S.B a s j p → Ru (D + 268) 39 53 [.ref x, .int (ix a), .int (ix s), .int st.1, .int st.2, .int (ix j), .int mx, .int (ix p)] [] h3 Q) (N := O.nG) ?_ ?_ h2 t2 0 (by unfold hiM; rw [foI])
        · intro h3 t3 mx em
          have X3 := X.tf t3
          have e : ¬ O.nG < O.nG := by omega
          rw [w_X1_hide_53]
          simp (disch := first | assumption | omega | decide | rfl) only [w_X1_hide_55, w_X1_hide_56, w_X1_hide_59, w_X1_hide_62, w_X1_hide_65, nl_int, nl_ref, nl_null, nl_un, nl_rf, nl_long, isR_ref, isR_null, isR_rf, rf_some, rf_none, rOf_ref, rOf_null, rOf_rf, kn_v, kn_0, true_and, and_true, and_self, tin, inA_x, inA_l, ix_add, ix_addl, ix_ladd, ix_mul, ix_mull, ix_lmul, ix_tn, lt_tn, Nat.reduceLeDiff, Nat.reduceLT, Nat.reduceAdd, Nat.reduceMul, true_or, or_true, ↓reduceIte, aOk, ref_null, null_null, false_or, Option.isSome_some, Option.getD_some, ite_true, ite_false, eq_self, not_false_eq_true, not_true_eq_false, bz_ne, bz_1, reduceCtorEq, Bool.not_true, Bool.not_false, X3.f.tx, cx_now X3, X3.xo.tg, X3.xo.pg.fr, X3.xo.pg.wl.tg, X3.pgs, ix_lt, e]
          rw [← em] at jn
          by_cases q4 : st.1 < 0
          · have d4 : (st.1 = -1) = True := by rw [mm]; exact eq_true q4
            rw [if_neg (by simp [q4])] at jn
            simp (disch := first | assumption | omega | decide | rfl) only [w_X1_hide_96, w_X1_hide_97, w_X1_hide_98, w_X1_hide_111, w_X1_hide_113, w_X1_hide_114, w_X1_hide_116, nl_int, nl_ref, nl_null, nl_un, nl_rf, nl_long, isR_ref, isR_null, isR_rf, rf_some, rf_none, rOf_ref, rOf_null, rOf_rf, kn_v, kn_0, true_and, and_true, and_self, tin, inA_x, inA_l, ix_add, ix_addl, ix_ladd, ix_mul, ix_mull, ix_lmul, ix_tn, lt_tn, Nat.reduceLeDiff, Nat.reduceLT, Nat.reduceAdd, Nat.reduceMul, true_or, or_true, ↓reduceIte, aOk, ref_null, null_null, false_or, Option.isSome_some, Option.getD_some, ite_true, ite_false, eq_self, not_false_eq_true, not_true_eq_false, bz_ne, bz_1, reduceCtorEq, Bool.not_true, Bool.not_false, d4]
            exact jn h3 _ _ (ix j, mx) rfl t3
          · have d4 : (st.1 = -1) = False := by rw [mm]; exact eq_false q4
            by_cases q5 : mx < st.2
            · rw [if_neg (by simp [q5])] at jn
              simp (disch := first | assumption | omega | decide | rfl) only [w_X1_hide_96, w_X1_hide_97, w_X1_hide_98, w_X1_hide_101, w_X1_hide_103, w_X1_hide_105, w_X1_hide_111, w_X1_hide_113, w_X1_hide_114, w_X1_hide_116, nl_int, nl_ref, nl_null, nl_un, nl_rf, nl_long, isR_ref, isR_null, isR_rf, rf_some, rf_none, rOf_ref, rOf_null, rOf_rf, kn_v, kn_0, true_and, and_true, and_self, tin, inA_x, inA_l, ix_add, ix_addl, ix_ladd, ix_mul, ix_mull, ix_lmul, ix_tn, lt_tn, Nat.reduceLeDiff, Nat.reduceLT, Nat.reduceAdd, Nat.reduceMul, true_or, or_true, ↓reduceIte, aOk, ref_null, null_null, false_or, Option.isSome_some, Option.getD_some, ite_true, ite_false, eq_self, not_false_eq_true, not_true_eq_false, bz_ne, bz_1, reduceCtorEq, Bool.not_true, Bool.not_false, d4, q5]
              exact jn h3 _ _ (ix j, mx) rfl t3
            · rw [if_pos ⟨q4, q5⟩] at jn
              simp (disch := first | assumption | omega | decide | rfl) only [w_X1_hide_96, w_X1_hide_97, w_X1_hide_98, w_X1_hide_101, w_X1_hide_103, w_X1_hide_105, w_X1_hide_108, nl_int, nl_ref, nl_null, nl_un, nl_rf, nl_long, isR_ref, isR_null, isR_rf, rf_some, rf_none, rOf_ref, rOf_null, rOf_rf, kn_v, kn_0, true_and, and_true, and_self, tin, inA_x, inA_l, ix_add, ix_addl, ix_ladd, ix_mul, ix_mull, ix_lmul, ix_tn, lt_tn, Nat.reduceLeDiff, Nat.reduceLT, Nat.reduceAdd, Nat.reduceMul, true_or, or_true, ↓reduceIte, aOk, ref_null, null_null, false_or, Option.isSome_some, Option.getD_some, ite_true, ite_false, eq_self, not_false_eq_true, not_true_eq_false, bz_ne, bz_1, reduceCtorEq, Bool.not_true, Bool.not_false, d4, q5]
              exact jn h3 _ _ st rfl t3
        · intro p hp np h3 t3 mx em
          have X3 := X.tf t3
          have es2 : hiM O S.B a s j (p + 1) = if p = j then hiM O S.B a s j p else (if hiM O S.B a s j p < thA O S.B p a s then thA O S.B p a s else hiM O S.B a s j p) := by unfold hiM; rw [foI]
          have np : ∀ h3 mx', Tf x h h3 → mx' = (if p = j then mx else (if mx < thA O S.B p a s then thA O S.B p a s else mx)) → Ru (D + 268) 39 90 [.ref x, .int (ix a), .int (ix s), .int st.1, .int st.2, .int (ix j), .int mx', .int (ix p)] [] h3 Q := by
            intro h3 mx' t3 e'
            simp (disch := first | assumption | omega | decide | rfl) only [w_X1_hide_90, w_X1_hide_93, nl_int, nl_ref, nl_null, nl_un, nl_rf, nl_long, isR_ref, isR_null, isR_rf, rf_some, rf_none, rOf_ref, rOf_null, rOf_rf, kn_v, kn_0, true_and, and_true, and_self, tin, inA_x, inA_l, ix_add, ix_addl, ix_ladd, ix_mul, ix_mull, ix_lmul, ix_tn, lt_tn, Nat.reduceLeDiff, Nat.reduceLT, Nat.reduceAdd, Nat.reduceMul, true_or, or_true, ↓reduceIte, aOk, ref_null, null_null, false_or, Option.isSome_some, Option.getD_some, ite_true, ite_false, eq_self, not_false_eq_true, not_true_eq_false, bz_ne, bz_1, reduceCtorEq, Bool.not_true, Bool.not_false]
            exact np h3 t3 mx' (by rw [e', es2, em])
          rw [w_X1_hide_53]
          by_cases q6 : p = j
          · have d6 : (p = j) = True := eq_true q6
            rw [if_pos q6] at np
            simp (disch := first | assumption | omega | decide | rfl) only [w_X1_hide_55, w_X1_hide_56, w_X1_hide_59, w_X1_hide_62, w_X1_hide_65, w_X1_hide_68, w_X1_hide_70, w_X1_hide_72, nl_int, nl_ref, nl_null, nl_un, nl_rf, nl_long, isR_ref, isR_null, isR_rf, rf_some, rf_none, rOf_ref, rOf_null, rOf_rf, kn_v, kn_0, true_and, and_true, and_self, tin, inA_x, inA_l, ix_add, ix_addl, ix_ladd, ix_mul, ix_mull, ix_lmul, ix_tn, lt_tn, Nat.reduceLeDiff, Nat.reduceLT, Nat.reduceAdd, Nat.reduceMul, true_or, or_true, ↓reduceIte, aOk, ref_null, null_null, false_or, Option.isSome_some, Option.getD_some, ite_true, ite_false, eq_self, not_false_eq_true, not_true_eq_false, bz_ne, bz_1, reduceCtorEq, Bool.not_true, Bool.not_false, X3.f.tx, cx_now X3, X3.xo.tg, X3.xo.pg.fr, X3.xo.pg.wl.tg, X3.pgs, ix_lt, hp, ix_eq, d6]
            exact np h3 mx t3 rfl
          · have d6 : (p = j) = False := eq_false q6
            rw [if_neg q6] at np
            simp (disch := first | assumption | omega | decide | rfl) only [w_X1_hide_55, w_X1_hide_56, w_X1_hide_59, w_X1_hide_62, w_X1_hide_65, w_X1_hide_68, w_X1_hide_70, w_X1_hide_72, w_X1_hide_75, w_X1_hide_77, w_X1_hide_78, w_X1_hide_80, w_X1_hide_81, w_X1_hide_82, nl_int, nl_ref, nl_null, nl_un, nl_rf, nl_long, isR_ref, isR_null, isR_rf, rf_some, rf_none, rOf_ref, rOf_null, rOf_rf, kn_v, kn_0, true_and, and_true, and_self, tin, inA_x, inA_l, ix_add, ix_addl, ix_ladd, ix_mul, ix_mull, ix_lmul, ix_tn, lt_tn, Nat.reduceLeDiff, Nat.reduceLT, Nat.reduceAdd, Nat.reduceMul, true_or, or_true, ↓reduceIte, aOk, ref_null, null_null, false_or, Option.isSome_some, Option.getD_some, ite_true, ite_false, eq_self, not_false_eq_true, not_true_eq_false, bz_ne, bz_1, reduceCtorEq, Bool.not_true, Bool.not_false, X3.f.tx, cx_now X3, X3.xo.tg, X3.xo.pg.fr, X3.xo.pg.wl.tg, X3.pgs, ix_lt, hp, ix_eq, d6]
            refine ca_mono (cx_stolen X3 W hp ha hs) ?_
            rintro r h4 ⟨rfl, t4⟩
            simp (disch := first | assumption | omega | decide | rfl) only [w_X1_hide_85, w_X1_hide_88, nl_int, nl_ref, nl_null, nl_un, nl_rf, nl_long, isR_ref, isR_null, isR_rf, rf_some, rf_none, rOf_ref, rOf_null, rOf_rf, kn_v, kn_0, true_and, and_true, and_self, tin, inA_x, inA_l, ix_add, ix_addl, ix_ladd, ix_mul, ix_mull, ix_lmul, ix_tn, lt_tn, Nat.reduceLeDiff, Nat.reduceLT, Nat.reduceAdd, Nat.reduceMul, true_or, or_true, ↓reduceIte, aOk, ref_null, null_null, false_or, Option.isSome_some, Option.getD_some, ite_true, ite_false, eq_self, not_false_eq_true, not_true_eq_false, bz_ne, bz_1, reduceCtorEq, Bool.not_true, Bool.not_false, c_max]
            exact np h4 _ (t3.trans t4) rfl
end
