/-! NAMEORCHARD: what strangers take -/
set_option maxRecDepth 100000
section
variable {h h' h1 h2 : AH} {A : Nat → Prop} {x a b c p q l o lo hi n k t d D s j i : Nat} {O : Oc} {S : Sg} {B C E : Bo} {Q : Rs → AH → Prop} {u v w y ren snd : Int32}
theorem tmI {t : Nat} (h1 : 1001 ≤ t) (h2 : t ≤ 1020) : t ∈ [1001, 1002, 1003, 1004, 1005, 1006, 1007, 1008, 1009, 1010, 1011, 1012, 1013, 1014, 1015, 1016, 1017, 1018, 1019, 1020] := by
  have all : ∀ k : Fin 20, 1001 + k.1 ∈ [1001, 1002, 1003, 1004, 1005, 1006, 1007, 1008, 1009, 1010, 1011, 1012, 1013, 1014, 1015, 1016, 1017, 1018, 1019, 1020] := by decide
  have := all ⟨t - 1001, by omega⟩
  rwa [show 1001 + (t - 1001) = t by omega] at this
theorem cx_lossOf (X : XN h x lo hi o b O S) (W : WB O S.B) (hn : n ≤ 30) (he : E.hang = S.B.hang) (hs : ∀ j, j < O.nA → E.snd j < O.nS ∧ (if ix j = ren then snd else ix (S.B.snd j)) = ix (E.snd j)) : Ca (D + 256) 37 [.ref x, .int (ix n), .int ren, .int snd] h (fun r h' => r = .inl (some (.int (loS O E n))) ∧ Tf x h h') := by
  have n1 := X.xo.wo.nA
  have n2 := X.xo.wo.nS
  have n4 := X.xo.wo.nT
  have hh := W.lt X.xo.wo
  generalize hQ : (fun r h' => r = .inl (some (.int (loS O E n))) ∧ Tf x h h' : Rs → AH → Prop) = Q
  rw [e_X1_lossOf]
  simp (disch := first | assumption | omega | decide | rfl) only [w_X1_lossOf_0, w_X1_lossOf_1, w_X1_lossOf_3, w_X1_lossOf_4, nl_int, nl_ref, nl_null, nl_un, nl_rf, nl_long, isR_ref, isR_null, isR_rf, rf_some, rf_none, rOf_ref, rOf_null, rOf_rf, kn_v, kn_0, true_and, and_true, and_self, tin, inA_x, inA_l, ix_add, ix_addl, ix_ladd, ix_mul, ix_mull, ix_lmul, ix_tn, lt_tn, Nat.reduceLeDiff, Nat.reduceLT, Nat.reduceAdd, Nat.reduceMul, true_or, or_true, ↓reduceIte, aOk, ref_null, null_null, false_or, Option.isSome_some, Option.getD_some, ite_true, ite_false, eq_self, not_false_eq_true, not_true_eq_false, bz_ne, bz_1, reduceCtorEq, Bool.not_true, Bool.not_false]
  refine lp (P := fun j => ∀ h2 (v6 v7 v8 v9 v10 : Value), Tf x h h2 → Ru (D + 255) 37 6 [.ref x, .int (ix n), .int ren, .int snd, .int (su E.hang (fun a => ix (loV O (E.snd a) a n)) j), .int (ix j), v6, v7, v8, v9, v10] [] h2 Q) (N := O.nA) ?_ ?_ h un un un un un Tf.refl
  · intro h2 v6 v7 v8 v9 v10 t2
    have X2 := X.tf t2
    have e : ¬ O.nA < O.nA := by omega
    rw [w_X1_lossOf_6]
    simp (disch := first | assumption | omega | decide | rfl) only [w_X1_lossOf_8, w_X1_lossOf_9, w_X1_lossOf_12, w_X1_lossOf_189, w_X1_lossOf_191, nl_int, nl_ref, nl_null, nl_un, nl_rf, nl_long, isR_ref, isR_null, isR_rf, rf_some, rf_none, rOf_ref, rOf_null, rOf_rf, kn_v, kn_0, true_and, and_true, and_self, tin, inA_x, inA_l, ix_add, ix_addl, ix_ladd, ix_mul, ix_mull, ix_lmul, ix_tn, lt_tn, Nat.reduceLeDiff, Nat.reduceLT, Nat.reduceAdd, Nat.reduceMul, true_or, or_true, ↓reduceIte, aOk, ref_null, null_null, false_or, Option.isSome_some, Option.getD_some, ite_true, ite_false, eq_self, not_false_eq_true, not_true_eq_false, bz_ne, bz_1, reduceCtorEq, Bool.not_true, Bool.not_false, X2.f.tx, cx_apples X2, ix_lt, e]
    rw [← hQ]
    exact ⟨rfl, t2⟩
  · intro j hj nx h2 v6 v7 v8 v9 v10 t2
    have X2 := X.tf t2
    obtain ⟨b1, b2⟩ := hs j hj
    have nx : ∀ h2 (v6 v7 v8 v9 v10 : Value) sm, sm = su E.hang (fun a => ix (loV O (E.snd a) a n)) j + (if E.hang.testBit j = true then ix (loV O (E.snd j) j n) else 0) → Tf x h h2 → Ru (D + 255) 37 183 [.ref x, .int (ix n), .int ren, .int snd, .int sm, .int (ix j), v6, v7, v8, v9, v10] [] h2 Q := by
      rintro h2 v6 v7 v8 v9 v10 sm rfl t2
      simp (disch := first | assumption | omega | decide | rfl) only [w_X1_lossOf_183, w_X1_lossOf_186, nl_int, nl_ref, nl_null, nl_un, nl_rf, nl_long, isR_ref, isR_null, isR_rf, rf_some, rf_none, rOf_ref, rOf_null, rOf_rf, kn_v, kn_0, true_and, and_true, and_self, tin, inA_x, inA_l, ix_add, ix_addl, ix_ladd, ix_mul, ix_mull, ix_lmul, ix_tn, lt_tn, Nat.reduceLeDiff, Nat.reduceLT, Nat.reduceAdd, Nat.reduceMul, true_or, or_true, ↓reduceIte, aOk, ref_null, null_null, false_or, Option.isSome_some, Option.getD_some, ite_true, ite_false, eq_self, not_false_eq_true, not_true_eq_false, bz_ne, bz_1, reduceCtorEq, Bool.not_true, Bool.not_false]
      exact nx h2 v6 v7 v8 v9 v10 t2
    generalize su E.hang (fun a => ix (loV O (E.snd a) a n)) j = ac at nx ⊢
    rw [w_X1_lossOf_6]
    cases q1 : S.B.hang.testBit j
    · rw [he, q1, if_neg (by decide), i32_0] at nx
      simp (disch := first | assumption | omega | decide | rfl) only [w_X1_lossOf_8, w_X1_lossOf_9, w_X1_lossOf_12, w_X1_lossOf_15, w_X1_lossOf_16, w_X1_lossOf_19, w_X1_lossOf_21, w_X1_lossOf_24, w_X1_lossOf_27, nl_int, nl_ref, nl_null, nl_un, nl_rf, nl_long, isR_ref, isR_null, isR_rf, rf_some, rf_none, rOf_ref, rOf_null, rOf_rf, kn_v, kn_0, true_and, and_true, and_self, tin, inA_x, inA_l, ix_add, ix_addl, ix_ladd, ix_mul, ix_mull, ix_lmul, ix_tn, lt_tn, Nat.reduceLeDiff, Nat.reduceLT, Nat.reduceAdd, Nat.reduceMul, true_or, or_true, ↓reduceIte, aOk, ref_null, null_null, false_or, Option.isSome_some, Option.getD_some, ite_true, ite_false, eq_self, not_false_eq_true, not_true_eq_false, bz_ne, bz_1, reduceCtorEq, Bool.not_true, Bool.not_false, X2.f.tx, cx_apples X2, ix_lt, hj, X2.fb, X2.xb.tg, cx_hangs X2.xb hh (show j < 10 by omega), q1]
      exact nx h2 _ _ _ _ _ _ rfl t2
    · rw [he, q1, if_pos rfl] at nx
      have snds : Ru (D + 255) 37 30 [.ref x, .int (ix n), .int ren, .int snd, .int ac, .int (ix j), v6, v7, v8, v9, v10] [] h2 Q = Ru (D + 255) 37 60 [.ref x, .int (ix n), .int ren, .int snd, .int ac, .int (ix j), .int (ix (E.snd j)), .int 1000000, .int 0, v9, v10] [] h2 Q := by
        by_cases q2 : ix j = ren
        · have d2 : (ix j = ren) = True := eq_true q2
          rw [if_pos q2] at b2
          rw [b2]
          simp (disch := first | assumption | omega | decide | rfl) only [w_X1_lossOf_30, w_X1_lossOf_32, w_X1_lossOf_33, w_X1_lossOf_36, w_X1_lossOf_37, w_X1_lossOf_50, w_X1_lossOf_52, w_X1_lossOf_55, w_X1_lossOf_57, w_X1_lossOf_58, nl_int, nl_ref, nl_null, nl_un, nl_rf, nl_long, isR_ref, isR_null, isR_rf, rf_some, rf_none, rOf_ref, rOf_null, rOf_rf, kn_v, kn_0, true_and, and_true, and_self, tin, inA_x, inA_l, ix_add, ix_addl, ix_ladd, ix_mul, ix_mull, ix_lmul, ix_tn, lt_tn, Nat.reduceLeDiff, Nat.reduceLT, Nat.reduceAdd, Nat.reduceMul, true_or, or_true, ↓reduceIte, aOk, ref_null, null_null, false_or, Option.isSome_some, Option.getD_some, ite_true, ite_false, eq_self, not_false_eq_true, not_true_eq_false, bz_ne, bz_1, reduceCtorEq, Bool.not_true, Bool.not_false, d2]
        · have d2 : (ix j = ren) = False := eq_false q2
          rw [if_neg q2] at b2
          have g := X2.xb.snd j hj
          rw [b2] at g
          simp (disch := first | assumption | omega | decide | rfl) only [w_X1_lossOf_30, w_X1_lossOf_32, w_X1_lossOf_33, w_X1_lossOf_40, w_X1_lossOf_41, w_X1_lossOf_44, w_X1_lossOf_47, w_X1_lossOf_49, w_X1_lossOf_50, w_X1_lossOf_52, w_X1_lossOf_55, w_X1_lossOf_57, w_X1_lossOf_58, nl_int, nl_ref, nl_null, nl_un, nl_rf, nl_long, isR_ref, isR_null, isR_rf, rf_some, rf_none, rOf_ref, rOf_null, rOf_rf, kn_v, kn_0, true_and, and_true, and_self, tin, inA_x, inA_l, ix_add, ix_addl, ix_ladd, ix_mul, ix_mull, ix_lmul, ix_tn, lt_tn, Nat.reduceLeDiff, Nat.reduceLT, Nat.reduceAdd, Nat.reduceMul, true_or, or_true, ↓reduceIte, aOk, ref_null, null_null, false_or, Option.isSome_some, Option.getD_some, ite_true, ite_false, eq_self, not_false_eq_true, not_true_eq_false, bz_ne, bz_1, reduceCtorEq, Bool.not_true, Bool.not_false, d2, X2.f.tx, X2.fb, X2.xb.tg, X2.xb.sd, X2.xb.ta, X2.xb.an, g]
      simp (disch := first | assumption | omega | decide | rfl) only [w_X1_lossOf_8, w_X1_lossOf_9, w_X1_lossOf_12, w_X1_lossOf_15, w_X1_lossOf_16, w_X1_lossOf_19, w_X1_lossOf_21, w_X1_lossOf_24, nl_int, nl_ref, nl_null, nl_un, nl_rf, nl_long, isR_ref, isR_null, isR_rf, rf_some, rf_none, rOf_ref, rOf_null, rOf_rf, kn_v, kn_0, true_and, and_true, and_self, tin, inA_x, inA_l, ix_add, ix_addl, ix_ladd, ix_mul, ix_mull, ix_lmul, ix_tn, lt_tn, Nat.reduceLeDiff, Nat.reduceLT, Nat.reduceAdd, Nat.reduceMul, true_or, or_true, ↓reduceIte, aOk, ref_null, null_null, false_or, Option.isSome_some, Option.getD_some, ite_true, ite_false, eq_self, not_false_eq_true, not_true_eq_false, bz_ne, bz_1, reduceCtorEq, Bool.not_true, Bool.not_false, X2.f.tx, cx_apples X2, ix_lt, hj, X2.fb, X2.xb.tg, cx_hangs X2.xb hh (show j < 10 by omega), q1]
      rw [snds]
      refine lp (P := fun d => ∀ h3 (v9 v10 : Value), Tf x h h3 → Ru (D + 255) 37 60 [.ref x, .int (ix n), .int ren, .int snd, .int ac, .int (ix j), .int (ix (E.snd j)), .int (ix (noF O (E.snd j) j d)), .int (ix d), v9, v10] [] h3 Q) (N := n) ?_ ?_ h2 v9 v10 t2
      · intro h3 v9 v10 t3
        have X3 := X.tf t3
        have e : ¬ n < n := by omega
        obtain ⟨-, p1, p2, p3, p4, p5, p6, p7⟩ := X3.xo.ap1 j hj
        have tm := tg_ap (X.xo.wo.kd j hj) p1
        have b3 := X.xo.wo.wo j hj
        have le := noF_le (O := O) (s := E.snd j) (a := j) (n := n)
        have bb : O.wo j * (1000000 - noF O (E.snd j) j n) ≤ 100 * 1000000 := Nat.mul_le_mul (by omega) (Nat.sub_le _ _)
        have es : (1000000 : Int32) - ix (noF O (E.snd j) j n) = ix (1000000 - noF O (E.snd j) j n) := ix_lsub (n := 1000000) le
        rw [w_X1_lossOf_60]
        simp (disch := first | assumption | omega | decide | rfl) only [w_X1_lossOf_62, w_X1_lossOf_63, w_X1_lossOf_146, w_X1_lossOf_148, w_X1_lossOf_149, w_X1_lossOf_152, w_X1_lossOf_155, w_X1_lossOf_157, w_X1_lossOf_160, w_X1_lossOf_163, w_X1_lossOf_166, w_X1_lossOf_167, w_X1_lossOf_170, w_X1_lossOf_172, w_X1_lossOf_173, w_X1_lossOf_174, w_X1_lossOf_175, w_X1_lossOf_178, w_X1_lossOf_179, w_X1_lossOf_180, w_X1_lossOf_181, nl_int, nl_ref, nl_null, nl_un, nl_rf, nl_long, isR_ref, isR_null, isR_rf, rf_some, rf_none, rOf_ref, rOf_null, rOf_rf, kn_v, kn_0, true_and, and_true, and_self, tin, inA_x, inA_l, ix_add, ix_addl, ix_ladd, ix_mul, ix_mull, ix_lmul, ix_tn, lt_tn, Nat.reduceLeDiff, Nat.reduceLT, Nat.reduceAdd, Nat.reduceMul, true_or, or_true, ↓reduceIte, aOk, ref_null, null_null, false_or, Option.isSome_some, Option.getD_some, ite_true, ite_false, eq_self, not_false_eq_true, not_true_eq_false, bz_ne, bz_1, reduceCtorEq, Bool.not_true, Bool.not_false, ix_lt, e, X3.f.tx, cx_now X3, X3.xo.tg, X3.xo.ap.fr, X3.xo.ap.wl.tg, X3.xo.ap.get hj, tm, p6, es, ix_l, lix_mul, lix_dv, lix_i]
        exact nx h3 _ _ _ _ _ _ rfl t3
      · intro d hd nd h3 v9 v10 t3
        have nd : ∀ h3 (v9 v10 : Value), Tf x h h3 → Ru (D + 255) 37 140 [.ref x, .int (ix n), .int ren, .int snd, .int ac, .int (ix j), .int (ix (E.snd j)), .int (ix (noF O (E.snd j) j (d + 1))), .int (ix d), v9, v10] [] h3 Q := by
          intro h3 v9 v10 t3
          simp (disch := first | assumption | omega | decide | rfl) only [w_X1_lossOf_140, w_X1_lossOf_143, nl_int, nl_ref, nl_null, nl_un, nl_rf, nl_long, isR_ref, isR_null, isR_rf, rf_some, rf_none, rOf_ref, rOf_null, rOf_rf, kn_v, kn_0, true_and, and_true, and_self, tin, inA_x, inA_l, ix_add, ix_addl, ix_ladd, ix_mul, ix_mull, ix_lmul, ix_tn, lt_tn, Nat.reduceLeDiff, Nat.reduceLT, Nat.reduceAdd, Nat.reduceMul, true_or, or_true, ↓reduceIte, aOk, ref_null, null_null, false_or, Option.isSome_some, Option.getD_some, ite_true, ite_false, eq_self, not_false_eq_true, not_true_eq_false, bz_ne, bz_1, reduceCtorEq, Bool.not_true, Bool.not_false]
          exact nd h3 v9 v10 t3
        rw [show noF O (E.snd j) j (d + 1) = foI (noS O (E.snd j) j) (noF O (E.snd j) j d) O.nT from by unfold noF; rw [foI]] at nd
        have le := noF_le (O := O) (s := E.snd j) (a := j) (n := d)
        generalize noF O (E.snd j) j d = zz at nd le ⊢
        rw [w_X1_lossOf_60]
        simp (disch := first | assumption | omega | decide | rfl) only [w_X1_lossOf_62, w_X1_lossOf_63, w_X1_lossOf_66, w_X1_lossOf_67, nl_int, nl_ref, nl_null, nl_un, nl_rf, nl_long, isR_ref, isR_null, isR_rf, rf_some, rf_none, rOf_ref, rOf_null, rOf_rf, kn_v, kn_0, true_and, and_true, and_self, tin, inA_x, inA_l, ix_add, ix_addl, ix_ladd, ix_mul, ix_mull, ix_lmul, ix_tn, lt_tn, Nat.reduceLeDiff, Nat.reduceLT, Nat.reduceAdd, Nat.reduceMul, true_or, or_true, ↓reduceIte, aOk, ref_null, null_null, false_or, Option.isSome_some, Option.getD_some, ite_true, ite_false, eq_self, not_false_eq_true, not_true_eq_false, bz_ne, bz_1, reduceCtorEq, Bool.not_true, Bool.not_false, ix_lt, hd]
        refine lp (P := fun k => ∀ h4 (v10 : Value), Tf x h h4 → Ru (D + 255) 37 69 [.ref x, .int (ix n), .int ren, .int snd, .int ac, .int (ix j), .int (ix (E.snd j)), .int (ix (foI (noS O (E.snd j) j) zz k)), .int (ix d), .int (ix k), v10] [] h4 Q) (N := O.nT) ?_ ?_ h3 v10 t3
        · intro h4 v10 t4
          have X4 := X.tf t4
          have e : ¬ O.nT < O.nT := by omega
          rw [w_X1_lossOf_69]
          simp (disch := first | assumption | omega | decide | rfl) only [w_X1_lossOf_71, w_X1_lossOf_72, w_X1_lossOf_75, w_X1_lossOf_78, w_X1_lossOf_81, nl_int, nl_ref, nl_null, nl_un, nl_rf, nl_long, isR_ref, isR_null, isR_rf, rf_some, rf_none, rOf_ref, rOf_null, rOf_rf, kn_v, kn_0, true_and, and_true, and_self, tin, inA_x, inA_l, ix_add, ix_addl, ix_ladd, ix_mul, ix_mull, ix_lmul, ix_tn, lt_tn, Nat.reduceLeDiff, Nat.reduceLT, Nat.reduceAdd, Nat.reduceMul, true_or, or_true, ↓reduceIte, aOk, ref_null, null_null, false_or, Option.isSome_some, Option.getD_some, ite_true, ite_false, eq_self, not_false_eq_true, not_true_eq_false, bz_ne, bz_1, reduceCtorEq, Bool.not_true, Bool.not_false, X4.f.tx, cx_now X4, X4.xo.tg, X4.xo.st.fr, X4.xo.st.wl.tg, X4.xo.st.size, ix_lt, e]
          exact nd h4 _ _ t4
        · intro k hk nk h4 v10 t4
          have X4 := X.tf t4
          obtain ⟨-, q1, q2, q3, q4⟩ := X4.xo.st1 k hk
          have s3 := X.xo.wo.st k hk
          have s4 := X.xo.wo.sb k hk
          have nk : ∀ h4 (v10 : Value) z, z = noS O (E.snd j) j (foI (noS O (E.snd j) j) zz k) k → Tf x h h4 → Ru (D + 255) 37 134 [.ref x, .int (ix n), .int ren, .int snd, .int ac, .int (ix j), .int (ix (E.snd j)), .int (ix z), .int (ix d), .int (ix k), v10] [] h4 Q := by
            rintro h4 v10 z rfl t4
            simp (disch := first | assumption | omega | decide | rfl) only [w_X1_lossOf_134, w_X1_lossOf_137, nl_int, nl_ref, nl_null, nl_un, nl_rf, nl_long, isR_ref, isR_null, isR_rf, rf_some, rf_none, rOf_ref, rOf_null, rOf_rf, kn_v, kn_0, true_and, and_true, and_self, tin, inA_x, inA_l, ix_add, ix_addl, ix_ladd, ix_mul, ix_mull, ix_lmul, ix_tn, lt_tn, Nat.reduceLeDiff, Nat.reduceLT, Nat.reduceAdd, Nat.reduceMul, true_or, or_true, ↓reduceIte, aOk, ref_null, null_null, false_or, Option.isSome_some, Option.getD_some, ite_true, ite_false, eq_self, not_false_eq_true, not_true_eq_false, bz_ne, bz_1, reduceCtorEq, Bool.not_true, Bool.not_false]
            have := nk h4 v10 t4
            rw [foI] at this
            exact this
          have le2 : foI (noS O (E.snd j) j) zz k ≤ zz := foI_le (fun _ _ => noS_le) k
          generalize foI (noS O (E.snd j) j) zz k = yy at nk le2 ⊢
          unfold noS at nk
          have tm := tmI (t := Tg h4 (oe h4 o 36 k)) (by omega) (by omega)
          have t5 : 1000 ≤ Tg h4 (oe h4 o 36 k) := by omega
          have t6 : Tg h4 (oe h4 o 36 k) < 2000 := by omega
          rw [w_X1_lossOf_69]
          simp (disch := first | assumption | omega | decide | rfl) only [w_X1_lossOf_71, w_X1_lossOf_72, w_X1_lossOf_75, w_X1_lossOf_78, w_X1_lossOf_81, w_X1_lossOf_84, w_X1_lossOf_85, w_X1_lossOf_88, w_X1_lossOf_91, w_X1_lossOf_93, w_X1_lossOf_96, w_X1_lossOf_99, w_X1_lossOf_101, w_X1_lossOf_102, w_X1_lossOf_105, w_X1_lossOf_107, w_X1_lossOf_109, w_X1_lossOf_110, w_X1_lossOf_111, w_X1_lossOf_113, nl_int, nl_ref, nl_null, nl_un, nl_rf, nl_long, isR_ref, isR_null, isR_rf, rf_some, rf_none, rOf_ref, rOf_null, rOf_rf, kn_v, kn_0, true_and, and_true, and_self, tin, inA_x, inA_l, ix_add, ix_addl, ix_ladd, ix_mul, ix_mull, ix_lmul, ix_tn, lt_tn, Nat.reduceLeDiff, Nat.reduceLT, Nat.reduceAdd, Nat.reduceMul, true_or, or_true, ↓reduceIte, aOk, ref_null, null_null, false_or, Option.isSome_some, Option.getD_some, ite_true, ite_false, eq_self, not_false_eq_true, not_true_eq_false, bz_ne, bz_1, reduceCtorEq, Bool.not_true, Bool.not_false, X4.f.tx, cx_now X4, X4.xo.tg, X4.xo.st.fr, X4.xo.st.wl.tg, X4.xo.st.size, X4.xo.st.get hk, ix_lt, hk, tm, t5, t6, q2, q3]
          refine ca_mono (cx_hears (D := D + 3) X4.xo hj s3 b1) ?_
          rintro r h5 ⟨rfl, sc⟩
          have t7 := t4.trans (sc.tf (x := x))
          have e1 : Tg h5 (oe h4 o 36 k) = 1009 := by rw [sc.1]; exact q1
          have e2 : An h5 (oe h4 o 36 k) = 2 := by rw [sc.2.1]; exact q2
          have e3 : Ai h5 (oe h4 o 36 k) 1 = ix (O.sb k) := by
            have : Ai h5 (oe h4 o 36 k) = Ai h4 (oe h4 o 36 k) := sc.ai (by omega) (by omega)
            rw [this]; exact q4
          have t8 : 1000 ≤ Tg h5 (oe h4 o 36 k) := by omega
          have t9 : Tg h5 (oe h4 o 36 k) < 2000 := by omega
          cases q5 : xhF O (O.st k) (E.snd j) j
          · rw [q5, if_neg (by decide)] at nk
            simp (disch := first | assumption | omega | decide | rfl) only [w_X1_lossOf_116, nl_int, nl_ref, nl_null, nl_un, nl_rf, nl_long, isR_ref, isR_null, isR_rf, rf_some, rf_none, rOf_ref, rOf_null, rOf_rf, kn_v, kn_0, true_and, and_true, and_self, tin, inA_x, inA_l, ix_add, ix_addl, ix_ladd, ix_mul, ix_mull, ix_lmul, ix_tn, lt_tn, Nat.reduceLeDiff, Nat.reduceLT, Nat.reduceAdd, Nat.reduceMul, true_or, or_true, ↓reduceIte, aOk, ref_null, null_null, false_or, Option.isSome_some, Option.getD_some, ite_true, ite_false, eq_self, not_false_eq_true, not_true_eq_false, bz_ne, bz_1, reduceCtorEq, Bool.not_true, Bool.not_false]
            exact nk h5 _ _ rfl t7
          · rw [q5, if_pos rfl] at nk
            have b5 : yy * (10 - O.sb k) ≤ 1000000 * 10 := Nat.mul_le_mul (by omega) (Nat.sub_le _ _)
            have es : (10 : Int32) - ix (O.sb k) = ix (10 - O.sb k) := ix_lsub (n := 10) (by omega)
            have ev : ix (yy * (10 - O.sb k)) / 10 = ix (yy * (10 - O.sb k) / 10) := ix_dvl (n := 10) (by omega) (by decide) (by decide)
            simp (disch := first | assumption | omega | decide | rfl) only [w_X1_lossOf_116, w_X1_lossOf_119, w_X1_lossOf_121, w_X1_lossOf_123, w_X1_lossOf_125, w_X1_lossOf_126, w_X1_lossOf_127, w_X1_lossOf_128, w_X1_lossOf_129, w_X1_lossOf_131, w_X1_lossOf_132, nl_int, nl_ref, nl_null, nl_un, nl_rf, nl_long, isR_ref, isR_null, isR_rf, rf_some, rf_none, rOf_ref, rOf_null, rOf_rf, kn_v, kn_0, true_and, and_true, and_self, tin, inA_x, inA_l, ix_add, ix_addl, ix_ladd, ix_mul, ix_mull, ix_lmul, ix_tn, lt_tn, Nat.reduceLeDiff, Nat.reduceLT, Nat.reduceAdd, Nat.reduceMul, true_or, or_true, ↓reduceIte, aOk, ref_null, null_null, false_or, Option.isSome_some, Option.getD_some, ite_true, ite_false, eq_self, not_false_eq_true, not_true_eq_false, bz_ne, bz_1, reduceCtorEq, Bool.not_true, Bool.not_false, t8, t9, e2, e3, es, ev]
            exact nk h5 _ _ rfl t7
theorem xloss (X : XN h x lo hi o b O S) (W : WB O S.B) : Ca (D + 257) 36 [.ref x, .int v] h (fun r h' => r = .inl (some (.int (losF O S.B v))) ∧ Tf x h h') := by
  have n1 := X.xo.wo.nA
  generalize hQ : (fun r h' => r = .inl (some (.int (losF O S.B v))) ∧ Tf x h h' : Rs → AH → Prop) = Q
  rw [e_X1_loss]
  by_cases q : 1 ≤ v ∧ v ≤ 30
  · have c1 : decide (1 ≤ v ∧ v ≤ 30) = true := decide_eq_true q
    obtain ⟨k, h1k, h2k, rfl⟩ := vr_ex (lo := 1) (hi := 30) (by decide) q (by decide)
    simp (disch := first | assumption | omega | decide | rfl) only [w_X1_loss_0, w_X1_loss_1, w_X1_loss_2, w_X1_loss_4, w_X1_loss_7, w_X1_loss_10, w_X1_loss_11, w_X1_loss_12, w_X1_loss_13, w_X1_loss_14, nl_int, nl_ref, nl_null, nl_un, nl_rf, nl_long, isR_ref, isR_null, isR_rf, rf_some, rf_none, rOf_ref, rOf_null, rOf_rf, kn_v, kn_0, true_and, and_true, and_self, tin, inA_x, inA_l, ix_add, ix_addl, ix_ladd, ix_mul, ix_mull, ix_lmul, ix_tn, lt_tn, Nat.reduceLeDiff, Nat.reduceLT, Nat.reduceAdd, Nat.reduceMul, true_or, or_true, ↓reduceIte, aOk, ref_null, null_null, false_or, Option.isSome_some, Option.getD_some, ite_true, ite_false, eq_self, not_false_eq_true, not_true_eq_false, bz_ne, bz_1, reduceCtorEq, Bool.not_true, Bool.not_false, cx_within, c1, X.f.tx]
    refine ca_mono (cx_lossOf (E := S.B) X W h2k rfl (fun j hj => ⟨W.snd j hj, by rw [if_neg (by rw [ix_m1 (by omega)]; exact not_false)]⟩)) ?_
    rintro r h1 ⟨rfl, t1⟩
    simp (disch := first | assumption | omega | decide | rfl) only [w_X1_loss_17, w_X1_loss_20, w_X1_loss_21, nl_int, nl_ref, nl_null, nl_un, nl_rf, nl_long, isR_ref, isR_null, isR_rf, rf_some, rf_none, rOf_ref, rOf_null, rOf_rf, kn_v, kn_0, true_and, and_true, and_self, tin, inA_x, inA_l, ix_add, ix_addl, ix_ladd, ix_mul, ix_mull, ix_lmul, ix_tn, lt_tn, Nat.reduceLeDiff, Nat.reduceLT, Nat.reduceAdd, Nat.reduceMul, true_or, or_true, ↓reduceIte, aOk, ref_null, null_null, false_or, Option.isSome_some, Option.getD_some, ite_true, ite_false, eq_self, not_false_eq_true, not_true_eq_false, bz_ne, bz_1, reduceCtorEq, Bool.not_true, Bool.not_false]
    rw [← hQ]
    refine ⟨?_, t1⟩
    unfold losF
    rw [if_pos q, tn_ix (by omega)]
  · have c1 : decide (1 ≤ v ∧ v ≤ 30) = false := decide_eq_false q
    simp (disch := first | assumption | omega | decide | rfl) only [w_X1_loss_0, w_X1_loss_1, w_X1_loss_2, w_X1_loss_4, w_X1_loss_7, w_X1_loss_20, w_X1_loss_21, nl_int, nl_ref, nl_null, nl_un, nl_rf, nl_long, isR_ref, isR_null, isR_rf, rf_some, rf_none, rOf_ref, rOf_null, rOf_rf, kn_v, kn_0, true_and, and_true, and_self, tin, inA_x, inA_l, ix_add, ix_addl, ix_ladd, ix_mul, ix_mull, ix_lmul, ix_tn, lt_tn, Nat.reduceLeDiff, Nat.reduceLT, Nat.reduceAdd, Nat.reduceMul, true_or, or_true, ↓reduceIte, aOk, ref_null, null_null, false_or, Option.isSome_some, Option.getD_some, ite_true, ite_false, eq_self, not_false_eq_true, not_true_eq_false, bz_ne, bz_1, reduceCtorEq, Bool.not_true, Bool.not_false, cx_within, c1]
    rw [← hQ]
    refine ⟨?_, Tf.refl⟩
    unfold losF
    rw [if_neg q]
theorem bs_nn : ∀ j, j ≤ 16 → (bsF O B a n j).1 = -1 ∨ ¬ (bsF O B a n j).1 < 0 := by
  intro j
  induction j with
  | zero => intro _; left; unfold bsF; rw [foI]
  | succ j ih =>
    intro hj
    have es : bsF O B a n (j + 1) = bsS O B a n (bsF O B a n j) j := by unfold bsF; rw [foI]
    rw [es]
    unfold bsS
    split
    · split
      · exact ih (by omega)
      · exact Or.inr (ix_nn (by omega))
    · exact ih (by omega)
theorem xbest (X : XN h x lo hi o b O S) (W : WB O S.B) : Ca (D + 257) 38 [.ref x, .int u, .int v] h (fun r h' => r = .inl (some (.int (besF O S.B u v))) ∧ Tf x h h') := by
  have n1 := X.xo.wo.nA
  have n2 := X.xo.wo.nS
  have hh := W.lt X.xo.wo
  generalize hQ : (fun r h' => r = .inl (some (.int (besF O S.B u v))) ∧ Tf x h h' : Rs → AH → Prop) = Q
  have bad : mayB O S.B u v = false → Ru (D + 256) 38 29 [.ref x, .int u, .int v, un, un, un, un] [] h Q := by
    intro q
    simp (disch := first | assumption | omega | decide | rfl) only [w_X1_best_29, w_X1_best_30, nl_int, nl_ref, nl_null, nl_un, nl_rf, nl_long, isR_ref, isR_null, isR_rf, rf_some, rf_none, rOf_ref, rOf_null, rOf_rf, kn_v, kn_0, true_and, and_true, and_self, tin, inA_x, inA_l, ix_add, ix_addl, ix_ladd, ix_mul, ix_mull, ix_lmul, ix_tn, lt_tn, Nat.reduceLeDiff, Nat.reduceLT, Nat.reduceAdd, Nat.reduceMul, true_or, or_true, ↓reduceIte, aOk, ref_null, null_null, false_or, Option.isSome_some, Option.getD_some, ite_true, ite_false, eq_self, not_false_eq_true, not_true_eq_false, bz_ne, bz_1, reduceCtorEq, Bool.not_true, Bool.not_false]
    rw [← hQ]
    exact ⟨by unfold besF; rw [q]; rfl, Tf.refl⟩
  rw [e_X1_best]
  unfold mayB at bad
  cases q1 : inN u O.nA
  · simp (disch := first | assumption | omega | decide | rfl) only [w_X1_best_0, w_X1_best_1, w_X1_best_2, w_X1_best_5, nl_int, nl_ref, nl_null, nl_un, nl_rf, nl_long, isR_ref, isR_null, isR_rf, rf_some, rf_none, rOf_ref, rOf_null, rOf_rf, kn_v, kn_0, true_and, and_true, and_self, tin, inA_x, inA_l, ix_add, ix_addl, ix_ladd, ix_mul, ix_mull, ix_lmul, ix_tn, lt_tn, Nat.reduceLeDiff, Nat.reduceLT, Nat.reduceAdd, Nat.reduceMul, true_or, or_true, ↓reduceIte, aOk, ref_null, null_null, false_or, Option.isSome_some, Option.getD_some, ite_true, ite_false, eq_self, not_false_eq_true, not_true_eq_false, bz_ne, bz_1, reduceCtorEq, Bool.not_true, Bool.not_false, X.f.tx, cx_isApple X, q1]
    exact bad (by rw [q1]; rfl)
  · obtain ⟨a, ha, rfl⟩ := inN_ex (by omega) q1
    rw [tn_ix (by omega)] at bad
    cases q2 : S.B.hang.testBit a
    · simp (disch := first | assumption | omega | decide | rfl) only [w_X1_best_0, w_X1_best_1, w_X1_best_2, w_X1_best_5, w_X1_best_8, w_X1_best_9, w_X1_best_12, w_X1_best_13, w_X1_best_16, nl_int, nl_ref, nl_null, nl_un, nl_rf, nl_long, isR_ref, isR_null, isR_rf, rf_some, rf_none, rOf_ref, rOf_null, rOf_rf, kn_v, kn_0, true_and, and_true, and_self, tin, inA_x, inA_l, ix_add, ix_addl, ix_ladd, ix_mul, ix_mull, ix_lmul, ix_tn, lt_tn, Nat.reduceLeDiff, Nat.reduceLT, Nat.reduceAdd, Nat.reduceMul, true_or, or_true, ↓reduceIte, aOk, ref_null, null_null, false_or, Option.isSome_some, Option.getD_some, ite_true, ite_false, eq_self, not_false_eq_true, not_true_eq_false, bz_ne, bz_1, reduceCtorEq, Bool.not_true, Bool.not_false, X.f.tx, cx_isApple X, q1, X.fb, X.xb.tg, cx_hangs X.xb hh (show a < 10 by omega), q2]
      exact bad (by rw [q2, Bool.and_false]; rfl)
    · by_cases q : 1 ≤ v ∧ v ≤ 30
      · have c1 : decide (1 ≤ v ∧ v ≤ 30) = true := decide_eq_true q
        obtain ⟨k, h1k, h2k, rfl⟩ := vr_ex (lo := 1) (hi := 30) (by decide) q (by decide)
        have ok : mayB O S.B (ix a) (ix k) = true := by unfold mayB; rw [q1, tn_ix (by omega), q2, c1]; rfl
        unfold besF at hQ
        rw [if_pos ok, tn_ix (by omega), tn_ix (by omega)] at hQ
        simp (disch := first | assumption | omega | decide | rfl) only [w_X1_best_0, w_X1_best_1, w_X1_best_2, w_X1_best_5, w_X1_best_8, w_X1_best_9, w_X1_best_12, w_X1_best_13, w_X1_best_16, w_X1_best_19, w_X1_best_20, w_X1_best_21, w_X1_best_23, w_X1_best_26, w_X1_best_31, w_X1_best_32, w_X1_best_33, w_X1_best_34, w_X1_best_36, w_X1_best_37, nl_int, nl_ref, nl_null, nl_un, nl_rf, nl_long, isR_ref, isR_null, isR_rf, rf_some, rf_none, rOf_ref, rOf_null, rOf_rf, kn_v, kn_0, true_and, and_true, and_self, tin, inA_x, inA_l, ix_add, ix_addl, ix_ladd, ix_mul, ix_mull, ix_lmul, ix_tn, lt_tn, Nat.reduceLeDiff, Nat.reduceLT, Nat.reduceAdd, Nat.reduceMul, true_or, or_true, ↓reduceIte, aOk, ref_null, null_null, false_or, Option.isSome_some, Option.getD_some, ite_true, ite_false, eq_self, not_false_eq_true, not_true_eq_false, bz_ne, bz_1, reduceCtorEq, Bool.not_true, Bool.not_false, X.f.tx, cx_isApple X, q1, X.fb, X.xb.tg, cx_hangs X.xb hh (show a < 10 by omega), q2, cx_within, c1]
        refine lp (P := fun j => ∀ h2 (v6 : Value), Tf x h h2 → ∀ st, st = bsF O S.B a k j → Ru (D + 256) 38 39 [.ref x, .int (ix a), .int (ix k), .int st.1, .int st.2, .int (ix j), v6] [] h2 Q) (N := O.nS) ?_ ?_ h un Tf.refl (-1, 0) (by unfold bsF; rw [foI])
        · intro h2 v6 t2 st es
          have X2 := X.tf t2
          have e : ¬ O.nS < O.nS := by omega
          rw [w_X1_best_39]
          simp (disch := first | assumption | omega | decide | rfl) only [w_X1_best_41, w_X1_best_42, w_X1_best_45, w_X1_best_102, w_X1_best_103, nl_int, nl_ref, nl_null, nl_un, nl_rf, nl_long, isR_ref, isR_null, isR_rf, rf_some, rf_none, rOf_ref, rOf_null, rOf_rf, kn_v, kn_0, true_and, and_true, and_self, tin, inA_x, inA_l, ix_add, ix_addl, ix_ladd, ix_mul, ix_mull, ix_lmul, ix_tn, lt_tn, Nat.reduceLeDiff, Nat.reduceLT, Nat.reduceAdd, Nat.reduceMul, true_or, or_true, ↓reduceIte, aOk, ref_null, null_null, false_or, Option.isSome_some, Option.getD_some, ite_true, ite_false, eq_self, not_false_eq_true, not_true_eq_false, bz_ne, bz_1, reduceCtorEq, Bool.not_true, Bool.not_false, X2.f.tx, cx_sounds X2, ix_lt, e]
          rw [← hQ, es]
          exact ⟨rfl, t2⟩
        · intro j hj nx h2 v6 t2 st es
          have X2 := X.tf t2
          have nn := bs_nn (O := O) (B := S.B) (a := a) (n := k) j (by omega)
          rw [← es] at nn
          have mm := m1_lt nn
          have jn : ∀ h3 (v6 : Value) st', st' = bsS O S.B a k st j → Tf x h h3 → Ru (D + 256) 38 96 [.ref x, .int (ix a), .int (ix k), .int st'.1, .int st'.2, .int (ix j), v6] [] h3 Q := by
            intro h3 v6 st' e' t3
            simp (disch := first | assumption | omega | decide | rfl) only [w_X1_best_96, w_X1_best_99, nl_int, nl_ref, nl_null, nl_un, nl_rf, nl_long, isR_ref, isR_null, isR_rf, rf_some, rf_none, rOf_ref, rOf_null, rOf_rf, kn_v, kn_0, true_and, and_true, and_self, tin, inA_x, inA_l, ix_add, ix_addl, ix_ladd, ix_mul, ix_mull, ix_lmul, ix_tn, lt_tn, Nat.reduceLeDiff, Nat.reduceLT, Nat.reduceAdd, Nat.reduceMul, true_or, or_true, ↓reduceIte, aOk, ref_null, null_null, false_or, Option.isSome_some, Option.getD_some, ite_true, ite_false, eq_self, not_false_eq_true, not_true_eq_false, bz_ne, bz_1, reduceCtorEq, Bool.not_true, Bool.not_false]
            exact nx h3 v6 t3 st' (by rw [e', es]; unfold bsF; rw [foI])
          unfold bsS at jn
          rw [w_X1_best_39]
          cases q3 : frF O.nA S.B a j
          · rw [q3, if_neg (by decide)] at jn
            simp (disch := first | assumption | omega | decide | rfl) only [w_X1_best_41, w_X1_best_42, w_X1_best_45, w_X1_best_48, w_X1_best_49, w_X1_best_52, w_X1_best_53, w_X1_best_55, w_X1_best_58, w_X1_best_61, nl_int, nl_ref, nl_null, nl_un, nl_rf, nl_long, isR_ref, isR_null, isR_rf, rf_some, rf_none, rOf_ref, rOf_null, rOf_rf, kn_v, kn_0, true_and, and_true, and_self, tin, inA_x, inA_l, ix_add, ix_addl, ix_ladd, ix_mul, ix_mull, ix_lmul, ix_tn, lt_tn, Nat.reduceLeDiff, Nat.reduceLT, Nat.reduceAdd, Nat.reduceMul, true_or, or_true, ↓reduceIte, aOk, ref_null, null_null, false_or, Option.isSome_some, Option.getD_some, ite_true, ite_false, eq_self, not_false_eq_true, not_true_eq_false, bz_ne, bz_1, reduceCtorEq, Bool.not_true, Bool.not_false, X2.f.tx, cx_sounds X2, ix_lt, hj, X2.fb, X2.xb.tg, cx_isFree X2.xo X2.xb W hj ha, q3]
            exact jn h2 _ st rfl t2
          · rw [q3, if_pos rfl] at jn
            simp (disch := first | assumption | omega | decide | rfl) only [w_X1_best_41, w_X1_best_42, w_X1_best_45, w_X1_best_48, w_X1_best_49, w_X1_best_52, w_X1_best_53, w_X1_best_55, w_X1_best_58, w_X1_best_64, w_X1_best_65, w_X1_best_66, w_X1_best_67, w_X1_best_69, nl_int, nl_ref, nl_null, nl_un, nl_rf, nl_long, isR_ref, isR_null, isR_rf, rf_some, rf_none, rOf_ref, rOf_null, rOf_rf, kn_v, kn_0, true_and, and_true, and_self, tin, inA_x, inA_l, ix_add, ix_addl, ix_ladd, ix_mul, ix_mull, ix_lmul, ix_tn, lt_tn, Nat.reduceLeDiff, Nat.reduceLT, Nat.reduceAdd, Nat.reduceMul, true_or, or_true, ↓reduceIte, aOk, ref_null, null_null, false_or, Option.isSome_some, Option.getD_some, ite_true, ite_false, eq_self, not_false_eq_true, not_true_eq_false, bz_ne, bz_1, reduceCtorEq, Bool.not_true, Bool.not_false, X2.f.tx, cx_sounds X2, ix_lt, hj, X2.fb, X2.xb.tg, cx_isFree X2.xo X2.xb W hj ha, q3]
            refine ca_mono (cx_lossOf (E := chB S.B a j) X2 W h2k rfl (fun i hi => ?_)) ?_
            · show (if i = a then j else S.B.snd i) < O.nS ∧ _ = ix (if i = a then j else S.B.snd i)
              by_cases qi : i = a
              · rw [if_pos qi, if_pos (by rw [qi])]; exact ⟨hj, rfl⟩
              · rw [if_neg qi, if_neg (by rw [ix_eq (by omega) (by omega)]; exact qi)]; exact ⟨W.snd i hi, rfl⟩
            rintro r h3 ⟨rfl, t3⟩
            have t4 := t2.trans t3
            generalize loS O (chB S.B a j) k = lv at jn ⊢
            by_cases q4 : st.1 < 0
            · have d4 : (st.1 = -1) = True := by rw [mm]; exact eq_true q4
              rw [if_neg (by simp [q4])] at jn
              simp (disch := first | assumption | omega | decide | rfl) only [w_X1_best_72, w_X1_best_74, w_X1_best_75, w_X1_best_76, w_X1_best_89, w_X1_best_91, w_X1_best_92, w_X1_best_94, nl_int, nl_ref, nl_null, nl_un, nl_rf, nl_long, isR_ref, isR_null, isR_rf, rf_some, rf_none, rOf_ref, rOf_null, rOf_rf, kn_v, kn_0, true_and, and_true, and_self, tin, inA_x, inA_l, ix_add, ix_addl, ix_ladd, ix_mul, ix_mull, ix_lmul, ix_tn, lt_tn, Nat.reduceLeDiff, Nat.reduceLT, Nat.reduceAdd, Nat.reduceMul, true_or, or_true, ↓reduceIte, aOk, ref_null, null_null, false_or, Option.isSome_some, Option.getD_some, ite_true, ite_false, eq_self, not_false_eq_true, not_true_eq_false, bz_ne, bz_1, reduceCtorEq, Bool.not_true, Bool.not_false, d4]
              exact jn h3 _ (ix j, lv) rfl t4
            · have d4 : (st.1 = -1) = False := by rw [mm]; exact eq_false q4
              by_cases q5 : lv < st.2
              · rw [if_neg (by simp [q5])] at jn
                simp (disch := first | assumption | omega | decide | rfl) only [w_X1_best_72, w_X1_best_74, w_X1_best_75, w_X1_best_76, w_X1_best_79, w_X1_best_81, w_X1_best_83, w_X1_best_89, w_X1_best_91, w_X1_best_92, w_X1_best_94, nl_int, nl_ref, nl_null, nl_un, nl_rf, nl_long, isR_ref, isR_null, isR_rf, rf_some, rf_none, rOf_ref, rOf_null, rOf_rf, kn_v, kn_0, true_and, and_true, and_self, tin, inA_x, inA_l, ix_add, ix_addl, ix_ladd, ix_mul, ix_mull, ix_lmul, ix_tn, lt_tn, Nat.reduceLeDiff, Nat.reduceLT, Nat.reduceAdd, Nat.reduceMul, true_or, or_true, ↓reduceIte, aOk, ref_null, null_null, false_or, Option.isSome_some, Option.getD_some, ite_true, ite_false, eq_self, not_false_eq_true, not_true_eq_false, bz_ne, bz_1, reduceCtorEq, Bool.not_true, Bool.not_false, d4, q5]
                exact jn h3 _ (ix j, lv) rfl t4
              · rw [if_pos ⟨q4, q5⟩] at jn
                simp (disch := first | assumption | omega | decide | rfl) only [w_X1_best_72, w_X1_best_74, w_X1_best_75, w_X1_best_76, w_X1_best_79, w_X1_best_81, w_X1_best_83, w_X1_best_86, nl_int, nl_ref, nl_null, nl_un, nl_rf, nl_long, isR_ref, isR_null, isR_rf, rf_some, rf_none, rOf_ref, rOf_null, rOf_rf, kn_v, kn_0, true_and, and_true, and_self, tin, inA_x, inA_l, ix_add, ix_addl, ix_ladd, ix_mul, ix_mull, ix_lmul, ix_tn, lt_tn, Nat.reduceLeDiff, Nat.reduceLT, Nat.reduceAdd, Nat.reduceMul, true_or, or_true, ↓reduceIte, aOk, ref_null, null_null, false_or, Option.isSome_some, Option.getD_some, ite_true, ite_false, eq_self, not_false_eq_true, not_true_eq_false, bz_ne, bz_1, reduceCtorEq, Bool.not_true, Bool.not_false, d4, q5]
                exact jn h3 _ st rfl t4
      · have c1 : decide (1 ≤ v ∧ v ≤ 30) = false := decide_eq_false q
        simp (disch := first | assumption | omega | decide | rfl) only [w_X1_best_0, w_X1_best_1, w_X1_best_2, w_X1_best_5, w_X1_best_8, w_X1_best_9, w_X1_best_12, w_X1_best_13, w_X1_best_16, w_X1_best_19, w_X1_best_20, w_X1_best_21, w_X1_best_23, w_X1_best_26, nl_int, nl_ref, nl_null, nl_un, nl_rf, nl_long, isR_ref, isR_null, isR_rf, rf_some, rf_none, rOf_ref, rOf_null, rOf_rf, kn_v, kn_0, true_and, and_true, and_self, tin, inA_x, inA_l, ix_add, ix_addl, ix_ladd, ix_mul, ix_mull, ix_lmul, ix_tn, lt_tn, Nat.reduceLeDiff, Nat.reduceLT, Nat.reduceAdd, Nat.reduceMul, true_or, or_true, ↓reduceIte, aOk, ref_null, null_null, false_or, Option.isSome_some, Option.getD_some, ite_true, ite_false, eq_self, not_false_eq_true, not_true_eq_false, bz_ne, bz_1, reduceCtorEq, Bool.not_true, Bool.not_false, X.f.tx, cx_isApple X, q1, X.fb, X.xb.tg, cx_hangs X.xb hh (show a < 10 by omega), q2, cx_within, c1]
        exact bad (by rw [c1, Bool.and_false])
end
