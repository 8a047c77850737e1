/-! NAMEORCHARD: by hand -/
set_option maxRecDepth 100000
section
variable {h h' h1 h2 : AH} {A : Nat → Prop} {x a b c p q l o lo hi n k t d D s j c' : Nat} {O : Oc} {S : Sg} {B : Bo} {L : Dy} {Q : Rs → AH → Prop} {u v w y : Int32} {U' : Nat → Bo}
theorem addB (X : XN h x lo hi o b O S) (hc : S.c ≤ 16) (hv : Tg h a = 4) (r1 : Nc h + 1 ≤ 601024) (r2 : Ns h + 50 ≤ 7293034) : Ca (D + 7) 305 [.ref (x + 37), .ref a] h (fun r h' => r = .inl (some (.int 1)) ∧ AddP h (x + 37) a h' ∧ Un (fun a => a = x + 37 ∨ (a = ed h (x + 37) ∧ Tg h a ≠ 5902)) h h') := by
  have w := X.be.wl
  have z := X.be.sz
  rcases id w.2.2.2.2.1 with ht | ⟨ht, he, ha⟩
  · refine ca_mono (c_add w X.dv (by omega) (by rw [hv]; decide) r1 (by omega)) ?_
    rintro r h1 ⟨e, ad⟩
    refine ⟨e, ad, ad.2.2.2.2.1.mono (fun z _ q => ?_)⟩
    rcases q with q | q
    · exact Or.inl q
    · refine Or.inr ⟨q, ?_⟩
      rw [q]; omega
  · refine ca_mono (c_add0 w ht he ha (by rw [hv]; decide) r1 (by omega)) ?_
    rintro r h1 ⟨e, ad, un⟩
    exact ⟨e, ad, un.mono (fun z _ q => Or.inl q)⟩
theorem keeps_x (X : XN h x lo hi o b O S) (hc : S.c < 16) (r1 : Nc h + 3 ≤ 601024) (r2 : Ns h + 100 ≤ 7293034) : Ru (D + 7) 21 21 [.ref x] [] h (fun r h' => r = .inl none ∧ XN h' x lo hi o b O (S.1, (S.c + 1, fun j => if j < S.c then S.U j else S.B), S.M) ∧ Uq h h' ∧ Nc h' ≤ Nc h + 3 ∧ Ns h' ≤ Ns h + 100) := by
  have n1 := X.xo.wo.nA
  have lx := X.f.lt
  simp (disch := first | assumption | omega | decide | rfl) only [w_X1_keeps_21, w_X1_keeps_22, w_X1_keeps_25, w_X1_keeps_26, w_X1_keeps_29, nl_int, nl_ref, nl_null, nl_un, nl_rf, nl_long, isR_ref, isR_null, isR_rf, rf_some, rf_none, rOf_ref, rOf_null, rOf_rf, kn_v, kn_0, true_and, and_true, and_self, tin, inA_x, inA_l, ix_add, ix_addl, ix_ladd, ix_mul, ix_mull, ix_lmul, ix_tn, lt_tn, Nat.reduceLeDiff, Nat.reduceLT, Nat.reduceAdd, Nat.reduceMul, true_or, or_true, ↓reduceIte, aOk, ref_null, null_null, false_or, Option.isSome_some, Option.getD_some, ite_true, ite_false, eq_self, not_false_eq_true, not_true_eq_false, bz_ne, bz_1, reduceCtorEq, Bool.not_true, Bool.not_false, X.f.tx, X.f.f6, X.fb, X.xb.tg]
  refine ca_mono (cx_copied X.xb X.hn n1 (by omega) (by omega)) ?_
  rintro r h1 ⟨rfl, ux, y, m1, m2⟩
  have X1 := X.ux ux
  simp (disch := first | assumption | omega | decide | rfl) only [w_X1_keeps_32, nl_int, nl_ref, nl_null, nl_un, nl_rf, nl_long, isR_ref, isR_null, isR_rf, rf_some, rf_none, rOf_ref, rOf_null, rOf_rf, kn_v, kn_0, true_and, and_true, and_self, tin, inA_x, inA_l, ix_add, ix_addl, ix_ladd, ix_mul, ix_mull, ix_lmul, ix_tn, lt_tn, Nat.reduceLeDiff, Nat.reduceLT, Nat.reduceAdd, Nat.reduceMul, true_or, or_true, ↓reduceIte, aOk, ref_null, null_null, false_or, Option.isSome_some, Option.getD_some, ite_true, ite_false, eq_self, not_false_eq_true, not_true_eq_false, bz_ne, bz_1, reduceCtorEq, Bool.not_true, Bool.not_false, X1.f.t37]
  refine ca_mono (addB X1 (by omega) y.tg (by omega) (by omega)) ?_
  rintro r h2 ⟨rfl, ad, un⟩
  obtain ⟨w2, z2, e2, e3, -, d2, m3, m4⟩ := ad
  have z1 := X1.be.sz
  rw [z1] at z2 e2 e3 m4
  have nx1 : Nx h + 2 ≤ Nx h1 := by
    have := ux.2.2.1
    unfold Nx
    rw [this, m1]
    omega
  have nxx : Nx h1 ≤ Nx h2 := un.nx
  have hn := X.hn
  have t37 := X1.f.t37
  have de := edT X1.be.wl
  have nb : ∀ b', Tg h1 b' = 4 → Tg h1 (b' + 1) = 1013 → ¬ (b' = x + 37 ∨ (b' = ed h1 (x + 37) ∧ Tg h1 b' ≠ 5902)) ∧ ¬ (b' + 1 = x + 37 ∨ (b' + 1 = ed h1 (x + 37) ∧ Tg h1 (b' + 1) ≠ 5902)) := by
    intro b' q1 q2
    refine ⟨?_, ?_⟩
    · rintro (q | ⟨q, q3⟩)
      · rw [q] at q1; omega
      · rw [q] at q1; rw [q] at q3; omega
    · rintro (q | ⟨q, q3⟩)
      · rw [q] at q2; omega
      · rw [q] at q2; rw [q] at q3; omega
  simp (disch := first | assumption | omega | decide | rfl) only [w_X1_keeps_35, w_X1_keeps_36, nl_int, nl_ref, nl_null, nl_un, nl_rf, nl_long, isR_ref, isR_null, isR_rf, rf_some, rf_none, rOf_ref, rOf_null, rOf_rf, kn_v, kn_0, true_and, and_true, and_self, tin, inA_x, inA_l, ix_add, ix_addl, ix_ladd, ix_mul, ix_mull, ix_lmul, ix_tn, lt_tn, Nat.reduceLeDiff, Nat.reduceLT, Nat.reduceAdd, Nat.reduceMul, true_or, or_true, ↓reduceIte, aOk, ref_null, null_null, false_or, Option.isSome_some, Option.getD_some, ite_true, ite_false, eq_self, not_false_eq_true, not_true_eq_false, bz_ne, bz_1, reduceCtorEq, Bool.not_true, Bool.not_false]
  have lt : ∀ b', Tg h b' = 4 → b' < Nx h := fun b' t => Tg_nz t (by decide)
  refine ⟨X1.beh un ?_ (c' := S.c + 1) (U' := fun j => if j < S.c then S.U j else S.B) ⟨w2, z2, ?_, fun j hj => ?_, fun i j hij hj => ?_⟩ (fun k hk p e j hj => ?_), ux.uq.trans (un.uq (fun a _ q => ?_)), by omega, by omega⟩
  · rcases d2 with q | q
    · exact Or.inl q
    · right; omega
  · rcases d2 with q | q
    · rw [q, (un.2.2.2.2.1 _ X1.be.wl.elt).1]; exact X1.be.ou
    · left; right; omega
  · show XB lo hi h2 (el h2 (x + 37) j) o O.nA (if j < S.c then S.U j else S.B) ∧ nbx x (el h2 (x + 37) j) ∧ el h2 (x + 37) j ≠ b
    by_cases q : j < S.c
    · obtain ⟨q1, q2, q3⟩ := X1.be.at j q
      have k := nb _ q1.tg q1.ta
      rw [e2 j q, if_pos q]
      exact ⟨q1.un un k.1 k.2, q2, q3⟩
    · have : j = S.c := by omega
      subst this
      have k := nb _ y.tg y.ta
      rw [e3, if_neg q]
      have := lt b X.xb.tg
      exact ⟨y.un un k.1 k.2, Or.inr lx, by omega⟩
  · by_cases q : j < S.c
    · rw [e2 i (by omega), e2 j q]
      exact X1.be.di i j hij q
    · have : j = S.c := by omega
      subst this
      rw [e3, e2 i hij]
      have q1 := (X.be.at i hij).1.tg
      have := lt _ q1
      have el1 : el h1 (x + 37) i = el h (x + 37) i := (X.be.wl.un ux (by rw [X.be.wl.tg]; decide) (by have := edT X.be.wl; omega)).2.2.2 i
      omega
  · by_cases q : j < S.c
    · exact Or.inl ⟨j, q, e2 j q⟩
    · have : j = S.c := by omega
      subst this
      right
      rw [e3]
      have k65 := Un.uk ux (Tg_nz X.f.t65 (by decide)) (by rw [X.f.t65]; decide)
      rw [k65.2.2.2.2.2.2.2] at e
      obtain ⟨-, q1, q2, -⟩ := X.mne hk e
      have kp := Un.uk ux (Tg_nz q2 (by decide)) (by rw [q2]; decide)
      have eo : ol h1 p 175 = ol h p 175 := by unfold ol; rw [kp.2.2.2.2.1]
      rw [eo]
      have := lt _ q1
      omega
  · rcases q with q | ⟨q, q2⟩
    · rw [q]; omega
    · rw [q] at q2 ⊢; omega
theorem xkeeps (X : XN h x lo hi o b O S) (hc : S.c ≤ 16) (r1 : Nc h + 3 ≤ 601024) (r2 : Ns h + 100 ≤ 7293034) : Ca (D + 8) 21 [.ref x] h (fun r h' => r = .inl none ∧ XN h' x lo hi o b O (S.1, (kpN S.c, kpU S.U S.c S.B), S.M) ∧ Uq h h' ∧ Nc h' ≤ Nc h + 3 ∧ Ns h' ≤ Ns h + 100) := by
  have w := X.be.wl
  have z := X.be.sz
  have sz2 : ∀ Q, Ca (D + 7) 301 [.ref (x + 37)] h Q = Q (.inl (some (.int (ix S.c)))) h := fun Q => by rw [c_size w, z]
  rw [e_X1_keeps]
  unfold kpN kpU
  by_cases q : S.c = 16
  · have d1 : (S.c = 16) = True := eq_true q
    simp (disch := first | assumption | omega | decide | rfl) only [w_X1_keeps_0, w_X1_keeps_1, w_X1_keeps_4, w_X1_keeps_7, w_X1_keeps_9, w_X1_keeps_12, w_X1_keeps_13, w_X1_keeps_16, w_X1_keeps_17, nl_int, nl_ref, nl_null, nl_un, nl_rf, nl_long, isR_ref, isR_null, isR_rf, rf_some, rf_none, rOf_ref, rOf_null, rOf_rf, kn_v, kn_0, true_and, and_true, and_self, tin, inA_x, inA_l, ix_add, ix_addl, ix_ladd, ix_mul, ix_mull, ix_lmul, ix_tn, lt_tn, Nat.reduceLeDiff, Nat.reduceLT, Nat.reduceAdd, Nat.reduceMul, true_or, or_true, ↓reduceIte, aOk, ref_null, null_null, false_or, Option.isSome_some, Option.getD_some, ite_true, ite_false, eq_self, not_false_eq_true, not_true_eq_false, bz_ne, bz_1, reduceCtorEq, Bool.not_true, Bool.not_false, X.f.tx, X.f.f6, X.f.t37, sz2, ix_eql, d1]
    refine ca_mono (c_remove (d := D + 3) (i := 0) w (by omega)) ?_
    rintro r h1 ⟨rfl, w1, z1, e1, d1', un, m1, m2⟩
    rw [z, q] at z1 e1
    have de : Tg h (ed h (x + 37)) ≠ 5902 := fun e => by
      rcases w.2.2.2.2.1 with ht | ⟨ht, he, ha⟩
      · omega
      · have := w.2.2.2.2.2.1; omega
    have de2 := edT w
    have t37 := X.f.t37
    have un2 : Un (fun a => a = x + 37 ∨ (a = ed h (x + 37) ∧ Tg h a ≠ 5902)) h h1 := un.mono (fun a _ q => by
      rcases q with q | q
      · exact Or.inl q
      · exact Or.inr ⟨q, by rw [q]; exact de⟩)
    have nb : ∀ b', Tg h b' = 4 → Tg h (b' + 1) = 1013 → ¬ (b' = x + 37 ∨ b' = ed h (x + 37)) ∧ ¬ (b' + 1 = x + 37 ∨ b' + 1 = ed h (x + 37)) := by
      intro b' q1 q2
      refine ⟨?_, ?_⟩
      · rintro (q | q) <;> (rw [q] at q1; omega)
      · rintro (q | q) <;> (rw [q] at q2; omega)
    have e1' : ∀ j, j < 15 → el h1 (x + 37) j = el h (x + 37) (j + 1) := fun j hj => by
      have := e1 j (by omega)
      rw [if_neg (by omega)] at this
      exact this
    have X1 : XN h1 x lo hi o b O (S.1, (15, fun j => S.U (j + 1)), S.M) := by
      refine X.beh un2 (Or.inl d1') (c' := 15) (U' := fun j => S.U (j + 1)) ⟨w1, z1, ?_, fun j hj => ?_, fun i j hij hj => ?_⟩ (fun k hk p e j hj => Or.inl ⟨j + 1, by omega, e1' j hj⟩)
      · rw [d1', (un.2.2.2.2.1 _ w.elt).1]; exact X.be.ou
      · obtain ⟨q1, q2, q3⟩ := X.be.at (j + 1) (by omega)
        have k := nb _ q1.tg q1.ta
        rw [e1' j hj]
        exact ⟨q1.un un k.1 k.2, q2, q3⟩
      · rw [e1' i (by omega), e1' j hj]
        exact X.be.di _ _ (by omega) (by omega)
    simp (disch := first | assumption | omega | decide | rfl) only [w_X1_keeps_20, nl_int, nl_ref, nl_null, nl_un, nl_rf, nl_long, isR_ref, isR_null, isR_rf, rf_some, rf_none, rOf_ref, rOf_null, rOf_rf, kn_v, kn_0, true_and, and_true, and_self, tin, inA_x, inA_l, ix_add, ix_addl, ix_ladd, ix_mul, ix_mull, ix_lmul, ix_tn, lt_tn, Nat.reduceLeDiff, Nat.reduceLT, Nat.reduceAdd, Nat.reduceMul, true_or, or_true, ↓reduceIte, aOk, ref_null, null_null, false_or, Option.isSome_some, Option.getD_some, ite_true, ite_false, eq_self, not_false_eq_true, not_true_eq_false, bz_ne, bz_1, reduceCtorEq, Bool.not_true, Bool.not_false]
    refine ru_mono (keeps_x X1 (show 15 < 16 by omega) (by omega) (by omega)) ?_
    rintro r h2 ⟨e, X2, u2, m3, m4⟩
    refine ⟨e, ?_, (un.uq (fun a _ q => ?_)).trans u2, by omega, by omega⟩
    · exact X2
    · rcases q with q | q
      · rw [q]; omega
      · rw [q]; omega
  · have d1 : (S.c = 16) = False := eq_false q
    simp (disch := first | assumption | omega | decide | rfl) only [w_X1_keeps_0, w_X1_keeps_1, w_X1_keeps_4, w_X1_keeps_7, w_X1_keeps_9, nl_int, nl_ref, nl_null, nl_un, nl_rf, nl_long, isR_ref, isR_null, isR_rf, rf_some, rf_none, rOf_ref, rOf_null, rOf_rf, kn_v, kn_0, true_and, and_true, and_self, tin, inA_x, inA_l, ix_add, ix_addl, ix_ladd, ix_mul, ix_mull, ix_lmul, ix_tn, lt_tn, Nat.reduceLeDiff, Nat.reduceLT, Nat.reduceAdd, Nat.reduceMul, true_or, or_true, ↓reduceIte, aOk, ref_null, null_null, false_or, Option.isSome_some, Option.getD_some, ite_true, ite_false, eq_self, not_false_eq_true, not_true_eq_false, bz_ne, bz_1, reduceCtorEq, Bool.not_true, Bool.not_false, X.f.tx, X.f.f6, X.f.t37, sz2, ix_eql, d1]
    exact keeps_x X (by omega) r1 r2
theorem xcall (X : XN h x lo hi o b O S) (W : WB O S.B) (hc : S.c ≤ 16) (r1 : Nc h + 3 ≤ 601024) (r2 : Ns h + 100 ≤ 7293034) : Ca (D + 270) 20 [.ref x, .int u, .int v] h (fun r h' => r = .inl (some (.int (if mayC O u v = true then ix (flF O S.B (tn v) (O.ln (tn u)) (O.ld (tn u))) else -1))) ∧ XN h' x lo hi o b O ((if mayC O u v = true then caF O S.B (tn v) (O.ln (tn u)) (O.ld (tn u)) else S.B, S.1.2), (if mayC O u v = true then kpN S.c else S.c, if mayC O u v = true then kpU S.U S.c S.B else S.U), S.M) ∧ Uq h h' ∧ Nc h' ≤ Nc h + 3 ∧ Ns h' ≤ Ns h + 100) := by
  rw [e_X1_call]
  cases q : mayC O u v
  · simp (disch := first | assumption | omega | decide | rfl) only [w_X1_call_0, w_X1_call_1, w_X1_call_2, w_X1_call_3, w_X1_call_6, w_X1_call_9, w_X1_call_10, nl_int, nl_ref, nl_null, nl_un, nl_rf, nl_long, isR_ref, isR_null, isR_rf, rf_some, rf_none, rOf_ref, rOf_null, rOf_rf, kn_v, kn_0, true_and, and_true, and_self, tin, inA_x, inA_l, ix_add, ix_addl, ix_ladd, ix_mul, ix_mull, ix_lmul, ix_tn, lt_tn, Nat.reduceLeDiff, Nat.reduceLT, Nat.reduceAdd, Nat.reduceMul, true_or, or_true, ↓reduceIte, aOk, ref_null, null_null, false_or, Option.isSome_some, Option.getD_some, ite_true, ite_false, eq_self, not_false_eq_true, not_true_eq_false, bz_ne, bz_1, reduceCtorEq, Bool.not_true, Bool.not_false, X.f.tx, cx_mayCall X, q]
    first | exact ⟨rfl, X, Uq.refl, by omega, by omega⟩ | exact ⟨X, Uq.refl, by omega, by omega⟩
  · obtain ⟨p, s, hp, hs, rfl, rfl, q3, e1, e2⟩ := mayC_ex X.xo.wo q
    rw [e1, e2]
    simp (disch := first | assumption | omega | decide | rfl) only [w_X1_call_0, w_X1_call_1, w_X1_call_2, w_X1_call_3, w_X1_call_6, w_X1_call_9, w_X1_call_10, w_X1_call_11, w_X1_call_12, nl_int, nl_ref, nl_null, nl_un, nl_rf, nl_long, isR_ref, isR_null, isR_rf, rf_some, rf_none, rOf_ref, rOf_null, rOf_rf, kn_v, kn_0, true_and, and_true, and_self, tin, inA_x, inA_l, ix_add, ix_addl, ix_ladd, ix_mul, ix_mull, ix_lmul, ix_tn, lt_tn, Nat.reduceLeDiff, Nat.reduceLT, Nat.reduceAdd, Nat.reduceMul, true_or, or_true, ↓reduceIte, aOk, ref_null, null_null, false_or, Option.isSome_some, Option.getD_some, ite_true, ite_false, eq_self, not_false_eq_true, not_true_eq_false, bz_ne, bz_1, reduceCtorEq, Bool.not_true, Bool.not_false, X.f.tx, cx_mayCall X, q]
    refine ca_mono (xkeeps X hc r1 r2) ?_
    rintro r h1 ⟨rfl, X1, u1, m1, m2⟩
    simp (disch := first | assumption | omega | decide | rfl) only [w_X1_call_15, w_X1_call_16, w_X1_call_19, w_X1_call_20, w_X1_call_21, nl_int, nl_ref, nl_null, nl_un, nl_rf, nl_long, isR_ref, isR_null, isR_rf, rf_some, rf_none, rOf_ref, rOf_null, rOf_rf, kn_v, kn_0, true_and, and_true, and_self, tin, inA_x, inA_l, ix_add, ix_addl, ix_ladd, ix_mul, ix_mull, ix_lmul, ix_tn, lt_tn, Nat.reduceLeDiff, Nat.reduceLT, Nat.reduceAdd, Nat.reduceMul, true_or, or_true, ↓reduceIte, aOk, ref_null, null_null, false_or, Option.isSome_some, Option.getD_some, ite_true, ite_false, eq_self, not_false_eq_true, not_true_eq_false, bz_ne, bz_1, reduceCtorEq, Bool.not_true, Bool.not_false, X1.f.tx, X1.fb, X1.xb.tg]
    refine ca_mono (cx_calledP X1.xo X1.xb W hs hp) ?_
    rintro r h2 ⟨rfl, bx, y2⟩
    simp (disch := first | assumption | omega | decide | rfl) only [w_X1_call_24, nl_int, nl_ref, nl_null, nl_un, nl_rf, nl_long, isR_ref, isR_null, isR_rf, rf_some, rf_none, rOf_ref, rOf_null, rOf_rf, kn_v, kn_0, true_and, and_true, and_self, tin, inA_x, inA_l, ix_add, ix_addl, ix_ladd, ix_mul, ix_mull, ix_lmul, ix_tn, lt_tn, Nat.reduceLeDiff, Nat.reduceLT, Nat.reduceAdd, Nat.reduceMul, true_or, or_true, ↓reduceIte, aOk, ref_null, null_null, false_or, Option.isSome_some, Option.getD_some, ite_true, ite_false, eq_self, not_false_eq_true, not_true_eq_false, bz_ne, bz_1, reduceCtorEq, Bool.not_true, Bool.not_false]
    first | exact ⟨rfl, X1.bx bx y2, u1.trans (bx.uq X1.xb.tg X1.xb.ta), by have := bx.2.2.2.2.2.1; omega, by have := bx.2.2.2.2.2.2.1; omega⟩ | exact ⟨X1.bx bx y2, u1.trans (bx.uq X1.xb.tg X1.xb.ta), by have := bx.2.2.2.2.2.1; omega, by have := bx.2.2.2.2.2.2.1; omega⟩
theorem xpick (X : XN h x lo hi o b O S) (W : WB O S.B) (hc : S.c ≤ 16) (r1 : Nc h + 3 ≤ 601024) (r2 : Ns h + 100 ≤ 7293034) : Ca (D + 270) 22 [.ref x, .int v] h (fun r h' => r = .inl (some (.int (if mayP O S.B v = true then vaF O (tn v) S.B.day else -1))) ∧ XN h' x lo hi o b O ((if mayP O S.B v = true then piF O S.B (tn v) else S.B, S.1.2), (if mayP O S.B v = true then kpN S.c else S.c, if mayP O S.B v = true then kpU S.U S.c S.B else S.U), S.M) ∧ Uq h h' ∧ Nc h' ≤ Nc h + 3 ∧ Ns h' ≤ Ns h + 100) := by
  have n1 := X.xo.wo.nA
  have hh := W.lt X.xo.wo
  rw [e_X1_pick]
  unfold mayP
  cases q1 : inN v O.nA
  · simp (disch := first | assumption | omega | decide | rfl) only [w_X1_pick_0, w_X1_pick_1, w_X1_pick_2, w_X1_pick_5, w_X1_pick_19, w_X1_pick_20, nl_int, nl_ref, nl_null, nl_un, nl_rf, nl_long, isR_ref, isR_null, isR_rf, rf_some, rf_none, rOf_ref, rOf_null, rOf_rf, kn_v, kn_0, true_and, and_true, and_self, tin, inA_x, inA_l, ix_add, ix_addl, ix_ladd, ix_mul, ix_mull, ix_lmul, ix_tn, lt_tn, Nat.reduceLeDiff, Nat.reduceLT, Nat.reduceAdd, Nat.reduceMul, true_or, or_true, ↓reduceIte, aOk, ref_null, null_null, false_or, Option.isSome_some, Option.getD_some, ite_true, ite_false, eq_self, not_false_eq_true, not_true_eq_false, bz_ne, bz_1, reduceCtorEq, Bool.not_true, Bool.not_false, X.f.tx, cx_isApple X, q1, Bool.false_and]
    first | exact ⟨rfl, X, Uq.refl, by omega, by omega⟩ | exact ⟨X, Uq.refl, by omega, by omega⟩
  · obtain ⟨a, ha, rfl⟩ := inN_ex (by omega) q1
    rw [tn_ix (by omega)]
    cases q2 : (S.B.hang.testBit a && !S.B.pk)
    · simp (disch := first | assumption | omega | decide | rfl) only [w_X1_pick_0, w_X1_pick_1, w_X1_pick_2, w_X1_pick_5, w_X1_pick_8, w_X1_pick_9, w_X1_pick_12, w_X1_pick_13, w_X1_pick_16, w_X1_pick_19, w_X1_pick_20, nl_int, nl_ref, nl_null, nl_un, nl_rf, nl_long, isR_ref, isR_null, isR_rf, rf_some, rf_none, rOf_ref, rOf_null, rOf_rf, kn_v, kn_0, true_and, and_true, and_self, tin, inA_x, inA_l, ix_add, ix_addl, ix_ladd, ix_mul, ix_mull, ix_lmul, ix_tn, lt_tn, Nat.reduceLeDiff, Nat.reduceLT, Nat.reduceAdd, Nat.reduceMul, true_or, or_true, ↓reduceIte, aOk, ref_null, null_null, false_or, Option.isSome_some, Option.getD_some, ite_true, ite_false, eq_self, not_false_eq_true, not_true_eq_false, bz_ne, bz_1, reduceCtorEq, Bool.not_true, Bool.not_false, X.f.tx, cx_isApple X, q1, q2, X.fb, X.xb.tg, cx_mayPick X.xb hh (show a < 10 by omega), Bool.and_false]
      first | exact ⟨rfl, X, Uq.refl, by omega, by omega⟩ | exact ⟨X, Uq.refl, by omega, by omega⟩
    · simp (disch := first | assumption | omega | decide | rfl) only [w_X1_pick_0, w_X1_pick_1, w_X1_pick_2, w_X1_pick_5, w_X1_pick_8, w_X1_pick_9, w_X1_pick_12, w_X1_pick_13, w_X1_pick_16, w_X1_pick_19, w_X1_pick_20, w_X1_pick_21, w_X1_pick_22, nl_int, nl_ref, nl_null, nl_un, nl_rf, nl_long, isR_ref, isR_null, isR_rf, rf_some, rf_none, rOf_ref, rOf_null, rOf_rf, kn_v, kn_0, true_and, and_true, and_self, tin, inA_x, inA_l, ix_add, ix_addl, ix_ladd, ix_mul, ix_mull, ix_lmul, ix_tn, lt_tn, Nat.reduceLeDiff, Nat.reduceLT, Nat.reduceAdd, Nat.reduceMul, true_or, or_true, ↓reduceIte, aOk, ref_null, null_null, false_or, Option.isSome_some, Option.getD_some, ite_true, ite_false, eq_self, not_false_eq_true, not_true_eq_false, bz_ne, bz_1, reduceCtorEq, Bool.not_true, Bool.not_false, X.f.tx, cx_isApple X, q1, q2, X.fb, X.xb.tg, cx_mayPick X.xb hh (show a < 10 by omega), Bool.and_true]
      refine ca_mono (xkeeps X hc r1 r2) ?_
      rintro r h1 ⟨rfl, X1, u1, m1, m2⟩
      simp (disch := first | assumption | omega | decide | rfl) only [w_X1_pick_25, w_X1_pick_26, w_X1_pick_29, w_X1_pick_30, nl_int, nl_ref, nl_null, nl_un, nl_rf, nl_long, isR_ref, isR_null, isR_rf, rf_some, rf_none, rOf_ref, rOf_null, rOf_rf, kn_v, kn_0, true_and, and_true, and_self, tin, inA_x, inA_l, ix_add, ix_addl, ix_ladd, ix_mul, ix_mull, ix_lmul, ix_tn, lt_tn, Nat.reduceLeDiff, Nat.reduceLT, Nat.reduceAdd, Nat.reduceMul, true_or, or_true, ↓reduceIte, aOk, ref_null, null_null, false_or, Option.isSome_some, Option.getD_some, ite_true, ite_false, eq_self, not_false_eq_true, not_true_eq_false, bz_ne, bz_1, reduceCtorEq, Bool.not_true, Bool.not_false, X1.f.tx, X1.fb, X1.xb.tg]
      refine ca_mono (cx_picks X1.xo X1.xb ha) ?_
      rintro r h2 ⟨rfl, bx, y2⟩
      simp (disch := first | assumption | omega | decide | rfl) only [w_X1_pick_33, nl_int, nl_ref, nl_null, nl_un, nl_rf, nl_long, isR_ref, isR_null, isR_rf, rf_some, rf_none, rOf_ref, rOf_null, rOf_rf, kn_v, kn_0, true_and, and_true, and_self, tin, inA_x, inA_l, ix_add, ix_addl, ix_ladd, ix_mul, ix_mull, ix_lmul, ix_tn, lt_tn, Nat.reduceLeDiff, Nat.reduceLT, Nat.reduceAdd, Nat.reduceMul, true_or, or_true, ↓reduceIte, aOk, ref_null, null_null, false_or, Option.isSome_some, Option.getD_some, ite_true, ite_false, eq_self, not_false_eq_true, not_true_eq_false, bz_ne, bz_1, reduceCtorEq, Bool.not_true, Bool.not_false]
      first | exact ⟨rfl, X1.bx bx y2, u1.trans (bx.uq X1.xb.tg X1.xb.ta), by have := bx.2.2.2.2.2.1; omega, by have := bx.2.2.2.2.2.2.1; omega⟩ | exact ⟨X1.bx bx y2, u1.trans (bx.uq X1.xb.tg X1.xb.ta), by have := bx.2.2.2.2.2.1; omega, by have := bx.2.2.2.2.2.2.1; omega⟩
theorem xpass (X : XN h x lo hi o b O S) (hc : S.c ≤ 16) (r1 : Nc h + 3 ≤ 601024) (r2 : Ns h + 100 ≤ 7293034) : Ca (D + 270) 24 [.ref x, .int v] h (fun r h' => r = .inl (some (.int (if 1 ≤ v ∧ v ≤ 30 then (pasN S.B (tn v)).day else -1))) ∧ XN h' x lo hi o b O ((if 1 ≤ v ∧ v ≤ 30 then pasN S.B (tn v) else S.B, S.1.2), (if 1 ≤ v ∧ v ≤ 30 then kpN S.c else S.c, if 1 ≤ v ∧ v ≤ 30 then kpU S.U S.c S.B else S.U), S.M) ∧ Uq h h' ∧ Nc h' ≤ Nc h + 3 ∧ Ns h' ≤ Ns h + 100) := by
  rw [e_X1_pass]
  by_cases q : 1 ≤ v ∧ v ≤ 30
  · have c1 : decide (1 ≤ v ∧ v ≤ 30) = true := decide_eq_true q
    simp only [if_pos q]
    obtain ⟨k, k1, k2, rfl⟩ := vr_ex (lo := 1) (hi := 30) (by decide) q (by decide)
    rw [tn_ix (by omega)]
    simp (disch := first | assumption | omega | decide | rfl) only [w_X1_pass_0, w_X1_pass_1, w_X1_pass_2, w_X1_pass_4, w_X1_pass_7, w_X1_pass_12, w_X1_pass_13, nl_int, nl_ref, nl_null, nl_un, nl_rf, nl_long, isR_ref, isR_null, isR_rf, rf_some, rf_none, rOf_ref, rOf_null, rOf_rf, kn_v, kn_0, true_and, and_true, and_self, tin, inA_x, inA_l, ix_add, ix_addl, ix_ladd, ix_mul, ix_mull, ix_lmul, ix_tn, lt_tn, Nat.reduceLeDiff, Nat.reduceLT, Nat.reduceAdd, Nat.reduceMul, true_or, or_true, ↓reduceIte, aOk, ref_null, null_null, false_or, Option.isSome_some, Option.getD_some, ite_true, ite_false, eq_self, not_false_eq_true, not_true_eq_false, bz_ne, bz_1, reduceCtorEq, Bool.not_true, Bool.not_false, cx_within, c1, X.f.tx]
    refine ca_mono (xkeeps X hc r1 r2) ?_
    rintro r h1 ⟨rfl, X1, u1, m1, m2⟩
    simp (disch := first | assumption | omega | decide | rfl) only [w_X1_pass_16, w_X1_pass_17, nl_int, nl_ref, nl_null, nl_un, nl_rf, nl_long, isR_ref, isR_null, isR_rf, rf_some, rf_none, rOf_ref, rOf_null, rOf_rf, kn_v, kn_0, true_and, and_true, and_self, tin, inA_x, inA_l, ix_add, ix_addl, ix_ladd, ix_mul, ix_mull, ix_lmul, ix_tn, lt_tn, Nat.reduceLeDiff, Nat.reduceLT, Nat.reduceAdd, Nat.reduceMul, true_or, or_true, ↓reduceIte, aOk, ref_null, null_null, false_or, Option.isSome_some, Option.getD_some, ite_true, ite_false, eq_self, not_false_eq_true, not_true_eq_false, bz_ne, bz_1, reduceCtorEq, Bool.not_true, Bool.not_false]
    refine lp (P := fun j => ∀ h2, XN h2 x lo hi o b O ((pasN S.B j, S.1.2), (kpN S.c, kpU S.U S.c S.B), S.M) → Uq h h2 → Nc h2 ≤ Nc h + 3 → Ns h2 ≤ Ns h + 100 → Ru (D + 269) 24 18 [.ref x, .int (ix k), .int (ix j)] [] h2 _) (N := k) ?_ ?_ h1 X1 u1 m1 m2
    · intro h2 X2 u2 m3 m4
      have e : ¬ k < k := by omega
      rw [w_X1_pass_18]
      simp (disch := first | assumption | omega | decide | rfl) only [w_X1_pass_19, w_X1_pass_20, w_X1_pass_36, w_X1_pass_37, w_X1_pass_40, w_X1_pass_43, nl_int, nl_ref, nl_null, nl_un, nl_rf, nl_long, isR_ref, isR_null, isR_rf, rf_some, rf_none, rOf_ref, rOf_null, rOf_rf, kn_v, kn_0, true_and, and_true, and_self, tin, inA_x, inA_l, ix_add, ix_addl, ix_ladd, ix_mul, ix_mull, ix_lmul, ix_tn, lt_tn, Nat.reduceLeDiff, Nat.reduceLT, Nat.reduceAdd, Nat.reduceMul, true_or, or_true, ↓reduceIte, aOk, ref_null, null_null, false_or, Option.isSome_some, Option.getD_some, ite_true, ite_false, eq_self, not_false_eq_true, not_true_eq_false, bz_ne, bz_1, reduceCtorEq, Bool.not_true, Bool.not_false, ix_lt, e, X2.f.tx, X2.fb, X2.xb.tg, X2.xb.day]
      first | exact ⟨rfl, X2, u2, m3, m4⟩ | exact ⟨X2, u2, m3, m4⟩
    · intro j hj nx h2 X2 u2 m3 m4
      rw [w_X1_pass_18]
      simp (disch := first | assumption | omega | decide | rfl) only [w_X1_pass_19, w_X1_pass_20, w_X1_pass_23, w_X1_pass_24, w_X1_pass_27, nl_int, nl_ref, nl_null, nl_un, nl_rf, nl_long, isR_ref, isR_null, isR_rf, rf_some, rf_none, rOf_ref, rOf_null, rOf_rf, kn_v, kn_0, true_and, and_true, and_self, tin, inA_x, inA_l, ix_add, ix_addl, ix_ladd, ix_mul, ix_mull, ix_lmul, ix_tn, lt_tn, Nat.reduceLeDiff, Nat.reduceLT, Nat.reduceAdd, Nat.reduceMul, true_or, or_true, ↓reduceIte, aOk, ref_null, null_null, false_or, Option.isSome_some, Option.getD_some, ite_true, ite_false, eq_self, not_false_eq_true, not_true_eq_false, bz_ne, bz_1, reduceCtorEq, Bool.not_true, Bool.not_false, ix_lt, hj, X2.f.tx, X2.fb, X2.xb.tg]
      refine ca_mono (cx_passes X2.xb) ?_
      rintro r h3 ⟨rfl, bx, y2⟩
      simp (disch := first | assumption | omega | decide | rfl) only [w_X1_pass_30, w_X1_pass_33, nl_int, nl_ref, nl_null, nl_un, nl_rf, nl_long, isR_ref, isR_null, isR_rf, rf_some, rf_none, rOf_ref, rOf_null, rOf_rf, kn_v, kn_0, true_and, and_true, and_self, tin, inA_x, inA_l, ix_add, ix_addl, ix_ladd, ix_mul, ix_mull, ix_lmul, ix_tn, lt_tn, Nat.reduceLeDiff, Nat.reduceLT, Nat.reduceAdd, Nat.reduceMul, true_or, or_true, ↓reduceIte, aOk, ref_null, null_null, false_or, Option.isSome_some, Option.getD_some, ite_true, ite_false, eq_self, not_false_eq_true, not_true_eq_false, bz_ne, bz_1, reduceCtorEq, Bool.not_true, Bool.not_false]
      exact nx h3 (X2.bx bx y2) (u2.trans (bx.uq X2.xb.tg X2.xb.ta)) (by have := bx.2.2.2.2.2.1; omega) (by have := bx.2.2.2.2.2.2.1; omega)
  · have c1 : decide (1 ≤ v ∧ v ≤ 30) = false := decide_eq_false q
    simp only [if_neg q]
    simp (disch := first | assumption | omega | decide | rfl) only [w_X1_pass_0, w_X1_pass_1, w_X1_pass_2, w_X1_pass_4, w_X1_pass_7, w_X1_pass_10, w_X1_pass_11, nl_int, nl_ref, nl_null, nl_un, nl_rf, nl_long, isR_ref, isR_null, isR_rf, rf_some, rf_none, rOf_ref, rOf_null, rOf_rf, kn_v, kn_0, true_and, and_true, and_self, tin, inA_x, inA_l, ix_add, ix_addl, ix_ladd, ix_mul, ix_mull, ix_lmul, ix_tn, lt_tn, Nat.reduceLeDiff, Nat.reduceLT, Nat.reduceAdd, Nat.reduceMul, true_or, or_true, ↓reduceIte, aOk, ref_null, null_null, false_or, Option.isSome_some, Option.getD_some, ite_true, ite_false, eq_self, not_false_eq_true, not_true_eq_false, bz_ne, bz_1, reduceCtorEq, Bool.not_true, Bool.not_false, cx_within, c1]
    first | exact ⟨rfl, X, Uq.refl, by omega, by omega⟩ | exact ⟨X, Uq.refl, by omega, by omega⟩
theorem bx_snd (y : XB lo hi h b o n B) (ha : a < 10) : Bx b h (sAi h (b + 1) (upd (Ai h (b + 1)) a (ix s))) ∧ XB lo hi (sAi h (b + 1) (upd (Ai h (b + 1)) a (ix s))) b o n (chB B a s) := by
  refine ⟨bx_ai, y.tg, y.sd, y.ta, y.an, y.ou, y.oc, y.hang, y.loose, y.day, y.had, y.pk, fun t ht => ?_⟩
  rw [Ai_same]
  show _ = ix (if t = a then s else B.snd t)
  by_cases q : t = a
  · rw [q, upd_s, if_pos rfl]
  · rw [upd_n q, if_neg q]; exact y.snd t ht
theorem xchristen (X : XN h x lo hi o b O S) (W : WB O S.B) (hc : S.c ≤ 16) (r1 : Nc h + 3 ≤ 601024) (r2 : Ns h + 100 ≤ 7293034) : Ca (D + 270) 23 [.ref x, .int u, .int v] h (fun r h' => r = .inl (some (.int (bz (mayN O S.B u v)))) ∧ XN h' x lo hi o b O ((if mayN O S.B u v = true then chB S.B (tn u) (tn v) else S.B, S.1.2), (if mayN O S.B u v = true then kpN S.c else S.c, if mayN O S.B u v = true then kpU S.U S.c S.B else S.U), S.M) ∧ Uq h h' ∧ Nc h' ≤ Nc h + 3 ∧ Ns h' ≤ Ns h + 100) := by
  have n1 := X.xo.wo.nA
  have n2 := X.xo.wo.nS
  rw [e_X1_christen]
  unfold mayN
  cases q1 : inN u O.nA
  · simp (disch := first | assumption | omega | decide | rfl) only [w_X1_christen_0, w_X1_christen_1, w_X1_christen_2, w_X1_christen_5, w_X1_christen_28, w_X1_christen_29, nl_int, nl_ref, nl_null, nl_un, nl_rf, nl_long, isR_ref, isR_null, isR_rf, rf_some, rf_none, rOf_ref, rOf_null, rOf_rf, kn_v, kn_0, true_and, and_true, and_self, tin, inA_x, inA_l, ix_add, ix_addl, ix_ladd, ix_mul, ix_mull, ix_lmul, ix_tn, lt_tn, Nat.reduceLeDiff, Nat.reduceLT, Nat.reduceAdd, Nat.reduceMul, true_or, or_true, ↓reduceIte, aOk, ref_null, null_null, false_or, Option.isSome_some, Option.getD_some, ite_true, ite_false, eq_self, not_false_eq_true, not_true_eq_false, bz_ne, bz_1, reduceCtorEq, Bool.not_true, Bool.not_false, X.f.tx, cx_isApple X, q1, Bool.false_and]
    first | exact ⟨rfl, X, Uq.refl, by omega, by omega⟩ | exact ⟨X, Uq.refl, by omega, by omega⟩
  · obtain ⟨a, ha, rfl⟩ := inN_ex (by omega) q1
    cases q2 : inN v O.nS
    · simp (disch := first | assumption | omega | decide | rfl) only [w_X1_christen_0, w_X1_christen_1, w_X1_christen_2, w_X1_christen_5, w_X1_christen_8, w_X1_christen_9, w_X1_christen_10, w_X1_christen_13, w_X1_christen_28, w_X1_christen_29, nl_int, nl_ref, nl_null, nl_un, nl_rf, nl_long, isR_ref, isR_null, isR_rf, rf_some, rf_none, rOf_ref, rOf_null, rOf_rf, kn_v, kn_0, true_and, and_true, and_self, tin, inA_x, inA_l, ix_add, ix_addl, ix_ladd, ix_mul, ix_mull, ix_lmul, ix_tn, lt_tn, Nat.reduceLeDiff, Nat.reduceLT, Nat.reduceAdd, Nat.reduceMul, true_or, or_true, ↓reduceIte, aOk, ref_null, null_null, false_or, Option.isSome_some, Option.getD_some, ite_true, ite_false, eq_self, not_false_eq_true, not_true_eq_false, bz_ne, bz_1, reduceCtorEq, Bool.not_true, Bool.not_false, X.f.tx, cx_isApple X, cx_isSound X, q1, q2, Bool.and_false, Bool.false_and]
      first | exact ⟨rfl, X, Uq.refl, by omega, by omega⟩ | exact ⟨X, Uq.refl, by omega, by omega⟩
    · obtain ⟨s, hs, rfl⟩ := inN_ex (by omega) q2
      rw [tn_ix (by omega), tn_ix (by omega)]
      cases q3 : (S.B.hang.testBit a && decide (S.B.day < ix (O.rp a)) && !decide (S.B.snd a = s) && frF O.nA S.B a s)
      · simp (disch := first | assumption | omega | decide | rfl) only [w_X1_christen_0, w_X1_christen_1, w_X1_christen_2, w_X1_christen_5, w_X1_christen_8, w_X1_christen_9, w_X1_christen_10, w_X1_christen_13, w_X1_christen_16, w_X1_christen_17, w_X1_christen_20, w_X1_christen_21, w_X1_christen_22, w_X1_christen_25, w_X1_christen_28, w_X1_christen_29, nl_int, nl_ref, nl_null, nl_un, nl_rf, nl_long, isR_ref, isR_null, isR_rf, rf_some, rf_none, rOf_ref, rOf_null, rOf_rf, kn_v, kn_0, true_and, and_true, and_self, tin, inA_x, inA_l, ix_add, ix_addl, ix_ladd, ix_mul, ix_mull, ix_lmul, ix_tn, lt_tn, Nat.reduceLeDiff, Nat.reduceLT, Nat.reduceAdd, Nat.reduceMul, true_or, or_true, ↓reduceIte, aOk, ref_null, null_null, false_or, Option.isSome_some, Option.getD_some, ite_true, ite_false, eq_self, not_false_eq_true, not_true_eq_false, bz_ne, bz_1, reduceCtorEq, Bool.not_true, Bool.not_false, X.f.tx, cx_isApple X, cx_isSound X, q1, q2, q3, X.fb, X.xb.tg, cx_mayChristen X.xo X.xb W hs ha, Bool.and_false]
        first | exact ⟨rfl, X, Uq.refl, by omega, by omega⟩ | exact ⟨X, Uq.refl, by omega, by omega⟩
      · simp (disch := first | assumption | omega | decide | rfl) only [w_X1_christen_0, w_X1_christen_1, w_X1_christen_2, w_X1_christen_5, w_X1_christen_8, w_X1_christen_9, w_X1_christen_10, w_X1_christen_13, w_X1_christen_16, w_X1_christen_17, w_X1_christen_20, w_X1_christen_21, w_X1_christen_22, w_X1_christen_25, w_X1_christen_28, w_X1_christen_29, w_X1_christen_30, w_X1_christen_31, nl_int, nl_ref, nl_null, nl_un, nl_rf, nl_long, isR_ref, isR_null, isR_rf, rf_some, rf_none, rOf_ref, rOf_null, rOf_rf, kn_v, kn_0, true_and, and_true, and_self, tin, inA_x, inA_l, ix_add, ix_addl, ix_ladd, ix_mul, ix_mull, ix_lmul, ix_tn, lt_tn, Nat.reduceLeDiff, Nat.reduceLT, Nat.reduceAdd, Nat.reduceMul, true_or, or_true, ↓reduceIte, aOk, ref_null, null_null, false_or, Option.isSome_some, Option.getD_some, ite_true, ite_false, eq_self, not_false_eq_true, not_true_eq_false, bz_ne, bz_1, reduceCtorEq, Bool.not_true, Bool.not_false, X.f.tx, cx_isApple X, cx_isSound X, q1, q2, q3, X.fb, X.xb.tg, cx_mayChristen X.xo X.xb W hs ha, Bool.and_true]
        refine ca_mono (xkeeps X hc r1 r2) ?_
        rintro r h1 ⟨rfl, X1, u1, m1, m2⟩
        obtain ⟨bx, y2⟩ := bx_snd (a := a) (s := s) X1.xb (by omega)
        simp (disch := first | assumption | omega | decide | rfl) only [w_X1_christen_34, w_X1_christen_35, w_X1_christen_38, w_X1_christen_41, w_X1_christen_42, w_X1_christen_43, w_X1_christen_44, w_X1_christen_45, nl_int, nl_ref, nl_null, nl_un, nl_rf, nl_long, isR_ref, isR_null, isR_rf, rf_some, rf_none, rOf_ref, rOf_null, rOf_rf, kn_v, kn_0, true_and, and_true, and_self, tin, inA_x, inA_l, ix_add, ix_addl, ix_ladd, ix_mul, ix_mull, ix_lmul, ix_tn, lt_tn, Nat.reduceLeDiff, Nat.reduceLT, Nat.reduceAdd, Nat.reduceMul, true_or, or_true, ↓reduceIte, aOk, ref_null, null_null, false_or, Option.isSome_some, Option.getD_some, ite_true, ite_false, eq_self, not_false_eq_true, not_true_eq_false, bz_ne, bz_1, reduceCtorEq, Bool.not_true, Bool.not_false, X1.f.tx, X1.fb, X1.xb.tg, X1.xb.sd, X1.xb.ta, X1.xb.an]
        first | exact ⟨rfl, X1.bx bx y2, u1.trans (bx.uq X1.xb.tg X1.xb.ta), m1, m2⟩ | exact ⟨X1.bx bx y2, u1.trans (bx.uq X1.xb.tg X1.xb.ta), m1, m2⟩
theorem xundo (X : XN h x lo hi o b O S) (hc : S.c ≤ 16) : Ca (D + 270) 25 [.ref x] h (fun r h' => r = .inl (some (.int (bz (decide (0 < S.c))))) ∧ (∃ b', XN h' x lo hi o b' O ((if 0 < S.c then S.U (S.c - 1) else S.B, S.1.2), (S.c - 1, S.U), S.M)) ∧ Uq h h' ∧ Nc h' ≤ Nc h ∧ Ns h' ≤ Ns h) := by
  have w := X.be.wl
  have z := X.be.sz
  have ie : ∀ Q, Ca (D + 269) 312 [.ref (x + 37)] h Q = Q (.inl (some (.int (if S.c = 0 then 1 else 0)))) h := fun Q => by rw [c_isEmpty w, z]
  have sz2 : ∀ Q, Ca (D + 269) 301 [.ref (x + 37)] h Q = Q (.inl (some (.int (ix S.c)))) h := fun Q => by rw [c_size w, z]
  rw [e_X1_undo]
  by_cases q : S.c = 0
  · have e0 : (if S.c = 0 then (1 : Int32) else 0) = 1 := if_pos q
    have d1 : ((1 : Int32) = 0) = False := by decide
    have q' : ¬ 0 < S.c := by omega
    simp (disch := first | assumption | omega | decide | rfl) only [w_X1_undo_0, w_X1_undo_1, w_X1_undo_4, w_X1_undo_7, w_X1_undo_10, w_X1_undo_11, nl_int, nl_ref, nl_null, nl_un, nl_rf, nl_long, isR_ref, isR_null, isR_rf, rf_some, rf_none, rOf_ref, rOf_null, rOf_rf, kn_v, kn_0, true_and, and_true, and_self, tin, inA_x, inA_l, ix_add, ix_addl, ix_ladd, ix_mul, ix_mull, ix_lmul, ix_tn, lt_tn, Nat.reduceLeDiff, Nat.reduceLT, Nat.reduceAdd, Nat.reduceMul, true_or, or_true, ↓reduceIte, aOk, ref_null, null_null, false_or, Option.isSome_some, Option.getD_some, ite_true, ite_false, eq_self, not_false_eq_true, not_true_eq_false, bz_ne, bz_1, reduceCtorEq, Bool.not_true, Bool.not_false, X.f.tx, X.f.f6, X.f.t37, ie, e0, d1]
    refine ⟨by rw [decide_eq_false q']; rfl, ⟨b, ?_⟩, Uq.refl, Nat.le_refl _, Nat.le_refl _⟩
    rw [if_neg q', show S.c - 1 = S.c by omega]
    exact X
  · have e0 : (if S.c = 0 then (1 : Int32) else 0) = 0 := if_neg q
    have q' : 0 < S.c := by omega
    have es : ix S.c - 1 = ix (S.c - 1) := ix_subl (n := 1) (by omega)
    simp (disch := first | assumption | omega | decide | rfl) only [w_X1_undo_0, w_X1_undo_1, w_X1_undo_4, w_X1_undo_7, w_X1_undo_10, w_X1_undo_11, w_X1_undo_12, w_X1_undo_13, w_X1_undo_14, w_X1_undo_17, w_X1_undo_18, w_X1_undo_21, w_X1_undo_24, w_X1_undo_25, w_X1_undo_26, nl_int, nl_ref, nl_null, nl_un, nl_rf, nl_long, isR_ref, isR_null, isR_rf, rf_some, rf_none, rOf_ref, rOf_null, rOf_rf, kn_v, kn_0, true_and, and_true, and_self, tin, inA_x, inA_l, ix_add, ix_addl, ix_ladd, ix_mul, ix_mull, ix_lmul, ix_tn, lt_tn, Nat.reduceLeDiff, Nat.reduceLT, Nat.reduceAdd, Nat.reduceMul, true_or, or_true, ↓reduceIte, aOk, ref_null, null_null, false_or, Option.isSome_some, Option.getD_some, ite_true, ite_false, eq_self, not_false_eq_true, not_true_eq_false, bz_ne, bz_1, reduceCtorEq, Bool.not_true, Bool.not_false, X.f.tx, X.f.f6, X.f.t37, ie, e0, sz2, es]
    refine ca_mono (c_remove (d := D + 265) (i := S.c - 1) w (by omega)) ?_
    rintro r h1 ⟨rfl, w1, z1, e1, d1', un, m1, m2⟩
    rw [z] at z1 e1
    obtain ⟨y1, y2, y3⟩ := X.be.at (S.c - 1) (by omega)
    have de : Tg h (ed h (x + 37)) ≠ 5902 := fun e => by
      rcases w.2.2.2.2.1 with ht | ⟨ht, he, ha⟩
      · omega
      · have := w.2.2.2.2.2.1; omega
    have de2 := edT w
    have t37 := X.f.t37
    have un2 : Un (fun a => a = x + 37 ∨ (a = ed h (x + 37) ∧ Tg h a ≠ 5902)) h h1 := un.mono (fun a _ q => by
      rcases q with q | q
      · exact Or.inl q
      · exact Or.inr ⟨q, by rw [q]; exact de⟩)
    have nb : ∀ b', Tg h b' = 4 → Tg h (b' + 1) = 1013 → ¬ (b' = x + 37 ∨ b' = ed h (x + 37)) ∧ ¬ (b' + 1 = x + 37 ∨ b' + 1 = ed h (x + 37)) := by
      intro b' q1 q2
      refine ⟨?_, ?_⟩
      · rintro (q | q) <;> (rw [q] at q1; omega)
      · rintro (q | q) <;> (rw [q] at q2; omega)
    have e1' : ∀ j, j < S.c - 1 → el h1 (x + 37) j = el h (x + 37) j := fun j hj => by
      have := e1 j hj
      rw [if_pos hj] at this
      exact this
    have X1 : XN h1 x lo hi o b O (S.1, (S.c - 1, S.U), S.M) := by
      refine X.beh un2 (Or.inl d1') (c' := S.c - 1) (U' := S.U) ⟨w1, z1, ?_, fun j hj => ?_, fun i j hij hj => ?_⟩ (fun k hk p e j hj => Or.inl ⟨j, by omega, e1' j hj⟩)
      · rw [d1', (un.2.2.2.2.1 _ w.elt).1]; exact X.be.ou
      · obtain ⟨q1, q2, q3⟩ := X.be.at j (by omega)
        have k := nb _ q1.tg q1.ta
        rw [e1' j hj]
        exact ⟨q1.un un k.1 k.2, q2, q3⟩
      · rw [e1' i (by omega), e1' j hj]
        exact X.be.di _ _ hij (by omega)
    have k := nb _ y1.tg y1.ta
    have yb := y1.un un k.1 k.2
    have X2 := X1.newb (B' := S.U (S.c - 1)) yb y2 (fun j hj => by
      have hj : j < S.c - 1 := hj
      rw [e1' j hj]
      exact X.be.di _ _ hj (by omega)) (fun k hk p e => by
      have k65 := un.uk (Tg_nz X.f.t65 (by decide)) (by have := X.f.t65; rintro (q | q) <;> (rw [q] at this; omega))
      rw [k65.2.2.2.2.2.2.2] at e
      obtain ⟨-, g1, g2, g3⟩ := X.mne hk e
      have kp := un.uk (Tg_nz g2 (by decide)) (by rintro (q | q) <;> (rw [q] at g2; omega))
      have eo : ol h1 p 175 = ol h p 175 := by unfold ol; rw [kp.2.2.2.2.1]
      rw [eo]
      exact g3 _ (by omega))
    have tx1 := X1.f.tx
    simp (disch := first | assumption | omega | decide | rfl) only [w_X1_undo_29, w_X1_undo_32, w_X1_undo_35, w_X1_undo_36, nl_int, nl_ref, nl_null, nl_un, nl_rf, nl_long, isR_ref, isR_null, isR_rf, rf_some, rf_none, rOf_ref, rOf_null, rOf_rf, kn_v, kn_0, true_and, and_true, and_self, tin, inA_x, inA_l, ix_add, ix_addl, ix_ladd, ix_mul, ix_mull, ix_lmul, ix_tn, lt_tn, Nat.reduceLeDiff, Nat.reduceLT, Nat.reduceAdd, Nat.reduceMul, true_or, or_true, ↓reduceIte, aOk, ref_null, null_null, false_or, Option.isSome_some, Option.getD_some, ite_true, ite_false, eq_self, not_false_eq_true, not_true_eq_false, bz_ne, bz_1, reduceCtorEq, Bool.not_true, Bool.not_false, yb.tg, tx1]
    refine ⟨by rw [decide_eq_true q']; rfl, ⟨_, by rw [if_pos q']; exact X2⟩, Uq.trans (un.uq (fun a _ q => ?_)) (Un.uq (un_sFr (A := fun a => a = x) rfl) (fun a _ q => ?_)), Nat.le_of_eq m1, Nat.le_of_eq m2⟩
    · rcases q with q | q
      · rw [q]; omega
      · rw [q]; omega
    · rw [q, tx1]; omega
end
