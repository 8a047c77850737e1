/-! THE MODEL: falls, pass, undo, christen -/
set_option maxRecDepth 100000
section
variable {d D m a b c p q s w n k i j : Nat} {h h' : AH} {Q : Rs → AH → Prop} {O : Oc} {B : Bo} {A F : List Nat} {U : Nat → Bo} {u v : Int32}
theorem cm_falls (x : M0 h m O) (y : MB h (m + 53) 0 O.nA B) (z : WB O B) : Ca (D + 4) 192 [.ref m, .int u, .int v] h (fun r h' => r = .inl (some (.int (if mayC O u v = true then ix (flF O B (tn v) (O.ln (tn u)) (O.ld (tn u))) else -1))) ∧ Md m [] [60, 130, 131, 132] h h' ∧ Fi h' 60 m = 0) := by
  have n1 := x.wo.nA
  have n2 := x.wo.nS
  have n3 := x.wo.nP
  have hh := z.lt x.wo
  generalize hQ : (fun r h' => r = .inl (some (.int (if mayC O u v = true then ix (flF O B (tn v) (O.ln (tn u)) (O.ld (tn u))) else -1))) ∧ Md m [] [60, 130, 131, 132] h h' ∧ Fi h' 60 m = 0 : Rs → AH → Prop) = Q
  rw [e_X9_falls]
  simp (disch := first | assumption | omega | decide | rfl) only [w_X9_falls_0, w_X9_falls_1, w_X9_falls_2, mo_0 x.mo, nl_int, nl_ref, nl_null, nl_un, nl_rf, nl_long, isR_ref, isR_null, isR_rf, rf_some, rf_none, rOf_ref, rOf_null, rOf_rf, kn_v, kn_0, true_and, and_true, and_self, tin, inA_x, inA_l, ix_add, ix_addl, ix_ladd, ix_mul, ix_mull, ix_lmul, ix_tn, lt_tn, Nat.reduceLeDiff, Nat.reduceLT, Nat.reduceAdd, Nat.reduceMul, true_or, or_true, ↓reduceIte, aOk, ref_null, null_null, false_or, Option.isSome_some, Option.getD_some, ite_true, ite_false, eq_self, not_false_eq_true, not_true_eq_false]
  have u1 : Md m [] [60, 130, 131, 132] h (sFi h 60 m 0) := md_sFi (by decide)
  have f1 : Fi (sFi h 60 m 0) 60 m = 0 := Fi_same
  revert u1 f1
  generalize sFi h 60 m 0 = h1
  intro u1 f1
  have x1 : M0 h1 m O := x.md u1
  have y1 : MB h1 (m + 53) 0 O.nA B := y.md u1 (by decide)
  have no : mayC O u v = false → Q (.inl (some (.int (-1)))) h1 := fun e => by
    rw [← hQ, e]
    exact ⟨rfl, u1, f1⟩
  simp (disch := first | assumption | omega | decide | rfl) only [w_X9_falls_5, w_X9_falls_6, w_X9_falls_7, mo_0 x1.mo, nl_int, nl_ref, nl_null, nl_un, nl_rf, nl_long, isR_ref, isR_null, isR_rf, rf_some, rf_none, rOf_ref, rOf_null, rOf_rf, kn_v, kn_0, true_and, and_true, and_self, tin, inA_x, inA_l, ix_add, ix_addl, ix_ladd, ix_mul, ix_mull, ix_lmul, ix_tn, lt_tn, Nat.reduceLeDiff, Nat.reduceLT, Nat.reduceAdd, Nat.reduceMul, true_or, or_true, ↓reduceIte, aOk, ref_null, null_null, false_or, Option.isSome_some, Option.getD_some, ite_true, ite_false, eq_self, not_false_eq_true, not_true_eq_false, cm_isPerson x1]
  by_cases q1 : inN u O.nP = true
  · have d1 : (bz (inN u O.nP) = 0) = False := by rw [bz_ne]; exact eq_false (by rw [q1]; decide)
    simp (disch := first | assumption | omega | decide | rfl) only [w_X9_falls_10, w_X9_falls_13, w_X9_falls_14, w_X9_falls_15, mo_0 x1.mo, nl_int, nl_ref, nl_null, nl_un, nl_rf, nl_long, isR_ref, isR_null, isR_rf, rf_some, rf_none, rOf_ref, rOf_null, rOf_rf, kn_v, kn_0, true_and, and_true, and_self, tin, inA_x, inA_l, ix_add, ix_addl, ix_ladd, ix_mul, ix_mull, ix_lmul, ix_tn, lt_tn, Nat.reduceLeDiff, Nat.reduceLT, Nat.reduceAdd, Nat.reduceMul, true_or, or_true, ↓reduceIte, aOk, ref_null, null_null, false_or, Option.isSome_some, Option.getD_some, ite_true, ite_false, eq_self, not_false_eq_true, not_true_eq_false, d1, cm_isSound x1]
    by_cases q2 : inN v O.nS = true
    · have d2 : (bz (inN v O.nS) = 0) = False := by rw [bz_ne]; exact eq_false (by rw [q2]; decide)
      obtain ⟨a, ha, rfl⟩ := inN_ex (by omega) q1
      obtain ⟨b, hb, rfl⟩ := inN_ex (by omega) q2
      have em : mayC O (ix a) (ix b) = saF O a b := by unfold mayC; rw [q1, q2, tn_ix (by omega), tn_ix (by omega)]; rfl
      simp (disch := first | assumption | omega | decide | rfl) only [w_X9_falls_18, w_X9_falls_21, w_X9_falls_22, w_X9_falls_23, w_X9_falls_24, mo_0 x1.mo, nl_int, nl_ref, nl_null, nl_un, nl_rf, nl_long, isR_ref, isR_null, isR_rf, rf_some, rf_none, rOf_ref, rOf_null, rOf_rf, kn_v, kn_0, true_and, and_true, and_self, tin, inA_x, inA_l, ix_add, ix_addl, ix_ladd, ix_mul, ix_mull, ix_lmul, ix_tn, lt_tn, Nat.reduceLeDiff, Nat.reduceLT, Nat.reduceAdd, Nat.reduceMul, true_or, or_true, ↓reduceIte, aOk, ref_null, null_null, false_or, Option.isSome_some, Option.getD_some, ite_true, ite_false, eq_self, not_false_eq_true, not_true_eq_false, d2, cm_isSaid x1 ha hb]
      by_cases q3 : saF O a b = true
      · have d3 : (bz (saF O a b) = 0) = False := by rw [bz_ne]; exact eq_false (by rw [q3]; decide)
        have hm1 := x1.mo
        have p1 := x1.mr.ln a ha
        have p2 := x1.mr.ld a ha
        rw [Nat.mul_zero, Nat.zero_add] at p1 p2
        have e0 := y1.snd
        rw [show (0 : Nat) + 5 = 5 from rfl] at e0
        simp (disch := first | assumption | omega | decide | rfl) only [w_X9_falls_27, nl_int, nl_ref, nl_null, nl_un, nl_rf, nl_long, isR_ref, isR_null, isR_rf, rf_some, rf_none, rOf_ref, rOf_null, rOf_rf, kn_v, kn_0, true_and, and_true, and_self, tin, inA_x, inA_l, ix_add, ix_addl, ix_ladd, ix_mul, ix_mull, ix_lmul, ix_tn, lt_tn, Nat.reduceLeDiff, Nat.reduceLT, Nat.reduceAdd, Nat.reduceMul, true_or, or_true, ↓reduceIte, aOk, ref_null, null_null, false_or, Option.isSome_some, Option.getD_some, ite_true, ite_false, eq_self, not_false_eq_true, not_true_eq_false, d3]
        simp (disch := first | assumption | omega | decide | rfl) only [w_X9_falls_32, w_X9_falls_33, w_X9_falls_34, w_X9_falls_35, w_X9_falls_38, w_X9_falls_39, w_X9_falls_40, w_X9_falls_41, w_X9_falls_44, w_X9_falls_45, w_X9_falls_46, mo_0 hm1, mo_lane hm1, mt_lane hm1, ml_lane hm1, mo_loud hm1, mt_loud hm1, ml_loud hm1, mo_s hm1, mt_s hm1, ml_s hm1, nl_int, nl_ref, nl_null, nl_un, nl_rf, nl_long, isR_ref, isR_null, isR_rf, rf_some, rf_none, rOf_ref, rOf_null, rOf_rf, kn_v, kn_0, true_and, and_true, and_self, tin, inA_x, inA_l, ix_add, ix_addl, ix_ladd, ix_mul, ix_mull, ix_lmul, ix_tn, lt_tn, Nat.reduceLeDiff, Nat.reduceLT, Nat.reduceAdd, Nat.reduceMul, true_or, or_true, ↓reduceIte, aOk, ref_null, null_null, false_or, Option.isSome_some, Option.getD_some, ite_true, ite_false, eq_self, not_false_eq_true, not_true_eq_false, p1, p2, cm_hears (snd := B.snd) x1 hb (x.wo.ln a ha) (x.wo.ld a ha) z.snd e0]
        have u2 : Md m [] [60, 130, 131, 132] h (sFi (sFi h1 130 m (ix (whF O B.snd b (O.ln a) (O.ld a)))) 131 m (ix (ecF O B.snd b (O.ln a) (O.ld a)))) := (u1.trans (md_sFi (A := []) (F := [60, 130, 131, 132]) (by decide)) (fun _ q => q) (fun _ q => q)).trans (md_sFi (A := []) (F := [60, 130, 131, 132]) (by decide)) (fun _ q => q) (fun _ q => q)
        have a1 : Fi (sFi (sFi h1 130 m (ix (whF O B.snd b (O.ln a) (O.ld a)))) 131 m (ix (ecF O B.snd b (O.ln a) (O.ld a)))) 130 m = ix (whF O B.snd b (O.ln a) (O.ld a)) := by rw [Fi_otherf (by decide), Fi_same]
        have a2 : Fi (sFi (sFi h1 130 m (ix (whF O B.snd b (O.ln a) (O.ld a)))) 131 m (ix (ecF O B.snd b (O.ln a) (O.ld a)))) 131 m = ix (ecF O B.snd b (O.ln a) (O.ld a)) := Fi_same
        have a3 : Fi (sFi (sFi h1 130 m (ix (whF O B.snd b (O.ln a) (O.ld a)))) 131 m (ix (ecF O B.snd b (O.ln a) (O.ld a)))) 60 m = 0 := by rw [Fi_otherf (by decide), Fi_otherf (by decide)]; exact f1
        revert u2 a1 a2 a3
        generalize sFi (sFi h1 130 m (ix (whF O B.snd b (O.ln a) (O.ld a)))) 131 m (ix (ecF O B.snd b (O.ln a) (O.ld a))) = h2
        intro u2 a1 a2 a3
        have x2 : M0 h2 m O := x.md u2
        have hm2 := x2.mo
        have y2 := y.md u2 (by decide)
        have g1 := y2.hang
        have g2 := y2.loose
        rw [Nat.zero_add] at g2
        rw [w_X9_falls_49]
        simp (disch := first | assumption | omega | decide | rfl) only [w_X9_falls_50, w_X9_falls_51, w_X9_falls_54, w_X9_falls_55, w_X9_falls_56, w_X9_falls_57, w_X9_falls_60, w_X9_falls_61, w_X9_falls_62, w_X9_falls_63, w_X9_falls_66, w_X9_falls_67, w_X9_falls_70, w_X9_falls_73, mo_0 hm2, mo_lane hm2, mt_lane hm2, ml_lane hm2, mo_loud hm2, mt_loud hm2, ml_loud hm2, mo_s hm2, mt_s hm2, ml_s hm2, nl_int, nl_ref, nl_null, nl_un, nl_rf, nl_long, isR_ref, isR_null, isR_rf, rf_some, rf_none, rOf_ref, rOf_null, rOf_rf, kn_v, kn_0, true_and, and_true, and_self, tin, inA_x, inA_l, ix_add, ix_addl, ix_ladd, ix_mul, ix_mull, ix_lmul, ix_tn, lt_tn, Nat.reduceLeDiff, Nat.reduceLT, Nat.reduceAdd, Nat.reduceMul, true_or, or_true, ↓reduceIte, aOk, ref_null, null_null, false_or, Option.isSome_some, Option.getD_some, ite_true, ite_false, eq_self, not_false_eq_true, not_true_eq_false, g1, g2, a1, a2, cm_fallsBy x2 hh]
        rw [← hQ, em, q3, if_pos rfl, tn_ix (by omega), tn_ix (by omega)]
        refine ⟨rfl, u2.trans (md_sFi (A := []) (F := [60, 130, 131, 132]) (by decide)) (fun _ q => q) (fun _ q => q), ?_⟩
        rw [Fi_otherf (by decide)]
        exact a3
      · have d3 : (bz (saF O a b) = 0) = True := by rw [bz_ne]; exact eq_true (Bool.not_eq_true _ ▸ q3)
        simp (disch := first | assumption | omega | decide | rfl) only [w_X9_falls_27, w_X9_falls_30, w_X9_falls_31, nl_int, nl_ref, nl_null, nl_un, nl_rf, nl_long, isR_ref, isR_null, isR_rf, rf_some, rf_none, rOf_ref, rOf_null, rOf_rf, kn_v, kn_0, true_and, and_true, and_self, tin, inA_x, inA_l, ix_add, ix_addl, ix_ladd, ix_mul, ix_mull, ix_lmul, ix_tn, lt_tn, Nat.reduceLeDiff, Nat.reduceLT, Nat.reduceAdd, Nat.reduceMul, true_or, or_true, ↓reduceIte, aOk, ref_null, null_null, false_or, Option.isSome_some, Option.getD_some, ite_true, ite_false, eq_self, not_false_eq_true, not_true_eq_false, d3]
        exact no (by rw [em]; simpa using q3)
    · have d2 : (bz (inN v O.nS) = 0) = True := by rw [bz_ne]; exact eq_true (Bool.not_eq_true _ ▸ q2)
      simp (disch := first | assumption | omega | decide | rfl) only [w_X9_falls_18, w_X9_falls_30, w_X9_falls_31, nl_int, nl_ref, nl_null, nl_un, nl_rf, nl_long, isR_ref, isR_null, isR_rf, rf_some, rf_none, rOf_ref, rOf_null, rOf_rf, kn_v, kn_0, true_and, and_true, and_self, tin, inA_x, inA_l, ix_add, ix_addl, ix_ladd, ix_mul, ix_mull, ix_lmul, ix_tn, lt_tn, Nat.reduceLeDiff, Nat.reduceLT, Nat.reduceAdd, Nat.reduceMul, true_or, or_true, ↓reduceIte, aOk, ref_null, null_null, false_or, Option.isSome_some, Option.getD_some, ite_true, ite_false, eq_self, not_false_eq_true, not_true_eq_false, d2]
      exact no (by unfold mayC; simp [q2])
  · have d1 : (bz (inN u O.nP) = 0) = True := by rw [bz_ne]; exact eq_true (Bool.not_eq_true _ ▸ q1)
    simp (disch := first | assumption | omega | decide | rfl) only [w_X9_falls_10, w_X9_falls_30, w_X9_falls_31, nl_int, nl_ref, nl_null, nl_un, nl_rf, nl_long, isR_ref, isR_null, isR_rf, rf_some, rf_none, rOf_ref, rOf_null, rOf_rf, kn_v, kn_0, true_and, and_true, and_self, tin, inA_x, inA_l, ix_add, ix_addl, ix_ladd, ix_mul, ix_mull, ix_lmul, ix_tn, lt_tn, Nat.reduceLeDiff, Nat.reduceLT, Nat.reduceAdd, Nat.reduceMul, true_or, or_true, ↓reduceIte, aOk, ref_null, null_null, false_or, Option.isSome_some, Option.getD_some, ite_true, ite_false, eq_self, not_false_eq_true, not_true_eq_false, d1]
    exact no (by unfold mayC; simp [q1])
/-- days passed -/
noncomputable def pasN (B : Bo) : Nat → Bo
  | 0 => B
  | n + 1 => paF (pasN B n)
theorem vr_ex {lo hi : Nat} (hh : hi < 2147483648) (hv : ix lo ≤ v ∧ v ≤ ix hi) (hl : lo < 2147483648) : ∃ k, lo ≤ k ∧ k ≤ hi ∧ v = ix k := by
  have h1 : (ix lo).toInt ≤ v.toInt := Int32.le_iff_toInt_le.mp hv.1
  have h2 : v.toInt ≤ (ix hi).toInt := Int32.le_iff_toInt_le.mp hv.2
  rw [toInt_ix hl] at h1
  rw [toInt_ix hh] at h2
  refine ⟨v.toInt.toNat, by omega, by omega, ?_⟩
  apply Int32.toInt_inj.mp
  rw [toInt_ix (by omega)]
  omega
theorem cm_pass (x : M0 h m O) (y : MB h (m + 53) 0 O.nA B) (t : MU h m O.nA c U) : Ca (D + 3) 209 [.ref m, .int v] h (fun r h' => r = .inl (some (.int (if 1 ≤ v ∧ v ≤ 30 then (pasN B (tn v)).day else -1))) ∧ Md m [53, 56] [60, 129] h h' ∧ Fi h' 60 m = 0 ∧ MB h' (m + 53) 0 O.nA (if 1 ≤ v ∧ v ≤ 30 then pasN B (tn v) else B) ∧ MU h' m O.nA (if 1 ≤ v ∧ v ≤ 30 then kpN c else c) (if 1 ≤ v ∧ v ≤ 30 then kpU U c B else U)) := by
  have n1 := x.wo.nA
  generalize hQ : (fun r h' => r = .inl (some (.int (if 1 ≤ v ∧ v ≤ 30 then (pasN B (tn v)).day else -1))) ∧ Md m [53, 56] [60, 129] h h' ∧ Fi h' 60 m = 0 ∧ MB h' (m + 53) 0 O.nA (if 1 ≤ v ∧ v ≤ 30 then pasN B (tn v) else B) ∧ MU h' m O.nA (if 1 ≤ v ∧ v ≤ 30 then kpN c else c) (if 1 ≤ v ∧ v ≤ 30 then kpU U c B else U) : Rs → AH → Prop) = Q
  rw [e_X9_pass]
  simp (disch := first | assumption | omega | decide | rfl) only [w_X9_pass_0, w_X9_pass_1, w_X9_pass_2, w_X9_pass_5, w_X9_pass_6, w_X9_pass_7, w_X9_pass_9, mo_0 x.mo, nl_int, nl_ref, nl_null, nl_un, nl_rf, nl_long, isR_ref, isR_null, isR_rf, rf_some, rf_none, rOf_ref, rOf_null, rOf_rf, kn_v, kn_0, true_and, and_true, and_self, tin, inA_x, inA_l, ix_add, ix_addl, ix_ladd, ix_mul, ix_mull, ix_lmul, ix_tn, lt_tn, Nat.reduceLeDiff, Nat.reduceLT, Nat.reduceAdd, Nat.reduceMul, true_or, or_true, ↓reduceIte, aOk, ref_null, null_null, false_or, Option.isSome_some, Option.getD_some, ite_true, ite_false, eq_self, not_false_eq_true, not_true_eq_false, cm_within]
  have u1 : Md m [] [60, 129] h (sFi h 60 m 0) := md_sFi (by decide)
  have z1 : Md m [] [60] h (sFi h 60 m 0) := md_sFi (by decide)
  have f1 : Fi (sFi h 60 m 0) 60 m = 0 := Fi_same
  revert u1 z1 f1
  generalize sFi h 60 m 0 = h1
  intro u1 z1 f1
  have x1 : M0 h1 m O := x.md u1
  have y1 : MB h1 (m + 53) 0 O.nA B := y.md u1 (by decide)
  have t1 := t.md z1 (by decide) (by decide)
  have v1 : Md m [53, 56] [60, 129] h h1 := u1.mono (by simp) (fun _ q => q)
  by_cases q : 1 ≤ v ∧ v ≤ 30
  · have c1 : (bz (decide (1 ≤ v ∧ v ≤ 30)) = 0) = False := by rw [bz_ne]; exact eq_false (by simp [q])
    rw [if_pos q, if_pos q, if_pos q, if_pos q] at hQ
    obtain ⟨k, -, hk, rfl⟩ := vr_ex (lo := 1) (hi := 30) (by decide) q (by decide)
    rw [tn_ix (by omega)] at hQ
    simp (disch := first | assumption | omega | decide | rfl) only [w_X9_pass_12, w_X9_pass_15, w_X9_pass_16, w_X9_pass_17, w_X9_pass_18, mo_0 x1.mo, nl_int, nl_ref, nl_null, nl_un, nl_rf, nl_long, isR_ref, isR_null, isR_rf, rf_some, rf_none, rOf_ref, rOf_null, rOf_rf, kn_v, kn_0, true_and, and_true, and_self, tin, inA_x, inA_l, ix_add, ix_addl, ix_ladd, ix_mul, ix_mull, ix_lmul, ix_tn, lt_tn, Nat.reduceLeDiff, Nat.reduceLT, Nat.reduceAdd, Nat.reduceMul, true_or, or_true, ↓reduceIte, aOk, ref_null, null_null, false_or, Option.isSome_some, Option.getD_some, ite_true, ite_false, eq_self, not_false_eq_true, not_true_eq_false, c1]
    refine ca_mono (cm_keeps x1.mo y1 n1 t1) ?_
    rintro r h2 ⟨rfl, u2, t2⟩
    have y2 := y1.md u2 (by decide)
    have v2 : Md m [53, 56] [60, 129] h h2 := v1.trans u2 (by decide) (by decide)
    have f2 : Fi h2 60 m = 0 := by rw [u2.fi (by decide)]; exact f1
    have key : ∀ n j h3, j + n = k → Md m [53] [] h2 h3 → MB h3 (m + 53) 0 O.nA (pasN B j) → Ru (D + 2) 209 23 [.ref m, .int (ix k), .int (ix j)] [] h3 Q := by
      intro n
      induction n with
      | zero =>
        intro j h3 hj u3 y3
        have ej : j = k := by omega
        subst ej
        have hm3 := u3.mo (v2.mo x.mo)
        have g := y3.day
        rw [Nat.zero_add] at g
        have e : ¬ j < j := by omega
        simp (disch := first | assumption | omega | decide | rfl) only [w_X9_pass_23, w_X9_pass_24, w_X9_pass_25, w_X9_pass_28, w_X9_pass_29, w_X9_pass_32, w_X9_pass_35, w_X9_pass_38, w_X9_pass_39, w_X9_pass_42, w_X9_pass_43, w_X9_pass_44, mo_0 hm3, mo_s hm3, mt_s hm3, ml_s hm3, nl_int, nl_ref, nl_null, nl_un, nl_rf, nl_long, isR_ref, isR_null, isR_rf, rf_some, rf_none, rOf_ref, rOf_null, rOf_rf, kn_v, kn_0, true_and, and_true, and_self, tin, inA_x, inA_l, ix_add, ix_addl, ix_ladd, ix_mul, ix_mull, ix_lmul, ix_tn, lt_tn, Nat.reduceLeDiff, Nat.reduceLT, Nat.reduceAdd, Nat.reduceMul, true_or, or_true, ↓reduceIte, aOk, ref_null, null_null, false_or, Option.isSome_some, Option.getD_some, ite_true, ite_false, eq_self, not_false_eq_true, not_true_eq_false, ix_lt, e, g]
        rw [← hQ]
        exact ⟨rfl, v2.trans u3 (by decide) (by simp), by rw [u3.fi (by simp)]; exact f2, y3, t2.md u3 (by decide) (by simp)⟩
      | succ n ih =>
        intro j h3 hj u3 y3
        have hm3 := u3.mo (v2.mo x.mo)
        have e : j < k := by omega
        rw [w_X9_pass_23]
        simp (disch := first | assumption | omega | decide | rfl) only [w_X9_pass_24, w_X9_pass_25, w_X9_pass_28, w_X9_pass_29, mo_0 hm3, nl_int, nl_ref, nl_null, nl_un, nl_rf, nl_long, isR_ref, isR_null, isR_rf, rf_some, rf_none, rOf_ref, rOf_null, rOf_rf, kn_v, kn_0, true_and, and_true, and_self, tin, inA_x, inA_l, ix_add, ix_addl, ix_ladd, ix_mul, ix_mull, ix_lmul, ix_tn, lt_tn, Nat.reduceLeDiff, Nat.reduceLT, Nat.reduceAdd, Nat.reduceMul, true_or, or_true, ↓reduceIte, aOk, ref_null, null_null, false_or, Option.isSome_some, Option.getD_some, ite_true, ite_false, eq_self, not_false_eq_true, not_true_eq_false, ix_lt, e]
        refine ca_mono (cm_passes hm3 y3) ?_
        rintro r h4 ⟨rfl, u4, y4⟩
        simp (disch := first | assumption | omega | decide | rfl) only [w_X9_pass_32, w_X9_pass_35, nl_int, nl_ref, nl_null, nl_un, nl_rf, nl_long, isR_ref, isR_null, isR_rf, rf_some, rf_none, rOf_ref, rOf_null, rOf_rf, kn_v, kn_0, true_and, and_true, and_self, tin, inA_x, inA_l, ix_add, ix_addl, ix_ladd, ix_mul, ix_mull, ix_lmul, ix_tn, lt_tn, Nat.reduceLeDiff, Nat.reduceLT, Nat.reduceAdd, Nat.reduceMul, true_or, or_true, ↓reduceIte, aOk, ref_null, null_null, false_or, Option.isSome_some, Option.getD_some, ite_true, ite_false, eq_self, not_false_eq_true, not_true_eq_false]
        exact ih (j + 1) h4 (by omega) (u3.trans u4 (fun _ q => q) (fun _ q => q)) y4
    rw [kn_0]
    simp (disch := first | assumption | omega | decide | rfl) only [w_X9_pass_21, w_X9_pass_22, nl_int, nl_ref, nl_null, nl_un, nl_rf, nl_long, isR_ref, isR_null, isR_rf, rf_some, rf_none, rOf_ref, rOf_null, rOf_rf, kn_v, kn_0, true_and, and_true, and_self, tin, inA_x, inA_l, ix_add, ix_addl, ix_ladd, ix_mul, ix_mull, ix_lmul, ix_tn, lt_tn, Nat.reduceLeDiff, Nat.reduceLT, Nat.reduceAdd, Nat.reduceMul, true_or, or_true, ↓reduceIte, aOk, ref_null, null_null, false_or, Option.isSome_some, Option.getD_some, ite_true, ite_false, eq_self, not_false_eq_true, not_true_eq_false]
    exact key k 0 h2 (by omega) Md.refl y2
  · have c1 : (bz (decide (1 ≤ v ∧ v ≤ 30)) = 0) = True := by rw [bz_ne]; exact eq_true (by simp only [decide_eq_false q])
    rw [if_neg q, if_neg q, if_neg q, if_neg q] at hQ
    simp (disch := first | assumption | omega | decide | rfl) only [w_X9_pass_12, w_X9_pass_15, w_X9_pass_16, nl_int, nl_ref, nl_null, nl_un, nl_rf, nl_long, isR_ref, isR_null, isR_rf, rf_some, rf_none, rOf_ref, rOf_null, rOf_rf, kn_v, kn_0, true_and, and_true, and_self, tin, inA_x, inA_l, ix_add, ix_addl, ix_ladd, ix_mul, ix_mull, ix_lmul, ix_tn, lt_tn, Nat.reduceLeDiff, Nat.reduceLT, Nat.reduceAdd, Nat.reduceMul, true_or, or_true, ↓reduceIte, aOk, ref_null, null_null, false_or, Option.isSome_some, Option.getD_some, ite_true, ite_false, eq_self, not_false_eq_true, not_true_eq_false, c1]
    rw [← hQ]
    exact ⟨rfl, v1, f1, y1, t1⟩
theorem cm_undo (x : M0 h m O) (y : MB h (m + 53) 0 O.nA B) (t : MU h m O.nA c U) : Ca (D + 2) 211 [.ref m] h (fun r h' => r = .inl (some (.int (bz (decide (0 < c))))) ∧ Md m [53] [60, 129] h h' ∧ Fi h' 60 m = 0 ∧ MB h' (m + 53) 0 O.nA (if 0 < c then U (c - 1) else B) ∧ MU h' m O.nA (c - 1) U) := by
  have n1 := x.wo.nA
  have cl := t.le
  generalize hQ : (fun r h' => r = .inl (some (.int (bz (decide (0 < c))))) ∧ Md m [53] [60, 129] h h' ∧ Fi h' 60 m = 0 ∧ MB h' (m + 53) 0 O.nA (if 0 < c then U (c - 1) else B) ∧ MU h' m O.nA (c - 1) U : Rs → AH → Prop) = Q
  rw [e_X9_undo]
  simp (disch := first | assumption | omega | decide | rfl) only [w_X9_undo_0, w_X9_undo_1, w_X9_undo_2, mo_0 x.mo, nl_int, nl_ref, nl_null, nl_un, nl_rf, nl_long, isR_ref, isR_null, isR_rf, rf_some, rf_none, rOf_ref, rOf_null, rOf_rf, kn_v, kn_0, true_and, and_true, and_self, tin, inA_x, inA_l, ix_add, ix_addl, ix_ladd, ix_mul, ix_mull, ix_lmul, ix_tn, lt_tn, Nat.reduceLeDiff, Nat.reduceLT, Nat.reduceAdd, Nat.reduceMul, true_or, or_true, ↓reduceIte, aOk, ref_null, null_null, false_or, Option.isSome_some, Option.getD_some, ite_true, ite_false, eq_self, not_false_eq_true, not_true_eq_false]
  have u1 : Md m [] [60, 129] h (sFi h 60 m 0) := md_sFi (by decide)
  have z1 : Md m [] [60] h (sFi h 60 m 0) := md_sFi (by decide)
  have f1 : Fi (sFi h 60 m 0) 60 m = 0 := Fi_same
  revert u1 z1 f1
  generalize sFi h 60 m 0 = h1
  intro u1 z1 f1
  have y1 : MB h1 (m + 53) 0 O.nA B := y.md u1 (by decide)
  have t1 := t.md z1 (by decide) (by decide)
  have hm1 := u1.mo x.mo
  have g1 := t1.n
  have e0 : (ix c = 0) = (c = 0) := ix_eql (n := 0) (by omega) (by decide)
  by_cases q : c = 0
  · have e0 : (ix c = 0) = True := by rw [e0]; exact eq_true q
    simp (disch := first | assumption | omega | decide | rfl) only [w_X9_undo_5, w_X9_undo_6, w_X9_undo_9, w_X9_undo_12, w_X9_undo_13, mo_0 hm1, nl_int, nl_ref, nl_null, nl_un, nl_rf, nl_long, isR_ref, isR_null, isR_rf, rf_some, rf_none, rOf_ref, rOf_null, rOf_rf, kn_v, kn_0, true_and, and_true, and_self, tin, inA_x, inA_l, ix_add, ix_addl, ix_ladd, ix_mul, ix_mull, ix_lmul, ix_tn, lt_tn, Nat.reduceLeDiff, Nat.reduceLT, Nat.reduceAdd, Nat.reduceMul, true_or, or_true, ↓reduceIte, aOk, ref_null, null_null, false_or, Option.isSome_some, Option.getD_some, ite_true, ite_false, eq_self, not_false_eq_true, not_true_eq_false, g1, e0]
    rw [← hQ]
    refine ⟨by rw [q]; rfl, u1.mono (by simp) (fun _ q => q), f1, by rw [if_neg (by omega)]; exact y1, ?_⟩
    rw [q] at t1 ⊢
    exact t1
  · have e0 : (ix c = 0) = False := by rw [e0]; exact eq_false q
    have e1 : ix c - 1 = ix (c - 1) := ix_subl (n := 1) (by omega)
    simp (disch := first | assumption | omega | decide | rfl) only [w_X9_undo_5, w_X9_undo_6, w_X9_undo_9, w_X9_undo_12, w_X9_undo_13, w_X9_undo_14, w_X9_undo_15, w_X9_undo_16, w_X9_undo_19, w_X9_undo_20, w_X9_undo_21, mo_0 hm1, nl_int, nl_ref, nl_null, nl_un, nl_rf, nl_long, isR_ref, isR_null, isR_rf, rf_some, rf_none, rOf_ref, rOf_null, rOf_rf, kn_v, kn_0, true_and, and_true, and_self, tin, inA_x, inA_l, ix_add, ix_addl, ix_ladd, ix_mul, ix_mull, ix_lmul, ix_tn, lt_tn, Nat.reduceLeDiff, Nat.reduceLT, Nat.reduceAdd, Nat.reduceMul, true_or, or_true, ↓reduceIte, aOk, ref_null, null_null, false_or, Option.isSome_some, Option.getD_some, ite_true, ite_false, eq_self, not_false_eq_true, not_true_eq_false, g1, e0, e1]
    have u2 : Md m [] [60, 129] h (sFi h1 129 m (ix (c - 1))) := u1.trans (md_sFi (A := []) (F := [60, 129]) (by decide)) (fun _ q => q) (fun _ q => q)
    have f2 : Fi (sFi h1 129 m (ix (c - 1))) 129 m = ix (c - 1) := Fi_same
    have f3 : Fi (sFi h1 129 m (ix (c - 1))) 60 m = 0 := by rw [Fi_otherf (by decide)]; exact f1
    revert u2 f2 f3
    generalize sFi h1 129 m (ix (c - 1)) = h2
    intro u2 f2 f3
    have hm2 := u2.mo x.mo
    simp (disch := first | assumption | omega | decide | rfl) only [w_X9_undo_24, w_X9_undo_25, w_X9_undo_28, w_X9_undo_30, w_X9_undo_31, w_X9_undo_34, w_X9_undo_35, w_X9_undo_36, w_X9_undo_39, mo_0 hm2, mo_undone hm2, mt_undone hm2, ml_undone hm2, mo_s hm2, mt_s hm2, ml_s hm2, nl_int, nl_ref, nl_null, nl_un, nl_rf, nl_long, isR_ref, isR_null, isR_rf, rf_some, rf_none, rOf_ref, rOf_null, rOf_rf, kn_v, kn_0, true_and, and_true, and_self, tin, inA_x, inA_l, ix_add, ix_addl, ix_ladd, ix_mul, ix_mull, ix_lmul, ix_tn, lt_tn, Nat.reduceLeDiff, Nat.reduceLT, Nat.reduceAdd, Nat.reduceMul, true_or, or_true, ↓reduceIte, aOk, ref_null, null_null, false_or, Option.isSome_some, Option.getD_some, ite_true, ite_false, eq_self, not_false_eq_true, not_true_eq_false, f2, ix_0]
    rw [w_X9_undo_40, cm_copies (by omega) (by rw [mt_undone hm2]; decide) (by rw [mt_s hm2]; decide) (by rw [ml_undone hm2]; omega) (by rw [ml_s hm2]; decide) (by rw [ml_undone hm2]; decide) (by rw [ml_s hm2]; decide), kn_0]
    simp (disch := first | assumption | omega | decide | rfl) only [w_X9_undo_43, w_X9_undo_44, nl_int, nl_ref, nl_null, nl_un, nl_rf, nl_long, isR_ref, isR_null, isR_rf, rf_some, rf_none, rOf_ref, rOf_null, rOf_rf, kn_v, kn_0, true_and, and_true, and_self, tin, inA_x, inA_l, ix_add, ix_addl, ix_ladd, ix_mul, ix_mull, ix_lmul, ix_tn, lt_tn, Nat.reduceLeDiff, Nat.reduceLT, Nat.reduceAdd, Nat.reduceMul, true_or, or_true, ↓reduceIte, aOk, ref_null, null_null, false_or, Option.isSome_some, Option.getD_some, ite_true, ite_false, eq_self, not_false_eq_true, not_true_eq_false]
    rw [← hQ]
    have u3 : Md m [53] [60, 129] h (sAi h2 (m + 53) (cpF (Ai h2 (m + 56)) (15 * (c - 1)) (Ai h2 (m + 53)) 0 15)) := (u2.mono (by simp) (fun _ q => q)).trans (md_sAi (A := [53]) (F := [60, 129]) (by simp)) (fun _ q => q) (fun _ q => q)
    refine ⟨by rw [decide_eq_true (show 0 < c by omega)]; rfl, u3, f3, ?_, f2, by omega, fun j hj => ?_⟩
    · rw [if_pos (by omega)]
      refine mb_of (t.at (c - 1) (by omega)) n1 (fun a ha => ?_)
      rw [Ai_same, cpF_in ha, u2.ai (by decide)]
    · exact (t.at j (by omega)).md u3 (by decide)
end
