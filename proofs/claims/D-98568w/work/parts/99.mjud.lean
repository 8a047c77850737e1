/-! THE MODEL: days judged -/
set_option maxRecDepth 100000
/-- lines of days: how many; what, who, of what -/
abbrev Dy : Type := Nat × (Nat → Nat → Nat)
def ML (h : AH) (m : Nat) (k : Nat) (L : Dy) : Prop := (Ai h (m + 43) k = ix L.1) ∧ (L.1 ≤ 40) ∧ (∀ j, j < L.1 → Ai h (m + 44) (40 * k + j) = ix (L.2 0 j)) ∧ (∀ j, j < L.1 → L.2 0 j = 0 → Ai h (m + 45) (40 * k + j) = ix (L.2 1 j)) ∧ (∀ j, j < L.1 → L.2 0 j < 2 → Ai h (m + 46) (40 * k + j) = ix (L.2 2 j))
theorem ML.n {h : AH} {m : Nat} {k : Nat} {L : Dy} (x : ML h m k L) : Ai h (m + 43) k = ix L.1 := x.1
theorem ML.le {h : AH} {m : Nat} {k : Nat} {L : Dy} (x : ML h m k L) : L.1 ≤ 40 := x.2.1
theorem ML.wt {h : AH} {m : Nat} {k : Nat} {L : Dy} (x : ML h m k L) : ∀ j, j < L.1 → Ai h (m + 44) (40 * k + j) = ix (L.2 0 j) := x.2.2.1
theorem ML.wo {h : AH} {m : Nat} {k : Nat} {L : Dy} (x : ML h m k L) : ∀ j, j < L.1 → L.2 0 j = 0 → Ai h (m + 45) (40 * k + j) = ix (L.2 1 j) := x.2.2.2.1
theorem ML.of {h : AH} {m : Nat} {k : Nat} {L : Dy} (x : ML h m k L) : ∀ j, j < L.1 → L.2 0 j < 2 → Ai h (m + 46) (40 * k + j) = ix (L.2 2 j) := x.2.2.2.2
def WD (O : Oc) (L : Dy) : Prop := (∀ j, j < L.1 → L.2 0 j < 3) ∧ (∀ j, j < L.1 → L.2 0 j = 0 → L.2 1 j < O.nP ∧ L.2 2 j < O.nS) ∧ (∀ j, j < L.1 → L.2 0 j = 1 → L.2 2 j < O.nA)
theorem WD.wt {O : Oc} {L : Dy} (x : WD O L) : ∀ j, j < L.1 → L.2 0 j < 3 := x.1
theorem WD.ca {O : Oc} {L : Dy} (x : WD O L) : ∀ j, j < L.1 → L.2 0 j = 0 → L.2 1 j < O.nP ∧ L.2 2 j < O.nS := x.2.1
theorem WD.pi {O : Oc} {L : Dy} (x : WD O L) : ∀ j, j < L.1 → L.2 0 j = 1 → L.2 2 j < O.nA := x.2.2
noncomputable def goF (O : Oc) (B : Bo) (a b c : Nat) : Bool × Bo × Bool := if a = 2 then (true, paF B, false) else if a = 1 then (if (B.hang.testBit c && !B.pk) = true then (true, piF O B c, false) else (false, B, false)) else (if saF O b c = true then (true, caF O B c (O.ln b) (O.ld b), decide (0 < grF O (flF O B c (O.ln b) (O.ld b)) B.day)) else (false, B, false))
noncomputable def juF (O : Oc) (L : Dy) : Nat → Bo × Int32 × Int32
  | 0 => (beF O, -1, -1)
  | j + 1 => ((goF O (juF O L j).1 (L.2 0 j) (L.2 1 j) (L.2 2 j)).2.1, if (goF O (juF O L j).1 (L.2 0 j) (L.2 1 j) (L.2 2 j)).1 = false ∧ (juF O L j).2.1 < 0 then ix j else (juF O L j).2.1, if (goF O (juF O L j).1 (L.2 0 j) (L.2 1 j) (L.2 2 j)).2.2 = true ∧ (juF O L j).2.2 < 0 then ix j else (juF O L j).2.2)
noncomputable def jgF (O : Oc) (L : Dy) (v : Int32) : Int32 := if 0 ≤ v ∧ v ≤ 2 then (if v = 0 then (juF O L L.1).2.1 else if v = 1 then (juF O L L.1).2.2 else (juF O L L.1).1.had) else -2
section
variable {d D m a b c p q s w lane loud hang loose e n k i j : Nat} {h h' : AH} {Q : Rs → AH → Prop} {O : Oc} {B : Bo} {L : Dy} {snd : Nat → Nat} {day v x y : Int32} {A F : List Nat}
theorem cm_within : Ca (D + 1) 152 [.int v, .int x, .int y] h Q = Q (.inl (some (.int (bz (decide (x ≤ v ∧ v ≤ y)))))) h := by
  rw [e_X9_within]
  by_cases q : v < x
  · have q1 : ¬ (x ≤ v) := Int32.not_le.mpr q
    simp (disch := first | assumption | omega | decide | rfl) only [w_X9_within_0, w_X9_within_1, w_X9_within_2, w_X9_within_5, w_X9_within_6, w_X9_within_7, w_X9_within_10, w_X9_within_11, w_X9_within_14, w_X9_within_15, nl_int, nl_ref, nl_null, nl_un, nl_rf, nl_long, isR_ref, isR_null, isR_rf, rf_some, rf_none, rOf_ref, rOf_null, rOf_rf, kn_v, kn_0, true_and, and_true, and_self, tin, inA_x, inA_l, ix_add, ix_addl, ix_ladd, ix_mul, ix_mull, ix_lmul, ix_tn, lt_tn, Nat.reduceLeDiff, Nat.reduceLT, Nat.reduceAdd, Nat.reduceMul, true_or, or_true, ↓reduceIte, aOk, ref_null, null_null, false_or, Option.isSome_some, Option.getD_some, ite_true, ite_false, eq_self, not_false_eq_true, not_true_eq_false, q, q1]
    simp [bz, q1]
  · have q1 : x ≤ v := Int32.not_lt.mp q
    by_cases q2 : y < v
    · have q3 : ¬ v ≤ y := Int32.not_le.mpr q2
      simp (disch := first | assumption | omega | decide | rfl) only [w_X9_within_0, w_X9_within_1, w_X9_within_2, w_X9_within_5, w_X9_within_6, w_X9_within_7, w_X9_within_10, w_X9_within_11, w_X9_within_14, w_X9_within_15, nl_int, nl_ref, nl_null, nl_un, nl_rf, nl_long, isR_ref, isR_null, isR_rf, rf_some, rf_none, rOf_ref, rOf_null, rOf_rf, kn_v, kn_0, true_and, and_true, and_self, tin, inA_x, inA_l, ix_add, ix_addl, ix_ladd, ix_mul, ix_mull, ix_lmul, ix_tn, lt_tn, Nat.reduceLeDiff, Nat.reduceLT, Nat.reduceAdd, Nat.reduceMul, true_or, or_true, ↓reduceIte, aOk, ref_null, null_null, false_or, Option.isSome_some, Option.getD_some, ite_true, ite_false, eq_self, not_false_eq_true, not_true_eq_false, q, q2]
      simp [bz, q3]
    · have q3 : v ≤ y := Int32.not_lt.mp q2
      simp (disch := first | assumption | omega | decide | rfl) only [w_X9_within_0, w_X9_within_1, w_X9_within_2, w_X9_within_5, w_X9_within_6, w_X9_within_7, w_X9_within_10, w_X9_within_11, w_X9_within_14, w_X9_within_15, nl_int, nl_ref, nl_null, nl_un, nl_rf, nl_long, isR_ref, isR_null, isR_rf, rf_some, rf_none, rOf_ref, rOf_null, rOf_rf, kn_v, kn_0, true_and, and_true, and_self, tin, inA_x, inA_l, ix_add, ix_addl, ix_ladd, ix_mul, ix_mull, ix_lmul, ix_tn, lt_tn, Nat.reduceLeDiff, Nat.reduceLT, Nat.reduceAdd, Nat.reduceMul, true_or, or_true, ↓reduceIte, aOk, ref_null, null_null, false_or, Option.isSome_some, Option.getD_some, ite_true, ite_false, eq_self, not_false_eq_true, not_true_eq_false, q, q2]
      simp [bz, q1, q3]
theorem ML.md (x : ML h m k L) (u : Md m A F h h') (h1 : 43 ∉ A) (h2 : 44 ∉ A) (h3 : 45 ∉ A) (h4 : 46 ∉ A) : ML h' m k L := by
  unfold ML
  rw [u.ai h1, u.ai h2, u.ai h3, u.ai h4]
  exact x
theorem cm_goes (x : M0 h m O) (y : MB h (m + 53) 0 O.nA B) (z : WB O B) (l : ML h m 0 L) (w : WD O L) (hj : j < L.1) : Ca (D + 8) 213 [.ref m, .int (ix j)] h (fun r h' => r = .inl (some (.int (bz (goF O B (L.2 0 j) (L.2 1 j) (L.2 2 j)).1))) ∧ Md m (35 :: 53 :: eA) [130, 131, 132, 133] h h' ∧ MB h' (m + 53) 0 O.nA (goF O B (L.2 0 j) (L.2 1 j) (L.2 2 j)).2.1 ∧ Fi h' 133 m = bz (goF O B (L.2 0 j) (L.2 1 j) (L.2 2 j)).2.2) := by
  have n1 := x.wo.nA
  have n2 := x.wo.nS
  have n3 := x.wo.nP
  have le := l.le
  have hh := z.lt x.wo
  generalize hQ : (fun r h' => r = .inl (some (.int (bz (goF O B (L.2 0 j) (L.2 1 j) (L.2 2 j)).1))) ∧ Md m (35 :: 53 :: eA) [130, 131, 132, 133] h h' ∧ MB h' (m + 53) 0 O.nA (goF O B (L.2 0 j) (L.2 1 j) (L.2 2 j)).2.1 ∧ Fi h' 133 m = bz (goF O B (L.2 0 j) (L.2 1 j) (L.2 2 j)).2.2 : Rs → AH → Prop) = Q
  rw [e_X9_goes]
  simp (disch := first | assumption | omega | decide | rfl) only [w_X9_goes_0, w_X9_goes_1, w_X9_goes_2, mo_0 x.mo, nl_int, nl_ref, nl_null, nl_un, nl_rf, nl_long, isR_ref, isR_null, isR_rf, rf_some, rf_none, rOf_ref, rOf_null, rOf_rf, kn_v, kn_0, true_and, and_true, and_self, tin, inA_x, inA_l, ix_add, ix_addl, ix_ladd, ix_mul, ix_mull, ix_lmul, ix_tn, lt_tn, Nat.reduceLeDiff, Nat.reduceLT, Nat.reduceAdd, Nat.reduceMul, true_or, or_true, ↓reduceIte, aOk, ref_null, null_null, false_or, Option.isSome_some, Option.getD_some, ite_true, ite_false, eq_self, not_false_eq_true, not_true_eq_false]
  have u1 : Md m [] [130, 131, 132, 133] h (sFi h 133 m 0) := md_sFi (by decide)
  have f1 : Fi (sFi h 133 m 0) 133 m = bz false := Fi_same
  revert u1 f1
  generalize sFi h 133 m 0 = h1
  intro u1 f1
  have x1 : M0 h1 m O := x.md u1
  have y1 : MB h1 (m + 53) 0 O.nA B := y.md u1 (by decide)
  have l1 : ML h1 m 0 L := l.md u1 (by decide) (by decide) (by decide) (by decide)
  have v1 : Md m (35 :: 53 :: eA) [130, 131, 132, 133] h h1 := u1.mono (by simp) (fun _ q => q)
  have hm1 := x1.mo
  have g0 := l1.wt j hj
  rw [Nat.mul_zero, Nat.zero_add] at g0
  have b0 := w.wt j hj
  rcases (show L.2 0 j = 2 ∨ L.2 0 j = 1 ∨ L.2 0 j = 0 by omega) with q | q | q
  · rw [q] at g0
    have c1 : (ix 2 = 2) = True := eq_true rfl
    simp (disch := first | assumption | omega | decide | rfl) only [w_X9_goes_5, w_X9_goes_6, w_X9_goes_9, w_X9_goes_10, w_X9_goes_11, w_X9_goes_12, w_X9_goes_15, w_X9_goes_16, mo_0 hm1, mo_lineWhat hm1, mt_lineWhat hm1, ml_lineWhat hm1, mo_lineOf hm1, mt_lineOf hm1, ml_lineOf hm1, mo_lineWho hm1, mt_lineWho hm1, ml_lineWho hm1, mo_lane hm1, mt_lane hm1, ml_lane hm1, mo_loud hm1, mt_loud hm1, ml_loud hm1, nl_int, nl_ref, nl_null, nl_un, nl_rf, nl_long, isR_ref, isR_null, isR_rf, rf_some, rf_none, rOf_ref, rOf_null, rOf_rf, kn_v, kn_0, true_and, and_true, and_self, tin, inA_x, inA_l, ix_add, ix_addl, ix_ladd, ix_mul, ix_mull, ix_lmul, ix_tn, lt_tn, Nat.reduceLeDiff, Nat.reduceLT, Nat.reduceAdd, Nat.reduceMul, true_or, or_true, ↓reduceIte, aOk, ref_null, null_null, false_or, Option.isSome_some, Option.getD_some, ite_true, ite_false, eq_self, not_false_eq_true, not_true_eq_false, g0, c1]
    refine ca_mono (cm_passes hm1 y1) ?_
    rintro r h2 ⟨rfl, u2, y2⟩
    rw [← hQ]
    simp (disch := first | assumption | omega | decide | rfl) only [w_X9_goes_19, w_X9_goes_20, nl_int, nl_ref, nl_null, nl_un, nl_rf, nl_long, isR_ref, isR_null, isR_rf, rf_some, rf_none, rOf_ref, rOf_null, rOf_rf, kn_v, kn_0, true_and, and_true, and_self, tin, inA_x, inA_l, ix_add, ix_addl, ix_ladd, ix_mul, ix_mull, ix_lmul, ix_tn, lt_tn, Nat.reduceLeDiff, Nat.reduceLT, Nat.reduceAdd, Nat.reduceMul, true_or, or_true, ↓reduceIte, aOk, ref_null, null_null, false_or, Option.isSome_some, Option.getD_some, ite_true, ite_false, eq_self, not_false_eq_true, not_true_eq_false]
    have eg : goF O B (L.2 0 j) (L.2 1 j) (L.2 2 j) = (true, paF B, false) := by unfold goF; rw [if_pos q]
    rw [eg]
    exact ⟨rfl, v1.trans u2 (by decide) (by simp), y2, by rw [u2.fi (by decide)]; exact f1⟩
  · rw [q] at g0
    have c1 : (ix 1 = 2) = False := eq_false (by decide)
    have c2 : (ix 1 = 1) = True := eq_true rfl
    have g2 := l1.of j hj (by omega)
    rw [Nat.mul_zero, Nat.zero_add] at g2
    have b2 := w.pi j hj q
    rw [w_X9_goes_5]
    simp (disch := first | assumption | omega | decide | rfl) only [w_X9_goes_6, w_X9_goes_9, w_X9_goes_10, w_X9_goes_11, w_X9_goes_12, w_X9_goes_21, w_X9_goes_22, w_X9_goes_25, w_X9_goes_26, w_X9_goes_27, w_X9_goes_28, w_X9_goes_31, w_X9_goes_32, w_X9_goes_33, w_X9_goes_36, w_X9_goes_37, w_X9_goes_38, mo_0 hm1, mo_lineWhat hm1, mt_lineWhat hm1, ml_lineWhat hm1, mo_lineOf hm1, mt_lineOf hm1, ml_lineOf hm1, mo_lineWho hm1, mt_lineWho hm1, ml_lineWho hm1, mo_lane hm1, mt_lane hm1, ml_lane hm1, mo_loud hm1, mt_loud hm1, ml_loud hm1, nl_int, nl_ref, nl_null, nl_un, nl_rf, nl_long, isR_ref, isR_null, isR_rf, rf_some, rf_none, rOf_ref, rOf_null, rOf_rf, kn_v, kn_0, true_and, and_true, and_self, tin, inA_x, inA_l, ix_add, ix_addl, ix_ladd, ix_mul, ix_mull, ix_lmul, ix_tn, lt_tn, Nat.reduceLeDiff, Nat.reduceLT, Nat.reduceAdd, Nat.reduceMul, true_or, or_true, ↓reduceIte, aOk, ref_null, null_null, false_or, Option.isSome_some, Option.getD_some, ite_true, ite_false, eq_self, not_false_eq_true, not_true_eq_false, g0, g2, c1, c2, cm_canPick hm1 y1 hh (show L.2 2 j < 10 by omega)]
    by_cases q2 : (B.hang.testBit (L.2 2 j) && !B.pk) = true
    · have c3 : (bz (B.hang.testBit (L.2 2 j) && !B.pk) = 0) = False := by rw [bz_ne]; exact eq_false (by rw [q2]; decide)
      have eg : goF O B (L.2 0 j) (L.2 1 j) (L.2 2 j) = (true, piF O B (L.2 2 j), false) := by unfold goF; rw [if_neg (by omega), if_pos q, if_pos q2]
      rw [eg] at hQ
      simp (disch := first | assumption | omega | decide | rfl) only [w_X9_goes_41, nl_int, nl_ref, nl_null, nl_un, nl_rf, nl_long, isR_ref, isR_null, isR_rf, rf_some, rf_none, rOf_ref, rOf_null, rOf_rf, kn_v, kn_0, true_and, and_true, and_self, tin, inA_x, inA_l, ix_add, ix_addl, ix_ladd, ix_mul, ix_mull, ix_lmul, ix_tn, lt_tn, Nat.reduceLeDiff, Nat.reduceLT, Nat.reduceAdd, Nat.reduceMul, true_or, or_true, ↓reduceIte, aOk, ref_null, null_null, false_or, Option.isSome_some, Option.getD_some, ite_true, ite_false, eq_self, not_false_eq_true, not_true_eq_false, c3]
      rw [w_X9_goes_46]
      simp (disch := first | assumption | omega | decide | rfl) only [w_X9_goes_47, w_X9_goes_48, w_X9_goes_51, w_X9_goes_52, w_X9_goes_53, mo_0 hm1, mo_lineWhat hm1, mt_lineWhat hm1, ml_lineWhat hm1, mo_lineOf hm1, mt_lineOf hm1, ml_lineOf hm1, mo_lineWho hm1, mt_lineWho hm1, ml_lineWho hm1, mo_lane hm1, mt_lane hm1, ml_lane hm1, mo_loud hm1, mt_loud hm1, ml_loud hm1, nl_int, nl_ref, nl_null, nl_un, nl_rf, nl_long, isR_ref, isR_null, isR_rf, rf_some, rf_none, rOf_ref, rOf_null, rOf_rf, kn_v, kn_0, true_and, and_true, and_self, tin, inA_x, inA_l, ix_add, ix_addl, ix_ladd, ix_mul, ix_mull, ix_lmul, ix_tn, lt_tn, Nat.reduceLeDiff, Nat.reduceLT, Nat.reduceAdd, Nat.reduceMul, true_or, or_true, ↓reduceIte, aOk, ref_null, null_null, false_or, Option.isSome_some, Option.getD_some, ite_true, ite_false, eq_self, not_false_eq_true, not_true_eq_false, g2]
      refine ca_mono (cm_picks x1 y1 b2) ?_
      rintro r h2 ⟨rfl, u2, y2⟩
      rw [← hQ]
      simp (disch := first | assumption | omega | decide | rfl) only [w_X9_goes_56, w_X9_goes_57, w_X9_goes_58, nl_int, nl_ref, nl_null, nl_un, nl_rf, nl_long, isR_ref, isR_null, isR_rf, rf_some, rf_none, rOf_ref, rOf_null, rOf_rf, kn_v, kn_0, true_and, and_true, and_self, tin, inA_x, inA_l, ix_add, ix_addl, ix_ladd, ix_mul, ix_mull, ix_lmul, ix_tn, lt_tn, Nat.reduceLeDiff, Nat.reduceLT, Nat.reduceAdd, Nat.reduceMul, true_or, or_true, ↓reduceIte, aOk, ref_null, null_null, false_or, Option.isSome_some, Option.getD_some, ite_true, ite_false, eq_self, not_false_eq_true, not_true_eq_false]
      exact ⟨rfl, v1.trans u2 (fun _ q => q) (by simp), y2, by rw [u2.fi (by decide)]; exact f1⟩
    · have c3 : (bz (B.hang.testBit (L.2 2 j) && !B.pk) = 0) = True := by rw [bz_ne]; exact eq_true (Bool.not_eq_true _ ▸ q2)
      have eg : goF O B (L.2 0 j) (L.2 1 j) (L.2 2 j) = (false, B, false) := by unfold goF; rw [if_neg (by omega), if_pos q, if_neg q2]
      rw [eg] at hQ
      rw [← hQ]
      simp (disch := first | assumption | omega | decide | rfl) only [w_X9_goes_41, w_X9_goes_44, w_X9_goes_45, nl_int, nl_ref, nl_null, nl_un, nl_rf, nl_long, isR_ref, isR_null, isR_rf, rf_some, rf_none, rOf_ref, rOf_null, rOf_rf, kn_v, kn_0, true_and, and_true, and_self, tin, inA_x, inA_l, ix_add, ix_addl, ix_ladd, ix_mul, ix_mull, ix_lmul, ix_tn, lt_tn, Nat.reduceLeDiff, Nat.reduceLT, Nat.reduceAdd, Nat.reduceMul, true_or, or_true, ↓reduceIte, aOk, ref_null, null_null, false_or, Option.isSome_some, Option.getD_some, ite_true, ite_false, eq_self, not_false_eq_true, not_true_eq_false, c3]
      exact ⟨rfl, v1, y1, f1⟩
  · rw [q] at g0
    have c1 : (ix 0 = 2) = False := eq_false (by decide)
    have c2 : (ix 0 = 1) = False := eq_false (by decide)
    have g1 := l1.wo j hj q
    have g2 := l1.of j hj (by omega)
    rw [Nat.mul_zero, Nat.zero_add] at g1 g2
    obtain ⟨b1, b2⟩ := w.ca j hj q
    have p1 := x1.mr.ln _ b1
    have p2 := x1.mr.ld _ b1
    rw [Nat.mul_zero, Nat.zero_add] at p1 p2
    rw [w_X9_goes_5]
    simp (disch := first | assumption | omega | decide | rfl) only [w_X9_goes_6, w_X9_goes_9, w_X9_goes_10, w_X9_goes_11, w_X9_goes_12, w_X9_goes_21, w_X9_goes_22, w_X9_goes_25, w_X9_goes_26, w_X9_goes_27, w_X9_goes_28, mo_0 hm1, mo_lineWhat hm1, mt_lineWhat hm1, ml_lineWhat hm1, mo_lineOf hm1, mt_lineOf hm1, ml_lineOf hm1, mo_lineWho hm1, mt_lineWho hm1, ml_lineWho hm1, mo_lane hm1, mt_lane hm1, ml_lane hm1, mo_loud hm1, mt_loud hm1, ml_loud hm1, nl_int, nl_ref, nl_null, nl_un, nl_rf, nl_long, isR_ref, isR_null, isR_rf, rf_some, rf_none, rOf_ref, rOf_null, rOf_rf, kn_v, kn_0, true_and, and_true, and_self, tin, inA_x, inA_l, ix_add, ix_addl, ix_ladd, ix_mul, ix_mull, ix_lmul, ix_tn, lt_tn, Nat.reduceLeDiff, Nat.reduceLT, Nat.reduceAdd, Nat.reduceMul, true_or, or_true, ↓reduceIte, aOk, ref_null, null_null, false_or, Option.isSome_some, Option.getD_some, ite_true, ite_false, eq_self, not_false_eq_true, not_true_eq_false, g0, c1, c2]
    rw [w_X9_goes_59]
    simp (disch := first | assumption | omega | decide | rfl) only [w_X9_goes_60, w_X9_goes_61, w_X9_goes_64, w_X9_goes_65, w_X9_goes_66, w_X9_goes_67, w_X9_goes_70, w_X9_goes_71, w_X9_goes_72, mo_0 hm1, mo_lineWhat hm1, mt_lineWhat hm1, ml_lineWhat hm1, mo_lineOf hm1, mt_lineOf hm1, ml_lineOf hm1, mo_lineWho hm1, mt_lineWho hm1, ml_lineWho hm1, mo_lane hm1, mt_lane hm1, ml_lane hm1, mo_loud hm1, mt_loud hm1, ml_loud hm1, nl_int, nl_ref, nl_null, nl_un, nl_rf, nl_long, isR_ref, isR_null, isR_rf, rf_some, rf_none, rOf_ref, rOf_null, rOf_rf, kn_v, kn_0, true_and, and_true, and_self, tin, inA_x, inA_l, ix_add, ix_addl, ix_ladd, ix_mul, ix_mull, ix_lmul, ix_tn, lt_tn, Nat.reduceLeDiff, Nat.reduceLT, Nat.reduceAdd, Nat.reduceMul, true_or, or_true, ↓reduceIte, aOk, ref_null, null_null, false_or, Option.isSome_some, Option.getD_some, ite_true, ite_false, eq_self, not_false_eq_true, not_true_eq_false, g1, g2, cm_isSaid x1 b1 b2]
    by_cases q2 : saF O (L.2 1 j) (L.2 2 j) = true
    · have c3 : (bz (saF O (L.2 1 j) (L.2 2 j)) = 0) = False := by rw [bz_ne]; exact eq_false (by rw [q2]; decide)
      have eg : goF O B (L.2 0 j) (L.2 1 j) (L.2 2 j) = (true, caF O B (L.2 2 j) (O.ln (L.2 1 j)) (O.ld (L.2 1 j)), decide (0 < grF O (flF O B (L.2 2 j) (O.ln (L.2 1 j)) (O.ld (L.2 1 j))) B.day)) := by unfold goF; rw [if_neg (by omega), if_neg (by omega), if_pos q2]
      rw [eg] at hQ
      simp (disch := first | assumption | omega | decide | rfl) only [w_X9_goes_75, nl_int, nl_ref, nl_null, nl_un, nl_rf, nl_long, isR_ref, isR_null, isR_rf, rf_some, rf_none, rOf_ref, rOf_null, rOf_rf, kn_v, kn_0, true_and, and_true, and_self, tin, inA_x, inA_l, ix_add, ix_addl, ix_ladd, ix_mul, ix_mull, ix_lmul, ix_tn, lt_tn, Nat.reduceLeDiff, Nat.reduceLT, Nat.reduceAdd, Nat.reduceMul, true_or, or_true, ↓reduceIte, aOk, ref_null, null_null, false_or, Option.isSome_some, Option.getD_some, ite_true, ite_false, eq_self, not_false_eq_true, not_true_eq_false, c3]
      rw [w_X9_goes_80, w_X9_goes_81, w_X9_goes_82, w_X9_goes_83]
      simp (disch := first | assumption | omega | decide | rfl) only [w_X9_goes_84, w_X9_goes_87, w_X9_goes_88, w_X9_goes_89, w_X9_goes_90, w_X9_goes_93, w_X9_goes_94, w_X9_goes_97, w_X9_goes_98, w_X9_goes_99, w_X9_goes_100, w_X9_goes_101, w_X9_goes_104, w_X9_goes_105, w_X9_goes_108, w_X9_goes_109, w_X9_goes_110, w_X9_goes_111, mo_0 hm1, mo_lineWhat hm1, mt_lineWhat hm1, ml_lineWhat hm1, mo_lineOf hm1, mt_lineOf hm1, ml_lineOf hm1, mo_lineWho hm1, mt_lineWho hm1, ml_lineWho hm1, mo_lane hm1, mt_lane hm1, ml_lane hm1, mo_loud hm1, mt_loud hm1, ml_loud hm1, nl_int, nl_ref, nl_null, nl_un, nl_rf, nl_long, isR_ref, isR_null, isR_rf, rf_some, rf_none, rOf_ref, rOf_null, rOf_rf, kn_v, kn_0, true_and, and_true, and_self, tin, inA_x, inA_l, ix_add, ix_addl, ix_ladd, ix_mul, ix_mull, ix_lmul, ix_tn, lt_tn, Nat.reduceLeDiff, Nat.reduceLT, Nat.reduceAdd, Nat.reduceMul, true_or, or_true, ↓reduceIte, aOk, ref_null, null_null, false_or, Option.isSome_some, Option.getD_some, ite_true, ite_false, eq_self, not_false_eq_true, not_true_eq_false, g1, g2, p1, p2]
      refine ca_mono (cm_calls x1 y1 z b2 (x.wo.ln _ b1) (x.wo.ld _ b1)) ?_
      rintro r h2 ⟨rfl, u2, y2⟩
      have x2 : M0 h2 m O := x1.md u2
      have hfl : flF O B (L.2 2 j) (O.ln (L.2 1 j)) (O.ld (L.2 1 j)) < 1024 := faF_lt hh
      have ed : (caF O B (L.2 2 j) (O.ln (L.2 1 j)) (O.ld (L.2 1 j))).day = B.day := rfl
      simp (disch := first | assumption | omega | decide | rfl) only [w_X9_goes_114, nl_int, nl_ref, nl_null, nl_un, nl_rf, nl_long, isR_ref, isR_null, isR_rf, rf_some, rf_none, rOf_ref, rOf_null, rOf_rf, kn_v, kn_0, true_and, and_true, and_self, tin, inA_x, inA_l, ix_add, ix_addl, ix_ladd, ix_mul, ix_mull, ix_lmul, ix_tn, lt_tn, Nat.reduceLeDiff, Nat.reduceLT, Nat.reduceAdd, Nat.reduceMul, true_or, or_true, ↓reduceIte, aOk, ref_null, null_null, false_or, Option.isSome_some, Option.getD_some, ite_true, ite_false, eq_self, not_false_eq_true, not_true_eq_false, mo_0 x2.mo, cm_greenOf x2 y2 hfl, ed]
      simp (disch := first | assumption | omega | decide | rfl) only [w_X9_goes_117, w_X9_goes_120, w_X9_goes_121, w_X9_goes_124, nl_int, nl_ref, nl_null, nl_un, nl_rf, nl_long, isR_ref, isR_null, isR_rf, rf_some, rf_none, rOf_ref, rOf_null, rOf_rf, kn_v, kn_0, true_and, and_true, and_self, tin, inA_x, inA_l, ix_add, ix_addl, ix_ladd, ix_mul, ix_mull, ix_lmul, ix_tn, lt_tn, Nat.reduceLeDiff, Nat.reduceLT, Nat.reduceAdd, Nat.reduceMul, true_or, or_true, ↓reduceIte, aOk, ref_null, null_null, false_or, Option.isSome_some, Option.getD_some, ite_true, ite_false, eq_self, not_false_eq_true, not_true_eq_false, ru_join, ite_cons, ite_int, ite_self]
      simp (disch := first | assumption | omega | decide | rfl) only [w_X9_goes_125, w_X9_goes_128, w_X9_goes_129, nl_int, nl_ref, nl_null, nl_un, nl_rf, nl_long, isR_ref, isR_null, isR_rf, rf_some, rf_none, rOf_ref, rOf_null, rOf_rf, kn_v, kn_0, true_and, and_true, and_self, tin, inA_x, inA_l, ix_add, ix_addl, ix_ladd, ix_mul, ix_mull, ix_lmul, ix_tn, lt_tn, Nat.reduceLeDiff, Nat.reduceLT, Nat.reduceAdd, Nat.reduceMul, true_or, or_true, ↓reduceIte, aOk, ref_null, null_null, false_or, Option.isSome_some, Option.getD_some, ite_true, ite_false, eq_self, not_false_eq_true, not_true_eq_false, fot, bz_ne, bz_1, ite_bz, Bool.not_eq_false, Bool.not_eq_true, mo_0 x2.mo]
      rw [← hQ]
      refine ⟨rfl, (v1.trans u2 (fun _ q => q) (by decide)).trans (md_sFi (A := 35 :: 53 :: eA) (F := [130, 131, 132, 133]) (by decide)) (fun _ q => q) (fun _ q => q), y2, ?_⟩
      rw [Fi_same]
    · have c3 : (bz (saF O (L.2 1 j) (L.2 2 j)) = 0) = True := by rw [bz_ne]; exact eq_true (Bool.not_eq_true _ ▸ q2)
      have eg : goF O B (L.2 0 j) (L.2 1 j) (L.2 2 j) = (false, B, false) := by unfold goF; rw [if_neg (by omega), if_neg (by omega), if_neg q2]
      rw [eg] at hQ
      rw [← hQ]
      simp (disch := first | assumption | omega | decide | rfl) only [w_X9_goes_75, w_X9_goes_78, w_X9_goes_79, nl_int, nl_ref, nl_null, nl_un, nl_rf, nl_long, isR_ref, isR_null, isR_rf, rf_some, rf_none, rOf_ref, rOf_null, rOf_rf, kn_v, kn_0, true_and, and_true, and_self, tin, inA_x, inA_l, ix_add, ix_addl, ix_ladd, ix_mul, ix_mull, ix_lmul, ix_tn, lt_tn, Nat.reduceLeDiff, Nat.reduceLT, Nat.reduceAdd, Nat.reduceMul, true_or, or_true, ↓reduceIte, aOk, ref_null, null_null, false_or, Option.isSome_some, Option.getD_some, ite_true, ite_false, eq_self, not_false_eq_true, not_true_eq_false, c3]
      exact ⟨rfl, v1, y1, f1⟩
theorem wb_go (z : WB O B) : WB O (goF O B a b c).2.1 := by
  unfold goF
  split
  · exact wb_pa z
  · split
    · split
      · exact wb_pi z
      · exact z
    · split
      · exact wb_ca z
      · exact z
end
