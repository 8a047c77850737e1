/-! THE MODEL: boughs kept behind -/
set_option maxRecDepth 100000
def MU (h : AH) (m : Nat) (n : Nat) (c : Nat) (U : Nat → Bo) : Prop := (Fi h 129 m = ix c) ∧ (c ≤ 16) ∧ (∀ j, j < c → MB h (m + 56) (15 * j) n (U j))
theorem MU.n {h : AH} {m : Nat} {n : Nat} {c : Nat} {U : Nat → Bo} (x : MU h m n c U) : Fi h 129 m = ix c := x.1
theorem MU.le {h : AH} {m : Nat} {n : Nat} {c : Nat} {U : Nat → Bo} (x : MU h m n c U) : c ≤ 16 := x.2.1
theorem MU.at {h : AH} {m : Nat} {n : Nat} {c : Nat} {U : Nat → Bo} (x : MU h m n c U) : ∀ j, j < c → MB h (m + 56) (15 * j) n (U j) := x.2.2
noncomputable def kpN (c : Nat) : Nat := if c = 16 then 16 else c + 1
noncomputable def kpU (U : Nat → Bo) (c : Nat) (B : Bo) : Nat → Bo := if c = 16 then fun j => if j < 15 then U (j + 1) else B else fun j => if j < c then U j else B
section
variable {d D m a b c p q s w n k i j k' i' : Nat} {h h' : AH} {Q : Rs → AH → Prop} {O : Oc} {B : Bo} {A F : List Nat} {U : Nat → Bo} {v w1 : Int32}
theorem mb_of (x : MB h k i n B) (hn : n ≤ 10) (e : ∀ t, t < 15 → Ai h' k' (i' + t) = Ai h k (i + t)) : MB h' k' i' n B := by
  obtain ⟨y1, y2, y3, y4, y5, y6⟩ := x
  refine ⟨(e 0 (by decide)).trans y1, (e 1 (by decide)).trans y2, (e 2 (by decide)).trans y3, (e 3 (by decide)).trans y4, (e 4 (by decide)).trans y5, fun a ha => ?_⟩
  rw [Nat.add_assoc, e (5 + a) (by omega), ← Nat.add_assoc]
  exact y6 a ha
theorem MU.md (x : MU h m n c U) (u : Md m A F h h') (h1 : 56 ∉ A) (h2 : 129 ∉ F) : MU h' m n c U := ⟨by rw [u.fi h2]; exact x.n, x.le, fun j hj => (x.at j hj).md u h1⟩
theorem keep_t (x : MO h m) (y : MB h (m + 53) 0 n B) (hn : n ≤ 10) (hc : c < 16) (f : Fi h 129 m = ix c) (hu : ∀ j, j < c → MB h (m + 56) (15 * j) n (U j)) {v1 : Value} : Ru (D + 1) 199 49 [.ref m, v1] [] h (fun r h' => r = .inl none ∧ Md m [56] [129] h h' ∧ MU h' m n (c + 1) (fun j => if j < c then U j else B)) := by
  generalize hQ : (fun r h' => r = .inl none ∧ Md m [56] [129] h h' ∧ MU h' m n (c + 1) (fun j => if j < c then U j else B) : Rs → AH → Prop) = Q
  simp (disch := first | assumption | omega | decide | rfl) only [w_X9_keeps_49, w_X9_keeps_50, w_X9_keeps_53, w_X9_keeps_54, w_X9_keeps_55, w_X9_keeps_58, w_X9_keeps_60, w_X9_keeps_61, w_X9_keeps_64, mo_0 x, mo_undone x, mt_undone x, ml_undone x, mo_s x, mt_s x, ml_s x, nl_int, nl_ref, nl_null, nl_un, nl_rf, nl_long, isR_ref, isR_null, isR_rf, rf_some, rf_none, rOf_ref, rOf_null, rOf_rf, kn_v, kn_0, true_and, and_true, and_self, tin, inA_x, inA_l, ix_add, ix_addl, ix_ladd, ix_mul, ix_mull, ix_lmul, ix_tn, lt_tn, Nat.reduceLeDiff, Nat.reduceLT, Nat.reduceAdd, Nat.reduceMul, true_or, or_true, ↓reduceIte, aOk, ref_null, null_null, false_or, Option.isSome_some, Option.getD_some, ite_true, ite_false, eq_self, not_false_eq_true, not_true_eq_false, f, ix_0]
  rw [w_X9_keeps_65, cm_copies (by omega) (by rw [mt_s x]; decide) (by rw [mt_undone x]; decide) (by rw [ml_s x]; decide) (by rw [ml_undone x]; omega) (by rw [ml_s x]; decide) (by rw [ml_undone x]; decide), kn_0]
  have u1 : Md m [56] [129] h (sAi h (m + 56) (cpF (Ai h (m + 53)) 0 (Ai h (m + 56)) (15 * c) 15)) := md_sAi (by decide)
  have a1 : Ai (sAi h (m + 56) (cpF (Ai h (m + 53)) 0 (Ai h (m + 56)) (15 * c) 15)) (m + 56) = cpF (Ai h (m + 53)) 0 (Ai h (m + 56)) (15 * c) 15 := Ai_same
  have f1 : Fi (sAi h (m + 56) (cpF (Ai h (m + 53)) 0 (Ai h (m + 56)) (15 * c) 15)) 129 m = ix c := f
  revert u1 a1 f1
  generalize sAi h (m + 56) (cpF (Ai h (m + 53)) 0 (Ai h (m + 56)) (15 * c) 15) = h1
  intro u1 a1 f1
  simp (disch := first | assumption | omega | decide | rfl) only [w_X9_keeps_68, w_X9_keeps_69, w_X9_keeps_70, w_X9_keeps_73, w_X9_keeps_74, w_X9_keeps_75, w_X9_keeps_78, mo_0 (u1.mo x), nl_int, nl_ref, nl_null, nl_un, nl_rf, nl_long, isR_ref, isR_null, isR_rf, rf_some, rf_none, rOf_ref, rOf_null, rOf_rf, kn_v, kn_0, true_and, and_true, and_self, tin, inA_x, inA_l, ix_add, ix_addl, ix_ladd, ix_mul, ix_mull, ix_lmul, ix_tn, lt_tn, Nat.reduceLeDiff, Nat.reduceLT, Nat.reduceAdd, Nat.reduceMul, true_or, or_true, ↓reduceIte, aOk, ref_null, null_null, false_or, Option.isSome_some, Option.getD_some, ite_true, ite_false, eq_self, not_false_eq_true, not_true_eq_false, f1]
  rw [← hQ]
  refine ⟨rfl, u1.trans (md_sFi (A := [56]) (F := [129]) (by decide)) (fun _ q => q) (fun _ q => q), Fi_same, by omega, fun j hj => ?_⟩
  show MB _ _ _ n (if j < c then U j else B)
  by_cases q : j < c
  · rw [if_pos q]
    refine mb_of (hu j q) hn (fun t ht => ?_)
    rw [Ai_sFi, a1, cpF_out (by omega)]
  · have : j = c := by omega
    subst this
    rw [if_neg q]
    refine mb_of y hn (fun t ht => ?_)
    rw [Ai_sFi, a1, cpF_in ht]
theorem cm_keeps (x : MO h m) (y : MB h (m + 53) 0 n B) (hn : n ≤ 10) (z : MU h m n c U) : Ca (D + 2) 199 [.ref m] h (fun r h' => r = .inl none ∧ Md m [56] [129] h h' ∧ MU h' m n (kpN c) (kpU U c B)) := by
  obtain ⟨z1, z2, z3⟩ := z
  have e16 : (ix c = 16) = (c = 16) := ix_eql (n := 16) (by omega) (by decide)
  rw [e_X9_keeps]
  by_cases q : c = 16
  · have e16 : (ix c = 16) = True := by rw [e16]; exact eq_true q
    unfold kpN kpU
    rw [if_pos q, if_pos q]
    generalize hQ : (fun r h' => r = .inl none ∧ Md m [56] [129] h h' ∧ MU h' m n 16 (fun j => if j < 15 then U (j + 1) else B) : Rs → AH → Prop) = Q
    have key : ∀ n' j (F : Nat → Int32), j + n' = 225 → (∀ t, t < j → F t = Ai h (m + 56) (t + 15)) → (∀ t, j ≤ t → F t = Ai h (m + 56) t) → Ru (D + 1) 199 11 [.ref m, .int (ix j)] [] (sAi h (m + 56) F) Q := by
      intro n'
      induction n' with
      | zero =>
        intro j F hj f1 f2
        have ej : j = 225 := by omega
        subst ej
        have e : (ix 225 < 225) = False := eq_false (by decide)
        have e15 : ix c - 1 = ix 15 := by rw [q]; rfl
        simp (disch := first | assumption | omega | decide | rfl) only [w_X9_keeps_11, w_X9_keeps_12, w_X9_keeps_15, w_X9_keeps_39, w_X9_keeps_40, w_X9_keeps_41, w_X9_keeps_44, w_X9_keeps_45, w_X9_keeps_46, mo_0 x, nl_int, nl_ref, nl_null, nl_un, nl_rf, nl_long, isR_ref, isR_null, isR_rf, rf_some, rf_none, rOf_ref, rOf_null, rOf_rf, kn_v, kn_0, true_and, and_true, and_self, tin, inA_x, inA_l, ix_add, ix_addl, ix_ladd, ix_mul, ix_mull, ix_lmul, ix_tn, lt_tn, Nat.reduceLeDiff, Nat.reduceLT, Nat.reduceAdd, Nat.reduceMul, true_or, or_true, ↓reduceIte, aOk, ref_null, null_null, false_or, Option.isSome_some, Option.getD_some, ite_true, ite_false, eq_self, not_false_eq_true, not_true_eq_false, Tg_sFi, Tg_sFl, Tg_sFr, Tg_sAi, Tg_sAl, Tg_sAr, An_sFi, An_sFl, An_sFr, An_sAi, An_sAl, An_sAr, Fi_sFl, Fi_sFr, Fi_sAi, Fi_sAl, Fi_sAr, Fl_sFi, Fl_sFr, Fl_sAi, Fl_sAl, Fl_sAr, Fr_sFi, Fr_sFl, Fr_sAi, Fr_sAl, Fr_sAr, Ai_sFi, Ai_sFl, Ai_sFr, Ai_sAl, Ai_sAr, Al_sFi, Al_sFl, Al_sFr, Al_sAi, Al_sAr, Ar_sFi, Ar_sFl, Ar_sFr, Ar_sAi, Ar_sAl, Fi_same, Fl_same, Fr_same, Ai_same, Al_same, Ar_same, Fi_otherf, Fl_otherf, Fr_otherf, e, z1, e15]
        have u1 : Md m [56] [129] h (sFi (sAi h (m + 56) F) 129 m (ix 15)) := (md_sAi (by decide)).trans (md_sFi (A := [56]) (F := [129]) (by decide)) (fun _ q => q) (fun _ q => q)
        have a1 : Ai (sFi (sAi h (m + 56) F) 129 m (ix 15)) (m + 56) = F := by rw [Ai_sFi, Ai_same]
        have b1 : Fi (sFi (sAi h (m + 56) F) 129 m (ix 15)) 129 m = ix 15 := Fi_same
        have y1 : MB (sFi (sAi h (m + 56) F) 129 m (ix 15)) (m + 53) 0 n B := y.md ((md_sAi (A := [56]) (F := [129]) (by decide)).trans (md_sFi (A := [56]) (F := [129]) (by decide)) (fun _ q => q) (fun _ q => q)) (by decide)
        revert u1 a1 b1 y1
        generalize sFi (sAi h (m + 56) F) 129 m (ix 15) = h1
        intro u1 a1 b1 y1
        refine ru_mono (keep_t (U := fun j => U (j + 1)) (u1.mo x) y1 hn (by decide) b1 (fun j hj => mb_of (z3 (j + 1) (by omega)) hn (fun t ht => ?_))) ?_
        · rw [a1, f1 _ (by omega), show 15 * j + t + 15 = 15 * (j + 1) + t by omega]
        · rintro r h2 ⟨rfl, u2, m2⟩
          rw [← hQ]
          exact ⟨rfl, u1.trans u2 (fun _ q => q) (fun _ q => q), m2⟩
      | succ n' ih =>
        intro j F hj f1 f2
        have e : (ix j < 225) = True := by rw [ix_ltl (n := 225) (by omega) (by decide)]; exact eq_true (by omega)
        have g := f2 (j + 15) (by omega)
        rw [w_X9_keeps_11]
        simp (disch := first | assumption | omega | decide | rfl) only [w_X9_keeps_12, w_X9_keeps_15, w_X9_keeps_18, w_X9_keeps_19, w_X9_keeps_22, w_X9_keeps_23, w_X9_keeps_24, w_X9_keeps_27, w_X9_keeps_28, w_X9_keeps_30, w_X9_keeps_31, w_X9_keeps_32, w_X9_keeps_33, w_X9_keeps_36, mo_0 x, mo_undone x, mt_undone x, ml_undone x, mo_s x, mt_s x, ml_s x, nl_int, nl_ref, nl_null, nl_un, nl_rf, nl_long, isR_ref, isR_null, isR_rf, rf_some, rf_none, rOf_ref, rOf_null, rOf_rf, kn_v, kn_0, true_and, and_true, and_self, tin, inA_x, inA_l, ix_add, ix_addl, ix_ladd, ix_mul, ix_mull, ix_lmul, ix_tn, lt_tn, Nat.reduceLeDiff, Nat.reduceLT, Nat.reduceAdd, Nat.reduceMul, true_or, or_true, ↓reduceIte, aOk, ref_null, null_null, false_or, Option.isSome_some, Option.getD_some, ite_true, ite_false, eq_self, not_false_eq_true, not_true_eq_false, Tg_sFi, Tg_sFl, Tg_sFr, Tg_sAi, Tg_sAl, Tg_sAr, An_sFi, An_sFl, An_sFr, An_sAi, An_sAl, An_sAr, Fi_sFl, Fi_sFr, Fi_sAi, Fi_sAl, Fi_sAr, Fl_sFi, Fl_sFr, Fl_sAi, Fl_sAl, Fl_sAr, Fr_sFi, Fr_sFl, Fr_sAi, Fr_sAl, Fr_sAr, Ai_sFi, Ai_sFl, Ai_sFr, Ai_sAl, Ai_sAr, Al_sFi, Al_sFl, Al_sFr, Al_sAi, Al_sAr, Ar_sFi, Ar_sFl, Ar_sFr, Ar_sAi, Ar_sAl, Fi_same, Fl_same, Fr_same, Ai_same, Al_same, Ar_same, Fi_otherf, Fl_otherf, Fr_otherf, e, g, sAi_sAi]
        refine ih (j + 1) _ (by omega) (fun t ht => ?_) (fun t ht => ?_)
        · by_cases z : t = j
          · subst z; exact upd_s
          · rw [upd_n z]; exact f1 t (by omega)
        · rw [upd_n (by omega)]; exact f2 t (by omega)
    simp (disch := first | assumption | omega | decide | rfl) only [w_X9_keeps_0, w_X9_keeps_1, w_X9_keeps_4, w_X9_keeps_6, mo_0 x, nl_int, nl_ref, nl_null, nl_un, nl_rf, nl_long, isR_ref, isR_null, isR_rf, rf_some, rf_none, rOf_ref, rOf_null, rOf_rf, kn_v, kn_0, true_and, and_true, and_self, tin, inA_x, inA_l, ix_add, ix_addl, ix_ladd, ix_mul, ix_mull, ix_lmul, ix_tn, lt_tn, Nat.reduceLeDiff, Nat.reduceLT, Nat.reduceAdd, Nat.reduceMul, true_or, or_true, ↓reduceIte, aOk, ref_null, null_null, false_or, Option.isSome_some, Option.getD_some, ite_true, ite_false, eq_self, not_false_eq_true, not_true_eq_false, z1, e16]
    simp (disch := first | assumption | omega | decide | rfl) only [w_X9_keeps_9, w_X9_keeps_10, nl_int, nl_ref, nl_null, nl_un, nl_rf, nl_long, isR_ref, isR_null, isR_rf, rf_some, rf_none, rOf_ref, rOf_null, rOf_rf, kn_v, kn_0, true_and, and_true, and_self, tin, inA_x, inA_l, ix_add, ix_addl, ix_ladd, ix_mul, ix_mull, ix_lmul, ix_tn, lt_tn, Nat.reduceLeDiff, Nat.reduceLT, Nat.reduceAdd, Nat.reduceMul, true_or, or_true, ↓reduceIte, aOk, ref_null, null_null, false_or, Option.isSome_some, Option.getD_some, ite_true, ite_false, eq_self, not_false_eq_true, not_true_eq_false, ix_0]
    have := key 225 0 (Ai h (m + 56)) (by omega) (fun t ht => absurd ht (Nat.not_lt_zero _)) (fun t _ => rfl)
    rw [sAi_self] at this
    exact this
  · have e16 : (ix c = 16) = False := by rw [e16]; exact eq_false q
    unfold kpN kpU
    rw [if_neg q, if_neg q]
    simp (disch := first | assumption | omega | decide | rfl) only [w_X9_keeps_0, w_X9_keeps_1, w_X9_keeps_4, w_X9_keeps_6, mo_0 x, nl_int, nl_ref, nl_null, nl_un, nl_rf, nl_long, isR_ref, isR_null, isR_rf, rf_some, rf_none, rOf_ref, rOf_null, rOf_rf, kn_v, kn_0, true_and, and_true, and_self, tin, inA_x, inA_l, ix_add, ix_addl, ix_ladd, ix_mul, ix_mull, ix_lmul, ix_tn, lt_tn, Nat.reduceLeDiff, Nat.reduceLT, Nat.reduceAdd, Nat.reduceMul, true_or, or_true, ↓reduceIte, aOk, ref_null, null_null, false_or, Option.isSome_some, Option.getD_some, ite_true, ite_false, eq_self, not_false_eq_true, not_true_eq_false, z1, e16]
    exact keep_t x y hn (by omega) z1 z3
end
