/-! THE MODEL: crops -/
set_option maxRecDepth 100000
/-- a fold by places -/
noncomputable def foI {α : Type} (f : α → Nat → α) (z : α) : Nat → α
  | 0 => z
  | n + 1 => f (foI f z n) n
noncomputable def stC (O : Oc) (B : Bo) (R : Nat → Nat → Int32) (day hang loose : Nat) (st : Int32 × Int32) (c : Nat) : Int32 × Int32 := if hang &&& (whC O B c ||| ecC O B c) = 0 then st else if su (faF O hang loose (whC O B c) (ecC O B c)) (fun a => vaF O a (B.day + ix day)) O.nA + R (sd hang (faF O hang loose (whC O B c) (ecC O B c))) (loF O hang loose (whC O B c) (ecC O B c)) ≤ st.1 then st else (su (faF O hang loose (whC O B c) (ecC O B c)) (fun a => vaF O a (B.day + ix day)) O.nA + R (sd hang (faF O hang loose (whC O B c) (ecC O B c))) (loF O hang loose (whC O B c) (ecC O B c)), ix c)
noncomputable def crF (O : Oc) (B : Bo) (l : List Nat) : Nat → Nat → Nat → Nat → Int32 × Int32
  | 0, _, _, _ => (0, -1)
  | n + 1, day, hang, loose => foI (fun st i => stC O B (fun a b => (crF O B l n (day + 1) a b).1) day hang loose st (l.getD i 0)) ((crF O B l n (day + 1) hang loose).1, -1) l.length
def VI (h : AH) (m : Nat) (O : Oc) (B : Bo) : Prop := ∀ d, d < 3 → ∀ a, a < O.nA → Ai h (m + 61) (10 * d + a) = vaF O a (B.day + ix d)
section
variable {d D m a b c p q s w n k i j S hang loose day : Nat} {h h' : AH} {Q : Rs → AH → Prop} {O : Oc} {B : Bo} {A F : List Nat} {l : List Nat}
theorem cm_cropWorth (x : M0 h m O) (v : VI h m O B) (hS : S < 1024) (hd : day < 3) : Ca (D + 1) 218 [.ref m, .int (ix S), .int (ix day)] h Q = Q (.inl (some (.int (su S (fun a => vaF O a (B.day + ix day)) O.nA)))) h := by
  have hm := x.mo
  have n1 := x.wo.nA
  have g0 := x.mr.nA
  rw [Nat.mul_zero] at g0
  have key : ∀ n j, j + n = O.nA → Ru D 218 5 [.ref m, .int (ix S), .int (ix day), .int (su S (fun a => vaF O a (B.day + ix day)) j), .int (ix j)] [] h Q = Q (.inl (some (.int (su S (fun a => vaF O a (B.day + ix day)) O.nA)))) h := by
    intro n
    induction n with
    | zero =>
      intro j hj
      have ej : j = O.nA := by omega
      subst ej
      have e : ¬ O.nA < O.nA := by omega
      simp (disch := first | assumption | omega | decide | rfl) only [w_X9_cropWorth_5, w_X9_cropWorth_7, w_X9_cropWorth_8, w_X9_cropWorth_11, w_X9_cropWorth_12, w_X9_cropWorth_13, w_X9_cropWorth_51, w_X9_cropWorth_52, mo_0 hm, mo_orchard hm, mt_orchard hm, ml_orchard hm, mo_valueIn hm, mt_valueIn hm, ml_valueIn hm, nl_int, nl_ref, nl_null, nl_un, nl_rf, nl_long, isR_ref, isR_null, isR_rf, rf_some, rf_none, rOf_ref, rOf_null, rOf_rf, kn_v, kn_0, true_and, and_true, and_self, tin, inA_x, inA_l, ix_add, ix_addl, ix_ladd, ix_mul, ix_mull, ix_lmul, ix_tn, lt_tn, Nat.reduceLeDiff, Nat.reduceLT, Nat.reduceAdd, Nat.reduceMul, true_or, or_true, ↓reduceIte, aOk, ref_null, null_null, false_or, Option.isSome_some, Option.getD_some, ite_true, ite_false, eq_self, not_false_eq_true, not_true_eq_false, g0, ix_lt, e]
    | succ n ih =>
      intro j hj
      have e : j < O.nA := by omega
      have hb := has_b (n := S) (k := j) (by omega) (by omega)
      have g1 := v day hd j e
      have nx := ih (j + 1) (by omega)
      rw [su] at nx
      rw [w_X9_cropWorth_5]
      by_cases q : S.testBit j = true
      · have hb : (ix S >>> (ix j &&& 31) &&& 1 = 1) = True := by rw [hb]; exact eq_true q
        rw [if_pos q] at nx
        simp (disch := first | assumption | omega | decide | rfl) only [w_X9_cropWorth_7, w_X9_cropWorth_8, w_X9_cropWorth_11, w_X9_cropWorth_12, w_X9_cropWorth_13, w_X9_cropWorth_16, w_X9_cropWorth_17, w_X9_cropWorth_18, w_X9_cropWorth_20, w_X9_cropWorth_21, w_X9_cropWorth_22, w_X9_cropWorth_23, w_X9_cropWorth_24, w_X9_cropWorth_27, w_X9_cropWorth_28, w_X9_cropWorth_31, w_X9_cropWorth_33, w_X9_cropWorth_34, w_X9_cropWorth_35, w_X9_cropWorth_37, w_X9_cropWorth_38, w_X9_cropWorth_39, w_X9_cropWorth_42, w_X9_cropWorth_43, w_X9_cropWorth_44, w_X9_cropWorth_45, w_X9_cropWorth_48, mo_0 hm, mo_orchard hm, mt_orchard hm, ml_orchard hm, mo_valueIn hm, mt_valueIn hm, ml_valueIn hm, nl_int, nl_ref, nl_null, nl_un, nl_rf, nl_long, isR_ref, isR_null, isR_rf, rf_some, rf_none, rOf_ref, rOf_null, rOf_rf, kn_v, kn_0, true_and, and_true, and_self, tin, inA_x, inA_l, ix_add, ix_addl, ix_ladd, ix_mul, ix_mull, ix_lmul, ix_tn, lt_tn, Nat.reduceLeDiff, Nat.reduceLT, Nat.reduceAdd, Nat.reduceMul, true_or, or_true, ↓reduceIte, aOk, ref_null, null_null, false_or, Option.isSome_some, Option.getD_some, ite_true, ite_false, eq_self, not_false_eq_true, not_true_eq_false, g0, g1, ix_lt, e, hb]
        exact nx
      · have hb : (ix S >>> (ix j &&& 31) &&& 1 = 1) = False := by rw [hb]; exact eq_false q
        rw [if_neg q] at nx
        simp (disch := first | assumption | omega | decide | rfl) only [w_X9_cropWorth_7, w_X9_cropWorth_8, w_X9_cropWorth_11, w_X9_cropWorth_12, w_X9_cropWorth_13, w_X9_cropWorth_16, w_X9_cropWorth_17, w_X9_cropWorth_18, w_X9_cropWorth_20, w_X9_cropWorth_21, w_X9_cropWorth_22, w_X9_cropWorth_23, w_X9_cropWorth_24, w_X9_cropWorth_27, w_X9_cropWorth_28, w_X9_cropWorth_31, w_X9_cropWorth_33, w_X9_cropWorth_34, w_X9_cropWorth_35, w_X9_cropWorth_37, w_X9_cropWorth_38, w_X9_cropWorth_39, w_X9_cropWorth_42, w_X9_cropWorth_43, w_X9_cropWorth_44, w_X9_cropWorth_45, w_X9_cropWorth_48, mo_0 hm, mo_orchard hm, mt_orchard hm, ml_orchard hm, mo_valueIn hm, mt_valueIn hm, ml_valueIn hm, nl_int, nl_ref, nl_null, nl_un, nl_rf, nl_long, isR_ref, isR_null, isR_rf, rf_some, rf_none, rOf_ref, rOf_null, rOf_rf, kn_v, kn_0, true_and, and_true, and_self, tin, inA_x, inA_l, ix_add, ix_addl, ix_ladd, ix_mul, ix_mull, ix_lmul, ix_tn, lt_tn, Nat.reduceLeDiff, Nat.reduceLT, Nat.reduceAdd, Nat.reduceMul, true_or, or_true, ↓reduceIte, aOk, ref_null, null_null, false_or, Option.isSome_some, Option.getD_some, ite_true, ite_false, eq_self, not_false_eq_true, not_true_eq_false, g0, ix_lt, e, hb]
        exact nx
  rw [e_X9_cropWorth]
  simp (disch := first | assumption | omega | decide | rfl) only [w_X9_cropWorth_0, w_X9_cropWorth_1, w_X9_cropWorth_2, w_X9_cropWorth_3, nl_int, nl_ref, nl_null, nl_un, nl_rf, nl_long, isR_ref, isR_null, isR_rf, rf_some, rf_none, rOf_ref, rOf_null, rOf_rf, kn_v, kn_0, true_and, and_true, and_self, tin, inA_x, inA_l, ix_add, ix_addl, ix_ladd, ix_mul, ix_mull, ix_lmul, ix_tn, lt_tn, Nat.reduceLeDiff, Nat.reduceLT, Nat.reduceAdd, Nat.reduceMul, true_or, or_true, ↓reduceIte, aOk, ref_null, null_null, false_or, Option.isSome_some, Option.getD_some, ite_true, ite_false, eq_self, not_false_eq_true, not_true_eq_false]
  exact key O.nA 0 (by omega)
theorem VI.md (x : VI h m O B) (u : Md m A F h h') (h1 : 61 ∉ A) : VI h' m O B := by
  unfold VI
  rw [u.ai h1]
  exact x
theorem cm_cropOf : ∀ n day hang loose h (ff : Bool), M0 h m O → VI h m O B → LC h m O B l → l.length ≤ 80 → (∀ i, i < l.length → l.getD i 0 < 80) → day + n ≤ 3 → hang < 1024 → Ca (D + 3 + n) 217 [.ref m, .int (ix hang), .int (ix loose), .int (ix day), .int (ix n), .int (bz ff)] h (fun r h' => r = .inl (some (.int (crF O B l n day hang loose).1)) ∧ Md m [] [132, 139] h h' ∧ (ff = true → 0 < n → Fi h' 139 m = (crF O B l n day hang loose).2) ∧ (ff = false ∨ n = 0 → Fi h' 139 m = Fi h 139 m)) := by
  intro n
  induction n with
  | zero =>
    intro day hang loose h ff x v lc ll lb hd hh
    have e0 : (ix 0 = 0) = True := eq_true rfl
    rw [e_X9_cropOf]
    simp (disch := first | assumption | omega | decide | rfl) only [w_X9_cropOf_0, w_X9_cropOf_2, w_X9_cropOf_5, w_X9_cropOf_6, nl_int, nl_ref, nl_null, nl_un, nl_rf, nl_long, isR_ref, isR_null, isR_rf, rf_some, rf_none, rOf_ref, rOf_null, rOf_rf, kn_v, kn_0, true_and, and_true, and_self, tin, inA_x, inA_l, ix_add, ix_addl, ix_ladd, ix_mul, ix_mull, ix_lmul, ix_tn, lt_tn, Nat.reduceLeDiff, Nat.reduceLT, Nat.reduceAdd, Nat.reduceMul, true_or, or_true, ↓reduceIte, aOk, ref_null, null_null, false_or, Option.isSome_some, Option.getD_some, ite_true, ite_false, eq_self, not_false_eq_true, not_true_eq_false, e0]
    exact ⟨rfl, Md.refl, fun _ q => absurd q (by decide), fun _ => trivial⟩
  | succ n ih =>
    intro day hang loose h ff x v lc ll lb hd hh
    have n1 := x.wo.nA
    generalize hQ : (fun r h' => r = .inl (some (.int (crF O B l (n + 1) day hang loose).1)) ∧ Md m [] [132, 139] h h' ∧ (ff = true → 0 < n + 1 → Fi h' 139 m = (crF O B l (n + 1) day hang loose).2) ∧ (ff = false ∨ n + 1 = 0 → Fi h' 139 m = Fi h 139 m) : Rs → AH → Prop) = Q
    have e0 : (ix (n + 1) = 0) = False := by rw [ix_eql (n := 0) (by omega) (by decide)]; exact eq_false (by omega)
    have e1 : ix (n + 1) - 1 = ix n := ix_subl (n := 1) (a := n + 1) (by omega)
    rw [show D + 3 + (n + 1) = (D + 3 + n) + 1 by omega, e_X9_cropOf]
    rw [w_X9_cropOf_0]
    simp (disch := first | assumption | omega | decide | rfl) only [w_X9_cropOf_2, w_X9_cropOf_5, w_X9_cropOf_6, w_X9_cropOf_7, w_X9_cropOf_8, w_X9_cropOf_9, w_X9_cropOf_10, w_X9_cropOf_11, w_X9_cropOf_12, w_X9_cropOf_13, w_X9_cropOf_15, w_X9_cropOf_16, w_X9_cropOf_17, w_X9_cropOf_18, nl_int, nl_ref, nl_null, nl_un, nl_rf, nl_long, isR_ref, isR_null, isR_rf, rf_some, rf_none, rOf_ref, rOf_null, rOf_rf, kn_v, kn_0, true_and, and_true, and_self, tin, inA_x, inA_l, ix_add, ix_addl, ix_ladd, ix_mul, ix_mull, ix_lmul, ix_tn, lt_tn, Nat.reduceLeDiff, Nat.reduceLT, Nat.reduceAdd, Nat.reduceMul, true_or, or_true, ↓reduceIte, aOk, ref_null, null_null, false_or, Option.isSome_some, Option.getD_some, ite_true, ite_false, eq_self, not_false_eq_true, not_true_eq_false, e0, e1, mo_0 x.mo]
    rw [show (Value.int 0) = Value.int (bz false) from rfl]
    refine ca_mono (ih (day + 1) hang loose h false x v lc ll lb (by omega) hh) ?_
    rintro r h1 ⟨rfl, u1, -, f1⟩
    have f1 := f1 (Or.inl rfl)
    have key : ∀ k i h2 (v8 v9 : Value), nl v8 = true → i + k = l.length → Md m [] [132, 139] h h2 → (ff = true → Fi h2 139 m = (foI (fun st i => stC O B (fun a b => (crF O B l n (day + 1) a b).1) day hang loose st (l.getD i 0)) ((crF O B l n (day + 1) hang loose).1, -1) i).2) → (ff = false → Fi h2 139 m = Fi h 139 m) → Ru (D + 3 + n) 217 36 [.ref m, .int (ix hang), .int (ix loose), .int (ix day), .int (ix (n + 1)), .int (bz ff), .int (foI (fun st i => stC O B (fun a b => (crF O B l n (day + 1) a b).1) day hang loose st (l.getD i 0)) ((crF O B l n (day + 1) hang loose).1, -1) i).1, .int (ix i), v8, v9] [] h2 Q := by
      intro k
      induction k with
      | zero =>
        intro i h2 v8 v9 nv hi u2 a1 a2
        have ei : i = l.length := by omega
        subst ei
        have lc2 := lc.md u2 (by decide) (by decide) (by decide) (by decide)
        have g1 := lc2.n
        have e : ¬ l.length < l.length := by omega
        rw [w_X9_cropOf_36]
        simp (disch := first | assumption | omega | decide | rfl) only [w_X9_cropOf_38, w_X9_cropOf_39, w_X9_cropOf_42, w_X9_cropOf_158, w_X9_cropOf_160, mo_0 (u2.mo x.mo), nl_int, nl_ref, nl_null, nl_un, nl_rf, nl_long, isR_ref, isR_null, isR_rf, rf_some, rf_none, rOf_ref, rOf_null, rOf_rf, kn_v, kn_0, true_and, and_true, and_self, tin, inA_x, inA_l, ix_add, ix_addl, ix_ladd, ix_mul, ix_mull, ix_lmul, ix_tn, lt_tn, Nat.reduceLeDiff, Nat.reduceLT, Nat.reduceAdd, Nat.reduceMul, true_or, or_true, ↓reduceIte, aOk, ref_null, null_null, false_or, Option.isSome_some, Option.getD_some, ite_true, ite_false, eq_self, not_false_eq_true, not_true_eq_false, g1, ix_lt, e]
        rw [← hQ]
        exact ⟨rfl, u2, fun q _ => a1 q, fun q => a2 (q.resolve_right (by omega))⟩
      | succ k ihk =>
        intro i h2 v8 v9 nv hi u2 a1 a2
        have x2 : M0 h2 m O := x.md u2
        have hm2 := x2.mo
        have lc2 := lc.md u2 (by decide) (by decide) (by decide) (by decide)
        have e : i < l.length := by omega
        have g1 := lc2.n
        have g2 := lc2.w i e
        have g3 := lc2.e i e
        have g4 := lc2.c i e
        have c80 := lb i e
        have hlt : hang &&& (whC O B (l.getD i 0) ||| ecC O B (l.getD i 0)) < 1024 := and_lt hh
        have hwl : hang &&& (whC O B (l.getD i 0) ||| ecC O B (l.getD i 0)) < 1024 := and_lt hh
        have ez : (ix (hang &&& (whC O B (l.getD i 0) ||| ecC O B (l.getD i 0))) = 0) = (hang &&& (whC O B (l.getD i 0) ||| ecC O B (l.getD i 0)) = 0) := ix_eql (n := 0) (by omega) (by decide)
        have nxt := fun h3 v8 v9 nv => ihk (i + 1) h3 v8 v9 nv (by omega)
        rw [foI] at nxt
        revert a1 nxt
        generalize foI (fun st i => stC O B (fun a b => (crF O B l n (day + 1) a b).1) day hang loose st (l.getD i 0)) ((crF O B l n (day + 1) hang loose).1, -1) i = st
        intro a1 nxt
        rw [w_X9_cropOf_36]
        by_cases q : hang &&& (whC O B (l.getD i 0) ||| ecC O B (l.getD i 0)) = 0
        · have ez : (ix (hang &&& (whC O B (l.getD i 0) ||| ecC O B (l.getD i 0))) = 0) = True := by rw [ez]; exact eq_true q
          have es : stC O B (fun a b => (crF O B l n (day + 1) a b).1) day hang loose st (l.getD i 0) = st := by unfold stC; rw [if_pos q]
          rw [es] at nxt
          simp (disch := first | assumption | omega | decide | rfl) only [w_X9_cropOf_38, w_X9_cropOf_39, w_X9_cropOf_42, w_X9_cropOf_45, w_X9_cropOf_46, w_X9_cropOf_47, w_X9_cropOf_50, w_X9_cropOf_52, w_X9_cropOf_53, w_X9_cropOf_54, w_X9_cropOf_57, w_X9_cropOf_59, w_X9_cropOf_60, w_X9_cropOf_61, w_X9_cropOf_62, w_X9_cropOf_65, w_X9_cropOf_152, w_X9_cropOf_155, mo_0 hm2, mo_heardBy hm2, mt_heardBy hm2, ml_heardBy hm2, mo_halfBy hm2, mt_halfBy hm2, ml_halfBy hm2, mo_callAs hm2, mt_callAs hm2, ml_callAs hm2, nl_int, nl_ref, nl_null, nl_un, nl_rf, nl_long, isR_ref, isR_null, isR_rf, rf_some, rf_none, rOf_ref, rOf_null, rOf_rf, kn_v, kn_0, true_and, and_true, and_self, tin, inA_x, inA_l, ix_add, ix_addl, ix_ladd, ix_mul, ix_mull, ix_lmul, ix_tn, lt_tn, Nat.reduceLeDiff, Nat.reduceLT, Nat.reduceAdd, Nat.reduceMul, true_or, or_true, ↓reduceIte, aOk, ref_null, null_null, false_or, Option.isSome_some, Option.getD_some, ite_true, ite_false, eq_self, not_false_eq_true, not_true_eq_false, g1, g2, g3, ix_lt, e, ix_or, ix_and, ez]
          exact nxt h2 v8 v9 nv u2 a1 a2
        · have ez : (ix (hang &&& (whC O B (l.getD i 0) ||| ecC O B (l.getD i 0))) = 0) = False := by rw [ez]; exact eq_false q
          generalize hfa : faF O hang loose (whC O B (l.getD i 0)) (ecC O B (l.getD i 0)) = fa
          have hfl : fa < 1024 := by rw [← hfa]; exact faF_lt hh
          generalize hlo : loF O hang loose (whC O B (l.getD i 0)) (ecC O B (l.getD i 0)) = lo
          have ef := cm_fallsBy (D := D + n + 1) (loose := loose) (w := whC O B (l.getD i 0)) (e := ecC O B (l.getD i 0)) (Q := Kn (D + 3 + n) 217 85 88 [.ref m, .int (ix hang), .int (ix loose), .int (ix day), .int (ix (n + 1)), .int (bz ff), .int st.1, .int (ix i), v8, v9] [] Q) x2 hh
          rw [hfa, hlo, show D + n + 1 + 2 = D + 3 + n by omega] at ef
          simp (disch := first | assumption | omega | decide | rfl) only [w_X9_cropOf_38, w_X9_cropOf_39, w_X9_cropOf_42, w_X9_cropOf_45, w_X9_cropOf_46, w_X9_cropOf_47, w_X9_cropOf_50, w_X9_cropOf_52, w_X9_cropOf_53, w_X9_cropOf_54, w_X9_cropOf_57, w_X9_cropOf_59, w_X9_cropOf_60, w_X9_cropOf_61, w_X9_cropOf_62, mo_0 hm2, mo_heardBy hm2, mt_heardBy hm2, ml_heardBy hm2, mo_halfBy hm2, mt_halfBy hm2, ml_halfBy hm2, mo_callAs hm2, mt_callAs hm2, ml_callAs hm2, nl_int, nl_ref, nl_null, nl_un, nl_rf, nl_long, isR_ref, isR_null, isR_rf, rf_some, rf_none, rOf_ref, rOf_null, rOf_rf, kn_v, kn_0, true_and, and_true, and_self, tin, inA_x, inA_l, ix_add, ix_addl, ix_ladd, ix_mul, ix_mull, ix_lmul, ix_tn, lt_tn, Nat.reduceLeDiff, Nat.reduceLT, Nat.reduceAdd, Nat.reduceMul, true_or, or_true, ↓reduceIte, aOk, ref_null, null_null, false_or, Option.isSome_some, Option.getD_some, ite_true, ite_false, eq_self, not_false_eq_true, not_true_eq_false, g1, g2, g3, ix_lt, e, ix_or, ix_and, ez]
          rw [w_X9_cropOf_68]
          simp (disch := first | assumption | omega | decide | rfl) only [w_X9_cropOf_69, w_X9_cropOf_70, w_X9_cropOf_71, w_X9_cropOf_72, w_X9_cropOf_75, w_X9_cropOf_77, w_X9_cropOf_78, w_X9_cropOf_79, w_X9_cropOf_82, w_X9_cropOf_84, w_X9_cropOf_85, mo_0 hm2, mo_heardBy hm2, mt_heardBy hm2, ml_heardBy hm2, mo_halfBy hm2, mt_halfBy hm2, ml_halfBy hm2, mo_callAs hm2, mt_callAs hm2, ml_callAs hm2, nl_int, nl_ref, nl_null, nl_un, nl_rf, nl_long, isR_ref, isR_null, isR_rf, rf_some, rf_none, rOf_ref, rOf_null, rOf_rf, kn_v, kn_0, true_and, and_true, and_self, tin, inA_x, inA_l, ix_add, ix_addl, ix_ladd, ix_mul, ix_mull, ix_lmul, ix_tn, lt_tn, Nat.reduceLeDiff, Nat.reduceLT, Nat.reduceAdd, Nat.reduceMul, true_or, or_true, ↓reduceIte, aOk, ref_null, null_null, false_or, Option.isSome_some, Option.getD_some, ite_true, ite_false, eq_self, not_false_eq_true, not_true_eq_false, g2, g3]
          rw [ef, kn_v]
          clear ef
          have u3 : Md m [] [132, 139] h (sFi h2 132 m (ix lo)) := u2.trans (md_sFi (A := []) (F := [132, 139]) (by decide)) (fun _ q => q) (fun _ q => q)
          have f3 : Fi (sFi h2 132 m (ix lo)) 132 m = ix lo := Fi_same
          have f4 : Fi (sFi h2 132 m (ix lo)) 139 m = Fi h2 139 m := Fi_otherf (by decide)
          revert u3 f3 f4
          generalize sFi h2 132 m (ix lo) = h3
          intro u3 f3 f4
          have x3 : M0 h3 m O := x.md u3
          have v3 := v.md u3 (by decide)
          have lc3 := lc.md u3 (by decide) (by decide) (by decide) (by decide)
          simp (disch := first | assumption | omega | decide | rfl) only [w_X9_cropOf_88, w_X9_cropOf_90, w_X9_cropOf_91, w_X9_cropOf_93, w_X9_cropOf_94, mo_0 x3.mo, nl_int, nl_ref, nl_null, nl_un, nl_rf, nl_long, isR_ref, isR_null, isR_rf, rf_some, rf_none, rOf_ref, rOf_null, rOf_rf, kn_v, kn_0, true_and, and_true, and_self, tin, inA_x, inA_l, ix_add, ix_addl, ix_ladd, ix_mul, ix_mull, ix_lmul, ix_tn, lt_tn, Nat.reduceLeDiff, Nat.reduceLT, Nat.reduceAdd, Nat.reduceMul, true_or, or_true, ↓reduceIte, aOk, ref_null, null_null, false_or, Option.isSome_some, Option.getD_some, ite_true, ite_false, eq_self, not_false_eq_true, not_true_eq_false]
          rw [show D + 3 + n = (D + 2 + n) + 1 by omega, cm_cropWorth x3 v3 hfl (by omega), kn_v, show D + 2 + n + 1 = D + 3 + n by omega]
          simp (disch := first | assumption | omega | decide | rfl) only [w_X9_cropOf_97, w_X9_cropOf_98, w_X9_cropOf_99, w_X9_cropOf_101, w_X9_cropOf_102, w_X9_cropOf_103, w_X9_cropOf_104, w_X9_cropOf_105, w_X9_cropOf_108, w_X9_cropOf_109, w_X9_cropOf_110, w_X9_cropOf_111, w_X9_cropOf_113, w_X9_cropOf_114, w_X9_cropOf_115, w_X9_cropOf_116, mo_0 x3.mo, nl_int, nl_ref, nl_null, nl_un, nl_rf, nl_long, isR_ref, isR_null, isR_rf, rf_some, rf_none, rOf_ref, rOf_null, rOf_rf, kn_v, kn_0, true_and, and_true, and_self, tin, inA_x, inA_l, ix_add, ix_addl, ix_ladd, ix_mul, ix_mull, ix_lmul, ix_tn, lt_tn, Nat.reduceLeDiff, Nat.reduceLT, Nat.reduceAdd, Nat.reduceMul, true_or, or_true, ↓reduceIte, aOk, ref_null, null_null, false_or, Option.isSome_some, Option.getD_some, ite_true, ite_false, eq_self, not_false_eq_true, not_true_eq_false, f3, e1, ix_sd]
          rw [show (Value.int 0) = Value.int (bz false) from rfl]
          refine ca_mono (ih (day + 1) (sd hang fa) lo h3 false x3 v3 lc3 ll lb (by omega) (sd_lt hh)) ?_
          rintro r h4 ⟨rfl, u4, -, f5⟩
          have f5 := f5 (Or.inl rfl)
          have u5 : Md m [] [132, 139] h h4 := u3.trans u4 (fun _ q => q) (fun _ q => q)
          have x4 : M0 h4 m O := x.md u5
          have hm4 := x4.mo
          have lc4 := lc.md u5 (by decide) (by decide) (by decide) (by decide)
          have g5 := lc4.c i e
          rw [kn_v]
          have es : stC O B (fun a b => (crF O B l n (day + 1) a b).1) day hang loose st (l.getD i 0) = if su fa (fun a => vaF O a (B.day + ix day)) O.nA + (crF O B l n (day + 1) (sd hang fa) lo).1 ≤ st.1 then st else (su fa (fun a => vaF O a (B.day + ix day)) O.nA + (crF O B l n (day + 1) (sd hang fa) lo).1, ix (l.getD i 0)) := by unfold stC; rw [if_neg q, hfa, hlo]
          rw [es] at nxt
          rw [w_X9_cropOf_119]
          revert nxt
          generalize su fa (fun a => vaF O a (B.day + ix day)) O.nA + (crF O B l n (day + 1) (sd hang fa) lo).1 = V
          intro nxt
          by_cases q2 : V ≤ st.1
          · have d1 : (st.1 < V) = False := eq_false (Int32.not_lt.mpr q2)
            rw [if_pos q2] at nxt
            simp (disch := first | assumption | omega | decide | rfl) only [w_X9_cropOf_120, w_X9_cropOf_122, w_X9_cropOf_124, w_X9_cropOf_126, w_X9_cropOf_129, w_X9_cropOf_152, w_X9_cropOf_155, nl_int, nl_ref, nl_null, nl_un, nl_rf, nl_long, isR_ref, isR_null, isR_rf, rf_some, rf_none, rOf_ref, rOf_null, rOf_rf, kn_v, kn_0, true_and, and_true, and_self, tin, inA_x, inA_l, ix_add, ix_addl, ix_ladd, ix_mul, ix_mull, ix_lmul, ix_tn, lt_tn, Nat.reduceLeDiff, Nat.reduceLT, Nat.reduceAdd, Nat.reduceMul, true_or, or_true, ↓reduceIte, aOk, ref_null, null_null, false_or, Option.isSome_some, Option.getD_some, ite_true, ite_false, eq_self, not_false_eq_true, not_true_eq_false, d1]
            exact nxt h4 (.int (ix fa)) (.int V) rfl u5 (fun k => by rw [f5, f4]; exact a1 k) (fun k => by rw [f5, f4]; exact a2 k)
          · have d1 : (st.1 < V) = True := eq_true (Int32.not_le.mp q2)
            rw [if_neg q2] at nxt
            cases ff with
            | false =>
              have d0 : (bz false = 0) = True := eq_true rfl
              simp (disch := first | assumption | omega | decide | rfl) only [w_X9_cropOf_120, w_X9_cropOf_122, w_X9_cropOf_124, w_X9_cropOf_126, w_X9_cropOf_129, w_X9_cropOf_132, w_X9_cropOf_134, w_X9_cropOf_136, w_X9_cropOf_138, w_X9_cropOf_152, w_X9_cropOf_155, nl_int, nl_ref, nl_null, nl_un, nl_rf, nl_long, isR_ref, isR_null, isR_rf, rf_some, rf_none, rOf_ref, rOf_null, rOf_rf, kn_v, kn_0, true_and, and_true, and_self, tin, inA_x, inA_l, ix_add, ix_addl, ix_ladd, ix_mul, ix_mull, ix_lmul, ix_tn, lt_tn, Nat.reduceLeDiff, Nat.reduceLT, Nat.reduceAdd, Nat.reduceMul, true_or, or_true, ↓reduceIte, aOk, ref_null, null_null, false_or, Option.isSome_some, Option.getD_some, ite_true, ite_false, eq_self, not_false_eq_true, not_true_eq_false, d1, d0]
              exact nxt h4 (.int (ix fa)) (.int V) rfl u5 (fun k => absurd k (by decide)) (fun k => by rw [f5, f4]; exact a2 k)
            | true =>
              have d0 : (bz true = 0) = False := eq_false (by decide)
              simp (disch := first | assumption | omega | decide | rfl) only [w_X9_cropOf_120, w_X9_cropOf_122, w_X9_cropOf_124, w_X9_cropOf_126, w_X9_cropOf_129, w_X9_cropOf_132, w_X9_cropOf_134, w_X9_cropOf_136, w_X9_cropOf_138, w_X9_cropOf_141, w_X9_cropOf_142, w_X9_cropOf_143, w_X9_cropOf_146, w_X9_cropOf_148, w_X9_cropOf_149, w_X9_cropOf_152, w_X9_cropOf_155, mo_0 hm4, mo_heardBy hm4, mt_heardBy hm4, ml_heardBy hm4, mo_halfBy hm4, mt_halfBy hm4, ml_halfBy hm4, mo_callAs hm4, mt_callAs hm4, ml_callAs hm4, nl_int, nl_ref, nl_null, nl_un, nl_rf, nl_long, isR_ref, isR_null, isR_rf, rf_some, rf_none, rOf_ref, rOf_null, rOf_rf, kn_v, kn_0, true_and, and_true, and_self, tin, inA_x, inA_l, ix_add, ix_addl, ix_ladd, ix_mul, ix_mull, ix_lmul, ix_tn, lt_tn, Nat.reduceLeDiff, Nat.reduceLT, Nat.reduceAdd, Nat.reduceMul, true_or, or_true, ↓reduceIte, aOk, ref_null, null_null, false_or, Option.isSome_some, Option.getD_some, ite_true, ite_false, eq_self, not_false_eq_true, not_true_eq_false, d1, d0, g5]
              exact nxt _ (.int (ix fa)) (.int V) rfl (u5.trans (md_sFi (A := []) (F := [132, 139]) (by decide)) (fun _ q => q) (fun _ q => q)) (fun _ => Fi_same) (fun k => absurd k (by decide))
    rw [kn_v]
    cases ff with
    | false =>
      have d0 : (bz false = 0) = True := eq_true rfl
      simp (disch := first | assumption | omega | decide | rfl) only [w_X9_cropOf_21, w_X9_cropOf_23, w_X9_cropOf_25, w_X9_cropOf_28, w_X9_cropOf_29, w_X9_cropOf_30, w_X9_cropOf_33, w_X9_cropOf_34, nl_int, nl_ref, nl_null, nl_un, nl_rf, nl_long, isR_ref, isR_null, isR_rf, rf_some, rf_none, rOf_ref, rOf_null, rOf_rf, kn_v, kn_0, true_and, and_true, and_self, tin, inA_x, inA_l, ix_add, ix_addl, ix_ladd, ix_mul, ix_mull, ix_lmul, ix_tn, lt_tn, Nat.reduceLeDiff, Nat.reduceLT, Nat.reduceAdd, Nat.reduceMul, true_or, or_true, ↓reduceIte, aOk, ref_null, null_null, false_or, Option.isSome_some, Option.getD_some, ite_true, ite_false, eq_self, not_false_eq_true, not_true_eq_false, d0]
      exact key l.length 0 h1 un un rfl (by omega) u1 (fun q => absurd q (by decide)) (fun _ => f1)
    | true =>
      have d0 : (bz true = 0) = False := eq_false (by decide)
      simp (disch := first | assumption | omega | decide | rfl) only [w_X9_cropOf_21, w_X9_cropOf_23, w_X9_cropOf_25, w_X9_cropOf_28, w_X9_cropOf_29, w_X9_cropOf_30, w_X9_cropOf_33, w_X9_cropOf_34, nl_int, nl_ref, nl_null, nl_un, nl_rf, nl_long, isR_ref, isR_null, isR_rf, rf_some, rf_none, rOf_ref, rOf_null, rOf_rf, kn_v, kn_0, true_and, and_true, and_self, tin, inA_x, inA_l, ix_add, ix_addl, ix_ladd, ix_mul, ix_mull, ix_lmul, ix_tn, lt_tn, Nat.reduceLeDiff, Nat.reduceLT, Nat.reduceAdd, Nat.reduceMul, true_or, or_true, ↓reduceIte, aOk, ref_null, null_null, false_or, Option.isSome_some, Option.getD_some, ite_true, ite_false, eq_self, not_false_eq_true, not_true_eq_false, d0, mo_0 (u1.mo x.mo)]
      exact key l.length 0 _ un un rfl (by omega) (u1.trans (md_sFi (A := []) (F := [132, 139]) (by decide)) (fun _ q => q) (fun _ q => q)) (fun _ => Fi_same) (fun q => absurd q (by decide))
end
