/-! THE MODEL: all calls there are -/
set_option maxRecDepth 100000
noncomputable def okC (O : Oc) (c : Nat) : Bool := decide (c % 16 < O.nS) && saF O (c / 16) (c % 16)
noncomputable def clN (O : Oc) (n : Nat) : List Nat := (List.range n).filter (okC O)
noncomputable def whC (O : Oc) (B : Bo) (c : Nat) : Nat := whF O B.snd (c % 16) (O.ln (c / 16)) (O.ld (c / 16))
noncomputable def ecC (O : Oc) (B : Bo) (c : Nat) : Nat := ecF O B.snd (c % 16) (O.ln (c / 16)) (O.ld (c / 16))
def LC (h : AH) (m : Nat) (O : Oc) (B : Bo) (l : List Nat) : Prop := (Fi h 137 m = ix l.length) ∧ (∀ i, i < l.length → Ai h (m + 60) i = ix (l.getD i 0)) ∧ (∀ i, i < l.length → Ai h (m + 58) i = ix (whC O B (l.getD i 0))) ∧ (∀ i, i < l.length → Ai h (m + 59) i = ix (ecC O B (l.getD i 0)))
theorem LC.n {h : AH} {m : Nat} {O : Oc} {B : Bo} {l : List Nat} (x : LC h m O B l) : Fi h 137 m = ix l.length := x.1
theorem LC.c {h : AH} {m : Nat} {O : Oc} {B : Bo} {l : List Nat} (x : LC h m O B l) : ∀ i, i < l.length → Ai h (m + 60) i = ix (l.getD i 0) := x.2.1
theorem LC.w {h : AH} {m : Nat} {O : Oc} {B : Bo} {l : List Nat} (x : LC h m O B l) : ∀ i, i < l.length → Ai h (m + 58) i = ix (whC O B (l.getD i 0)) := x.2.2.1
theorem LC.e {h : AH} {m : Nat} {O : Oc} {B : Bo} {l : List Nat} (x : LC h m O B l) : ∀ i, i < l.length → Ai h (m + 59) i = ix (ecC O B (l.getD i 0)) := x.2.2.2
section
variable {d D m a b c p q s w n k i j : Nat} {h h' : AH} {Q : Rs → AH → Prop} {O : Oc} {B : Bo} {A F : List Nat} {l : List Nat}
theorem LC.md (x : LC h m O B l) (u : Md m A F h h') (h1 : 58 ∉ A) (h2 : 59 ∉ A) (h3 : 60 ∉ A) (h4 : 137 ∉ F) : LC h' m O B l := by
  unfold LC
  rw [u.ai h1, u.ai h2, u.ai h3, u.fi h4]
  exact x
theorem clN_s : clN O (n + 1) = if okC O n = true then clN O n ++ [n] else clN O n := by
  unfold clN
  rw [List.range_succ, List.filter_append]
  by_cases q : okC O n = true
  · rw [if_pos q]; simp [q]
  · rw [if_neg q]; simp [q]
theorem clN_len : ∀ n, (clN O n).length ≤ n := fun n => by
  unfold clN
  have := List.length_filter_le (okC O) (List.range n)
  rw [List.length_range] at this
  exact this
theorem clN_gap (hn : O.nS ≤ 16) : ∀ j, O.nS + j ≤ 16 → clN O (16 * p + O.nS + j) = clN O (16 * p + O.nS)
  | 0, _ => rfl
  | j + 1, h => by
    rw [show 16 * p + O.nS + (j + 1) = 16 * p + O.nS + j + 1 by omega, clN_s, if_neg, clN_gap hn j (by omega)]
    unfold okC
    have : (16 * p + O.nS + j) % 16 = O.nS + j := by omega
    rw [this]
    have q : ¬ O.nS + j < O.nS := by omega
    simp only [decide_eq_false q, Bool.false_and]
    decide
theorem LC.app (x : LC h m O B l) (u : Md m [58, 59, 60] [130, 131, 137] h h') (h1 : Fi h' 137 m = ix (l.length + 1)) (h2 : Ai h' (m + 60) = upd (Ai h (m + 60)) l.length (ix c)) (h3 : Ai h' (m + 58) = upd (Ai h (m + 58)) l.length (ix (whC O B c))) (h4 : Ai h' (m + 59) = upd (Ai h (m + 59)) l.length (ix (ecC O B c))) : LC h' m O B (l ++ [c]) := by
  have e : (l ++ [c]).length = l.length + 1 := by simp
  have g1 : ∀ i, i < l.length → (l ++ [c]).getD i 0 = l.getD i 0 := fun i hi => by simp [List.getD, List.getElem?_append_left hi]
  have g2 : (l ++ [c]).getD l.length 0 = c := by simp [List.getD]
  refine ⟨by rw [e]; exact h1, fun i hi => ?_, fun i hi => ?_, fun i hi => ?_⟩
  · rw [e] at hi
    rw [h2]
    by_cases q : i = l.length
    · subst q; rw [upd_s, g2]
    · rw [upd_n q, g1 i (by omega)]; exact x.c i (by omega)
  · rw [e] at hi
    rw [h3]
    by_cases q : i = l.length
    · subst q; rw [upd_s, g2]
    · rw [upd_n q, g1 i (by omega)]; exact x.w i (by omega)
  · rw [e] at hi
    rw [h4]
    by_cases q : i = l.length
    · subst q; rw [upd_s, g2]
    · rw [upd_n q, g1 i (by omega)]; exact x.e i (by omega)
theorem cm_laysCalls (x : M0 h m O) (y : MB h (m + 53) 0 O.nA B) (z : WB O B) : Ca (D + 4) 216 [.ref m] h (fun r h' => r = .inl none ∧ Md m [58, 59, 60] [130, 131, 137] h h' ∧ LC h' m O B (clN O (16 * O.nP))) := by
  have n1 := x.wo.nA
  have n2 := x.wo.nS
  have n3 := x.wo.nP
  generalize hQ : (fun r h' => r = .inl none ∧ Md m [58, 59, 60] [130, 131, 137] h h' ∧ LC h' m O B (clN O (16 * O.nP)) : Rs → AH → Prop) = Q
  have k2 : ∀ n k p h1, k + n = O.nS → p < O.nP → Md m [58, 59, 60] [130, 131, 137] h h1 → LC h1 m O B (clN O (16 * p + k)) → (∀ h2 v2, nl v2 = true → Md m [58, 59, 60] [130, 131, 137] h h2 → LC h2 m O B (clN O (16 * (p + 1))) → Ru (D + 3) 216 115 [.ref m, .int (ix p), v2] [] h2 Q) → Ru (D + 3) 216 19 [.ref m, .int (ix p), .int (ix k)] [] h1 Q := by
    intro n
    induction n with
    | zero =>
      intro k p h1 hk hp u lc fin
      have ek : k = O.nS := by omega
      subst ek
      have x1 : M0 h1 m O := x.md u
      have hm1 := x1.mo
      have g1 := x1.mr.nS
      rw [show 6 * 0 + 1 = 1 from rfl] at g1
      have e : ¬ O.nS < O.nS := by omega
      rw [w_X9_laysCalls_19]
      simp (disch := first | assumption | omega | decide | rfl) only [w_X9_laysCalls_20, w_X9_laysCalls_21, w_X9_laysCalls_24, w_X9_laysCalls_25, w_X9_laysCalls_26, mo_0 hm1, mo_orchard hm1, mt_orchard hm1, ml_orchard hm1, mo_lane hm1, mt_lane hm1, ml_lane hm1, mo_loud hm1, mt_loud hm1, ml_loud hm1, mo_heardBy hm1, mt_heardBy hm1, ml_heardBy hm1, mo_halfBy hm1, mt_halfBy hm1, ml_halfBy hm1, mo_callAs hm1, mt_callAs hm1, ml_callAs hm1, nl_int, nl_ref, nl_null, nl_un, nl_rf, nl_long, isR_ref, isR_null, isR_rf, rf_some, rf_none, rOf_ref, rOf_null, rOf_rf, kn_v, kn_0, true_and, and_true, and_self, tin, inA_x, inA_l, ix_add, ix_addl, ix_ladd, ix_mul, ix_mull, ix_lmul, ix_tn, lt_tn, Nat.reduceLeDiff, Nat.reduceLT, Nat.reduceAdd, Nat.reduceMul, true_or, or_true, ↓reduceIte, aOk, ref_null, null_null, false_or, Option.isSome_some, Option.getD_some, ite_true, ite_false, eq_self, not_false_eq_true, not_true_eq_false, g1, ix_lt, e]
      refine fin h1 _ rfl u ?_
      have := clN_gap (O := O) (p := p) n2 (16 - O.nS) (by omega)
      rw [show 16 * p + O.nS + (16 - O.nS) = 16 * (p + 1) by omega] at this
      rw [this]
      exact lc
    | succ n ih =>
      intro k p h1 hk hp u lc fin
      have x1 : M0 h1 m O := x.md u
      have hm1 := x1.mo
      have g1 := x1.mr.nS
      rw [show 6 * 0 + 1 = 1 from rfl] at g1
      have e : k < O.nS := by omega
      have p1 := x1.mr.ln p hp
      have p2 := x1.mr.ld p hp
      rw [Nat.mul_zero, Nat.zero_add] at p1 p2
      have y1 : MB h1 (m + 53) 0 O.nA B := y.md u (by decide)
      have y5 := y1.snd
      rw [show (0 : Nat) + 5 = 5 from rfl] at y5
      have em : (16 * p + k) % 16 = k := by omega
      have ed : (16 * p + k) / 16 = p := by omega
      have lb := clN_len (O := O) (16 * p + k)
      have nxt : ∀ h2, Md m [58, 59, 60] [130, 131, 137] h h2 → LC h2 m O B (clN O (16 * p + (k + 1))) → Ru (D + 3) 216 109 [.ref m, .int (ix p), .int (ix k)] [] h2 Q := by
        intro h2 u2 l2
        simp (disch := first | assumption | omega | decide | rfl) only [w_X9_laysCalls_109, w_X9_laysCalls_112, nl_int, nl_ref, nl_null, nl_un, nl_rf, nl_long, isR_ref, isR_null, isR_rf, rf_some, rf_none, rOf_ref, rOf_null, rOf_rf, kn_v, kn_0, true_and, and_true, and_self, tin, inA_x, inA_l, ix_add, ix_addl, ix_ladd, ix_mul, ix_mull, ix_lmul, ix_tn, lt_tn, Nat.reduceLeDiff, Nat.reduceLT, Nat.reduceAdd, Nat.reduceMul, true_or, or_true, ↓reduceIte, aOk, ref_null, null_null, false_or, Option.isSome_some, Option.getD_some, ite_true, ite_false, eq_self, not_false_eq_true, not_true_eq_false]
        exact ih (k + 1) p h2 (by omega) hp u2 l2 fin
      rw [show 16 * p + (k + 1) = 16 * p + k + 1 by omega, clN_s] at nxt
      rw [w_X9_laysCalls_19]
      simp (disch := first | assumption | omega | decide | rfl) only [w_X9_laysCalls_20, w_X9_laysCalls_21, w_X9_laysCalls_24, w_X9_laysCalls_25, w_X9_laysCalls_26, w_X9_laysCalls_29, w_X9_laysCalls_30, w_X9_laysCalls_31, w_X9_laysCalls_32, mo_0 hm1, mo_orchard hm1, mt_orchard hm1, ml_orchard hm1, mo_lane hm1, mt_lane hm1, ml_lane hm1, mo_loud hm1, mt_loud hm1, ml_loud hm1, mo_heardBy hm1, mt_heardBy hm1, ml_heardBy hm1, mo_halfBy hm1, mt_halfBy hm1, ml_halfBy hm1, mo_callAs hm1, mt_callAs hm1, ml_callAs hm1, nl_int, nl_ref, nl_null, nl_un, nl_rf, nl_long, isR_ref, isR_null, isR_rf, rf_some, rf_none, rOf_ref, rOf_null, rOf_rf, kn_v, kn_0, true_and, and_true, and_self, tin, inA_x, inA_l, ix_add, ix_addl, ix_ladd, ix_mul, ix_mull, ix_lmul, ix_tn, lt_tn, Nat.reduceLeDiff, Nat.reduceLT, Nat.reduceAdd, Nat.reduceMul, true_or, or_true, ↓reduceIte, aOk, ref_null, null_null, false_or, Option.isSome_some, Option.getD_some, ite_true, ite_false, eq_self, not_false_eq_true, not_true_eq_false, g1, ix_lt, e, cm_isSaid x1 hp e]
      by_cases q : saF O p k = true
      · have c1 : (bz (saF O p k) = 0) = False := by rw [bz_ne]; exact eq_false (by rw [q]; decide)
        have ok : okC O (16 * p + k) = true := by unfold okC; rw [em, ed, q]; simp [e]
        rw [if_pos ok] at nxt
        simp (disch := first | assumption | omega | decide | rfl) only [w_X9_laysCalls_35, nl_int, nl_ref, nl_null, nl_un, nl_rf, nl_long, isR_ref, isR_null, isR_rf, rf_some, rf_none, rOf_ref, rOf_null, rOf_rf, kn_v, kn_0, true_and, and_true, and_self, tin, inA_x, inA_l, ix_add, ix_addl, ix_ladd, ix_mul, ix_mull, ix_lmul, ix_tn, lt_tn, Nat.reduceLeDiff, Nat.reduceLT, Nat.reduceAdd, Nat.reduceMul, true_or, or_true, ↓reduceIte, aOk, ref_null, null_null, false_or, Option.isSome_some, Option.getD_some, ite_true, ite_false, eq_self, not_false_eq_true, not_true_eq_false, c1]
        simp (disch := first | assumption | omega | decide | rfl) only [w_X9_laysCalls_41, w_X9_laysCalls_42, w_X9_laysCalls_43, w_X9_laysCalls_44, w_X9_laysCalls_47, w_X9_laysCalls_48, w_X9_laysCalls_49, w_X9_laysCalls_50, w_X9_laysCalls_53, w_X9_laysCalls_54, w_X9_laysCalls_55, mo_0 hm1, mo_orchard hm1, mt_orchard hm1, ml_orchard hm1, mo_lane hm1, mt_lane hm1, ml_lane hm1, mo_loud hm1, mt_loud hm1, ml_loud hm1, mo_heardBy hm1, mt_heardBy hm1, ml_heardBy hm1, mo_halfBy hm1, mt_halfBy hm1, ml_halfBy hm1, mo_callAs hm1, mt_callAs hm1, ml_callAs hm1, nl_int, nl_ref, nl_null, nl_un, nl_rf, nl_long, isR_ref, isR_null, isR_rf, rf_some, rf_none, rOf_ref, rOf_null, rOf_rf, kn_v, kn_0, true_and, and_true, and_self, tin, inA_x, inA_l, ix_add, ix_addl, ix_ladd, ix_mul, ix_mull, ix_lmul, ix_tn, lt_tn, Nat.reduceLeDiff, Nat.reduceLT, Nat.reduceAdd, Nat.reduceMul, true_or, or_true, ↓reduceIte, aOk, ref_null, null_null, false_or, Option.isSome_some, Option.getD_some, ite_true, ite_false, eq_self, not_false_eq_true, not_true_eq_false, p1, p2, cm_hears (snd := B.snd) x1 e (x.wo.ln p hp) (x.wo.ld p hp) z.snd y5]
        have ew : whF O B.snd k (O.ln p) (O.ld p) = whC O B (16 * p + k) := by unfold whC; rw [em, ed]
        have ee : ecF O B.snd k (O.ln p) (O.ld p) = ecC O B (16 * p + k) := by unfold ecC; rw [em, ed]
        rw [ew, ee]
        have u2 : Md m [58, 59, 60] [130, 131, 137] h1 (sFi (sFi h1 130 m (ix (whC O B (16 * p + k)))) 131 m (ix (ecC O B (16 * p + k)))) := (md_sFi (by decide)).trans (md_sFi (A := [58, 59, 60]) (F := [130, 131, 137]) (by decide)) (fun _ q => q) (fun _ q => q)
        have a1 : Fi (sFi (sFi h1 130 m (ix (whC O B (16 * p + k)))) 131 m (ix (ecC O B (16 * p + k)))) 130 m = ix (whC O B (16 * p + k)) := by rw [Fi_otherf (by decide), Fi_same]
        have a2 : Fi (sFi (sFi h1 130 m (ix (whC O B (16 * p + k)))) 131 m (ix (ecC O B (16 * p + k)))) 131 m = ix (ecC O B (16 * p + k)) := Fi_same
        have a3 : Fi (sFi (sFi h1 130 m (ix (whC O B (16 * p + k)))) 131 m (ix (ecC O B (16 * p + k)))) 137 m = ix (clN O (16 * p + k)).length := by rw [Fi_otherf (by decide), Fi_otherf (by decide)]; exact lc.n
        have a4 : Ai (sFi (sFi h1 130 m (ix (whC O B (16 * p + k)))) 131 m (ix (ecC O B (16 * p + k)))) = Ai h1 := rfl
        revert u2 a1 a2 a3 a4
        generalize sFi (sFi h1 130 m (ix (whC O B (16 * p + k)))) 131 m (ix (ecC O B (16 * p + k))) = h2
        intro u2 a1 a2 a3 a4
        have hm2 := u2.mo hm1
        simp (disch := first | assumption | omega | decide | rfl) only [w_X9_laysCalls_58, w_X9_laysCalls_59, w_X9_laysCalls_62, w_X9_laysCalls_63, w_X9_laysCalls_66, w_X9_laysCalls_67, w_X9_laysCalls_70, w_X9_laysCalls_71, w_X9_laysCalls_72, w_X9_laysCalls_75, w_X9_laysCalls_76, w_X9_laysCalls_79, w_X9_laysCalls_80, w_X9_laysCalls_83, w_X9_laysCalls_84, w_X9_laysCalls_85, w_X9_laysCalls_88, w_X9_laysCalls_89, w_X9_laysCalls_92, w_X9_laysCalls_94, w_X9_laysCalls_95, w_X9_laysCalls_96, w_X9_laysCalls_97, w_X9_laysCalls_98, w_X9_laysCalls_99, w_X9_laysCalls_100, w_X9_laysCalls_101, w_X9_laysCalls_104, w_X9_laysCalls_105, w_X9_laysCalls_106, mo_0 hm2, mo_orchard hm2, mt_orchard hm2, ml_orchard hm2, mo_lane hm2, mt_lane hm2, ml_lane hm2, mo_loud hm2, mt_loud hm2, ml_loud hm2, mo_heardBy hm2, mt_heardBy hm2, ml_heardBy hm2, mo_halfBy hm2, mt_halfBy hm2, ml_halfBy hm2, mo_callAs hm2, mt_callAs hm2, ml_callAs hm2, nl_int, nl_ref, nl_null, nl_un, nl_rf, nl_long, isR_ref, isR_null, isR_rf, rf_some, rf_none, rOf_ref, rOf_null, rOf_rf, kn_v, kn_0, true_and, and_true, and_self, tin, inA_x, inA_l, ix_add, ix_addl, ix_ladd, ix_mul, ix_mull, ix_lmul, ix_tn, lt_tn, Nat.reduceLeDiff, Nat.reduceLT, Nat.reduceAdd, Nat.reduceMul, true_or, or_true, ↓reduceIte, aOk, ref_null, null_null, false_or, Option.isSome_some, Option.getD_some, ite_true, ite_false, eq_self, not_false_eq_true, not_true_eq_false, Tg_sFi, Tg_sFl, Tg_sFr, Tg_sAi, Tg_sAl, Tg_sAr, An_sFi, An_sFl, An_sFr, An_sAi, An_sAl, An_sAr, Fi_sFl, Fi_sFr, Fi_sAi, Fi_sAl, Fi_sAr, Fl_sFi, Fl_sFr, Fl_sAi, Fl_sAl, Fl_sAr, Fr_sFi, Fr_sFl, Fr_sAi, Fr_sAl, Fr_sAr, Ai_sFi, Ai_sFl, Ai_sFr, Ai_sAl, Ai_sAr, Al_sFi, Al_sFl, Al_sFr, Al_sAi, Al_sAr, Ar_sFi, Ar_sFl, Ar_sFr, Ar_sAi, Ar_sAl, Fi_same, Fl_same, Fr_same, Ai_same, Al_same, Ar_same, Fi_otherf, Fl_otherf, Fr_otherf, Ai_other, a1, a2, a3]
        have u3 : Md m [58, 59, 60] [130, 131, 137] h1 (sFi (sAi (sAi (sAi h2 (m + 58) (upd (Ai h2 (m + 58)) (clN O (16 * p + k)).length (ix (whC O B (16 * p + k))))) (m + 59) (upd (Ai h2 (m + 59)) (clN O (16 * p + k)).length (ix (ecC O B (16 * p + k))))) (m + 60) (upd (Ai h2 (m + 60)) (clN O (16 * p + k)).length (ix (16 * p + k)))) 137 m (ix ((clN O (16 * p + k)).length + 1))) := (((u2.trans (md_sAi (A := [58, 59, 60]) (F := [130, 131, 137]) (by decide)) (fun _ q => q) (fun _ q => q)).trans (md_sAi (A := [58, 59, 60]) (F := [130, 131, 137]) (by decide)) (fun _ q => q) (fun _ q => q)).trans (md_sAi (A := [58, 59, 60]) (F := [130, 131, 137]) (by decide)) (fun _ q => q) (fun _ q => q)).trans (md_sFi (A := [58, 59, 60]) (F := [130, 131, 137]) (by decide)) (fun _ q => q) (fun _ q => q)
        refine nxt _ (u.trans u3 (fun _ q => q) (fun _ q => q)) (lc.app u3 Fi_same ?_ ?_ ?_)
        · rw [Ai_sFi, Ai_same, a4]
        · rw [Ai_sFi, Ai_other (by omega), Ai_other (by omega), Ai_same, a4]
        · rw [Ai_sFi, Ai_other (by omega), Ai_same, a4]
      · have c1 : (bz (saF O p k) = 0) = True := by rw [bz_ne]; exact eq_true (Bool.not_eq_true _ ▸ q)
        have ok : ¬ okC O (16 * p + k) = true := by unfold okC; rw [em, ed]; simp [q]
        rw [if_neg ok] at nxt
        simp (disch := first | assumption | omega | decide | rfl) only [w_X9_laysCalls_35, w_X9_laysCalls_38, nl_int, nl_ref, nl_null, nl_un, nl_rf, nl_long, isR_ref, isR_null, isR_rf, rf_some, rf_none, rOf_ref, rOf_null, rOf_rf, kn_v, kn_0, true_and, and_true, and_self, tin, inA_x, inA_l, ix_add, ix_addl, ix_ladd, ix_mul, ix_mull, ix_lmul, ix_tn, lt_tn, Nat.reduceLeDiff, Nat.reduceLT, Nat.reduceAdd, Nat.reduceMul, true_or, or_true, ↓reduceIte, aOk, ref_null, null_null, false_or, Option.isSome_some, Option.getD_some, ite_true, ite_false, eq_self, not_false_eq_true, not_true_eq_false, c1]
        exact nxt h1 u lc
  have k1 : ∀ n p h1 (v2 : Value), nl v2 = true → p + n = O.nP → Md m [58, 59, 60] [130, 131, 137] h h1 → LC h1 m O B (clN O (16 * p)) → Ru (D + 3) 216 7 [.ref m, .int (ix p), v2] [] h1 Q := by
    intro n
    induction n with
    | zero =>
      intro p h1 v2 nv hp u lc
      have ek : p = O.nP := by omega
      subst ek
      have x1 : M0 h1 m O := x.md u
      have hm1 := x1.mo
      have g1 := x1.mr.nP
      rw [show 6 * 0 + 2 = 2 from rfl] at g1
      have e : ¬ O.nP < O.nP := by omega
      rw [w_X9_laysCalls_7]
      simp (disch := first | assumption | omega | decide | rfl) only [w_X9_laysCalls_8, w_X9_laysCalls_9, w_X9_laysCalls_12, w_X9_laysCalls_13, w_X9_laysCalls_14, w_X9_laysCalls_121, mo_0 hm1, mo_orchard hm1, mt_orchard hm1, ml_orchard hm1, mo_lane hm1, mt_lane hm1, ml_lane hm1, mo_loud hm1, mt_loud hm1, ml_loud hm1, mo_heardBy hm1, mt_heardBy hm1, ml_heardBy hm1, mo_halfBy hm1, mt_halfBy hm1, ml_halfBy hm1, mo_callAs hm1, mt_callAs hm1, ml_callAs hm1, nl_int, nl_ref, nl_null, nl_un, nl_rf, nl_long, isR_ref, isR_null, isR_rf, rf_some, rf_none, rOf_ref, rOf_null, rOf_rf, kn_v, kn_0, true_and, and_true, and_self, tin, inA_x, inA_l, ix_add, ix_addl, ix_ladd, ix_mul, ix_mull, ix_lmul, ix_tn, lt_tn, Nat.reduceLeDiff, Nat.reduceLT, Nat.reduceAdd, Nat.reduceMul, true_or, or_true, ↓reduceIte, aOk, ref_null, null_null, false_or, Option.isSome_some, Option.getD_some, ite_true, ite_false, eq_self, not_false_eq_true, not_true_eq_false, g1, ix_lt, e]
      rw [← hQ]
      exact ⟨rfl, u, lc⟩
    | succ n ih =>
      intro p h1 v2 nv hp u lc
      have x1 : M0 h1 m O := x.md u
      have hm1 := x1.mo
      have g1 := x1.mr.nP
      rw [show 6 * 0 + 2 = 2 from rfl] at g1
      have e : p < O.nP := by omega
      rw [w_X9_laysCalls_7]
      simp (disch := first | assumption | omega | decide | rfl) only [w_X9_laysCalls_8, w_X9_laysCalls_9, w_X9_laysCalls_12, w_X9_laysCalls_13, w_X9_laysCalls_14, w_X9_laysCalls_17, w_X9_laysCalls_18, mo_0 hm1, mo_orchard hm1, mt_orchard hm1, ml_orchard hm1, mo_lane hm1, mt_lane hm1, ml_lane hm1, mo_loud hm1, mt_loud hm1, ml_loud hm1, mo_heardBy hm1, mt_heardBy hm1, ml_heardBy hm1, mo_halfBy hm1, mt_halfBy hm1, ml_halfBy hm1, mo_callAs hm1, mt_callAs hm1, ml_callAs hm1, nl_int, nl_ref, nl_null, nl_un, nl_rf, nl_long, isR_ref, isR_null, isR_rf, rf_some, rf_none, rOf_ref, rOf_null, rOf_rf, kn_v, kn_0, true_and, and_true, and_self, tin, inA_x, inA_l, ix_add, ix_addl, ix_ladd, ix_mul, ix_mull, ix_lmul, ix_tn, lt_tn, Nat.reduceLeDiff, Nat.reduceLT, Nat.reduceAdd, Nat.reduceMul, true_or, or_true, ↓reduceIte, aOk, ref_null, null_null, false_or, Option.isSome_some, Option.getD_some, ite_true, ite_false, eq_self, not_false_eq_true, not_true_eq_false, g1, ix_lt, e, ix_0]
      refine k2 O.nS 0 p h1 (by omega) e u lc (fun h2 v3 nv3 u2 l2 => ?_)
      simp (disch := first | assumption | omega | decide | rfl) only [w_X9_laysCalls_115, w_X9_laysCalls_118, nl_int, nl_ref, nl_null, nl_un, nl_rf, nl_long, isR_ref, isR_null, isR_rf, rf_some, rf_none, rOf_ref, rOf_null, rOf_rf, kn_v, kn_0, true_and, and_true, and_self, tin, inA_x, inA_l, ix_add, ix_addl, ix_ladd, ix_mul, ix_mull, ix_lmul, ix_tn, lt_tn, Nat.reduceLeDiff, Nat.reduceLT, Nat.reduceAdd, Nat.reduceMul, true_or, or_true, ↓reduceIte, aOk, ref_null, null_null, false_or, Option.isSome_some, Option.getD_some, ite_true, ite_false, eq_self, not_false_eq_true, not_true_eq_false]
      exact ih (p + 1) h2 v3 nv3 (by omega) u2 l2
  rw [e_X9_laysCalls]
  simp (disch := first | assumption | omega | decide | rfl) only [w_X9_laysCalls_0, w_X9_laysCalls_1, w_X9_laysCalls_2, w_X9_laysCalls_5, w_X9_laysCalls_6, mo_0 x.mo, nl_int, nl_ref, nl_null, nl_un, nl_rf, nl_long, isR_ref, isR_null, isR_rf, rf_some, rf_none, rOf_ref, rOf_null, rOf_rf, kn_v, kn_0, true_and, and_true, and_self, tin, inA_x, inA_l, ix_add, ix_addl, ix_ladd, ix_mul, ix_mull, ix_lmul, ix_tn, lt_tn, Nat.reduceLeDiff, Nat.reduceLT, Nat.reduceAdd, Nat.reduceMul, true_or, or_true, ↓reduceIte, aOk, ref_null, null_null, false_or, Option.isSome_some, Option.getD_some, ite_true, ite_false, eq_self, not_false_eq_true, not_true_eq_false, ix_0]
  refine k1 O.nP 0 _ un rfl (by omega) (md_sFi (by decide)) ⟨?_, fun i hi => absurd hi (by simp [clN]), fun i hi => absurd hi (by simp [clN]), fun i hi => absurd hi (by simp [clN])⟩
  rw [Fi_same]
  rfl
end
