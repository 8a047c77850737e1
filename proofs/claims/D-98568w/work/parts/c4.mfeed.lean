/-! THE MODEL: counts; the tape -/
set_option maxRecDepth 100000
abbrev Tp : Type := Nat × (Nat → Nat)
noncomputable def couF (O : Oc) (S : Sg) (n : Nat) (v : Int32) : Int32 := if v = 0 then ix O.nA else if v = 1 then ix O.nS else if v = 2 then ix O.nP else if v = 3 then ix O.nT else if v = 4 then ix O.nG else if v = 5 then ix O.nB else if v = 6 then ix (pcF S.B.hang 16) else if v = 7 then S.B.day else if v = 8 then S.B.had else if v = 9 then ix S.L.1 else if v = 10 then ix (pcF S.K 16) else if v = 11 then ix S.To.1 else if v = 12 then ix S.c else if v = 13 then ix n else if v = 14 then bz S.B.pk else -1
noncomputable def okc (v : Int32) : Bool := decide (v = 10) || (decide (32 ≤ v ∧ v ≤ 126))
noncomputable def adF (st : Tp) (v : Int32) : Tp := if (decide (st.1 < 1000) && okc v) = true then (st.1 + 1, fun j => if j = st.1 then tn v else st.2 j) else st
noncomputable def bF (w : Int64) (j : Nat) : Int32 := ((w.toUInt64 >>> ((ix (56 - 8 * j)).toInt64.toUInt64 &&& Int64.toUInt64 63)).toInt64 &&& 255).toInt32
noncomputable def fdF (w : Int64) (st : Tp) : Tp := foI (fun st j => adF st (bF w j)) st 8
noncomputable def feF (a b c : Int64) (st : Tp) : Tp := fdF c (fdF b (fdF a st))
def TW (st : Tp) : Prop := (st.1 ≤ 1000) ∧ (∀ j, j < st.1 → st.2 j = 10 ∨ (32 ≤ st.2 j ∧ st.2 j ≤ 126))
theorem TW.le {st : Tp} (z_ : TW st) : st.1 ≤ 1000 := z_.1
theorem TW.ok {st : Tp} (z_ : TW st) : ∀ j, j < st.1 → st.2 j = 10 ∨ (32 ≤ st.2 j ∧ st.2 j ≤ 126) := z_.2
def TM (h : AH) (m : Nat) (st : Tp) : Prop := (Fi h 61 m = ix st.1) ∧ (∀ j, j < st.1 → Ai h (m + 1) j = ix (st.2 j))
theorem TM.n {h : AH} {m : Nat} {st : Tp} (z_ : TM h m st) : Fi h 61 m = ix st.1 := z_.1
theorem TM.at {h : AH} {m : Nat} {st : Tp} (z_ : TM h m st) : ∀ j, j < st.1 → Ai h (m + 1) j = ix (st.2 j) := z_.2
section
variable {d D m a b c p q s n k i j K T lane loud G : Nat} {h h' h2 : AH} {Q : Rs → AH → Prop} {O : Oc} {S : Sg} {A F : List Nat} {u v w : Int32} {st : Tp} {wa wb wc : Int64}
theorem okc_ex (q : okc v = true) : ∃ k, v = ix k ∧ (k = 10 ∨ (32 ≤ k ∧ k ≤ 126)) := by
  unfold okc at q
  rw [Bool.or_eq_true, decide_eq_true_eq, decide_eq_true_eq] at q
  rcases q with q | q
  · exact ⟨10, q, Or.inl rfl⟩
  · obtain ⟨k, h1, h2, e⟩ := vr_ex (lo := 32) (hi := 126) (by decide) q (by decide)
    exact ⟨k, e, Or.inr ⟨h1, h2⟩⟩
theorem tw_ad (t : TW st) : TW (adF st v) := by
  unfold adF
  by_cases q : (decide (st.1 < 1000) && okc v) = true
  · rw [if_pos q]
    rw [Bool.and_eq_true, decide_eq_true_eq] at q
    obtain ⟨k, rfl, hk⟩ := okc_ex q.2
    refine ⟨by show st.1 + 1 ≤ 1000; omega, fun j hj => ?_⟩
    have hj : j < st.1 + 1 := hj
    have e : ∀ z, z = (if j = st.1 then tn (ix k) else st.2 j) → z = 10 ∨ (32 ≤ z ∧ z ≤ 126) := by
      rintro z rfl
      by_cases qj : j = st.1
      · rw [if_pos qj, tn_ix (by omega)]; exact hk
      · rw [if_neg qj]; exact t.ok j (by omega)
    exact e _ rfl
  · rw [if_neg q]; exact t
theorem foI_add {α : Type} {f : α → Nat → α} {z : α} {n : Nat} : ∀ k, foI f z (n + k) = foI (fun st j => f st (n + j)) (foI f z n) k
  | 0 => rfl
  | k + 1 => by rw [← Nat.add_assoc, foI, foI, foI_add k]
theorem foI_congr {α : Type} {f g : α → Nat → α} {z : α} : ∀ n, (∀ k, k < n → ∀ st, f st k = g st k) → foI f z n = foI g z n
  | 0, _ => rfl
  | n + 1, hh => by rw [foI, foI, foI_congr n (fun k hk => hh k (by omega)), hh n (by omega)]
theorem foI_inv {α : Type} {P : α → Prop} {f : α → Nat → α} {z : α} (hz : P z) (hf : ∀ st k, P st → P (f st k)) : ∀ n, P (foI f z n)
  | 0 => hz
  | n + 1 => hf _ _ (foI_inv hz hf n)
theorem tw_fd {w : Int64} (t : TW st) : TW (fdF w st) := foI_inv t (fun _ _ q => tw_ad q) 8
theorem tw_fe (t : TW st) : TW (feF wa wb wc st) := tw_fd (tw_fd (tw_fd t))
noncomputable def fe24 (a b c : Int64) (st : Tp) (n : Nat) : Tp := foI (fun st k => adF st (bF (if k < 8 then a else if k < 16 then b else c) (k % 8))) st n
theorem fe24_eq : fe24 wa wb wc st 24 = feF wa wb wc st := by
  unfold fe24 feF fdF
  rw [show 24 = 16 + 8 from rfl, foI_add, show 16 = 8 + 8 from rfl, foI_add]
  rw [foI_congr (f := fun st k => adF st (bF (if k < 8 then wa else if k < 8 + 8 then wb else wc) (k % 8))) (g := fun st j => adF st (bF wa j)) 8 (fun k hk st => by rw [if_pos hk, Nat.mod_eq_of_lt hk])]
  rw [foI_congr (f := fun st j => adF st (bF (if 8 + j < 8 then wa else if 8 + j < 8 + 8 then wb else wc) ((8 + j) % 8))) (g := fun st j => adF st (bF wb j)) 8 (fun k hk st => by rw [if_neg (by omega), if_pos (by omega), show (8 + k) % 8 = k by omega])]
  rw [foI_congr (f := fun st j => adF st (bF (if 8 + 8 + j < 8 then wa else if 8 + 8 + j < 8 + 8 then wb else wc) ((8 + 8 + j) % 8))) (g := fun st j => adF st (bF wc j)) 8 (fun k hk st => by rw [if_neg (by omega), if_neg (by omega), show (8 + 8 + k) % 8 = k by omega])]
theorem sh24 : ∀ k : Fin 24, (56 : Int32) - 8 * (ix k.1 &&& 7) = ix (56 - 8 * (k.1 % 8)) := by decide
theorem TM.md (x : TM h m st) (u : Md m A F h h') (h1 : 1 ∉ A) (h2 : 61 ∉ F) : TM h' m st := by
  unfold TM
  rw [u.ai h1, u.fi h2]
  exact x
theorem cm_feed (hm : MO h m) (t : TM h m st) (tw : TW st) : Ca (D + 1) 136 [.ref m, .long wa, .long wb, .long wc] h (fun r h' => r = .inl (some (.int (ix (feF wa wb wc st).1))) ∧ Md m [1] [60, 61] h h' ∧ Fi h' 60 m = 0 ∧ TM h' m (feF wa wb wc st)) := by
  generalize hQ : (fun r h' => r = .inl (some (.int (ix (feF wa wb wc st).1))) ∧ Md m [1] [60, 61] h h' ∧ Fi h' 60 m = 0 ∧ TM h' m (feF wa wb wc st) : Rs → AH → Prop) = Q
  rw [e_X9_feed]
  simp (disch := first | assumption | omega | decide | rfl) only [w_X9_feed_0, w_X9_feed_1, w_X9_feed_2, w_X9_feed_5, w_X9_feed_6, nl_int, nl_ref, nl_null, nl_un, nl_rf, nl_long, isR_ref, isR_null, isR_rf, rf_some, rf_none, rOf_ref, rOf_null, rOf_rf, kn_v, kn_0, true_and, and_true, and_self, tin, inA_x, inA_l, ix_add, ix_addl, ix_ladd, ix_mul, ix_mull, ix_lmul, ix_tn, lt_tn, Nat.reduceLeDiff, Nat.reduceLT, Nat.reduceAdd, Nat.reduceMul, true_or, or_true, ↓reduceIte, aOk, ref_null, null_null, false_or, Option.isSome_some, Option.getD_some, ite_true, ite_false, eq_self, not_false_eq_true, not_true_eq_false, bz_ne, bz_1, reduceCtorEq, Bool.not_true, Bool.not_false, mo_0 hm]
  have u1 : Md m [1] [60, 61] h (sFi h 60 m 0) := md_sFi (by decide)
  have t1 : TM (sFi h 60 m 0) m st := t.md (md_sFi (A := []) (F := [60]) (by decide)) (by decide) (by decide)
  have f1 : Fi (sFi h 60 m 0) 60 m = 0 := Fi_same
  revert u1 t1 f1
  generalize sFi h 60 m 0 = h1
  intro u1 t1 f1
  refine lp (P := fun j => ∀ h2 (v8 v9 v10 : Value), Md m [1] [60, 61] h h2 → Fi h2 60 m = 0 → TM h2 m (fe24 wa wb wc st j) → TW (fe24 wa wb wc st j) → Ru D 136 8 [.ref m, .long wa, un, .long wb, un, .long wc, un, .int (ix j), v8, v9, v10] [] h2 Q) (N := 24) ?_ ?_ h1 un un un u1 f1 t1 tw
  · intro h2 v8 v9 v10 u2 f2 t2 w2
    have hm2 := u2.mo hm
    have e : (ix 24 < 24) = False := eq_false (by decide)
    rw [w_X9_feed_8]
    simp (disch := first | assumption | omega | decide | rfl) only [w_X9_feed_10, w_X9_feed_12, w_X9_feed_120, w_X9_feed_121, w_X9_feed_124, nl_int, nl_ref, nl_null, nl_un, nl_rf, nl_long, isR_ref, isR_null, isR_rf, rf_some, rf_none, rOf_ref, rOf_null, rOf_rf, kn_v, kn_0, true_and, and_true, and_self, tin, inA_x, inA_l, ix_add, ix_addl, ix_ladd, ix_mul, ix_mull, ix_lmul, ix_tn, lt_tn, Nat.reduceLeDiff, Nat.reduceLT, Nat.reduceAdd, Nat.reduceMul, true_or, or_true, ↓reduceIte, aOk, ref_null, null_null, false_or, Option.isSome_some, Option.getD_some, ite_true, ite_false, eq_self, not_false_eq_true, not_true_eq_false, bz_ne, bz_1, reduceCtorEq, Bool.not_true, Bool.not_false, mo_0 hm2, e, t2.n]
    rw [fe24_eq] at t2 ⊢
    rw [← hQ]
    exact ⟨rfl, u2, f2, t2⟩
  · intro j hj nx h2 v8 v9 v10 u2 f2 t2 w2
    have hm2 := u2.mo hm
    have e : (ix j < 24) = True := ltT (n := 24) hj (by decide)
    have es : fe24 wa wb wc st (j + 1) = adF (fe24 wa wb wc st j) (bF (if j < 8 then wa else if j < 16 then wb else wc) (j % 8)) := by unfold fe24; rw [foI]
    rw [es] at nx
    have sh := sh24 ⟨j, hj⟩
    dsimp only at sh
    have nx := fun h2 v8 v9 v10 a b c => nx h2 v8 v9 v10 a b c (tw_ad w2)
    have st1 : Ru D 136 8 [.ref m, .long wa, un, .long wb, un, .long wc, un, .int (ix j), v8, v9, v10] [] h2 Q = Ru D 136 62 [.ref m, .long wa, un, .long wb, un, .long wc, un, .int (ix j), .long (if j < 8 then wa else if j < 16 then wb else wc), un, .int (bF (if j < 8 then wa else if j < 16 then wb else wc) (j % 8))] [] h2 Q := by
      rw [w_X9_feed_8]
      by_cases q1 : j < 8
      · have d1 : (j < 8) = True := eq_true q1
        simp (disch := first | assumption | omega | decide | rfl) only [w_X9_feed_10, w_X9_feed_12, w_X9_feed_15, w_X9_feed_17, w_X9_feed_19, w_X9_feed_22, w_X9_feed_23, w_X9_feed_39, w_X9_feed_41, w_X9_feed_43, w_X9_feed_45, w_X9_feed_47, w_X9_feed_49, w_X9_feed_51, w_X9_feed_52, w_X9_feed_53, w_X9_feed_54, w_X9_feed_55, w_X9_feed_58, w_X9_feed_59, w_X9_feed_60, nl_int, nl_ref, nl_null, nl_un, nl_rf, nl_long, isR_ref, isR_null, isR_rf, rf_some, rf_none, rOf_ref, rOf_null, rOf_rf, kn_v, kn_0, true_and, and_true, and_self, tin, inA_x, inA_l, ix_add, ix_addl, ix_ladd, ix_mul, ix_mull, ix_lmul, ix_tn, lt_tn, Nat.reduceLeDiff, Nat.reduceLT, Nat.reduceAdd, Nat.reduceMul, true_or, or_true, ↓reduceIte, aOk, ref_null, null_null, false_or, Option.isSome_some, Option.getD_some, ite_true, ite_false, eq_self, not_false_eq_true, not_true_eq_false, bz_ne, bz_1, reduceCtorEq, Bool.not_true, Bool.not_false, e, ix_ltl, d1, sh]
        rfl
      · have d1 : (j < 8) = False := eq_false q1
        by_cases q2 : j < 16
        · have d2 : (j < 16) = True := eq_true q2
          simp (disch := first | assumption | omega | decide | rfl) only [w_X9_feed_10, w_X9_feed_12, w_X9_feed_15, w_X9_feed_17, w_X9_feed_19, w_X9_feed_26, w_X9_feed_28, w_X9_feed_30, w_X9_feed_33, w_X9_feed_34, w_X9_feed_39, w_X9_feed_41, w_X9_feed_43, w_X9_feed_45, w_X9_feed_47, w_X9_feed_49, w_X9_feed_51, w_X9_feed_52, w_X9_feed_53, w_X9_feed_54, w_X9_feed_55, w_X9_feed_58, w_X9_feed_59, w_X9_feed_60, nl_int, nl_ref, nl_null, nl_un, nl_rf, nl_long, isR_ref, isR_null, isR_rf, rf_some, rf_none, rOf_ref, rOf_null, rOf_rf, kn_v, kn_0, true_and, and_true, and_self, tin, inA_x, inA_l, ix_add, ix_addl, ix_ladd, ix_mul, ix_mull, ix_lmul, ix_tn, lt_tn, Nat.reduceLeDiff, Nat.reduceLT, Nat.reduceAdd, Nat.reduceMul, true_or, or_true, ↓reduceIte, aOk, ref_null, null_null, false_or, Option.isSome_some, Option.getD_some, ite_true, ite_false, eq_self, not_false_eq_true, not_true_eq_false, bz_ne, bz_1, reduceCtorEq, Bool.not_true, Bool.not_false, e, ix_ltl, d1, d2, sh]
          rfl
        · have d2 : (j < 16) = False := eq_false q2
          simp (disch := first | assumption | omega | decide | rfl) only [w_X9_feed_10, w_X9_feed_12, w_X9_feed_15, w_X9_feed_17, w_X9_feed_19, w_X9_feed_26, w_X9_feed_28, w_X9_feed_30, w_X9_feed_37, w_X9_feed_39, w_X9_feed_41, w_X9_feed_43, w_X9_feed_45, w_X9_feed_47, w_X9_feed_49, w_X9_feed_51, w_X9_feed_52, w_X9_feed_53, w_X9_feed_54, w_X9_feed_55, w_X9_feed_58, w_X9_feed_59, w_X9_feed_60, nl_int, nl_ref, nl_null, nl_un, nl_rf, nl_long, isR_ref, isR_null, isR_rf, rf_some, rf_none, rOf_ref, rOf_null, rOf_rf, kn_v, kn_0, true_and, and_true, and_self, tin, inA_x, inA_l, ix_add, ix_addl, ix_ladd, ix_mul, ix_mull, ix_lmul, ix_tn, lt_tn, Nat.reduceLeDiff, Nat.reduceLT, Nat.reduceAdd, Nat.reduceMul, true_or, or_true, ↓reduceIte, aOk, ref_null, null_null, false_or, Option.isSome_some, Option.getD_some, ite_true, ite_false, eq_self, not_false_eq_true, not_true_eq_false, bz_ne, bz_1, reduceCtorEq, Bool.not_true, Bool.not_false, e, ix_ltl, d1, d2, sh]
          rfl
    rw [st1]
    clear st1 sh
    revert nx t2 w2
    generalize fe24 wa wb wc st j = s2
    generalize bF (if j < 8 then wa else if j < 16 then wb else wc) (j % 8) = bv
    intro t2 w2 nx
    have n2 := w2.le
    have jn : ∀ h3 v8, Md m [1] [60, 61] h h3 → Fi h3 60 m = 0 → TM h3 m (adF s2 bv) → Ru D 136 114 [.ref m, .long wa, un, .long wb, un, .long wc, un, .int (ix j), v8, un, .int bv] [] h3 Q := by
      intro h3 v8 a b c
      simp (disch := first | assumption | omega | decide | rfl) only [w_X9_feed_114, w_X9_feed_117, nl_int, nl_ref, nl_null, nl_un, nl_rf, nl_long, isR_ref, isR_null, isR_rf, rf_some, rf_none, rOf_ref, rOf_null, rOf_rf, kn_v, kn_0, true_and, and_true, and_self, tin, inA_x, inA_l, ix_add, ix_addl, ix_ladd, ix_mul, ix_mull, ix_lmul, ix_tn, lt_tn, Nat.reduceLeDiff, Nat.reduceLT, Nat.reduceAdd, Nat.reduceMul, true_or, or_true, ↓reduceIte, aOk, ref_null, null_null, false_or, Option.isSome_some, Option.getD_some, ite_true, ite_false, eq_self, not_false_eq_true, not_true_eq_false, bz_ne, bz_1, reduceCtorEq, Bool.not_true, Bool.not_false]
      exact nx h3 _ _ _ a b c
    by_cases q1 : s2.1 < 1000
    · have d1 : (s2.1 < 1000) = True := eq_true q1
      have store : okc bv = true → Ru D 136 93 [.ref m, .long wa, un, .long wb, un, .long wc, un, .int (ix j), .long (if j < 8 then wa else if j < 16 then wb else wc), un, .int bv] [] h2 Q := by
        intro q
        have ea : adF s2 bv = (s2.1 + 1, fun j => if j = s2.1 then tn bv else s2.2 j) := by unfold adF; rw [decide_eq_true q1, q]; rfl
        rw [ea] at jn
        obtain ⟨k, rfl, hk⟩ := okc_ex q
        simp (disch := first | assumption | omega | decide | rfl) only [w_X9_feed_93, w_X9_feed_94, w_X9_feed_97, w_X9_feed_98, w_X9_feed_101, w_X9_feed_103, nl_int, nl_ref, nl_null, nl_un, nl_rf, nl_long, isR_ref, isR_null, isR_rf, rf_some, rf_none, rOf_ref, rOf_null, rOf_rf, kn_v, kn_0, true_and, and_true, and_self, tin, inA_x, inA_l, ix_add, ix_addl, ix_ladd, ix_mul, ix_mull, ix_lmul, ix_tn, lt_tn, Nat.reduceLeDiff, Nat.reduceLT, Nat.reduceAdd, Nat.reduceMul, true_or, or_true, ↓reduceIte, aOk, ref_null, null_null, false_or, Option.isSome_some, Option.getD_some, ite_true, ite_false, eq_self, not_false_eq_true, not_true_eq_false, bz_ne, bz_1, reduceCtorEq, Bool.not_true, Bool.not_false, mo_0 hm2, mo_tape hm2, mt_tape hm2, ml_tape hm2, t2.n]
        have u3 : Md m [1] [60, 61] h (sAi h2 (m + 1) (upd (Ai h2 (m + 1)) s2.1 (ix k))) := u2.sAi (by decide)
        have f3 : Fi (sAi h2 (m + 1) (upd (Ai h2 (m + 1)) s2.1 (ix k))) 60 m = 0 := f2
        have n3 : Fi (sAi h2 (m + 1) (upd (Ai h2 (m + 1)) s2.1 (ix k))) 61 m = ix s2.1 := t2.n
        have g3 : Ai (sAi h2 (m + 1) (upd (Ai h2 (m + 1)) s2.1 (ix k))) (m + 1) = upd (Ai h2 (m + 1)) s2.1 (ix k) := Ai_same
        revert u3 f3 n3 g3
        generalize sAi h2 (m + 1) (upd (Ai h2 (m + 1)) s2.1 (ix k)) = h3
        intro u3 f3 n3 g3
        have hm3 := u3.mo hm
        simp (disch := first | assumption | omega | decide | rfl) only [w_X9_feed_104, w_X9_feed_105, w_X9_feed_106, w_X9_feed_109, w_X9_feed_110, w_X9_feed_111, nl_int, nl_ref, nl_null, nl_un, nl_rf, nl_long, isR_ref, isR_null, isR_rf, rf_some, rf_none, rOf_ref, rOf_null, rOf_rf, kn_v, kn_0, true_and, and_true, and_self, tin, inA_x, inA_l, ix_add, ix_addl, ix_ladd, ix_mul, ix_mull, ix_lmul, ix_tn, lt_tn, Nat.reduceLeDiff, Nat.reduceLT, Nat.reduceAdd, Nat.reduceMul, true_or, or_true, ↓reduceIte, aOk, ref_null, null_null, false_or, Option.isSome_some, Option.getD_some, ite_true, ite_false, eq_self, not_false_eq_true, not_true_eq_false, bz_ne, bz_1, reduceCtorEq, Bool.not_true, Bool.not_false, mo_0 hm3, n3]
        refine jn _ _ (u3.sFi (by decide)) (by rw [Fi_otherf (by decide)]; exact f3) ⟨Fi_same, fun i hi => ?_⟩
        have hi : i < s2.1 + 1 := hi
        rw [Ai_sFi, g3]
        show _ = ix (if i = s2.1 then tn (ix k) else s2.2 i)
        by_cases qi : i = s2.1
        · rw [qi, upd_s, if_pos rfl, tn_ix (by omega)]
        · rw [upd_n qi, if_neg qi]; exact t2.at i (by omega)
      have skip : okc bv = false → Ru D 136 114 [.ref m, .long wa, un, .long wb, un, .long wc, un, .int (ix j), .long (if j < 8 then wa else if j < 16 then wb else wc), un, .int bv] [] h2 Q := by
        intro q
        have ea : adF s2 bv = s2 := by unfold adF; rw [q, Bool.and_false]; rfl
        rw [ea] at jn
        exact jn h2 _ u2 f2 t2
      clear jn nx
      unfold okc at store skip
      by_cases q2 : bv = 10
      · have d2 : (bv = 10) = True := eq_true q2
        simp (disch := first | assumption | omega | decide | rfl) only [w_X9_feed_62, w_X9_feed_63, w_X9_feed_66, w_X9_feed_69, w_X9_feed_72, w_X9_feed_74, w_X9_feed_76, nl_int, nl_ref, nl_null, nl_un, nl_rf, nl_long, isR_ref, isR_null, isR_rf, rf_some, rf_none, rOf_ref, rOf_null, rOf_rf, kn_v, kn_0, true_and, and_true, and_self, tin, inA_x, inA_l, ix_add, ix_addl, ix_ladd, ix_mul, ix_mull, ix_lmul, ix_tn, lt_tn, Nat.reduceLeDiff, Nat.reduceLT, Nat.reduceAdd, Nat.reduceMul, true_or, or_true, ↓reduceIte, aOk, ref_null, null_null, false_or, Option.isSome_some, Option.getD_some, ite_true, ite_false, eq_self, not_false_eq_true, not_true_eq_false, bz_ne, bz_1, reduceCtorEq, Bool.not_true, Bool.not_false, mo_0 hm2, t2.n, ix_ltl, d1, d2]
        exact store (by rw [decide_eq_true q2]; rfl)
      · have d2 : (bv = 10) = False := eq_false q2
        rw [decide_eq_false q2, Bool.false_or] at store skip
        by_cases q3 : bv < 32
        · simp (disch := first | assumption | omega | decide | rfl) only [w_X9_feed_62, w_X9_feed_63, w_X9_feed_66, w_X9_feed_69, w_X9_feed_72, w_X9_feed_74, w_X9_feed_76, w_X9_feed_79, w_X9_feed_81, w_X9_feed_83, nl_int, nl_ref, nl_null, nl_un, nl_rf, nl_long, isR_ref, isR_null, isR_rf, rf_some, rf_none, rOf_ref, rOf_null, rOf_rf, kn_v, kn_0, true_and, and_true, and_self, tin, inA_x, inA_l, ix_add, ix_addl, ix_ladd, ix_mul, ix_mull, ix_lmul, ix_tn, lt_tn, Nat.reduceLeDiff, Nat.reduceLT, Nat.reduceAdd, Nat.reduceMul, true_or, or_true, ↓reduceIte, aOk, ref_null, null_null, false_or, Option.isSome_some, Option.getD_some, ite_true, ite_false, eq_self, not_false_eq_true, not_true_eq_false, bz_ne, bz_1, reduceCtorEq, Bool.not_true, Bool.not_false, mo_0 hm2, t2.n, ix_ltl, d1, d2, q3]
          exact skip (decide_eq_false (fun e => Int32.not_le.mpr q3 e.1))
        · by_cases q4 : 126 < bv
          · simp (disch := first | assumption | omega | decide | rfl) only [w_X9_feed_62, w_X9_feed_63, w_X9_feed_66, w_X9_feed_69, w_X9_feed_72, w_X9_feed_74, w_X9_feed_76, w_X9_feed_79, w_X9_feed_81, w_X9_feed_83, w_X9_feed_86, w_X9_feed_88, w_X9_feed_90, nl_int, nl_ref, nl_null, nl_un, nl_rf, nl_long, isR_ref, isR_null, isR_rf, rf_some, rf_none, rOf_ref, rOf_null, rOf_rf, kn_v, kn_0, true_and, and_true, and_self, tin, inA_x, inA_l, ix_add, ix_addl, ix_ladd, ix_mul, ix_mull, ix_lmul, ix_tn, lt_tn, Nat.reduceLeDiff, Nat.reduceLT, Nat.reduceAdd, Nat.reduceMul, true_or, or_true, ↓reduceIte, aOk, ref_null, null_null, false_or, Option.isSome_some, Option.getD_some, ite_true, ite_false, eq_self, not_false_eq_true, not_true_eq_false, bz_ne, bz_1, reduceCtorEq, Bool.not_true, Bool.not_false, mo_0 hm2, t2.n, ix_ltl, d1, d2, q3, q4]
            exact skip (decide_eq_false (fun e => Int32.not_le.mpr q4 e.2))
          · simp (disch := first | assumption | omega | decide | rfl) only [w_X9_feed_62, w_X9_feed_63, w_X9_feed_66, w_X9_feed_69, w_X9_feed_72, w_X9_feed_74, w_X9_feed_76, w_X9_feed_79, w_X9_feed_81, w_X9_feed_83, w_X9_feed_86, w_X9_feed_88, w_X9_feed_90, nl_int, nl_ref, nl_null, nl_un, nl_rf, nl_long, isR_ref, isR_null, isR_rf, rf_some, rf_none, rOf_ref, rOf_null, rOf_rf, kn_v, kn_0, true_and, and_true, and_self, tin, inA_x, inA_l, ix_add, ix_addl, ix_ladd, ix_mul, ix_mull, ix_lmul, ix_tn, lt_tn, Nat.reduceLeDiff, Nat.reduceLT, Nat.reduceAdd, Nat.reduceMul, true_or, or_true, ↓reduceIte, aOk, ref_null, null_null, false_or, Option.isSome_some, Option.getD_some, ite_true, ite_false, eq_self, not_false_eq_true, not_true_eq_false, bz_ne, bz_1, reduceCtorEq, Bool.not_true, Bool.not_false, mo_0 hm2, t2.n, ix_ltl, d1, d2, q3, q4]
            exact store (decide_eq_true ⟨Int32.not_lt.mp q3, Int32.not_lt.mp q4⟩)
    · have d1 : (s2.1 < 1000) = False := eq_false q1
      have ea : adF s2 bv = s2 := by unfold adF; rw [decide_eq_false q1, Bool.false_and]; rfl
      rw [ea] at jn
      simp (disch := first | assumption | omega | decide | rfl) only [w_X9_feed_62, w_X9_feed_63, w_X9_feed_66, w_X9_feed_69, nl_int, nl_ref, nl_null, nl_un, nl_rf, nl_long, isR_ref, isR_null, isR_rf, rf_some, rf_none, rOf_ref, rOf_null, rOf_rf, kn_v, kn_0, true_and, and_true, and_self, tin, inA_x, inA_l, ix_add, ix_addl, ix_ladd, ix_mul, ix_mull, ix_lmul, ix_tn, lt_tn, Nat.reduceLeDiff, Nat.reduceLT, Nat.reduceAdd, Nat.reduceMul, true_or, or_true, ↓reduceIte, aOk, ref_null, null_null, false_or, Option.isSome_some, Option.getD_some, ite_true, ite_false, eq_self, not_false_eq_true, not_true_eq_false, bz_ne, bz_1, reduceCtorEq, Bool.not_true, Bool.not_false, mo_0 hm2, t2.n, ix_ltl, d1]
      exact jn h2 _ u2 f2 t2
theorem cm_count (x : MS h m O S) (t : Fi h 61 m = ix n) : Ca (D + 2) 242 [.ref m, .int v] h (fun r h' => r = .inl (some (.int (couF O S n v))) ∧ Md m [] [60] h h' ∧ Fi h' 60 m = 0) := by
  have hh := x.wb.lt x.x.wo
  have hK : S.K < 65536 := Nat.lt_of_lt_of_le x.k.kl (by decide)
  generalize hQ : (fun r h' => r = .inl (some (.int (couF O S n v))) ∧ Md m [] [60] h h' ∧ Fi h' 60 m = 0 : Rs → AH → Prop) = Q
  rw [e_X9_count]
  simp (disch := first | assumption | omega | decide | rfl) only [w_X9_count_0, w_X9_count_1, w_X9_count_2, w_X9_count_5, w_X9_count_6, w_X9_count_7, w_X9_count_9, nl_int, nl_ref, nl_null, nl_un, nl_rf, nl_long, isR_ref, isR_null, isR_rf, rf_some, rf_none, rOf_ref, rOf_null, rOf_rf, kn_v, kn_0, true_and, and_true, and_self, tin, inA_x, inA_l, ix_add, ix_addl, ix_ladd, ix_mul, ix_mull, ix_lmul, ix_tn, lt_tn, Nat.reduceLeDiff, Nat.reduceLT, Nat.reduceAdd, Nat.reduceMul, true_or, or_true, ↓reduceIte, aOk, ref_null, null_null, false_or, Option.isSome_some, Option.getD_some, ite_true, ite_false, eq_self, not_false_eq_true, not_true_eq_false, bz_ne, bz_1, reduceCtorEq, Bool.not_true, Bool.not_false, mo_0 x.x.mo, cm_within]
  have u1 : Md m [] [60] h (sFi h 60 m 0) := md_sFi (by decide)
  have f1 : Fi (sFi h 60 m 0) 60 m = 0 := Fi_same
  revert u1 f1
  generalize sFi h 60 m 0 = h1
  intro u1 f1
  have x1 : MS h1 m O S := x.md u1
  have t1 : Fi h1 61 m = ix n := by rw [u1.fi (by decide)]; exact t
  have hm1 := x1.x.mo
  have fin : ∀ r : Int32, r = couF O S n v → Q (.inl (some (.int r))) h1 := fun r e => by
    rw [← hQ, e]; exact ⟨rfl, u1, f1⟩
  by_cases q : 0 ≤ v ∧ v ≤ 14
  · have c1 : decide (0 ≤ v ∧ v ≤ 14) = true := decide_eq_true q
    obtain ⟨k, -, hk, rfl⟩ := vr_ex (lo := 0) (hi := 14) (by decide) q (by decide)
    have a6 : (ix k < 6) = (k < 6) := ix_ltl (n := 6) (by omega) (by decide)
    have a9 : (ix k < 9) = (k < 9) := ix_ltl (n := 9) (by omega) (by decide)
    have a12 : (ix k < 12) = (k < 12) := ix_ltl (n := 12) (by omega) (by decide)
    have b6 : (ix k = 6) = (k = 6) := ix_eql (n := 6) (by omega) (by decide)
    have b7 : (ix k = 7) = (k = 7) := ix_eql (n := 7) (by omega) (by decide)
    have b9 : (ix k = 9) = (k = 9) := ix_eql (n := 9) (by omega) (by decide)
    have b10 : (ix k = 10) = (k = 10) := ix_eql (n := 10) (by omega) (by decide)
    have b12 : (ix k = 12) = (k = 12) := ix_eql (n := 12) (by omega) (by decide)
    have b13 : (ix k = 13) = (k = 13) := ix_eql (n := 13) (by omega) (by decide)
    have bb := fun Q => cm_bits (D := D) (h := h1) (Q := Q) (show S.B.hang < 65536 by omega)
    have bk := fun Q => cm_bits (D := D) (h := h1) (Q := Q) hK
    rcases (show k = 0 ∨ k = 1 ∨ k = 2 ∨ k = 3 ∨ k = 4 ∨ k = 5 ∨ k = 6 ∨ k = 7 ∨ k = 8 ∨ k = 9 ∨ k = 10 ∨ k = 11 ∨ k = 12 ∨ k = 13 ∨ k = 14 by omega) with rfl | rfl | rfl | rfl | rfl | rfl | rfl | rfl | rfl | rfl | rfl | rfl | rfl | rfl | rfl
    · simp (disch := first | assumption | omega | decide | rfl) only [w_X9_count_12, w_X9_count_15, w_X9_count_16, w_X9_count_17, w_X9_count_18, w_X9_count_20, w_X9_count_23, w_X9_count_24, w_X9_count_27, w_X9_count_28, w_X9_count_29, nl_int, nl_ref, nl_null, nl_un, nl_rf, nl_long, isR_ref, isR_null, isR_rf, rf_some, rf_none, rOf_ref, rOf_null, rOf_rf, kn_v, kn_0, true_and, and_true, and_self, tin, inA_x, inA_l, ix_add, ix_addl, ix_ladd, ix_mul, ix_mull, ix_lmul, ix_tn, lt_tn, Nat.reduceLeDiff, Nat.reduceLT, Nat.reduceAdd, Nat.reduceMul, true_or, or_true, ↓reduceIte, aOk, ref_null, null_null, false_or, Option.isSome_some, Option.getD_some, ite_true, ite_false, eq_self, not_false_eq_true, not_true_eq_false, bz_ne, bz_1, reduceCtorEq, Bool.not_true, Bool.not_false, c1, a6, mo_0 hm1, mo_orchard hm1, mt_orchard hm1, ml_orchard hm1, mo_s hm1, mt_s hm1, ml_s hm1, mo_lines hm1, mt_lines hm1, ml_lines hm1, mo_liesKnown hm1, mt_liesKnown hm1, ml_liesKnown hm1, mo_tolds hm1, mt_tolds hm1, ml_tolds hm1, x1.x.aA]
      exact fin _ rfl
    · simp (disch := first | assumption | omega | decide | rfl) only [w_X9_count_12, w_X9_count_15, w_X9_count_16, w_X9_count_17, w_X9_count_18, w_X9_count_20, w_X9_count_23, w_X9_count_24, w_X9_count_27, w_X9_count_28, w_X9_count_29, nl_int, nl_ref, nl_null, nl_un, nl_rf, nl_long, isR_ref, isR_null, isR_rf, rf_some, rf_none, rOf_ref, rOf_null, rOf_rf, kn_v, kn_0, true_and, and_true, and_self, tin, inA_x, inA_l, ix_add, ix_addl, ix_ladd, ix_mul, ix_mull, ix_lmul, ix_tn, lt_tn, Nat.reduceLeDiff, Nat.reduceLT, Nat.reduceAdd, Nat.reduceMul, true_or, or_true, ↓reduceIte, aOk, ref_null, null_null, false_or, Option.isSome_some, Option.getD_some, ite_true, ite_false, eq_self, not_false_eq_true, not_true_eq_false, bz_ne, bz_1, reduceCtorEq, Bool.not_true, Bool.not_false, c1, a6, mo_0 hm1, mo_orchard hm1, mt_orchard hm1, ml_orchard hm1, mo_s hm1, mt_s hm1, ml_s hm1, mo_lines hm1, mt_lines hm1, ml_lines hm1, mo_liesKnown hm1, mt_liesKnown hm1, ml_liesKnown hm1, mo_tolds hm1, mt_tolds hm1, ml_tolds hm1, x1.x.aS]
      exact fin _ rfl
    · simp (disch := first | assumption | omega | decide | rfl) only [w_X9_count_12, w_X9_count_15, w_X9_count_16, w_X9_count_17, w_X9_count_18, w_X9_count_20, w_X9_count_23, w_X9_count_24, w_X9_count_27, w_X9_count_28, w_X9_count_29, nl_int, nl_ref, nl_null, nl_un, nl_rf, nl_long, isR_ref, isR_null, isR_rf, rf_some, rf_none, rOf_ref, rOf_null, rOf_rf, kn_v, kn_0, true_and, and_true, and_self, tin, inA_x, inA_l, ix_add, ix_addl, ix_ladd, ix_mul, ix_mull, ix_lmul, ix_tn, lt_tn, Nat.reduceLeDiff, Nat.reduceLT, Nat.reduceAdd, Nat.reduceMul, true_or, or_true, ↓reduceIte, aOk, ref_null, null_null, false_or, Option.isSome_some, Option.getD_some, ite_true, ite_false, eq_self, not_false_eq_true, not_true_eq_false, bz_ne, bz_1, reduceCtorEq, Bool.not_true, Bool.not_false, c1, a6, mo_0 hm1, mo_orchard hm1, mt_orchard hm1, ml_orchard hm1, mo_s hm1, mt_s hm1, ml_s hm1, mo_lines hm1, mt_lines hm1, ml_lines hm1, mo_liesKnown hm1, mt_liesKnown hm1, ml_liesKnown hm1, mo_tolds hm1, mt_tolds hm1, ml_tolds hm1, x1.x.aP]
      exact fin _ rfl
    · simp (disch := first | assumption | omega | decide | rfl) only [w_X9_count_12, w_X9_count_15, w_X9_count_16, w_X9_count_17, w_X9_count_18, w_X9_count_20, w_X9_count_23, w_X9_count_24, w_X9_count_27, w_X9_count_28, w_X9_count_29, nl_int, nl_ref, nl_null, nl_un, nl_rf, nl_long, isR_ref, isR_null, isR_rf, rf_some, rf_none, rOf_ref, rOf_null, rOf_rf, kn_v, kn_0, true_and, and_true, and_self, tin, inA_x, inA_l, ix_add, ix_addl, ix_ladd, ix_mul, ix_mull, ix_lmul, ix_tn, lt_tn, Nat.reduceLeDiff, Nat.reduceLT, Nat.reduceAdd, Nat.reduceMul, true_or, or_true, ↓reduceIte, aOk, ref_null, null_null, false_or, Option.isSome_some, Option.getD_some, ite_true, ite_false, eq_self, not_false_eq_true, not_true_eq_false, bz_ne, bz_1, reduceCtorEq, Bool.not_true, Bool.not_false, c1, a6, mo_0 hm1, mo_orchard hm1, mt_orchard hm1, ml_orchard hm1, mo_s hm1, mt_s hm1, ml_s hm1, mo_lines hm1, mt_lines hm1, ml_lines hm1, mo_liesKnown hm1, mt_liesKnown hm1, ml_liesKnown hm1, mo_tolds hm1, mt_tolds hm1, ml_tolds hm1, x1.x.aT]
      exact fin _ rfl
    · simp (disch := first | assumption | omega | decide | rfl) only [w_X9_count_12, w_X9_count_15, w_X9_count_16, w_X9_count_17, w_X9_count_18, w_X9_count_20, w_X9_count_23, w_X9_count_24, w_X9_count_27, w_X9_count_28, w_X9_count_29, nl_int, nl_ref, nl_null, nl_un, nl_rf, nl_long, isR_ref, isR_null, isR_rf, rf_some, rf_none, rOf_ref, rOf_null, rOf_rf, kn_v, kn_0, true_and, and_true, and_self, tin, inA_x, inA_l, ix_add, ix_addl, ix_ladd, ix_mul, ix_mull, ix_lmul, ix_tn, lt_tn, Nat.reduceLeDiff, Nat.reduceLT, Nat.reduceAdd, Nat.reduceMul, true_or, or_true, ↓reduceIte, aOk, ref_null, null_null, false_or, Option.isSome_some, Option.getD_some, ite_true, ite_false, eq_self, not_false_eq_true, not_true_eq_false, bz_ne, bz_1, reduceCtorEq, Bool.not_true, Bool.not_false, c1, a6, mo_0 hm1, mo_orchard hm1, mt_orchard hm1, ml_orchard hm1, mo_s hm1, mt_s hm1, ml_s hm1, mo_lines hm1, mt_lines hm1, ml_lines hm1, mo_liesKnown hm1, mt_liesKnown hm1, ml_liesKnown hm1, mo_tolds hm1, mt_tolds hm1, ml_tolds hm1, x1.x.aG]
      exact fin _ rfl
    · simp (disch := first | assumption | omega | decide | rfl) only [w_X9_count_12, w_X9_count_15, w_X9_count_16, w_X9_count_17, w_X9_count_18, w_X9_count_20, w_X9_count_23, w_X9_count_24, w_X9_count_27, w_X9_count_28, w_X9_count_29, nl_int, nl_ref, nl_null, nl_un, nl_rf, nl_long, isR_ref, isR_null, isR_rf, rf_some, rf_none, rOf_ref, rOf_null, rOf_rf, kn_v, kn_0, true_and, and_true, and_self, tin, inA_x, inA_l, ix_add, ix_addl, ix_ladd, ix_mul, ix_mull, ix_lmul, ix_tn, lt_tn, Nat.reduceLeDiff, Nat.reduceLT, Nat.reduceAdd, Nat.reduceMul, true_or, or_true, ↓reduceIte, aOk, ref_null, null_null, false_or, Option.isSome_some, Option.getD_some, ite_true, ite_false, eq_self, not_false_eq_true, not_true_eq_false, bz_ne, bz_1, reduceCtorEq, Bool.not_true, Bool.not_false, c1, a6, mo_0 hm1, mo_orchard hm1, mt_orchard hm1, ml_orchard hm1, mo_s hm1, mt_s hm1, ml_s hm1, mo_lines hm1, mt_lines hm1, ml_lines hm1, mo_liesKnown hm1, mt_liesKnown hm1, ml_liesKnown hm1, mo_tolds hm1, mt_tolds hm1, ml_tolds hm1, x1.x.aB]
      exact fin _ rfl
    · simp (disch := first | assumption | omega | decide | rfl) only [w_X9_count_12, w_X9_count_15, w_X9_count_16, w_X9_count_17, w_X9_count_18, w_X9_count_20, w_X9_count_30, w_X9_count_31, w_X9_count_33, w_X9_count_36, w_X9_count_37, w_X9_count_39, w_X9_count_42, w_X9_count_43, w_X9_count_46, w_X9_count_47, w_X9_count_48, w_X9_count_51, w_X9_count_54, w_X9_count_55, w_X9_count_57, w_X9_count_60, w_X9_count_61, w_X9_count_64, w_X9_count_65, w_X9_count_66, w_X9_count_69, w_X9_count_70, w_X9_count_73, w_X9_count_74, w_X9_count_75, nl_int, nl_ref, nl_null, nl_un, nl_rf, nl_long, isR_ref, isR_null, isR_rf, rf_some, rf_none, rOf_ref, rOf_null, rOf_rf, kn_v, kn_0, true_and, and_true, and_self, tin, inA_x, inA_l, ix_add, ix_addl, ix_ladd, ix_mul, ix_mull, ix_lmul, ix_tn, lt_tn, Nat.reduceLeDiff, Nat.reduceLT, Nat.reduceAdd, Nat.reduceMul, true_or, or_true, ↓reduceIte, aOk, ref_null, null_null, false_or, Option.isSome_some, Option.getD_some, ite_true, ite_false, eq_self, not_false_eq_true, not_true_eq_false, bz_ne, bz_1, reduceCtorEq, Bool.not_true, Bool.not_false, c1, a6, a9, b6, b7, Nat.reduceEqDiff, mo_0 hm1, mo_orchard hm1, mt_orchard hm1, ml_orchard hm1, mo_s hm1, mt_s hm1, ml_s hm1, mo_lines hm1, mt_lines hm1, ml_lines hm1, mo_liesKnown hm1, mt_liesKnown hm1, ml_liesKnown hm1, mo_tolds hm1, mt_tolds hm1, ml_tolds hm1, x1.b.h0, bb]
      exact fin _ rfl
    · simp (disch := first | assumption | omega | decide | rfl) only [w_X9_count_12, w_X9_count_15, w_X9_count_16, w_X9_count_17, w_X9_count_18, w_X9_count_20, w_X9_count_30, w_X9_count_31, w_X9_count_33, w_X9_count_36, w_X9_count_37, w_X9_count_39, w_X9_count_42, w_X9_count_43, w_X9_count_46, w_X9_count_47, w_X9_count_48, w_X9_count_51, w_X9_count_54, w_X9_count_55, w_X9_count_57, w_X9_count_60, w_X9_count_61, w_X9_count_64, w_X9_count_65, w_X9_count_66, w_X9_count_69, w_X9_count_70, w_X9_count_73, w_X9_count_74, w_X9_count_75, nl_int, nl_ref, nl_null, nl_un, nl_rf, nl_long, isR_ref, isR_null, isR_rf, rf_some, rf_none, rOf_ref, rOf_null, rOf_rf, kn_v, kn_0, true_and, and_true, and_self, tin, inA_x, inA_l, ix_add, ix_addl, ix_ladd, ix_mul, ix_mull, ix_lmul, ix_tn, lt_tn, Nat.reduceLeDiff, Nat.reduceLT, Nat.reduceAdd, Nat.reduceMul, true_or, or_true, ↓reduceIte, aOk, ref_null, null_null, false_or, Option.isSome_some, Option.getD_some, ite_true, ite_false, eq_self, not_false_eq_true, not_true_eq_false, bz_ne, bz_1, reduceCtorEq, Bool.not_true, Bool.not_false, c1, a6, a9, b6, b7, Nat.reduceEqDiff, mo_0 hm1, mo_orchard hm1, mt_orchard hm1, ml_orchard hm1, mo_s hm1, mt_s hm1, ml_s hm1, mo_lines hm1, mt_lines hm1, ml_lines hm1, mo_liesKnown hm1, mt_liesKnown hm1, ml_liesKnown hm1, mo_tolds hm1, mt_tolds hm1, ml_tolds hm1, x1.b.d0]
      exact fin _ rfl
    · simp (disch := first | assumption | omega | decide | rfl) only [w_X9_count_12, w_X9_count_15, w_X9_count_16, w_X9_count_17, w_X9_count_18, w_X9_count_20, w_X9_count_30, w_X9_count_31, w_X9_count_33, w_X9_count_36, w_X9_count_37, w_X9_count_39, w_X9_count_42, w_X9_count_43, w_X9_count_46, w_X9_count_47, w_X9_count_48, w_X9_count_51, w_X9_count_54, w_X9_count_55, w_X9_count_57, w_X9_count_60, w_X9_count_61, w_X9_count_64, w_X9_count_65, w_X9_count_66, w_X9_count_69, w_X9_count_70, w_X9_count_73, w_X9_count_74, w_X9_count_75, nl_int, nl_ref, nl_null, nl_un, nl_rf, nl_long, isR_ref, isR_null, isR_rf, rf_some, rf_none, rOf_ref, rOf_null, rOf_rf, kn_v, kn_0, true_and, and_true, and_self, tin, inA_x, inA_l, ix_add, ix_addl, ix_ladd, ix_mul, ix_mull, ix_lmul, ix_tn, lt_tn, Nat.reduceLeDiff, Nat.reduceLT, Nat.reduceAdd, Nat.reduceMul, true_or, or_true, ↓reduceIte, aOk, ref_null, null_null, false_or, Option.isSome_some, Option.getD_some, ite_true, ite_false, eq_self, not_false_eq_true, not_true_eq_false, bz_ne, bz_1, reduceCtorEq, Bool.not_true, Bool.not_false, c1, a6, a9, b6, b7, Nat.reduceEqDiff, mo_0 hm1, mo_orchard hm1, mt_orchard hm1, ml_orchard hm1, mo_s hm1, mt_s hm1, ml_s hm1, mo_lines hm1, mt_lines hm1, ml_lines hm1, mo_liesKnown hm1, mt_liesKnown hm1, ml_liesKnown hm1, mo_tolds hm1, mt_tolds hm1, ml_tolds hm1, x1.b.a0]
      exact fin _ rfl
    · simp (disch := first | assumption | omega | decide | rfl) only [w_X9_count_12, w_X9_count_15, w_X9_count_16, w_X9_count_17, w_X9_count_18, w_X9_count_20, w_X9_count_30, w_X9_count_31, w_X9_count_33, w_X9_count_76, w_X9_count_77, w_X9_count_79, w_X9_count_82, w_X9_count_83, w_X9_count_85, w_X9_count_88, w_X9_count_89, w_X9_count_92, w_X9_count_93, w_X9_count_94, w_X9_count_97, w_X9_count_98, w_X9_count_100, w_X9_count_103, w_X9_count_104, w_X9_count_107, w_X9_count_108, w_X9_count_109, w_X9_count_112, w_X9_count_115, w_X9_count_116, w_X9_count_119, w_X9_count_120, w_X9_count_121, nl_int, nl_ref, nl_null, nl_un, nl_rf, nl_long, isR_ref, isR_null, isR_rf, rf_some, rf_none, rOf_ref, rOf_null, rOf_rf, kn_v, kn_0, true_and, and_true, and_self, tin, inA_x, inA_l, ix_add, ix_addl, ix_ladd, ix_mul, ix_mull, ix_lmul, ix_tn, lt_tn, Nat.reduceLeDiff, Nat.reduceLT, Nat.reduceAdd, Nat.reduceMul, true_or, or_true, ↓reduceIte, aOk, ref_null, null_null, false_or, Option.isSome_some, Option.getD_some, ite_true, ite_false, eq_self, not_false_eq_true, not_true_eq_false, bz_ne, bz_1, reduceCtorEq, Bool.not_true, Bool.not_false, c1, a6, a9, a12, b9, b10, Nat.reduceEqDiff, mo_0 hm1, mo_orchard hm1, mt_orchard hm1, ml_orchard hm1, mo_s hm1, mt_s hm1, ml_s hm1, mo_lines hm1, mt_lines hm1, ml_lines hm1, mo_liesKnown hm1, mt_liesKnown hm1, ml_liesKnown hm1, mo_tolds hm1, mt_tolds hm1, ml_tolds hm1, x1.l.n]
      exact fin _ rfl
    · simp (disch := first | assumption | omega | decide | rfl) only [w_X9_count_12, w_X9_count_15, w_X9_count_16, w_X9_count_17, w_X9_count_18, w_X9_count_20, w_X9_count_30, w_X9_count_31, w_X9_count_33, w_X9_count_76, w_X9_count_77, w_X9_count_79, w_X9_count_82, w_X9_count_83, w_X9_count_85, w_X9_count_88, w_X9_count_89, w_X9_count_92, w_X9_count_93, w_X9_count_94, w_X9_count_97, w_X9_count_98, w_X9_count_100, w_X9_count_103, w_X9_count_104, w_X9_count_107, w_X9_count_108, w_X9_count_109, w_X9_count_112, w_X9_count_115, w_X9_count_116, w_X9_count_119, w_X9_count_120, w_X9_count_121, nl_int, nl_ref, nl_null, nl_un, nl_rf, nl_long, isR_ref, isR_null, isR_rf, rf_some, rf_none, rOf_ref, rOf_null, rOf_rf, kn_v, kn_0, true_and, and_true, and_self, tin, inA_x, inA_l, ix_add, ix_addl, ix_ladd, ix_mul, ix_mull, ix_lmul, ix_tn, lt_tn, Nat.reduceLeDiff, Nat.reduceLT, Nat.reduceAdd, Nat.reduceMul, true_or, or_true, ↓reduceIte, aOk, ref_null, null_null, false_or, Option.isSome_some, Option.getD_some, ite_true, ite_false, eq_self, not_false_eq_true, not_true_eq_false, bz_ne, bz_1, reduceCtorEq, Bool.not_true, Bool.not_false, c1, a6, a9, a12, b9, b10, Nat.reduceEqDiff, mo_0 hm1, mo_orchard hm1, mt_orchard hm1, ml_orchard hm1, mo_s hm1, mt_s hm1, ml_s hm1, mo_lines hm1, mt_lines hm1, ml_lines hm1, mo_liesKnown hm1, mt_liesKnown hm1, ml_liesKnown hm1, mo_tolds hm1, mt_tolds hm1, ml_tolds hm1, x1.k.kn, bk]
      exact fin _ rfl
    · simp (disch := first | assumption | omega | decide | rfl) only [w_X9_count_12, w_X9_count_15, w_X9_count_16, w_X9_count_17, w_X9_count_18, w_X9_count_20, w_X9_count_30, w_X9_count_31, w_X9_count_33, w_X9_count_76, w_X9_count_77, w_X9_count_79, w_X9_count_82, w_X9_count_83, w_X9_count_85, w_X9_count_88, w_X9_count_89, w_X9_count_92, w_X9_count_93, w_X9_count_94, w_X9_count_97, w_X9_count_98, w_X9_count_100, w_X9_count_103, w_X9_count_104, w_X9_count_107, w_X9_count_108, w_X9_count_109, w_X9_count_112, w_X9_count_115, w_X9_count_116, w_X9_count_119, w_X9_count_120, w_X9_count_121, nl_int, nl_ref, nl_null, nl_un, nl_rf, nl_long, isR_ref, isR_null, isR_rf, rf_some, rf_none, rOf_ref, rOf_null, rOf_rf, kn_v, kn_0, true_and, and_true, and_self, tin, inA_x, inA_l, ix_add, ix_addl, ix_ladd, ix_mul, ix_mull, ix_lmul, ix_tn, lt_tn, Nat.reduceLeDiff, Nat.reduceLT, Nat.reduceAdd, Nat.reduceMul, true_or, or_true, ↓reduceIte, aOk, ref_null, null_null, false_or, Option.isSome_some, Option.getD_some, ite_true, ite_false, eq_self, not_false_eq_true, not_true_eq_false, bz_ne, bz_1, reduceCtorEq, Bool.not_true, Bool.not_false, c1, a6, a9, a12, b9, b10, Nat.reduceEqDiff, mo_0 hm1, mo_orchard hm1, mt_orchard hm1, ml_orchard hm1, mo_s hm1, mt_s hm1, ml_s hm1, mo_lines hm1, mt_lines hm1, ml_lines hm1, mo_liesKnown hm1, mt_liesKnown hm1, ml_liesKnown hm1, mo_tolds hm1, mt_tolds hm1, ml_tolds hm1, x1.t.n]
      exact fin _ rfl
    · simp (disch := first | assumption | omega | decide | rfl) only [w_X9_count_12, w_X9_count_15, w_X9_count_16, w_X9_count_17, w_X9_count_18, w_X9_count_20, w_X9_count_30, w_X9_count_31, w_X9_count_33, w_X9_count_76, w_X9_count_77, w_X9_count_79, w_X9_count_122, w_X9_count_123, w_X9_count_125, w_X9_count_128, w_X9_count_129, w_X9_count_132, w_X9_count_135, w_X9_count_136, w_X9_count_138, w_X9_count_141, w_X9_count_142, w_X9_count_145, w_X9_count_148, w_X9_count_149, w_X9_count_152, w_X9_count_153, w_X9_count_154, nl_int, nl_ref, nl_null, nl_un, nl_rf, nl_long, isR_ref, isR_null, isR_rf, rf_some, rf_none, rOf_ref, rOf_null, rOf_rf, kn_v, kn_0, true_and, and_true, and_self, tin, inA_x, inA_l, ix_add, ix_addl, ix_ladd, ix_mul, ix_mull, ix_lmul, ix_tn, lt_tn, Nat.reduceLeDiff, Nat.reduceLT, Nat.reduceAdd, Nat.reduceMul, true_or, or_true, ↓reduceIte, aOk, ref_null, null_null, false_or, Option.isSome_some, Option.getD_some, ite_true, ite_false, eq_self, not_false_eq_true, not_true_eq_false, bz_ne, bz_1, reduceCtorEq, Bool.not_true, Bool.not_false, c1, a6, a9, a12, b12, b13, Nat.reduceEqDiff, mo_0 hm1, mo_orchard hm1, mt_orchard hm1, ml_orchard hm1, mo_s hm1, mt_s hm1, ml_s hm1, mo_lines hm1, mt_lines hm1, ml_lines hm1, mo_liesKnown hm1, mt_liesKnown hm1, ml_liesKnown hm1, mo_tolds hm1, mt_tolds hm1, ml_tolds hm1, x1.u.n]
      exact fin _ rfl
    · simp (disch := first | assumption | omega | decide | rfl) only [w_X9_count_12, w_X9_count_15, w_X9_count_16, w_X9_count_17, w_X9_count_18, w_X9_count_20, w_X9_count_30, w_X9_count_31, w_X9_count_33, w_X9_count_76, w_X9_count_77, w_X9_count_79, w_X9_count_122, w_X9_count_123, w_X9_count_125, w_X9_count_128, w_X9_count_129, w_X9_count_132, w_X9_count_135, w_X9_count_136, w_X9_count_138, w_X9_count_141, w_X9_count_142, w_X9_count_145, w_X9_count_148, w_X9_count_149, w_X9_count_152, w_X9_count_153, w_X9_count_154, nl_int, nl_ref, nl_null, nl_un, nl_rf, nl_long, isR_ref, isR_null, isR_rf, rf_some, rf_none, rOf_ref, rOf_null, rOf_rf, kn_v, kn_0, true_and, and_true, and_self, tin, inA_x, inA_l, ix_add, ix_addl, ix_ladd, ix_mul, ix_mull, ix_lmul, ix_tn, lt_tn, Nat.reduceLeDiff, Nat.reduceLT, Nat.reduceAdd, Nat.reduceMul, true_or, or_true, ↓reduceIte, aOk, ref_null, null_null, false_or, Option.isSome_some, Option.getD_some, ite_true, ite_false, eq_self, not_false_eq_true, not_true_eq_false, bz_ne, bz_1, reduceCtorEq, Bool.not_true, Bool.not_false, c1, a6, a9, a12, b12, b13, Nat.reduceEqDiff, mo_0 hm1, mo_orchard hm1, mt_orchard hm1, ml_orchard hm1, mo_s hm1, mt_s hm1, ml_s hm1, mo_lines hm1, mt_lines hm1, ml_lines hm1, mo_liesKnown hm1, mt_liesKnown hm1, ml_liesKnown hm1, mo_tolds hm1, mt_tolds hm1, ml_tolds hm1, t1]
      exact fin _ rfl
    · simp (disch := first | assumption | omega | decide | rfl) only [w_X9_count_12, w_X9_count_15, w_X9_count_16, w_X9_count_17, w_X9_count_18, w_X9_count_20, w_X9_count_30, w_X9_count_31, w_X9_count_33, w_X9_count_76, w_X9_count_77, w_X9_count_79, w_X9_count_122, w_X9_count_123, w_X9_count_125, w_X9_count_128, w_X9_count_129, w_X9_count_132, w_X9_count_135, w_X9_count_136, w_X9_count_138, w_X9_count_141, w_X9_count_142, w_X9_count_145, w_X9_count_148, w_X9_count_149, w_X9_count_152, w_X9_count_153, w_X9_count_154, nl_int, nl_ref, nl_null, nl_un, nl_rf, nl_long, isR_ref, isR_null, isR_rf, rf_some, rf_none, rOf_ref, rOf_null, rOf_rf, kn_v, kn_0, true_and, and_true, and_self, tin, inA_x, inA_l, ix_add, ix_addl, ix_ladd, ix_mul, ix_mull, ix_lmul, ix_tn, lt_tn, Nat.reduceLeDiff, Nat.reduceLT, Nat.reduceAdd, Nat.reduceMul, true_or, or_true, ↓reduceIte, aOk, ref_null, null_null, false_or, Option.isSome_some, Option.getD_some, ite_true, ite_false, eq_self, not_false_eq_true, not_true_eq_false, bz_ne, bz_1, reduceCtorEq, Bool.not_true, Bool.not_false, c1, a6, a9, a12, b12, b13, Nat.reduceEqDiff, mo_0 hm1, mo_orchard hm1, mt_orchard hm1, ml_orchard hm1, mo_s hm1, mt_s hm1, ml_s hm1, mo_lines hm1, mt_lines hm1, ml_lines hm1, mo_liesKnown hm1, mt_liesKnown hm1, ml_liesKnown hm1, mo_tolds hm1, mt_tolds hm1, ml_tolds hm1, x1.b.p0]
      exact fin _ rfl
  · have c1 : decide (0 ≤ v ∧ v ≤ 14) = false := decide_eq_false q
    simp (disch := first | assumption | omega | decide | rfl) only [w_X9_count_12, w_X9_count_15, w_X9_count_16, nl_int, nl_ref, nl_null, nl_un, nl_rf, nl_long, isR_ref, isR_null, isR_rf, rf_some, rf_none, rOf_ref, rOf_null, rOf_rf, kn_v, kn_0, true_and, and_true, and_self, tin, inA_x, inA_l, ix_add, ix_addl, ix_ladd, ix_mul, ix_mull, ix_lmul, ix_tn, lt_tn, Nat.reduceLeDiff, Nat.reduceLT, Nat.reduceAdd, Nat.reduceMul, true_or, or_true, ↓reduceIte, aOk, ref_null, null_null, false_or, Option.isSome_some, Option.getD_some, ite_true, ite_false, eq_self, not_false_eq_true, not_true_eq_false, bz_ne, bz_1, reduceCtorEq, Bool.not_true, Bool.not_false, c1]
    refine fin _ ?_
    have ne : ∀ k, k ≤ 14 → ¬ v = ix k := fun k hk e => q (by
      rw [e]
      refine ⟨Int32.not_lt.mp (ix_nn (by omega)), ?_⟩
      have : ¬ ((14 : Int32) < ix k) := by rw [show ((14 : Int32) < ix k) = (14 < k) from ix_llt (n := 14) (by decide) (by omega)]; omega
      exact Int32.not_lt.mp this)
    unfold couF
    rw [if_neg (show ¬ v = 0 from ne 0 (by decide)), if_neg (show ¬ v = 1 from ne 1 (by decide)), if_neg (show ¬ v = 2 from ne 2 (by decide)), if_neg (show ¬ v = 3 from ne 3 (by decide)), if_neg (show ¬ v = 4 from ne 4 (by decide)), if_neg (show ¬ v = 5 from ne 5 (by decide)), if_neg (show ¬ v = 6 from ne 6 (by decide)), if_neg (show ¬ v = 7 from ne 7 (by decide)), if_neg (show ¬ v = 8 from ne 8 (by decide)), if_neg (show ¬ v = 9 from ne 9 (by decide)), if_neg (show ¬ v = 10 from ne 10 (by decide)), if_neg (show ¬ v = 11 from ne 11 (by decide)), if_neg (show ¬ v = 12 from ne 12 (by decide)), if_neg (show ¬ v = 13 from ne 13 (by decide)), if_neg (show ¬ v = 14 from ne 14 (by decide))]
end
