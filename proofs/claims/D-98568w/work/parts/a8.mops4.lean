/-! THE MODEL: lies, tell, laws that stand -/
set_option maxRecDepth 100000
def MK (h : AH) (m : Nat) (k : Nat) (K : Nat) (T : Nat) : Prop := (Ai h (m + 47) k = ix K) ∧ (Ai h (m + 48) k = ix T) ∧ (K < 1024) ∧ (T < 1024)
theorem MK.kn {h : AH} {m : Nat} {k : Nat} {K : Nat} {T : Nat} (x : MK h m k K T) : Ai h (m + 47) k = ix K := x.1
theorem MK.th {h : AH} {m : Nat} {k : Nat} {K : Nat} {T : Nat} (x : MK h m k K T) : Ai h (m + 48) k = ix T := x.2.1
theorem MK.kl {h : AH} {m : Nat} {k : Nat} {K : Nat} {T : Nat} (x : MK h m k K T) : K < 1024 := x.2.2.1
theorem MK.tl {h : AH} {m : Nat} {k : Nat} {K : Nat} {T : Nat} (x : MK h m k K T) : T < 1024 := x.2.2.2
/-- what is told: how many; called, sound, whether near -/
abbrev To : Type := Nat × (Nat → Nat → Nat)
def MT (h : AH) (m : Nat) (k : Nat) (T : To) : Prop := (Ai h (m + 49) k = ix T.1) ∧ (T.1 ≤ 12) ∧ (∀ j, j < T.1 → Ai h (m + 50) (12 * k + j) = ix (T.2 0 j)) ∧ (∀ j, j < T.1 → Ai h (m + 51) (12 * k + j) = ix (T.2 1 j)) ∧ (∀ j, j < T.1 → Ai h (m + 52) (12 * k + j) = ix (T.2 2 j))
theorem MT.n {h : AH} {m : Nat} {k : Nat} {T : To} (x : MT h m k T) : Ai h (m + 49) k = ix T.1 := x.1
theorem MT.le {h : AH} {m : Nat} {k : Nat} {T : To} (x : MT h m k T) : T.1 ≤ 12 := x.2.1
theorem MT.c {h : AH} {m : Nat} {k : Nat} {T : To} (x : MT h m k T) : ∀ j, j < T.1 → Ai h (m + 50) (12 * k + j) = ix (T.2 0 j) := x.2.2.1
theorem MT.s {h : AH} {m : Nat} {k : Nat} {T : To} (x : MT h m k T) : ∀ j, j < T.1 → Ai h (m + 51) (12 * k + j) = ix (T.2 1 j) := x.2.2.2.1
theorem MT.r {h : AH} {m : Nat} {k : Nat} {T : To} (x : MT h m k T) : ∀ j, j < T.1 → Ai h (m + 52) (12 * k + j) = ix (T.2 2 j) := x.2.2.2.2
def WT (O : Oc) (T : To) : Prop := (∀ j, j < T.1 → T.2 0 j < O.nS) ∧ (∀ j, j < T.1 → T.2 1 j < O.nS) ∧ (∀ j, j < T.1 → T.2 2 j < 2)
theorem WT.c {O : Oc} {T : To} (x : WT O T) : ∀ j, j < T.1 → T.2 0 j < O.nS := x.1
theorem WT.s {O : Oc} {T : To} (x : WT O T) : ∀ j, j < T.1 → T.2 1 j < O.nS := x.2.1
theorem WT.r {O : Oc} {T : To} (x : WT O T) : ∀ j, j < T.1 → T.2 2 j < 2 := x.2.2
noncomputable def liK (K a : Nat) : Nat := K ||| 2 ^ a
noncomputable def liT (T a : Nat) (t : Bool) : Nat := if t = true then T ||| 2 ^ a else sd T (2 ^ a)
noncomputable def laF (O : Oc) (T : To) (a b j : Nat) : Bool := decide (edF (O.sn (T.2 0 j)) (O.sn (T.2 1 j)) ≤ a ∨ b ≤ rhF (O.sn (T.2 0 j)) (O.sn (T.2 1 j)))
noncomputable def ilF (O : Oc) (T : To) (a b : Nat) : Bool := !(anyb (fun j => !decide (laF O T a b j = decide (T.2 2 j = 1))) T.1 0)
section
variable {d D m a b c p q s n k i j K : Nat} {h h' : AH} {Q : Rs → AH → Prop} {O : Oc} {B : Bo} {A F : List Nat} {T : To} {u v w : Int32}
theorem MK.md {T : Nat} (x : MK h m k K T) (u : Md m A F h h') (h1 : 47 ∉ A) (h2 : 48 ∉ A) : MK h' m k K T := by
  unfold MK
  rw [u.ai h1, u.ai h2]
  exact x
theorem MT.md (x : MT h m k T) (u : Md m A F h h') (h1 : 49 ∉ A) (h2 : 50 ∉ A) (h3 : 51 ∉ A) (h4 : 52 ∉ A) : MT h' m k T := by
  unfold MT
  rw [u.ai h1, u.ai h2, u.ai h3, u.ai h4]
  exact x
theorem cm_lies {T : Nat} (x : M0 h m O) (l : MK h m 0 K T) (t : Bool) : Ca (D + 2) 222 [.ref m, .int v, .int (bz t)] h (fun r h' => r = .inl (some (.int (bz (inN v O.nA)))) ∧ Md m [47, 48] [60] h h' ∧ Fi h' 60 m = 0 ∧ MK h' m 0 (if inN v O.nA = true then liK K (tn v) else K) (if inN v O.nA = true then liT T (tn v) t else T)) := by
  have n1 := x.wo.nA
  generalize hQ : (fun r h' => r = .inl (some (.int (bz (inN v O.nA)))) ∧ Md m [47, 48] [60] h h' ∧ Fi h' 60 m = 0 ∧ MK h' m 0 (if inN v O.nA = true then liK K (tn v) else K) (if inN v O.nA = true then liT T (tn v) t else T) : Rs → AH → Prop) = Q
  rw [e_X9_lies]
  simp (disch := first | assumption | omega | decide | rfl) only [w_X9_lies_0, w_X9_lies_1, w_X9_lies_2, mo_0 x.mo, nl_int, nl_ref, nl_null, nl_un, nl_rf, nl_long, isR_ref, isR_null, isR_rf, rf_some, rf_none, rOf_ref, rOf_null, rOf_rf, kn_v, kn_0, true_and, and_true, and_self, tin, inA_x, inA_l, ix_add, ix_addl, ix_ladd, ix_mul, ix_mull, ix_lmul, ix_tn, lt_tn, Nat.reduceLeDiff, Nat.reduceLT, Nat.reduceAdd, Nat.reduceMul, true_or, or_true, ↓reduceIte, aOk, ref_null, null_null, false_or, Option.isSome_some, Option.getD_some, ite_true, ite_false, eq_self, not_false_eq_true, not_true_eq_false]
  have u1 : Md m [] [60] h (sFi h 60 m 0) := md_sFi (by decide)
  have f1 : Fi (sFi h 60 m 0) 60 m = 0 := Fi_same
  revert u1 f1
  generalize sFi h 60 m 0 = h1
  intro u1 f1
  have x1 : M0 h1 m O := x.md u1
  have hm1 := x1.mo
  have l1 := l.md u1 (by decide) (by decide)
  obtain ⟨k1, k2, k3, k4⟩ := l1
  have v1 : Md m [47, 48] [60] h h1 := u1.mono (by simp) (fun _ q => q)
  simp (disch := first | assumption | omega | decide | rfl) only [w_X9_lies_5, w_X9_lies_6, w_X9_lies_7, mo_0 x1.mo, nl_int, nl_ref, nl_null, nl_un, nl_rf, nl_long, isR_ref, isR_null, isR_rf, rf_some, rf_none, rOf_ref, rOf_null, rOf_rf, kn_v, kn_0, true_and, and_true, and_self, tin, inA_x, inA_l, ix_add, ix_addl, ix_ladd, ix_mul, ix_mull, ix_lmul, ix_tn, lt_tn, Nat.reduceLeDiff, Nat.reduceLT, Nat.reduceAdd, Nat.reduceMul, true_or, or_true, ↓reduceIte, aOk, ref_null, null_null, false_or, Option.isSome_some, Option.getD_some, ite_true, ite_false, eq_self, not_false_eq_true, not_true_eq_false, cm_isApple x1]
  by_cases q1 : inN v O.nA = true
  · have d1 : (bz (inN v O.nA) = 0) = False := by rw [bz_ne]; exact eq_false (by rw [q1]; decide)
    obtain ⟨a, ha, rfl⟩ := inN_ex (by omega) q1
    have e1 := ix_one (k := a) (by omega)
    have p1 := p2_10 (k := a) (by omega)
    rw [q1, if_pos rfl, if_pos rfl, tn_ix (by omega)] at hQ
    simp (disch := first | assumption | omega | decide | rfl) only [w_X9_lies_10, nl_int, nl_ref, nl_null, nl_un, nl_rf, nl_long, isR_ref, isR_null, isR_rf, rf_some, rf_none, rOf_ref, rOf_null, rOf_rf, kn_v, kn_0, true_and, and_true, and_self, tin, inA_x, inA_l, ix_add, ix_addl, ix_ladd, ix_mul, ix_mull, ix_lmul, ix_tn, lt_tn, Nat.reduceLeDiff, Nat.reduceLT, Nat.reduceAdd, Nat.reduceMul, true_or, or_true, ↓reduceIte, aOk, ref_null, null_null, false_or, Option.isSome_some, Option.getD_some, ite_true, ite_false, eq_self, not_false_eq_true, not_true_eq_false, d1]
    simp (disch := first | assumption | omega | decide | rfl) only [w_X9_lies_15, w_X9_lies_16, w_X9_lies_19, w_X9_lies_20, w_X9_lies_21, w_X9_lies_22, w_X9_lies_23, w_X9_lies_24, w_X9_lies_25, w_X9_lies_26, mo_0 hm1, mo_liesKnown hm1, mt_liesKnown hm1, ml_liesKnown hm1, mo_liesThere hm1, mt_liesThere hm1, ml_liesThere hm1, nl_int, nl_ref, nl_null, nl_un, nl_rf, nl_long, isR_ref, isR_null, isR_rf, rf_some, rf_none, rOf_ref, rOf_null, rOf_rf, kn_v, kn_0, true_and, and_true, and_self, tin, inA_x, inA_l, ix_add, ix_addl, ix_ladd, ix_mul, ix_mull, ix_lmul, ix_tn, lt_tn, Nat.reduceLeDiff, Nat.reduceLT, Nat.reduceAdd, Nat.reduceMul, true_or, or_true, ↓reduceIte, aOk, ref_null, null_null, false_or, Option.isSome_some, Option.getD_some, ite_true, ite_false, eq_self, not_false_eq_true, not_true_eq_false, k1, e1, ix_or]
    have u2 : Md m [47, 48] [60] h (sAi h1 (m + 47) (upd (Ai h1 (m + 47)) 0 (ix (K ||| 2 ^ a)))) := v1.trans (md_sAi (A := [47, 48]) (F := [60]) (by simp)) (fun _ q => q) (fun _ q => q)
    have a1 : Ai (sAi h1 (m + 47) (upd (Ai h1 (m + 47)) 0 (ix (K ||| 2 ^ a)))) (m + 47) 0 = ix (K ||| 2 ^ a) := by rw [Ai_same, upd_s]
    have a2 : Ai (sAi h1 (m + 47) (upd (Ai h1 (m + 47)) 0 (ix (K ||| 2 ^ a)))) (m + 48) 0 = ix T := by rw [Ai_other (by omega)]; exact k2
    have a3 : Fi (sAi h1 (m + 47) (upd (Ai h1 (m + 47)) 0 (ix (K ||| 2 ^ a)))) 60 m = 0 := f1
    revert u2 a1 a2 a3
    generalize sAi h1 (m + 47) (upd (Ai h1 (m + 47)) 0 (ix (K ||| 2 ^ a))) = h2
    intro u2 a1 a2 a3
    have hm2 := u2.mo x.mo
    cases t with
    | true =>
      have d0 : (bz true = 0) = False := eq_false (by decide)
      simp (disch := first | assumption | omega | decide | rfl) only [w_X9_lies_27, w_X9_lies_28, w_X9_lies_31, w_X9_lies_32, w_X9_lies_33, w_X9_lies_36, w_X9_lies_37, w_X9_lies_40, w_X9_lies_41, w_X9_lies_42, w_X9_lies_43, w_X9_lies_44, w_X9_lies_45, w_X9_lies_46, w_X9_lies_61, w_X9_lies_62, w_X9_lies_63, mo_0 hm2, mo_liesKnown hm2, mt_liesKnown hm2, ml_liesKnown hm2, mo_liesThere hm2, mt_liesThere hm2, ml_liesThere hm2, nl_int, nl_ref, nl_null, nl_un, nl_rf, nl_long, isR_ref, isR_null, isR_rf, rf_some, rf_none, rOf_ref, rOf_null, rOf_rf, kn_v, kn_0, true_and, and_true, and_self, tin, inA_x, inA_l, ix_add, ix_addl, ix_ladd, ix_mul, ix_mull, ix_lmul, ix_tn, lt_tn, Nat.reduceLeDiff, Nat.reduceLT, Nat.reduceAdd, Nat.reduceMul, true_or, or_true, ↓reduceIte, aOk, ref_null, null_null, false_or, Option.isSome_some, Option.getD_some, ite_true, ite_false, eq_self, not_false_eq_true, not_true_eq_false, d0, a2, e1, ix_or]
      rw [← hQ]
      refine ⟨rfl, u2.trans (md_sAi (A := [47, 48]) (F := [60]) (by simp)) (fun _ q => q) (fun _ q => q), a3, ?_, ?_, or_lt k3 p1, or_lt k4 p1⟩
      · rw [Ai_other (by omega)]; exact a1
      · rw [Ai_same, upd_s]; rfl
    | false =>
      have d0 : (bz false = 0) = True := eq_true rfl
      simp (disch := first | assumption | omega | decide | rfl) only [w_X9_lies_27, w_X9_lies_28, w_X9_lies_31, w_X9_lies_32, w_X9_lies_33, w_X9_lies_49, w_X9_lies_50, w_X9_lies_53, w_X9_lies_54, w_X9_lies_55, w_X9_lies_56, w_X9_lies_57, w_X9_lies_58, w_X9_lies_59, w_X9_lies_60, w_X9_lies_61, w_X9_lies_62, w_X9_lies_63, mo_0 hm2, mo_liesKnown hm2, mt_liesKnown hm2, ml_liesKnown hm2, mo_liesThere hm2, mt_liesThere hm2, ml_liesThere hm2, nl_int, nl_ref, nl_null, nl_un, nl_rf, nl_long, isR_ref, isR_null, isR_rf, rf_some, rf_none, rOf_ref, rOf_null, rOf_rf, kn_v, kn_0, true_and, and_true, and_self, tin, inA_x, inA_l, ix_add, ix_addl, ix_ladd, ix_mul, ix_mull, ix_lmul, ix_tn, lt_tn, Nat.reduceLeDiff, Nat.reduceLT, Nat.reduceAdd, Nat.reduceMul, true_or, or_true, ↓reduceIte, aOk, ref_null, null_null, false_or, Option.isSome_some, Option.getD_some, ite_true, ite_false, eq_self, not_false_eq_true, not_true_eq_false, d0, a2, e1, ix_sd]
      rw [← hQ]
      refine ⟨rfl, u2.trans (md_sAi (A := [47, 48]) (F := [60]) (by simp)) (fun _ q => q) (fun _ q => q), a3, ?_, ?_, or_lt k3 p1, sd_lt k4⟩
      · rw [Ai_other (by omega)]; exact a1
      · rw [Ai_same, upd_s]; rfl
  · have d1 : (bz (inN v O.nA) = 0) = True := by rw [bz_ne]; exact eq_true (Bool.not_eq_true _ ▸ q1)
    have q0 : inN v O.nA = false := by simpa using q1
    rw [q0] at hQ
    simp (disch := first | assumption | omega | decide | rfl) only [w_X9_lies_10, w_X9_lies_13, w_X9_lies_14, nl_int, nl_ref, nl_null, nl_un, nl_rf, nl_long, isR_ref, isR_null, isR_rf, rf_some, rf_none, rOf_ref, rOf_null, rOf_rf, kn_v, kn_0, true_and, and_true, and_self, tin, inA_x, inA_l, ix_add, ix_addl, ix_ladd, ix_mul, ix_mull, ix_lmul, ix_tn, lt_tn, Nat.reduceLeDiff, Nat.reduceLT, Nat.reduceAdd, Nat.reduceMul, true_or, or_true, ↓reduceIte, aOk, ref_null, null_null, false_or, Option.isSome_some, Option.getD_some, ite_true, ite_false, eq_self, not_false_eq_true, not_true_eq_false, d1]
    rw [← hQ]
    exact ⟨rfl, v1, f1, k1, k2, k3, k4⟩
theorem cm_isLaw (x : M0 h m O) (t : MT h m 0 T) (w : WT O T) (ha : a < 100) (hb : b < 100) : Ca (D + 1) 226 [.ref m, .int (ix a), .int (ix b)] h Q = Q (.inl (some (.int (bz (ilF O T a b))))) h := by
  have hm := x.mo
  have n2 := x.wo.nS
  have tl := t.le
  have g0 := t.n
  have key : ∀ n j (v4 : Value), j + n = T.1 → Ru D 226 2 [.ref m, .int (ix a), .int (ix b), .int (ix j), v4] [] h Q = Q (.inl (some (.int (bz (!(anyb (fun j => !decide (laF O T a b j = decide (T.2 2 j = 1))) n j)))))) h := by
    intro n
    induction n with
    | zero =>
      intro j v4 hj
      have e : ¬ j < T.1 := by omega
      simp (disch := first | assumption | omega | decide | rfl) only [w_X9_isLaw_2, w_X9_isLaw_3, w_X9_isLaw_4, w_X9_isLaw_7, w_X9_isLaw_8, w_X9_isLaw_9, w_X9_isLaw_74, w_X9_isLaw_75, mo_0 hm, mo_tolds hm, mt_tolds hm, ml_tolds hm, mo_toldCall hm, mt_toldCall hm, ml_toldCall hm, mo_toldSound hm, mt_toldSound hm, ml_toldSound hm, mo_edits hm, mt_edits hm, ml_edits hm, mo_rhymeOf hm, mt_rhymeOf hm, ml_rhymeOf hm, mo_toldNear hm, mt_toldNear hm, ml_toldNear hm, nl_int, nl_ref, nl_null, nl_un, nl_rf, nl_long, isR_ref, isR_null, isR_rf, rf_some, rf_none, rOf_ref, rOf_null, rOf_rf, kn_v, kn_0, true_and, and_true, and_self, tin, inA_x, inA_l, ix_add, ix_addl, ix_ladd, ix_mul, ix_mull, ix_lmul, ix_tn, lt_tn, Nat.reduceLeDiff, Nat.reduceLT, Nat.reduceAdd, Nat.reduceMul, true_or, or_true, ↓reduceIte, aOk, ref_null, null_null, false_or, Option.isSome_some, Option.getD_some, ite_true, ite_false, eq_self, not_false_eq_true, not_true_eq_false, g0, ix_lt, e]
      rfl
    | succ n ih =>
      intro j v4 hj
      have e : j < T.1 := by omega
      have g1 := t.c j e
      have g2 := t.s j e
      have g3 := t.r j e
      rw [Nat.mul_zero, Nat.zero_add] at g1 g2 g3
      have b1 := w.c j e
      have b2 := w.s j e
      have b3 := w.r j e
      have g4 := x.nt.ed _ _ b1 b2
      have g5 := x.nt.rh _ _ b1 b2
      have l1 := edF_le (w := O.sn (T.2 0 j)) (u := O.sn (T.2 1 j))
      have l2 : rhF (O.sn (T.2 0 j)) (O.sn (T.2 1 j)) ≤ 8 := by
        have := (cpre_le (fun k => decide (ltr (O.sn (T.2 0 j)) (wl (O.sn (T.2 0 j)) - 1 - k) = ltr (O.sn (T.2 1 j)) (wl (O.sn (T.2 1 j)) - 1 - k))) (min (wl (O.sn (T.2 0 j))) (wl (O.sn (T.2 1 j)))) 0).2
        have h8 := wl_le (O.sn (T.2 0 j))
        unfold rhF
        omega
      have mid : Ru D 226 57 [.ref m, .int (ix a), .int (ix b), .int (ix j), .int (ix (16 * T.2 0 j + T.2 1 j))] [.int (bz (laF O T a b j))] h Q = Q (.inl (some (.int (bz (!(anyb (fun j => !decide (laF O T a b j = decide (T.2 2 j = 1))) (n + 1) j)))))) h := by
        rw [anyb]
        have eb : (bz (laF O T a b j) = ix (T.2 2 j)) = (laF O T a b j = decide (T.2 2 j = 1)) := by
          rcases (show T.2 2 j = 0 ∨ T.2 2 j = 1 by omega) with r | r <;> rw [r] <;> cases laF O T a b j <;> simp [bz, ix]
        have ax : ix (T.2 2 j) = 0 ∨ ix (T.2 2 j) = 1 := by
          rcases (show T.2 2 j = 0 ∨ T.2 2 j = 1 by omega) with r | r <;> rw [r]
          · exact Or.inl rfl
          · exact Or.inr rfl
        by_cases q : laF O T a b j = decide (T.2 2 j = 1)
        · have eb : (bz (laF O T a b j) = ix (T.2 2 j)) = True := by rw [eb]; exact eq_true q
          simp (disch := first | assumption | omega | decide | rfl) only [w_X9_isLaw_57, w_X9_isLaw_58, w_X9_isLaw_61, w_X9_isLaw_62, w_X9_isLaw_63, w_X9_isLaw_68, w_X9_isLaw_71, mo_0 hm, mo_tolds hm, mt_tolds hm, ml_tolds hm, mo_toldCall hm, mt_toldCall hm, ml_toldCall hm, mo_toldSound hm, mt_toldSound hm, ml_toldSound hm, mo_edits hm, mt_edits hm, ml_edits hm, mo_rhymeOf hm, mt_rhymeOf hm, ml_rhymeOf hm, mo_toldNear hm, mt_toldNear hm, ml_toldNear hm, nl_int, nl_ref, nl_null, nl_un, nl_rf, nl_long, isR_ref, isR_null, isR_rf, rf_some, rf_none, rOf_ref, rOf_null, rOf_rf, kn_v, kn_0, true_and, and_true, and_self, tin, inA_x, inA_l, ix_add, ix_addl, ix_ladd, ix_mul, ix_mull, ix_lmul, ix_tn, lt_tn, Nat.reduceLeDiff, Nat.reduceLT, Nat.reduceAdd, Nat.reduceMul, true_or, or_true, ↓reduceIte, aOk, ref_null, null_null, false_or, Option.isSome_some, Option.getD_some, ite_true, ite_false, eq_self, not_false_eq_true, not_true_eq_false, g3, eb]
          rw [ih (j + 1) _ (by omega)]
          simp [q]
        · have eb : (bz (laF O T a b j) = ix (T.2 2 j)) = False := by rw [eb]; exact eq_false q
          simp (disch := first | assumption | omega | decide | rfl) only [w_X9_isLaw_57, w_X9_isLaw_58, w_X9_isLaw_61, w_X9_isLaw_62, w_X9_isLaw_63, w_X9_isLaw_66, w_X9_isLaw_67, mo_0 hm, mo_tolds hm, mt_tolds hm, ml_tolds hm, mo_toldCall hm, mt_toldCall hm, ml_toldCall hm, mo_toldSound hm, mt_toldSound hm, ml_toldSound hm, mo_edits hm, mt_edits hm, ml_edits hm, mo_rhymeOf hm, mt_rhymeOf hm, ml_rhymeOf hm, mo_toldNear hm, mt_toldNear hm, ml_toldNear hm, nl_int, nl_ref, nl_null, nl_un, nl_rf, nl_long, isR_ref, isR_null, isR_rf, rf_some, rf_none, rOf_ref, rOf_null, rOf_rf, kn_v, kn_0, true_and, and_true, and_self, tin, inA_x, inA_l, ix_add, ix_addl, ix_ladd, ix_mul, ix_mull, ix_lmul, ix_tn, lt_tn, Nat.reduceLeDiff, Nat.reduceLT, Nat.reduceAdd, Nat.reduceMul, true_or, or_true, ↓reduceIte, aOk, ref_null, null_null, false_or, Option.isSome_some, Option.getD_some, ite_true, ite_false, eq_self, not_false_eq_true, not_true_eq_false, g3, eb]
          simp [q, bz]
      rw [w_X9_isLaw_2]
      by_cases q1 : a < edF (O.sn (T.2 0 j)) (O.sn (T.2 1 j))
      · by_cases q2 : rhF (O.sn (T.2 0 j)) (O.sn (T.2 1 j)) < b
        · have la : laF O T a b j = false := by unfold laF; exact decide_eq_false (by omega)
          rw [la] at mid
          simp (disch := first | assumption | omega | decide | rfl) only [w_X9_isLaw_3, w_X9_isLaw_4, w_X9_isLaw_7, w_X9_isLaw_8, w_X9_isLaw_9, w_X9_isLaw_12, w_X9_isLaw_14, w_X9_isLaw_15, w_X9_isLaw_18, w_X9_isLaw_19, w_X9_isLaw_20, w_X9_isLaw_21, w_X9_isLaw_22, w_X9_isLaw_25, w_X9_isLaw_26, w_X9_isLaw_27, w_X9_isLaw_28, w_X9_isLaw_30, w_X9_isLaw_31, w_X9_isLaw_34, w_X9_isLaw_36, w_X9_isLaw_37, w_X9_isLaw_38, w_X9_isLaw_41, w_X9_isLaw_42, w_X9_isLaw_45, w_X9_isLaw_47, w_X9_isLaw_48, w_X9_isLaw_49, w_X9_isLaw_52, w_X9_isLaw_53, w_X9_isLaw_56, mo_0 hm, mo_tolds hm, mt_tolds hm, ml_tolds hm, mo_toldCall hm, mt_toldCall hm, ml_toldCall hm, mo_toldSound hm, mt_toldSound hm, ml_toldSound hm, mo_edits hm, mt_edits hm, ml_edits hm, mo_rhymeOf hm, mt_rhymeOf hm, ml_rhymeOf hm, mo_toldNear hm, mt_toldNear hm, ml_toldNear hm, nl_int, nl_ref, nl_null, nl_un, nl_rf, nl_long, isR_ref, isR_null, isR_rf, rf_some, rf_none, rOf_ref, rOf_null, rOf_rf, kn_v, kn_0, true_and, and_true, and_self, tin, inA_x, inA_l, ix_add, ix_addl, ix_ladd, ix_mul, ix_mull, ix_lmul, ix_tn, lt_tn, Nat.reduceLeDiff, Nat.reduceLT, Nat.reduceAdd, Nat.reduceMul, true_or, or_true, ↓reduceIte, aOk, ref_null, null_null, false_or, Option.isSome_some, Option.getD_some, ite_true, ite_false, eq_self, not_false_eq_true, not_true_eq_false, g0, g1, g2, g4, g5, ix_lt, e, q1, q2]
          exact mid
        · have la : laF O T a b j = true := by unfold laF; exact decide_eq_true (by omega)
          rw [la] at mid
          simp (disch := first | assumption | omega | decide | rfl) only [w_X9_isLaw_3, w_X9_isLaw_4, w_X9_isLaw_7, w_X9_isLaw_8, w_X9_isLaw_9, w_X9_isLaw_12, w_X9_isLaw_14, w_X9_isLaw_15, w_X9_isLaw_18, w_X9_isLaw_19, w_X9_isLaw_20, w_X9_isLaw_21, w_X9_isLaw_22, w_X9_isLaw_25, w_X9_isLaw_26, w_X9_isLaw_27, w_X9_isLaw_28, w_X9_isLaw_30, w_X9_isLaw_31, w_X9_isLaw_34, w_X9_isLaw_36, w_X9_isLaw_37, w_X9_isLaw_38, w_X9_isLaw_41, w_X9_isLaw_42, w_X9_isLaw_45, w_X9_isLaw_47, w_X9_isLaw_48, w_X9_isLaw_49, w_X9_isLaw_52, w_X9_isLaw_53, w_X9_isLaw_56, mo_0 hm, mo_tolds hm, mt_tolds hm, ml_tolds hm, mo_toldCall hm, mt_toldCall hm, ml_toldCall hm, mo_toldSound hm, mt_toldSound hm, ml_toldSound hm, mo_edits hm, mt_edits hm, ml_edits hm, mo_rhymeOf hm, mt_rhymeOf hm, ml_rhymeOf hm, mo_toldNear hm, mt_toldNear hm, ml_toldNear hm, nl_int, nl_ref, nl_null, nl_un, nl_rf, nl_long, isR_ref, isR_null, isR_rf, rf_some, rf_none, rOf_ref, rOf_null, rOf_rf, kn_v, kn_0, true_and, and_true, and_self, tin, inA_x, inA_l, ix_add, ix_addl, ix_ladd, ix_mul, ix_mull, ix_lmul, ix_tn, lt_tn, Nat.reduceLeDiff, Nat.reduceLT, Nat.reduceAdd, Nat.reduceMul, true_or, or_true, ↓reduceIte, aOk, ref_null, null_null, false_or, Option.isSome_some, Option.getD_some, ite_true, ite_false, eq_self, not_false_eq_true, not_true_eq_false, g0, g1, g2, g4, g5, ix_lt, e, q1, q2]
          exact mid
      · have la : laF O T a b j = true := by unfold laF; exact decide_eq_true (by omega)
        rw [la] at mid
        simp (disch := first | assumption | omega | decide | rfl) only [w_X9_isLaw_3, w_X9_isLaw_4, w_X9_isLaw_7, w_X9_isLaw_8, w_X9_isLaw_9, w_X9_isLaw_12, w_X9_isLaw_14, w_X9_isLaw_15, w_X9_isLaw_18, w_X9_isLaw_19, w_X9_isLaw_20, w_X9_isLaw_21, w_X9_isLaw_22, w_X9_isLaw_25, w_X9_isLaw_26, w_X9_isLaw_27, w_X9_isLaw_28, w_X9_isLaw_30, w_X9_isLaw_31, w_X9_isLaw_34, w_X9_isLaw_36, w_X9_isLaw_37, w_X9_isLaw_38, w_X9_isLaw_41, w_X9_isLaw_42, w_X9_isLaw_45, w_X9_isLaw_47, w_X9_isLaw_48, w_X9_isLaw_49, w_X9_isLaw_52, w_X9_isLaw_53, w_X9_isLaw_56, mo_0 hm, mo_tolds hm, mt_tolds hm, ml_tolds hm, mo_toldCall hm, mt_toldCall hm, ml_toldCall hm, mo_toldSound hm, mt_toldSound hm, ml_toldSound hm, mo_edits hm, mt_edits hm, ml_edits hm, mo_rhymeOf hm, mt_rhymeOf hm, ml_rhymeOf hm, mo_toldNear hm, mt_toldNear hm, ml_toldNear hm, nl_int, nl_ref, nl_null, nl_un, nl_rf, nl_long, isR_ref, isR_null, isR_rf, rf_some, rf_none, rOf_ref, rOf_null, rOf_rf, kn_v, kn_0, true_and, and_true, and_self, tin, inA_x, inA_l, ix_add, ix_addl, ix_ladd, ix_mul, ix_mull, ix_lmul, ix_tn, lt_tn, Nat.reduceLeDiff, Nat.reduceLT, Nat.reduceAdd, Nat.reduceMul, true_or, or_true, ↓reduceIte, aOk, ref_null, null_null, false_or, Option.isSome_some, Option.getD_some, ite_true, ite_false, eq_self, not_false_eq_true, not_true_eq_false, g0, g1, g2, g4, g5, ix_lt, e, q1]
        exact mid
  rw [e_X9_isLaw]
  simp (disch := first | assumption | omega | decide | rfl) only [w_X9_isLaw_0, w_X9_isLaw_1, nl_int, nl_ref, nl_null, nl_un, nl_rf, nl_long, isR_ref, isR_null, isR_rf, rf_some, rf_none, rOf_ref, rOf_null, rOf_rf, kn_v, kn_0, true_and, and_true, and_self, tin, inA_x, inA_l, ix_add, ix_addl, ix_ladd, ix_mul, ix_mull, ix_lmul, ix_tn, lt_tn, Nat.reduceLeDiff, Nat.reduceLT, Nat.reduceAdd, Nat.reduceMul, true_or, or_true, ↓reduceIte, aOk, ref_null, null_null, false_or, Option.isSome_some, Option.getD_some, ite_true, ite_false, eq_self, not_false_eq_true, not_true_eq_false]
  exact key T.1 0 un (by omega)
end
