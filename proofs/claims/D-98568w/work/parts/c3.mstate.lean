/-! THE MODEL: its whole state; marks -/
set_option maxRecDepth 100000
abbrev Mq : Type := Bo × Dy × (Nat × Nat) × To
abbrev Sg : Type := Mq × (Nat × (Nat → Bo)) × (Nat → Option Mq)
noncomputable def Sg.B (S : Sg) : Bo := S.1.1
noncomputable def Sg.L (S : Sg) : Dy := S.1.2.1
noncomputable def Sg.K (S : Sg) : Nat := S.1.2.2.1.1
noncomputable def Sg.T (S : Sg) : Nat := S.1.2.2.1.2
noncomputable def Sg.To (S : Sg) : To := S.1.2.2.2
noncomputable def Sg.c (S : Sg) : Nat := S.2.1.1
noncomputable def Sg.U (S : Sg) : Nat → Bo := S.2.1.2
noncomputable def Sg.M (S : Sg) : Nat → Option Mq := S.2.2
def MM (h : AH) (m n k : Nat) (M : Option Mq) : Prop := match M with
  | none => Ai h (m + 57) k = 0
  | some q => Ai h (m + 57) k = 1 ∧ MB h (m + 55) (15 * k) n q.1 ∧ ML h m (k + 1) q.2.1 ∧ MK h m (k + 1) q.2.2.1.1 q.2.2.1.2 ∧ MT h m (k + 1) q.2.2.2
def WK (O : Oc) (K : Nat) (T : Nat) : Prop := (K < 2 ^ O.nA) ∧ (∀ i, T.testBit i = true → K.testBit i = true)
theorem WK.lt {O : Oc} {K : Nat} {T : Nat} (x : WK O K T) : K < 2 ^ O.nA := x.1
theorem WK.sb {O : Oc} {K : Nat} {T : Nat} (x : WK O K T) : ∀ i, T.testBit i = true → K.testBit i = true := x.2
def WQ (O : Oc) (q : Mq) : Prop := (WB O q.1) ∧ (WD O q.2.1) ∧ (WK O q.2.2.1.1 q.2.2.1.2) ∧ (WT O q.2.2.2)
theorem WQ.b {O : Oc} {q : Mq} (x : WQ O q) : WB O q.1 := x.1
theorem WQ.l {O : Oc} {q : Mq} (x : WQ O q) : WD O q.2.1 := x.2.1
theorem WQ.k {O : Oc} {q : Mq} (x : WQ O q) : WK O q.2.2.1.1 q.2.2.1.2 := x.2.2.1
theorem WQ.t {O : Oc} {q : Mq} (x : WQ O q) : WT O q.2.2.2 := x.2.2.2
def MS (h : AH) (m : Nat) (O : Oc) (S : Sg) : Prop := (M0 h m O) ∧ (MB h (m + 53) 0 O.nA S.B) ∧ (ML h m 0 S.L) ∧ (MK h m 0 S.K S.T) ∧ (MT h m 0 S.To) ∧ (MU h m O.nA S.c S.U) ∧ (∀ k, k < 4 → MM h m O.nA k (S.M k)) ∧ (WQ O S.1) ∧ (∀ j, j < S.c → WB O (S.U j)) ∧ (∀ k, k < 4 → ∀ q, S.M k = some q → WQ O q) ∧ (Zb h m)
theorem MS.x {h : AH} {m : Nat} {O : Oc} {S : Sg} (x : MS h m O S) : M0 h m O := x.1
theorem MS.b {h : AH} {m : Nat} {O : Oc} {S : Sg} (x : MS h m O S) : MB h (m + 53) 0 O.nA S.B := x.2.1
theorem MS.l {h : AH} {m : Nat} {O : Oc} {S : Sg} (x : MS h m O S) : ML h m 0 S.L := x.2.2.1
theorem MS.k {h : AH} {m : Nat} {O : Oc} {S : Sg} (x : MS h m O S) : MK h m 0 S.K S.T := x.2.2.2.1
theorem MS.t {h : AH} {m : Nat} {O : Oc} {S : Sg} (x : MS h m O S) : MT h m 0 S.To := x.2.2.2.2.1
theorem MS.u {h : AH} {m : Nat} {O : Oc} {S : Sg} (x : MS h m O S) : MU h m O.nA S.c S.U := x.2.2.2.2.2.1
theorem MS.mm {h : AH} {m : Nat} {O : Oc} {S : Sg} (x : MS h m O S) : ∀ k, k < 4 → MM h m O.nA k (S.M k) := x.2.2.2.2.2.2.1
theorem MS.wq {h : AH} {m : Nat} {O : Oc} {S : Sg} (x : MS h m O S) : WQ O S.1 := x.2.2.2.2.2.2.2.1
theorem MS.wu {h : AH} {m : Nat} {O : Oc} {S : Sg} (x : MS h m O S) : ∀ j, j < S.c → WB O (S.U j) := x.2.2.2.2.2.2.2.2.1
theorem MS.wm {h : AH} {m : Nat} {O : Oc} {S : Sg} (x : MS h m O S) : ∀ k, k < 4 → ∀ q, S.M k = some q → WQ O q := x.2.2.2.2.2.2.2.2.2.1
theorem MS.zb {h : AH} {m : Nat} {O : Oc} {S : Sg} (x : MS h m O S) : Zb h m := x.2.2.2.2.2.2.2.2.2.2
section
variable {d D m a b c p q s n k i j K T lane loud G : Nat} {h h' h2 : AH} {Q : Rs → AH → Prop} {O : Oc} {B B0 : Bo} {A F : List Nat} {u v w : Int32} {l : List Nat} {L L' : Dy} {S : Sg} {M : Option Mq}
theorem MM.md (x : MM h m n k M) (u : Md m A F h h') (hA : ∀ k ∈ [43, 44, 45, 46, 47, 48, 49, 50, 51, 52, 55, 57], k ∉ A) : MM h' m n k M := by
  cases M with
  | none => unfold MM at x ⊢; rw [u.ai (hA _ (by decide))]; exact x
  | some q =>
    obtain ⟨x1, x2, x3, x4, x5⟩ := x
    exact ⟨by rw [u.ai (hA _ (by decide))]; exact x1, x2.md u (hA _ (by decide)), x3.md u (hA _ (by decide)) (hA _ (by decide)) (hA _ (by decide)) (hA _ (by decide)), x4.md u (hA _ (by decide)) (hA _ (by decide)), x5.md u (hA _ (by decide)) (hA _ (by decide)) (hA _ (by decide)) (hA _ (by decide))⟩
theorem Zb.md (x : Zb h m) (u : Md m A F h h') (hA : 52 ∉ A) : Zb h' m := by
  unfold Zb
  rw [u.ai hA]
  exact x
theorem MS.wb (x : MS h m O S) : WB O S.B := x.wq.b
theorem MS.wl (x : MS h m O S) : WD O S.L := x.wq.l
theorem MS.wk (x : MS h m O S) : WK O S.K S.T := x.wq.k
theorem MS.wt (x : MS h m O S) : WT O S.To := x.wq.t
/-- what is changed is none of the state -/
theorem MS.md (x : MS h m O S) (u : Md m A F h h') (hA : ∀ k ∈ A, k ∉ (rA ++ [36, 37, 38, 39, 43, 44, 45, 46, 47, 48, 49, 50, 51, 52, 53, 55, 56, 57]) := by decide) (hF : 129 ∉ F := by decide) : MS h' m O S := by
  have g : ∀ k, k ∈ rA ++ [36, 37, 38, 39, 43, 44, 45, 46, 47, 48, 49, 50, 51, 52, 53, 55, 56, 57] → k ∉ A := fun k hk q => hA k q hk
  refine ⟨x.x.md u (fun k hk => g k ?_), x.b.md u (g _ (by decide)), x.l.md u (g _ (by decide)) (g _ (by decide)) (g _ (by decide)) (g _ (by decide)), x.k.md u (g _ (by decide)) (g _ (by decide)), x.t.md u (g _ (by decide)) (g _ (by decide)) (g _ (by decide)) (g _ (by decide)), x.u.md u (g _ (by decide)) hF, fun k hk => (x.mm k hk).md u (fun j hj => g j ?_), x.wq, x.wu, x.wm, x.zb.md u (g _ (by decide))⟩
  · rcases List.mem_append.mp hk with q | q
    · exact List.mem_append_left _ q
    · refine List.mem_append_right _ ?_
      revert q k
      decide
  · refine List.mem_append_right _ ?_
    revert hj j
    decide
/-- boughs changed, what is behind changed -/
theorem MS.md2 (x : MS h m O S) (u : Md m A F h h') {B' : Bo} {c' : Nat} {U' : Nat → Bo} (b' : MB h' (m + 53) 0 O.nA B') (u' : MU h' m O.nA c' U') (wb : WB O B') (wu : ∀ j, j < c' → WB O (U' j)) (hA : ∀ k ∈ A, k ∉ (rA ++ [36, 37, 38, 39, 43, 44, 45, 46, 47, 48, 49, 50, 51, 52, 55, 57]) := by decide) : MS h' m O ((B', S.1.2), (c', U'), S.M) := by
  have g : ∀ k, k ∈ rA ++ [36, 37, 38, 39, 43, 44, 45, 46, 47, 48, 49, 50, 51, 52, 55, 57] → k ∉ A := fun k hk q => hA k q hk
  refine ⟨x.x.md u (fun k hk => g k ?_), b', x.l.md u (g _ (by decide)) (g _ (by decide)) (g _ (by decide)) (g _ (by decide)), x.k.md u (g _ (by decide)) (g _ (by decide)), x.t.md u (g _ (by decide)) (g _ (by decide)) (g _ (by decide)) (g _ (by decide)), u', fun k hk => (x.mm k hk).md u (fun j hj => g j ?_), ⟨wb, x.wl, x.wk, x.wt⟩, wu, x.wm, x.zb.md u (g _ (by decide))⟩
  · rcases List.mem_append.mp hk with q | q
    · exact List.mem_append_left _ q
    · refine List.mem_append_right _ ?_
      revert q k
      decide
  · refine List.mem_append_right _ ?_
    revert hj j
    decide
noncomputable def mayM (S : Sg) (v : Int32) (t : Bool) : Bool := inN v 4 && (!t || (S.M (tn v)).isSome)
noncomputable def maS (S : Sg) (k : Nat) (t : Bool) : Sg := if t = true then ((S.M k).getD S.1, (0, S.U), S.M) else (S.1, S.2.1, fun j => if j = k then some S.1 else S.M j)
theorem cm_mark (x : MS h m O S) (t : Bool) : Ca (D + 2) 240 [.ref m, .int v, .int (bz t)] h (fun r h' => r = .inl (some (.int (bz (mayM S v t)))) ∧ Md m [43, 44, 45, 46, 47, 48, 49, 50, 51, 52, 53, 55, 57] [60, 129] h h' ∧ Fi h' 60 m = 0 ∧ MS h' m O (if mayM S v t = true then maS S (tn v) t else S)) := by
  have n1 := x.x.wo.nA
  generalize hQ : (fun r h' => r = .inl (some (.int (bz (mayM S v t)))) ∧ Md m [43, 44, 45, 46, 47, 48, 49, 50, 51, 52, 53, 55, 57] [60, 129] h h' ∧ Fi h' 60 m = 0 ∧ MS h' m O (if mayM S v t = true then maS S (tn v) t else S) : Rs → AH → Prop) = Q
  rw [e_X9_mark]
  simp (disch := first | assumption | omega | decide | rfl) only [w_X9_mark_0, w_X9_mark_1, w_X9_mark_2, w_X9_mark_5, w_X9_mark_6, w_X9_mark_7, w_X9_mark_8, nl_int, nl_ref, nl_null, nl_un, nl_rf, nl_long, isR_ref, isR_null, isR_rf, rf_some, rf_none, rOf_ref, rOf_null, rOf_rf, kn_v, kn_0, true_and, and_true, and_self, tin, inA_x, inA_l, ix_add, ix_addl, ix_ladd, ix_mul, ix_mull, ix_lmul, ix_tn, lt_tn, Nat.reduceLeDiff, Nat.reduceLT, Nat.reduceAdd, Nat.reduceMul, true_or, or_true, ↓reduceIte, aOk, ref_null, null_null, false_or, Option.isSome_some, Option.getD_some, ite_true, ite_false, eq_self, not_false_eq_true, not_true_eq_false, bz_ne, bz_1, reduceCtorEq, Bool.not_true, Bool.not_false, mo_0 x.x.mo, cm_within]
  have u1 : Md m [43, 44, 45, 46, 47, 48, 49, 50, 51, 52, 53, 55, 57] [60, 129] h (sFi h 60 m 0) := md_sFi (by decide)
  have x1 : MS (sFi h 60 m 0) m O S := x.md (md_sFi (A := []) (F := [60]) (by decide))
  have f1 : Fi (sFi h 60 m 0) 60 m = 0 := Fi_same
  revert u1 x1 f1
  generalize sFi h 60 m 0 = h1
  intro u1 x1 f1
  have hm1 := x1.x.mo
  have bad : mayM S v t = false → Ru (D + 1) 240 27 [.ref m, .int v, .int (bz t), un, un] [] h1 Q := by
    intro e
    simp (disch := first | assumption | omega | decide | rfl) only [w_X9_mark_27, w_X9_mark_28, nl_int, nl_ref, nl_null, nl_un, nl_rf, nl_long, isR_ref, isR_null, isR_rf, rf_some, rf_none, rOf_ref, rOf_null, rOf_rf, kn_v, kn_0, true_and, and_true, and_self, tin, inA_x, inA_l, ix_add, ix_addl, ix_ladd, ix_mul, ix_mull, ix_lmul, ix_tn, lt_tn, Nat.reduceLeDiff, Nat.reduceLT, Nat.reduceAdd, Nat.reduceMul, true_or, or_true, ↓reduceIte, aOk, ref_null, null_null, false_or, Option.isSome_some, Option.getD_some, ite_true, ite_false, eq_self, not_false_eq_true, not_true_eq_false, bz_ne, bz_1, reduceCtorEq, Bool.not_true, Bool.not_false]
    rw [← hQ, e]
    exact ⟨rfl, u1, f1, x1⟩
  have ev : decide (0 ≤ v ∧ v ≤ 3) = inN v 4 := inN_w (n := 4) (by decide)
  rw [ev]
  unfold mayM at bad
  cases q1 : inN v 4
  · simp (disch := first | assumption | omega | decide | rfl) only [w_X9_mark_11, nl_int, nl_ref, nl_null, nl_un, nl_rf, nl_long, isR_ref, isR_null, isR_rf, rf_some, rf_none, rOf_ref, rOf_null, rOf_rf, kn_v, kn_0, true_and, and_true, and_self, tin, inA_x, inA_l, ix_add, ix_addl, ix_ladd, ix_mul, ix_mull, ix_lmul, ix_tn, lt_tn, Nat.reduceLeDiff, Nat.reduceLT, Nat.reduceAdd, Nat.reduceMul, true_or, or_true, ↓reduceIte, aOk, ref_null, null_null, false_or, Option.isSome_some, Option.getD_some, ite_true, ite_false, eq_self, not_false_eq_true, not_true_eq_false, bz_ne, bz_1, reduceCtorEq, Bool.not_true, Bool.not_false]
    exact bad (by rw [q1]; rfl)
  · obtain ⟨k, hk, rfl⟩ := inN_ex (n := 4) (by decide) q1
    rw [q1, tn_ix (by omega), Bool.true_and] at bad
    have em : mayM S (ix k) t = (!t || (S.M k).isSome) := by unfold mayM; rw [q1, tn_ix (by omega), Bool.true_and]
    rw [em] at hQ
    cases t
    · rw [tn_ix (by omega)] at hQ
      simp (disch := first | assumption | omega | decide | rfl) only [w_X9_mark_11, w_X9_mark_14, w_X9_mark_15, w_X9_mark_29, w_X9_mark_30, w_X9_mark_33, w_X9_mark_34, w_X9_mark_35, nl_int, nl_ref, nl_null, nl_un, nl_rf, nl_long, isR_ref, isR_null, isR_rf, rf_some, rf_none, rOf_ref, rOf_null, rOf_rf, kn_v, kn_0, true_and, and_true, and_self, tin, inA_x, inA_l, ix_add, ix_addl, ix_ladd, ix_mul, ix_mull, ix_lmul, ix_tn, lt_tn, Nat.reduceLeDiff, Nat.reduceLT, Nat.reduceAdd, Nat.reduceMul, true_or, or_true, ↓reduceIte, aOk, ref_null, null_null, false_or, Option.isSome_some, Option.getD_some, ite_true, ite_false, eq_self, not_false_eq_true, not_true_eq_false, bz_ne, bz_1, reduceCtorEq, Bool.not_true, Bool.not_false, mo_0 hm1, mo_isLaid hm1, mt_isLaid hm1, ml_isLaid hm1, mo_marked hm1, mt_marked hm1, ml_marked hm1, mo_s hm1, mt_s hm1, ml_s hm1, bz, Bool.false_eq_true]
      have u12 : Md m [57] [] h1 (sAi h1 (m + 57) (upd (Ai h1 (m + 57)) k 1)) := md_sAi (by decide)
      have g2 : Ai (sAi h1 (m + 57) (upd (Ai h1 (m + 57)) k 1)) (m + 57) = upd (Ai h1 (m + 57)) k 1 := Ai_same
      revert u12 g2
      generalize sAi h1 (m + 57) (upd (Ai h1 (m + 57)) k 1) = h2
      intro u12 g2
      have hm2 := u12.mo hm1
      simp (disch := first | assumption | omega | decide | rfl) only [w_X9_mark_36, w_X9_mark_37, w_X9_mark_46, w_X9_mark_47, w_X9_mark_48, w_X9_mark_49, w_X9_mark_56, w_X9_mark_57, w_X9_mark_58, w_X9_mark_59, w_X9_mark_61, w_X9_mark_62, w_X9_mark_63, w_X9_mark_65, nl_int, nl_ref, nl_null, nl_un, nl_rf, nl_long, isR_ref, isR_null, isR_rf, rf_some, rf_none, rOf_ref, rOf_null, rOf_rf, kn_v, kn_0, true_and, and_true, and_self, tin, inA_x, inA_l, ix_add, ix_addl, ix_ladd, ix_mul, ix_mull, ix_lmul, ix_tn, lt_tn, Nat.reduceLeDiff, Nat.reduceLT, Nat.reduceAdd, Nat.reduceMul, true_or, or_true, ↓reduceIte, aOk, ref_null, null_null, false_or, Option.isSome_some, Option.getD_some, ite_true, ite_false, eq_self, not_false_eq_true, not_true_eq_false, bz_ne, bz_1, reduceCtorEq, Bool.not_true, Bool.not_false, mo_0 hm2, bz, Bool.false_eq_true]
      rw [show ((0 : Int32)) = ix 0 from rfl]
      refine ca_mono (cm_laysLines hm2 (p := 0) (q := 1 + k) (by omega) (by omega) (by omega)) ?_
      rintro r h3 ⟨rfl, u3, e1, e2, e3, e4⟩
      have hm3 := u3.mo hm2
      have z3 : Zb h3 m := (x1.zb.md u12 (by decide)).md u3 (by decide)
      simp (disch := first | assumption | omega | decide | rfl) only [w_X9_mark_68, w_X9_mark_69, w_X9_mark_70, w_X9_mark_72, nl_int, nl_ref, nl_null, nl_un, nl_rf, nl_long, isR_ref, isR_null, isR_rf, rf_some, rf_none, rOf_ref, rOf_null, rOf_rf, kn_v, kn_0, true_and, and_true, and_self, tin, inA_x, inA_l, ix_add, ix_addl, ix_ladd, ix_mul, ix_mull, ix_lmul, ix_tn, lt_tn, Nat.reduceLeDiff, Nat.reduceLT, Nat.reduceAdd, Nat.reduceMul, true_or, or_true, ↓reduceIte, aOk, ref_null, null_null, false_or, Option.isSome_some, Option.getD_some, ite_true, ite_false, eq_self, not_false_eq_true, not_true_eq_false, bz_ne, bz_1, reduceCtorEq, Bool.not_true, Bool.not_false, mo_0 hm3]
      refine ca_mono (cm_laysTold hm3 z3 (p := 0) (q := 1 + k) (by omega) (by omega) (by omega)) ?_
      rintro r h4 ⟨rfl, u4, lt⟩
      have hm4 := u4.mo hm3
      simp (disch := first | assumption | omega | decide | rfl) only [w_X9_mark_75, w_X9_mark_76, w_X9_mark_103, w_X9_mark_104, w_X9_mark_107, w_X9_mark_108, w_X9_mark_109, w_X9_mark_112, w_X9_mark_114, w_X9_mark_115, nl_int, nl_ref, nl_null, nl_un, nl_rf, nl_long, isR_ref, isR_null, isR_rf, rf_some, rf_none, rOf_ref, rOf_null, rOf_rf, kn_v, kn_0, true_and, and_true, and_self, tin, inA_x, inA_l, ix_add, ix_addl, ix_ladd, ix_mul, ix_mull, ix_lmul, ix_tn, lt_tn, Nat.reduceLeDiff, Nat.reduceLT, Nat.reduceAdd, Nat.reduceMul, true_or, or_true, ↓reduceIte, aOk, ref_null, null_null, false_or, Option.isSome_some, Option.getD_some, ite_true, ite_false, eq_self, not_false_eq_true, not_true_eq_false, bz_ne, bz_1, reduceCtorEq, Bool.not_true, Bool.not_false, mo_0 hm4, mo_isLaid hm4, mt_isLaid hm4, ml_isLaid hm4, mo_marked hm4, mt_marked hm4, ml_marked hm4, mo_s hm4, mt_s hm4, ml_s hm4, bz, Bool.false_eq_true]
      rw [w_X9_mark_116, show ((0 : Int32)) = ix 0 from rfl, cm_copies (by omega) (by rw [mt_s hm4]; decide) (by rw [mt_marked hm4]; decide) (by rw [ml_s hm4]; decide) (by rw [ml_marked hm4]; omega) (by rw [ml_s hm4]; decide) (by rw [ml_marked hm4]; decide), kn_0]
      have u5 : Md m [55] [] h4 (sAi h4 (m + 55) (cpF (Ai h4 (m + 53)) 0 (Ai h4 (m + 55)) (15 * k) 15)) := md_sAi (by decide)
      have g5 : Ai (sAi h4 (m + 55) (cpF (Ai h4 (m + 53)) 0 (Ai h4 (m + 55)) (15 * k) 15)) (m + 55) = cpF (Ai h4 (m + 53)) 0 (Ai h4 (m + 55)) (15 * k) 15 := Ai_same
      revert u5 g5
      generalize sAi h4 (m + 55) (cpF (Ai h4 (m + 53)) 0 (Ai h4 (m + 55)) (15 * k) 15) = h5
      intro u5 g5
      simp (disch := first | assumption | omega | decide | rfl) only [w_X9_mark_119, w_X9_mark_120, nl_int, nl_ref, nl_null, nl_un, nl_rf, nl_long, isR_ref, isR_null, isR_rf, rf_some, rf_none, rOf_ref, rOf_null, rOf_rf, kn_v, kn_0, true_and, and_true, and_self, tin, inA_x, inA_l, ix_add, ix_addl, ix_ladd, ix_mul, ix_mull, ix_lmul, ix_tn, lt_tn, Nat.reduceLeDiff, Nat.reduceLT, Nat.reduceAdd, Nat.reduceMul, true_or, or_true, ↓reduceIte, aOk, ref_null, null_null, false_or, Option.isSome_some, Option.getD_some, ite_true, ite_false, eq_self, not_false_eq_true, not_true_eq_false, bz_ne, bz_1, reduceCtorEq, Bool.not_true, Bool.not_false]
      rw [← hQ]
      have x2 : M0 h2 m O := x1.x.md u12
      have x3 : M0 h3 m O := x2.md u3
      have x4 : M0 h4 m O := x3.md u4
      have b4 : MB h4 (m + 53) 0 O.nA S.B := ((x1.b.md u12 (by decide)).md u3 (by decide)).md u4 (by decide)
      have l2 := x1.l.md u12 (by decide) (by decide) (by decide) (by decide)
      have k3 := (x1.k.md u12 (by decide) (by decide)).md u3 (by decide) (by decide)
      have t3 := (x1.t.md u12 (by decide) (by decide) (by decide) (by decide)).md u3 (by decide) (by decide) (by decide) (by decide)
      have uu : Md m [43, 44, 45, 46, 47, 48, 49, 50, 51, 52, 53, 55, 57] [60, 129] h h5 := (((u1.t u12).t u3).t u4).t u5
      refine ⟨rfl, uu, by rw [u5.fi (by decide), u4.fi (by decide), u3.fi (by decide), u12.fi (by decide)]; exact f1, ?_⟩
      rw [if_pos (show (!false || (S.M k).isSome) = true from rfl)]
      refine ⟨x4.md u5, b4.md u5 (by decide), ((ml_ot l2 (by omega) e1 e2 e3 e4).md u4 (by decide) (by decide) (by decide) (by decide)).md u5 (by decide) (by decide) (by decide) (by decide), (lt.mko k3 (by omega)).md u5 (by decide) (by decide), (lt.mto t3 (by omega)).md u5 (by decide) (by decide) (by decide) (by decide), (((x1.u.md u12 (by decide) (by decide)).md u3 (by decide) (by decide)).md u4 (by decide) (by decide)).md u5 (by decide) (by decide), fun j hj => ?_, x.wq, x.wu, fun j hj q eq => ?_, (lt.zb z3).md u5 (by decide)⟩
      · show MM h5 m O.nA j (if j = k then some S.1 else S.M j)
        have g57 : Ai h5 (m + 57) = upd (Ai h1 (m + 57)) k 1 := by rw [u5.ai (by decide), u4.ai (by decide), u3.ai (by decide), g2]
        by_cases qj : j = k
        · subst qj
          rw [if_pos rfl]
          refine ⟨by rw [g57, upd_s], mb_of b4 n1 (fun t ht => ?_), ?_, ?_, ?_⟩
          · rw [g5, cpF_in ht]
          · have := ((ml_to l2 e1 e2 e3 e4).md u4 (by decide) (by decide) (by decide) (by decide)).md u5 (by decide) (by decide) (by decide) (by decide)
            rw [Nat.add_comm] at this
            exact this
          · have := (lt.mk k3).md u5 (by decide) (by decide)
            rw [Nat.add_comm] at this
            exact this
          · have := (lt.mt t3).md u5 (by decide) (by decide) (by decide) (by decide)
            rw [Nat.add_comm] at this
            exact this
        · rw [if_neg qj]
          have old := x1.mm j hj
          revert old
          cases S.M j with
          | none => intro old; show Ai h5 (m + 57) j = 0; rw [g57, upd_n qj]; exact old
          | some q =>
            rintro ⟨y1, y2, y3, y4, y5⟩
            refine ⟨by rw [g57, upd_n qj]; exact y1, mb_of (((y2.md u12 (by decide)).md u3 (by decide)).md u4 (by decide)) n1 (fun t ht => ?_), ?_, ?_, ?_⟩
            · rw [g5, cpF_out (by omega)]
            · exact ((ml_ot (y3.md u12 (by decide) (by decide) (by decide) (by decide)) (by omega) e1 e2 e3 e4).md u4 (by decide) (by decide) (by decide) (by decide)).md u5 (by decide) (by decide) (by decide) (by decide)
            · exact (lt.mko ((y4.md u12 (by decide) (by decide)).md u3 (by decide) (by decide)) (by omega)).md u5 (by decide) (by decide)
            · exact (lt.mto ((y5.md u12 (by decide) (by decide) (by decide) (by decide)).md u3 (by decide) (by decide) (by decide) (by decide)) (by omega)).md u5 (by decide) (by decide) (by decide) (by decide)
      · have eq : (if j = k then some S.1 else S.M j) = some q := eq
        by_cases qj : j = k
        · rw [if_pos qj] at eq
          cases eq
          exact x.wq
        · rw [if_neg qj] at eq
          exact x.wm j hj q eq
    · have old := x1.mm k hk
      cases es : S.M k with
      | none =>
        rw [es] at old bad
        have old : Ai h1 (m + 57) k = 0 := old
        simp (disch := first | assumption | omega | decide | rfl) only [w_X9_mark_11, w_X9_mark_14, w_X9_mark_15, w_X9_mark_18, w_X9_mark_19, w_X9_mark_22, w_X9_mark_23, w_X9_mark_24, nl_int, nl_ref, nl_null, nl_un, nl_rf, nl_long, isR_ref, isR_null, isR_rf, rf_some, rf_none, rOf_ref, rOf_null, rOf_rf, kn_v, kn_0, true_and, and_true, and_self, tin, inA_x, inA_l, ix_add, ix_addl, ix_ladd, ix_mul, ix_mull, ix_lmul, ix_tn, lt_tn, Nat.reduceLeDiff, Nat.reduceLT, Nat.reduceAdd, Nat.reduceMul, true_or, or_true, ↓reduceIte, aOk, ref_null, null_null, false_or, Option.isSome_some, Option.getD_some, ite_true, ite_false, eq_self, not_false_eq_true, not_true_eq_false, bz_ne, bz_1, reduceCtorEq, Bool.not_true, Bool.not_false, mo_0 hm1, mo_isLaid hm1, mt_isLaid hm1, ml_isLaid hm1, mo_marked hm1, mt_marked hm1, ml_marked hm1, mo_s hm1, mt_s hm1, ml_s hm1, bz, old]
        exact bad rfl
      | some q =>
        rw [es] at old
        rw [tn_ix (by omega), es] at hQ
        obtain ⟨y1, y2, y3, y4, y5⟩ := old
        have d1 : ((1 : Int32) = 0) = False := by decide
        simp (disch := first | assumption | omega | decide | rfl) only [w_X9_mark_11, w_X9_mark_14, w_X9_mark_15, w_X9_mark_18, w_X9_mark_19, w_X9_mark_22, w_X9_mark_23, w_X9_mark_24, w_X9_mark_27, w_X9_mark_28, w_X9_mark_29, w_X9_mark_30, w_X9_mark_33, w_X9_mark_34, w_X9_mark_35, nl_int, nl_ref, nl_null, nl_un, nl_rf, nl_long, isR_ref, isR_null, isR_rf, rf_some, rf_none, rOf_ref, rOf_null, rOf_rf, kn_v, kn_0, true_and, and_true, and_self, tin, inA_x, inA_l, ix_add, ix_addl, ix_ladd, ix_mul, ix_mull, ix_lmul, ix_tn, lt_tn, Nat.reduceLeDiff, Nat.reduceLT, Nat.reduceAdd, Nat.reduceMul, true_or, or_true, ↓reduceIte, aOk, ref_null, null_null, false_or, Option.isSome_some, Option.getD_some, ite_true, ite_false, eq_self, not_false_eq_true, not_true_eq_false, bz_ne, bz_1, reduceCtorEq, Bool.not_true, Bool.not_false, mo_0 hm1, mo_isLaid hm1, mt_isLaid hm1, ml_isLaid hm1, mo_marked hm1, mt_marked hm1, ml_marked hm1, mo_s hm1, mt_s hm1, ml_s hm1, bz, y1, d1]
        have u12 : Md m [57] [] h1 (sAi h1 (m + 57) (upd (Ai h1 (m + 57)) k 1)) := md_sAi (by decide)
        have g2 : Ai (sAi h1 (m + 57) (upd (Ai h1 (m + 57)) k 1)) (m + 57) = upd (Ai h1 (m + 57)) k 1 := Ai_same
        revert u12 g2
        generalize sAi h1 (m + 57) (upd (Ai h1 (m + 57)) k 1) = h2
        intro u12 g2
        have hm2 := u12.mo hm1
        simp (disch := first | assumption | omega | decide | rfl) only [w_X9_mark_36, w_X9_mark_37, w_X9_mark_40, w_X9_mark_41, w_X9_mark_42, w_X9_mark_43, w_X9_mark_46, w_X9_mark_47, w_X9_mark_48, w_X9_mark_49, w_X9_mark_52, w_X9_mark_53, w_X9_mark_59, w_X9_mark_61, w_X9_mark_62, w_X9_mark_63, w_X9_mark_65, nl_int, nl_ref, nl_null, nl_un, nl_rf, nl_long, isR_ref, isR_null, isR_rf, rf_some, rf_none, rOf_ref, rOf_null, rOf_rf, kn_v, kn_0, true_and, and_true, and_self, tin, inA_x, inA_l, ix_add, ix_addl, ix_ladd, ix_mul, ix_mull, ix_lmul, ix_tn, lt_tn, Nat.reduceLeDiff, Nat.reduceLT, Nat.reduceAdd, Nat.reduceMul, true_or, or_true, ↓reduceIte, aOk, ref_null, null_null, false_or, Option.isSome_some, Option.getD_some, ite_true, ite_false, eq_self, not_false_eq_true, not_true_eq_false, bz_ne, bz_1, reduceCtorEq, Bool.not_true, Bool.not_false, mo_0 hm2, bz, d1]
        rw [show ((0 : Int32)) = ix 0 from rfl]
        refine ca_mono (cm_laysLines hm2 (p := 1 + k) (q := 0) (by omega) (by omega) (by omega)) ?_
        rintro r h3 ⟨rfl, u3, e1, e2, e3, e4⟩
        have hm3 := u3.mo hm2
        have z3 : Zb h3 m := (x1.zb.md u12 (by decide)).md u3 (by decide)
        simp (disch := first | assumption | omega | decide | rfl) only [w_X9_mark_68, w_X9_mark_69, w_X9_mark_70, w_X9_mark_72, nl_int, nl_ref, nl_null, nl_un, nl_rf, nl_long, isR_ref, isR_null, isR_rf, rf_some, rf_none, rOf_ref, rOf_null, rOf_rf, kn_v, kn_0, true_and, and_true, and_self, tin, inA_x, inA_l, ix_add, ix_addl, ix_ladd, ix_mul, ix_mull, ix_lmul, ix_tn, lt_tn, Nat.reduceLeDiff, Nat.reduceLT, Nat.reduceAdd, Nat.reduceMul, true_or, or_true, ↓reduceIte, aOk, ref_null, null_null, false_or, Option.isSome_some, Option.getD_some, ite_true, ite_false, eq_self, not_false_eq_true, not_true_eq_false, bz_ne, bz_1, reduceCtorEq, Bool.not_true, Bool.not_false, mo_0 hm3]
        refine ca_mono (cm_laysTold hm3 z3 (p := 1 + k) (q := 0) (by omega) (by omega) (by omega)) ?_
        rintro r h4 ⟨rfl, u4, lt⟩
        have hm4 := u4.mo hm3
        simp (disch := first | assumption | omega | decide | rfl) only [w_X9_mark_75, w_X9_mark_76, w_X9_mark_79, w_X9_mark_80, w_X9_mark_83, w_X9_mark_85, w_X9_mark_86, w_X9_mark_87, w_X9_mark_88, w_X9_mark_91, nl_int, nl_ref, nl_null, nl_un, nl_rf, nl_long, isR_ref, isR_null, isR_rf, rf_some, rf_none, rOf_ref, rOf_null, rOf_rf, kn_v, kn_0, true_and, and_true, and_self, tin, inA_x, inA_l, ix_add, ix_addl, ix_ladd, ix_mul, ix_mull, ix_lmul, ix_tn, lt_tn, Nat.reduceLeDiff, Nat.reduceLT, Nat.reduceAdd, Nat.reduceMul, true_or, or_true, ↓reduceIte, aOk, ref_null, null_null, false_or, Option.isSome_some, Option.getD_some, ite_true, ite_false, eq_self, not_false_eq_true, not_true_eq_false, bz_ne, bz_1, reduceCtorEq, Bool.not_true, Bool.not_false, mo_0 hm4, mo_isLaid hm4, mt_isLaid hm4, ml_isLaid hm4, mo_marked hm4, mt_marked hm4, ml_marked hm4, mo_s hm4, mt_s hm4, ml_s hm4, bz, d1]
        rw [w_X9_mark_92, show ((0 : Int32)) = ix 0 from rfl, cm_copies (by omega) (by rw [mt_marked hm4]; decide) (by rw [mt_s hm4]; decide) (by rw [ml_marked hm4]; omega) (by rw [ml_s hm4]; decide) (by rw [ml_marked hm4]; decide) (by rw [ml_s hm4]; decide), kn_0]
        have u5 : Md m [53] [] h4 (sAi h4 (m + 53) (cpF (Ai h4 (m + 55)) (15 * k) (Ai h4 (m + 53)) 0 15)) := md_sAi (by decide)
        have g5 : Ai (sAi h4 (m + 53) (cpF (Ai h4 (m + 55)) (15 * k) (Ai h4 (m + 53)) 0 15)) (m + 53) = cpF (Ai h4 (m + 55)) (15 * k) (Ai h4 (m + 53)) 0 15 := Ai_same
        revert u5 g5
        generalize sAi h4 (m + 53) (cpF (Ai h4 (m + 55)) (15 * k) (Ai h4 (m + 53)) 0 15) = h5
        intro u5 g5
        have hm5 := u5.mo hm4
        simp (disch := first | assumption | omega | decide | rfl) only [w_X9_mark_95, w_X9_mark_96, w_X9_mark_97, w_X9_mark_100, nl_int, nl_ref, nl_null, nl_un, nl_rf, nl_long, isR_ref, isR_null, isR_rf, rf_some, rf_none, rOf_ref, rOf_null, rOf_rf, kn_v, kn_0, true_and, and_true, and_self, tin, inA_x, inA_l, ix_add, ix_addl, ix_ladd, ix_mul, ix_mull, ix_lmul, ix_tn, lt_tn, Nat.reduceLeDiff, Nat.reduceLT, Nat.reduceAdd, Nat.reduceMul, true_or, or_true, ↓reduceIte, aOk, ref_null, null_null, false_or, Option.isSome_some, Option.getD_some, ite_true, ite_false, eq_self, not_false_eq_true, not_true_eq_false, bz_ne, bz_1, reduceCtorEq, Bool.not_true, Bool.not_false, mo_0 hm5]
        have u6 : Md m [] [129] h5 (sFi h5 129 m 0) := md_sFi (by decide)
        have g6 : Fi (sFi h5 129 m 0) 129 m = 0 := Fi_same
        revert u6 g6
        generalize sFi h5 129 m 0 = h6
        intro u6 g6
        simp (disch := first | assumption | omega | decide | rfl) only [w_X9_mark_119, w_X9_mark_120, nl_int, nl_ref, nl_null, nl_un, nl_rf, nl_long, isR_ref, isR_null, isR_rf, rf_some, rf_none, rOf_ref, rOf_null, rOf_rf, kn_v, kn_0, true_and, and_true, and_self, tin, inA_x, inA_l, ix_add, ix_addl, ix_ladd, ix_mul, ix_mull, ix_lmul, ix_tn, lt_tn, Nat.reduceLeDiff, Nat.reduceLT, Nat.reduceAdd, Nat.reduceMul, true_or, or_true, ↓reduceIte, aOk, ref_null, null_null, false_or, Option.isSome_some, Option.getD_some, ite_true, ite_false, eq_self, not_false_eq_true, not_true_eq_false, bz_ne, bz_1, reduceCtorEq, Bool.not_true, Bool.not_false]
        rw [← hQ]
        have x5 : M0 h5 m O := (((x1.x.md u12).md u3).md u4).md u5
        have l2 := x1.l.md u12 (by decide) (by decide) (by decide) (by decide)
        have b4 : MB h4 (m + 55) (15 * k) O.nA q.1 := ((y2.md u12 (by decide)).md u3 (by decide)).md u4 (by decide)
        have l2 : ML h2 m (1 + k) q.2.1 := by rw [Nat.add_comm]; exact y3.md u12 (by decide) (by decide) (by decide) (by decide)
        have k3 : MK h3 m (1 + k) q.2.2.1.1 q.2.2.1.2 := by rw [Nat.add_comm]; exact (y4.md u12 (by decide) (by decide)).md u3 (by decide) (by decide)
        have t3 : MT h3 m (1 + k) q.2.2.2 := by rw [Nat.add_comm]; exact (y5.md u12 (by decide) (by decide) (by decide) (by decide)).md u3 (by decide) (by decide) (by decide) (by decide)
        have uu : Md m [43, 44, 45, 46, 47, 48, 49, 50, 51, 52, 53, 55, 57] [60, 129] h h6 := ((((u1.t u12).t u3).t u4).t u5).t u6
        have u46 : Md m [53] [129] h4 h6 := (u5.mono (by decide) (by decide)).t u6
        refine ⟨rfl, uu, by rw [u46.fi (by decide), u4.fi (by decide), u3.fi (by decide), u12.fi (by decide)]; exact f1, ?_⟩
        have wq : WQ O q := x.wm k hk q es
        have em : maS S k true = (q, (0, S.U), S.M) := by unfold maS; rw [if_pos rfl, es]; rfl
        rw [if_pos (show (!true || (some q).isSome) = true from rfl), em]
        refine ⟨x5.md u6, (mb_of b4 n1 (fun t ht => by rw [g5, cpF_in ht])).md u6 (by decide), ((ml_to l2 e1 e2 e3 e4).md u4 (by decide) (by decide) (by decide) (by decide)).md u46 (by decide) (by decide) (by decide) (by decide), (lt.mk k3).md u46 (by decide) (by decide), (lt.mt t3).md u46 (by decide) (by decide) (by decide) (by decide), ⟨g6, Nat.zero_le _, fun j hj => absurd hj (Nat.not_lt_zero _)⟩, fun j hj => ?_, wq, fun j hj => absurd hj (Nat.not_lt_zero _), x.wm, (lt.zb z3).md u46 (by decide)⟩
        show MM h6 m O.nA j (S.M j)
        have g57 : Ai h6 (m + 57) = upd (Ai h1 (m + 57)) k 1 := by rw [u46.ai (by decide), u4.ai (by decide), u3.ai (by decide), g2]
        have old := x1.mm j hj
        have em : ∀ v, Ai h1 (m + 57) j = v → (j = k → v = 1) → Ai h6 (m + 57) j = v := fun v e e' => by
          rw [g57]
          by_cases qj : j = k
          · rw [qj, upd_s, e' qj]
          · rw [upd_n qj]; exact e
        revert old
        cases ej : S.M j with
        | none => intro old; exact em 0 old (fun e => by rw [e, es] at ej; cases ej)
        | some q' =>
          rintro ⟨y1, y2, y3, y4, y5⟩
          refine ⟨em 1 y1 (fun _ => rfl), (((y2.md u12 (by decide)).md u3 (by decide)).md u4 (by decide)).md u46 (by decide), ?_, ?_, ?_⟩
          · exact ((ml_ot (y3.md u12 (by decide) (by decide) (by decide) (by decide)) (by omega) e1 e2 e3 e4).md u4 (by decide) (by decide) (by decide) (by decide)).md u46 (by decide) (by decide) (by decide) (by decide)
          · exact (lt.mko ((y4.md u12 (by decide) (by decide)).md u3 (by decide) (by decide)) (by omega)).md u46 (by decide) (by decide)
          · exact (lt.mto ((y5.md u12 (by decide) (by decide) (by decide) (by decide)).md u3 (by decide) (by decide) (by decide) (by decide)) (by omega)).md u46 (by decide) (by decide) (by decide) (by decide)
end
