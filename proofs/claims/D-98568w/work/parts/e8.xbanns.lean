/-! NAMEORCHARD: a thief who isn't there; banns -/
set_option maxRecDepth 100000
def BW (h : AH) (x n : Nat) (st : Bst) : Prop := Fi h 56 (x + 53) = st.1 ∧ (¬ st.1 < 0 → ∀ j, j < n → Ai h (x + 64) j = ix (st.2 j)) ∧ (st.1 = -1 ∨ ¬ st.1 < 0)
/-- what weeks from k on change -/
def Wk (x k : Nat) (h h' : AH) : Prop := Un (fun a => Tg h a = 1014 ∨ Tg h a = 1015 ∨ a = x + 53 ∨ a = x + 63 ∨ a = x + 64 ∨ (x + 55 + 2 * k ≤ a ∧ a ≤ x + 62)) h h' ∧ Fi h' 57 (x + 53) = Fi h 57 (x + 53) ∧ Fi h' 58 (x + 53) = Fi h 58 (x + 53) ∧ (∀ j, j < k → Ai h' (x + 63) j = Ai h (x + 63) j)
section
variable {h h' h1 h2 : AH} {A : Nat → Prop} {x a b c p q l o lo hi n k t d D s j i lane loud : Nat} {O : Oc} {S : Sg} {B C E : Bo} {Q : Rs → AH → Prop} {u v w y ren snd : Int32} {st : Bst}
theorem c_exI (ht : Tg h a = 11 ∨ Tg h a = 57) (hb : Fr h fBk a = none) : Ca (d + 1) 331 [.ref a] h Q = Q (.inl none) h := by
  have e : ∀ Q, Ca d 902 [.ref a] h Q = Q (.inl none) h := fun Q => ca_pr (by decide) (by simp only [prim]; rw [if_neg (by decide), if_neg (by decide), if_pos True.intro, if_pos ⟨ht, hb⟩])
  rw [e_J11_init]
  simp (disch := first | assumption | omega | decide | rfl) only [w_J11_init_0, w_J11_init_1, w_J11_init_4, nl_int, nl_ref, nl_null, nl_un, nl_rf, nl_long, isR_ref, isR_null, isR_rf, rf_some, rf_none, rOf_ref, rOf_null, rOf_rf, kn_v, kn_0, true_and, and_true, and_self, tin, inA_x, inA_l, ix_add, ix_addl, ix_ladd, ix_mul, ix_mull, ix_lmul, ix_tn, lt_tn, Nat.reduceLeDiff, Nat.reduceLT, Nat.reduceAdd, Nat.reduceMul, true_or, or_true, ↓reduceIte, aOk, ref_null, null_null, false_or, Option.isSome_some, Option.getD_some, ite_true, ite_false, eq_self, not_false_eq_true, not_true_eq_false, bz_ne, bz_1, reduceCtorEq, Bool.not_true, Bool.not_false, e]
theorem c_nseI (ht : Tg h a = 57) (hb : Fr h fBk a = none) : Ca (d + 3) 341 [.ref a] h Q = Q (.inl none) h := by
  have e1 := fun Q => c_exI (d := d) (Q := Q) (Or.inr ht) hb
  have e2 : ∀ Q, Ca (d + 2) 340 [.ref a] h Q = Q (.inl none) h := fun Q => by
    rw [e_J16_init]
    simp (disch := first | assumption | omega | decide | rfl) only [w_J16_init_0, w_J16_init_1, w_J16_init_4, nl_int, nl_ref, nl_null, nl_un, nl_rf, nl_long, isR_ref, isR_null, isR_rf, rf_some, rf_none, rOf_ref, rOf_null, rOf_rf, kn_v, kn_0, true_and, and_true, and_self, tin, inA_x, inA_l, ix_add, ix_addl, ix_ladd, ix_mul, ix_mull, ix_lmul, ix_tn, lt_tn, Nat.reduceLeDiff, Nat.reduceLT, Nat.reduceAdd, Nat.reduceMul, true_or, or_true, ↓reduceIte, aOk, ref_null, null_null, false_or, Option.isSome_some, Option.getD_some, ite_true, ite_false, eq_self, not_false_eq_true, not_true_eq_false, bz_ne, bz_1, reduceCtorEq, Bool.not_true, Bool.not_false, e1]
  rw [e_J17_init]
  simp (disch := first | assumption | omega | decide | rfl) only [w_J17_init_0, w_J17_init_1, w_J17_init_4, nl_int, nl_ref, nl_null, nl_un, nl_rf, nl_long, isR_ref, isR_null, isR_rf, rf_some, rf_none, rOf_ref, rOf_null, rOf_rf, kn_v, kn_0, true_and, and_true, and_self, tin, inA_x, inA_l, ix_add, ix_addl, ix_ladd, ix_mul, ix_mull, ix_lmul, ix_tn, lt_tn, Nat.reduceLeDiff, Nat.reduceLT, Nat.reduceAdd, Nat.reduceMul, true_or, or_true, ↓reduceIte, aOk, ref_null, null_null, false_or, Option.isSome_some, Option.getD_some, ite_true, ite_false, eq_self, not_false_eq_true, not_true_eq_false, bz_ne, bz_1, reduceCtorEq, Bool.not_true, Bool.not_false, e2]
theorem xthief (X : XN h x lo hi o b O S) (W : WB O S.B) (r1 : Nc h + 1 ≤ 601024) (r2 : Ns h + 20 ≤ 7293034) : Ca (D + 269) 51 [.ref x, .int u, .int v, .int w] h (fun r h' => (mayV O u v w = true ∧ r = .inl (some (.int (thA O S.B (tn u) (tn v) (tn w)))) ∧ Tf x h h') ∨ (mayV O u v w = false ∧ (∃ e, r = .inr e ∧ Tg h' e = 57) ∧ Tw x h h' ∧ Nc h' ≤ Nc h + 1 ∧ Ns h' ≤ Ns h + 20)) := by
  have n5 := X.xo.wo.nG
  generalize hQ : (fun r h' => (mayV O u v w = true ∧ r = .inl (some (.int (thA O S.B (tn u) (tn v) (tn w)))) ∧ Tf x h h') ∨ (mayV O u v w = false ∧ (∃ e, r = .inr e ∧ Tg h' e = 57) ∧ Tw x h h' ∧ Nc h' ≤ Nc h + 1 ∧ Ns h' ≤ Ns h + 20) : Rs → AH → Prop) = Q
  have bad : mayV O u v w = false → Ru (D + 268) 51 28 [.ref x, .int u, .int v, .int w] [] h Q := by
    intro q
    have rm1 : Nc h + 1 ≤ 601024 := r1
    have rm2 : Ns h + 6 ≤ 7293034 := by omega
    have t1 : Tg (nCe h 57 6) (Nx h) = 57 := Tg_new
    have t2 : Fr (nCe h 57 6) fBk (Nx h) = none := Fr_new
    simp (disch := first | assumption | omega | decide | rfl) only [w_X1_thief_28, w_X1_thief_31, w_X1_thief_32, w_X1_thief_35, nl_int, nl_ref, nl_null, nl_un, nl_rf, nl_long, isR_ref, isR_null, isR_rf, rf_some, rf_none, rOf_ref, rOf_null, rOf_rf, kn_v, kn_0, true_and, and_true, and_self, tin, inA_x, inA_l, ix_add, ix_addl, ix_ladd, ix_mul, ix_mull, ix_lmul, ix_tn, lt_tn, Nat.reduceLeDiff, Nat.reduceLT, Nat.reduceAdd, Nat.reduceMul, true_or, or_true, ↓reduceIte, aOk, ref_null, null_null, false_or, Option.isSome_some, Option.getD_some, ite_true, ite_false, eq_self, not_false_eq_true, not_true_eq_false, bz_ne, bz_1, reduceCtorEq, Bool.not_true, Bool.not_false, Rm, rm1, rm2, c_nseI t1 t2, t1]
    rw [← hQ]
    exact Or.inr ⟨q, ⟨_, rfl, t1⟩, tw_new, Nat.le_refl _, by show Ns h + 6 ≤ _; omega⟩
  rw [e_X1_thief]
  have iw := inN_w (v := u) (n := O.nG) (by omega)
  cases q1 : inN u O.nG
  · rw [q1] at iw
    simp (disch := first | assumption | omega | decide | rfl) only [w_X1_thief_0, w_X1_thief_1, w_X1_thief_2, w_X1_thief_3, w_X1_thief_6, w_X1_thief_9, w_X1_thief_12, w_X1_thief_13, w_X1_thief_14, w_X1_thief_17, nl_int, nl_ref, nl_null, nl_un, nl_rf, nl_long, isR_ref, isR_null, isR_rf, rf_some, rf_none, rOf_ref, rOf_null, rOf_rf, kn_v, kn_0, true_and, and_true, and_self, tin, inA_x, inA_l, ix_add, ix_addl, ix_ladd, ix_mul, ix_mull, ix_lmul, ix_tn, lt_tn, Nat.reduceLeDiff, Nat.reduceLT, Nat.reduceAdd, Nat.reduceMul, true_or, or_true, ↓reduceIte, aOk, ref_null, null_null, false_or, Option.isSome_some, Option.getD_some, ite_true, ite_false, eq_self, not_false_eq_true, not_true_eq_false, bz_ne, bz_1, reduceCtorEq, Bool.not_true, Bool.not_false, X.f.tx, cx_now X, X.xo.tg, X.xo.pg.fr, X.xo.pg.wl.tg, X.pgs, cx_within, iw]
    exact bad (by unfold mayV; rw [q1]; rfl)
  · rw [q1] at iw
    obtain ⟨p, hp, rfl⟩ := inN_ex (by omega) q1
    cases q4 : voF v w
    · simp (disch := first | assumption | omega | decide | rfl) only [w_X1_thief_0, w_X1_thief_1, w_X1_thief_2, w_X1_thief_3, w_X1_thief_6, w_X1_thief_9, w_X1_thief_12, w_X1_thief_13, w_X1_thief_14, w_X1_thief_17, w_X1_thief_20, w_X1_thief_21, w_X1_thief_22, w_X1_thief_25, nl_int, nl_ref, nl_null, nl_un, nl_rf, nl_long, isR_ref, isR_null, isR_rf, rf_some, rf_none, rOf_ref, rOf_null, rOf_rf, kn_v, kn_0, true_and, and_true, and_self, tin, inA_x, inA_l, ix_add, ix_addl, ix_ladd, ix_mul, ix_mull, ix_lmul, ix_tn, lt_tn, Nat.reduceLeDiff, Nat.reduceLT, Nat.reduceAdd, Nat.reduceMul, true_or, or_true, ↓reduceIte, aOk, ref_null, null_null, false_or, Option.isSome_some, Option.getD_some, ite_true, ite_false, eq_self, not_false_eq_true, not_true_eq_false, bz_ne, bz_1, reduceCtorEq, Bool.not_true, Bool.not_false, X.f.tx, cx_now X, X.xo.tg, X.xo.pg.fr, X.xo.pg.wl.tg, X.pgs, cx_within, iw, cx_areLane, q4]
      exact bad (by unfold mayV; rw [q4, Bool.and_false])
    · obtain ⟨a, s, ha, hs, rfl, rfl⟩ := voF_ex q4
      have ok : mayV O (ix p) (ix a) (ix s) = true := by unfold mayV; rw [q1, q4]; rfl
      simp (disch := first | assumption | omega | decide | rfl) only [w_X1_thief_0, w_X1_thief_1, w_X1_thief_2, w_X1_thief_3, w_X1_thief_6, w_X1_thief_9, w_X1_thief_12, w_X1_thief_13, w_X1_thief_14, w_X1_thief_17, w_X1_thief_20, w_X1_thief_21, w_X1_thief_22, w_X1_thief_25, w_X1_thief_36, w_X1_thief_37, w_X1_thief_38, w_X1_thief_39, w_X1_thief_40, nl_int, nl_ref, nl_null, nl_un, nl_rf, nl_long, isR_ref, isR_null, isR_rf, rf_some, rf_none, rOf_ref, rOf_null, rOf_rf, kn_v, kn_0, true_and, and_true, and_self, tin, inA_x, inA_l, ix_add, ix_addl, ix_ladd, ix_mul, ix_mull, ix_lmul, ix_tn, lt_tn, Nat.reduceLeDiff, Nat.reduceLT, Nat.reduceAdd, Nat.reduceMul, true_or, or_true, ↓reduceIte, aOk, ref_null, null_null, false_or, Option.isSome_some, Option.getD_some, ite_true, ite_false, eq_self, not_false_eq_true, not_true_eq_false, bz_ne, bz_1, reduceCtorEq, Bool.not_true, Bool.not_false, X.f.tx, cx_now X, X.xo.tg, X.xo.pg.fr, X.xo.pg.wl.tg, X.pgs, cx_within, iw, cx_areLane, q4]
      refine ca_mono (cx_stolen X W hp ha hs) ?_
      rintro r h1 ⟨rfl, t1⟩
      simp (disch := first | assumption | omega | decide | rfl) only [w_X1_thief_43, nl_int, nl_ref, nl_null, nl_un, nl_rf, nl_long, isR_ref, isR_null, isR_rf, rf_some, rf_none, rOf_ref, rOf_null, rOf_rf, kn_v, kn_0, true_and, and_true, and_self, tin, inA_x, inA_l, ix_add, ix_addl, ix_ladd, ix_mul, ix_mull, ix_lmul, ix_tn, lt_tn, Nat.reduceLeDiff, Nat.reduceLT, Nat.reduceAdd, Nat.reduceMul, true_or, or_true, ↓reduceIte, aOk, ref_null, null_null, false_or, Option.isSome_some, Option.getD_some, ite_true, ite_false, eq_self, not_false_eq_true, not_true_eq_false, bz_ne, bz_1, reduceCtorEq, Bool.not_true, Bool.not_false]
      rw [← hQ, tn_ix (by omega), tn_ix (by omega), tn_ix (by omega)]
      exact Or.inl ⟨ok, rfl, t1⟩
/-! banns -/
theorem Wk.refl : Wk x k h h := ⟨Un.refl, rfl, rfl, fun _ _ => rfl⟩
theorem Wk.trans (u : Wk x k h h1) (t : Wk x k h1 h2) : Wk x k h h2 := ⟨u.1.trans t.1 (fun z hz q => by
  have e := (u.1.2.2.2.2.1 z hz).1
  rw [e] at q
  exact q), t.2.1.trans u.2.1, t.2.2.1.trans u.2.2.1, fun j hj => (t.2.2.2 j hj).trans (u.2.2.2 j hj)⟩
theorem Wk.up (u : Wk x (k + 1) h h1) : Wk x k h h1 := ⟨u.1.mono (fun z _ q => by omega), u.2.1, u.2.2.1, fun j hj => u.2.2.2 j (by omega)⟩
theorem Bx.wk (u : Bx (x + (55 + 2 * i)) h h') (hk : k ≤ i) (hi : i < 4) (f : XF h x) : Wk x k h h' := by
  have uu := u.un
  have t63 : Tg h (x + 63) = 1018 := f.t (63, 1018) (by decide)
  obtain ⟨u1, u2, u3, u4, u5, u6, u7, u8, u9, u10, u11, u12⟩ := u
  exact ⟨uu.mono (fun z _ q => by omega), (u10 57 _ (by omega)).1, (u10 58 _ (by omega)).1, fun j _ => by rw [u11 _ (by omega) (by omega) (by omega)]⟩
theorem Bx.bw (u : Bx (x + (55 + 2 * i)) h h') (hi : i < 4) (f : XF h x) (y : BW h x n st) : BW h' x n st := by
  have t64 : Tg h (x + 64) = 1019 := f.t (64, 1019) (by decide)
  obtain ⟨u1, u2, u3, u4, u5, u6, u7, u8, u9, u10, u11, u12⟩ := u
  unfold BW
  rw [(u10 56 (x + 53) (by omega)).1, u11 (x + 64) (by omega) (by omega) (by omega)]
  exact y
theorem Wk.xb (u : Wk x k h h') (hk : k ≤ 4) (y : XB lo hi h t o c C) (h3 : t + 1 < x + 53 ∨ (x + 54 ≤ t ∧ t + 1 < x + 55 + 2 * k) ∨ x + 65 ≤ t) : XB lo hi h' t o c C := y.un u.1 (by have := y.tg; omega) (by have := y.ta; omega)
theorem XF.t54 (f : XF h x) : Tg h (x + 54) = 5007 := f.t (54, 5007) (by decide)
theorem XF.n54 (f : XF h x) : An h (x + 54) = 4 := f.n (54, 4) (by decide)
theorem XF.t63 (f : XF h x) : Tg h (x + 63) = 1018 := f.t (63, 1018) (by decide)
theorem XF.n63 (f : XF h x) : An h (x + 63) = 4 := f.n (63, 4) (by decide)
theorem XF.t64 (f : XF h x) : Tg h (x + 64) = 1019 := f.t (64, 1019) (by decide)
theorem XF.n64 (f : XF h x) : An h (x + 64) = 4 := f.n (64, 4) (by decide)
theorem XF.f53 (f : XF h x) : Fr h 53 (x + 53) = some (x + 54) := f.r (53, 53, 54) (by decide)
theorem XF.f54 (f : XF h x) : Fr h 54 (x + 53) = some (x + 63) := f.r (54, 53, 63) (by decide)
theorem XF.f55 (f : XF h x) : Fr h 55 (x + 53) = some (x + 64) := f.r (55, 53, 64) (by decide)
theorem XF.f59 (f : XF h x) : Fr h 59 (x + 53) = some x := f.r (59, 53, 0) (by decide)
theorem XF.st2 (f : XF h x) (hn : n < 4) : Ar h (x + 54) n = some (x + (55 + 2 * n)) := by
  have := f.s2 n hn
  rw [Nat.add_assoc] at this
  exact this
theorem more_x (a b c l : Int32) : l + (a + b + c - a) = l + b + c := by
  rw [Int32.add_assoc a, Int32.add_comm a, Int32.add_sub_cancel, Int32.add_assoc]
theorem cx_goes (wo : WO O) (hl : lane < 12) (hd : loud < 7) : ∀ n k, k + n = O.nB → ∀ D, n ≤ D → ∀ used t C L ord st h, pcn used = k → used < 2 ^ O.nB → L ≤ 20000 * k → XN h x lo hi o b O S → XB lo hi h t o O.nA C → WB O C → (t = b ∨ (0 < k ∧ t = x + (55 + 2 * (k - 1)))) → Fi h 57 (x + 53) = ix lane → Fi h 58 (x + 53) = ix loud → (∀ j, j < k → Ai h (x + 63) j = ix (ord j)) → BW h x O.nB st → Ca (D + 270) 133 [.ref (x + 53), .ref t, .int (ix k), .int (ix used), .int (ix L)] h (fun r h' => r = .inl none ∧ Tf x h h' ∧ Wk x k h h' ∧ BW h' x O.nB (bnF O lane loud n used C (ix L) ord k st)) := by
  have n1 := wo.nA
  have n6 := wo.nB
  have p16 : 2 ^ O.nB ≤ 16 := Nat.pow_le_pow_right (n := 2) (j := 4) (by decide) n6
  intro n
  induction n with
  | zero =>
    intro k hk D hD used t C L ord st h hp hu hL X y z ht f57 f58 go gb
    have ek : k = O.nB := by omega
    have d0 : (k = O.nB) = True := eq_true ek
    obtain ⟨g1, g2, g3⟩ := id gb
    have mm := m1_lt g3
    have ez : ∀ Q, Ca (D + 269) 301 [.ref (ol h o 38)] h Q = Q (.inl (some (.int (ix O.nB)))) h := fun Q => X.xo.bn.size
    rw [bnF]
    generalize hQ : (fun r h' => r = .inl none ∧ Tf x h h' ∧ Wk x k h h' ∧ BW h' x O.nB (if ¬ st.1 < 0 ∧ ¬ ix L < st.1 then st else (ix L, ord)) : Rs → AH → Prop) = Q
    have take : ¬ (¬ st.1 < 0 ∧ ¬ ix L < st.1) → Ru (D + 269) 133 35 [.ref (x + 53), .ref t, .int (ix k), .int (ix used), .int (ix L), un, un, un, un, un] [] h Q := by
      intro q
      rw [if_neg q] at hQ
      simp (disch := first | assumption | omega | decide | rfl) only [w_X8_goes_35, w_X8_goes_36, w_X8_goes_38, nl_int, nl_ref, nl_null, nl_un, nl_rf, nl_long, isR_ref, isR_null, isR_rf, rf_some, rf_none, rOf_ref, rOf_null, rOf_rf, kn_v, kn_0, true_and, and_true, and_self, tin, inA_x, inA_l, ix_add, ix_addl, ix_ladd, ix_mul, ix_mull, ix_lmul, ix_tn, lt_tn, Nat.reduceLeDiff, Nat.reduceLT, Nat.reduceAdd, Nat.reduceMul, true_or, or_true, ↓reduceIte, aOk, ref_null, null_null, false_or, Option.isSome_some, Option.getD_some, ite_true, ite_false, eq_self, not_false_eq_true, not_true_eq_false, bz_ne, bz_1, reduceCtorEq, Bool.not_true, Bool.not_false, X.f.t53]
      have t1 : Tf x h (sFi h 56 (x + 53) (ix L)) := tf_fi (by unfold Xs; omega)
      have a1 : Fi (sFi h 56 (x + 53) (ix L)) 56 (x + 53) = ix L := Fi_same
      have a2 : Fi (sFi h 56 (x + 53) (ix L)) 57 (x + 53) = Fi h 57 (x + 53) := Fi_otherf (by decide)
      have a3 : Fi (sFi h 56 (x + 53) (ix L)) 58 (x + 53) = Fi h 58 (x + 53) := Fi_otherf (by decide)
      have a4 : Ai (sFi h 56 (x + 53) (ix L)) = Ai h := rfl
      have a5 : Un (fun a => a = x + 53) h (sFi h 56 (x + 53) (ix L)) := un_sFi rfl
      revert t1 a1 a2 a3 a4 a5
      generalize sFi h 56 (x + 53) (ix L) = h1
      intro t1 a1 a2 a3 a4 a5
      have X1 := X.tf t1
      simp (disch := first | assumption | omega | decide | rfl) only [w_X8_goes_41, w_X8_goes_42, w_X8_goes_45, w_X8_goes_46, w_X8_goes_47, w_X8_goes_50, w_X8_goes_51, w_X8_goes_52, nl_int, nl_ref, nl_null, nl_un, nl_rf, nl_long, isR_ref, isR_null, isR_rf, rf_some, rf_none, rOf_ref, rOf_null, rOf_rf, kn_v, kn_0, true_and, and_true, and_self, tin, inA_x, inA_l, ix_add, ix_addl, ix_ladd, ix_mul, ix_mull, ix_lmul, ix_tn, lt_tn, Nat.reduceLeDiff, Nat.reduceLT, Nat.reduceAdd, Nat.reduceMul, true_or, or_true, ↓reduceIte, aOk, ref_null, null_null, false_or, Option.isSome_some, Option.getD_some, ite_true, ite_false, eq_self, not_false_eq_true, not_true_eq_false, bz_ne, bz_1, reduceCtorEq, Bool.not_true, Bool.not_false, X1.f.t53, X1.f.f54, X1.f.f55]
      rw [show ((0 : Int32)) = ix 0 from rfl, show ((4 : Int32)) = ix 4 from rfl, c_copyI (by rw [tin, X1.f.t63]; decide) (by rw [tin, X1.f.t64]; decide) (by rw [X1.f.n63]; decide) (by rw [X1.f.n64]; decide) (by rw [X1.f.n63]; decide) (by rw [X1.f.n64]; decide), kn_0]
      simp (disch := first | assumption | omega | decide | rfl) only [w_X8_goes_55, nl_int, nl_ref, nl_null, nl_un, nl_rf, nl_long, isR_ref, isR_null, isR_rf, rf_some, rf_none, rOf_ref, rOf_null, rOf_rf, kn_v, kn_0, true_and, and_true, and_self, tin, inA_x, inA_l, ix_add, ix_addl, ix_ladd, ix_mul, ix_mull, ix_lmul, ix_tn, lt_tn, Nat.reduceLeDiff, Nat.reduceLT, Nat.reduceAdd, Nat.reduceMul, true_or, or_true, ↓reduceIte, aOk, ref_null, null_null, false_or, Option.isSome_some, Option.getD_some, ite_true, ite_false, eq_self, not_false_eq_true, not_true_eq_false, bz_ne, bz_1, reduceCtorEq, Bool.not_true, Bool.not_false]
      rw [← hQ]
      have uw : Un (fun a => Tg h a = 1014 ∨ Tg h a = 1015 ∨ a = x + 53 ∨ a = x + 63 ∨ a = x + 64 ∨ (x + 55 + 2 * k ≤ a ∧ a ≤ x + 62)) h (sAi h1 (x + 64) (va_cpy (Ai h1 (x + 63)) (Ai h1 (x + 64)) 0 0 4)) := (a5.mono (fun z _ q => Or.inr (Or.inr (Or.inl q)))).trans (un_sAi (A := fun z => z = x + 64) rfl) (fun z _ q => Or.inr (Or.inr (Or.inr (Or.inr (Or.inl q)))))
      refine ⟨rfl, t1.trans (tf_ai (by unfold Xs; omega)), ⟨uw, a2, a3, fun j _ => ?_⟩, a1, fun _ j hj => ?_, Or.inr (ix_nn (by omega))⟩
      · rw [Ai_other (by omega), a4]
      · rw [Ai_same, cpy_at (by omega), a4]
        exact go j (by omega)
    rw [e_X8_goes nl_ref]
    by_cases q1 : st.1 < 0
    · have e1 : (st.1 = -1) = True := by rw [mm]; exact eq_true q1
      simp (disch := first | assumption | omega | decide | rfl) only [w_X8_goes_0, w_X8_goes_1, w_X8_goes_2, w_X8_goes_5, w_X8_goes_8, w_X8_goes_11, w_X8_goes_14, w_X8_goes_17, w_X8_goes_18, w_X8_goes_21, w_X8_goes_22, nl_int, nl_ref, nl_null, nl_un, nl_rf, nl_long, isR_ref, isR_null, isR_rf, rf_some, rf_none, rOf_ref, rOf_null, rOf_rf, kn_v, kn_0, true_and, and_true, and_self, tin, inA_x, inA_l, ix_add, ix_addl, ix_ladd, ix_mul, ix_mull, ix_lmul, ix_tn, lt_tn, Nat.reduceLeDiff, Nat.reduceLT, Nat.reduceAdd, Nat.reduceMul, true_or, or_true, ↓reduceIte, aOk, ref_null, null_null, false_or, Option.isSome_some, Option.getD_some, ite_true, ite_false, eq_self, not_false_eq_true, not_true_eq_false, bz_ne, bz_1, reduceCtorEq, Bool.not_true, Bool.not_false, X.f.t53, X.f.f59, X.f.tx, cx_now X, X.xo.tg, X.xo.bn.fr, X.xo.bn.wl.tg, ez, ix_eq, d0, g1, e1]
      exact take (fun q => q.1 q1)
    · have e1 : (st.1 = -1) = False := by rw [mm]; exact eq_false q1
      by_cases q2 : ix L < st.1
      · simp (disch := first | assumption | omega | decide | rfl) only [w_X8_goes_0, w_X8_goes_1, w_X8_goes_2, w_X8_goes_5, w_X8_goes_8, w_X8_goes_11, w_X8_goes_14, w_X8_goes_17, w_X8_goes_18, w_X8_goes_21, w_X8_goes_22, w_X8_goes_25, w_X8_goes_27, w_X8_goes_28, w_X8_goes_31, nl_int, nl_ref, nl_null, nl_un, nl_rf, nl_long, isR_ref, isR_null, isR_rf, rf_some, rf_none, rOf_ref, rOf_null, rOf_rf, kn_v, kn_0, true_and, and_true, and_self, tin, inA_x, inA_l, ix_add, ix_addl, ix_ladd, ix_mul, ix_mull, ix_lmul, ix_tn, lt_tn, Nat.reduceLeDiff, Nat.reduceLT, Nat.reduceAdd, Nat.reduceMul, true_or, or_true, ↓reduceIte, aOk, ref_null, null_null, false_or, Option.isSome_some, Option.getD_some, ite_true, ite_false, eq_self, not_false_eq_true, not_true_eq_false, bz_ne, bz_1, reduceCtorEq, Bool.not_true, Bool.not_false, X.f.t53, X.f.f59, X.f.tx, cx_now X, X.xo.tg, X.xo.bn.fr, X.xo.bn.wl.tg, ez, ix_eq, d0, g1, e1, q2]
        exact take (fun q => q.2 q2)
      · simp (disch := first | assumption | omega | decide | rfl) only [w_X8_goes_0, w_X8_goes_1, w_X8_goes_2, w_X8_goes_5, w_X8_goes_8, w_X8_goes_11, w_X8_goes_14, w_X8_goes_17, w_X8_goes_18, w_X8_goes_21, w_X8_goes_22, w_X8_goes_25, w_X8_goes_27, w_X8_goes_28, w_X8_goes_31, w_X8_goes_34, nl_int, nl_ref, nl_null, nl_un, nl_rf, nl_long, isR_ref, isR_null, isR_rf, rf_some, rf_none, rOf_ref, rOf_null, rOf_rf, kn_v, kn_0, true_and, and_true, and_self, tin, inA_x, inA_l, ix_add, ix_addl, ix_ladd, ix_mul, ix_mull, ix_lmul, ix_tn, lt_tn, Nat.reduceLeDiff, Nat.reduceLT, Nat.reduceAdd, Nat.reduceMul, true_or, or_true, ↓reduceIte, aOk, ref_null, null_null, false_or, Option.isSome_some, Option.getD_some, ite_true, ite_false, eq_self, not_false_eq_true, not_true_eq_false, bz_ne, bz_1, reduceCtorEq, Bool.not_true, Bool.not_false, X.f.t53, X.f.f59, X.f.tx, cx_now X, X.xo.tg, X.xo.bn.fr, X.xo.bn.wl.tg, ez, ix_eq, d0, g1, e1, q2]
        rw [← hQ, if_pos ⟨q1, q2⟩]
        exact ⟨rfl, Tf.refl, Wk.refl, gb⟩
  | succ n ih =>
    intro k hk D hD used t C L ord st h hp hu hL X y z ht f57 f58 go gb
    obtain ⟨D, rfl⟩ : ∃ E, D = E + 1 := ⟨D - 1, by omega⟩
    have hD : n ≤ D := by omega
    have nb := X.nb
    have d0 : (k = O.nB) = False := eq_false (by omega)
    have ez : ∀ h2, XN h2 x lo hi o b O S → ∀ Q, Ca (D + 270) 301 [.ref (ol h2 o 38)] h2 Q = Q (.inl (some (.int (ix O.nB)))) h2 := fun h2 X2 Q => X2.xo.bn.size
    have e0 := ez h X
    have tou : t + 1 < x + 53 ∨ (x + 54 ≤ t ∧ t + 1 < x + 55 + 2 * k) ∨ x + 65 ≤ t := by omega
    have tne : t ≠ x + (55 + 2 * k) := by omega
    have hb : Fb x (x + (55 + 2 * k)) := by omega
    rw [show D + 1 + 270 = D + 270 + 1 by omega, e_X8_goes nl_ref, bnF]
    generalize hQ : (fun r h' => r = .inl none ∧ Tf x h h' ∧ Wk x k h h' ∧ BW h' x O.nB (foI (fun st b => if used.testBit b = true then st else bnF O lane loud n (used ||| 2 ^ b) (bnB O lane loud C b) (bnL O lane loud C b (ix L)) (fun j => if j = k then b else ord j) (k + 1) st) st O.nB) : Rs → AH → Prop) = Q
    simp (disch := first | assumption | omega | decide | rfl) only [w_X8_goes_0, w_X8_goes_1, w_X8_goes_2, w_X8_goes_5, w_X8_goes_8, w_X8_goes_11, w_X8_goes_14, w_X8_goes_56, w_X8_goes_57, nl_int, nl_ref, nl_null, nl_un, nl_rf, nl_long, isR_ref, isR_null, isR_rf, rf_some, rf_none, rOf_ref, rOf_null, rOf_rf, kn_v, kn_0, true_and, and_true, and_self, tin, inA_x, inA_l, ix_add, ix_addl, ix_ladd, ix_mul, ix_mull, ix_lmul, ix_tn, lt_tn, Nat.reduceLeDiff, Nat.reduceLT, Nat.reduceAdd, Nat.reduceMul, true_or, or_true, ↓reduceIte, aOk, ref_null, null_null, false_or, Option.isSome_some, Option.getD_some, ite_true, ite_false, eq_self, not_false_eq_true, not_true_eq_false, bz_ne, bz_1, reduceCtorEq, Bool.not_true, Bool.not_false, X.f.t53, X.f.f59, X.f.tx, cx_now X, X.xo.tg, X.xo.bn.fr, X.xo.bn.wl.tg, e0, ix_eq, d0]
    refine lp (P := fun j => ∀ h2 (v6 v7 v8 v9 : Value), nl v6 = true → nl v7 = true → Tf x h h2 → Wk x k h h2 → ∀ st2, st2 = foI (fun st b => if used.testBit b = true then st else bnF O lane loud n (used ||| 2 ^ b) (bnB O lane loud C b) (bnL O lane loud C b (ix L)) (fun j => if j = k then b else ord j) (k + 1) st) st j → BW h2 x O.nB st2 → Ru (D + 270) 133 59 [.ref (x + 53), .ref t, .int (ix k), .int (ix used), .int (ix L), .int (ix j), v6, v7, v8, v9] [] h2 Q) (N := O.nB) ?_ ?_ h un un un un rfl rfl Tf.refl Wk.refl st (by rw [foI]) gb
    · intro h2 v6 v7 v8 v9 nv6 nv7 t2 w2 st2 es gb2
      have X2 := X.tf t2
      have e2 := ez h2 X2
      have e : ¬ O.nB < O.nB := by omega
      rw [w_X8_goes_59]
      simp (disch := first | assumption | omega | decide | rfl) only [w_X8_goes_61, w_X8_goes_62, w_X8_goes_65, w_X8_goes_68, w_X8_goes_71, w_X8_goes_74, w_X8_goes_220, nl_int, nl_ref, nl_null, nl_un, nl_rf, nl_long, isR_ref, isR_null, isR_rf, rf_some, rf_none, rOf_ref, rOf_null, rOf_rf, kn_v, kn_0, true_and, and_true, and_self, tin, inA_x, inA_l, ix_add, ix_addl, ix_ladd, ix_mul, ix_mull, ix_lmul, ix_tn, lt_tn, Nat.reduceLeDiff, Nat.reduceLT, Nat.reduceAdd, Nat.reduceMul, true_or, or_true, ↓reduceIte, aOk, ref_null, null_null, false_or, Option.isSome_some, Option.getD_some, ite_true, ite_false, eq_self, not_false_eq_true, not_true_eq_false, bz_ne, bz_1, reduceCtorEq, Bool.not_true, Bool.not_false, X2.f.t53, X2.f.f59, X2.f.tx, cx_now X2, X2.xo.tg, X2.xo.bn.fr, X2.xo.bn.wl.tg, e2, ix_lt, e]
      rw [← hQ, ← es]
      exact ⟨rfl, t2, w2, gb2⟩
    · intro j hj nx h2 v6 v7 v8 v9 nv6 nv7 t2 w2 st2 es gb2
      have X2 := X.tf t2
      have e2 := ez h2 X2
      have jn : ∀ h3 (v6 v7 v8 v9 : Value), nl v6 = true → nl v7 = true → Tf x h h3 → Wk x k h h3 → BW h3 x O.nB (if used.testBit j = true then st2 else bnF O lane loud n (used ||| 2 ^ j) (bnB O lane loud C j) (bnL O lane loud C j (ix L)) (fun i => if i = k then j else ord i) (k + 1) st2) → Ru (D + 270) 133 214 [.ref (x + 53), .ref t, .int (ix k), .int (ix used), .int (ix L), .int (ix j), v6, v7, v8, v9] [] h3 Q := by
        intro h3 v6 v7 v8 v9 nv6 nv7 t3 w3 g3
        simp (disch := first | assumption | omega | decide | rfl) only [w_X8_goes_214, w_X8_goes_217, nl_int, nl_ref, nl_null, nl_un, nl_rf, nl_long, isR_ref, isR_null, isR_rf, rf_some, rf_none, rOf_ref, rOf_null, rOf_rf, kn_v, kn_0, true_and, and_true, and_self, tin, inA_x, inA_l, ix_add, ix_addl, ix_ladd, ix_mul, ix_mull, ix_lmul, ix_tn, lt_tn, Nat.reduceLeDiff, Nat.reduceLT, Nat.reduceAdd, Nat.reduceMul, true_or, or_true, ↓reduceIte, aOk, ref_null, null_null, false_or, Option.isSome_some, Option.getD_some, ite_true, ite_false, eq_self, not_false_eq_true, not_true_eq_false, bz_ne, bz_1, reduceCtorEq, Bool.not_true, Bool.not_false]
        refine nx h3 v6 v7 v8 v9 nv6 nv7 t3 w3 _ ?_ g3
        rw [foI, es]
      have hb1 := fun Q => c_has (d := D + 269) (h := h2) (Q := Q) (show used < 1024 by omega) (show j < 10 by omega)
      rw [w_X8_goes_59]
      cases q1 : used.testBit j
      · rw [q1, if_neg (by decide)] at jn
        rw [q1] at hb1
        have s2 := X2.st2 (i := k) (by omega)
        obtain ⟨-, r1, r2, r3, r4⟩ := X2.xo.bn1 j hj
        have y2 := w2.xb (by omega) y tou
        simp (disch := first | assumption | omega | decide | rfl) only [w_X8_goes_61, w_X8_goes_62, w_X8_goes_65, w_X8_goes_68, w_X8_goes_71, w_X8_goes_74, w_X8_goes_77, w_X8_goes_78, w_X8_goes_80, w_X8_goes_83, w_X8_goes_89, w_X8_goes_90, w_X8_goes_93, w_X8_goes_94, w_X8_goes_95, w_X8_goes_96, nl_int, nl_ref, nl_null, nl_un, nl_rf, nl_long, isR_ref, isR_null, isR_rf, rf_some, rf_none, rOf_ref, rOf_null, rOf_rf, kn_v, kn_0, true_and, and_true, and_self, tin, inA_x, inA_l, ix_add, ix_addl, ix_ladd, ix_mul, ix_mull, ix_lmul, ix_tn, lt_tn, Nat.reduceLeDiff, Nat.reduceLT, Nat.reduceAdd, Nat.reduceMul, true_or, or_true, ↓reduceIte, aOk, ref_null, null_null, false_or, Option.isSome_some, Option.getD_some, ite_true, ite_false, eq_self, not_false_eq_true, not_true_eq_false, bz_ne, bz_1, reduceCtorEq, Bool.not_true, Bool.not_false, X2.f.t53, X2.f.f59, X2.f.tx, cx_now X2, X2.xo.tg, X2.xo.bn.fr, X2.xo.bn.wl.tg, e2, ix_lt, hj, hb1, X2.f.f53, X2.f.t54, X2.f.n54, X2.f.st2 (show k < 4 by omega), s2.tg]
        refine ca_mono (cx_copies s2 y2 tne n1) ?_
        rintro r h3 ⟨rfl, bx3, y3⟩
        have t23 := bx3.tf (x := x) hb s2.tg
        have w23 := bx3.wk (x := x) (k := k) (Nat.le_refl _) (by omega) X2.f
        have gb3 := bx3.bw (by omega) X2.f gb2
        have X3 := X2.tf t23
        obtain ⟨-, r1, r2, r3, r4⟩ := X3.xo.bn1 j hj
        have tm := tmI (t := Tg h3 (oe h3 o 38 j)) (by omega) (by omega)
        have t5 : 1000 ≤ Tg h3 (oe h3 o 38 j) := by omega
        have t6 : Tg h3 (oe h3 o 38 j) < 2000 := by omega
        have b1 := wo.ba j hj
        have b2 := wo.bb j hj
        have l3 : Fi h3 57 (x + 53) = ix lane := by rw [w23.2.1, w2.2.1]; exact f57
        have l4 : Fi h3 58 (x + 53) = ix loud := by rw [w23.2.2.1, w2.2.2.1]; exact f58
        simp (disch := first | assumption | omega | decide | rfl) only [w_X8_goes_99, w_X8_goes_101, w_X8_goes_102, w_X8_goes_105, w_X8_goes_108, w_X8_goes_111, w_X8_goes_113, w_X8_goes_116, w_X8_goes_119, w_X8_goes_121, w_X8_goes_123, w_X8_goes_126, w_X8_goes_128, w_X8_goes_130, w_X8_goes_131, w_X8_goes_134, w_X8_goes_135, w_X8_goes_138, w_X8_goes_140, w_X8_goes_141, w_X8_goes_142, nl_int, nl_ref, nl_null, nl_un, nl_rf, nl_long, isR_ref, isR_null, isR_rf, rf_some, rf_none, rOf_ref, rOf_null, rOf_rf, kn_v, kn_0, true_and, and_true, and_self, tin, inA_x, inA_l, ix_add, ix_addl, ix_ladd, ix_mul, ix_mull, ix_lmul, ix_tn, lt_tn, Nat.reduceLeDiff, Nat.reduceLT, Nat.reduceAdd, Nat.reduceMul, true_or, or_true, ↓reduceIte, aOk, ref_null, null_null, false_or, Option.isSome_some, Option.getD_some, ite_true, ite_false, eq_self, not_false_eq_true, not_true_eq_false, bz_ne, bz_1, reduceCtorEq, Bool.not_true, Bool.not_false, X3.f.t53, X3.f.f59, X3.f.tx, cx_now X3, X3.xo.tg, X3.xo.bn.fr, X3.xo.bn.wl.tg, X3.xo.bn.get hj, tm, t5, t6, r2, r3, y3.tg, y3.had, l3, l4]
        have g1 : Tg h3 (oe h3 o 38 j) = 1012 := r1
        have g2 : An h3 (oe h3 o 38 j) = 2 := r2
        generalize oe h3 o 38 j = row at r1 r2 r3 r4 tm t5 t6 g1 g2 ⊢
        refine ca_mono (cx_called X3.xo y3 z b1 hl hd) ?_
        rintro r h4 ⟨rfl, bx4, y4⟩
        have t34 := bx4.tf (x := x) hb y3.tg
        have w34 := bx4.wk (x := x) (k := k) (Nat.le_refl _) (by omega) X3.f
        have gb4 := bx4.bw (by omega) X3.f gb3
        have X4 := X3.tf t34
        have p1 : Tg h4 row = 1012 := by rw [bx4.1]; exact g1
        have p2 : An h4 row = 2 := by rw [bx4.2.1]; exact g2
        have p3 : Ai h4 row 1 = ix (O.bb j) := by
          have : Ai h4 row = Ai h3 row := bx4.2.2.2.2.2.2.2.2.2.2.1 row (fun e => by have := y3.ta; rw [← e] at this; omega) (by omega) (by omega)
          rw [this]; exact r4
        have t7 : 1000 ≤ Tg h4 row := by omega
        have t8 : Tg h4 row < 2000 := by omega
        have l5 : Fi h4 57 (x + 53) = ix lane := by rw [w34.2.1]; exact l3
        have l6 : Fi h4 58 (x + 53) = ix loud := by rw [w34.2.2.1]; exact l4
        simp (disch := first | assumption | omega | decide | rfl) only [w_X8_goes_145, w_X8_goes_146, w_X8_goes_148, w_X8_goes_149, w_X8_goes_152, w_X8_goes_153, w_X8_goes_156, w_X8_goes_158, w_X8_goes_159, w_X8_goes_160, nl_int, nl_ref, nl_null, nl_un, nl_rf, nl_long, isR_ref, isR_null, isR_rf, rf_some, rf_none, rOf_ref, rOf_null, rOf_rf, kn_v, kn_0, true_and, and_true, and_self, tin, inA_x, inA_l, ix_add, ix_addl, ix_ladd, ix_mul, ix_mull, ix_lmul, ix_tn, lt_tn, Nat.reduceLeDiff, Nat.reduceLT, Nat.reduceAdd, Nat.reduceMul, true_or, or_true, ↓reduceIte, aOk, ref_null, null_null, false_or, Option.isSome_some, Option.getD_some, ite_true, ite_false, eq_self, not_false_eq_true, not_true_eq_false, bz_ne, bz_1, reduceCtorEq, Bool.not_true, Bool.not_false, X4.f.t53, t7, t8, p2, p3, y4.tg, l5, l6]
        refine ca_mono (cx_called X4.xo y4 (wb_ca z) b2 hl hd) ?_
        rintro r h5 ⟨rfl, bx5, y5⟩
        have t45 := bx5.tf (x := x) hb y4.tg
        have w45 := bx5.wk (x := x) (k := k) (Nat.le_refl _) (by omega) X4.f
        have gb5 := bx5.bw (by omega) X4.f gb4
        have X5 := X4.tf t45
        simp (disch := first | assumption | omega | decide | rfl) only [w_X8_goes_163, w_X8_goes_164, w_X8_goes_166, w_X8_goes_169, w_X8_goes_171, w_X8_goes_172, w_X8_goes_174, w_X8_goes_176, w_X8_goes_177, w_X8_goes_180, w_X8_goes_182, w_X8_goes_183, nl_int, nl_ref, nl_null, nl_un, nl_rf, nl_long, isR_ref, isR_null, isR_rf, rf_some, rf_none, rOf_ref, rOf_null, rOf_rf, kn_v, kn_0, true_and, and_true, and_self, tin, inA_x, inA_l, ix_add, ix_addl, ix_ladd, ix_mul, ix_mull, ix_lmul, ix_tn, lt_tn, Nat.reduceLeDiff, Nat.reduceLT, Nat.reduceAdd, Nat.reduceMul, true_or, or_true, ↓reduceIte, aOk, ref_null, null_null, false_or, Option.isSome_some, Option.getD_some, ite_true, ite_false, eq_self, not_false_eq_true, not_true_eq_false, bz_ne, bz_1, reduceCtorEq, Bool.not_true, Bool.not_false, y5.tg, y5.had, y5.day]
        have y6 := xb_day (v := (caF O (caF O C (O.ba j) lane loud) (O.bb j) lane loud).day + 7) y5
        have bx6 : Bx (x + (55 + 2 * k)) h5 (sFi h5 29 (x + (55 + 2 * k)) ((caF O (caF O C (O.ba j) lane loud) (O.bb j) lane loud).day + 7)) := bx_fi
        revert y6 bx6
        generalize sFi h5 29 (x + (55 + 2 * k)) ((caF O (caF O C (O.ba j) lane loud) (O.bb j) lane loud).day + 7) = h6
        intro y6 bx6
        have t56 := bx6.tf (x := x) hb y5.tg
        have w56 := bx6.wk (x := x) (k := k) (Nat.le_refl _) (by omega) X5.f
        have gb6 := bx6.bw (by omega) X5.f gb5
        have X6 := X5.tf t56
        simp (disch := first | assumption | omega | decide | rfl) only [w_X8_goes_186, w_X8_goes_187, w_X8_goes_190, w_X8_goes_191, w_X8_goes_193, nl_int, nl_ref, nl_null, nl_un, nl_rf, nl_long, isR_ref, isR_null, isR_rf, rf_some, rf_none, rOf_ref, rOf_null, rOf_rf, kn_v, kn_0, true_and, and_true, and_self, tin, inA_x, inA_l, ix_add, ix_addl, ix_ladd, ix_mul, ix_mull, ix_lmul, ix_tn, lt_tn, Nat.reduceLeDiff, Nat.reduceLT, Nat.reduceAdd, Nat.reduceMul, true_or, or_true, ↓reduceIte, aOk, ref_null, null_null, false_or, Option.isSome_some, Option.getD_some, ite_true, ite_false, eq_self, not_false_eq_true, not_true_eq_false, bz_ne, bz_1, reduceCtorEq, Bool.not_true, Bool.not_false, X6.f.t53, X6.f.f54, X6.f.t63, X6.f.n63]
        have t67 : Tf x h6 (sAi h6 (x + 63) (upd (Ai h6 (x + 63)) k (ix j))) := tf_ai (by unfold Xs; omega)
        have u67 : Un (fun a => a = x + 63) h6 (sAi h6 (x + 63) (upd (Ai h6 (x + 63)) k (ix j))) := un_sAi rfl
        have a1 : Ai (sAi h6 (x + 63) (upd (Ai h6 (x + 63)) k (ix j))) (x + 63) = upd (Ai h6 (x + 63)) k (ix j) := Ai_same
        have a2 : Fi (sAi h6 (x + 63) (upd (Ai h6 (x + 63)) k (ix j))) = Fi h6 := rfl
        have a3 : Ai (sAi h6 (x + 63) (upd (Ai h6 (x + 63)) k (ix j))) (x + 64) = Ai h6 (x + 64) := Ai_other (by omega)
        revert t67 u67 a1 a2 a3
        generalize sAi h6 (x + 63) (upd (Ai h6 (x + 63)) k (ix j)) = h7
        intro t67 u67 a1 a2 a3
        have w67 : Wk x k h6 h7 := ⟨u67.mono (fun z _ q => Or.inr (Or.inr (Or.inr (Or.inl q)))), by rw [a2], by rw [a2], fun i hi => by rw [a1, upd_n (by omega)]⟩
        have X7 := X6.tf t67
        have t07 : Tf x h h7 := ((((t2.trans t23).trans t34).trans t45).trans t56).trans t67
        have w07 : Wk x k h h7 := ((((w2.trans w23).trans w34).trans w45).trans w56).trans w67
        have gb7 : BW h7 x O.nB st2 := by
          unfold BW
          rw [a2, a3]
          exact gb6
        have y7 : XB lo hi h7 (x + (55 + 2 * k)) o O.nA (bnB O lane loud C j) := y6.un u67 (by omega) (by have := y6.ta; omega)
        obtain ⟨t1, ht1, et1⟩ := su_nn (S := flF O C (O.ba j) lane loud) (V := fun a => vaF O a C.day) O.nA (fun a ha => va_nn wo ha)
        obtain ⟨s1, hs1, es1⟩ := su_nn (S := flF O (caF O C (O.ba j) lane loud) (O.bb j) lane loud) (V := fun a => vaF O a C.day) O.nA (fun a ha => va_nn wo ha)
        have eL : bnL O lane loud C j (ix L) = ix (L + t1 + s1) := by unfold bnL; rw [et1, es1, ix_add, ix_add]
        have mo : ix L + ((caF O (caF O C (O.ba j) lane loud) (O.bb j) lane loud).had - C.had) = ix (L + t1 + s1) := by
          rw [← eL]
          exact more_x _ _ _ _
        have p2' := pcn_2 ⟨O.nB, by omega⟩ ⟨used, by omega⟩ ⟨j, by omega⟩ hu hj q1
        have o1 := ix_one (k := j) (by omega)
        have ih2 := ih (k + 1) (by omega) D hD (used ||| 2 ^ j) _ (bnB O lane loud C j) (L + t1 + s1) (fun i => if i = k then j else ord i) st2 h7 (by rw [← hp]; exact p2'.1) p2'.2 (by omega) X7 y7 (wb_bn z) (Or.inr ⟨by omega, by rw [Nat.add_sub_cancel]⟩) (by rw [w07.2.1]; exact f57) (by rw [w07.2.2.1]; exact f58) (fun i hi => ?_) gb7
        · rw [← eL] at ih2
          simp (disch := first | assumption | omega | decide | rfl) only [w_X8_goes_194, w_X8_goes_195, w_X8_goes_197, w_X8_goes_198, w_X8_goes_199, w_X8_goes_200, w_X8_goes_201, w_X8_goes_202, w_X8_goes_204, w_X8_goes_205, w_X8_goes_206, w_X8_goes_208, w_X8_goes_210, w_X8_goes_211, nl_int, nl_ref, nl_null, nl_un, nl_rf, nl_long, isR_ref, isR_null, isR_rf, rf_some, rf_none, rOf_ref, rOf_null, rOf_rf, kn_v, kn_0, true_and, and_true, and_self, tin, inA_x, inA_l, ix_add, ix_addl, ix_ladd, ix_mul, ix_mull, ix_lmul, ix_tn, lt_tn, Nat.reduceLeDiff, Nat.reduceLT, Nat.reduceAdd, Nat.reduceMul, true_or, or_true, ↓reduceIte, aOk, ref_null, null_null, false_or, Option.isSome_some, Option.getD_some, ite_true, ite_false, eq_self, not_false_eq_true, not_true_eq_false, bz_ne, bz_1, reduceCtorEq, Bool.not_true, Bool.not_false, X7.f.t53, o1, ix_or, mo]
          rw [← eL]
          refine ca_mono ih2 ?_
          rintro r h8 ⟨rfl, t8, w8, gb8⟩
          rw [kn_0]
          exact jn h8 _ _ _ _ rfl rfl (t07.trans t8) (w07.trans w8.up) gb8
        · rw [a1]
          by_cases qi : i = k
          · rw [qi, upd_s, if_pos rfl]
          · rw [upd_n qi, if_neg qi, (((w2.trans w23).trans w34).trans w45 |>.trans w56).2.2.2 i (by omega)]
            exact go i (by omega)
      · rw [q1, if_pos rfl] at jn
        rw [q1] at hb1
        simp (disch := first | assumption | omega | decide | rfl) only [w_X8_goes_61, w_X8_goes_62, w_X8_goes_65, w_X8_goes_68, w_X8_goes_71, w_X8_goes_74, w_X8_goes_77, w_X8_goes_78, w_X8_goes_80, w_X8_goes_83, w_X8_goes_86, nl_int, nl_ref, nl_null, nl_un, nl_rf, nl_long, isR_ref, isR_null, isR_rf, rf_some, rf_none, rOf_ref, rOf_null, rOf_rf, kn_v, kn_0, true_and, and_true, and_self, tin, inA_x, inA_l, ix_add, ix_addl, ix_ladd, ix_mul, ix_mull, ix_lmul, ix_tn, lt_tn, Nat.reduceLeDiff, Nat.reduceLT, Nat.reduceAdd, Nat.reduceMul, true_or, or_true, ↓reduceIte, aOk, ref_null, null_null, false_or, Option.isSome_some, Option.getD_some, ite_true, ite_false, eq_self, not_false_eq_true, not_true_eq_false, bz_ne, bz_1, reduceCtorEq, Bool.not_true, Bool.not_false, X2.f.t53, X2.f.f59, X2.f.tx, cx_now X2, X2.xo.tg, X2.xo.bn.fr, X2.xo.bn.wl.tg, e2, ix_lt, hj, hb1]
        exact jn h2 _ _ _ _ nv6 nv7 t2 w2 gb2
theorem xbanns (X : XN h x lo hi o b O S) (W : WB O S.B) : Ca (D + 277) 42 [.ref x, .int u, .int v, .int w] h (fun r h' => r = .inl (some (.int (banF O S.B u v w))) ∧ Tf x h h') := by
  have wo := X.xo.wo
  have n6 := wo.nB
  have ez : ∀ h2, XN h2 x lo hi o b O S → ∀ d Q, Ca (d + 1) 301 [.ref (ol h2 o 38)] h2 Q = Q (.inl (some (.int (ix O.nB)))) h2 := fun h2 X2 d Q => X2.xo.bn.size
  have e0 := ez h X (D + 275)
  have ee : ∀ Q, Ca (D + 276) 312 [.ref (ol h o 38)] h Q = Q (.inl (some (.int (if O.nB = 0 then 1 else 0)))) h := fun Q => by rw [c_isEmpty X.xo.bn.wl, X.xo.bn.sz]
  generalize hQ : (fun r h' => r = .inl (some (.int (banF O S.B u v w))) ∧ Tf x h h' : Rs → AH → Prop) = Q
  have bad : mayW O u v w = false → Ru (D + 276) 42 39 [.ref x, .int u, .int v, .int w] [] h Q := by
    intro q
    simp (disch := first | assumption | omega | decide | rfl) only [w_X1_banns_39, w_X1_banns_40, nl_int, nl_ref, nl_null, nl_un, nl_rf, nl_long, isR_ref, isR_null, isR_rf, rf_some, rf_none, rOf_ref, rOf_null, rOf_rf, kn_v, kn_0, true_and, and_true, and_self, tin, inA_x, inA_l, ix_add, ix_addl, ix_ladd, ix_mul, ix_mull, ix_lmul, ix_tn, lt_tn, Nat.reduceLeDiff, Nat.reduceLT, Nat.reduceAdd, Nat.reduceMul, true_or, or_true, ↓reduceIte, aOk, ref_null, null_null, false_or, Option.isSome_some, Option.getD_some, ite_true, ite_false, eq_self, not_false_eq_true, not_true_eq_false, bz_ne, bz_1, reduceCtorEq, Bool.not_true, Bool.not_false]
    rw [← hQ]
    exact ⟨by unfold banF; rw [q]; rfl, Tf.refl⟩
  rw [e_X1_banns]
  cases q1 : voF u v
  · simp (disch := first | assumption | omega | decide | rfl) only [w_X1_banns_0, w_X1_banns_1, w_X1_banns_2, w_X1_banns_5, nl_int, nl_ref, nl_null, nl_un, nl_rf, nl_long, isR_ref, isR_null, isR_rf, rf_some, rf_none, rOf_ref, rOf_null, rOf_rf, kn_v, kn_0, true_and, and_true, and_self, tin, inA_x, inA_l, ix_add, ix_addl, ix_ladd, ix_mul, ix_mull, ix_lmul, ix_tn, lt_tn, Nat.reduceLeDiff, Nat.reduceLT, Nat.reduceAdd, Nat.reduceMul, true_or, or_true, ↓reduceIte, aOk, ref_null, null_null, false_or, Option.isSome_some, Option.getD_some, ite_true, ite_false, eq_self, not_false_eq_true, not_true_eq_false, bz_ne, bz_1, reduceCtorEq, Bool.not_true, Bool.not_false, cx_areLane, q1]
    exact bad (by unfold mayW; rw [q1]; rfl)
  · obtain ⟨a, s, ha, hs, rfl, rfl⟩ := voF_ex q1
    by_cases q2 : O.nB = 0
    · have i2 : (if O.nB = 0 then (1 : Int32) else 0) = 1 := if_pos q2
      have d1 : ((1 : Int32) = 0) = False := by decide
      simp (disch := first | assumption | omega | decide | rfl) only [w_X1_banns_0, w_X1_banns_1, w_X1_banns_2, w_X1_banns_5, w_X1_banns_8, w_X1_banns_9, w_X1_banns_12, w_X1_banns_15, w_X1_banns_18, nl_int, nl_ref, nl_null, nl_un, nl_rf, nl_long, isR_ref, isR_null, isR_rf, rf_some, rf_none, rOf_ref, rOf_null, rOf_rf, kn_v, kn_0, true_and, and_true, and_self, tin, inA_x, inA_l, ix_add, ix_addl, ix_ladd, ix_mul, ix_mull, ix_lmul, ix_tn, lt_tn, Nat.reduceLeDiff, Nat.reduceLT, Nat.reduceAdd, Nat.reduceMul, true_or, or_true, ↓reduceIte, aOk, ref_null, null_null, false_or, Option.isSome_some, Option.getD_some, ite_true, ite_false, eq_self, not_false_eq_true, not_true_eq_false, bz_ne, bz_1, reduceCtorEq, Bool.not_true, Bool.not_false, cx_areLane, q1, X.f.tx, cx_now X, X.xo.tg, X.xo.bn.fr, X.xo.bn.wl.tg, ee, i2, d1]
      exact bad (by unfold mayW; rw [decide_eq_true q2, q1]; rfl)
    · have i2 : (if O.nB = 0 then (1 : Int32) else 0) = 0 := if_neg q2
      by_cases q3 : 0 ≤ w ∧ w ≤ ix O.nB
      · have c3 : decide (0 ≤ w ∧ w ≤ ix O.nB) = true := decide_eq_true q3
        obtain ⟨k, _, hk, rfl⟩ := vr_ex (lo := 0) (hi := O.nB) (by omega) q3 (by decide)
        have ok : mayW O (ix a) (ix s) (ix k) = true := by unfold mayW; rw [q1, decide_eq_false q2, c3]; rfl
        unfold banF at hQ
        rw [if_pos ok, tn_ix (by omega), tn_ix (by omega), tn_ix (by omega)] at hQ
        simp (disch := first | assumption | omega | decide | rfl) only [w_X1_banns_0, w_X1_banns_1, w_X1_banns_2, w_X1_banns_5, w_X1_banns_8, w_X1_banns_9, w_X1_banns_12, w_X1_banns_15, w_X1_banns_18, w_X1_banns_21, w_X1_banns_22, w_X1_banns_23, w_X1_banns_24, w_X1_banns_27, w_X1_banns_30, w_X1_banns_33, w_X1_banns_36, w_X1_banns_41, w_X1_banns_42, w_X1_banns_45, w_X1_banns_46, w_X1_banns_47, nl_int, nl_ref, nl_null, nl_un, nl_rf, nl_long, isR_ref, isR_null, isR_rf, rf_some, rf_none, rOf_ref, rOf_null, rOf_rf, kn_v, kn_0, true_and, and_true, and_self, tin, inA_x, inA_l, ix_add, ix_addl, ix_ladd, ix_mul, ix_mull, ix_lmul, ix_tn, lt_tn, Nat.reduceLeDiff, Nat.reduceLT, Nat.reduceAdd, Nat.reduceMul, true_or, or_true, ↓reduceIte, aOk, ref_null, null_null, false_or, Option.isSome_some, Option.getD_some, ite_true, ite_false, eq_self, not_false_eq_true, not_true_eq_false, bz_ne, bz_1, reduceCtorEq, Bool.not_true, Bool.not_false, cx_areLane, q1, X.f.tx, cx_now X, X.xo.tg, X.xo.bn.fr, X.xo.bn.wl.tg, ee, i2, e0, cx_within, c3, X.f.f9, X.f.t53]
        rw [e_X8_finds]
        simp (disch := first | assumption | omega | decide | rfl) only [w_X8_finds_0, w_X8_finds_1, w_X8_finds_2, w_X8_finds_5, w_X8_finds_6, w_X8_finds_7, w_X8_finds_10, w_X8_finds_11, w_X8_finds_12, nl_int, nl_ref, nl_null, nl_un, nl_rf, nl_long, isR_ref, isR_null, isR_rf, rf_some, rf_none, rOf_ref, rOf_null, rOf_rf, kn_v, kn_0, true_and, and_true, and_self, tin, inA_x, inA_l, ix_add, ix_addl, ix_ladd, ix_mul, ix_mull, ix_lmul, ix_tn, lt_tn, Nat.reduceLeDiff, Nat.reduceLT, Nat.reduceAdd, Nat.reduceMul, true_or, or_true, ↓reduceIte, aOk, ref_null, null_null, false_or, Option.isSome_some, Option.getD_some, ite_true, ite_false, eq_self, not_false_eq_true, not_true_eq_false, bz_ne, bz_1, reduceCtorEq, Bool.not_true, Bool.not_false, X.f.t53, Tg_sFi]
        have t1 : Tf x h (sFi (sFi (sFi h 57 (x + 53) (ix a)) 58 (x + 53) (ix s)) 56 (x + 53) (-1)) := ((tf_fi (by unfold Xs; omega)).trans (tf_fi (by unfold Xs; omega))).trans (tf_fi (by unfold Xs; omega))
        have a1 : Fi (sFi (sFi (sFi h 57 (x + 53) (ix a)) 58 (x + 53) (ix s)) 56 (x + 53) (-1)) 56 (x + 53) = -1 := Fi_same
        have a2 : Fi (sFi (sFi (sFi h 57 (x + 53) (ix a)) 58 (x + 53) (ix s)) 56 (x + 53) (-1)) 57 (x + 53) = ix a := by rw [Fi_otherf (by decide), Fi_otherf (by decide), Fi_same]
        have a3 : Fi (sFi (sFi (sFi h 57 (x + 53) (ix a)) 58 (x + 53) (ix s)) 56 (x + 53) (-1)) 58 (x + 53) = ix s := by rw [Fi_otherf (by decide), Fi_same]
        revert t1 a1 a2 a3
        generalize sFi (sFi (sFi h 57 (x + 53) (ix a)) 58 (x + 53) (ix s)) 56 (x + 53) (-1) = h1
        intro t1 a1 a2 a3
        have X1 := X.tf t1
        simp (disch := first | assumption | omega | decide | rfl) only [w_X8_finds_15, w_X8_finds_16, w_X8_finds_17, w_X8_finds_20, w_X8_finds_23, w_X8_finds_24, w_X8_finds_25, w_X8_finds_26, nl_int, nl_ref, nl_null, nl_un, nl_rf, nl_long, isR_ref, isR_null, isR_rf, rf_some, rf_none, rOf_ref, rOf_null, rOf_rf, kn_v, kn_0, true_and, and_true, and_self, tin, inA_x, inA_l, ix_add, ix_addl, ix_ladd, ix_mul, ix_mull, ix_lmul, ix_tn, lt_tn, Nat.reduceLeDiff, Nat.reduceLT, Nat.reduceAdd, Nat.reduceMul, true_or, or_true, ↓reduceIte, aOk, ref_null, null_null, false_or, Option.isSome_some, Option.getD_some, ite_true, ite_false, eq_self, not_false_eq_true, not_true_eq_false, bz_ne, bz_1, reduceCtorEq, Bool.not_true, Bool.not_false, X1.f.t53, X1.f.f59, X1.f.tx, X1.fb]
        rw [show D + 275 = D + 5 + 270 from rfl, show ((0 : Int32)) = ix 0 from rfl]
        refine ca_mono (cx_goes (x := x) wo ha hs O.nB 0 (by omega) (D + 5) (by omega) 0 b S.B 0 (fun _ => 0) (-1, fun _ => 0) h1 (by decide) (Nat.two_pow_pos _) (by omega) X1 X1.xb W (Or.inl rfl) a2 a3 (fun j hj => absurd hj (by omega)) ⟨a1, fun q => absurd (by decide) q, Or.inl rfl⟩) ?_
        rintro r h2 ⟨rfl, t2, -, g1, g2, -⟩
        have X2 := X1.tf t2
        have t3 := t1.trans t2
        rw [show bnF O a s O.nB 0 S.B (ix 0) (fun _ => 0) 0 (-1, fun _ => 0) = bnA O S.B a s from rfl] at g1 g2
        simp (disch := first | assumption | omega | decide | rfl) only [w_X8_finds_29, nl_int, nl_ref, nl_null, nl_un, nl_rf, nl_long, isR_ref, isR_null, isR_rf, rf_some, rf_none, rOf_ref, rOf_null, rOf_rf, kn_v, kn_0, true_and, and_true, and_self, tin, inA_x, inA_l, ix_add, ix_addl, ix_ladd, ix_mul, ix_mull, ix_lmul, ix_tn, lt_tn, Nat.reduceLeDiff, Nat.reduceLT, Nat.reduceAdd, Nat.reduceMul, true_or, or_true, ↓reduceIte, aOk, ref_null, null_null, false_or, Option.isSome_some, Option.getD_some, ite_true, ite_false, eq_self, not_false_eq_true, not_true_eq_false, bz_ne, bz_1, reduceCtorEq, Bool.not_true, Bool.not_false]
        by_cases q4 : k = 0
        · have d4 : (k = 0) = True := eq_true q4
          rw [if_pos (by rw [q4]; rfl)] at hQ
          simp (disch := first | assumption | omega | decide | rfl) only [w_X1_banns_50, w_X1_banns_51, w_X1_banns_54, w_X1_banns_55, w_X1_banns_58, w_X1_banns_61, w_X1_banns_75, nl_int, nl_ref, nl_null, nl_un, nl_rf, nl_long, isR_ref, isR_null, isR_rf, rf_some, rf_none, rOf_ref, rOf_null, rOf_rf, kn_v, kn_0, true_and, and_true, and_self, tin, inA_x, inA_l, ix_add, ix_addl, ix_ladd, ix_mul, ix_mull, ix_lmul, ix_tn, lt_tn, Nat.reduceLeDiff, Nat.reduceLT, Nat.reduceAdd, Nat.reduceMul, true_or, or_true, ↓reduceIte, aOk, ref_null, null_null, false_or, Option.isSome_some, Option.getD_some, ite_true, ite_false, eq_self, not_false_eq_true, not_true_eq_false, bz_ne, bz_1, reduceCtorEq, Bool.not_true, Bool.not_false, ix_eql, d4, X2.f.tx, X2.f.f9, X2.f.t53, g1]
          rw [← hQ]
          exact ⟨rfl, t3⟩
        · have d4 : (k = 0) = False := eq_false q4
          rw [if_neg (by rw [show ((0 : Int32)) = ix 0 from rfl, ix_eq (by omega) (by decide)]; exact q4)] at hQ
          have g3 := g2 (bnA_nn wo q2) (k - 1) (by omega)
          have es : ix k - 1 = ix (k - 1) := ix_subl (n := 1) (by omega)
          simp (disch := first | assumption | omega | decide | rfl) only [w_X1_banns_50, w_X1_banns_51, w_X1_banns_64, w_X1_banns_65, w_X1_banns_68, w_X1_banns_71, w_X1_banns_72, w_X1_banns_73, w_X1_banns_74, w_X1_banns_75, nl_int, nl_ref, nl_null, nl_un, nl_rf, nl_long, isR_ref, isR_null, isR_rf, rf_some, rf_none, rOf_ref, rOf_null, rOf_rf, kn_v, kn_0, true_and, and_true, and_self, tin, inA_x, inA_l, ix_add, ix_addl, ix_ladd, ix_mul, ix_mull, ix_lmul, ix_tn, lt_tn, Nat.reduceLeDiff, Nat.reduceLT, Nat.reduceAdd, Nat.reduceMul, true_or, or_true, ↓reduceIte, aOk, ref_null, null_null, false_or, Option.isSome_some, Option.getD_some, ite_true, ite_false, eq_self, not_false_eq_true, not_true_eq_false, bz_ne, bz_1, reduceCtorEq, Bool.not_true, Bool.not_false, ix_eql, d4, X2.f.tx, X2.f.f9, X2.f.t53, X2.f.f55, X2.f.t64, X2.f.n64, es, g3]
          rw [← hQ]
          exact ⟨rfl, t3⟩
      · have c3 : decide (0 ≤ w ∧ w ≤ ix O.nB) = false := decide_eq_false q3
        simp (disch := first | assumption | omega | decide | rfl) only [w_X1_banns_0, w_X1_banns_1, w_X1_banns_2, w_X1_banns_5, w_X1_banns_8, w_X1_banns_9, w_X1_banns_12, w_X1_banns_15, w_X1_banns_18, w_X1_banns_21, w_X1_banns_22, w_X1_banns_23, w_X1_banns_24, w_X1_banns_27, w_X1_banns_30, w_X1_banns_33, w_X1_banns_36, nl_int, nl_ref, nl_null, nl_un, nl_rf, nl_long, isR_ref, isR_null, isR_rf, rf_some, rf_none, rOf_ref, rOf_null, rOf_rf, kn_v, kn_0, true_and, and_true, and_self, tin, inA_x, inA_l, ix_add, ix_addl, ix_ladd, ix_mul, ix_mull, ix_lmul, ix_tn, lt_tn, Nat.reduceLeDiff, Nat.reduceLT, Nat.reduceAdd, Nat.reduceMul, true_or, or_true, ↓reduceIte, aOk, ref_null, null_null, false_or, Option.isSome_some, Option.getD_some, ite_true, ite_false, eq_self, not_false_eq_true, not_true_eq_false, bz_ne, bz_1, reduceCtorEq, Bool.not_true, Bool.not_false, cx_areLane, q1, X.f.tx, cx_now X, X.xo.tg, X.xo.bn.fr, X.xo.bn.wl.tg, ee, i2, e0, cx_within, c3]
        exact bad (by unfold mayW; rw [c3, Bool.and_false])
end
