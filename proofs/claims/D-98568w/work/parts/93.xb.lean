/-! BOUGHS as objects -/
set_option maxRecDepth 100000
def XB (lo : Nat) (hi : Nat) (h : AH) (b : Nat) (o : Nat) (n : Nat) (B : Bo) : Prop := (Tg h b = 4) ∧ (Fr h 28 b = some (b + 1)) ∧ (Tg h (b + 1) = 1013) ∧ (An h (b + 1) = 10) ∧ (b + 1 < lo ∨ hi ≤ b) ∧ (Fr h 25 b = some o) ∧ (Fi h 26 b = ix B.hang) ∧ (Fi h 27 b = ix B.loose) ∧ (Fi h 29 b = B.day) ∧ (Fi h 30 b = B.had) ∧ (Fi h 31 b = bz B.pk) ∧ (∀ a, a < n → Ai h (b + 1) a = ix (B.snd a))
theorem XB.tg {lo : Nat} {hi : Nat} {h : AH} {b : Nat} {o : Nat} {n : Nat} {B : Bo} (x : XB lo hi h b o n B) : Tg h b = 4 := x.1
theorem XB.sd {lo : Nat} {hi : Nat} {h : AH} {b : Nat} {o : Nat} {n : Nat} {B : Bo} (x : XB lo hi h b o n B) : Fr h 28 b = some (b + 1) := x.2.1
theorem XB.ta {lo : Nat} {hi : Nat} {h : AH} {b : Nat} {o : Nat} {n : Nat} {B : Bo} (x : XB lo hi h b o n B) : Tg h (b + 1) = 1013 := x.2.2.1
theorem XB.an {lo : Nat} {hi : Nat} {h : AH} {b : Nat} {o : Nat} {n : Nat} {B : Bo} (x : XB lo hi h b o n B) : An h (b + 1) = 10 := x.2.2.2.1
theorem XB.ou {lo : Nat} {hi : Nat} {h : AH} {b : Nat} {o : Nat} {n : Nat} {B : Bo} (x : XB lo hi h b o n B) : b + 1 < lo ∨ hi ≤ b := x.2.2.2.2.1
theorem XB.oc {lo : Nat} {hi : Nat} {h : AH} {b : Nat} {o : Nat} {n : Nat} {B : Bo} (x : XB lo hi h b o n B) : Fr h 25 b = some o := x.2.2.2.2.2.1
theorem XB.hang {lo : Nat} {hi : Nat} {h : AH} {b : Nat} {o : Nat} {n : Nat} {B : Bo} (x : XB lo hi h b o n B) : Fi h 26 b = ix B.hang := x.2.2.2.2.2.2.1
theorem XB.loose {lo : Nat} {hi : Nat} {h : AH} {b : Nat} {o : Nat} {n : Nat} {B : Bo} (x : XB lo hi h b o n B) : Fi h 27 b = ix B.loose := x.2.2.2.2.2.2.2.1
theorem XB.day {lo : Nat} {hi : Nat} {h : AH} {b : Nat} {o : Nat} {n : Nat} {B : Bo} (x : XB lo hi h b o n B) : Fi h 29 b = B.day := x.2.2.2.2.2.2.2.2.1
theorem XB.had {lo : Nat} {hi : Nat} {h : AH} {b : Nat} {o : Nat} {n : Nat} {B : Bo} (x : XB lo hi h b o n B) : Fi h 30 b = B.had := x.2.2.2.2.2.2.2.2.2.1
theorem XB.pk {lo : Nat} {hi : Nat} {h : AH} {b : Nat} {o : Nat} {n : Nat} {B : Bo} (x : XB lo hi h b o n B) : Fi h 31 b = bz B.pk := x.2.2.2.2.2.2.2.2.2.2.1
theorem XB.snd {lo : Nat} {hi : Nat} {h : AH} {b : Nat} {o : Nat} {n : Nat} {B : Bo} (x : XB lo hi h b o n B) : ∀ a, a < n → Ai h (b + 1) a = ix (B.snd a) := x.2.2.2.2.2.2.2.2.2.2.2
/-- only these boughs, rows and facts are changed -/
def Bx (b : Nat) (h h' : AH) : Prop := Tg h' = Tg h ∧ An h' = An h ∧ Fl h' = Fl h ∧ Al h' = Al h ∧ Ar h' = Ar h ∧ Nc h' = Nc h ∧ Ns h' = Ns h ∧ Bs h' = Bs h ∧ Ev h' = Ev h ∧ (∀ f a, a ≠ b → Fi h' f a = Fi h f a ∧ Fr h' f a = Fr h f a) ∧ (∀ a, a ≠ b + 1 → Tg h a ≠ 1014 → Tg h a ≠ 1015 → Ai h' a = Ai h a) ∧ Fr h' 28 b = Fr h 28 b
section
variable {lo hi d D o a b c f n p k t w s e lane loud S : Nat} {h h' h1 h2 : AH} {A : Nat → Prop} {O : Oc} {B : Bo} {φ : Ph} {Q : Rs → AH → Prop} {day v : Int32} {F : Nat → Int32} {r : Option Nat}
theorem Sc.bx (u : Sc h h') : Bx b h h' := by
  obtain ⟨u1, u2, u3, u4, u5, u6, u7, u8, u9, u10, u11, u12⟩ := u
  exact ⟨u1, u2, u4, u6, u7, u8, u9, u10, u11, fun f a _ => ⟨by rw [u3], by rw [u5]⟩, fun a _ q1 q2 => u12 a q1 q2, by rw [u5]⟩
theorem Bx.refl : Bx b h h := Sc.bx Sc.refl
theorem Bx.trans (u : Bx b h h1) (t : Bx b h1 h2) : Bx b h h2 := by
  obtain ⟨u1, u2, u3, u4, u5, u6, u7, u8, u9, u10, u11, u12⟩ := u
  obtain ⟨t1, t2, t3, t4, t5, t6, t7, t8, t9, t10, t11, t12⟩ := t
  exact ⟨t1.trans u1, t2.trans u2, t3.trans u3, t4.trans u4, t5.trans u5, t6.trans u6, t7.trans u7, t8.trans u8, t9.trans u9, fun f a q => ⟨(t10 f a q).1.trans (u10 f a q).1, (t10 f a q).2.trans (u10 f a q).2⟩, fun a q q1 q2 => (t11 a q (by rw [u1]; exact q1) (by rw [u1]; exact q2)).trans (u11 a q q1 q2), t12.trans u12⟩
theorem bx_fi : Bx b h (sFi h f b v) := ⟨rfl, rfl, rfl, rfl, rfl, rfl, rfl, rfl, rfl, fun g a q => ⟨Fi_othera q, rfl⟩, fun _ _ _ _ => rfl, rfl⟩
theorem bx_fr (hf : f ≠ 28) : Bx b h (sFr h f b r) := ⟨rfl, rfl, rfl, rfl, rfl, rfl, rfl, rfl, rfl, fun g a q => ⟨rfl, Fr_othera q⟩, fun _ _ _ _ => rfl, Fr_otherf (fun e => hf e.symm)⟩
theorem bx_ai : Bx b h (sAi h (b + 1) F) := ⟨rfl, rfl, rfl, rfl, rfl, rfl, rfl, rfl, rfl, fun g a q => ⟨rfl, rfl⟩, fun a q _ _ => Ai_other q, rfl⟩
theorem Bx.un (u : Bx b h h') : Un (fun a => a = b ∨ a = b + 1 ∨ Tg h a = 1014 ∨ Tg h a = 1015) h h' := by
  obtain ⟨u1, u2, u3, u4, u5, u6, u7, u8, u9, u10, u11, u12⟩ := u
  exact ⟨Nat.le_of_eq u6.symm, Nat.le_of_eq u7.symm, u8, u9, fun a _ => ⟨by rw [u1], by rw [u2]⟩, fun a _ ha => ⟨fun f => ⟨(u10 f a (fun z => ha (Or.inl z))).1, by rw [u3], (u10 f a (fun z => ha (Or.inl z))).2⟩, u11 a (fun z => ha (Or.inr (Or.inl z))) (fun z => ha (Or.inr (Or.inr (Or.inl z)))) (fun z => ha (Or.inr (Or.inr (Or.inr z)))), by rw [u4], by rw [u5]⟩⟩
theorem Bx.xo (u : Bx b h h') (x : XO lo hi h o O) (h1 : Tg h b = 4) (h2 : Tg h (b + 1) = 1013) (h3 : b + 1 < lo ∨ hi ≤ b) : XO lo hi h' o O := by
  refine x.un (fun a ha q => ⟨fun i => ?_, ?_, ?_⟩) u.un
  · rcases q with rfl | rfl | q
    · exact absurd i (by unfold Inn; omega)
    · exact absurd i (by unfold Inn; omega)
    · exact q
  · rcases q with rfl | rfl | q | q <;> omega
  · rcases q with rfl | rfl | q | q <;> omega
theorem XB.xo (y : XB lo hi h b o n B) (x : XO lo hi h o O) (u : Bx b h h') : XO lo hi h' o O := u.xo x y.tg y.ta y.ou
theorem Sc.xb (u : Sc h h') (y : XB lo hi h b o n B) : XB lo hi h' b o n B := by
  obtain ⟨u1, u2, u3, u4, u5, u6, u7, u8, u9, u10, u11, u12⟩ := u
  have hb := y.ta
  unfold XB at y ⊢
  rw [u1, u2, u3, u5, u12 (b + 1) (by omega) (by omega)]
  exact y
theorem c_has (hS : S < 1024) (ha : a < 10) : Ca (d + 1) 7 [.int (ix S), .int (ix a)] h Q = Q (.inl (some (.int (bz (S.testBit a))))) h := by
  have e1 := has_b (n := S) (k := a) (by omega) (by omega)
  rw [e_X1_has]
  simp (disch := first | assumption | omega | decide | rfl) only [w_X1_has_0, w_X1_has_1, w_X1_has_2, w_X1_has_3, w_X1_has_4, w_X1_has_5, w_X1_has_6, w_X1_has_9, w_X1_has_10, w_X1_has_13, nl_int, nl_ref, nl_null, nl_un, nl_rf, nl_long, isR_ref, isR_null, isR_rf, rf_some, rf_none, rOf_ref, rOf_null, rOf_rf, kn_v, kn_0, true_and, and_true, and_self, tin, inA_x, inA_l, ix_add, ix_addl, ix_ladd, ix_mul, ix_mull, ix_lmul, ix_tn, lt_tn, Nat.reduceLeDiff, Nat.reduceLT, Nat.reduceAdd, Nat.reduceMul, true_or, or_true, ↓reduceIte, aOk, ref_null, null_null, false_or, Option.isSome_some, Option.getD_some, ite_true, ite_false, eq_self, not_false_eq_true, not_true_eq_false, e1, ru_join, ite_cons, ite_int, ite_self]
  simp (disch := first | assumption | omega | decide | rfl) only [w_X1_has_14, nl_int, nl_ref, nl_null, nl_un, nl_rf, nl_long, isR_ref, isR_null, isR_rf, rf_some, rf_none, rOf_ref, rOf_null, rOf_rf, kn_v, kn_0, true_and, and_true, and_self, tin, inA_x, inA_l, ix_add, ix_addl, ix_ladd, ix_mul, ix_mull, ix_lmul, ix_tn, lt_tn, Nat.reduceLeDiff, Nat.reduceLT, Nat.reduceAdd, Nat.reduceMul, true_or, or_true, ↓reduceIte, aOk, ref_null, null_null, false_or, Option.isSome_some, Option.getD_some, ite_true, ite_false, eq_self, not_false_eq_true, not_true_eq_false, fot, bz_ne, bz_1, ite_bz, Bool.not_eq_false, Bool.not_eq_true, Bool.decide_eq_true]
theorem cx_hangs (y : XB lo hi h b o n B) (hh : B.hang < 1024) (ha : a < 10) : Ca (d + 2) 95 [.ref b, .int (ix a)] h Q = Q (.inl (some (.int (bz (B.hang.testBit a))))) h := by
  rw [e_X3_hangs]
  simp (disch := first | assumption | omega | decide | rfl) only [w_X3_hangs_0, w_X3_hangs_1, w_X3_hangs_4, w_X3_hangs_5, w_X3_hangs_8, nl_int, nl_ref, nl_null, nl_un, nl_rf, nl_long, isR_ref, isR_null, isR_rf, rf_some, rf_none, rOf_ref, rOf_null, rOf_rf, kn_v, kn_0, true_and, and_true, and_self, tin, inA_x, inA_l, ix_add, ix_addl, ix_ladd, ix_mul, ix_mull, ix_lmul, ix_tn, lt_tn, Nat.reduceLeDiff, Nat.reduceLT, Nat.reduceAdd, Nat.reduceMul, true_or, or_true, ↓reduceIte, aOk, ref_null, null_null, false_or, Option.isSome_some, Option.getD_some, ite_true, ite_false, eq_self, not_false_eq_true, not_true_eq_false, y.tg, y.hang, c_has hh ha, fot, bz_ne, bz_1, ite_bz, Bool.not_eq_false, Bool.not_eq_true]
theorem cx_mayPick (y : XB lo hi h b o n B) (hh : B.hang < 1024) (ha : a < 10) : Ca (d + 3) 103 [.ref b, .int (ix a)] h Q = Q (.inl (some (.int (bz (B.hang.testBit a && !B.pk))))) h := by
  have g2 := y.pk
  rw [e_X3_mayPick]
  simp (disch := first | assumption | omega | decide | rfl) only [w_X3_mayPick_0, w_X3_mayPick_1, w_X3_mayPick_2, cx_hangs y hh ha, y.tg, nl_int, nl_ref, nl_null, nl_un, nl_rf, nl_long, isR_ref, isR_null, isR_rf, rf_some, rf_none, rOf_ref, rOf_null, rOf_rf, kn_v, kn_0, true_and, and_true, and_self, tin, inA_x, inA_l, ix_add, ix_addl, ix_ladd, ix_mul, ix_mull, ix_lmul, ix_tn, lt_tn, Nat.reduceLeDiff, Nat.reduceLT, Nat.reduceAdd, Nat.reduceMul, true_or, or_true, ↓reduceIte, aOk, ref_null, null_null, false_or, Option.isSome_some, Option.getD_some, ite_true, ite_false, eq_self, not_false_eq_true, not_true_eq_false]
  cases B.hang.testBit a <;> cases e : B.pk <;> simp (disch := first | assumption | omega | decide | rfl) only [w_X3_mayPick_5, w_X3_mayPick_8, w_X3_mayPick_9, w_X3_mayPick_12, w_X3_mayPick_15, w_X3_mayPick_16, w_X3_mayPick_19, w_X3_mayPick_20, y.tg, nl_int, nl_ref, nl_null, nl_un, nl_rf, nl_long, isR_ref, isR_null, isR_rf, rf_some, rf_none, rOf_ref, rOf_null, rOf_rf, kn_v, kn_0, true_and, and_true, and_self, tin, inA_x, inA_l, ix_add, ix_addl, ix_ladd, ix_mul, ix_mull, ix_lmul, ix_tn, lt_tn, Nat.reduceLeDiff, Nat.reduceLT, Nat.reduceAdd, Nat.reduceMul, true_or, or_true, ↓reduceIte, aOk, ref_null, null_null, false_or, Option.isSome_some, Option.getD_some, ite_true, ite_false, eq_self, not_false_eq_true, not_true_eq_false, g2, e, bz, Bool.false_and, Bool.true_and, Bool.not_true, Bool.not_false, Bool.false_eq_true, show ((1 : Int32) = 0) = False from by decide]
theorem abs_aw (ha : a < 100) (hb : b < 100) : (if ix a - ix b < 0 then -(ix a - ix b) else ix a - ix b) = ix (awF a b) := by
  unfold awF
  by_cases q : a < b
  · have e : ix a - ix b < 0 := by
      have : ix a - ix b = -(ix (b - a)) := by
        rw [← ix_sub (Nat.le_of_lt q)]
        rw [Int32.neg_sub]
      rw [this]
      have : ∀ x : Fin 100, 0 < x.1 → -(Int32.ofNat x.1) < 0 := by decide
      exact this ⟨b - a, by omega⟩ (by show 0 < b - a; omega)
    rw [if_pos e, if_pos q, Int32.neg_sub, ix_sub (Nat.le_of_lt q)]
  · rw [ix_sub (by omega), if_neg (ix_nn (by omega)), if_neg q]
theorem so_congr {P R : Nat → Bool} : ∀ n, (∀ a, a < n → P a = R a) → so P n = so R n
  | 0, _ => rfl
  | n + 1, h => by rw [so, so, so_congr n (fun a ha => h a (by omega)), h n (by omega)]
theorem cx_heard (x : XO lo hi h o O) (y : XB lo hi h b o O.nA B) (z : WB O B) (hs : s < O.nS) (hl : lane < 12) (hd : loud < 7) (wh : Bool) : Ca (D + 260) 99 [.ref b, .int (ix lane), .int (ix loud), .int (ix s), .int (bz wh)] h (fun r h' => r = .inl (some (.int (ix (if wh = true then whF O B.snd s lane loud else ecF O B.snd s lane loud)))) ∧ Sc h h') := by
  have n1 := x.wo.nA
  generalize hP : (fun a => (if wh = true then hwF O B.snd s lane loud a else heF O B.snd s lane loud a)) = P
  have hso : (if wh = true then whF O B.snd s lane loud else ecF O B.snd s lane loud) = so P O.nA := by
    rw [← hP]
    cases wh <;> rfl
  rw [hso]
  generalize hQ : (fun r h' => r = .inl (some (.int (ix (so P O.nA)))) ∧ Sc h h' : Rs → AH → Prop) = Q
  have key : ∀ n j h1 (v7 v8 : Value), nl v7 = true → j + n = O.nA → Sc h h1 → Ru (D + 259) 99 6 [.ref b, .int (ix lane), .int (ix loud), .int (ix s), .int (bz wh), .int (ix (so P j)), .int (ix j), v7, v8] [] h1 Q := by
    intro n
    induction n with
    | zero =>
      intro j h1 v7 v8 nv hj u
      have ej : j = O.nA := by omega
      subst ej
      have x1 := u.xo x
      have y1 := u.xb y
      have e : ¬ O.nA < O.nA := by omega
      rw [w_X3_heard_6]
      simp (disch := first | assumption | omega | decide | rfl) only [w_X3_heard_8, w_X3_heard_9, w_X3_heard_12, w_X3_heard_15, w_X3_heard_18, w_X3_heard_126, w_X3_heard_128, nl_int, nl_ref, nl_null, nl_un, nl_rf, nl_long, isR_ref, isR_null, isR_rf, rf_some, rf_none, rOf_ref, rOf_null, rOf_rf, kn_v, kn_0, true_and, and_true, and_self, tin, inA_x, inA_l, ix_add, ix_addl, ix_ladd, ix_mul, ix_mull, ix_lmul, ix_tn, lt_tn, Nat.reduceLeDiff, Nat.reduceLT, Nat.reduceAdd, Nat.reduceMul, true_or, or_true, ↓reduceIte, aOk, ref_null, null_null, false_or, Option.isSome_some, Option.getD_some, ite_true, ite_false, eq_self, not_false_eq_true, not_true_eq_false, y1.tg, y1.oc, x1.tg, x1.ap.fr, x1.ap.wl.tg, x1.ap.size, ix_lt, e]
      rw [← hQ]
      exact ⟨rfl, u⟩
    | succ n ih =>
      intro j h1 v7 v8 nv hj u
      have x1 := u.xo x
      have y1 := u.xb y
      have e : j < O.nA := by omega
      obtain ⟨-, p1, p2, p3, p4, p5, p6, p7⟩ := x1.ap1 j e
      have b1 := x.wo.kd j e
      have b2 := x.wo.rw j e
      have tm := tg_ap b1 p1
      have b3 := awF_lt b2 hl
      have e1 := ix_one (k := j) (by omega)
      have gs := y1.snd j e
      have bs := z.snd j e
      have ab := abs_aw (a := O.rw j) (b := lane) (by omega) (by omega)
      have nxt : ∀ h2 (v7 v8 : Value), nl v7 = true → Sc h h2 → Ru (D + 259) 99 120 [.ref b, .int (ix lane), .int (ix loud), .int (ix s), .int (bz wh), .int (ix (so P (j + 1))), .int (ix j), v7, v8] [] h2 Q := by
        intro h2 v7 v8 nv u2
        simp (disch := first | assumption | omega | decide | rfl) only [w_X3_heard_120, w_X3_heard_123, nl_int, nl_ref, nl_null, nl_un, nl_rf, nl_long, isR_ref, isR_null, isR_rf, rf_some, rf_none, rOf_ref, rOf_null, rOf_rf, kn_v, kn_0, true_and, and_true, and_self, tin, inA_x, inA_l, ix_add, ix_addl, ix_ladd, ix_mul, ix_mull, ix_lmul, ix_tn, lt_tn, Nat.reduceLeDiff, Nat.reduceLT, Nat.reduceAdd, Nat.reduceMul, true_or, or_true, ↓reduceIte, aOk, ref_null, null_null, false_or, Option.isSome_some, Option.getD_some, ite_true, ite_false, eq_self, not_false_eq_true, not_true_eq_false]
        exact ih (j + 1) h2 v7 v8 nv (by omega) u2
      rw [w_X3_heard_6]
      simp (disch := first | assumption | omega | decide | rfl) only [w_X3_heard_8, w_X3_heard_9, w_X3_heard_12, w_X3_heard_15, w_X3_heard_18, w_X3_heard_21, w_X3_heard_22, w_X3_heard_25, w_X3_heard_28, w_X3_heard_30, w_X3_heard_33, w_X3_heard_36, w_X3_heard_39, w_X3_heard_40, w_X3_heard_41, w_X3_heard_44, nl_int, nl_ref, nl_null, nl_un, nl_rf, nl_long, isR_ref, isR_null, isR_rf, rf_some, rf_none, rOf_ref, rOf_null, rOf_rf, kn_v, kn_0, true_and, and_true, and_self, tin, inA_x, inA_l, ix_add, ix_addl, ix_ladd, ix_mul, ix_mull, ix_lmul, ix_tn, lt_tn, Nat.reduceLeDiff, Nat.reduceLT, Nat.reduceAdd, Nat.reduceMul, true_or, or_true, ↓reduceIte, aOk, ref_null, null_null, false_or, Option.isSome_some, Option.getD_some, ite_true, ite_false, eq_self, not_false_eq_true, not_true_eq_false, y1.tg, y1.oc, x1.tg, x1.ap.fr, x1.ap.wl.tg, x1.ap.size, x1.ap.get e, tm, p4, c_abs, ab, ix_lt, e]
      -- whether it is so far
      have mid : Ru (D + 259) 99 84 [.ref b, .int (ix lane), .int (ix loud), .int (ix s), .int (bz wh), .int (ix (so P j)), .int (ix j), .int (ix (awF (O.rw j) lane)), v8] [.int (bz (if wh = true then decide (awF (O.rw j) lane ≤ loud) else decide (loud < awF (O.rw j) lane ∧ awF (O.rw j) lane ≤ 2 * loud)))] h1 Q := by
        by_cases q : (if wh = true then decide (awF (O.rw j) lane ≤ loud) else decide (loud < awF (O.rw j) lane ∧ awF (O.rw j) lane ≤ 2 * loud)) = true
        · have e2 : (bz (if wh = true then decide (awF (O.rw j) lane ≤ loud) else decide (loud < awF (O.rw j) lane ∧ awF (O.rw j) lane ≤ 2 * loud)) = 0) = False := by rw [bz_ne]; exact eq_false (by rw [q]; decide)
          simp (disch := first | assumption | omega | decide | rfl) only [w_X3_heard_84, w_X3_heard_86, w_X3_heard_88, w_X3_heard_91, w_X3_heard_92, w_X3_heard_95, w_X3_heard_97, w_X3_heard_98, w_X3_heard_99, w_X3_heard_102, w_X3_heard_104, w_X3_heard_105, nl_int, nl_ref, nl_null, nl_un, nl_rf, nl_long, isR_ref, isR_null, isR_rf, rf_some, rf_none, rOf_ref, rOf_null, rOf_rf, kn_v, kn_0, true_and, and_true, and_self, tin, inA_x, inA_l, ix_add, ix_addl, ix_ladd, ix_mul, ix_mull, ix_lmul, ix_tn, lt_tn, Nat.reduceLeDiff, Nat.reduceLT, Nat.reduceAdd, Nat.reduceMul, true_or, or_true, ↓reduceIte, aOk, ref_null, null_null, false_or, Option.isSome_some, Option.getD_some, ite_true, ite_false, eq_self, not_false_eq_true, not_true_eq_false, e2, y1.tg, y1.oc, y1.sd, y1.ta, y1.an, x1.tg, gs]
          refine ca_mono (cx_hears x1 e hs bs) ?_
          rintro r h2 ⟨rfl, u2⟩
          have li : liF O (fun _ => B.snd j) s j = liF O B.snd s j := rfl
          by_cases q2 : xhF O s (B.snd j) j = true
          · have e3 : (bz (xhF O s (B.snd j) j) = 0) = False := by rw [bz_ne]; exact eq_false (by rw [q2]; decide)
            simp (disch := first | assumption | omega | decide | rfl) only [w_X3_heard_108, w_X3_heard_111, w_X3_heard_113, w_X3_heard_114, w_X3_heard_116, w_X3_heard_117, w_X3_heard_118, nl_int, nl_ref, nl_null, nl_un, nl_rf, nl_long, isR_ref, isR_null, isR_rf, rf_some, rf_none, rOf_ref, rOf_null, rOf_rf, kn_v, kn_0, true_and, and_true, and_self, tin, inA_x, inA_l, ix_add, ix_addl, ix_ladd, ix_mul, ix_mull, ix_lmul, ix_tn, lt_tn, Nat.reduceLeDiff, Nat.reduceLT, Nat.reduceAdd, Nat.reduceMul, true_or, or_true, ↓reduceIte, aOk, ref_null, null_null, false_or, Option.isSome_some, Option.getD_some, ite_true, ite_false, eq_self, not_false_eq_true, not_true_eq_false, e3, e1, ix_or]
            have := nxt h2 (.int (ix (awF (O.rw j) lane))) (.int (bz (if wh = true then decide (awF (O.rw j) lane ≤ loud) else decide (loud < awF (O.rw j) lane ∧ awF (O.rw j) lane ≤ 2 * loud)))) rfl (u.trans u2)
            rw [so, if_pos] at this
            · exact this
            · rw [← hP]
              unfold xhF at q2
              rw [li] at q2
              show (if wh = true then hwF O B.snd s lane loud j else heF O B.snd s lane loud j) = true
              unfold hwF heF
              rw [q2]
              cases wh <;> simpa using q
          · have e3 : (bz (xhF O s (B.snd j) j) = 0) = True := by rw [bz_ne]; exact eq_true (by simpa using q2)
            simp (disch := first | assumption | omega | decide | rfl) only [w_X3_heard_108, nl_int, nl_ref, nl_null, nl_un, nl_rf, nl_long, isR_ref, isR_null, isR_rf, rf_some, rf_none, rOf_ref, rOf_null, rOf_rf, kn_v, kn_0, true_and, and_true, and_self, tin, inA_x, inA_l, ix_add, ix_addl, ix_ladd, ix_mul, ix_mull, ix_lmul, ix_tn, lt_tn, Nat.reduceLeDiff, Nat.reduceLT, Nat.reduceAdd, Nat.reduceMul, true_or, or_true, ↓reduceIte, aOk, ref_null, null_null, false_or, Option.isSome_some, Option.getD_some, ite_true, ite_false, eq_self, not_false_eq_true, not_true_eq_false, e3]
            have := nxt h2 (.int (ix (awF (O.rw j) lane))) (.int (bz (if wh = true then decide (awF (O.rw j) lane ≤ loud) else decide (loud < awF (O.rw j) lane ∧ awF (O.rw j) lane ≤ 2 * loud)))) rfl (u.trans u2)
            rw [so, if_neg] at this
            · exact this
            · rw [← hP]
              unfold xhF at q2
              rw [li] at q2
              show ¬ (if wh = true then hwF O B.snd s lane loud j else heF O B.snd s lane loud j) = true
              unfold hwF heF
              have q3 : (!decide (O.kd j = 3) && liF O B.snd s j) = false := by simpa using q2
              rw [q3]
              cases wh <;> simp
        · have e2 : (bz (if wh = true then decide (awF (O.rw j) lane ≤ loud) else decide (loud < awF (O.rw j) lane ∧ awF (O.rw j) lane ≤ 2 * loud)) = 0) = True := by rw [bz_ne]; exact eq_true (Bool.not_eq_true _ ▸ q)
          simp (disch := first | assumption | omega | decide | rfl) only [w_X3_heard_84, w_X3_heard_86, w_X3_heard_88, nl_int, nl_ref, nl_null, nl_un, nl_rf, nl_long, isR_ref, isR_null, isR_rf, rf_some, rf_none, rOf_ref, rOf_null, rOf_rf, kn_v, kn_0, true_and, and_true, and_self, tin, inA_x, inA_l, ix_add, ix_addl, ix_ladd, ix_mul, ix_mull, ix_lmul, ix_tn, lt_tn, Nat.reduceLeDiff, Nat.reduceLT, Nat.reduceAdd, Nat.reduceMul, true_or, or_true, ↓reduceIte, aOk, ref_null, null_null, false_or, Option.isSome_some, Option.getD_some, ite_true, ite_false, eq_self, not_false_eq_true, not_true_eq_false, e2]
          have := nxt h1 (.int (ix (awF (O.rw j) lane))) (.int (bz (if wh = true then decide (awF (O.rw j) lane ≤ loud) else decide (loud < awF (O.rw j) lane ∧ awF (O.rw j) lane ≤ 2 * loud)))) rfl u
          rw [so, if_neg] at this
          · exact this
          · rw [← hP]
            show ¬ (if wh = true then hwF O B.snd s lane loud j else heF O B.snd s lane loud j) = true
            unfold hwF heF
            intro k
            apply q
            cases wh
            · simp at k ⊢; omega
            · simp at k ⊢; omega
      cases wh with
      | true =>
        have e0 : (bz true = 0) = False := by decide
        simp (disch := first | assumption | omega | decide | rfl) only [w_X3_heard_46, w_X3_heard_48, w_X3_heard_51, w_X3_heard_53, w_X3_heard_54, w_X3_heard_57, w_X3_heard_58, w_X3_heard_61, w_X3_heard_62, nl_int, nl_ref, nl_null, nl_un, nl_rf, nl_long, isR_ref, isR_null, isR_rf, rf_some, rf_none, rOf_ref, rOf_null, rOf_rf, kn_v, kn_0, true_and, and_true, and_self, tin, inA_x, inA_l, ix_add, ix_addl, ix_ladd, ix_mul, ix_mull, ix_lmul, ix_tn, lt_tn, Nat.reduceLeDiff, Nat.reduceLT, Nat.reduceAdd, Nat.reduceMul, true_or, or_true, ↓reduceIte, aOk, ref_null, null_null, false_or, Option.isSome_some, Option.getD_some, ite_true, ite_false, eq_self, not_false_eq_true, not_true_eq_false, e0, ix_lt, ru_join, ite_cons, ite_int, ite_self]
        have e4 : (if loud < awF (O.rw j) lane then (0 : Int32) else 1) = bz (decide (awF (O.rw j) lane ≤ loud)) := by
          unfold bz
          by_cases q : loud < awF (O.rw j) lane
          · rw [if_pos q, if_neg (by simp; omega)]
          · rw [if_neg q, if_pos (by simp; omega)]
        rw [e4]
        exact mid
      | false =>
        have e0 : (bz false = 0) = True := by decide
        simp (disch := first | assumption | omega | decide | rfl) only [w_X3_heard_46, w_X3_heard_48, w_X3_heard_65, w_X3_heard_67, w_X3_heard_68, w_X3_heard_71, w_X3_heard_73, w_X3_heard_74, w_X3_heard_75, w_X3_heard_76, w_X3_heard_79, w_X3_heard_80, w_X3_heard_83, nl_int, nl_ref, nl_null, nl_un, nl_rf, nl_long, isR_ref, isR_null, isR_rf, rf_some, rf_none, rOf_ref, rOf_null, rOf_rf, kn_v, kn_0, true_and, and_true, and_self, tin, inA_x, inA_l, ix_add, ix_addl, ix_ladd, ix_mul, ix_mull, ix_lmul, ix_tn, lt_tn, Nat.reduceLeDiff, Nat.reduceLT, Nat.reduceAdd, Nat.reduceMul, true_or, or_true, ↓reduceIte, aOk, ref_null, null_null, false_or, Option.isSome_some, Option.getD_some, ite_true, ite_false, eq_self, not_false_eq_true, not_true_eq_false, e0, ix_lt, ru_join, ite_cons, ite_int, ite_self]
        have e4 : (if loud < awF (O.rw j) lane then (if 2 * loud < awF (O.rw j) lane then (0 : Int32) else 1) else 0) = bz (decide (loud < awF (O.rw j) lane ∧ awF (O.rw j) lane ≤ 2 * loud)) := by
          unfold bz
          by_cases q : loud < awF (O.rw j) lane
          · by_cases q2 : 2 * loud < awF (O.rw j) lane
            · rw [if_pos q, if_pos q2, if_neg (by simp; omega)]
            · rw [if_pos q, if_neg q2, if_pos (by simp; omega)]
          · rw [if_neg q, if_neg (by simp; omega)]
        rw [e4]
        exact mid
  rw [e_X3_heard]
  simp (disch := first | assumption | omega | decide | rfl) only [w_X3_heard_0, w_X3_heard_1, w_X3_heard_3, w_X3_heard_4, nl_int, nl_ref, nl_null, nl_un, nl_rf, nl_long, isR_ref, isR_null, isR_rf, rf_some, rf_none, rOf_ref, rOf_null, rOf_rf, kn_v, kn_0, true_and, and_true, and_self, tin, inA_x, inA_l, ix_add, ix_addl, ix_ladd, ix_mul, ix_mull, ix_lmul, ix_tn, lt_tn, Nat.reduceLeDiff, Nat.reduceLT, Nat.reduceAdd, Nat.reduceMul, true_or, or_true, ↓reduceIte, aOk, ref_null, null_null, false_or, Option.isSome_some, Option.getD_some, ite_true, ite_false, eq_self, not_false_eq_true, not_true_eq_false]
  exact key O.nA 0 h un un rfl (by omega) Sc.refl
end
