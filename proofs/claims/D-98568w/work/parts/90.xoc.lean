/-! ORCHARDS as objects: what they answer -/
set_option maxRecDepth 100000
/-- only rows and facts, which are filled anew, are changed -/
def Sc (h h' : AH) : Prop := Tg h' = Tg h ∧ An h' = An h ∧ Fi h' = Fi h ∧ Fl h' = Fl h ∧ Fr h' = Fr h ∧ Al h' = Al h ∧ Ar h' = Ar h ∧ Nc h' = Nc h ∧ Ns h' = Ns h ∧ Bs h' = Bs h ∧ Ev h' = Ev h ∧ ∀ a, Tg h a ≠ 1014 → Tg h a ≠ 1015 → Ai h' a = Ai h a
section
variable {lo hi d D o a b c f n p k t w s : Nat} {h h' h1 h2 : AH} {A : Nat → Prop} {O : Oc} {φ : Ph} {Q : Rs → AH → Prop} {day : Int32} {F : Nat → Int32}
theorem Sc.refl : Sc h h := ⟨rfl, rfl, rfl, rfl, rfl, rfl, rfl, rfl, rfl, rfl, rfl, fun _ _ _ => rfl⟩
theorem Sc.trans (u : Sc h h1) (t : Sc h1 h2) : Sc h h2 := by
  obtain ⟨u1, u2, u3, u4, u5, u6, u7, u8, u9, u10, u11, u12⟩ := u
  obtain ⟨t1, t2, t3, t4, t5, t6, t7, t8, t9, t10, t11, t12⟩ := t
  exact ⟨t1.trans u1, t2.trans u2, t3.trans u3, t4.trans u4, t5.trans u5, t6.trans u6, t7.trans u7, t8.trans u8, t9.trans u9, t10.trans u10, t11.trans u11, fun a q1 q2 => (t12 a (by rw [u1]; exact q1) (by rw [u1]; exact q2)).trans (u12 a q1 q2)⟩
theorem sc_s (ht : Tg h a = 1014 ∨ Tg h a = 1015) : Sc h (sAi h a F) := ⟨rfl, rfl, rfl, rfl, rfl, rfl, rfl, rfl, rfl, rfl, rfl, fun b q1 q2 => Ai_other (fun e => by subst e; rcases ht with z | z; exact q1 z; exact q2 z)⟩
theorem Sc.un (u : Sc h h') : Un (fun a => Tg h a = 1014 ∨ Tg h a = 1015) h h' := by
  obtain ⟨u1, u2, u3, u4, u5, u6, u7, u8, u9, u10, u11, u12⟩ := u
  exact ⟨Nat.le_of_eq u8.symm, Nat.le_of_eq u9.symm, u10, u11, fun a _ => ⟨by rw [u1], by rw [u2]⟩, fun a _ ha => ⟨fun f => ⟨by rw [u3], by rw [u4], by rw [u5]⟩, u12 a (fun z => ha (Or.inl z)) (fun z => ha (Or.inr z)), by rw [u6], by rw [u7]⟩⟩
theorem sf_sc : Sf lo hi h (fun a => Tg h a = 1014 ∨ Tg h a = 1015) := fun a _ q => ⟨fun _ => q, by rcases q with z | z <;> rw [z] <;> decide, by rcases q with z | z <;> rw [z] <;> decide⟩
theorem Sc.xo (u : Sc h h') (x : XO lo hi h o O) : XO lo hi h' o O := x.un sf_sc u.un
theorem Sc.oeq (u : Sc h h') : oe h' = oe h := by
  funext o f i
  unfold oe el ed ol
  rw [u.2.2.2.2.1, u.2.2.2.2.2.2.1]
/-- a list's one -/
theorem LL.get (x : LL lo hi h o f n) (hk : k < n) : Ca (d + 3) 302 [.ref (ol h o f), .int (ix k)] h Q = Q (.inl (some (.ref (oe h o f k)))) h := c_get x.wl (by rw [x.sz]; exact hk)
theorem LL.size (x : LL lo hi h o f n) : Ca (d + 1) 301 [.ref (ol h o f)] h Q = Q (.inl (some (.int (ix n)))) h := by
  rw [c_size x.wl, x.sz]
theorem cx_edits (x : XO lo hi h o O) (ha : a < O.nS) (hb : b < O.nS) : Ca (D + 5) 115 [.ref o, .int (ix a), .int (ix b)] h (fun r h' => r = .inl (some (.int (ix (edF (O.sn a) (O.sn b))))) ∧ Sc h h') := by
  have t0 := x.tg
  have s1 := (x.sn1 a ha).2.2
  have s2 := (x.sn1 b hb).2.2
  obtain ⟨r, r1, r2, r3⟩ := x.ro
  have g1 := x.sn.fr
  have g2 := x.sn.wl.tg
  rw [e_X4_edits]
  simp (disch := first | assumption | omega | decide | rfl) only [w_X4_edits_0, w_X4_edits_1, w_X4_edits_4, w_X4_edits_5, w_X4_edits_8, w_X4_edits_11, w_X4_edits_12, w_X4_edits_15, w_X4_edits_16, w_X4_edits_19, w_X4_edits_22, w_X4_edits_23, w_X4_edits_26, w_X4_edits_29, nl_int, nl_ref, nl_null, nl_un, nl_rf, nl_long, isR_ref, isR_null, isR_rf, rf_some, rf_none, rOf_ref, rOf_null, rOf_rf, kn_v, kn_0, true_and, and_true, and_self, tin, inA_x, inA_l, ix_add, ix_addl, ix_ladd, ix_mul, ix_mull, ix_lmul, ix_tn, lt_tn, Nat.reduceLeDiff, Nat.reduceLT, Nat.reduceAdd, Nat.reduceMul, true_or, or_true, ↓reduceIte, aOk, ref_null, null_null, false_or, Option.isSome_some, Option.getD_some, ite_true, ite_false, eq_self, not_false_eq_true, not_true_eq_false, t0, g1, g2, r1, x.sn.get ha, x.sn.get hb, s1.1, s2.1]
  refine ca_mono (c_edits s1 s2 (by rw [r2]; decide) r3) ?_
  rintro z h1 ⟨rfl, g, rfl⟩
  simp (disch := first | assumption | omega | decide | rfl) only [w_X4_edits_0, w_X4_edits_1, w_X4_edits_4, w_X4_edits_5, w_X4_edits_8, w_X4_edits_11, w_X4_edits_12, w_X4_edits_15, w_X4_edits_16, w_X4_edits_19, w_X4_edits_22, w_X4_edits_23, w_X4_edits_26, w_X4_edits_29, nl_int, nl_ref, nl_null, nl_un, nl_rf, nl_long, isR_ref, isR_null, isR_rf, rf_some, rf_none, rOf_ref, rOf_null, rOf_rf, kn_v, kn_0, true_and, and_true, and_self, tin, inA_x, inA_l, ix_add, ix_addl, ix_ladd, ix_mul, ix_mull, ix_lmul, ix_tn, lt_tn, Nat.reduceLeDiff, Nat.reduceLT, Nat.reduceAdd, Nat.reduceMul, true_or, or_true, ↓reduceIte, aOk, ref_null, null_null, false_or, Option.isSome_some, Option.getD_some, ite_true, ite_false, eq_self, not_false_eq_true, not_true_eq_false]
  exact sc_s (Or.inl r2)
theorem cx_rhyme (x : XO lo hi h o O) (ha : a < O.nS) (hb : b < O.nS) : Ca (D + 5) 116 [.ref o, .int (ix a), .int (ix b)] h Q = Q (.inl (some (.int (ix (rhF (O.sn a) (O.sn b)))))) h := by
  have t0 := x.tg
  have s1 := (x.sn1 a ha).2.2
  have s2 := (x.sn1 b hb).2.2
  have g1 := x.sn.fr
  have g2 := x.sn.wl.tg
  rw [e_X4_rhyme]
  simp (disch := first | assumption | omega | decide | rfl) only [w_X4_rhyme_0, w_X4_rhyme_1, w_X4_rhyme_4, w_X4_rhyme_5, w_X4_rhyme_8, w_X4_rhyme_11, w_X4_rhyme_12, w_X4_rhyme_15, w_X4_rhyme_16, w_X4_rhyme_19, w_X4_rhyme_22, w_X4_rhyme_25, nl_int, nl_ref, nl_null, nl_un, nl_rf, nl_long, isR_ref, isR_null, isR_rf, rf_some, rf_none, rOf_ref, rOf_null, rOf_rf, kn_v, kn_0, true_and, and_true, and_self, tin, inA_x, inA_l, ix_add, ix_addl, ix_ladd, ix_mul, ix_mull, ix_lmul, ix_tn, lt_tn, Nat.reduceLeDiff, Nat.reduceLT, Nat.reduceAdd, Nat.reduceMul, true_or, or_true, ↓reduceIte, aOk, ref_null, null_null, false_or, Option.isSome_some, Option.getD_some, ite_true, ite_false, eq_self, not_false_eq_true, not_true_eq_false, t0, g1, g2, x.sn.get ha, x.sn.get hb, s1.1, s2.1, c_rhyme s1 s2]
theorem cx_says (x : XO lo hi h o O) (hp : p < O.nP) (hs : s < O.nS) : Ca (D + 5) 118 [.ref o, .int (ix p), .int (ix s)] h Q = Q (.inl (some (.int (bz (saF O p s))))) h := by
  have t0 := x.tg
  have s1 := (x.sn1 s hs).2.2
  obtain ⟨-, p1, p2, p3, p4⟩ := x.pe1 p hp
  have b1 := x.wo.mu p hp
  have g1 := x.sn.fr
  have g2 := x.sn.wl.tg
  have g3 := x.pe.fr
  have g4 := x.pe.wl.tg
  rw [e_X4_says]
  unfold saF
  by_cases q : O.mu p = 0
  · rw [if_pos q] at p4
    have e : ((-1 : Int32) = -1) = True := eq_true rfl
    simp (disch := first | assumption | omega | decide | rfl) only [w_X4_says_0, w_X4_says_1, w_X4_says_4, w_X4_says_5, w_X4_says_8, w_X4_says_11, w_X4_says_14, w_X4_says_15, w_X4_says_18, w_X4_says_19, w_X4_says_22, w_X4_says_23, w_X4_says_26, w_X4_says_29, w_X4_says_30, w_X4_says_33, w_X4_says_34, w_X4_says_37, w_X4_says_40, w_X4_says_43, w_X4_says_46, w_X4_says_49, w_X4_says_50, w_X4_says_53, w_X4_says_54, nl_int, nl_ref, nl_null, nl_un, nl_rf, nl_long, isR_ref, isR_null, isR_rf, rf_some, rf_none, rOf_ref, rOf_null, rOf_rf, kn_v, kn_0, true_and, and_true, and_self, tin, inA_x, inA_l, ix_add, ix_addl, ix_ladd, ix_mul, ix_mull, ix_lmul, ix_tn, lt_tn, Nat.reduceLeDiff, Nat.reduceLT, Nat.reduceAdd, Nat.reduceMul, true_or, or_true, ↓reduceIte, aOk, ref_null, null_null, false_or, Option.isSome_some, Option.getD_some, ite_true, ite_false, eq_self, not_false_eq_true, not_true_eq_false, t0, g1, g2, g3, g4, x.pe.get hp, p1, p4, e]
    simp [q, bz]
  · rw [if_neg q] at p4
    have e : (ix (O.mu p) = -1) = False := ix_m1 (by omega)
    simp (disch := first | assumption | omega | decide | rfl) only [w_X4_says_0, w_X4_says_1, w_X4_says_4, w_X4_says_5, w_X4_says_8, w_X4_says_11, w_X4_says_14, w_X4_says_15, w_X4_says_18, w_X4_says_19, w_X4_says_22, w_X4_says_23, w_X4_says_26, w_X4_says_29, w_X4_says_30, w_X4_says_33, w_X4_says_34, w_X4_says_37, w_X4_says_40, w_X4_says_43, w_X4_says_46, w_X4_says_49, w_X4_says_50, w_X4_says_53, w_X4_says_54, nl_int, nl_ref, nl_null, nl_un, nl_rf, nl_long, isR_ref, isR_null, isR_rf, rf_some, rf_none, rOf_ref, rOf_null, rOf_rf, kn_v, kn_0, true_and, and_true, and_self, tin, inA_x, inA_l, ix_add, ix_addl, ix_ladd, ix_mul, ix_mull, ix_lmul, ix_tn, lt_tn, Nat.reduceLeDiff, Nat.reduceLT, Nat.reduceAdd, Nat.reduceMul, true_or, or_true, ↓reduceIte, aOk, ref_null, null_null, false_or, Option.isSome_some, Option.getD_some, ite_true, ite_false, eq_self, not_false_eq_true, not_true_eq_false, t0, g1, g2, g3, g4, x.pe.get hp, x.sn.get hs, s1.1, p1, p4, e, c_holds s1 b1]
    cases hoF (O.sn s) (O.mu p) <;> simp [q, bz]
end
