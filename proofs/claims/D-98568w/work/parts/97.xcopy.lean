/-! BOUGHS as objects: copied, begun -/
set_option maxRecDepth 100000
section
variable {lo hi d D o a b c f n p k t w s e lane loud S hang l x' : Nat} {h h' h1 h2 : AH} {A : Nat → Prop} {O : Oc} {B : Bo} {φ : Ph} {Q : Rs → AH → Prop} {day v : Int32} {F : Nat → Int32} {r : Option Nat}
/-- boughs whatever they hold -/
def XS (lo : Nat) (hi : Nat) (h : AH) (b : Nat) : Prop := (Tg h b = 4) ∧ (Fr h 28 b = some (b + 1)) ∧ (Tg h (b + 1) = 1013) ∧ (An h (b + 1) = 10) ∧ (b + 1 < lo ∨ hi ≤ b)
theorem XS.tg {lo : Nat} {hi : Nat} {h : AH} {b : Nat} (x : XS lo hi h b) : Tg h b = 4 := x.1
theorem XS.sd {lo : Nat} {hi : Nat} {h : AH} {b : Nat} (x : XS lo hi h b) : Fr h 28 b = some (b + 1) := x.2.1
theorem XS.ta {lo : Nat} {hi : Nat} {h : AH} {b : Nat} (x : XS lo hi h b) : Tg h (b + 1) = 1013 := x.2.2.1
theorem XS.an {lo : Nat} {hi : Nat} {h : AH} {b : Nat} (x : XS lo hi h b) : An h (b + 1) = 10 := x.2.2.2.1
theorem XS.ou {lo : Nat} {hi : Nat} {h : AH} {b : Nat} (x : XS lo hi h b) : b + 1 < lo ∨ hi ≤ b := x.2.2.2.2
theorem XB.xs (y : XB lo hi h b o n B) : XS lo hi h b := ⟨y.tg, y.sd, y.ta, y.an, y.ou⟩
theorem Bx.xs (u : Bx c h h') (y : XS lo hi h b) : XS lo hi h' b := by
  obtain ⟨y1, y2, y3, y4, y5⟩ := y
  refine ⟨by rw [u.1]; exact y1, ?_, by rw [u.1]; exact y3, by rw [u.2.1]; exact y4, y5⟩
  by_cases q : b = c
  · subst q; rw [u.2.2.2.2.2.2.2.2.2.2.2]; exact y2
  · rw [(u.2.2.2.2.2.2.2.2.2.1 28 b q).2]; exact y2
/-- other boughs are as they were -/
theorem Bx.xb (u : Bx c h h') (y : XB lo hi h b o n B) (hc : Tg h c = 4) (hc2 : Tg h (c + 1) = 1013) (ne : b ≠ c) : XB lo hi h' b o n B := by
  obtain ⟨u1, u2, u3, u4, u5, u6, u7, u8, u9, u10, u11, u12⟩ := u
  have hb := y.ta
  have ne2 : b + 1 ≠ c + 1 := by omega
  unfold XB at y ⊢
  rw [u1, u2, (u10 28 b ne).2, (u10 25 b ne).2, (u10 26 b ne).1, (u10 27 b ne).1, (u10 29 b ne).1, (u10 30 b ne).1, (u10 31 b ne).1, u11 (b + 1) ne2 (by omega) (by omega)]
  exact y
theorem cpy_at {G H : Nat → Int32} {m : Nat} (ha : a < m) : va_cpy G H 0 0 m a = G a := by
  show (if 0 ≤ a ∧ a < 0 + m then G (0 + (a - 0)) else H a) = G a
  rw [if_pos (by omega)]
  congr 1
  omega
theorem cx_copies (s : XS lo hi h c) (y : XB lo hi h b o n B) (ne : b ≠ c) (hn : n ≤ 10) : Ca (D + 1) 96 [.ref c, .ref b] h (fun r h' => r = .inl (some (.ref c)) ∧ Bx c h h' ∧ XB lo hi h' c o n B) := by
  obtain ⟨s1, s2, s3, s4, s5⟩ := s
  have ne1 : c ≠ b := fun q => ne q.symm
  rw [e_X3_copies nl_ref]
  generalize hQ : (fun r h' => r = .inl (some (.ref c)) ∧ Bx c h h' ∧ XB lo hi h' c o n B : Rs → AH → Prop) = Q
  simp (disch := first | assumption | omega | decide | rfl) only [w_X3_copies_0, w_X3_copies_1, w_X3_copies_2, w_X3_copies_5, w_X3_copies_8, w_X3_copies_9, w_X3_copies_10, w_X3_copies_13, w_X3_copies_16, w_X3_copies_17, w_X3_copies_18, w_X3_copies_21, w_X3_copies_24, w_X3_copies_25, w_X3_copies_28, w_X3_copies_29, w_X3_copies_30, w_X3_copies_33, w_X3_copies_34, nl_int, nl_ref, nl_null, nl_un, nl_rf, nl_long, isR_ref, isR_null, isR_rf, rf_some, rf_none, rOf_ref, rOf_null, rOf_rf, kn_v, kn_0, true_and, and_true, and_self, tin, inA_x, inA_l, ix_add, ix_addl, ix_ladd, ix_mul, ix_mull, ix_lmul, ix_tn, lt_tn, Nat.reduceLeDiff, Nat.reduceLT, Nat.reduceAdd, Nat.reduceMul, true_or, or_true, ↓reduceIte, aOk, ref_null, null_null, false_or, Option.isSome_some, Option.getD_some, ite_true, ite_false, eq_self, not_false_eq_true, not_true_eq_false, Tg_sFi, Tg_sFl, Tg_sFr, Tg_sAi, Tg_sAl, Tg_sAr, An_sFi, An_sFl, An_sFr, An_sAi, An_sAl, An_sAr, Fi_sFl, Fi_sFr, Fi_sAi, Fi_sAl, Fi_sAr, Fl_sFi, Fl_sFr, Fl_sAi, Fl_sAl, Fl_sAr, Fr_sFi, Fr_sFl, Fr_sAi, Fr_sAl, Fr_sAr, Ai_sFi, Ai_sFl, Ai_sFr, Ai_sAl, Ai_sAr, Al_sFi, Al_sFl, Al_sFr, Al_sAi, Al_sAr, Ar_sFi, Ar_sFl, Ar_sFr, Ar_sAi, Ar_sAl, Fi_same, Fl_same, Fr_same, Ai_same, Al_same, Ar_same, Fi_otherf, Fl_otherf, Fr_otherf, Fi_othera, s1, s2, y.tg, y.oc, y.hang, y.loose, y.sd, ix_0]
  have u1 : Bx c h (sFi (sFi (sFr h 25 c (some o)) 26 c (ix B.hang)) 27 c (ix B.loose)) := ((bx_fr (by decide)).trans bx_fi).trans bx_fi
  have a1 : Fr (sFi (sFi (sFr h 25 c (some o)) 26 c (ix B.hang)) 27 c (ix B.loose)) 25 c = some o := Fr_same
  have a2 : Fi (sFi (sFi (sFr h 25 c (some o)) 26 c (ix B.hang)) 27 c (ix B.loose)) 26 c = ix B.hang := by rw [Fi_otherf (by decide), Fi_same]
  have a3 : Fi (sFi (sFi (sFr h 25 c (some o)) 26 c (ix B.hang)) 27 c (ix B.loose)) 27 c = ix B.loose := Fi_same
  revert u1 a1 a2 a3
  generalize sFi (sFi (sFr h 25 c (some o)) 26 c (ix B.hang)) 27 c (ix B.loose) = h1
  intro u1 a1 a2 a3
  have y1 := u1.xb y s1 s3 ne
  obtain ⟨t1, t2, t3, t4, t5⟩ := u1.xs ⟨s1, s2, s3, s4, s5⟩
  have e10 : (10 : Int32) = ix 10 := rfl
  rw [w_X3_copies_36, e10, c_copyI (n := 10) (by unfold tin; rw [y1.ta]; decide) (by unfold tin; rw [t3]; decide) (by rw [y1.an]; decide) (by rw [t4]; decide) (by rw [y1.an]; decide) (by rw [t4]; decide), kn_0]
  have u2 : Bx c h1 (sAi h1 (c + 1) (va_cpy (Ai h1 (b + 1)) (Ai h1 (c + 1)) 0 0 10)) := bx_ai
  have a4 : ∀ a, a < n → Ai (sAi h1 (c + 1) (va_cpy (Ai h1 (b + 1)) (Ai h1 (c + 1)) 0 0 10)) (c + 1) a = ix (B.snd a) := fun a ha => by rw [Ai_same, cpy_at (by omega)]; exact y1.snd a ha
  have b1 : Fr (sAi h1 (c + 1) (va_cpy (Ai h1 (b + 1)) (Ai h1 (c + 1)) 0 0 10)) 25 c = some o := a1
  have b2 : Fi (sAi h1 (c + 1) (va_cpy (Ai h1 (b + 1)) (Ai h1 (c + 1)) 0 0 10)) 26 c = ix B.hang := a2
  have b3 : Fi (sAi h1 (c + 1) (va_cpy (Ai h1 (b + 1)) (Ai h1 (c + 1)) 0 0 10)) 27 c = ix B.loose := a3
  revert u2 a4 b1 b2 b3
  generalize sAi h1 (c + 1) (va_cpy (Ai h1 (b + 1)) (Ai h1 (c + 1)) 0 0 10) = h2
  intro u2 a4 b1 b2 b3
  have y2 := u2.xb y1 t1 t3 ne
  obtain ⟨v1, v2, v3, v4, v5⟩ := u2.xs ⟨t1, t2, t3, t4, t5⟩
  simp (disch := first | assumption | omega | decide | rfl) only [w_X3_copies_39, w_X3_copies_40, w_X3_copies_41, w_X3_copies_44, w_X3_copies_47, w_X3_copies_48, w_X3_copies_49, w_X3_copies_52, w_X3_copies_55, w_X3_copies_56, w_X3_copies_57, w_X3_copies_60, w_X3_copies_63, w_X3_copies_64, nl_int, nl_ref, nl_null, nl_un, nl_rf, nl_long, isR_ref, isR_null, isR_rf, rf_some, rf_none, rOf_ref, rOf_null, rOf_rf, kn_v, kn_0, true_and, and_true, and_self, tin, inA_x, inA_l, ix_add, ix_addl, ix_ladd, ix_mul, ix_mull, ix_lmul, ix_tn, lt_tn, Nat.reduceLeDiff, Nat.reduceLT, Nat.reduceAdd, Nat.reduceMul, true_or, or_true, ↓reduceIte, aOk, ref_null, null_null, false_or, Option.isSome_some, Option.getD_some, ite_true, ite_false, eq_self, not_false_eq_true, not_true_eq_false, Tg_sFi, Tg_sFl, Tg_sFr, Tg_sAi, Tg_sAl, Tg_sAr, An_sFi, An_sFl, An_sFr, An_sAi, An_sAl, An_sAr, Fi_sFl, Fi_sFr, Fi_sAi, Fi_sAl, Fi_sAr, Fl_sFi, Fl_sFr, Fl_sAi, Fl_sAl, Fl_sAr, Fr_sFi, Fr_sFl, Fr_sAi, Fr_sAl, Fr_sAr, Ai_sFi, Ai_sFl, Ai_sFr, Ai_sAl, Ai_sAr, Al_sFi, Al_sFl, Al_sFr, Al_sAi, Al_sAr, Ar_sFi, Ar_sFl, Ar_sFr, Ar_sAi, Ar_sAl, Fi_same, Fl_same, Fr_same, Ai_same, Al_same, Ar_same, Fi_otherf, Fl_otherf, Fr_otherf, fot, bz_ne, bz_1, ite_bz, Bool.not_eq_false, Bool.not_eq_true, Fi_othera, v1, y2.tg, y2.day, y2.had, y2.pk]
  rw [← hQ]
  refine ⟨rfl, ((((u1.trans u2).trans bx_fi).trans bx_fi).trans bx_fi), v1, v2, v3, v4, v5, b1, ?_, ?_, ?_, ?_, ?_, a4⟩
  · rw [Fi_otherf (by decide), Fi_otherf (by decide), Fi_otherf (by decide)]; exact b2
  · rw [Fi_otherf (by decide), Fi_otherf (by decide), Fi_otherf (by decide)]; exact b3
  · rw [Fi_otherf (by decide), Fi_otherf (by decide), Fi_same]
  · rw [Fi_otherf (by decide), Fi_same]
  · exact Fi_same
theorem wb_fall (z : WB O B) {x y : Int32} {q : Bool} : WB O (sd B.hang (faF O B.hang B.loose w e), loF O B.hang B.loose w e, B.snd, x, y, q) := by
  refine ⟨Nat.lt_of_le_of_lt sd_le z.hang, fun i hi => ?_, z.snd⟩
  have hi : (loF O B.hang B.loose w e).testBit i = true := hi
  unfold loF at hi
  rw [Nat.testBit_and, Bool.and_eq_true] at hi
  exact hi.2
theorem wb_ca (z : WB O B) : WB O (caF O B s lane loud) := wb_fall z
theorem wb_pa (z : WB O B) : WB O (paF B) := ⟨z.hang, z.loose, z.snd⟩
theorem wb_pi (z : WB O B) : WB O (piF O B a) := by
  refine ⟨Nat.lt_of_le_of_lt sd_le z.hang, fun i hi => ?_, z.snd⟩
  have hi : (sd B.loose (2 ^ a)).testBit i = true := hi
  show (sd B.hang (2 ^ a)).testBit i = true
  rw [sd_bit, Bool.and_eq_true] at hi ⊢
  exact ⟨z.loose i hi.1, hi.2⟩
noncomputable def beF (O : Oc) : Bo := (2 ^ O.nA - 1, 0, O.ts, 0, 0, false)
theorem wb_be (wo : WO O) : WB O (beF O) := by
  refine ⟨?_, fun i hi => ?_, wo.ts⟩
  · show 2 ^ O.nA - 1 < 2 ^ O.nA
    have := Nat.one_le_two_pow (n := O.nA)
    omega
  · have hi : (0 : Nat).testBit i = true := hi
    simp at hi
end
