/-! LISTS: made, grown, shortened -/
set_option maxRecDepth 100000
section
variable {d l i n v : Nat} {h h' : AH} {A : Nat → Prop} {Q : Rs → AH → Prop}
theorem WL.lt (w : WL h l) : l < Nx h := Tg_nz w.tg (by decide)
theorem WL.elt (w : WL h l) : ed h l < Nx h := Tg_lt (by have := w.tn.1; omega)
theorem WL.un (w : WL h l) (u : Un A h h') (hl : ¬ A l) (he : ¬ A (ed h l)) : WL h' l ∧ sz h' l = sz h l ∧ ed h' l = ed h l ∧ ∀ i, el h' l i = el h l i := by
  have l1 := w.lt
  have l2 := w.elt
  obtain ⟨u1, u2, u3, u4, u5, u6⟩ := u
  obtain ⟨p1, -⟩ := u6 l l1 hl
  obtain ⟨-, -, -, q4⟩ := u6 _ l2 he
  have e1 : sz h' l = sz h l := by unfold sz; rw [(p1 181).1]
  have e2 : ed h' l = ed h l := by unfold ed; rw [(p1 180).2.2]
  have e3 : ∀ i, el h' l i = el h l i := by intro i; unfold el; rw [e2, q4]
  refine ⟨?_, e1, e2, e3⟩
  obtain ⟨w1, w2, w3, w4, w5, w6, w7, w8⟩ := w
  unfold WL
  rw [e1, e2, (p1 181).1, (p1 180).2.2, q4, (u5 l l1).1, (u5 _ l2).1, (u5 _ l2).2, u4]
  exact ⟨w1, w2, w3, w4, w5, w6, w7, fun i hi => by rw [w8 i hi, e3]⟩
/-- one is added at the end -/
def AddP (h : AH) (l v : Nat) (h' : AH) : Prop := WL h' l ∧ sz h' l = sz h l + 1 ∧ (∀ i, i < sz h l → el h' l i = el h l i) ∧ el h' l (sz h l) = v ∧ Un (fun a => a = l ∨ a = ed h l) h h' ∧ (ed h' l = ed h l ∨ ed h' l = Nx h) ∧ Nc h' ≤ Nc h + 1 ∧ Ns h' ≤ Ns h + (2 * sz h l + 10)
theorem elc_obj {t : Nat} (h1 : 5008 ≤ t) (h2 : t ≤ 5010) : elc t = some 0 := by
  have : t = 5008 ∨ t = 5009 ∨ t = 5010 := by omega
  rcases this with rfl | rfl | rfl <;> decide +kernel
theorem ix_0lt {a : Nat} (h : a < 2147483648) : ((0 : Int32) < ix a) = (0 < a) := ix_llt (by decide) h
/-- the private add, with room in the array -/
theorem c_add2 (w : WL h l) (ht : 5008 ≤ Tg h (ed h l) ∧ Tg h (ed h l) ≤ 5010) (hr : sz h l < An h (ed h l)) (hv : aAsB 0 (Tg h v) = true) : Ca (d + 1) 306 [.ref l, .ref v, .ref (ed h l), .int (ix (sz h l))] h Q = Q (.inl none) (sFi (sAr h (ed h l) (va_up (Ar h (ed h l)) (sz h l) (some v))) 181 l (ix (sz h l + 1))) := by
  have h1 : sz h l < 1000000 := w.2.2.1
  have h3 : An h (ed h l) < 2000000 := w.2.2.2.2.2.2.1
  have h4 : ¬ sz h l = An h (ed h l) := by omega
  have h5 := elc_obj ht.1 ht.2
  have h6 : 5000 ≤ Tg h (ed h l) := by omega
  have h7 : Tg h (ed h l) < 5900 := by omega
  have h8 : Tg h (ed h l) < 6000 := by omega
  have h9 : 1000 ≤ Tg h (ed h l) := by omega
  have e1 : Int32.ofNat (An h (ed h l)) = ix (An h (ed h l)) := rfl
  rw [e_J2_add_2 nl_ref nl_ref]
  simp (disch := first | assumption | omega | decide | rfl) only [w_J2_add_2_0, w_J2_add_2_1, w_J2_add_2_2, w_J2_add_2_3, w_J2_add_2_6, w_J2_add_2_7, w_J2_add_2_10, w_J2_add_2_11, w_J2_add_2_12, w_J2_add_2_13, wa_J2_add_2_14, w_J2_add_2_15, w_J2_add_2_16, w_J2_add_2_17, w_J2_add_2_18, w_J2_add_2_19, w_J2_add_2_22, nl_int, nl_ref, nl_null, nl_un, nl_rf, nl_long, isR_ref, isR_null, isR_rf, rf_some, rf_none, rOf_ref, rOf_null, rOf_rf, kn_v, kn_0, true_and, and_true, and_self, tin, inA_x, inA_l, ix_add, ix_addl, ix_ladd, ix_mul, ix_mull, ix_lmul, ix_tn, lt_tn, Nat.reduceLeDiff, Nat.reduceLT, Nat.reduceAdd, Nat.reduceMul, true_or, or_true, if_true, if_false, aOk, ref_null, null_null, false_or, Option.isSome_some, Option.getD_some, ite_true, ite_false, eq_self, not_false_eq_true, not_true_eq_false, Tg_sFi, Tg_sFl, Tg_sFr, Tg_sAi, Tg_sAl, Tg_sAr, An_sFi, An_sFl, An_sFr, An_sAi, An_sAl, An_sAr, Fi_sFl, Fi_sFr, Fi_sAi, Fi_sAl, Fi_sAr, Fl_sFi, Fl_sFr, Fl_sAi, Fl_sAl, Fl_sAr, Fr_sFi, Fr_sFl, Fr_sAi, Fr_sAl, Fr_sAr, Ai_sFi, Ai_sFl, Ai_sFr, Ai_sAl, Ai_sAr, Al_sFi, Al_sFl, Al_sFr, Al_sAi, Al_sAr, Ar_sFi, Ar_sFl, Ar_sFr, Ar_sAi, Ar_sAl, Fi_same, Fl_same, Fr_same, Ai_same, Al_same, Ar_same, Fi_otherf, Fl_otherf, Fr_otherf, w.tg, h5, h6, h7, h8, h9, e1, ix_eq, h4, hv]
theorem c_copyR {a b sp dp : Nat} (ha : elc (Tg h a) = some 0) (hb : elc (Tg h b) = some 0) (h1 : sp + n ≤ An h a) (h2 : dp + n ≤ An h b) (h3 : An h a < 2147483648) (h4 : An h b < 2147483648) : Ca d 900 [.ref a, .int (ix sp), .ref b, .int (ix dp), .int (ix n)] h Q = Q (.inl none) (sAr h b (va_cpy (Ar h a) (Ar h b) sp dp n)) := by
  refine ca_pr (by decide) ?_
  have e5 : ¬ (tin h a 1000 1900 ∧ tin h b 1000 1900) := by
    rintro ⟨q, -⟩
    have hm := lk_mem ha
    have hall : ∀ q ∈ elT, 5000 ≤ q.1 := by decide +kernel
    have : 5000 ≤ Tg h a := hall _ hm
    omega
  simp only [prim, if_true]
  rw [if_pos ⟨ix_nn (by omega), ix_nn (by omega), ix_nn (by omega), by rw [ix_tn (by omega), ix_tn (by omega)]; exact h1, by rw [ix_tn (by omega), ix_tn (by omega)]; exact h2⟩, if_neg e5, if_pos ⟨ha, hb⟩, ix_tn (by omega), ix_tn (by omega), ix_tn (by omega)]
theorem c_copyI {a b sp dp : Nat} (ha : tin h a 1000 1900) (hb : tin h b 1000 1900) (h1 : sp + n ≤ An h a) (h2 : dp + n ≤ An h b) (h3 : An h a < 2147483648) (h4 : An h b < 2147483648) : Ca d 900 [.ref a, .int (ix sp), .ref b, .int (ix dp), .int (ix n)] h Q = Q (.inl none) (sAi h b (va_cpy (Ai h a) (Ai h b) sp dp n)) := by
  refine ca_pr (by decide) ?_
  simp only [prim, if_true]
  rw [if_pos ⟨ix_nn (by omega), ix_nn (by omega), ix_nn (by omega), by rw [ix_tn (by omega), ix_tn (by omega)]; exact h1, by rw [ix_tn (by omega), ix_tn (by omega)]; exact h2⟩, if_pos ⟨ha, hb⟩, ix_tn (by omega), ix_tn (by omega), ix_tn (by omega)]
theorem c_getC {a : Nat} : Ca d 901 [.ref a] h Q = Q (.inl (some (.ref (Ev h 60)))) h := ca_pr (by decide) rfl
theorem c_objI {a : Nat} : Ca d 903 [.ref a] h Q = Q (.inl none) h := ca_pr (by decide) rfl
theorem ix_ltn {a b : Nat} (ha : a < 2147483648) (hb : b < 2147483648) (hn : ¬ a < b) : (ix a < ix b) = False := by rw [ix_lt ha hb]; exact eq_false hn
theorem c_copyOf {e : Nat} (ht : 5008 ≤ Tg h e ∧ Tg h e ≤ 5010) (hn : An h e ≤ n) (hb : n < 2000000) (hr : Rm h n) : Ca (d + 3) 334 [.ref e, .int (ix n)] h Q = Q (.inl (some (.ref (Nx h)))) (sAr (nCe h 5010 n) (Nx h) (va_cpy (Ar h e) (fun _ => none) 0 0 (An h e))) := by
  have hlk : lk [(5008, 901), (5009, 901), (5010, 901)] (Tg h e) = some 901 := by
    have : Tg h e = 5008 ∨ Tg h e = 5009 ∨ Tg h e = 5010 := by omega
    rcases this with q | q | q <;> rw [q] <;> decide +kernel
  have hlt : e < Nx h := Tg_lt (by omega)
  have hne : e ≠ Nx h := by omega
  have h6 : 1000 ≤ Tg h e := by omega
  have h7 : Tg h e < 6000 := by omega
  have e1 : Int32.ofNat (An h e) = ix (An h e) := rfl
  have e2 : elc (Tg (nCe h 5010 n) e) = some 0 := by rw [Tg_old hne]; exact elc_obj ht.1 ht.2
  have e3 : elc (Tg (nCe h 5010 n) (Nx h)) = some 0 := by rw [Tg_new]; decide +kernel
  have e4 : ¬ n < An h e := by omega
  have h8 : ¬ ix n < 0 := ix_nn (by omega)
  have e5 : An (nCe h 5010 n) e = An h e := An_old hne
  have e6 : An (nCe h 5010 n) (Nx h) = n := An_new
  have e7 : Ca (d + 1) 900 [.ref e, .int (ix 0), .ref (Nx h), .int (ix 0), .int (ix (An h e))] (nCe h 5010 n) = fun Q' => Q' (.inl none) (sAr (nCe h 5010 n) (Nx h) (va_cpy (Ar h e) (fun _ => none) 0 0 (An h e))) := by
    funext Q'
    rw [c_copyR e2 e3 (by omega) (by omega) (by omega) (by omega), Ar_old hne, Ar_new]
  rw [e_J13_copyOf nl_ref]
  simp (disch := first | assumption | omega | decide | rfl) only [w_J13_copyOf_0, w_J13_copyOf_1, w_J13_copyOf_2, w_J13_copyOf_3, w_J13_copyOf_6, w_J13_copyOf_9, nl_int, nl_ref, nl_null, nl_un, nl_rf, nl_long, isR_ref, isR_null, isR_rf, rf_some, rf_none, rOf_ref, rOf_null, rOf_rf, kn_v, kn_0, true_and, and_true, and_self, tin, inA_x, inA_l, ix_add, ix_addl, ix_ladd, ix_mul, ix_mull, ix_lmul, ix_tn, lt_tn, Nat.reduceLeDiff, Nat.reduceLT, Nat.reduceAdd, Nat.reduceMul, true_or, or_true, if_true, if_false, aOk, ref_null, null_null, false_or, Option.isSome_some, Option.getD_some, ite_true, ite_false, eq_self, not_false_eq_true, not_true_eq_false, c_getC]
  rw [e_J13_copyOf_2 nl_ref nl_ref]
  simp (disch := first | assumption | omega | decide | rfl) only [w_J13_copyOf_0, w_J13_copyOf_1, w_J13_copyOf_2, w_J13_copyOf_3, w_J13_copyOf_6, w_J13_copyOf_9, nl_int, nl_ref, nl_null, nl_un, nl_rf, nl_long, isR_ref, isR_null, isR_rf, rf_some, rf_none, rOf_ref, rOf_null, rOf_rf, kn_v, kn_0, true_and, and_true, and_self, tin, inA_x, inA_l, ix_add, ix_addl, ix_ladd, ix_mul, ix_mull, ix_lmul, ix_tn, lt_tn, Nat.reduceLeDiff, Nat.reduceLT, Nat.reduceAdd, Nat.reduceMul, true_or, or_true, if_true, if_false, aOk, ref_null, null_null, false_or, Option.isSome_some, Option.getD_some, ite_true, ite_false, eq_self, not_false_eq_true, not_true_eq_false, w_J13_copyOf_2_0, w_J13_copyOf_2_1, w_J13_copyOf_2_3, w_J13_copyOf_2_6, w_J13_copyOf_2_7, w_J13_copyOf_2_10, w_J13_copyOf_2_13, w_J13_copyOf_2_24, w_J13_copyOf_2_25, w_J13_copyOf_2_26, w_J13_copyOf_2_27, w_J13_copyOf_2_28, w_J13_copyOf_2_29, w_J13_copyOf_2_30, w_J13_copyOf_2_31, w_J13_copyOf_2_32, w_J13_copyOf_2_35, w_J13_copyOf_2_38, w_J13_copyOf_2_39, h8, Rm, hr.1, hr.2, if_pos rfl, Tg_old, An_old, h6, h7, e1, c_min, ix_ltn, ix_0, e7]
/-- the array that a full list gets, and what is in it -/
noncomputable def gcap (n : Nat) : Nat := n + (if 1 < n / 2 then n / 2 else 1)
theorem c_newLen {a : Nat} (ha : a < 1000000) : Ca (d + 2) 332 [.int (ix a), .int (ix 1), .int (ix (a / 2))] h Q = Q (.inl (some (.int (ix (gcap a))))) h := by
  have h1 : gcap a < 2000000 := by unfold gcap; split <;> omega
  have h2 : 0 < gcap a := by unfold gcap; split <;> omega
  have e1 : (if ix 1 < ix (a / 2) then ix (a / 2) else ix 1) = ix (if 1 < a / 2 then a / 2 else 1) := by
    simp only [ix_lt (a := 1) (b := a / 2) (by decide) (by omega)]
    split <;> rfl
  have e2 : ¬ (ix (gcap a) < 0) := ix_nn (by omega)
  have e3 : ix a + ix (if 1 < a / 2 then a / 2 else 1) = ix (gcap a) := ix_add
  have e4 : ((0 : Int32) < ix (gcap a)) = True := by rw [ix_0lt (by omega)]; exact eq_true h2
  have e5 : ((2147483639 : Int32) < ix (gcap a)) = False := by
    rw [show ((2147483639 : Int32) < ix (gcap a)) = (2147483639 < gcap a) from ix_llt (by decide) (by omega)]
    exact eq_false (by omega)
  rw [e_J12_newLength]
  simp (disch := first | assumption | omega | decide | rfl) only [w_J12_newLength_0, w_J12_newLength_1, w_J12_newLength_2, w_J12_newLength_3, w_J12_newLength_6, w_J12_newLength_7, w_J12_newLength_8, w_J12_newLength_9, w_J12_newLength_10, w_J12_newLength_13, w_J12_newLength_14, w_J12_newLength_16, w_J12_newLength_19, w_J12_newLength_20, w_J12_newLength_21, w_J12_newLength_22, w_J12_newLength_23, w_J12_newLength_26, nl_int, true_and, kn_v, c_max, e1, e3, e4, e5, if_true, if_false]
theorem c_grow {m : Nat} (w : WL h l) (ht : 5008 ≤ Tg h (ed h l) ∧ Tg h (ed h l) ≤ 5010) (hz : An h (ed h l) < 1000000) (hm : m = An h (ed h l) + 1) (hd : Tg h (Ev h 51) = 5902) (hr : Rm h (gcap (An h (ed h l)))) : Ca (d + 4) 308 [.ref l, .int (ix m)] h Q = Q (.inl (some (.ref (Nx h)))) (sFr (sAr (nCe h 5010 (gcap (An h (ed h l)))) (Nx h) (va_cpy (Ar h (ed h l)) (fun _ => none) 0 0 (An h (ed h l)))) 180 l (some (Nx h))) := by
  have h1 : gcap (An h (ed h l)) < 2000000 := by unfold gcap; split <;> omega
  have h2 : An h (ed h l) ≤ gcap (An h (ed h l)) := by unfold gcap; omega
  have l1 := w.lt
  have hne : l ≠ Nx h := by omega
  have e1 : Int32.ofNat (An h (ed h l)) = ix (An h (ed h l)) := rfl
  have h6 : 1000 ≤ Tg h (ed h l) := by omega
  have h7 : Tg h (ed h l) < 6000 := by omega
  have e2 : ¬ (Value.ref (ed h l) = Value.ref (Ev h 51)) := by
    intro q
    have q2 : ed h l = Ev h 51 := Value.ref.inj q
    rw [q2] at ht
    omega
  have e3 : ix m - ix (An h (ed h l)) = ix 1 := by rw [ix_sub (by omega)]; congr 1; omega
  have e4 : ix (An h (ed h l)) >>> ((1 : Int32) &&& 31) = ix (An h (ed h l) / 2) := ix_shr1 (by omega)
  have e5 : Tg (sAr (nCe h 5010 (gcap (An h (ed h l)))) (Nx h) (va_cpy (Ar h (ed h l)) (fun _ => none) 0 0 (An h (ed h l)))) l = 42 := by rw [Tg_sAr, Tg_old hne]; exact w.tg
  rw [e_J2_grow_2]
  simp (disch := first | assumption | omega | decide | rfl) only [w_J2_grow_2_0, w_J2_grow_2_1, w_J2_grow_2_4, w_J2_grow_2_5, w_J2_grow_2_6, w_J2_grow_2_7, w_J2_grow_2_10, w_J2_grow_2_11, w_J2_grow_2_14, w_J2_grow_2_17, w_J2_grow_2_20, w_J2_grow_2_21, w_J2_grow_2_22, w_J2_grow_2_23, w_J2_grow_2_24, w_J2_grow_2_25, w_J2_grow_2_26, w_J2_grow_2_27, w_J2_grow_2_30, w_J2_grow_2_31, w_J2_grow_2_32, w_J2_grow_2_33, w_J2_grow_2_36, w_J2_grow_2_37, w_J2_grow_2_40, w_J2_grow_2_41, w_J2_grow_2_44, w_J2_grow_2_45, w_J2_grow_2_46, w_J2_grow_2_48, w_J2_grow_2_49, w_J2_grow_2_52, w_J2_grow_2_55, w_J2_grow_2_56, w_J2_grow_2_59, nl_int, nl_ref, nl_un, isR_ref, rf_some, rOf_ref, true_and, and_true, and_self, kn_v, tin, w.tg, w.fr, h6, h7, e1, e2, e3, e4, e5, c_newLen, c_copyOf ht h2 h1 hr, if_true, if_false, ite_self]
end
