/-! LISTS: remove, clear, made; Long -/
set_option maxRecDepth 100000
section
variable {d l i n v : Nat} {h h' : AH} {A : Nat → Prop} {Q : Rs → AH → Prop}
theorem c_alInit (ht : Tg h l = 42) : Ca (d + 3) 299 [.ref l] h Q = Q (.inl none) (sFi h 179 l 0) := by
  rw [e_J1_init]
  simp (disch := first | assumption | omega | decide | rfl) only [w_J1_init_0, w_J1_init_1, w_J1_init_4, w_J1_init_5, w_J1_init_6, w_J1_init_9, nl_int, nl_ref, nl_null, nl_un, nl_rf, nl_long, isR_ref, isR_null, isR_rf, rf_some, rf_none, rOf_ref, rOf_null, rOf_rf, kn_v, kn_0, true_and, and_true, and_self, tin, inA_x, inA_l, ix_add, ix_addl, ix_ladd, ix_mul, ix_mull, ix_lmul, ix_tn, lt_tn, Nat.reduceLeDiff, Nat.reduceLT, Nat.reduceAdd, Nat.reduceMul, true_or, or_true, ↓reduceIte, aOk, ref_null, null_null, false_or, Option.isSome_some, Option.getD_some, ite_true, ite_false, eq_self, not_false_eq_true, not_true_eq_false, e_J0_init, w_J0_init_0, w_J0_init_1, w_J0_init_4, c_objI, ht, List.mem_cons]
theorem c_newList (ht : Tg h l = 42) (hn : 0 < n) (hb : n < 1000) (hr : Rm h n) : Ca (d + 4) 300 [.ref l, .int (ix n)] h Q = Q (.inl none) (sFr (nCe (sFi h 179 l 0) 5008 n) 180 l (some (Nx h))) := by
  have hl : l < Nx h := Tg_nz ht (by decide)
  have hne : l ≠ Nx h := by omega
  have e1 : ((0 : Int32) < ix n) = True := by rw [ix_0lt (by omega)]; exact eq_true hn
  have e2 : ¬ ix n < 0 := ix_nn (by omega)
  have e3 : Tg (nCe (sFi h 179 l 0) 5008 n) l = 42 := by rw [Tg_old (h := sFi h 179 l 0) hne]; exact ht
  rw [e_J2_init]
  simp (disch := first | assumption | omega | decide | rfl) only [w_J2_init_0, w_J2_init_1, w_J2_init_4, w_J2_init_5, w_J2_init_8, w_J2_init_9, w_J2_init_10, w_J2_init_13, w_J2_init_16, w_J2_init_19, w_J2_init_20, w_J2_init_23, w_J2_init_24, w_J2_init_27, w_J2_init_30, w_J2_init_36, w_J2_init_40, w_J2_init_60, nl_int, nl_ref, nl_null, nl_un, nl_rf, nl_long, isR_ref, isR_null, isR_rf, rf_some, rf_none, rOf_ref, rOf_null, rOf_rf, kn_v, kn_0, true_and, and_true, and_self, tin, inA_x, inA_l, ix_add, ix_addl, ix_ladd, ix_mul, ix_mull, ix_lmul, ix_tn, lt_tn, Nat.reduceLeDiff, Nat.reduceLT, Nat.reduceAdd, Nat.reduceMul, true_or, or_true, ↓reduceIte, aOk, ref_null, null_null, false_or, Option.isSome_some, Option.getD_some, ite_true, ite_false, eq_self, not_false_eq_true, not_true_eq_false, c_alInit ht, e1, e2, Rm, Nc_sFi, Ns_sFi, hr.1, hr.2, Nx_sFi, e3]
theorem c_newList0 (ht : Tg h l = 42) : Ca (d + 4) 304 [.ref l] h Q = Q (.inl none) (sFr (sFi h 179 l 0) 180 l (some (Ev h 51))) := by
  rw [e_J2_init_2]
  simp (disch := first | assumption | omega | decide | rfl) only [w_J2_init_2_0, w_J2_init_2_1, w_J2_init_2_4, w_J2_init_2_5, w_J2_init_2_8, w_J2_init_2_11, nl_int, nl_ref, nl_null, nl_un, nl_rf, nl_long, isR_ref, isR_null, isR_rf, rf_some, rf_none, rOf_ref, rOf_null, rOf_rf, kn_v, kn_0, true_and, and_true, and_self, tin, inA_x, inA_l, ix_add, ix_addl, ix_ladd, ix_mul, ix_mull, ix_lmul, ix_tn, lt_tn, Nat.reduceLeDiff, Nat.reduceLT, Nat.reduceAdd, Nat.reduceMul, true_or, or_true, ↓reduceIte, aOk, ref_null, null_null, false_or, Option.isSome_some, Option.getD_some, ite_true, ite_false, eq_self, not_false_eq_true, not_true_eq_false, c_alInit ht, Tg_sFi, ht, Ev_sFi]
/-- one is taken out -/
def RemP (h : AH) (l i : Nat) (h' : AH) : Prop := WL h' l ∧ sz h' l = sz h l - 1 ∧ (∀ j, j < sz h l - 1 → el h' l j = el h l (if j < i then j else j + 1)) ∧ ed h' l = ed h l ∧ Un (fun a => a = l ∨ a = ed h l) h h' ∧ Nc h' = Nc h ∧ Ns h' = Ns h
theorem remp_of {F : Nat → Option Nat} {x : Int32} (w : WL h l) (hi : i < sz h l) (hF : ∀ j, j < sz h l - 1 → F j = some (el h l (if j < i then j else j + 1))) (he : h' = sAr (sFi (sFi h 179 l x) 181 l (ix (sz h l - 1))) (ed h l) F) : RemP h l i h' := by
  subst he
  have z0 : sz h l < 1000000 := w.2.2.1
  have z1 : sz h l ≤ An h (ed h l) := w.2.2.2.2.2.1
  have z2 : An h (ed h l) < 2000000 := w.2.2.2.2.2.2.1
  have e1 : sz (sAr (sFi (sFi h 179 l x) 181 l (ix (sz h l - 1))) (ed h l) F) l = sz h l - 1 := by
    show (Fi (sFi (sFi h 179 l x) 181 l (ix (sz h l - 1))) 181 l).toNatClampNeg = _
    rw [Fi_same, ix_tn (by omega)]
  have e2 : ed (sAr (sFi (sFi h 179 l x) 181 l (ix (sz h l - 1))) (ed h l) F) l = ed h l := rfl
  have e3 : ∀ j, Ar (sAr (sFi (sFi h 179 l x) 181 l (ix (sz h l - 1))) (ed h l) F) (ed h l) j = F j := fun j => by rw [Ar_same]
  have e4 : ∀ j, j < sz h l - 1 → el (sAr (sFi (sFi h 179 l x) 181 l (ix (sz h l - 1))) (ed h l) F) l j = el h l (if j < i then j else j + 1) := fun j hj => by
    show (Ar _ (ed h l) j).getD 0 = _
    rw [e3, hF j hj]
    rfl
  refine ⟨⟨w.tg, by rw [e1]; exact Fi_same, by rw [e1]; omega, w.fr, w.2.2.2.2.1, by rw [e1]; show _ ≤ An h (ed h l); omega, z2, fun j hj => ?_⟩, e1, e4, e2, ?_, rfl, rfl⟩
  · rw [e1] at hj
    rw [e2, e3, hF j hj, e4 j hj]
  · exact ((un_sFi (Or.inl rfl)).trans (un_sFi (A := fun z => z = l) rfl) (fun z hz q => Or.inl q)).trans (un_sAr (A := fun z => z = ed h l) rfl) (fun z hz q => Or.inr q)
theorem sAr_sAr {a : Nat} {F G : Nat → Option Nat} : sAr (sAr h a F) a G = sAr h a G := by
  unfold sAr
  have : at2 (Ar (h.1, h.2.1, h.2.2.1, h.2.2.2.1, h.2.2.2.2.1, h.2.2.2.2.2.1, at2 (Ar h) a F, h.2.2.2.2.2.2.2)) a G = at2 (Ar h) a G := by
    funext z; show (if z = a then G else (if z = a then F else Ar h z)) = if z = a then G else Ar h z
    by_cases q : z = a
    · rw [if_pos q, if_pos q]
    · rw [if_neg q, if_neg q, if_neg q]
  rw [this]
theorem c_remove (w : WL h l) (hi : i < sz h l) : Ca (d + 4) 310 [.ref l, .int (ix i)] h (fun r h' => r = .inl (some (.ref (el h l i))) ∧ RemP h l i h') := by
  have z0 : sz h l < 1000000 := w.2.2.1
  have z1 : sz h l ≤ An h (ed h l) := w.2.2.2.2.2.1
  have z2 : An h (ed h l) < 2000000 := w.2.2.2.2.2.2.1
  have ht : 5008 ≤ Tg h (ed h l) ∧ Tg h (ed h l) ≤ 5010 := by
    rcases w.2.2.2.2.1 with q | q
    · exact q
    · omega
  have h5 := elc_obj ht.1 ht.2
  have h6 : 5000 ≤ Tg h (ed h l) := by omega
  have h7 : Tg h (ed h l) < 5900 := by omega
  have h8 : Tg h (ed h l) < 6000 := by omega
  rw [e_J2_remove]
  simp (disch := first | assumption | omega | decide | rfl) only [w_J2_remove_0, w_J2_remove_1, w_J2_remove_2, w_J2_remove_5, w_J2_remove_8, w_J2_remove_9, w_J2_remove_10, w_J2_remove_13, w_J2_remove_14, w_J2_remove_15, w_J2_remove_16, w_J2_remove_17, w_J2_remove_18, w_J2_remove_19, w_J2_remove_20, w_J2_remove_21, w_J2_remove_24, w_J2_remove_25, nl_int, nl_ref, nl_null, nl_un, nl_rf, nl_long, isR_ref, isR_null, isR_rf, rf_some, rf_none, rOf_ref, rOf_null, rOf_rf, kn_v, kn_0, true_and, and_true, and_self, tin, inA_x, inA_l, ix_add, ix_addl, ix_ladd, ix_mul, ix_mull, ix_lmul, ix_tn, lt_tn, Nat.reduceLeDiff, Nat.reduceLT, Nat.reduceAdd, Nat.reduceMul, true_or, or_true, ↓reduceIte, aOk, ref_null, null_null, false_or, Option.isSome_some, Option.getD_some, ite_true, ite_false, eq_self, not_false_eq_true, not_true_eq_false, w.tg, w.zs, w.fr, c_obj_chk, h6, h8, w.ar]
  rw [e_J2_fastRemove nl_ref]
  generalize hx : Fi h 179 l + 1 = x
  have e1 : ix (sz h l) - 1 = ix (sz h l - 1) := ix_subl (n := 1) (by omega)
  simp (disch := first | assumption | omega | decide | rfl) only [w_J2_fastRemove_0, w_J2_fastRemove_1, w_J2_fastRemove_2, w_J2_fastRemove_5, w_J2_fastRemove_6, w_J2_fastRemove_7, w_J2_fastRemove_10, w_J2_fastRemove_11, w_J2_fastRemove_14, w_J2_fastRemove_15, w_J2_fastRemove_16, w_J2_fastRemove_17, w_J2_fastRemove_18, w_J2_fastRemove_19, w_J2_fastRemove_22, w_J2_fastRemove_23, w_J2_fastRemove_24, w_J2_fastRemove_25, w_J2_fastRemove_26, w_J2_fastRemove_27, w_J2_fastRemove_28, w_J2_fastRemove_29, w_J2_fastRemove_30, w_J2_fastRemove_31, w_J2_fastRemove_34, w_J2_fastRemove_35, w_J2_fastRemove_36, w_J2_fastRemove_37, w_J2_fastRemove_38, w_J2_fastRemove_41, wa_J2_fastRemove_42, w_J2_fastRemove_43, nl_int, nl_ref, nl_null, nl_un, nl_rf, nl_long, isR_ref, isR_null, isR_rf, rf_some, rf_none, rOf_ref, rOf_null, rOf_rf, kn_v, kn_0, true_and, and_true, and_self, tin, inA_x, inA_l, ix_add, ix_addl, ix_ladd, ix_mul, ix_mull, ix_lmul, ix_tn, lt_tn, Nat.reduceLeDiff, Nat.reduceLT, Nat.reduceAdd, Nat.reduceMul, true_or, or_true, ↓reduceIte, aOk, ref_null, null_null, false_or, Option.isSome_some, Option.getD_some, ite_true, ite_false, eq_self, not_false_eq_true, not_true_eq_false, Tg_sFi, Tg_sFl, Tg_sFr, Tg_sAi, Tg_sAl, Tg_sAr, An_sFi, An_sFl, An_sFr, An_sAi, An_sAl, An_sAr, Fi_sFl, Fi_sFr, Fi_sAi, Fi_sAl, Fi_sAr, Fl_sFi, Fl_sFr, Fl_sAi, Fl_sAl, Fl_sAr, Fr_sFi, Fr_sFl, Fr_sAi, Fr_sAl, Fr_sAr, Ai_sFi, Ai_sFl, Ai_sFr, Ai_sAl, Ai_sAr, Al_sFi, Al_sFl, Al_sFr, Al_sAi, Al_sAr, Ar_sFi, Ar_sFl, Ar_sFr, Ar_sAi, Ar_sAl, Fi_same, Fl_same, Fr_same, Ai_same, Al_same, Ar_same, Fi_otherf, Fl_otherf, Fr_otherf, hx, w.tg, w.zs, w.fr, e1, ix_lt, List.mem_cons]
  by_cases q : i < sz h l - 1
  · have e2 : ix (sz h l - 1) - ix i = ix (sz h l - 1 - i) := ix_sub (by omega)
    have e3 : ∀ D Q, Ca D 900 [.ref (ed h l), .int (ix (i + 1)), .ref (ed h l), .int (ix i), .int (ix (sz h l - 1 - i))] (sFi h 179 l x) Q = Q (.inl none) (sAr (sFi h 179 l x) (ed h l) (va_cpy (Ar h (ed h l)) (Ar h (ed h l)) (i + 1) i (sz h l - 1 - i))) := fun D Q => c_copyR h5 h5 (by show _ ≤ An h (ed h l); omega) (by show _ ≤ An h (ed h l); omega) (by show An h (ed h l) < _; omega) (by show An h (ed h l) < _; omega)
    simp (disch := first | assumption | omega | decide | rfl) only [w_J2_fastRemove_0, w_J2_fastRemove_1, w_J2_fastRemove_2, w_J2_fastRemove_5, w_J2_fastRemove_6, w_J2_fastRemove_7, w_J2_fastRemove_10, w_J2_fastRemove_11, w_J2_fastRemove_14, w_J2_fastRemove_15, w_J2_fastRemove_16, w_J2_fastRemove_17, w_J2_fastRemove_18, w_J2_fastRemove_19, w_J2_fastRemove_22, w_J2_fastRemove_23, w_J2_fastRemove_24, w_J2_fastRemove_25, w_J2_fastRemove_26, w_J2_fastRemove_27, w_J2_fastRemove_28, w_J2_fastRemove_29, w_J2_fastRemove_30, w_J2_fastRemove_31, w_J2_fastRemove_34, w_J2_fastRemove_35, w_J2_fastRemove_36, w_J2_fastRemove_37, w_J2_fastRemove_38, w_J2_fastRemove_41, wa_J2_fastRemove_42, w_J2_fastRemove_43, w_J2_remove_0, w_J2_remove_1, w_J2_remove_2, w_J2_remove_5, w_J2_remove_8, w_J2_remove_9, w_J2_remove_10, w_J2_remove_13, w_J2_remove_14, w_J2_remove_15, w_J2_remove_16, w_J2_remove_17, w_J2_remove_18, w_J2_remove_19, w_J2_remove_20, w_J2_remove_21, w_J2_remove_24, w_J2_remove_25, nl_int, nl_ref, nl_null, nl_un, nl_rf, nl_long, isR_ref, isR_null, isR_rf, rf_some, rf_none, rOf_ref, rOf_null, rOf_rf, kn_v, kn_0, true_and, and_true, and_self, tin, inA_x, inA_l, ix_add, ix_addl, ix_ladd, ix_mul, ix_mull, ix_lmul, ix_tn, lt_tn, Nat.reduceLeDiff, Nat.reduceLT, Nat.reduceAdd, Nat.reduceMul, true_or, or_true, ↓reduceIte, aOk, ref_null, null_null, false_or, Option.isSome_some, Option.getD_some, ite_true, ite_false, eq_self, not_false_eq_true, not_true_eq_false, Tg_sFi, Tg_sFl, Tg_sFr, Tg_sAi, Tg_sAl, Tg_sAr, An_sFi, An_sFl, An_sFr, An_sAi, An_sAl, An_sAr, Fi_sFl, Fi_sFr, Fi_sAi, Fi_sAl, Fi_sAr, Fl_sFi, Fl_sFr, Fl_sAi, Fl_sAl, Fl_sAr, Fr_sFi, Fr_sFl, Fr_sAi, Fr_sAl, Fr_sAr, Ai_sFi, Ai_sFl, Ai_sFr, Ai_sAl, Ai_sAr, Al_sFi, Al_sFl, Al_sFr, Al_sAi, Al_sAr, Ar_sFi, Ar_sFl, Ar_sFr, Ar_sAi, Ar_sAl, Fi_same, Fl_same, Fr_same, Ai_same, Al_same, Ar_same, Fi_otherf, Fl_otherf, Fr_otherf, w.tg, e2, e3, q, h5, h6, h7, List.mem_cons]
    refine remp_of (x := x) (F := va_up (va_cpy (Ar h (ed h l)) (Ar h (ed h l)) (i + 1) i (sz h l - 1 - i)) (sz h l - 1) none) w hi (fun j hj => ?_) ?_
    · rw [vup_n (by omega)]
      show (if i ≤ j ∧ j < i + (sz h l - 1 - i) then Ar h (ed h l) (i + 1 + (j - i)) else Ar h (ed h l) j) = _
      by_cases z : j < i
      · rw [if_neg (by omega), if_pos z]; exact w.ar (by omega)
      · rw [if_pos ⟨by omega, by omega⟩, if_neg z, show i + 1 + (j - i) = j + 1 by omega]; exact w.ar (by omega)
    · exact sAr_sAr (h := sFi (sFi h 179 l x) 181 l (ix (sz h l - 1)))
  · simp (disch := first | assumption | omega | decide | rfl) only [w_J2_fastRemove_0, w_J2_fastRemove_1, w_J2_fastRemove_2, w_J2_fastRemove_5, w_J2_fastRemove_6, w_J2_fastRemove_7, w_J2_fastRemove_10, w_J2_fastRemove_11, w_J2_fastRemove_14, w_J2_fastRemove_15, w_J2_fastRemove_16, w_J2_fastRemove_17, w_J2_fastRemove_18, w_J2_fastRemove_19, w_J2_fastRemove_22, w_J2_fastRemove_23, w_J2_fastRemove_24, w_J2_fastRemove_25, w_J2_fastRemove_26, w_J2_fastRemove_27, w_J2_fastRemove_28, w_J2_fastRemove_29, w_J2_fastRemove_30, w_J2_fastRemove_31, w_J2_fastRemove_34, w_J2_fastRemove_35, w_J2_fastRemove_36, w_J2_fastRemove_37, w_J2_fastRemove_38, w_J2_fastRemove_41, wa_J2_fastRemove_42, w_J2_fastRemove_43, w_J2_remove_0, w_J2_remove_1, w_J2_remove_2, w_J2_remove_5, w_J2_remove_8, w_J2_remove_9, w_J2_remove_10, w_J2_remove_13, w_J2_remove_14, w_J2_remove_15, w_J2_remove_16, w_J2_remove_17, w_J2_remove_18, w_J2_remove_19, w_J2_remove_20, w_J2_remove_21, w_J2_remove_24, w_J2_remove_25, nl_int, nl_ref, nl_null, nl_un, nl_rf, nl_long, isR_ref, isR_null, isR_rf, rf_some, rf_none, rOf_ref, rOf_null, rOf_rf, kn_v, kn_0, true_and, and_true, and_self, tin, inA_x, inA_l, ix_add, ix_addl, ix_ladd, ix_mul, ix_mull, ix_lmul, ix_tn, lt_tn, Nat.reduceLeDiff, Nat.reduceLT, Nat.reduceAdd, Nat.reduceMul, true_or, or_true, ↓reduceIte, aOk, ref_null, null_null, false_or, Option.isSome_some, Option.getD_some, ite_true, ite_false, eq_self, not_false_eq_true, not_true_eq_false, Tg_sFi, Tg_sFl, Tg_sFr, Tg_sAi, Tg_sAl, Tg_sAr, An_sFi, An_sFl, An_sFr, An_sAi, An_sAl, An_sAr, Fi_sFl, Fi_sFr, Fi_sAi, Fi_sAl, Fi_sAr, Fl_sFi, Fl_sFr, Fl_sAi, Fl_sAl, Fl_sAr, Fr_sFi, Fr_sFl, Fr_sAi, Fr_sAl, Fr_sAr, Ai_sFi, Ai_sFl, Ai_sFr, Ai_sAl, Ai_sAr, Al_sFi, Al_sFl, Al_sFr, Al_sAi, Al_sAr, Ar_sFi, Ar_sFl, Ar_sFr, Ar_sAi, Ar_sAl, Fi_same, Fl_same, Fr_same, Ai_same, Al_same, Ar_same, Fi_otherf, Fl_otherf, Fr_otherf, w.tg, q, h5, h6, h7, List.mem_cons]
    refine remp_of (x := x) (F := va_up (Ar h (ed h l)) (sz h l - 1) none) w hi (fun j hj => ?_) rfl
    rw [vup_n (by omega), if_pos (by omega)]
    exact w.ar (by omega)
/-- all are taken out -/
theorem c_clear (w : WL h l) : Ca (d + 1) 309 [.ref l] h (fun r h' => r = .inl none ∧ WL h' l ∧ sz h' l = 0 ∧ ed h' l = ed h l ∧ Un (fun a => a = l ∨ a = ed h l) h h' ∧ Nc h' = Nc h ∧ Ns h' = Ns h) := by
  have z0 : sz h l < 1000000 := w.2.2.1
  have z1 : sz h l ≤ An h (ed h l) := w.2.2.2.2.2.1
  have z2 : An h (ed h l) < 2000000 := w.2.2.2.2.2.2.1
  rw [e_J2_clear]
  simp (disch := first | assumption | omega | decide | rfl) only [w_J2_clear_0, w_J2_clear_1, w_J2_clear_2, w_J2_clear_5, w_J2_clear_6, w_J2_clear_7, w_J2_clear_10, w_J2_clear_11, w_J2_clear_14, w_J2_clear_15, w_J2_clear_16, w_J2_clear_19, w_J2_clear_20, w_J2_clear_21, w_J2_clear_22, w_J2_clear_23, w_J2_clear_26, nl_int, nl_ref, nl_null, nl_un, nl_rf, nl_long, isR_ref, isR_null, isR_rf, rf_some, rf_none, rOf_ref, rOf_null, rOf_rf, kn_v, kn_0, true_and, and_true, and_self, tin, inA_x, inA_l, ix_add, ix_addl, ix_ladd, ix_mul, ix_mull, ix_lmul, ix_tn, lt_tn, Nat.reduceLeDiff, Nat.reduceLT, Nat.reduceAdd, Nat.reduceMul, true_or, or_true, ↓reduceIte, aOk, ref_null, null_null, false_or, Option.isSome_some, Option.getD_some, ite_true, ite_false, eq_self, not_false_eq_true, not_true_eq_false, Tg_sFi, Tg_sFl, Tg_sFr, Tg_sAi, Tg_sAl, Tg_sAr, An_sFi, An_sFl, An_sFr, An_sAi, An_sAl, An_sAr, Fi_sFl, Fi_sFr, Fi_sAi, Fi_sAl, Fi_sAr, Fl_sFi, Fl_sFr, Fl_sAi, Fl_sAl, Fl_sAr, Fr_sFi, Fr_sFl, Fr_sAi, Fr_sAl, Fr_sAr, Ai_sFi, Ai_sFl, Ai_sFr, Ai_sAl, Ai_sAr, Al_sFi, Al_sFl, Al_sFr, Al_sAi, Al_sAr, Ar_sFi, Ar_sFl, Ar_sFr, Ar_sAi, Ar_sAl, Fi_same, Fl_same, Fr_same, Ai_same, Al_same, Ar_same, Fi_otherf, Fl_otherf, Fr_otherf, w.tg, w.zs, w.fr, List.mem_cons]
  generalize hx : Fi h 179 l + 1 = x
  rw [ix_0]
  have key : ∀ (k j : Nat) (F : Nat → Option Nat), j + k = sz h l → Ru d 309 27 [.ref l, .ref (ed h l), .int (ix (sz h l)), .int (ix j)] [] (sAr (sFi (sFi h 179 l x) 181 l (ix 0)) (ed h l) F) (fun r h' => r = .inl none ∧ WL h' l ∧ sz h' l = 0 ∧ ed h' l = ed h l ∧ Un (fun a => a = l ∨ a = ed h l) h h' ∧ Nc h' = Nc h ∧ Ns h' = Ns h) := by
    intro k
    induction k with
    | zero =>
      intro j F hj
      have q : ¬ j < sz h l := by omega
      simp (disch := first | assumption | omega | decide | rfl) only [w_J2_clear_27, w_J2_clear_28, w_J2_clear_29, w_J2_clear_32, w_J2_clear_33, w_J2_clear_34, wa_J2_clear_35, w_J2_clear_36, w_J2_clear_39, w_J2_clear_42, nl_int, nl_ref, nl_null, nl_un, nl_rf, nl_long, isR_ref, isR_null, isR_rf, rf_some, rf_none, rOf_ref, rOf_null, rOf_rf, kn_v, kn_0, true_and, and_true, and_self, tin, inA_x, inA_l, ix_add, ix_addl, ix_ladd, ix_mul, ix_mull, ix_lmul, ix_tn, lt_tn, Nat.reduceLeDiff, Nat.reduceLT, Nat.reduceAdd, Nat.reduceMul, true_or, or_true, ↓reduceIte, aOk, ref_null, null_null, false_or, Option.isSome_some, Option.getD_some, ite_true, ite_false, eq_self, not_false_eq_true, not_true_eq_false, ix_lt, q]
      have e1 : sz (sAr (sFi (sFi h 179 l x) 181 l (ix 0)) (ed h l) F) l = 0 := by
        show (Fi (sFi (sFi h 179 l x) 181 l (ix 0)) 181 l).toNatClampNeg = _
        rw [Fi_same, ix_tn (by omega)]
      refine ⟨⟨w.tg, by rw [e1]; exact Fi_same, by rw [e1]; decide, w.fr, w.2.2.2.2.1, by rw [e1]; exact Nat.zero_le _, z2, fun j hj => by rw [e1] at hj; omega⟩, e1, rfl, ?_, rfl, rfl⟩
      exact ((un_sFi (Or.inl rfl)).trans (un_sFi (A := fun z => z = l) rfl) (fun z hz q => Or.inl q)).trans (un_sAr (A := fun z => z = ed h l) rfl) (fun z hz q => Or.inr q)
    | succ k ih =>
      intro j F hj
      have q : j < sz h l := by omega
      have ht : 5008 ≤ Tg h (ed h l) ∧ Tg h (ed h l) ≤ 5010 := by
        rcases w.2.2.2.2.1 with q | q
        · exact q
        · omega
      have h5 := elc_obj ht.1 ht.2
      have h6 : 5000 ≤ Tg h (ed h l) := by omega
      have h7 : Tg h (ed h l) < 5900 := by omega
      rw [w_J2_clear_27]
      simp (disch := first | assumption | omega | decide | rfl) only [w_J2_clear_28, w_J2_clear_29, w_J2_clear_32, w_J2_clear_33, w_J2_clear_34, wa_J2_clear_35, w_J2_clear_36, w_J2_clear_39, w_J2_clear_42, nl_int, nl_ref, nl_null, nl_un, nl_rf, nl_long, isR_ref, isR_null, isR_rf, rf_some, rf_none, rOf_ref, rOf_null, rOf_rf, kn_v, kn_0, true_and, and_true, and_self, tin, inA_x, inA_l, ix_add, ix_addl, ix_ladd, ix_mul, ix_mull, ix_lmul, ix_tn, lt_tn, Nat.reduceLeDiff, Nat.reduceLT, Nat.reduceAdd, Nat.reduceMul, true_or, or_true, ↓reduceIte, aOk, ref_null, null_null, false_or, Option.isSome_some, Option.getD_some, ite_true, ite_false, eq_self, not_false_eq_true, not_true_eq_false, Tg_sFi, Tg_sFl, Tg_sFr, Tg_sAi, Tg_sAl, Tg_sAr, An_sFi, An_sFl, An_sFr, An_sAi, An_sAl, An_sAr, Fi_sFl, Fi_sFr, Fi_sAi, Fi_sAl, Fi_sAr, Fl_sFi, Fl_sFr, Fl_sAi, Fl_sAl, Fl_sAr, Fr_sFi, Fr_sFl, Fr_sAi, Fr_sAl, Fr_sAr, Ai_sFi, Ai_sFl, Ai_sFr, Ai_sAl, Ai_sAr, Al_sFi, Al_sFl, Al_sFr, Al_sAi, Al_sAr, Ar_sFi, Ar_sFl, Ar_sFr, Ar_sAi, Ar_sAl, Fi_same, Fl_same, Fr_same, Ai_same, Al_same, Ar_same, Fi_otherf, Fl_otherf, Fr_otherf, ix_lt, q, h5, h6, h7, sAr_sAr]
      exact ih (j + 1) _ (by omega)
  have := key (sz h l) 0 (Ar h (ed h l)) (by omega)
  rwa [show sAr (sFi (sFi h 179 l x) 181 l (ix 0)) (ed h l) (Ar h (ed h l)) = sFi (sFi h 179 l x) 181 l (ix 0) from by
    unfold sAr
    have : at2 (Ar (sFi (sFi h 179 l x) 181 l (ix 0))) (ed h l) (Ar h (ed h l)) = Ar h := by
      funext z
      show (if z = ed h l then Ar h (ed h l) else Ar h z) = Ar h z
      by_cases q : z = ed h l
      · rw [if_pos q, q]
      · rw [if_neg q]
    rw [this]; rfl] at this
end
