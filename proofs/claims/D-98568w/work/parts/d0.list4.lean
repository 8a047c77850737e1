/-! LISTS with the first, empty array: added to, cleared -/
set_option maxRecDepth 100000
section
variable {d l i n v : Nat} {h h' : AH} {A : Nat → Prop} {Q : Rs → AH → Prop}
theorem c_add0 (w : WL h l) (ht : Tg h (ed h l) = 5902) (he : ed h l = Ev h 51) (ha : An h (ed h l) = 0) (hv : aAsB 0 (Tg h v) = true) (hN : Nc h + 1 ≤ 601024) (hS : Ns h + (2 * sz h l + 10) ≤ 7293034) : Ca (d + 7) 305 [.ref l, .ref v] h (fun r h' => r = .inl (some (.int 1)) ∧ AddP h l v h' ∧ Un (fun a => a = l) h h') := by
  have l1 := w.lt
  have l2 := w.elt
  have z1 : sz h l ≤ An h (ed h l) := w.2.2.2.2.2.1
  have z2 : An h (ed h l) < 2000000 := w.2.2.2.2.2.2.1
  rw [e_J2_add nl_ref]
  simp (disch := first | assumption | omega | decide | rfl) only [w_J2_add_0, w_J2_add_1, w_J2_add_2, w_J2_add_5, w_J2_add_6, w_J2_add_7, w_J2_add_10, w_J2_add_11, w_J2_add_12, w_J2_add_13, w_J2_add_16, w_J2_add_17, w_J2_add_20, w_J2_add_23, w_J2_add_24, nl_int, nl_ref, nl_null, nl_un, nl_rf, nl_long, isR_ref, isR_null, isR_rf, rf_some, rf_none, rOf_ref, rOf_null, rOf_rf, kn_v, kn_0, true_and, and_true, and_self, tin, inA_x, inA_l, ix_add, ix_addl, ix_ladd, ix_mul, ix_mull, ix_lmul, ix_tn, lt_tn, Nat.reduceLeDiff, Nat.reduceLT, Nat.reduceAdd, Nat.reduceMul, true_or, or_true, ↓reduceIte, aOk, ref_null, null_null, false_or, Option.isSome_some, Option.getD_some, ite_true, ite_false, eq_self, not_false_eq_true, not_true_eq_false, Tg_sFi, Tg_sFl, Tg_sFr, Tg_sAi, Tg_sAl, Tg_sAr, An_sFi, An_sFl, An_sFr, An_sAi, An_sAl, An_sAr, Fi_sFl, Fi_sFr, Fi_sAi, Fi_sAl, Fi_sAr, Fl_sFi, Fl_sFr, Fl_sAi, Fl_sAl, Fl_sAr, Fr_sFi, Fr_sFl, Fr_sAi, Fr_sAl, Fr_sAr, Ai_sFi, Ai_sFl, Ai_sFr, Ai_sAl, Ai_sAr, Al_sFi, Al_sFl, Al_sFr, Al_sAi, Al_sAr, Ar_sFi, Ar_sFl, Ar_sFr, Ar_sAi, Ar_sAl, Fi_same, Fl_same, Fr_same, Ai_same, Al_same, Ar_same, Fi_otherf, Fl_otherf, Fr_otherf, w.tg, w.fr, w.zs, List.mem_cons]
  generalize hx : Fi h 179 l + 1 = x
  have w1 : WL (sFi h 179 l x) l := w
  have hz0 : sz h l = 0 := by omega
  have hf : sz h l = An h (ed h l) := by omega
  rw [e_J2_add_2 nl_ref nl_ref]
  have e1 : Int32.ofNat (An h (ed h l)) = ix (sz h l) := by rw [hf]; rfl
  have h6 : 1000 ≤ Tg h (ed h l) := by omega
  have h7 : Tg h (ed h l) < 6000 := by omega
  have hne : l ≠ Nx h := by omega
  have hnv : v ≠ Nx h := by
    intro q
    have : Tg h v = 0 := by unfold Tg; rw [if_neg (by omega)]
    rw [this] at hv
    revert hv
    decide
  have e2 : Int32.ofNat (An h (ed h l)) = ix 0 := by rw [ha]; rfl
  have e3 : (Value.ref (ed h l) = Value.ref (Ev h 51)) = True := eq_true (by rw [he])
  have hrm1 : Nc h + 1 ≤ 601024 := hN
  have hrm2 : Ns h + 10 ≤ 7293034 := by omega
  have hmx : (if (10 : Int32) < ix (0 + 1) then ix (0 + 1) else (10 : Int32)) = ix 10 := by decide
  have n10 : ¬ (ix 10 < 0) := ix_nn (by decide)
  have t10 : (ix 10).toNatClampNeg = 10 := ix_tn (by decide)
  have tv : Tg (nCe (sFi h 179 l x) 5009 10) (Nx h) = 5009 := Tg_new (h := sFi h 179 l x)
  have tn : An (nCe (sFi h 179 l x) 5009 10) (Nx h) = 10 := An_new (h := sFi h 179 l x)
  have to : Tg (nCe (sFi h 179 l x) 5009 10) l = 42 := by rw [Tg_old (h := sFi h 179 l x) hne]; exact w.tg
  have hgr : ∀ Q, Ca (d + 5) 307 [.ref l] (sFi h 179 l x) Q = Q (.inl (some (.ref (Nx h)))) (sFr (nCe (sFi h 179 l x) 5009 10) 180 l (some (Nx h))) := by
    intro Q
    rw [e_J2_grow]
    simp (disch := first | assumption | omega | decide | rfl) only [w_J2_grow_0, w_J2_grow_1, w_J2_grow_2, w_J2_grow_5, w_J2_grow_6, w_J2_grow_7, w_J2_grow_10, nl_int, nl_ref, nl_null, nl_un, nl_rf, nl_long, isR_ref, isR_null, isR_rf, rf_some, rf_none, rOf_ref, rOf_null, rOf_rf, kn_v, kn_0, true_and, and_true, and_self, tin, inA_x, inA_l, ix_add, ix_addl, ix_ladd, ix_mul, ix_mull, ix_lmul, ix_tn, lt_tn, Nat.reduceLeDiff, Nat.reduceLT, Nat.reduceAdd, Nat.reduceMul, true_or, or_true, ↓reduceIte, aOk, ref_null, null_null, false_or, Option.isSome_some, Option.getD_some, ite_true, ite_false, eq_self, not_false_eq_true, not_true_eq_false, Tg_sFi, Tg_sFl, Tg_sFr, Tg_sAi, Tg_sAl, Tg_sAr, An_sFi, An_sFl, An_sFr, An_sAi, An_sAl, An_sAr, Fi_sFl, Fi_sFr, Fi_sAi, Fi_sAl, Fi_sAr, Fl_sFi, Fl_sFr, Fl_sAi, Fl_sAl, Fl_sAr, Fr_sFi, Fr_sFl, Fr_sAi, Fr_sAl, Fr_sAr, Ai_sFi, Ai_sFl, Ai_sFr, Ai_sAl, Ai_sAr, Al_sFi, Al_sFl, Al_sFr, Al_sAi, Al_sAr, Ar_sFi, Ar_sFl, Ar_sFr, Ar_sAi, Ar_sAl, Fi_same, Fl_same, Fr_same, Ai_same, Al_same, Ar_same, Fi_otherf, Fl_otherf, Fr_otherf, w.tg, w.zs, hz0, e_J2_grow_2]
    simp (disch := first | assumption | omega | decide | rfl) only [w_J2_grow_2_0, w_J2_grow_2_1, w_J2_grow_2_4, w_J2_grow_2_5, w_J2_grow_2_6, w_J2_grow_2_7, w_J2_grow_2_10, w_J2_grow_2_11, w_J2_grow_2_14, w_J2_grow_2_17, w_J2_grow_2_20, w_J2_grow_2_21, w_J2_grow_2_22, w_J2_grow_2_23, w_J2_grow_2_24, w_J2_grow_2_25, w_J2_grow_2_26, w_J2_grow_2_27, w_J2_grow_2_30, w_J2_grow_2_31, w_J2_grow_2_32, w_J2_grow_2_33, w_J2_grow_2_36, w_J2_grow_2_37, w_J2_grow_2_40, w_J2_grow_2_41, w_J2_grow_2_44, w_J2_grow_2_45, w_J2_grow_2_46, w_J2_grow_2_48, w_J2_grow_2_49, w_J2_grow_2_52, w_J2_grow_2_55, w_J2_grow_2_56, w_J2_grow_2_59, w_J2_grow_0, w_J2_grow_1, w_J2_grow_2, w_J2_grow_5, w_J2_grow_6, w_J2_grow_7, w_J2_grow_10, nl_int, nl_ref, nl_un, isR_ref, rf_some, rOf_ref, true_and, and_true, and_self, kn_v, tin, Tg_sFi, Tg_sFl, Tg_sFr, Tg_sAi, Tg_sAl, Tg_sAr, An_sFi, An_sFl, An_sFr, An_sAi, An_sAl, An_sAr, Fi_sFl, Fi_sFr, Fi_sAi, Fi_sAl, Fi_sAr, Fl_sFi, Fl_sFr, Fl_sAi, Fl_sAl, Fl_sAr, Fr_sFi, Fr_sFl, Fr_sAi, Fr_sAl, Fr_sAr, Ai_sFi, Ai_sFl, Ai_sFr, Ai_sAl, Ai_sAr, Al_sFi, Al_sFl, Al_sFr, Al_sAi, Al_sAr, Ar_sFi, Ar_sFl, Ar_sFr, Ar_sAi, Ar_sAl, Fi_same, Fl_same, Fr_same, Ai_same, Al_same, Ar_same, Fi_otherf, Fl_otherf, Fr_otherf, w.tg, w.fr, h6, h7, e2, e3, ix_0lt, Nat.lt_irrefl, if_true, if_false, Ev_sFi, c_max, hmx, n10, t10, Rm, Nc_sFi, Ns_sFi, hrm1, hrm2, not_false_eq_true, Nx_sFi, to]
  simp (disch := first | assumption | omega | decide | rfl) only [w_J2_add_2_0, w_J2_add_2_1, w_J2_add_2_2, w_J2_add_2_3, w_J2_add_2_6, w_J2_add_2_7, w_J2_add_2_10, w_J2_add_2_11, w_J2_add_2_12, w_J2_add_2_13, wa_J2_add_2_14, w_J2_add_2_15, w_J2_add_2_16, w_J2_add_2_17, w_J2_add_2_18, w_J2_add_2_19, w_J2_add_2_22, w_J2_add_0, w_J2_add_1, w_J2_add_2, w_J2_add_5, w_J2_add_6, w_J2_add_7, w_J2_add_10, w_J2_add_11, w_J2_add_12, w_J2_add_13, w_J2_add_16, w_J2_add_17, w_J2_add_20, w_J2_add_23, w_J2_add_24, nl_int, nl_ref, nl_null, nl_un, nl_rf, nl_long, isR_ref, isR_null, isR_rf, rf_some, rf_none, rOf_ref, rOf_null, rOf_rf, kn_v, kn_0, true_and, and_true, and_self, tin, inA_x, inA_l, ix_add, ix_addl, ix_ladd, ix_mul, ix_mull, ix_lmul, ix_tn, lt_tn, Nat.reduceLeDiff, Nat.reduceLT, Nat.reduceAdd, Nat.reduceMul, true_or, or_true, ↓reduceIte, aOk, ref_null, null_null, false_or, Option.isSome_some, Option.getD_some, ite_true, ite_false, eq_self, not_false_eq_true, not_true_eq_false, Tg_sFi, Tg_sFl, Tg_sFr, Tg_sAi, Tg_sAl, Tg_sAr, An_sFi, An_sFl, An_sFr, An_sAi, An_sAl, An_sAr, Fi_sFl, Fi_sFr, Fi_sAi, Fi_sAl, Fi_sAr, Fl_sFi, Fl_sFr, Fl_sAi, Fl_sAl, Fl_sAr, Fr_sFi, Fr_sFl, Fr_sAi, Fr_sAl, Fr_sAr, Ai_sFi, Ai_sFl, Ai_sFr, Ai_sAl, Ai_sAr, Al_sFi, Al_sFl, Al_sFr, Al_sAi, Al_sAr, Ar_sFi, Ar_sFl, Ar_sFr, Ar_sAi, Ar_sAl, Fi_same, Fl_same, Fr_same, Ai_same, Al_same, Ar_same, Fi_otherf, Fl_otherf, Fr_otherf, h6, h7, e1, hgr, Nx_sFi, w.tg, el_5009, hv, ix_eq, tv, tn, to, Tg_old (h := sFi h 179 l x) hnv, hz0]
  have uu : Un (fun a => a = l) h (sFi (sAr (sFr (nCe (sFi h 179 l x) 5009 10) 180 l (some (Nx h))) (Nx h) (va_up (Ar (nCe (sFi h 179 l x) 5009 10) (Nx h)) 0 (some v))) 181 l (ix (0 + 1))) := by
    refine (((un_sFi (A := fun z => z = l) rfl).trans un_nCe (B := fun _ => False) (fun _ _ q => q.elim)).trans (un_sFr (A := fun z => z = l) rfl) (fun z hz q => q)).trans ((un_sAr (A := fun z => z = Nx h ∨ z = l) (Or.inl rfl)).trans (un_sFi (A := fun z => z = l) rfl) (fun z _ q => Or.inr q)) (fun z hz q => ?_)
    rcases q with q | q
    · have q : z = Nx h := q
      omega
    · exact q
  refine ⟨?_, uu⟩
  refine addp_of (e := Nx h) w ?_ ?_ ?_ ?_ ?_ ?_ ?_ ?_ (by omega) (uu.mono (fun z _ q => Or.inl q)) (Or.inr rfl) ?_ ?_
  · simp only [Tg_sFi, Tg_sFl, Tg_sFr, Tg_sAi, Tg_sAl, Tg_sAr, An_sFi, An_sFl, An_sFr, An_sAi, An_sAl, An_sAr, Fi_sFl, Fi_sFr, Fi_sAi, Fi_sAl, Fi_sAr, Fl_sFi, Fl_sFr, Fl_sAi, Fl_sAl, Fl_sAr, Fr_sFi, Fr_sFl, Fr_sAi, Fr_sAl, Fr_sAr, Ai_sFi, Ai_sFl, Ai_sFr, Ai_sAl, Ai_sAr, Al_sFi, Al_sFl, Al_sFr, Al_sAi, Al_sAr, Ar_sFi, Ar_sFl, Ar_sFr, Ar_sAi, Ar_sAl, Fi_same, Fl_same, Fr_same, Ai_same, Al_same, Ar_same, Fi_otherf, Fl_otherf, Fr_otherf]; exact to
  · rw [hz0]; exact Fi_same
  · simp only [Tg_sFi, Tg_sFl, Tg_sFr, Tg_sAi, Tg_sAl, Tg_sAr, An_sFi, An_sFl, An_sFr, An_sAi, An_sAl, An_sAr, Fi_sFl, Fi_sFr, Fi_sAi, Fi_sAl, Fi_sAr, Fl_sFi, Fl_sFr, Fl_sAi, Fl_sAl, Fl_sAr, Fr_sFi, Fr_sFl, Fr_sAi, Fr_sAl, Fr_sAr, Ai_sFi, Ai_sFl, Ai_sFr, Ai_sAl, Ai_sAr, Al_sFi, Al_sFl, Al_sFr, Al_sAi, Al_sAr, Ar_sFi, Ar_sFl, Ar_sFr, Ar_sAi, Ar_sAl, Fi_same, Fl_same, Fr_same, Ai_same, Al_same, Ar_same, Fi_otherf, Fl_otherf, Fr_otherf]
  · simp only [Tg_sFi, Tg_sFl, Tg_sFr, Tg_sAi, Tg_sAl, Tg_sAr, An_sFi, An_sFl, An_sFr, An_sAi, An_sAl, An_sAr, Fi_sFl, Fi_sFr, Fi_sAi, Fi_sAl, Fi_sAr, Fl_sFi, Fl_sFr, Fl_sAi, Fl_sAl, Fl_sAr, Fr_sFi, Fr_sFl, Fr_sAi, Fr_sAl, Fr_sAr, Ai_sFi, Ai_sFl, Ai_sFr, Ai_sAl, Ai_sAr, Al_sFi, Al_sFl, Al_sFr, Al_sAi, Al_sAr, Ar_sFi, Ar_sFl, Ar_sFr, Ar_sAi, Ar_sAl, Fi_same, Fl_same, Fr_same, Ai_same, Al_same, Ar_same, Fi_otherf, Fl_otherf, Fr_otherf, tv]; omega
  · simp only [Tg_sFi, Tg_sFl, Tg_sFr, Tg_sAi, Tg_sAl, Tg_sAr, An_sFi, An_sFl, An_sFr, An_sAi, An_sAl, An_sAr, Fi_sFl, Fi_sFr, Fi_sAi, Fi_sAl, Fi_sAr, Fl_sFi, Fl_sFr, Fl_sAi, Fl_sAl, Fl_sAr, Fr_sFi, Fr_sFl, Fr_sAi, Fr_sAl, Fr_sAr, Ai_sFi, Ai_sFl, Ai_sFr, Ai_sAl, Ai_sAr, Al_sFi, Al_sFl, Al_sFr, Al_sAi, Al_sAr, Ar_sFi, Ar_sFl, Ar_sFr, Ar_sAi, Ar_sAl, Fi_same, Fl_same, Fr_same, Ai_same, Al_same, Ar_same, Fi_otherf, Fl_otherf, Fr_otherf, tn]; omega
  · simp only [Tg_sFi, Tg_sFl, Tg_sFr, Tg_sAi, Tg_sAl, Tg_sAr, An_sFi, An_sFl, An_sFr, An_sAi, An_sAl, An_sAr, Fi_sFl, Fi_sFr, Fi_sAi, Fi_sAl, Fi_sAr, Fl_sFi, Fl_sFr, Fl_sAi, Fl_sAl, Fl_sAr, Fr_sFi, Fr_sFl, Fr_sAi, Fr_sAl, Fr_sAr, Ai_sFi, Ai_sFl, Ai_sFr, Ai_sAl, Ai_sAr, Al_sFi, Al_sFl, Al_sFr, Al_sAi, Al_sAr, Ar_sFi, Ar_sFl, Ar_sFr, Ar_sAi, Ar_sAl, Fi_same, Fl_same, Fr_same, Ai_same, Al_same, Ar_same, Fi_otherf, Fl_otherf, Fr_otherf, tn]; omega
  · intro i hi
    omega
  · simp only [Tg_sFi, Tg_sFl, Tg_sFr, Tg_sAi, Tg_sAl, Tg_sAr, An_sFi, An_sFl, An_sFr, An_sAi, An_sAl, An_sAr, Fi_sFl, Fi_sFr, Fi_sAi, Fi_sAl, Fi_sAr, Fl_sFi, Fl_sFr, Fl_sAi, Fl_sAl, Fl_sAr, Fr_sFi, Fr_sFl, Fr_sAi, Fr_sAl, Fr_sAr, Ai_sFi, Ai_sFl, Ai_sFr, Ai_sAl, Ai_sAr, Al_sFi, Al_sFl, Al_sFr, Al_sAi, Al_sAr, Ar_sFi, Ar_sFl, Ar_sFr, Ar_sAi, Ar_sAl, Fi_same, Fl_same, Fr_same, Ai_same, Al_same, Ar_same, Fi_otherf, Fl_otherf, Fr_otherf]
    rw [hz0]
    exact vup_s
  · exact Nat.le_refl _
  · show Ns h + 10 ≤ _
    omega
theorem c_clear0 (w : WL h l) (hz : sz h l = 0) : Ca (d + 1) 309 [.ref l] h (fun r h' => r = .inl none ∧ WL h' l ∧ sz h' l = 0 ∧ ed h' l = ed h l ∧ Un (fun a => a = l) h h' ∧ Nc h' = Nc h ∧ Ns h' = Ns h) := by
  have z2 : An h (ed h l) < 2000000 := w.2.2.2.2.2.2.1
  rw [e_J2_clear]
  have q : ¬ 0 < sz h l := by omega
  simp (disch := first | assumption | omega | decide | rfl) only [w_J2_clear_0, w_J2_clear_1, w_J2_clear_2, w_J2_clear_5, w_J2_clear_6, w_J2_clear_7, w_J2_clear_10, w_J2_clear_11, w_J2_clear_14, w_J2_clear_15, w_J2_clear_16, w_J2_clear_19, w_J2_clear_20, w_J2_clear_21, w_J2_clear_22, w_J2_clear_23, w_J2_clear_26, nl_int, nl_ref, nl_null, nl_un, nl_rf, nl_long, isR_ref, isR_null, isR_rf, rf_some, rf_none, rOf_ref, rOf_null, rOf_rf, kn_v, kn_0, true_and, and_true, and_self, tin, inA_x, inA_l, ix_add, ix_addl, ix_ladd, ix_mul, ix_mull, ix_lmul, ix_tn, lt_tn, Nat.reduceLeDiff, Nat.reduceLT, Nat.reduceAdd, Nat.reduceMul, true_or, or_true, ↓reduceIte, aOk, ref_null, null_null, false_or, Option.isSome_some, Option.getD_some, ite_true, ite_false, eq_self, not_false_eq_true, not_true_eq_false, Tg_sFi, Tg_sFl, Tg_sFr, Tg_sAi, Tg_sAl, Tg_sAr, An_sFi, An_sFl, An_sFr, An_sAi, An_sAl, An_sAr, Fi_sFl, Fi_sFr, Fi_sAi, Fi_sAl, Fi_sAr, Fl_sFi, Fl_sFr, Fl_sAi, Fl_sAl, Fl_sAr, Fr_sFi, Fr_sFl, Fr_sAi, Fr_sAl, Fr_sAr, Ai_sFi, Ai_sFl, Ai_sFr, Ai_sAl, Ai_sAr, Al_sFi, Al_sFl, Al_sFr, Al_sAi, Al_sAr, Ar_sFi, Ar_sFl, Ar_sFr, Ar_sAi, Ar_sAl, Fi_same, Fl_same, Fr_same, Ai_same, Al_same, Ar_same, Fi_otherf, Fl_otherf, Fr_otherf, w.tg, w.zs, w.fr, List.mem_cons]
  generalize hx : Fi h 179 l + 1 = x
  rw [ix_0]
  simp (disch := first | assumption | omega | decide | rfl) only [w_J2_clear_27, w_J2_clear_28, w_J2_clear_29, w_J2_clear_32, w_J2_clear_33, w_J2_clear_34, wa_J2_clear_35, w_J2_clear_36, w_J2_clear_39, w_J2_clear_42, nl_int, nl_ref, nl_null, nl_un, nl_rf, nl_long, isR_ref, isR_null, isR_rf, rf_some, rf_none, rOf_ref, rOf_null, rOf_rf, kn_v, kn_0, true_and, and_true, and_self, tin, inA_x, inA_l, ix_add, ix_addl, ix_ladd, ix_mul, ix_mull, ix_lmul, ix_tn, lt_tn, Nat.reduceLeDiff, Nat.reduceLT, Nat.reduceAdd, Nat.reduceMul, true_or, or_true, ↓reduceIte, aOk, ref_null, null_null, false_or, Option.isSome_some, Option.getD_some, ite_true, ite_false, eq_self, not_false_eq_true, not_true_eq_false, ix_lt, q]
  have e1 : sz (sFi (sFi h 179 l x) 181 l (ix 0)) l = 0 := by
    show (Fi (sFi (sFi h 179 l x) 181 l (ix 0)) 181 l).toNatClampNeg = _
    rw [Fi_same, ix_tn (by omega)]
  refine ⟨⟨w.tg, by rw [e1]; exact Fi_same, by rw [e1]; decide, w.fr, w.2.2.2.2.1, by rw [e1]; exact Nat.zero_le _, z2, fun j hj => by rw [e1] at hj; omega⟩, e1, rfl, ?_, rfl, rfl⟩
  exact (un_sFi (A := fun z => z = l) rfl).trans (un_sFi (A := fun z => z = l) rfl) (fun z hz q => q)
end
