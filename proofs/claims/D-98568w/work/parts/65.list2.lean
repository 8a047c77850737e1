/-! LISTS: add, remove, clear, made -/
set_option maxRecDepth 100000
section
variable {d l i n v : Nat} {h h' : AH} {A : Nat → Prop} {Q : Rs → AH → Prop}
theorem addp_of {e : Nat} (w : WL h l) (t1 : Tg h' l = 42) (t2 : Fi h' 181 l = ix (sz h l + 1)) (t3 : Fr h' 180 l = some e) (t4 : 5008 ≤ Tg h' e ∧ Tg h' e ≤ 5010) (t5 : sz h l + 1 ≤ An h' e) (t6 : An h' e < 2000000) (t7 : ∀ i, i < sz h l → Ar h' e i = some (el h l i)) (t8 : Ar h' e (sz h l) = some v) (t9 : sz h l + 1 < 1000000) (u : Un (fun a => a = l ∨ a = ed h l) h h') (t10 : e = ed h l ∨ e = Nx h) (t11 : Nc h' ≤ Nc h + 1) (t12 : Ns h' ≤ Ns h + (2 * sz h l + 10)) : AddP h l v h' := by
  have e1 : sz h' l = sz h l + 1 := by unfold sz at *; rw [t2, ix_tn (by omega)]
  have e2 : ed h' l = e := by unfold ed; rw [t3]; rfl
  have e3 : ∀ i, i < sz h l → el h' l i = el h l i := fun i hi => by
    show (Ar h' (ed h' l) i).getD 0 = _
    rw [e2, t7 i hi]; rfl
  have e4 : el h' l (sz h l) = v := by
    show (Ar h' (ed h' l) (sz h l)).getD 0 = _
    rw [e2, t8]; rfl
  refine ⟨⟨t1, by rw [e1]; exact t2, by rw [e1]; exact t9, by rw [e2]; exact t3, Or.inl (by rw [e2]; exact t4), by rw [e1, e2]; exact t5, by rw [e2]; exact t6, fun i hi => ?_⟩, e1, e3, e4, u, by rw [e2]; exact t10, t11, t12⟩
  rw [e1] at hi
  by_cases q : i < sz h l
  · rw [e2, t7 i q, e3 i q]
  · have : i = sz h l := by omega
    subst this
    rw [e2, t8, e4]
theorem vup_s {F : Nat → Option Nat} {r : Option Nat} : va_up F i r i = r := if_pos rfl
theorem vup_n {F : Nat → Option Nat} {r : Option Nat} (e : n ≠ i) : va_up F i r n = F n := if_neg e
theorem WL.mc (w : WL h l) {x : Int32} : WL (sFi h 179 l x) l := w
theorem c_add (w : WL h l) (hd : Tg h (Ev h 51) = 5902) (hz : sz h l < 2000) (hv : aAsB 0 (Tg h v) = true) (hN : Nc h + 1 ≤ 601024) (hS : Ns h + (2 * sz h l + 10) ≤ 7293034) : Ca (d + 7) 305 [.ref l, .ref v] h (fun r h' => r = .inl (some (.int 1)) ∧ AddP h l v h') := by
  have l1 := w.lt
  have l2 := w.elt
  have z1 : sz h l ≤ An h (ed h l) := w.2.2.2.2.2.1
  have z2 : An h (ed h l) < 2000000 := w.2.2.2.2.2.2.1
  have nle : l ≠ ed h l := by
    intro q
    have := w.tn.1
    rw [← q, w.tg] at this
    omega
  rw [e_J2_add nl_ref]
  simp (disch := first | assumption | omega | decide | rfl) only [w_J2_add_0, w_J2_add_1, w_J2_add_2, w_J2_add_5, w_J2_add_6, w_J2_add_7, w_J2_add_10, w_J2_add_11, w_J2_add_12, w_J2_add_13, w_J2_add_16, w_J2_add_17, w_J2_add_20, w_J2_add_23, w_J2_add_24, nl_int, nl_ref, nl_null, nl_un, nl_rf, nl_long, isR_ref, isR_null, isR_rf, rf_some, rf_none, rOf_ref, rOf_null, rOf_rf, kn_v, kn_0, true_and, and_true, and_self, tin, inA_x, inA_l, ix_add, ix_addl, ix_ladd, ix_mul, ix_mull, ix_lmul, ix_tn, lt_tn, Nat.reduceLeDiff, Nat.reduceLT, Nat.reduceAdd, Nat.reduceMul, true_or, or_true, if_true, if_false, aOk, ref_null, null_null, false_or, Option.isSome_some, Option.getD_some, ite_true, ite_false, eq_self, not_false_eq_true, not_true_eq_false, Tg_sFi, Tg_sFl, Tg_sFr, Tg_sAi, Tg_sAl, Tg_sAr, An_sFi, An_sFl, An_sFr, An_sAi, An_sAl, An_sAr, Fi_sFl, Fi_sFr, Fi_sAi, Fi_sAl, Fi_sAr, Fl_sFi, Fl_sFr, Fl_sAi, Fl_sAl, Fl_sAr, Fr_sFi, Fr_sFl, Fr_sAi, Fr_sAl, Fr_sAr, Ai_sFi, Ai_sFl, Ai_sFr, Ai_sAl, Ai_sAr, Al_sFi, Al_sFl, Al_sFr, Al_sAi, Al_sAr, Ar_sFi, Ar_sFl, Ar_sFr, Ar_sAi, Ar_sAl, Fi_same, Fl_same, Fr_same, Ai_same, Al_same, Ar_same, Fi_otherf, Fl_otherf, Fr_otherf, w.tg, w.fr, w.zs, List.mem_cons]
  generalize hx : Fi h 179 l + 1 = x
  have w1 : WL (sFi h 179 l x) l := w
  by_cases hf : sz h l = An h (ed h l)
  · rcases w.2.2.2.2.1 with ht | ⟨ht, he, ha⟩
    · -- a copy
      have g1 : gcap (An h (ed h l)) ≤ 2 * sz h l + 10 := by rw [← hf]; unfold gcap; split <;> omega
      have g2 : An h (ed h l) + 1 ≤ gcap (An h (ed h l)) := by unfold gcap; split <;> omega
      have hgr : ∀ Q, Ca (d + 5) 307 [.ref l] (sFi h 179 l x) Q = Q (.inl (some (.ref (Nx h)))) (sFr (sAr (nCe (sFi h 179 l x) 5010 (gcap (An h (ed h l)))) (Nx h) (va_cpy (Ar h (ed h l)) (fun _ => none) 0 0 (An h (ed h l)))) 180 l (some (Nx h))) := by
        intro Q
        rw [e_J2_grow]
        simp (disch := first | assumption | omega | decide | rfl) only [w_J2_grow_0, w_J2_grow_1, w_J2_grow_2, w_J2_grow_5, w_J2_grow_6, w_J2_grow_7, w_J2_grow_10, nl_int, nl_ref, nl_null, nl_un, nl_rf, nl_long, isR_ref, isR_null, isR_rf, rf_some, rf_none, rOf_ref, rOf_null, rOf_rf, kn_v, kn_0, true_and, and_true, and_self, tin, inA_x, inA_l, ix_add, ix_addl, ix_ladd, ix_mul, ix_mull, ix_lmul, ix_tn, lt_tn, Nat.reduceLeDiff, Nat.reduceLT, Nat.reduceAdd, Nat.reduceMul, true_or, or_true, if_true, if_false, aOk, ref_null, null_null, false_or, Option.isSome_some, Option.getD_some, ite_true, ite_false, eq_self, not_false_eq_true, not_true_eq_false, Tg_sFi, Tg_sFl, Tg_sFr, Tg_sAi, Tg_sAl, Tg_sAr, An_sFi, An_sFl, An_sFr, An_sAi, An_sAl, An_sAr, Fi_sFl, Fi_sFr, Fi_sAi, Fi_sAl, Fi_sAr, Fl_sFi, Fl_sFr, Fl_sAi, Fl_sAl, Fl_sAr, Fr_sFi, Fr_sFl, Fr_sAi, Fr_sAl, Fr_sAr, Ai_sFi, Ai_sFl, Ai_sFr, Ai_sAl, Ai_sAr, Al_sFi, Al_sFl, Al_sFr, Al_sAi, Al_sAr, Ar_sFi, Ar_sFl, Ar_sFr, Ar_sAi, Ar_sAl, Fi_same, Fl_same, Fr_same, Ai_same, Al_same, Ar_same, Fi_otherf, Fl_otherf, Fr_otherf, w.tg, w.zs]
        rw [c_grow (d := d) w1 ht (by show An h (ed h l) < _; omega) (by show _ = An h (ed h l) + 1; omega) hd ⟨hN, by show Ns h + gcap (An h (ed h l)) ≤ _; omega⟩]
        simp only [kn_v, w_J2_grow_0, w_J2_grow_1, w_J2_grow_2, w_J2_grow_5, w_J2_grow_6, w_J2_grow_7, w_J2_grow_10, isR_ref, true_and]
        rfl
      generalize hg : gcap (An h (ed h l)) = g at *
      rw [e_J2_add_2 nl_ref nl_ref]
      have e1 : Int32.ofNat (An h (ed h l)) = ix (sz h l) := by rw [hf]; rfl
      have h6 : 1000 ≤ Tg h (ed h l) := by omega
      have h7 : Tg h (ed h l) < 6000 := by omega
      have hne : l ≠ Nx h := by omega
      have hnv : v ≠ Nx h := by
        intro q
        have : Tg h v = 0 := by unfold Tg; rw [if_neg (by omega)]
        rw [this] at hv
        revert hv
        decide
      simp (disch := first | assumption | omega | decide | rfl) only [w_J2_add_2_0, w_J2_add_2_1, w_J2_add_2_2, w_J2_add_2_3, w_J2_add_2_6, w_J2_add_2_7, w_J2_add_2_10, w_J2_add_2_11, w_J2_add_2_12, w_J2_add_2_13, wa_J2_add_2_14, w_J2_add_2_15, w_J2_add_2_16, w_J2_add_2_17, w_J2_add_2_18, w_J2_add_2_19, w_J2_add_2_22, nl_int, nl_ref, nl_null, nl_un, nl_rf, nl_long, isR_ref, isR_null, isR_rf, rf_some, rf_none, rOf_ref, rOf_null, rOf_rf, kn_v, kn_0, true_and, and_true, and_self, tin, inA_x, inA_l, ix_add, ix_addl, ix_ladd, ix_mul, ix_mull, ix_lmul, ix_tn, lt_tn, Nat.reduceLeDiff, Nat.reduceLT, Nat.reduceAdd, Nat.reduceMul, true_or, or_true, if_true, if_false, aOk, ref_null, null_null, false_or, Option.isSome_some, Option.getD_some, ite_true, ite_false, eq_self, not_false_eq_true, not_true_eq_false, Tg_sFi, Tg_sFl, Tg_sFr, Tg_sAi, Tg_sAl, Tg_sAr, An_sFi, An_sFl, An_sFr, An_sAi, An_sAl, An_sAr, Fi_sFl, Fi_sFr, Fi_sAi, Fi_sAl, Fi_sAr, Fl_sFi, Fl_sFr, Fl_sAi, Fl_sAl, Fl_sAr, Fr_sFi, Fr_sFl, Fr_sAi, Fr_sAl, Fr_sAr, Ai_sFi, Ai_sFl, Ai_sFr, Ai_sAl, Ai_sAr, Al_sFi, Al_sFl, Al_sFr, Al_sAi, Al_sAr, Ar_sFi, Ar_sFl, Ar_sFr, Ar_sAi, Ar_sAl, Fi_same, Fl_same, Fr_same, Ai_same, Al_same, Ar_same, Fi_otherf, Fl_otherf, Fr_otherf, h6, h7, e1, hgr, Tg_old, Tg_new, An_new, An_old, Nx_sFi, w.tg, el_5010, hv, ix_eq]
      have tv : Tg (nCe (sFi h 179 l x) 5010 g) (Nx h) = 5010 := Tg_new (h := sFi h 179 l x)
      have tn : An (nCe (sFi h 179 l x) 5010 g) (Nx h) = g := An_new (h := sFi h 179 l x)
      simp (disch := first | assumption | omega | decide | rfl) only [w_J2_add_2_0, w_J2_add_2_1, w_J2_add_2_2, w_J2_add_2_3, w_J2_add_2_6, w_J2_add_2_7, w_J2_add_2_10, w_J2_add_2_11, w_J2_add_2_12, w_J2_add_2_13, wa_J2_add_2_14, w_J2_add_2_15, w_J2_add_2_16, w_J2_add_2_17, w_J2_add_2_18, w_J2_add_2_19, w_J2_add_2_22, w_J2_add_0, w_J2_add_1, w_J2_add_2, w_J2_add_5, w_J2_add_6, w_J2_add_7, w_J2_add_10, w_J2_add_11, w_J2_add_12, w_J2_add_13, w_J2_add_16, w_J2_add_17, w_J2_add_20, w_J2_add_23, w_J2_add_24, nl_int, nl_ref, nl_null, nl_un, nl_rf, nl_long, isR_ref, isR_null, isR_rf, rf_some, rf_none, rOf_ref, rOf_null, rOf_rf, kn_v, kn_0, true_and, and_true, and_self, tin, inA_x, inA_l, ix_add, ix_addl, ix_ladd, ix_mul, ix_mull, ix_lmul, ix_tn, lt_tn, Nat.reduceLeDiff, Nat.reduceLT, Nat.reduceAdd, Nat.reduceMul, true_or, or_true, if_true, if_false, aOk, ref_null, null_null, false_or, Option.isSome_some, Option.getD_some, ite_true, ite_false, eq_self, not_false_eq_true, not_true_eq_false, Tg_sFi, Tg_sFl, Tg_sFr, Tg_sAi, Tg_sAl, Tg_sAr, An_sFi, An_sFl, An_sFr, An_sAi, An_sAl, An_sAr, Fi_sFl, Fi_sFr, Fi_sAi, Fi_sAl, Fi_sAr, Fl_sFi, Fl_sFr, Fl_sAi, Fl_sAl, Fl_sAr, Fr_sFi, Fr_sFl, Fr_sAi, Fr_sAl, Fr_sAr, Ai_sFi, Ai_sFl, Ai_sFr, Ai_sAl, Ai_sAr, Al_sFi, Al_sFl, Al_sFr, Al_sAi, Al_sAr, Ar_sFi, Ar_sFl, Ar_sFr, Ar_sAi, Ar_sAl, Fi_same, Fl_same, Fr_same, Ai_same, Al_same, Ar_same, Fi_otherf, Fl_otherf, Fr_otherf, tv, tn, Tg_old, Tg_sFi, w.tg, el_5010, hv, Nx_sFi]
      refine ⟨by rw [Tg_old (h := sFi h 179 l x) hnv]; exact hv, by rw [Tg_old (h := sFi h 179 l x) hne]; exact w.tg, ?_⟩
      refine addp_of (e := Nx h) w ?_ ?_ ?_ ?_ ?_ ?_ ?_ ?_ (by omega) ?_ (Or.inr rfl) ?_ ?_
      · simp only [Tg_sFi, Tg_sFl, Tg_sFr, Tg_sAi, Tg_sAl, Tg_sAr, An_sFi, An_sFl, An_sFr, An_sAi, An_sAl, An_sAr, Fi_sFl, Fi_sFr, Fi_sAi, Fi_sAl, Fi_sAr, Fl_sFi, Fl_sFr, Fl_sAi, Fl_sAl, Fl_sAr, Fr_sFi, Fr_sFl, Fr_sAi, Fr_sAl, Fr_sAr, Ai_sFi, Ai_sFl, Ai_sFr, Ai_sAl, Ai_sAr, Al_sFi, Al_sFl, Al_sFr, Al_sAi, Al_sAr, Ar_sFi, Ar_sFl, Ar_sFr, Ar_sAi, Ar_sAl, Fi_same, Fl_same, Fr_same, Ai_same, Al_same, Ar_same, Fi_otherf, Fl_otherf, Fr_otherf]; rw [Tg_old (h := sFi h 179 l x) hne]; exact w.tg
      · exact Fi_same
      · simp only [Tg_sFi, Tg_sFl, Tg_sFr, Tg_sAi, Tg_sAl, Tg_sAr, An_sFi, An_sFl, An_sFr, An_sAi, An_sAl, An_sAr, Fi_sFl, Fi_sFr, Fi_sAi, Fi_sAl, Fi_sAr, Fl_sFi, Fl_sFr, Fl_sAi, Fl_sAl, Fl_sAr, Fr_sFi, Fr_sFl, Fr_sAi, Fr_sAl, Fr_sAr, Ai_sFi, Ai_sFl, Ai_sFr, Ai_sAl, Ai_sAr, Al_sFi, Al_sFl, Al_sFr, Al_sAi, Al_sAr, Ar_sFi, Ar_sFl, Ar_sFr, Ar_sAi, Ar_sAl, Fi_same, Fl_same, Fr_same, Ai_same, Al_same, Ar_same, Fi_otherf, Fl_otherf, Fr_otherf]
      · simp only [Tg_sFi, Tg_sFl, Tg_sFr, Tg_sAi, Tg_sAl, Tg_sAr, An_sFi, An_sFl, An_sFr, An_sAi, An_sAl, An_sAr, Fi_sFl, Fi_sFr, Fi_sAi, Fi_sAl, Fi_sAr, Fl_sFi, Fl_sFr, Fl_sAi, Fl_sAl, Fl_sAr, Fr_sFi, Fr_sFl, Fr_sAi, Fr_sAl, Fr_sAr, Ai_sFi, Ai_sFl, Ai_sFr, Ai_sAl, Ai_sAr, Al_sFi, Al_sFl, Al_sFr, Al_sAi, Al_sAr, Ar_sFi, Ar_sFl, Ar_sFr, Ar_sAi, Ar_sAl, Fi_same, Fl_same, Fr_same, Ai_same, Al_same, Ar_same, Fi_otherf, Fl_otherf, Fr_otherf, tv]; omega
      · simp only [Tg_sFi, Tg_sFl, Tg_sFr, Tg_sAi, Tg_sAl, Tg_sAr, An_sFi, An_sFl, An_sFr, An_sAi, An_sAl, An_sAr, Fi_sFl, Fi_sFr, Fi_sAi, Fi_sAl, Fi_sAr, Fl_sFi, Fl_sFr, Fl_sAi, Fl_sAl, Fl_sAr, Fr_sFi, Fr_sFl, Fr_sAi, Fr_sAl, Fr_sAr, Ai_sFi, Ai_sFl, Ai_sFr, Ai_sAl, Ai_sAr, Al_sFi, Al_sFl, Al_sFr, Al_sAi, Al_sAr, Ar_sFi, Ar_sFl, Ar_sFr, Ar_sAi, Ar_sAl, Fi_same, Fl_same, Fr_same, Ai_same, Al_same, Ar_same, Fi_otherf, Fl_otherf, Fr_otherf, tn]; omega
      · simp only [Tg_sFi, Tg_sFl, Tg_sFr, Tg_sAi, Tg_sAl, Tg_sAr, An_sFi, An_sFl, An_sFr, An_sAi, An_sAl, An_sAr, Fi_sFl, Fi_sFr, Fi_sAi, Fi_sAl, Fi_sAr, Fl_sFi, Fl_sFr, Fl_sAi, Fl_sAl, Fl_sAr, Fr_sFi, Fr_sFl, Fr_sAi, Fr_sAl, Fr_sAr, Ai_sFi, Ai_sFl, Ai_sFr, Ai_sAl, Ai_sAr, Al_sFi, Al_sFl, Al_sFr, Al_sAi, Al_sAr, Ar_sFi, Ar_sFl, Ar_sFr, Ar_sAi, Ar_sAl, Fi_same, Fl_same, Fr_same, Ai_same, Al_same, Ar_same, Fi_otherf, Fl_otherf, Fr_otherf, tn]; omega
      · intro i hi
        simp only [Tg_sFi, Tg_sFl, Tg_sFr, Tg_sAi, Tg_sAl, Tg_sAr, An_sFi, An_sFl, An_sFr, An_sAi, An_sAl, An_sAr, Fi_sFl, Fi_sFr, Fi_sAi, Fi_sAl, Fi_sAr, Fl_sFi, Fl_sFr, Fl_sAi, Fl_sAl, Fl_sAr, Fr_sFi, Fr_sFl, Fr_sAi, Fr_sAl, Fr_sAr, Ai_sFi, Ai_sFl, Ai_sFr, Ai_sAl, Ai_sAr, Al_sFi, Al_sFl, Al_sFr, Al_sAi, Al_sAr, Ar_sFi, Ar_sFl, Ar_sFr, Ar_sAi, Ar_sAl, Fi_same, Fl_same, Fr_same, Ai_same, Al_same, Ar_same, Fi_otherf, Fl_otherf, Fr_otherf]
        rw [vup_n (by omega)]
        show (if 0 ≤ i ∧ i < 0 + An h (ed h l) then Ar h (ed h l) (0 + (i - 0)) else none) = _
        rw [if_pos ⟨by omega, by omega⟩, Nat.zero_add, Nat.sub_zero]
        exact w.ar hi
      · simp only [Tg_sFi, Tg_sFl, Tg_sFr, Tg_sAi, Tg_sAl, Tg_sAr, An_sFi, An_sFl, An_sFr, An_sAi, An_sAl, An_sAr, Fi_sFl, Fi_sFr, Fi_sAi, Fi_sAl, Fi_sAr, Fl_sFi, Fl_sFr, Fl_sAi, Fl_sAl, Fl_sAr, Fr_sFi, Fr_sFl, Fr_sAi, Fr_sAl, Fr_sAr, Ai_sFi, Ai_sFl, Ai_sFr, Ai_sAl, Ai_sAr, Al_sFi, Al_sFl, Al_sFr, Al_sAi, Al_sAr, Ar_sFi, Ar_sFl, Ar_sFr, Ar_sAi, Ar_sAl, Fi_same, Fl_same, Fr_same, Ai_same, Al_same, Ar_same, Fi_otherf, Fl_otherf, Fr_otherf]
        exact vup_s
      · refine ((((un_sFi (Or.inl rfl)).trans un_nCe (B := fun _ => False) (fun _ _ q => q.elim)).trans (un_sAr (A := fun z => z = Nx h) rfl) (fun z hz q => ?_)).trans (un_sFr (A := fun z => z = l) rfl) (fun z hz q => Or.inl q)).trans ((un_sAr (A := fun z => z = Nx h ∨ z = l) (Or.inl rfl)).trans (un_sFi (A := fun z => z = l) rfl) (fun z _ q => Or.inr q)) (fun z hz q => ?_)
        · have q : z = Nx h := q
          omega
        · rcases q with q | q
          · have q : z = Nx h := q
            omega
          · exact Or.inl q
      · exact Nat.le_refl _
      · show Ns h + g ≤ _
        omega
    · -- the first array
      have hz0 : sz h l = 0 := by omega
      rw [e_J2_add_2 nl_ref nl_ref]
      have e1 : Int32.ofNat (An h (ed h l)) = ix (sz h l) := by rw [hf]; rfl
      have h6 : 1000 ≤ Tg h (ed h l) := by omega
      have h7 : Tg h (ed h l) < 6000 := by omega
      have hne : l ≠ Nx h := by omega
      have hnv : v ≠ Nx h := by
        intro q
        have : Tg h v = 0 := by unfold Tg; rw [if_neg (by omega)]
        rw [this] at hv
        revert hv
        decide
      have e2 : Int32.ofNat (An h (ed h l)) = ix 0 := by rw [ha]; rfl
      have e3 : (Value.ref (ed h l) = Value.ref (Ev h 51)) = True := eq_true (by rw [he])
      have hrm1 : Nc h + 1 ≤ 601024 := hN
      have hrm2 : Ns h + 10 ≤ 7293034 := by omega
      have hmx : (if (10 : Int32) < ix (0 + 1) then ix (0 + 1) else (10 : Int32)) = ix 10 := by decide
      have n10 : ¬ (ix 10 < 0) := ix_nn (by decide)
      have t10 : (ix 10).toNatClampNeg = 10 := ix_tn (by decide)
      have tv : Tg (nCe (sFi h 179 l x) 5009 10) (Nx h) = 5009 := Tg_new (h := sFi h 179 l x)
      have tn : An (nCe (sFi h 179 l x) 5009 10) (Nx h) = 10 := An_new (h := sFi h 179 l x)
      have to : Tg (nCe (sFi h 179 l x) 5009 10) l = 42 := by rw [Tg_old (h := sFi h 179 l x) hne]; exact w.tg
      have hgr : ∀ Q, Ca (d + 5) 307 [.ref l] (sFi h 179 l x) Q = Q (.inl (some (.ref (Nx h)))) (sFr (nCe (sFi h 179 l x) 5009 10) 180 l (some (Nx h))) := by
        intro Q
        rw [e_J2_grow]
        simp (disch := first | assumption | omega | decide | rfl) only [w_J2_grow_0, w_J2_grow_1, w_J2_grow_2, w_J2_grow_5, w_J2_grow_6, w_J2_grow_7, w_J2_grow_10, nl_int, nl_ref, nl_null, nl_un, nl_rf, nl_long, isR_ref, isR_null, isR_rf, rf_some, rf_none, rOf_ref, rOf_null, rOf_rf, kn_v, kn_0, true_and, and_true, and_self, tin, inA_x, inA_l, ix_add, ix_addl, ix_ladd, ix_mul, ix_mull, ix_lmul, ix_tn, lt_tn, Nat.reduceLeDiff, Nat.reduceLT, Nat.reduceAdd, Nat.reduceMul, true_or, or_true, if_true, if_false, aOk, ref_null, null_null, false_or, Option.isSome_some, Option.getD_some, ite_true, ite_false, eq_self, not_false_eq_true, not_true_eq_false, Tg_sFi, Tg_sFl, Tg_sFr, Tg_sAi, Tg_sAl, Tg_sAr, An_sFi, An_sFl, An_sFr, An_sAi, An_sAl, An_sAr, Fi_sFl, Fi_sFr, Fi_sAi, Fi_sAl, Fi_sAr, Fl_sFi, Fl_sFr, Fl_sAi, Fl_sAl, Fl_sAr, Fr_sFi, Fr_sFl, Fr_sAi, Fr_sAl, Fr_sAr, Ai_sFi, Ai_sFl, Ai_sFr, Ai_sAl, Ai_sAr, Al_sFi, Al_sFl, Al_sFr, Al_sAi, Al_sAr, Ar_sFi, Ar_sFl, Ar_sFr, Ar_sAi, Ar_sAl, Fi_same, Fl_same, Fr_same, Ai_same, Al_same, Ar_same, Fi_otherf, Fl_otherf, Fr_otherf, w.tg, w.zs, hz0, e_J2_grow_2]
        simp (disch := first | assumption | omega | decide | rfl) only [w_J2_grow_2_0, w_J2_grow_2_1, w_J2_grow_2_4, w_J2_grow_2_5, w_J2_grow_2_6, w_J2_grow_2_7, w_J2_grow_2_10, w_J2_grow_2_11, w_J2_grow_2_14, w_J2_grow_2_17, w_J2_grow_2_20, w_J2_grow_2_21, w_J2_grow_2_22, w_J2_grow_2_23, w_J2_grow_2_24, w_J2_grow_2_25, w_J2_grow_2_26, w_J2_grow_2_27, w_J2_grow_2_30, w_J2_grow_2_31, w_J2_grow_2_32, w_J2_grow_2_33, w_J2_grow_2_36, w_J2_grow_2_37, w_J2_grow_2_40, w_J2_grow_2_41, w_J2_grow_2_44, w_J2_grow_2_45, w_J2_grow_2_46, w_J2_grow_2_48, w_J2_grow_2_49, w_J2_grow_2_52, w_J2_grow_2_55, w_J2_grow_2_56, w_J2_grow_2_59, w_J2_grow_0, w_J2_grow_1, w_J2_grow_2, w_J2_grow_5, w_J2_grow_6, w_J2_grow_7, w_J2_grow_10, nl_int, nl_ref, nl_un, isR_ref, rf_some, rOf_ref, true_and, and_true, and_self, kn_v, tin, Tg_sFi, Tg_sFl, Tg_sFr, Tg_sAi, Tg_sAl, Tg_sAr, An_sFi, An_sFl, An_sFr, An_sAi, An_sAl, An_sAr, Fi_sFl, Fi_sFr, Fi_sAi, Fi_sAl, Fi_sAr, Fl_sFi, Fl_sFr, Fl_sAi, Fl_sAl, Fl_sAr, Fr_sFi, Fr_sFl, Fr_sAi, Fr_sAl, Fr_sAr, Ai_sFi, Ai_sFl, Ai_sFr, Ai_sAl, Ai_sAr, Al_sFi, Al_sFl, Al_sFr, Al_sAi, Al_sAr, Ar_sFi, Ar_sFl, Ar_sFr, Ar_sAi, Ar_sAl, Fi_same, Fl_same, Fr_same, Ai_same, Al_same, Ar_same, Fi_otherf, Fl_otherf, Fr_otherf, w.tg, w.fr, h6, h7, e2, e3, ix_0lt, Nat.lt_irrefl, if_true, if_false, Ev_sFi, c_max, hmx, n10, t10, Rm, Nc_sFi, Ns_sFi, hrm1, hrm2, not_false_eq_true, Nx_sFi, to]
      simp (disch := first | assumption | omega | decide | rfl) only [w_J2_add_2_0, w_J2_add_2_1, w_J2_add_2_2, w_J2_add_2_3, w_J2_add_2_6, w_J2_add_2_7, w_J2_add_2_10, w_J2_add_2_11, w_J2_add_2_12, w_J2_add_2_13, wa_J2_add_2_14, w_J2_add_2_15, w_J2_add_2_16, w_J2_add_2_17, w_J2_add_2_18, w_J2_add_2_19, w_J2_add_2_22, w_J2_add_0, w_J2_add_1, w_J2_add_2, w_J2_add_5, w_J2_add_6, w_J2_add_7, w_J2_add_10, w_J2_add_11, w_J2_add_12, w_J2_add_13, w_J2_add_16, w_J2_add_17, w_J2_add_20, w_J2_add_23, w_J2_add_24, nl_int, nl_ref, nl_null, nl_un, nl_rf, nl_long, isR_ref, isR_null, isR_rf, rf_some, rf_none, rOf_ref, rOf_null, rOf_rf, kn_v, kn_0, true_and, and_true, and_self, tin, inA_x, inA_l, ix_add, ix_addl, ix_ladd, ix_mul, ix_mull, ix_lmul, ix_tn, lt_tn, Nat.reduceLeDiff, Nat.reduceLT, Nat.reduceAdd, Nat.reduceMul, true_or, or_true, if_true, if_false, aOk, ref_null, null_null, false_or, Option.isSome_some, Option.getD_some, ite_true, ite_false, eq_self, not_false_eq_true, not_true_eq_false, Tg_sFi, Tg_sFl, Tg_sFr, Tg_sAi, Tg_sAl, Tg_sAr, An_sFi, An_sFl, An_sFr, An_sAi, An_sAl, An_sAr, Fi_sFl, Fi_sFr, Fi_sAi, Fi_sAl, Fi_sAr, Fl_sFi, Fl_sFr, Fl_sAi, Fl_sAl, Fl_sAr, Fr_sFi, Fr_sFl, Fr_sAi, Fr_sAl, Fr_sAr, Ai_sFi, Ai_sFl, Ai_sFr, Ai_sAl, Ai_sAr, Al_sFi, Al_sFl, Al_sFr, Al_sAi, Al_sAr, Ar_sFi, Ar_sFl, Ar_sFr, Ar_sAi, Ar_sAl, Fi_same, Fl_same, Fr_same, Ai_same, Al_same, Ar_same, Fi_otherf, Fl_otherf, Fr_otherf, h6, h7, e1, hgr, Nx_sFi, w.tg, el_5009, hv, ix_eq, tv, tn, to, Tg_old (h := sFi h 179 l x) hnv, hz0]
      refine addp_of (e := Nx h) w ?_ ?_ ?_ ?_ ?_ ?_ ?_ ?_ (by omega) ?_ (Or.inr rfl) ?_ ?_
      · simp only [Tg_sFi, Tg_sFl, Tg_sFr, Tg_sAi, Tg_sAl, Tg_sAr, An_sFi, An_sFl, An_sFr, An_sAi, An_sAl, An_sAr, Fi_sFl, Fi_sFr, Fi_sAi, Fi_sAl, Fi_sAr, Fl_sFi, Fl_sFr, Fl_sAi, Fl_sAl, Fl_sAr, Fr_sFi, Fr_sFl, Fr_sAi, Fr_sAl, Fr_sAr, Ai_sFi, Ai_sFl, Ai_sFr, Ai_sAl, Ai_sAr, Al_sFi, Al_sFl, Al_sFr, Al_sAi, Al_sAr, Ar_sFi, Ar_sFl, Ar_sFr, Ar_sAi, Ar_sAl, Fi_same, Fl_same, Fr_same, Ai_same, Al_same, Ar_same, Fi_otherf, Fl_otherf, Fr_otherf]; exact to
      · rw [hz0]; exact Fi_same
      · simp only [Tg_sFi, Tg_sFl, Tg_sFr, Tg_sAi, Tg_sAl, Tg_sAr, An_sFi, An_sFl, An_sFr, An_sAi, An_sAl, An_sAr, Fi_sFl, Fi_sFr, Fi_sAi, Fi_sAl, Fi_sAr, Fl_sFi, Fl_sFr, Fl_sAi, Fl_sAl, Fl_sAr, Fr_sFi, Fr_sFl, Fr_sAi, Fr_sAl, Fr_sAr, Ai_sFi, Ai_sFl, Ai_sFr, Ai_sAl, Ai_sAr, Al_sFi, Al_sFl, Al_sFr, Al_sAi, Al_sAr, Ar_sFi, Ar_sFl, Ar_sFr, Ar_sAi, Ar_sAl, Fi_same, Fl_same, Fr_same, Ai_same, Al_same, Ar_same, Fi_otherf, Fl_otherf, Fr_otherf]
      · simp only [Tg_sFi, Tg_sFl, Tg_sFr, Tg_sAi, Tg_sAl, Tg_sAr, An_sFi, An_sFl, An_sFr, An_sAi, An_sAl, An_sAr, Fi_sFl, Fi_sFr, Fi_sAi, Fi_sAl, Fi_sAr, Fl_sFi, Fl_sFr, Fl_sAi, Fl_sAl, Fl_sAr, Fr_sFi, Fr_sFl, Fr_sAi, Fr_sAl, Fr_sAr, Ai_sFi, Ai_sFl, Ai_sFr, Ai_sAl, Ai_sAr, Al_sFi, Al_sFl, Al_sFr, Al_sAi, Al_sAr, Ar_sFi, Ar_sFl, Ar_sFr, Ar_sAi, Ar_sAl, Fi_same, Fl_same, Fr_same, Ai_same, Al_same, Ar_same, Fi_otherf, Fl_otherf, Fr_otherf, tv]; omega
      · simp only [Tg_sFi, Tg_sFl, Tg_sFr, Tg_sAi, Tg_sAl, Tg_sAr, An_sFi, An_sFl, An_sFr, An_sAi, An_sAl, An_sAr, Fi_sFl, Fi_sFr, Fi_sAi, Fi_sAl, Fi_sAr, Fl_sFi, Fl_sFr, Fl_sAi, Fl_sAl, Fl_sAr, Fr_sFi, Fr_sFl, Fr_sAi, Fr_sAl, Fr_sAr, Ai_sFi, Ai_sFl, Ai_sFr, Ai_sAl, Ai_sAr, Al_sFi, Al_sFl, Al_sFr, Al_sAi, Al_sAr, Ar_sFi, Ar_sFl, Ar_sFr, Ar_sAi, Ar_sAl, Fi_same, Fl_same, Fr_same, Ai_same, Al_same, Ar_same, Fi_otherf, Fl_otherf, Fr_otherf, tn]; omega
      · simp only [Tg_sFi, Tg_sFl, Tg_sFr, Tg_sAi, Tg_sAl, Tg_sAr, An_sFi, An_sFl, An_sFr, An_sAi, An_sAl, An_sAr, Fi_sFl, Fi_sFr, Fi_sAi, Fi_sAl, Fi_sAr, Fl_sFi, Fl_sFr, Fl_sAi, Fl_sAl, Fl_sAr, Fr_sFi, Fr_sFl, Fr_sAi, Fr_sAl, Fr_sAr, Ai_sFi, Ai_sFl, Ai_sFr, Ai_sAl, Ai_sAr, Al_sFi, Al_sFl, Al_sFr, Al_sAi, Al_sAr, Ar_sFi, Ar_sFl, Ar_sFr, Ar_sAi, Ar_sAl, Fi_same, Fl_same, Fr_same, Ai_same, Al_same, Ar_same, Fi_otherf, Fl_otherf, Fr_otherf, tn]; omega
      · intro i hi
        omega
      · simp only [Tg_sFi, Tg_sFl, Tg_sFr, Tg_sAi, Tg_sAl, Tg_sAr, An_sFi, An_sFl, An_sFr, An_sAi, An_sAl, An_sAr, Fi_sFl, Fi_sFr, Fi_sAi, Fi_sAl, Fi_sAr, Fl_sFi, Fl_sFr, Fl_sAi, Fl_sAl, Fl_sAr, Fr_sFi, Fr_sFl, Fr_sAi, Fr_sAl, Fr_sAr, Ai_sFi, Ai_sFl, Ai_sFr, Ai_sAl, Ai_sAr, Al_sFi, Al_sFl, Al_sFr, Al_sAi, Al_sAr, Ar_sFi, Ar_sFl, Ar_sFr, Ar_sAi, Ar_sAl, Fi_same, Fl_same, Fr_same, Ai_same, Al_same, Ar_same, Fi_otherf, Fl_otherf, Fr_otherf]
        rw [hz0]
        exact vup_s
      · refine (((un_sFi (Or.inl rfl)).trans un_nCe (B := fun _ => False) (fun _ _ q => q.elim)).trans (un_sFr (A := fun z => z = l) rfl) (fun z hz q => Or.inl q)).trans ((un_sAr (A := fun z => z = Nx h ∨ z = l) (Or.inl rfl)).trans (un_sFi (A := fun z => z = l) rfl) (fun z _ q => Or.inr q)) (fun z hz q => ?_)
        rcases q with q | q
        · have q : z = Nx h := q
          omega
        · exact Or.inl q
      · exact Nat.le_refl _
      · show Ns h + 10 ≤ _
        omega
  · rcases w.2.2.2.2.1 with ht | ⟨ht, he, ha⟩
    · rw [show Ca (d + 6) 306 [Value.ref l, .ref v, .ref (ed h l), .int (ix (sz h l))] (sFi h 179 l x) = fun Q => Q (.inl none) (sFi (sAr (sFi h 179 l x) (ed h l) (va_up (Ar h (ed h l)) (sz h l) (some v))) 181 l (ix (sz h l + 1))) from funext fun Q => c_add2 (d := d + 5) w1 ht (by show sz h l < An h (ed h l); omega) hv]
      simp only [w_J2_add_0, w_J2_add_1, w_J2_add_2, w_J2_add_5, w_J2_add_6, w_J2_add_7, w_J2_add_10, w_J2_add_11, w_J2_add_12, w_J2_add_13, w_J2_add_16, w_J2_add_17, w_J2_add_20, w_J2_add_23, w_J2_add_24, kn_0, or_true, true_and]
      refine addp_of (e := ed h l) w w.tg Fi_same w.fr ht (by show _ ≤ An h (ed h l); omega) z2 (fun i hi => ?_) ?_ (by omega) ?_ (Or.inl rfl) (Nat.le_succ _) (Nat.le_add_right _ _)
      · simp only [Tg_sFi, Tg_sFl, Tg_sFr, Tg_sAi, Tg_sAl, Tg_sAr, An_sFi, An_sFl, An_sFr, An_sAi, An_sAl, An_sAr, Fi_sFl, Fi_sFr, Fi_sAi, Fi_sAl, Fi_sAr, Fl_sFi, Fl_sFr, Fl_sAi, Fl_sAl, Fl_sAr, Fr_sFi, Fr_sFl, Fr_sAi, Fr_sAl, Fr_sAr, Ai_sFi, Ai_sFl, Ai_sFr, Ai_sAl, Ai_sAr, Al_sFi, Al_sFl, Al_sFr, Al_sAi, Al_sAr, Ar_sFi, Ar_sFl, Ar_sFr, Ar_sAi, Ar_sAl, Fi_same, Fl_same, Fr_same, Ai_same, Al_same, Ar_same, Fi_otherf, Fl_otherf, Fr_otherf]
        rw [vup_n (by omega)]
        exact w.ar hi
      · simp only [Tg_sFi, Tg_sFl, Tg_sFr, Tg_sAi, Tg_sAl, Tg_sAr, An_sFi, An_sFl, An_sFr, An_sAi, An_sAl, An_sAr, Fi_sFl, Fi_sFr, Fi_sAi, Fi_sAl, Fi_sAr, Fl_sFi, Fl_sFr, Fl_sAi, Fl_sAl, Fl_sAr, Fr_sFi, Fr_sFl, Fr_sAi, Fr_sAl, Fr_sAr, Ai_sFi, Ai_sFl, Ai_sFr, Ai_sAl, Ai_sAr, Al_sFi, Al_sFl, Al_sFr, Al_sAi, Al_sAr, Ar_sFi, Ar_sFl, Ar_sFr, Ar_sAi, Ar_sAl, Fi_same, Fl_same, Fr_same, Ai_same, Al_same, Ar_same, Fi_otherf, Fl_otherf, Fr_otherf]
        exact vup_s
      · exact ((un_sFi (Or.inl rfl)).trans (un_sAr (A := fun z => z = ed h l) rfl) (fun z hz q => Or.inr q)).trans (un_sFi (A := fun z => z = l) rfl) (fun z hz q => Or.inl q)
    · omega
end
