/-! WORDS: letters laid out, by both -/
set_option maxRecDepth 100000
theorem i32_m1 (x : Int32) : x + -1 = x - 1 := by rw [Int32.sub_eq_add_neg]
theorem lix_div {w : Nat} (hw : w < 9223372036854775808) : lix w / 27 = lix (w / 27) := pk_lDiv (a := w) (b := 27) hw (by decide) (by decide)
theorem lix_rem {w : Nat} (hw : w < 9223372036854775808) : lix w - lix w / 27 * 27 = lix (w % 27) := pk_lRem (a := w) (b := 27) hw (by decide) (by decide)
theorem lix_i {w : Nat} : (lix w).toInt32 = ix w := lN_i w
theorem lix_pos {w : Nat} (hw : w < 9223372036854775808) : ((0 : Int32) < lg_cmp (lix w) 0) = (0 < w) := by
  have e : (lix w).toInt = (w : Int) := Int64.toInt_ofNat_of_lt hw
  unfold lg_cmp
  have e1 : (lix w > 0) = (0 < w) := by
    apply propext
    show (0 : Int64) < lix w ↔ _
    rw [Int64.lt_iff_toInt_lt, e]
    simp
  have e2 : (lix w = 0) = (w = 0) := by
    apply propext
    rw [← Int64.toInt_inj, e]
    simp
  simp only [e1, e2]
  by_cases q : 0 < w
  · rw [if_pos q]; exact propext ⟨fun _ => q, fun _ => by decide⟩
  · rw [if_neg q, if_pos (by omega)]
    exact propext ⟨fun z => absurd z (by decide), fun z => absurd z q⟩
theorem wlA_add : ∀ (f w : Nat), w < 27 ^ f → w / 27 ^ wlA f w = 0
  | 0, w, h => by simp at h; subst h; rfl
  | f + 1, w, h => by
    rw [wlA]
    by_cases q : w = 0
    · rw [if_pos q, q]
    · rw [if_neg q]
      have := wlA_add f (w / 27) (by rw [Nat.pow_succ] at h; omega)
      rw [Nat.pow_succ, Nat.mul_comm, ← Nat.div_div_eq_div_mul]
      exact this
theorem wlA_min : ∀ (f w k : Nat), k < wlA f w → 0 < w / 27 ^ k
  | 0, w, k, h => by simp [wlA] at h
  | f + 1, w, k, h => by
    rw [wlA] at h
    by_cases q : w = 0
    · rw [if_pos q] at h; omega
    · rw [if_neg q] at h
      cases k with
      | zero => simp; omega
      | succ k =>
        rw [Nat.pow_succ, Nat.mul_comm, ← Nat.div_div_eq_div_mul]
        exact wlA_min f (w / 27) k (by omega)
abbrev wMax : Nat := 282429536481
theorem wl_end {w : Nat} (h : w < wMax) : w / 27 ^ wl w = 0 := wlA_add 8 w h
theorem wl_min {w k : Nat} (h : k < wl w) : 0 < w / 27 ^ k := wlA_min 8 w k h
theorem div27 {w k : Nat} : w / 27 ^ k / 27 = w / 27 ^ (k + 1) := by rw [Nat.pow_succ, Nat.div_div_eq_div_mul]
section
variable {d m w a p : Nat} {h : AH} {Q : Rs → AH → Prop}
theorem c_spells (hw : w < wMax) (ht : 1000 ≤ Tg h a ∧ Tg h a < 1900) (hn : An h a = 8) : Ca (d + 1) 174 [.long (lix w), .ref a] h (fun r h' => r = .inl (some (.int (ix (wl w)))) ∧ ∃ F, h' = sAi h a F ∧ ∀ k, k < wl w → F k = ix (ltr w k)) := by
  have h8 := wl_le w
  have t1 := ht.1
  have t2 := ht.2
  have hwM : ∀ k, w / 27 ^ k < 9223372036854775808 := fun k => Nat.lt_of_le_of_lt (Nat.div_le_self _ _) (Nat.lt_trans hw (by decide))
  rw [e_X9_spells nl_ref]
  simp (disch := first | assumption | omega | decide | rfl) only [w_X9_spells_0, w_X9_spells_1, w_X9_spells_2, w_X9_spells_3, nl_int, nl_ref, nl_null, nl_un, nl_rf, nl_long, isR_ref, isR_null, isR_rf, rf_some, rf_none, rOf_ref, rOf_null, rOf_rf, kn_v, kn_0, true_and, and_true, and_self, tin, inA_x, inA_l, ix_add, ix_addl, ix_ladd, ix_mul, ix_mull, ix_lmul, ix_tn, lt_tn, Nat.reduceLeDiff, Nat.reduceLT, Nat.reduceAdd, Nat.reduceMul, true_or, or_true, ↓reduceIte, aOk, ref_null, null_null, false_or, Option.isSome_some, Option.getD_some, ite_true, ite_false, eq_self, not_false_eq_true, not_true_eq_false, ix_0]
  generalize hQ : (fun r h' => r = .inl (some (.int (ix (wl w)))) ∧ ∃ F, h' = sAi h a F ∧ ∀ k, k < wl w → F k = ix (ltr w k) : Rs → AH → Prop) = Q
  have k2 : ∀ n (F : Nat → Int32), n ≤ wl w → (∀ k, n ≤ k → k < wl w → F k = ix (ltr w k)) → Ru d 174 34 [.long (lix w), un, .ref a, .int (ix (wl w)), .long (lix (w / 27 ^ (wl w - n))), un, .int (ix n - 1)] [] (sAi h a F) Q := by
    intro n
    induction n with
    | zero =>
      intro F hn0 hF
      simp (disch := first | assumption | omega | decide | rfl) only [w_X9_spells_34, w_X9_spells_36, w_X9_spells_64, w_X9_spells_65, nl_int, nl_ref, nl_null, nl_un, nl_rf, nl_long, isR_ref, isR_null, isR_rf, rf_some, rf_none, rOf_ref, rOf_null, rOf_rf, kn_v, kn_0, true_and, and_true, and_self, tin, inA_x, inA_l, ix_add, ix_addl, ix_ladd, ix_mul, ix_mull, ix_lmul, ix_tn, lt_tn, Nat.reduceLeDiff, Nat.reduceLT, Nat.reduceAdd, Nat.reduceMul, true_or, or_true, ↓reduceIte, aOk, ref_null, null_null, false_or, Option.isSome_some, Option.getD_some, ite_true, ite_false, eq_self, not_false_eq_true, not_true_eq_false, show (ix 0 - 1 < 0) = True from by decide]
      rw [← hQ]
      exact ⟨rfl, F, rfl, fun k hk => hF k (Nat.zero_le _) hk⟩
    | succ n ih =>
      intro F hn0 hF
      have e1 : ix (n + 1) - 1 = ix n := ix_subl (n := 1) (a := n + 1) (by omega)
      have e2 : (ix n < 0) = False := eq_false (ix_nn (by omega))
      have e4 := lix_rem (hwM (wl w - (n + 1)))
      have e5 := lix_div (hwM (wl w - (n + 1)))
      have e6 : ix n + -1 = ix n - 1 := i32_m1 _
      rw [w_X9_spells_34, e1]
      simp (disch := first | assumption | omega | decide | rfl) only [w_X9_spells_36, w_X9_spells_39, w_X9_spells_40, w_X9_spells_42, w_X9_spells_44, w_X9_spells_47, w_X9_spells_48, w_X9_spells_49, w_X9_spells_50, w_X9_spells_52, w_X9_spells_55, w_X9_spells_56, w_X9_spells_58, w_X9_spells_61, nl_int, nl_ref, nl_null, nl_un, nl_rf, nl_long, isR_ref, isR_null, isR_rf, rf_some, rf_none, rOf_ref, rOf_null, rOf_rf, kn_v, kn_0, true_and, and_true, and_self, tin, inA_x, inA_l, ix_add, ix_addl, ix_ladd, ix_mul, ix_mull, ix_lmul, ix_tn, lt_tn, Nat.reduceLeDiff, Nat.reduceLT, Nat.reduceAdd, Nat.reduceMul, true_or, or_true, ↓reduceIte, aOk, ref_null, null_null, false_or, Option.isSome_some, Option.getD_some, ite_true, ite_false, eq_self, not_false_eq_true, not_true_eq_false, Tg_sFi, Tg_sFl, Tg_sFr, Tg_sAi, Tg_sAl, Tg_sAr, An_sFi, An_sFl, An_sFr, An_sAi, An_sAl, An_sAr, Fi_sFl, Fi_sFr, Fi_sAi, Fi_sAl, Fi_sAr, Fl_sFi, Fl_sFr, Fl_sAi, Fl_sAl, Fl_sAr, Fr_sFi, Fr_sFl, Fr_sAi, Fr_sAl, Fr_sAr, Ai_sFi, Ai_sFl, Ai_sFr, Ai_sAl, Ai_sAr, Al_sFi, Al_sFl, Al_sFr, Al_sAi, Al_sAr, Ar_sFi, Ar_sFl, Ar_sFr, Ar_sAi, Ar_sAl, Fi_same, Fl_same, Fr_same, Ai_same, Al_same, Ar_same, Fi_otherf, Fl_otherf, Fr_otherf, e2, t1, t2, hn, e4, e5, lix_i, e6, div27, sAi_sAi, show ¬ ((27 : Int64) = 0) from by decide]
      rw [show wl w - (n + 1) + 1 = wl w - n by omega]
      refine ih _ (by omega) (fun k hk hk2 => ?_)
      by_cases q : k = n
      · subst q
        show (if k = k then _ else _) = _
        rw [if_pos rfl]
        unfold ltr
        rw [show wl w - 1 - k = wl w - (k + 1) by omega]
        have e7 := e4
        rw [e5, div27, show wl w - (k + 1) + 1 = wl w - k by omega] at e7
        rw [e7, lix_i]
      · show (if k = n then _ else F k) = _
        rw [if_neg q]
        exact hF k (by omega) hk2
  have k1 : ∀ n j, j + n = wl w → Ru d 174 5 [.long (lix w), un, .ref a, .int (ix j), .long (lix (w / 27 ^ j)), un, un] [] h Q := by
    intro n
    induction n with
    | zero =>
      intro j hj
      have ej : j = wl w := by omega
      subst ej
      have e1 : ((0 : Int32) < lg_cmp (lix (w / 27 ^ wl w)) 0) = False := by rw [lix_pos (hwM _)]; exact eq_false (by rw [wl_end hw]; omega)
      simp (disch := first | assumption | omega | decide | rfl) only [w_X9_spells_5, w_X9_spells_7, w_X9_spells_8, w_X9_spells_9, w_X9_spells_26, w_X9_spells_27, w_X9_spells_29, w_X9_spells_30, w_X9_spells_31, w_X9_spells_32, nl_int, nl_ref, nl_null, nl_un, nl_rf, nl_long, isR_ref, isR_null, isR_rf, rf_some, rf_none, rOf_ref, rOf_null, rOf_rf, kn_v, kn_0, true_and, and_true, and_self, tin, inA_x, inA_l, ix_add, ix_addl, ix_ladd, ix_mul, ix_mull, ix_lmul, ix_tn, lt_tn, Nat.reduceLeDiff, Nat.reduceLT, Nat.reduceAdd, Nat.reduceMul, true_or, or_true, ↓reduceIte, aOk, ref_null, null_null, false_or, Option.isSome_some, Option.getD_some, ite_true, ite_false, eq_self, not_false_eq_true, not_true_eq_false, e1]
      have := k2 (wl w) (Ai h a) (Nat.le_refl _) (fun k h1 h2 => by omega)
      rw [sAi_self, Nat.sub_self] at this
      simpa using this
    | succ n ih =>
      intro j hj
      have e1 : ((0 : Int32) < lg_cmp (lix (w / 27 ^ j)) 0) = True := by rw [lix_pos (hwM _)]; exact eq_true (wl_min (by omega))
      have e5 := lix_div (hwM j)
      rw [w_X9_spells_5]
      simp (disch := first | assumption | omega | decide | rfl) only [w_X9_spells_7, w_X9_spells_8, w_X9_spells_9, w_X9_spells_12, w_X9_spells_15, w_X9_spells_17, w_X9_spells_20, w_X9_spells_21, w_X9_spells_23, nl_int, nl_ref, nl_null, nl_un, nl_rf, nl_long, isR_ref, isR_null, isR_rf, rf_some, rf_none, rOf_ref, rOf_null, rOf_rf, kn_v, kn_0, true_and, and_true, and_self, tin, inA_x, inA_l, ix_add, ix_addl, ix_ladd, ix_mul, ix_mull, ix_lmul, ix_tn, lt_tn, Nat.reduceLeDiff, Nat.reduceLT, Nat.reduceAdd, Nat.reduceMul, true_or, or_true, ↓reduceIte, aOk, ref_null, null_null, false_or, Option.isSome_some, Option.getD_some, ite_true, ite_false, eq_self, not_false_eq_true, not_true_eq_false, e1, e5, div27, show ¬ ((27 : Int64) = 0) from by decide]
      exact ih (j + 1) (by omega)
  have := k1 (wl w) 0 (by omega)
  simpa using this
end
