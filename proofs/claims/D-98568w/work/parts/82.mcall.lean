/-! THE MODEL: who hears a call, what falls -/
set_option maxRecDepth 100000
section
variable {d D m a b c p s w lane loud : Nat} {h : AH} {Q : Rs → AH → Prop} {O : Oc} {snd : Nat → Nat}
/-- letters from the last on -/
theorem ltr_div {k : Nat} (hk : k < wl w) : w / 27 ^ k % 27 = ltr w (wl w - 1 - k) := by
  unfold ltr
  rw [show wl w - 1 - (wl w - 1 - k) = k by omega]
theorem anyb_t {P : Nat → Bool} : ∀ n k, anyb P n k = true ↔ ∃ j, j < n ∧ P (k + j) = true
  | 0, k => by simp [anyb]
  | n + 1, k => by
    rw [anyb]
    by_cases q : P k = true
    · rw [if_pos q]
      simp only [true_iff]
      exact ⟨0, by omega, q⟩
    · rw [if_neg q, anyb_t n (k + 1)]
      constructor
      · rintro ⟨j, h1, h2⟩
        exact ⟨j + 1, by omega, by rw [show k + (j + 1) = k + 1 + j by omega]; exact h2⟩
      · rintro ⟨j, h1, h2⟩
        cases j with
        | zero => exact absurd h2 q
        | succ j => exact ⟨j, by omega, by rw [show k + 1 + j = k + (j + 1) by omega]; exact h2⟩
theorem anyb_rev {P : Nat → Bool} (n : Nat) : anyb (fun k => P (n - 1 - k)) n 0 = anyb P n 0 := by
  apply Bool.eq_iff_iff.mpr
  rw [anyb_t, anyb_t]
  constructor
  · rintro ⟨j, h1, h2⟩
    exact ⟨n - 1 - j, by omega, by simpa using h2⟩
  · rintro ⟨j, h1, h2⟩
    refine ⟨n - 1 - j, by omega, ?_⟩
    simp only [Nat.zero_add] at h2 ⊢
    rw [show n - 1 - (n - 1 - j) = j by omega]
    exact h2
theorem lix_eq {x y : Nat} (hx : x < 9223372036854775808) (hy : y < 9223372036854775808) : (lg_cmp (lix x) (lix y) = 0) = (x = y) := by
  have e1 : (lix x).toInt = (x : Int) := Int64.toInt_ofNat_of_lt hx
  have e2 : (lix y).toInt = (y : Int) := Int64.toInt_ofNat_of_lt hy
  have e3 : (lix x = lix y) = (x = y) := by
    apply propext
    rw [← Int64.toInt_inj, e1, e2]
    omega
  have e4 : (lix x > lix y) = (y < x) := by
    apply propext
    show lix y < lix x ↔ _
    rw [Int64.lt_iff_toInt_lt, e1, e2]
    omega
  unfold lg_cmp
  simp only [e3, e4]
  by_cases q : y < x
  · rw [if_pos q]; exact propext ⟨fun z => absurd z (by decide), fun z => by omega⟩
  · rw [if_neg q]
    by_cases q2 : x = y
    · rw [if_pos q2]; exact propext ⟨fun _ => q2, fun _ => rfl⟩
    · rw [if_neg q2]; exact propext ⟨fun z => absurd z (by decide), fun z => absurd z q2⟩
theorem ix_l {x : Nat} (hx : x < 2147483648) : (ix x).toInt64 = lix x := nI_l hx
theorem cm_isSaid (x : M0 h m O) (hp : p < O.nP) (hs : s < O.nS) : Ca (D + 1) 191 [.ref m, .int (ix p), .int (ix s)] h Q = Q (.inl (some (.int (bz (saF O p s))))) h := by
  have hm := x.mo
  have n1 := x.wo.nP
  have n2 := x.wo.nS
  have g1 : Ai h (m + 14) p = ix (O.mu p) := by simpa using x.mr.mu p hp
  have g2 : Al h (m + 3) s = lix (O.sn s) := by simpa using x.mr.sn s hs
  have hw := x.wo.sn s hs
  have hmu := x.wo.mu p hp
  generalize hww : O.sn s = w at g2 hw
  generalize hmm : O.mu p = c at g1 hmu
  have hsa : saF O p s = (decide (c = 0) || !hoF w c) := by unfold saF; rw [hww, hmm]
  rw [hsa]
  have hwM : ∀ k, w / 27 ^ k < 9223372036854775808 := fun k => Nat.lt_of_le_of_lt (Nat.div_le_self _ _) (Nat.lt_trans hw (by decide))
  rw [e_X9_isSaid]
  have e0 : (ix c = 0) = (c = 0) := ix_eql (n := 0) (by omega) (by decide)
  by_cases q : c = 0
  · have e0 : (ix c = 0) = True := by rw [e0]; exact eq_true q
    simp (disch := first | assumption | omega | decide | rfl) only [w_X9_isSaid_0, w_X9_isSaid_1, w_X9_isSaid_4, w_X9_isSaid_5, w_X9_isSaid_6, w_X9_isSaid_9, w_X9_isSaid_10, mo_0 hm, mo_mute hm, mt_mute hm, ml_mute hm, mo_soundName hm, mt_soundName hm, ml_soundName hm, nl_int, nl_ref, nl_null, nl_un, nl_rf, nl_long, isR_ref, isR_null, isR_rf, rf_some, rf_none, rOf_ref, rOf_null, rOf_rf, kn_v, kn_0, true_and, and_true, and_self, tin, inA_x, inA_l, ix_add, ix_addl, ix_ladd, ix_mul, ix_mull, ix_lmul, ix_tn, lt_tn, Nat.reduceLeDiff, Nat.reduceLT, Nat.reduceAdd, Nat.reduceMul, true_or, or_true, ↓reduceIte, aOk, ref_null, null_null, false_or, Option.isSome_some, Option.getD_some, ite_true, ite_false, eq_self, not_false_eq_true, not_true_eq_false, g1, e0]
    simp [bz, q]
  · have key : ∀ n j, j + n = wl w → Ru D 191 18 [.ref m, .int (ix p), .int (ix s), .long (lix (w / 27 ^ j)), un] [] h Q = Q (.inl (some (.int (bz (!(anyb (fun k => decide (ltr w (wl w - 1 - k) = c)) n j)))))) h := by
      intro n
      induction n with
      | zero =>
        intro j hj
        have ej : j = wl w := by omega
        subst ej
        have e1 : ((0 : Int32) < lg_cmp (lix (w / 27 ^ wl w)) 0) = False := by rw [lix_pos (hwM _)]; exact eq_false (by rw [wl_end hw]; omega)
        simp (disch := first | assumption | omega | decide | rfl) only [w_X9_isSaid_18, w_X9_isSaid_19, w_X9_isSaid_20, w_X9_isSaid_21, w_X9_isSaid_51, w_X9_isSaid_52, nl_int, nl_ref, nl_null, nl_un, nl_rf, nl_long, isR_ref, isR_null, isR_rf, rf_some, rf_none, rOf_ref, rOf_null, rOf_rf, kn_v, kn_0, true_and, and_true, and_self, tin, inA_x, inA_l, ix_add, ix_addl, ix_ladd, ix_mul, ix_mull, ix_lmul, ix_tn, lt_tn, Nat.reduceLeDiff, Nat.reduceLT, Nat.reduceAdd, Nat.reduceMul, true_or, or_true, ↓reduceIte, aOk, ref_null, null_null, false_or, Option.isSome_some, Option.getD_some, ite_true, ite_false, eq_self, not_false_eq_true, not_true_eq_false, e1]
        rfl
      | succ n ih =>
        intro j hj
        have e1 : ((0 : Int32) < lg_cmp (lix (w / 27 ^ j)) 0) = True := by rw [lix_pos (hwM _)]; exact eq_true (wl_min (by omega))
        have e4 := lix_rem (hwM j)
        have e5 := lix_div (hwM j)
        have e6 := e4
        rw [e5] at e6
        have e7 := lix_eq (x := w / 27 ^ j % 27) (y := c) (by omega) (by omega)
        rw [ltr_div (by omega)] at e7 e6
        have e8 : (ix c).toInt64 = lix c := ix_l (by omega)
        rw [w_X9_isSaid_18]
        simp (disch := first | assumption | omega | decide | rfl) only [w_X9_isSaid_19, w_X9_isSaid_20, w_X9_isSaid_21, w_X9_isSaid_24, w_X9_isSaid_25, w_X9_isSaid_28, w_X9_isSaid_29, w_X9_isSaid_30, w_X9_isSaid_33, w_X9_isSaid_34, w_X9_isSaid_35, w_X9_isSaid_36, w_X9_isSaid_37, w_X9_isSaid_40, w_X9_isSaid_41, w_X9_isSaid_42, w_X9_isSaid_43, w_X9_isSaid_46, w_X9_isSaid_47, w_X9_isSaid_48, mo_0 hm, mo_mute hm, mt_mute hm, ml_mute hm, mo_soundName hm, mt_soundName hm, ml_soundName hm, nl_int, nl_ref, nl_null, nl_un, nl_rf, nl_long, isR_ref, isR_null, isR_rf, rf_some, rf_none, rOf_ref, rOf_null, rOf_rf, kn_v, kn_0, true_and, and_true, and_self, tin, inA_x, inA_l, ix_add, ix_addl, ix_ladd, ix_mul, ix_mull, ix_lmul, ix_tn, lt_tn, Nat.reduceLeDiff, Nat.reduceLT, Nat.reduceAdd, Nat.reduceMul, true_or, or_true, ↓reduceIte, aOk, ref_null, null_null, false_or, Option.isSome_some, Option.getD_some, ite_true, ite_false, eq_self, not_false_eq_true, not_true_eq_false, g1, e1, e5, e6, e7, e8, show ¬ ((27 : Int64) = 0) from by decide]
        rw [anyb]
        by_cases z : ltr w (wl w - 1 - j) = c
        · simp [z, bz]
        · have := ih (j + 1) (by omega)
          simp only [div27]
          simp [z, this]
    simp (disch := first | assumption | omega | decide | rfl) only [w_X9_isSaid_0, w_X9_isSaid_1, w_X9_isSaid_4, w_X9_isSaid_5, w_X9_isSaid_6, w_X9_isSaid_11, w_X9_isSaid_12, w_X9_isSaid_15, w_X9_isSaid_16, w_X9_isSaid_17, mo_0 hm, mo_mute hm, mt_mute hm, ml_mute hm, mo_soundName hm, mt_soundName hm, ml_soundName hm, nl_int, nl_ref, nl_null, nl_un, nl_rf, nl_long, isR_ref, isR_null, isR_rf, rf_some, rf_none, rOf_ref, rOf_null, rOf_rf, kn_v, kn_0, true_and, and_true, and_self, tin, inA_x, inA_l, ix_add, ix_addl, ix_ladd, ix_mul, ix_mull, ix_lmul, ix_tn, lt_tn, Nat.reduceLeDiff, Nat.reduceLT, Nat.reduceAdd, Nat.reduceMul, true_or, or_true, ↓reduceIte, aOk, ref_null, null_null, false_or, Option.isSome_some, Option.getD_some, ite_true, ite_false, eq_self, not_false_eq_true, not_true_eq_false, g1, g2, e0, q]
    have := key (wl w) 0 (by omega)
    rw [Nat.pow_zero, Nat.div_one] at this
    rw [this]
    have e9 := anyb_rev (P := fun k => decide (ltr w k = c)) (wl w)
    rw [e9]
    simp [q, hoF]
theorem cm_like (x : M0 h m O) (hc : c < O.nS) (ha : a < O.nA) (hs : ∀ a, a < O.nA → snd a < O.nS) (hb : ∀ a, a < O.nA → Ai h (m + 53) (5 + a) = ix (snd a)) : Ca (D + 1) 194 [.ref m, .int (ix c), .int (ix a)] h Q = Q (.inl (some (.int (bz (liF O snd c a))))) h := by
  have hm := x.mo
  have n1 := x.wo.nA
  have n2 := x.wo.nS
  have g1 : Ai h (m + 6) a = ix (O.kd a) := by simpa using x.mr.kd a ha
  have g2 := hb a ha
  have b1 := hs a ha
  have b2 := x.wo.kd a ha
  have g3 := x.nt.nr c (snd a) hc b1
  have e0 : (ix (O.kd a) = 1) = (O.kd a = 1) := ix_eql (n := 1) (by omega) (by decide)
  rw [e_X9_soundsLike]
  unfold liF
  by_cases q : O.kd a = 1
  · have e0 : (ix (O.kd a) = 1) = True := by rw [e0]; exact eq_true q
    rw [if_pos q]
    simp (disch := first | assumption | omega | decide | rfl) only [w_X9_soundsLike_0, w_X9_soundsLike_1, w_X9_soundsLike_4, w_X9_soundsLike_5, w_X9_soundsLike_6, w_X9_soundsLike_7, w_X9_soundsLike_10, w_X9_soundsLike_11, w_X9_soundsLike_12, w_X9_soundsLike_15, w_X9_soundsLike_16, w_X9_soundsLike_17, w_X9_soundsLike_18, w_X9_soundsLike_19, w_X9_soundsLike_22, w_X9_soundsLike_23, w_X9_soundsLike_26, w_X9_soundsLike_27, mo_0 hm, mo_sort hm, mt_sort hm, ml_sort hm, mo_s hm, mt_s hm, ml_s hm, mo_isNear hm, mt_isNear hm, ml_isNear hm, nl_int, nl_ref, nl_null, nl_un, nl_rf, nl_long, isR_ref, isR_null, isR_rf, rf_some, rf_none, rOf_ref, rOf_null, rOf_rf, kn_v, kn_0, true_and, and_true, and_self, tin, inA_x, inA_l, ix_add, ix_addl, ix_ladd, ix_mul, ix_mull, ix_lmul, ix_tn, lt_tn, Nat.reduceLeDiff, Nat.reduceLT, Nat.reduceAdd, Nat.reduceMul, true_or, or_true, ↓reduceIte, aOk, ref_null, null_null, false_or, Option.isSome_some, Option.getD_some, ite_true, ite_false, eq_self, not_false_eq_true, not_true_eq_false, g1, g2, e0, ix_eq, ru_join, ite_cons, ite_int, ite_self]
    simp (disch := first | assumption | omega | decide | rfl) only [w_X9_soundsLike_48, nl_int, nl_ref, nl_null, nl_un, nl_rf, nl_long, isR_ref, isR_null, isR_rf, rf_some, rf_none, rOf_ref, rOf_null, rOf_rf, kn_v, kn_0, true_and, and_true, and_self, tin, inA_x, inA_l, ix_add, ix_addl, ix_ladd, ix_mul, ix_mull, ix_lmul, ix_tn, lt_tn, Nat.reduceLeDiff, Nat.reduceLT, Nat.reduceAdd, Nat.reduceMul, true_or, or_true, ↓reduceIte, aOk, ref_null, null_null, false_or, Option.isSome_some, Option.getD_some, ite_true, ite_false, eq_self, not_false_eq_true, not_true_eq_false, fot, bz_ne, bz_1, ite_bz, Bool.not_eq_false, Bool.not_eq_true]
  · have e0 : (ix (O.kd a) = 1) = False := by rw [e0]; exact eq_false q
    rw [if_neg q]
    simp (disch := first | assumption | omega | decide | rfl) only [w_X9_soundsLike_0, w_X9_soundsLike_1, w_X9_soundsLike_4, w_X9_soundsLike_5, w_X9_soundsLike_6, w_X9_soundsLike_7, w_X9_soundsLike_10, w_X9_soundsLike_11, w_X9_soundsLike_12, w_X9_soundsLike_15, w_X9_soundsLike_16, w_X9_soundsLike_17, w_X9_soundsLike_18, w_X9_soundsLike_19, w_X9_soundsLike_22, w_X9_soundsLike_23, w_X9_soundsLike_26, w_X9_soundsLike_27, w_X9_soundsLike_30, w_X9_soundsLike_31, w_X9_soundsLike_34, w_X9_soundsLike_36, w_X9_soundsLike_37, w_X9_soundsLike_38, w_X9_soundsLike_39, w_X9_soundsLike_42, w_X9_soundsLike_43, w_X9_soundsLike_44, w_X9_soundsLike_45, w_X9_soundsLike_46, w_X9_soundsLike_47, w_X9_soundsLike_48, mo_0 hm, mo_sort hm, mt_sort hm, ml_sort hm, mo_s hm, mt_s hm, ml_s hm, mo_isNear hm, mt_isNear hm, ml_isNear hm, nl_int, nl_ref, nl_null, nl_un, nl_rf, nl_long, isR_ref, isR_null, isR_rf, rf_some, rf_none, rOf_ref, rOf_null, rOf_rf, kn_v, kn_0, true_and, and_true, and_self, tin, inA_x, inA_l, ix_add, ix_addl, ix_ladd, ix_mul, ix_mull, ix_lmul, ix_tn, lt_tn, Nat.reduceLeDiff, Nat.reduceLT, Nat.reduceAdd, Nat.reduceMul, true_or, or_true, ↓reduceIte, aOk, ref_null, null_null, false_or, Option.isSome_some, Option.getD_some, ite_true, ite_false, eq_self, not_false_eq_true, not_true_eq_false, g1, g2, g3, e0, fot, bz_ne, bz_1, ite_bz, Bool.not_eq_false, Bool.not_eq_true]
theorem cm_away (ha : a < 100) (hb : b < 100) : Ca (D + 1) 195 [.int (ix a), .int (ix b)] h Q = Q (.inl (some (.int (ix (awF a b))))) h := by
  rw [e_X9_away]
  unfold awF
  by_cases q : a < b
  · have e : ix b - ix a = ix (b - a) := ix_sub (by omega)
    simp (disch := first | assumption | omega | decide | rfl) only [w_X9_away_0, w_X9_away_1, w_X9_away_2, w_X9_away_5, w_X9_away_6, w_X9_away_7, w_X9_away_8, w_X9_away_11, w_X9_away_12, w_X9_away_13, w_X9_away_14, nl_int, nl_ref, nl_null, nl_un, nl_rf, nl_long, isR_ref, isR_null, isR_rf, rf_some, rf_none, rOf_ref, rOf_null, rOf_rf, kn_v, kn_0, true_and, and_true, and_self, tin, inA_x, inA_l, ix_add, ix_addl, ix_ladd, ix_mul, ix_mull, ix_lmul, ix_tn, lt_tn, Nat.reduceLeDiff, Nat.reduceLT, Nat.reduceAdd, Nat.reduceMul, true_or, or_true, ↓reduceIte, aOk, ref_null, null_null, false_or, Option.isSome_some, Option.getD_some, ite_true, ite_false, eq_self, not_false_eq_true, not_true_eq_false, ix_lt, q, e]
  · have e : ix a - ix b = ix (a - b) := ix_sub (by omega)
    simp (disch := first | assumption | omega | decide | rfl) only [w_X9_away_0, w_X9_away_1, w_X9_away_2, w_X9_away_5, w_X9_away_6, w_X9_away_7, w_X9_away_8, w_X9_away_11, w_X9_away_12, w_X9_away_13, w_X9_away_14, nl_int, nl_ref, nl_null, nl_un, nl_rf, nl_long, isR_ref, isR_null, isR_rf, rf_some, rf_none, rOf_ref, rOf_null, rOf_rf, kn_v, kn_0, true_and, and_true, and_self, tin, inA_x, inA_l, ix_add, ix_addl, ix_ladd, ix_mul, ix_mull, ix_lmul, ix_tn, lt_tn, Nat.reduceLeDiff, Nat.reduceLT, Nat.reduceAdd, Nat.reduceMul, true_or, or_true, ↓reduceIte, aOk, ref_null, null_null, false_or, Option.isSome_some, Option.getD_some, ite_true, ite_false, eq_self, not_false_eq_true, not_true_eq_false, ix_lt, q, e]
theorem cm_welsh (x : M0 h m O) : Ca (D + 1) 197 [.ref m] h Q = Q (.inl (some (.int (ix (weF O))))) h := by
  have hm := x.mo
  have n1 := x.wo.nA
  have g0 : Ai h (m + 2) 0 = ix O.nA := x.mr.nA
  rw [e_X9_welsh]
  have key : ∀ n j, j + n = O.nA → Ru D 197 4 [.ref m, .int (ix (so (fun a => decide (O.kd a = 2)) j)), .int (ix j)] [] h Q = Q (.inl (some (.int (ix (weF O))))) h := by
    intro n
    induction n with
    | zero =>
      intro j hj
      have ej : j = O.nA := by omega
      subst ej
      have e : ¬ O.nA < O.nA := by omega
      simp (disch := first | assumption | omega | decide | rfl) only [w_X9_welsh_4, w_X9_welsh_5, w_X9_welsh_6, w_X9_welsh_9, w_X9_welsh_10, w_X9_welsh_11, w_X9_welsh_40, w_X9_welsh_41, mo_0 hm, mo_orchard hm, mt_orchard hm, ml_orchard hm, mo_sort hm, mt_sort hm, ml_sort hm, nl_int, nl_ref, nl_null, nl_un, nl_rf, nl_long, isR_ref, isR_null, isR_rf, rf_some, rf_none, rOf_ref, rOf_null, rOf_rf, kn_v, kn_0, true_and, and_true, and_self, tin, inA_x, inA_l, ix_add, ix_addl, ix_ladd, ix_mul, ix_mull, ix_lmul, ix_tn, lt_tn, Nat.reduceLeDiff, Nat.reduceLT, Nat.reduceAdd, Nat.reduceMul, true_or, or_true, ↓reduceIte, aOk, ref_null, null_null, false_or, Option.isSome_some, Option.getD_some, ite_true, ite_false, eq_self, not_false_eq_true, not_true_eq_false, g0, ix_lt, e]
      rfl
    | succ n ih =>
      intro j hj
      have e : j < O.nA := by omega
      have g1 : Ai h (m + 6) j = ix (O.kd j) := by simpa using x.mr.kd j e
      have b2 := x.wo.kd j e
      have e0 : (ix (O.kd j) = 2) = (O.kd j = 2) := ix_eql (n := 2) (by omega) (by decide)
      have e1 := ix_one (k := j) (by omega)
      rw [w_X9_welsh_4]
      simp (disch := first | assumption | omega | decide | rfl) only [w_X9_welsh_5, w_X9_welsh_6, w_X9_welsh_9, w_X9_welsh_10, w_X9_welsh_11, w_X9_welsh_14, w_X9_welsh_15, w_X9_welsh_16, w_X9_welsh_19, w_X9_welsh_20, w_X9_welsh_21, w_X9_welsh_22, w_X9_welsh_25, w_X9_welsh_26, w_X9_welsh_27, w_X9_welsh_28, w_X9_welsh_31, mo_0 hm, mo_orchard hm, mt_orchard hm, ml_orchard hm, mo_sort hm, mt_sort hm, ml_sort hm, nl_int, nl_ref, nl_null, nl_un, nl_rf, nl_long, isR_ref, isR_null, isR_rf, rf_some, rf_none, rOf_ref, rOf_null, rOf_rf, kn_v, kn_0, true_and, and_true, and_self, tin, inA_x, inA_l, ix_add, ix_addl, ix_ladd, ix_mul, ix_mull, ix_lmul, ix_tn, lt_tn, Nat.reduceLeDiff, Nat.reduceLT, Nat.reduceAdd, Nat.reduceMul, true_or, or_true, ↓reduceIte, aOk, ref_null, null_null, false_or, Option.isSome_some, Option.getD_some, ite_true, ite_false, eq_self, not_false_eq_true, not_true_eq_false, g0, g1, e0, e1, ix_lt, e, ru_join, ite_cons, ite_int, ite_self]
      have e3 : ix (so (fun a => decide (O.kd a = 2)) j) ||| (if O.kd j = 2 then ix (2 ^ j) else 0) = ix (so (fun a => decide (O.kd a = 2)) (j + 1)) := by
        rw [so]
        by_cases q : O.kd j = 2
        · rw [if_pos q, if_pos (by simpa using q), ix_or]
        · rw [if_neg q, if_neg (by simpa using q), show (0 : Int32) = ix 0 from rfl, ix_or, Nat.or_zero]
      simp (disch := first | assumption | omega | decide | rfl) only [w_X9_welsh_32, w_X9_welsh_33, w_X9_welsh_34, w_X9_welsh_37, nl_int, nl_ref, nl_null, nl_un, nl_rf, nl_long, isR_ref, isR_null, isR_rf, rf_some, rf_none, rOf_ref, rOf_null, rOf_rf, kn_v, kn_0, true_and, and_true, and_self, tin, inA_x, inA_l, ix_add, ix_addl, ix_ladd, ix_mul, ix_mull, ix_lmul, ix_tn, lt_tn, Nat.reduceLeDiff, Nat.reduceLT, Nat.reduceAdd, Nat.reduceMul, true_or, or_true, ↓reduceIte, aOk, ref_null, null_null, false_or, Option.isSome_some, Option.getD_some, ite_true, ite_false, eq_self, not_false_eq_true, not_true_eq_false, e3]
      exact ih (j + 1) (by omega)
  simp (disch := first | assumption | omega | decide | rfl) only [w_X9_welsh_0, w_X9_welsh_1, w_X9_welsh_2, w_X9_welsh_3, nl_int, nl_ref, nl_null, nl_un, nl_rf, nl_long, isR_ref, isR_null, isR_rf, rf_some, rf_none, rOf_ref, rOf_null, rOf_rf, kn_v, kn_0, true_and, and_true, and_self, tin, inA_x, inA_l, ix_add, ix_addl, ix_ladd, ix_mul, ix_mull, ix_lmul, ix_tn, lt_tn, Nat.reduceLeDiff, Nat.reduceLT, Nat.reduceAdd, Nat.reduceMul, true_or, or_true, ↓reduceIte, aOk, ref_null, null_null, false_or, Option.isSome_some, Option.getD_some, ite_true, ite_false, eq_self, not_false_eq_true, not_true_eq_false]
  exact key O.nA 0 (by omega)
end
