/-! THE MODEL: years drawn -/
set_option maxRecDepth 100000
abbrev Ys : Type := Nat × Bo × Int32
noncomputable def drK (G k : Nat) : Nat := drG G / 65536 % k
noncomputable def ysS (O : Oc) (st : Ys) (k : Nat) : Ys := if drK st.1 10 < O.sb k then (drG (drG st.1), caF O st.2.1 (O.st k) (drK (drG st.1) 12) 3, st.2.2 + grF O (flF O st.2.1 (O.st k) (drK (drG st.1) 12) 3) st.2.1.day) else (drG st.1, st.2.1, st.2.2)
noncomputable def ypF (O : Oc) (st : Ys) : Ys := if 0 < O.nP ∧ 0 < O.nS then (if saF O (drK st.1 O.nP) (drK (drG st.1) O.nS) = true then (drG (drG st.1), caF O st.2.1 (drK (drG st.1) O.nS) (O.ln (drK st.1 O.nP)) (O.ld (drK st.1 O.nP)), st.2.2 + grF O (flF O st.2.1 (drK (drG st.1) O.nS) (O.ln (drK st.1 O.nP)) (O.ld (drK st.1 O.nP))) st.2.1.day) else (drG (drG st.1), st.2.1, st.2.2)) else st
noncomputable def noP (O : Oc) (B : Bo) (a : Nat) : Bool := !((B.hang.testBit a && !B.pk) && !decide (B.day < ix (O.rp a)))
noncomputable def fpF (O : Oc) (B : Bo) : Nat := cpre (noP O B) O.nA 0
noncomputable def ykF (O : Oc) (B : Bo) : Bo := paF (if fpF O B < O.nA then piF O B (fpF O B) else B)
noncomputable def ysF (O : Oc) (st : Ys) (n : Nat) : Ys := foI (ysS O) st n
noncomputable def dyF (O : Oc) (G : Nat) (B : Bo) : Ys := ((ypF O (ysF O (G, B, 0) O.nT)).1, ykF O (ypF O (ysF O (G, B, 0) O.nT)).2.1, (ypF O (ysF O (G, B, 0) O.nT)).2.2)
noncomputable def yrF (O : Oc) (st : Ys) (n : Nat) : Ys := foI (fun st _ => ((dyF O st.1 st.2.1).1, (dyF O st.1 st.2.1).2.1, st.2.2 + (dyF O st.1 st.2.1).2.2)) st n
theorem ysF_s {O : Oc} {st : Ys} {j : Nat} : ysF O st (j + 1) = ysS O (ysF O st j) j := by unfold ysF; rw [foI]
theorem ysF_0 {O : Oc} {st : Ys} : ysF O st 0 = st := by unfold ysF; rw [foI]
noncomputable def pcF (S : Nat) : Nat → Nat
  | 0 => 0
  | n + 1 => pcF S n + (S.testBit n).toNat
noncomputable def mayY (u v w : Int32) : Bool := decide (0 ≤ u ∧ u ≤ 9999) && decide (1 ≤ v ∧ v ≤ 60) && decide (0 ≤ w ∧ w ≤ 2)
noncomputable def yeaF (O : Oc) (B : Bo) (u v w : Int32) : Int32 := if mayY u v w = true then (if w = 0 then (yrF O (tn u, B, 0) (tn v)).2.1.had - B.had else if w = 1 then (yrF O (tn u, B, 0) (tn v)).2.2 else ix (pcF (yrF O (tn u, B, 0) (tn v)).2.1.hang 16)) else -1
abbrev yA : List Nat := 35 :: 53 :: eA
abbrev yG : List Nat := [130, 131, 132, 146]
section
variable {d D m a b c p q s n k i j K T lane loud G : Nat} {h h' : AH} {Q : Rs → AH → Prop} {O : Oc} {B B0 : Bo} {A F : List Nat} {u v w : Int32} {l : List Nat} {st : Ys}
theorem cm_bits (hs : s < 65536) : Ca (D + 1) 239 [.int (ix s)] h Q = Q (.inl (some (.int (ix (pcF s 16))))) h := by
  rw [e_X9_bits]
  simp (disch := first | assumption | omega | decide | rfl) only [w_X9_bits_0, w_X9_bits_1, w_X9_bits_2, w_X9_bits_3, nl_int, nl_ref, nl_null, nl_un, nl_rf, nl_long, isR_ref, isR_null, isR_rf, rf_some, rf_none, rOf_ref, rOf_null, rOf_rf, kn_v, kn_0, true_and, and_true, and_self, tin, inA_x, inA_l, ix_add, ix_addl, ix_ladd, ix_mul, ix_mull, ix_lmul, ix_tn, lt_tn, Nat.reduceLeDiff, Nat.reduceLT, Nat.reduceAdd, Nat.reduceMul, true_or, or_true, ↓reduceIte, aOk, ref_null, null_null, false_or, Option.isSome_some, Option.getD_some, ite_true, ite_false, eq_self, not_false_eq_true, not_true_eq_false, bz_ne, bz_1, reduceCtorEq, Bool.not_true, Bool.not_false]
  refine lp (P := fun j => Ru D 239 4 [.int (ix s), .int (ix (pcF s j)), .int (ix j)] [] h Q = Q (.inl (some (.int (ix (pcF s 16))))) h) (N := 16) ?_ ?_
  · have e : (ix 16 < 16) = False := eq_false (by decide)
    rw [w_X9_bits_4]
    simp (disch := first | assumption | omega | decide | rfl) only [w_X9_bits_5, w_X9_bits_7, w_X9_bits_24, w_X9_bits_25, nl_int, nl_ref, nl_null, nl_un, nl_rf, nl_long, isR_ref, isR_null, isR_rf, rf_some, rf_none, rOf_ref, rOf_null, rOf_rf, kn_v, kn_0, true_and, and_true, and_self, tin, inA_x, inA_l, ix_add, ix_addl, ix_ladd, ix_mul, ix_mull, ix_lmul, ix_tn, lt_tn, Nat.reduceLeDiff, Nat.reduceLT, Nat.reduceAdd, Nat.reduceMul, true_or, or_true, ↓reduceIte, aOk, ref_null, null_null, false_or, Option.isSome_some, Option.getD_some, ite_true, ite_false, eq_self, not_false_eq_true, not_true_eq_false, bz_ne, bz_1, reduceCtorEq, Bool.not_true, Bool.not_false, e]
  · intro j hj nx
    have e : (ix j < 16) = True := ltT (n := 16) hj (by decide)
    have hb := has_i (n := s) (k := j) (by omega) (by omega)
    rw [w_X9_bits_4]
    simp (disch := first | assumption | omega | decide | rfl) only [w_X9_bits_5, w_X9_bits_7, w_X9_bits_10, w_X9_bits_11, w_X9_bits_12, w_X9_bits_13, w_X9_bits_14, w_X9_bits_15, w_X9_bits_16, w_X9_bits_17, w_X9_bits_18, w_X9_bits_21, nl_int, nl_ref, nl_null, nl_un, nl_rf, nl_long, isR_ref, isR_null, isR_rf, rf_some, rf_none, rOf_ref, rOf_null, rOf_rf, kn_v, kn_0, true_and, and_true, and_self, tin, inA_x, inA_l, ix_add, ix_addl, ix_ladd, ix_mul, ix_mull, ix_lmul, ix_tn, lt_tn, Nat.reduceLeDiff, Nat.reduceLT, Nat.reduceAdd, Nat.reduceMul, true_or, or_true, ↓reduceIte, aOk, ref_null, null_null, false_or, Option.isSome_some, Option.getD_some, ite_true, ite_false, eq_self, not_false_eq_true, not_true_eq_false, bz_ne, bz_1, reduceCtorEq, Bool.not_true, Bool.not_false, e, hb, ix_bzn]
    exact nx
theorem drK_lt (hk : 0 < k) : drK G k < k := Nat.mod_lt _ hk
/-- what stands in a drawn day -/
def YI (h : AH) (h' : AH) (m : Nat) (O : Oc) (st : Ys) : Prop := (Md m yA yG h h') ∧ (MB h' (m + 53) 0 O.nA st.2.1) ∧ (WB O st.2.1) ∧ (Fl h' 146 m = lix st.1) ∧ (st.1 < 2147483648)
theorem YI.md {h : AH} {h' : AH} {m : Nat} {O : Oc} {st : Ys} (x : YI h h' m O st) : Md m yA yG h h' := x.1
theorem YI.mb {h : AH} {h' : AH} {m : Nat} {O : Oc} {st : Ys} (x : YI h h' m O st) : MB h' (m + 53) 0 O.nA st.2.1 := x.2.1
theorem YI.wb {h : AH} {h' : AH} {m : Nat} {O : Oc} {st : Ys} (x : YI h h' m O st) : WB O st.2.1 := x.2.2.1
theorem YI.g {h : AH} {h' : AH} {m : Nat} {O : Oc} {st : Ys} (x : YI h h' m O st) : Fl h' 146 m = lix st.1 := x.2.2.2.1
theorem YI.lt {h : AH} {h' : AH} {m : Nat} {O : Oc} {st : Ys} (x : YI h h' m O st) : st.1 < 2147483648 := x.2.2.2.2
theorem YI.dr (x : YI h h' m O st) : YI h (sFl h' 146 m (lix (drG st.1))) m O (drG st.1, st.2) := ⟨x.md.sFl (by decide), x.mb.md (md_sFl (A := []) (F := [146]) (by decide)) (by decide), x.wb, Fl_same, drG_lt⟩
theorem lives_a (x0 : M0 h m O) (hk : k < O.nT) (x : YI h h' m O st) {v3 : Value} (nx : ∀ h2, YI h h2 m O (ysS O st k) → Ru (D + 7) 237 53 [.ref m, .int (ysS O st k).2.2, .int (ix k), v3] [] h2 Q) : Ru (D + 7) 237 14 [.ref m, .int st.2.2, .int (ix k), v3] [] h' Q := by
  have n1 := x0.wo.nA
  have n2 := x0.wo.nS
  have n4 := x0.wo.nT
  have b1 := x0.wo.st k hk
  have b2 := x0.wo.sb k hk
  have hm := x.md.mo x0.mo
  simp (disch := first | assumption | omega | decide | rfl) only [w_X9_livesDay_14, w_X9_livesDay_15, w_X9_livesDay_17, nl_int, nl_ref, nl_null, nl_un, nl_rf, nl_long, isR_ref, isR_null, isR_rf, rf_some, rf_none, rOf_ref, rOf_null, rOf_rf, kn_v, kn_0, true_and, and_true, and_self, tin, inA_x, inA_l, ix_add, ix_addl, ix_ladd, ix_mul, ix_mull, ix_lmul, ix_tn, lt_tn, Nat.reduceLeDiff, Nat.reduceLT, Nat.reduceAdd, Nat.reduceMul, true_or, or_true, ↓reduceIte, aOk, ref_null, null_null, false_or, Option.isSome_some, Option.getD_some, ite_true, ite_false, eq_self, not_false_eq_true, not_true_eq_false, bz_ne, bz_1, reduceCtorEq, Bool.not_true, Bool.not_false, mo_0 hm]
  rw [show (10 : Int32) = ix 10 from rfl, cm_draws hm x.g x.lt (by decide) (by decide), kn_v]
  rw [show drG st.1 / 65536 % 10 = drK st.1 10 from rfl]
  have d1 : drK st.1 10 < 10 := drK_lt (by decide)
  have y : YI h (sFl h' 146 m (lix (drG st.1))) m O (drG st.1, st.2) := x.dr
  revert y
  generalize sFl h' 146 m (lix (drG st.1)) = h2
  intro y
  have x2 : M0 h2 m O := x0.md y.md
  have hm2 := x2.mo
  by_cases q : drK st.1 10 < O.sb k
  · have es : ysS O st k = (drG (drG st.1), caF O st.2.1 (O.st k) (drK (drG st.1) 12) 3, st.2.2 + grF O (flF O st.2.1 (O.st k) (drK (drG st.1) 12) 3) st.2.1.day) := if_pos q
    rw [es] at nx
    simp (disch := first | assumption | omega | decide | rfl) only [w_X9_livesDay_20, w_X9_livesDay_21, w_X9_livesDay_24, w_X9_livesDay_25, w_X9_livesDay_26, w_X9_livesDay_29, w_X9_livesDay_30, w_X9_livesDay_31, w_X9_livesDay_32, w_X9_livesDay_33, w_X9_livesDay_36, w_X9_livesDay_37, w_X9_livesDay_38, w_X9_livesDay_39, w_X9_livesDay_41, nl_int, nl_ref, nl_null, nl_un, nl_rf, nl_long, isR_ref, isR_null, isR_rf, rf_some, rf_none, rOf_ref, rOf_null, rOf_rf, kn_v, kn_0, true_and, and_true, and_self, tin, inA_x, inA_l, ix_add, ix_addl, ix_ladd, ix_mul, ix_mull, ix_lmul, ix_tn, lt_tn, Nat.reduceLeDiff, Nat.reduceLT, Nat.reduceAdd, Nat.reduceMul, true_or, or_true, ↓reduceIte, aOk, ref_null, null_null, false_or, Option.isSome_some, Option.getD_some, ite_true, ite_false, eq_self, not_false_eq_true, not_true_eq_false, bz_ne, bz_1, reduceCtorEq, Bool.not_true, Bool.not_false, mo_0 hm2, mo_orchard hm2, mt_orchard hm2, ml_orchard hm2, mo_strangerBy hm2, mt_strangerBy hm2, ml_strangerBy hm2, mo_strangerOf hm2, mt_strangerOf hm2, ml_strangerOf hm2, mo_lane hm2, mt_lane hm2, ml_lane hm2, mo_loud hm2, mt_loud hm2, ml_loud hm2, mo_s hm2, mt_s hm2, ml_s hm2, mo_ripe hm2, mt_ripe hm2, ml_ripe hm2, x2.sb hk, x2.st hk, ix_lt, q]
    rw [show (12 : Int32) = ix 12 from rfl, cm_draws hm2 y.g y.lt (by decide) (by decide), kn_v]
    have y3 := y.dr
    have d2 : drK (drG st.1) 12 < 12 := drK_lt (by decide)
    rw [show drG (drG st.1, st.2).1 / 65536 % 12 = drK (drG st.1) 12 from rfl]
    revert y3
    generalize sFl h2 146 m (lix (drG (drG st.1, st.2).1)) = h3
    intro y3
    have x3 : M0 h3 m O := x0.md y3.md
    simp (disch := first | assumption | omega | decide | rfl) only [w_X9_livesDay_44, w_X9_livesDay_45, nl_int, nl_ref, nl_null, nl_un, nl_rf, nl_long, isR_ref, isR_null, isR_rf, rf_some, rf_none, rOf_ref, rOf_null, rOf_rf, kn_v, kn_0, true_and, and_true, and_self, tin, inA_x, inA_l, ix_add, ix_addl, ix_ladd, ix_mul, ix_mull, ix_lmul, ix_tn, lt_tn, Nat.reduceLeDiff, Nat.reduceLT, Nat.reduceAdd, Nat.reduceMul, true_or, or_true, ↓reduceIte, aOk, ref_null, null_null, false_or, Option.isSome_some, Option.getD_some, ite_true, ite_false, eq_self, not_false_eq_true, not_true_eq_false, bz_ne, bz_1, reduceCtorEq, Bool.not_true, Bool.not_false, mo_0 x3.mo]
    rw [show (3 : Int32) = ix 3 from rfl]
    refine ca_mono (cm_calls (B := st.2.1) x3 y3.mb y3.wb b1 d2 (by decide)) ?_
    rintro r h4 ⟨rfl, u4, mb4⟩
    have x4 : M0 h4 m O := x3.md u4
    have hf : flF O st.2.1 (O.st k) (drK (drG st.1) 12) 3 < 1024 := faF_lt (y3.wb.lt x0.wo)
    simp (disch := first | assumption | omega | decide | rfl) only [w_X9_livesDay_48, w_X9_livesDay_51, w_X9_livesDay_52, nl_int, nl_ref, nl_null, nl_un, nl_rf, nl_long, isR_ref, isR_null, isR_rf, rf_some, rf_none, rOf_ref, rOf_null, rOf_rf, kn_v, kn_0, true_and, and_true, and_self, tin, inA_x, inA_l, ix_add, ix_addl, ix_ladd, ix_mul, ix_mull, ix_lmul, ix_tn, lt_tn, Nat.reduceLeDiff, Nat.reduceLT, Nat.reduceAdd, Nat.reduceMul, true_or, or_true, ↓reduceIte, aOk, ref_null, null_null, false_or, Option.isSome_some, Option.getD_some, ite_true, ite_false, eq_self, not_false_eq_true, not_true_eq_false, bz_ne, bz_1, reduceCtorEq, Bool.not_true, Bool.not_false, mo_0 x4.mo, cm_greenOf x4 mb4 hf]
    exact nx h4 ⟨y3.md.t u4, mb4, wb_ca y3.wb, by rw [u4.fl (by decide)]; exact y3.g, drG_lt⟩
  · have es : ysS O st k = (drG st.1, st.2.1, st.2.2) := if_neg q
    rw [es] at nx
    simp (disch := first | assumption | omega | decide | rfl) only [w_X9_livesDay_20, w_X9_livesDay_21, w_X9_livesDay_24, w_X9_livesDay_25, w_X9_livesDay_26, nl_int, nl_ref, nl_null, nl_un, nl_rf, nl_long, isR_ref, isR_null, isR_rf, rf_some, rf_none, rOf_ref, rOf_null, rOf_rf, kn_v, kn_0, true_and, and_true, and_self, tin, inA_x, inA_l, ix_add, ix_addl, ix_ladd, ix_mul, ix_mull, ix_lmul, ix_tn, lt_tn, Nat.reduceLeDiff, Nat.reduceLT, Nat.reduceAdd, Nat.reduceMul, true_or, or_true, ↓reduceIte, aOk, ref_null, null_null, false_or, Option.isSome_some, Option.getD_some, ite_true, ite_false, eq_self, not_false_eq_true, not_true_eq_false, bz_ne, bz_1, reduceCtorEq, Bool.not_true, Bool.not_false, mo_0 hm2, mo_orchard hm2, mt_orchard hm2, ml_orchard hm2, mo_strangerBy hm2, mt_strangerBy hm2, ml_strangerBy hm2, mo_strangerOf hm2, mt_strangerOf hm2, ml_strangerOf hm2, mo_lane hm2, mt_lane hm2, ml_lane hm2, mo_loud hm2, mt_loud hm2, ml_loud hm2, mo_s hm2, mt_s hm2, ml_s hm2, mo_ripe hm2, mt_ripe hm2, ml_ripe hm2, x2.sb hk, ix_lt, q]
    exact nx h2 y
theorem lives_b (x0 : M0 h m O) (x : YI h h' m O st) {v2 v3 : Value} (hv : nl v2 = true) (nx : ∀ h2 (v2 v3 : Value), YI h h2 m O (ypF O st) → Ru (D + 7) 237 132 [.ref m, .int (ypF O st).2.2, v2, v3] [] h2 Q) : Ru (D + 7) 237 59 [.ref m, .int st.2.2, v2, v3] [] h' Q := by
  have n1 := x0.wo.nA
  have n2 := x0.wo.nS
  have n3 := x0.wo.nP
  have x1 : M0 h' m O := x0.md x.md
  have hm := x1.mo
  by_cases q : 0 < O.nP ∧ 0 < O.nS
  · obtain ⟨q1, q2⟩ := q
    have e1 : ((0 : Int32) < ix O.nP) = True := by rw [ix_0lt (by omega)]; exact eq_true q1
    have e2 : ((0 : Int32) < ix O.nS) = True := by rw [ix_0lt (by omega)]; exact eq_true q2
    unfold ypF at nx
    rw [if_pos ⟨q1, q2⟩] at nx
    simp (disch := first | assumption | omega | decide | rfl) only [w_X9_livesDay_59, w_X9_livesDay_60, w_X9_livesDay_63, w_X9_livesDay_64, w_X9_livesDay_65, w_X9_livesDay_68, w_X9_livesDay_69, w_X9_livesDay_72, w_X9_livesDay_73, w_X9_livesDay_74, w_X9_livesDay_77, w_X9_livesDay_78, w_X9_livesDay_79, w_X9_livesDay_82, w_X9_livesDay_83, w_X9_livesDay_84, nl_int, nl_ref, nl_null, nl_un, nl_rf, nl_long, isR_ref, isR_null, isR_rf, rf_some, rf_none, rOf_ref, rOf_null, rOf_rf, kn_v, kn_0, true_and, and_true, and_self, tin, inA_x, inA_l, ix_add, ix_addl, ix_ladd, ix_mul, ix_mull, ix_lmul, ix_tn, lt_tn, Nat.reduceLeDiff, Nat.reduceLT, Nat.reduceAdd, Nat.reduceMul, true_or, or_true, ↓reduceIte, aOk, ref_null, null_null, false_or, Option.isSome_some, Option.getD_some, ite_true, ite_false, eq_self, not_false_eq_true, not_true_eq_false, bz_ne, bz_1, reduceCtorEq, Bool.not_true, Bool.not_false, mo_0 hm, mo_orchard hm, mt_orchard hm, ml_orchard hm, mo_strangerBy hm, mt_strangerBy hm, ml_strangerBy hm, mo_strangerOf hm, mt_strangerOf hm, ml_strangerOf hm, mo_lane hm, mt_lane hm, ml_lane hm, mo_loud hm, mt_loud hm, ml_loud hm, mo_s hm, mt_s hm, ml_s hm, mo_ripe hm, mt_ripe hm, ml_ripe hm, x1.aP, x1.aS, e1, e2]
    rw [cm_draws hm x.g x.lt q1 (by omega), kn_v]
    have d1 : drK st.1 O.nP < O.nP := drK_lt q1
    rw [show drG st.1 / 65536 % O.nP = drK st.1 O.nP from rfl]
    generalize drK st.1 O.nP = p at nx d1 ⊢
    have y : YI h (sFl h' 146 m (lix (drG st.1))) m O (drG st.1, st.2) := x.dr
    revert y
    generalize sFl h' 146 m (lix (drG st.1)) = h2
    intro y
    have x2 : M0 h2 m O := x0.md y.md
    have hm2 := x2.mo
    simp (disch := first | assumption | omega | decide | rfl) only [w_X9_livesDay_87, w_X9_livesDay_88, w_X9_livesDay_89, w_X9_livesDay_90, w_X9_livesDay_93, w_X9_livesDay_94, w_X9_livesDay_95, nl_int, nl_ref, nl_null, nl_un, nl_rf, nl_long, isR_ref, isR_null, isR_rf, rf_some, rf_none, rOf_ref, rOf_null, rOf_rf, kn_v, kn_0, true_and, and_true, and_self, tin, inA_x, inA_l, ix_add, ix_addl, ix_ladd, ix_mul, ix_mull, ix_lmul, ix_tn, lt_tn, Nat.reduceLeDiff, Nat.reduceLT, Nat.reduceAdd, Nat.reduceMul, true_or, or_true, ↓reduceIte, aOk, ref_null, null_null, false_or, Option.isSome_some, Option.getD_some, ite_true, ite_false, eq_self, not_false_eq_true, not_true_eq_false, bz_ne, bz_1, reduceCtorEq, Bool.not_true, Bool.not_false, mo_0 hm2, mo_orchard hm2, mt_orchard hm2, ml_orchard hm2, mo_strangerBy hm2, mt_strangerBy hm2, ml_strangerBy hm2, mo_strangerOf hm2, mt_strangerOf hm2, ml_strangerOf hm2, mo_lane hm2, mt_lane hm2, ml_lane hm2, mo_loud hm2, mt_loud hm2, ml_loud hm2, mo_s hm2, mt_s hm2, ml_s hm2, mo_ripe hm2, mt_ripe hm2, ml_ripe hm2, x2.aS]
    rw [cm_draws hm2 y.g y.lt q2 (by omega), kn_v]
    have y3 := y.dr
    have d2 : drK (drG st.1) O.nS < O.nS := drK_lt q2
    rw [show drG (drG st.1, st.2).1 / 65536 % O.nS = drK (drG st.1) O.nS from rfl]
    generalize drK (drG st.1) O.nS = s at nx d2 ⊢
    revert y3
    generalize sFl h2 146 m (lix (drG (drG st.1, st.2).1)) = h3
    intro y3
    have x3 : M0 h3 m O := x0.md y3.md
    have hm3 := x3.mo
    simp (disch := first | assumption | omega | decide | rfl) only [w_X9_livesDay_98, w_X9_livesDay_99, w_X9_livesDay_100, w_X9_livesDay_101, w_X9_livesDay_102, nl_int, nl_ref, nl_null, nl_un, nl_rf, nl_long, isR_ref, isR_null, isR_rf, rf_some, rf_none, rOf_ref, rOf_null, rOf_rf, kn_v, kn_0, true_and, and_true, and_self, tin, inA_x, inA_l, ix_add, ix_addl, ix_ladd, ix_mul, ix_mull, ix_lmul, ix_tn, lt_tn, Nat.reduceLeDiff, Nat.reduceLT, Nat.reduceAdd, Nat.reduceMul, true_or, or_true, ↓reduceIte, aOk, ref_null, null_null, false_or, Option.isSome_some, Option.getD_some, ite_true, ite_false, eq_self, not_false_eq_true, not_true_eq_false, bz_ne, bz_1, reduceCtorEq, Bool.not_true, Bool.not_false, mo_0 hm3, cm_isSaid x3 d1 d2]
    cases q3 : saF O p s
    · rw [q3, if_neg (by decide)] at nx
      simp (disch := first | assumption | omega | decide | rfl) only [w_X9_livesDay_105, nl_int, nl_ref, nl_null, nl_un, nl_rf, nl_long, isR_ref, isR_null, isR_rf, rf_some, rf_none, rOf_ref, rOf_null, rOf_rf, kn_v, kn_0, true_and, and_true, and_self, tin, inA_x, inA_l, ix_add, ix_addl, ix_ladd, ix_mul, ix_mull, ix_lmul, ix_tn, lt_tn, Nat.reduceLeDiff, Nat.reduceLT, Nat.reduceAdd, Nat.reduceMul, true_or, or_true, ↓reduceIte, aOk, ref_null, null_null, false_or, Option.isSome_some, Option.getD_some, ite_true, ite_false, eq_self, not_false_eq_true, not_true_eq_false, bz_ne, bz_1, reduceCtorEq, Bool.not_true, Bool.not_false]
      exact nx h3 _ _ y3
    · rw [q3, if_pos rfl] at nx
      simp (disch := first | assumption | omega | decide | rfl) only [w_X9_livesDay_105, w_X9_livesDay_108, w_X9_livesDay_109, w_X9_livesDay_110, w_X9_livesDay_111, w_X9_livesDay_112, w_X9_livesDay_113, w_X9_livesDay_116, w_X9_livesDay_117, w_X9_livesDay_118, w_X9_livesDay_119, w_X9_livesDay_122, w_X9_livesDay_123, w_X9_livesDay_124, nl_int, nl_ref, nl_null, nl_un, nl_rf, nl_long, isR_ref, isR_null, isR_rf, rf_some, rf_none, rOf_ref, rOf_null, rOf_rf, kn_v, kn_0, true_and, and_true, and_self, tin, inA_x, inA_l, ix_add, ix_addl, ix_ladd, ix_mul, ix_mull, ix_lmul, ix_tn, lt_tn, Nat.reduceLeDiff, Nat.reduceLT, Nat.reduceAdd, Nat.reduceMul, true_or, or_true, ↓reduceIte, aOk, ref_null, null_null, false_or, Option.isSome_some, Option.getD_some, ite_true, ite_false, eq_self, not_false_eq_true, not_true_eq_false, bz_ne, bz_1, reduceCtorEq, Bool.not_true, Bool.not_false, mo_0 hm3, mo_orchard hm3, mt_orchard hm3, ml_orchard hm3, mo_strangerBy hm3, mt_strangerBy hm3, ml_strangerBy hm3, mo_strangerOf hm3, mt_strangerOf hm3, ml_strangerOf hm3, mo_lane hm3, mt_lane hm3, ml_lane hm3, mo_loud hm3, mt_loud hm3, ml_loud hm3, mo_s hm3, mt_s hm3, ml_s hm3, mo_ripe hm3, mt_ripe hm3, ml_ripe hm3, x3.ln d1, x3.ld d1]
      refine ca_mono (cm_calls (B := st.2.1) x3 y3.mb y3.wb d2 (x0.wo.ln p d1) (x0.wo.ld p d1)) ?_
      rintro r h4 ⟨rfl, u4, mb4⟩
      have x4 : M0 h4 m O := x3.md u4
      have hf : flF O st.2.1 s (O.ln p) (O.ld p) < 1024 := faF_lt (y3.wb.lt x0.wo)
      simp (disch := first | assumption | omega | decide | rfl) only [w_X9_livesDay_127, w_X9_livesDay_130, w_X9_livesDay_131, nl_int, nl_ref, nl_null, nl_un, nl_rf, nl_long, isR_ref, isR_null, isR_rf, rf_some, rf_none, rOf_ref, rOf_null, rOf_rf, kn_v, kn_0, true_and, and_true, and_self, tin, inA_x, inA_l, ix_add, ix_addl, ix_ladd, ix_mul, ix_mull, ix_lmul, ix_tn, lt_tn, Nat.reduceLeDiff, Nat.reduceLT, Nat.reduceAdd, Nat.reduceMul, true_or, or_true, ↓reduceIte, aOk, ref_null, null_null, false_or, Option.isSome_some, Option.getD_some, ite_true, ite_false, eq_self, not_false_eq_true, not_true_eq_false, bz_ne, bz_1, reduceCtorEq, Bool.not_true, Bool.not_false, mo_0 x4.mo, cm_greenOf x4 mb4 hf]
      exact nx h4 _ _ ⟨y3.md.t u4, mb4, wb_ca y3.wb, by rw [u4.fl (by decide)]; exact y3.g, drG_lt⟩
  · have es : ypF O st = st := if_neg q
    rw [es] at nx
    by_cases q1 : 0 < O.nP
    · have e1 : ((0 : Int32) < ix O.nP) = True := by rw [ix_0lt (by omega)]; exact eq_true q1
      have e2 : ((0 : Int32) < ix O.nS) = False := by rw [ix_0lt (by omega)]; exact eq_false (fun q2 => q ⟨q1, q2⟩)
      simp (disch := first | assumption | omega | decide | rfl) only [w_X9_livesDay_59, w_X9_livesDay_60, w_X9_livesDay_63, w_X9_livesDay_64, w_X9_livesDay_65, w_X9_livesDay_68, w_X9_livesDay_69, w_X9_livesDay_72, w_X9_livesDay_73, w_X9_livesDay_74, nl_int, nl_ref, nl_null, nl_un, nl_rf, nl_long, isR_ref, isR_null, isR_rf, rf_some, rf_none, rOf_ref, rOf_null, rOf_rf, kn_v, kn_0, true_and, and_true, and_self, tin, inA_x, inA_l, ix_add, ix_addl, ix_ladd, ix_mul, ix_mull, ix_lmul, ix_tn, lt_tn, Nat.reduceLeDiff, Nat.reduceLT, Nat.reduceAdd, Nat.reduceMul, true_or, or_true, ↓reduceIte, aOk, ref_null, null_null, false_or, Option.isSome_some, Option.getD_some, ite_true, ite_false, eq_self, not_false_eq_true, not_true_eq_false, bz_ne, bz_1, reduceCtorEq, Bool.not_true, Bool.not_false, mo_0 hm, mo_orchard hm, mt_orchard hm, ml_orchard hm, mo_strangerBy hm, mt_strangerBy hm, ml_strangerBy hm, mo_strangerOf hm, mt_strangerOf hm, ml_strangerOf hm, mo_lane hm, mt_lane hm, ml_lane hm, mo_loud hm, mt_loud hm, ml_loud hm, mo_s hm, mt_s hm, ml_s hm, mo_ripe hm, mt_ripe hm, ml_ripe hm, x1.aP, x1.aS, e1, e2]
      exact nx h' _ _ x
    · have e1 : ((0 : Int32) < ix O.nP) = False := by rw [ix_0lt (by omega)]; exact eq_false q1
      simp (disch := first | assumption | omega | decide | rfl) only [w_X9_livesDay_59, w_X9_livesDay_60, w_X9_livesDay_63, w_X9_livesDay_64, w_X9_livesDay_65, nl_int, nl_ref, nl_null, nl_un, nl_rf, nl_long, isR_ref, isR_null, isR_rf, rf_some, rf_none, rOf_ref, rOf_null, rOf_rf, kn_v, kn_0, true_and, and_true, and_self, tin, inA_x, inA_l, ix_add, ix_addl, ix_ladd, ix_mul, ix_mull, ix_lmul, ix_tn, lt_tn, Nat.reduceLeDiff, Nat.reduceLT, Nat.reduceAdd, Nat.reduceMul, true_or, or_true, ↓reduceIte, aOk, ref_null, null_null, false_or, Option.isSome_some, Option.getD_some, ite_true, ite_false, eq_self, not_false_eq_true, not_true_eq_false, bz_ne, bz_1, reduceCtorEq, Bool.not_true, Bool.not_false, mo_0 hm, mo_orchard hm, mt_orchard hm, ml_orchard hm, mo_strangerBy hm, mt_strangerBy hm, ml_strangerBy hm, mo_strangerOf hm, mt_strangerOf hm, ml_strangerOf hm, mo_lane hm, mt_lane hm, ml_lane hm, mo_loud hm, mt_loud hm, ml_loud hm, mo_s hm, mt_s hm, ml_s hm, mo_ripe hm, mt_ripe hm, ml_ripe hm, x1.aP, e1]
      exact nx h' _ _ x
theorem cpre_stop {P : Nat → Bool} : ∀ n k, cpre P n k < k + n → P (cpre P n k) = false
  | 0, k, h => by rw [cpre] at h; omega
  | n + 1, k, h => by
    rw [cpre] at h ⊢
    by_cases q : P k = true
    · rw [if_pos q] at h ⊢
      exact cpre_stop n (k + 1) (by omega)
    · rw [if_neg q]
      simpa using q
theorem lives_c (x0 : M0 h m O) (x : YI h h' m O st) {v2 v3 : Value} (nx : ∀ h2, YI h h2 m O (st.1, ykF O st.2.1, st.2.2) → Q (.inl (some (.int st.2.2))) h2) : Ru (D + 7) 237 132 [.ref m, .int st.2.2, v2, v3] [] h' Q := by
  have n1 := x0.wo.nA
  have x1 : M0 h' m O := x0.md x.md
  have hm := x1.mo
  have hh := x.wb.lt x0.wo
  have fpl := (cpre_le (noP O st.2.1) O.nA 0).2
  rw [Nat.zero_add] at fpl
  have done : Ru (D + 7) 237 173 [.ref m, .int st.2.2, .int (ix (fpF O st.2.1)), v3] [] h' Q := by
    have fpl : fpF O st.2.1 ≤ O.nA := fpl
    have last : ∀ h2 B, YI h h2 m O (st.1, B, st.2.2) → ykF O st.2.1 = paF B → Ru (D + 7) 237 189 [.ref m, .int st.2.2, .int (ix (fpF O st.2.1)), v3] [] h2 Q := by
      intro h2 B y ey
      have x2 : M0 h2 m O := x0.md y.md
      simp (disch := first | assumption | omega | decide | rfl) only [w_X9_livesDay_189, w_X9_livesDay_190, nl_int, nl_ref, nl_null, nl_un, nl_rf, nl_long, isR_ref, isR_null, isR_rf, rf_some, rf_none, rOf_ref, rOf_null, rOf_rf, kn_v, kn_0, true_and, and_true, and_self, tin, inA_x, inA_l, ix_add, ix_addl, ix_ladd, ix_mul, ix_mull, ix_lmul, ix_tn, lt_tn, Nat.reduceLeDiff, Nat.reduceLT, Nat.reduceAdd, Nat.reduceMul, true_or, or_true, ↓reduceIte, aOk, ref_null, null_null, false_or, Option.isSome_some, Option.getD_some, ite_true, ite_false, eq_self, not_false_eq_true, not_true_eq_false, bz_ne, bz_1, reduceCtorEq, Bool.not_true, Bool.not_false, mo_0 x2.mo]
      refine ca_mono (cm_passes (B := B) x2.mo y.mb) ?_
      rintro r h3 ⟨rfl, u3, mb3⟩
      simp (disch := first | assumption | omega | decide | rfl) only [w_X9_livesDay_193, w_X9_livesDay_194, nl_int, nl_ref, nl_null, nl_un, nl_rf, nl_long, isR_ref, isR_null, isR_rf, rf_some, rf_none, rOf_ref, rOf_null, rOf_rf, kn_v, kn_0, true_and, and_true, and_self, tin, inA_x, inA_l, ix_add, ix_addl, ix_ladd, ix_mul, ix_mull, ix_lmul, ix_tn, lt_tn, Nat.reduceLeDiff, Nat.reduceLT, Nat.reduceAdd, Nat.reduceMul, true_or, or_true, ↓reduceIte, aOk, ref_null, null_null, false_or, Option.isSome_some, Option.getD_some, ite_true, ite_false, eq_self, not_false_eq_true, not_true_eq_false, bz_ne, bz_1, reduceCtorEq, Bool.not_true, Bool.not_false]
      rw [ey] at nx
      exact nx h3 ⟨y.md.t u3, mb3, wb_pa y.wb, by rw [u3.fl (by decide)]; exact y.g, y.lt⟩
    unfold ykF at last
    by_cases q : fpF O st.2.1 < O.nA
    · rw [if_pos q] at last
      simp (disch := first | assumption | omega | decide | rfl) only [w_X9_livesDay_173, w_X9_livesDay_174, w_X9_livesDay_175, w_X9_livesDay_178, w_X9_livesDay_179, w_X9_livesDay_180, w_X9_livesDay_183, w_X9_livesDay_184, w_X9_livesDay_185, nl_int, nl_ref, nl_null, nl_un, nl_rf, nl_long, isR_ref, isR_null, isR_rf, rf_some, rf_none, rOf_ref, rOf_null, rOf_rf, kn_v, kn_0, true_and, and_true, and_self, tin, inA_x, inA_l, ix_add, ix_addl, ix_ladd, ix_mul, ix_mull, ix_lmul, ix_tn, lt_tn, Nat.reduceLeDiff, Nat.reduceLT, Nat.reduceAdd, Nat.reduceMul, true_or, or_true, ↓reduceIte, aOk, ref_null, null_null, false_or, Option.isSome_some, Option.getD_some, ite_true, ite_false, eq_self, not_false_eq_true, not_true_eq_false, bz_ne, bz_1, reduceCtorEq, Bool.not_true, Bool.not_false, mo_0 hm, mo_orchard hm, mt_orchard hm, ml_orchard hm, mo_strangerBy hm, mt_strangerBy hm, ml_strangerBy hm, mo_strangerOf hm, mt_strangerOf hm, ml_strangerOf hm, mo_lane hm, mt_lane hm, ml_lane hm, mo_loud hm, mt_loud hm, ml_loud hm, mo_s hm, mt_s hm, ml_s hm, mo_ripe hm, mt_ripe hm, ml_ripe hm, x1.aA, ix_lt, q]
      refine ca_mono (cm_picks (B := st.2.1) x1 x.mb q) ?_
      rintro r h3 ⟨rfl, u3, mb3⟩
      simp (disch := first | assumption | omega | decide | rfl) only [w_X9_livesDay_188, nl_int, nl_ref, nl_null, nl_un, nl_rf, nl_long, isR_ref, isR_null, isR_rf, rf_some, rf_none, rOf_ref, rOf_null, rOf_rf, kn_v, kn_0, true_and, and_true, and_self, tin, inA_x, inA_l, ix_add, ix_addl, ix_ladd, ix_mul, ix_mull, ix_lmul, ix_tn, lt_tn, Nat.reduceLeDiff, Nat.reduceLT, Nat.reduceAdd, Nat.reduceMul, true_or, or_true, ↓reduceIte, aOk, ref_null, null_null, false_or, Option.isSome_some, Option.getD_some, ite_true, ite_false, eq_self, not_false_eq_true, not_true_eq_false, bz_ne, bz_1, reduceCtorEq, Bool.not_true, Bool.not_false]
      exact last h3 _ ⟨x.md.t u3, mb3, wb_pi x.wb, by rw [u3.fl (by decide)]; exact x.g, x.lt⟩ rfl
    · rw [if_neg q] at last
      simp (disch := first | assumption | omega | decide | rfl) only [w_X9_livesDay_173, w_X9_livesDay_174, w_X9_livesDay_175, w_X9_livesDay_178, w_X9_livesDay_179, w_X9_livesDay_180, nl_int, nl_ref, nl_null, nl_un, nl_rf, nl_long, isR_ref, isR_null, isR_rf, rf_some, rf_none, rOf_ref, rOf_null, rOf_rf, kn_v, kn_0, true_and, and_true, and_self, tin, inA_x, inA_l, ix_add, ix_addl, ix_ladd, ix_mul, ix_mull, ix_lmul, ix_tn, lt_tn, Nat.reduceLeDiff, Nat.reduceLT, Nat.reduceAdd, Nat.reduceMul, true_or, or_true, ↓reduceIte, aOk, ref_null, null_null, false_or, Option.isSome_some, Option.getD_some, ite_true, ite_false, eq_self, not_false_eq_true, not_true_eq_false, bz_ne, bz_1, reduceCtorEq, Bool.not_true, Bool.not_false, mo_0 hm, mo_orchard hm, mt_orchard hm, ml_orchard hm, mo_strangerBy hm, mt_strangerBy hm, ml_strangerBy hm, mo_strangerOf hm, mt_strangerOf hm, ml_strangerOf hm, mo_lane hm, mt_lane hm, ml_lane hm, mo_loud hm, mt_loud hm, ml_loud hm, mo_s hm, mt_s hm, ml_s hm, mo_ripe hm, mt_ripe hm, ml_ripe hm, x1.aA, ix_lt, q]
      exact last h' _ x rfl
  simp (disch := first | assumption | omega | decide | rfl) only [w_X9_livesDay_132, w_X9_livesDay_133, nl_int, nl_ref, nl_null, nl_un, nl_rf, nl_long, isR_ref, isR_null, isR_rf, rf_some, rf_none, rOf_ref, rOf_null, rOf_rf, kn_v, kn_0, true_and, and_true, and_self, tin, inA_x, inA_l, ix_add, ix_addl, ix_ladd, ix_mul, ix_mull, ix_lmul, ix_tn, lt_tn, Nat.reduceLeDiff, Nat.reduceLT, Nat.reduceAdd, Nat.reduceMul, true_or, or_true, ↓reduceIte, aOk, ref_null, null_null, false_or, Option.isSome_some, Option.getD_some, ite_true, ite_false, eq_self, not_false_eq_true, not_true_eq_false, bz_ne, bz_1, reduceCtorEq, Bool.not_true, Bool.not_false]
  have key : ∀ n j, j + n = O.nA → cpre (noP O st.2.1) n j = fpF O st.2.1 → Ru (D + 7) 237 134 [.ref m, .int st.2.2, .int (ix j), v3] [] h' Q := by
    intro n
    induction n with
    | zero =>
      intro j hj e
      have e : j = fpF O st.2.1 := e
      have q : ¬ j < O.nA := by omega
      rw [w_X9_livesDay_134]
      simp (disch := first | assumption | omega | decide | rfl) only [w_X9_livesDay_135, w_X9_livesDay_136, w_X9_livesDay_139, w_X9_livesDay_140, w_X9_livesDay_141, nl_int, nl_ref, nl_null, nl_un, nl_rf, nl_long, isR_ref, isR_null, isR_rf, rf_some, rf_none, rOf_ref, rOf_null, rOf_rf, kn_v, kn_0, true_and, and_true, and_self, tin, inA_x, inA_l, ix_add, ix_addl, ix_ladd, ix_mul, ix_mull, ix_lmul, ix_tn, lt_tn, Nat.reduceLeDiff, Nat.reduceLT, Nat.reduceAdd, Nat.reduceMul, true_or, or_true, ↓reduceIte, aOk, ref_null, null_null, false_or, Option.isSome_some, Option.getD_some, ite_true, ite_false, eq_self, not_false_eq_true, not_true_eq_false, bz_ne, bz_1, reduceCtorEq, Bool.not_true, Bool.not_false, mo_0 hm, mo_orchard hm, mt_orchard hm, ml_orchard hm, mo_strangerBy hm, mt_strangerBy hm, ml_strangerBy hm, mo_strangerOf hm, mt_strangerOf hm, ml_strangerOf hm, mo_lane hm, mt_lane hm, ml_lane hm, mo_loud hm, mt_loud hm, ml_loud hm, mo_s hm, mt_s hm, ml_s hm, mo_ripe hm, mt_ripe hm, ml_ripe hm, x1.aA, ix_lt, q]
      rw [e]
      exact done
    | succ n ih =>
      intro j hj e
      have q : j < O.nA := by omega
      rw [cpre] at e
      rw [w_X9_livesDay_134]
      simp (disch := first | assumption | omega | decide | rfl) only [w_X9_livesDay_135, w_X9_livesDay_136, w_X9_livesDay_139, w_X9_livesDay_140, w_X9_livesDay_141, w_X9_livesDay_144, w_X9_livesDay_145, w_X9_livesDay_146, nl_int, nl_ref, nl_null, nl_un, nl_rf, nl_long, isR_ref, isR_null, isR_rf, rf_some, rf_none, rOf_ref, rOf_null, rOf_rf, kn_v, kn_0, true_and, and_true, and_self, tin, inA_x, inA_l, ix_add, ix_addl, ix_ladd, ix_mul, ix_mull, ix_lmul, ix_tn, lt_tn, Nat.reduceLeDiff, Nat.reduceLT, Nat.reduceAdd, Nat.reduceMul, true_or, or_true, ↓reduceIte, aOk, ref_null, null_null, false_or, Option.isSome_some, Option.getD_some, ite_true, ite_false, eq_self, not_false_eq_true, not_true_eq_false, bz_ne, bz_1, reduceCtorEq, Bool.not_true, Bool.not_false, mo_0 hm, mo_orchard hm, mt_orchard hm, ml_orchard hm, mo_strangerBy hm, mt_strangerBy hm, ml_strangerBy hm, mo_strangerOf hm, mt_strangerOf hm, ml_strangerOf hm, mo_lane hm, mt_lane hm, ml_lane hm, mo_loud hm, mt_loud hm, ml_loud hm, mo_s hm, mt_s hm, ml_s hm, mo_ripe hm, mt_ripe hm, ml_ripe hm, x1.aA, ix_lt, q, cm_canPick hm x.mb hh (show j < 10 by omega)]
      cases q1 : (st.2.1.hang.testBit j && !st.2.1.pk)
      · rw [if_pos (by unfold noP; rw [q1]; rfl)] at e
        simp (disch := first | assumption | omega | decide | rfl) only [w_X9_livesDay_149, w_X9_livesDay_167, w_X9_livesDay_170, nl_int, nl_ref, nl_null, nl_un, nl_rf, nl_long, isR_ref, isR_null, isR_rf, rf_some, rf_none, rOf_ref, rOf_null, rOf_rf, kn_v, kn_0, true_and, and_true, and_self, tin, inA_x, inA_l, ix_add, ix_addl, ix_ladd, ix_mul, ix_mull, ix_lmul, ix_tn, lt_tn, Nat.reduceLeDiff, Nat.reduceLT, Nat.reduceAdd, Nat.reduceMul, true_or, or_true, ↓reduceIte, aOk, ref_null, null_null, false_or, Option.isSome_some, Option.getD_some, ite_true, ite_false, eq_self, not_false_eq_true, not_true_eq_false, bz_ne, bz_1, reduceCtorEq, Bool.not_true, Bool.not_false]
        exact ih (j + 1) (by omega) e
      · by_cases q2 : st.2.1.day < ix (O.rp j)
        · rw [if_pos (by unfold noP; rw [q1, decide_eq_true q2]; rfl)] at e
          simp (disch := first | assumption | omega | decide | rfl) only [w_X9_livesDay_149, w_X9_livesDay_152, w_X9_livesDay_153, w_X9_livesDay_156, w_X9_livesDay_157, w_X9_livesDay_158, w_X9_livesDay_159, w_X9_livesDay_162, w_X9_livesDay_163, w_X9_livesDay_164, w_X9_livesDay_167, w_X9_livesDay_170, nl_int, nl_ref, nl_null, nl_un, nl_rf, nl_long, isR_ref, isR_null, isR_rf, rf_some, rf_none, rOf_ref, rOf_null, rOf_rf, kn_v, kn_0, true_and, and_true, and_self, tin, inA_x, inA_l, ix_add, ix_addl, ix_ladd, ix_mul, ix_mull, ix_lmul, ix_tn, lt_tn, Nat.reduceLeDiff, Nat.reduceLT, Nat.reduceAdd, Nat.reduceMul, true_or, or_true, ↓reduceIte, aOk, ref_null, null_null, false_or, Option.isSome_some, Option.getD_some, ite_true, ite_false, eq_self, not_false_eq_true, not_true_eq_false, bz_ne, bz_1, reduceCtorEq, Bool.not_true, Bool.not_false, mo_0 hm, mo_orchard hm, mt_orchard hm, ml_orchard hm, mo_strangerBy hm, mt_strangerBy hm, ml_strangerBy hm, mo_strangerOf hm, mt_strangerOf hm, ml_strangerOf hm, mo_lane hm, mt_lane hm, ml_lane hm, mo_loud hm, mt_loud hm, ml_loud hm, mo_s hm, mt_s hm, ml_s hm, mo_ripe hm, mt_ripe hm, ml_ripe hm, x.mb.d0, x1.rp q, q2]
          exact ih (j + 1) (by omega) e
        · rw [if_neg (by unfold noP; rw [q1, decide_eq_false q2]; decide)] at e
          simp (disch := first | assumption | omega | decide | rfl) only [w_X9_livesDay_149, w_X9_livesDay_152, w_X9_livesDay_153, w_X9_livesDay_156, w_X9_livesDay_157, w_X9_livesDay_158, w_X9_livesDay_159, w_X9_livesDay_162, w_X9_livesDay_163, w_X9_livesDay_164, nl_int, nl_ref, nl_null, nl_un, nl_rf, nl_long, isR_ref, isR_null, isR_rf, rf_some, rf_none, rOf_ref, rOf_null, rOf_rf, kn_v, kn_0, true_and, and_true, and_self, tin, inA_x, inA_l, ix_add, ix_addl, ix_ladd, ix_mul, ix_mull, ix_lmul, ix_tn, lt_tn, Nat.reduceLeDiff, Nat.reduceLT, Nat.reduceAdd, Nat.reduceMul, true_or, or_true, ↓reduceIte, aOk, ref_null, null_null, false_or, Option.isSome_some, Option.getD_some, ite_true, ite_false, eq_self, not_false_eq_true, not_true_eq_false, bz_ne, bz_1, reduceCtorEq, Bool.not_true, Bool.not_false, mo_0 hm, mo_orchard hm, mt_orchard hm, ml_orchard hm, mo_strangerBy hm, mt_strangerBy hm, ml_strangerBy hm, mo_strangerOf hm, mt_strangerOf hm, ml_strangerOf hm, mo_lane hm, mt_lane hm, ml_lane hm, mo_loud hm, mt_loud hm, ml_loud hm, mo_s hm, mt_s hm, ml_s hm, mo_ripe hm, mt_ripe hm, ml_ripe hm, x.mb.d0, x1.rp q, q2]
          rw [e]
          exact done
  exact key O.nA 0 (by omega) rfl
theorem cm_livesDay (x : M0 h m O) (y : YI h h m O (G, B, 0)) : Ca (D + 8) 237 [.ref m] h (fun r h' => r = .inl (some (.int (dyF O G B).2.2)) ∧ YI h h' m O (dyF O G B)) := by
  have n4 := x.wo.nT
  have fin : ∀ h4 st, st = ysF O (G, B, 0) O.nT → YI h h4 m O ((ypF O st).1, ykF O (ypF O st).2.1, (ypF O st).2.2) → (fun r h' => r = .inl (some (.int (dyF O G B).2.2)) ∧ YI h h' m O (dyF O G B) : Rs → AH → Prop) (.inl (some (.int (ypF O st).2.2))) h4 := by
    rintro h4 st rfl y4
    unfold dyF
    exact ⟨rfl, y4⟩
  revert fin
  generalize (fun r h' => r = .inl (some (.int (dyF O G B).2.2)) ∧ YI h h' m O (dyF O G B) : Rs → AH → Prop) = Q
  intro fin
  rw [e_X9_livesDay]
  simp (disch := first | assumption | omega | decide | rfl) only [w_X9_livesDay_0, w_X9_livesDay_1, w_X9_livesDay_2, w_X9_livesDay_3, nl_int, nl_ref, nl_null, nl_un, nl_rf, nl_long, isR_ref, isR_null, isR_rf, rf_some, rf_none, rOf_ref, rOf_null, rOf_rf, kn_v, kn_0, true_and, and_true, and_self, tin, inA_x, inA_l, ix_add, ix_addl, ix_ladd, ix_mul, ix_mull, ix_lmul, ix_tn, lt_tn, Nat.reduceLeDiff, Nat.reduceLT, Nat.reduceAdd, Nat.reduceMul, true_or, or_true, ↓reduceIte, aOk, ref_null, null_null, false_or, Option.isSome_some, Option.getD_some, ite_true, ite_false, eq_self, not_false_eq_true, not_true_eq_false, bz_ne, bz_1, reduceCtorEq, Bool.not_true, Bool.not_false]
  refine lp (P := fun j => ∀ h2 (v3 : Value) st, st = ysF O (G, B, 0) j → YI h h2 m O st → Ru (D + 7) 237 4 [.ref m, .int st.2.2, .int (ix j), v3] [] h2 Q) (N := O.nT) ?_ ?_ h un (G, B, 0) ysF_0.symm y
  · intro h2 v3 st es y2
    have x2 : M0 h2 m O := x.md y2.md
    have hm2 := x2.mo
    have e : ¬ O.nT < O.nT := by omega
    rw [w_X9_livesDay_4]
    simp (disch := first | assumption | omega | decide | rfl) only [w_X9_livesDay_5, w_X9_livesDay_6, w_X9_livesDay_9, w_X9_livesDay_10, w_X9_livesDay_11, nl_int, nl_ref, nl_null, nl_un, nl_rf, nl_long, isR_ref, isR_null, isR_rf, rf_some, rf_none, rOf_ref, rOf_null, rOf_rf, kn_v, kn_0, true_and, and_true, and_self, tin, inA_x, inA_l, ix_add, ix_addl, ix_ladd, ix_mul, ix_mull, ix_lmul, ix_tn, lt_tn, Nat.reduceLeDiff, Nat.reduceLT, Nat.reduceAdd, Nat.reduceMul, true_or, or_true, ↓reduceIte, aOk, ref_null, null_null, false_or, Option.isSome_some, Option.getD_some, ite_true, ite_false, eq_self, not_false_eq_true, not_true_eq_false, bz_ne, bz_1, reduceCtorEq, Bool.not_true, Bool.not_false, mo_0 hm2, mo_orchard hm2, mt_orchard hm2, ml_orchard hm2, mo_strangerBy hm2, mt_strangerBy hm2, ml_strangerBy hm2, mo_strangerOf hm2, mt_strangerOf hm2, ml_strangerOf hm2, mo_lane hm2, mt_lane hm2, ml_lane hm2, mo_loud hm2, mt_loud hm2, ml_loud hm2, mo_s hm2, mt_s hm2, ml_s hm2, mo_ripe hm2, mt_ripe hm2, ml_ripe hm2, x2.aT, ix_lt, e]
    refine lives_b x y2 rfl (fun h3 v2 v3 y3 => ?_)
    refine lives_c x y3 (fun h4 y4 => ?_)
    exact fin h4 st es y4
  · intro j hj nx h2 v3 st es y2
    have x2 : M0 h2 m O := x.md y2.md
    have hm2 := x2.mo
    have nx := fun h2 v3 => nx h2 v3 (ysS O st j) (by rw [es, ysF_s])
    rw [w_X9_livesDay_4]
    simp (disch := first | assumption | omega | decide | rfl) only [w_X9_livesDay_5, w_X9_livesDay_6, w_X9_livesDay_9, w_X9_livesDay_10, w_X9_livesDay_11, nl_int, nl_ref, nl_null, nl_un, nl_rf, nl_long, isR_ref, isR_null, isR_rf, rf_some, rf_none, rOf_ref, rOf_null, rOf_rf, kn_v, kn_0, true_and, and_true, and_self, tin, inA_x, inA_l, ix_add, ix_addl, ix_ladd, ix_mul, ix_mull, ix_lmul, ix_tn, lt_tn, Nat.reduceLeDiff, Nat.reduceLT, Nat.reduceAdd, Nat.reduceMul, true_or, or_true, ↓reduceIte, aOk, ref_null, null_null, false_or, Option.isSome_some, Option.getD_some, ite_true, ite_false, eq_self, not_false_eq_true, not_true_eq_false, bz_ne, bz_1, reduceCtorEq, Bool.not_true, Bool.not_false, mo_0 hm2, mo_orchard hm2, mt_orchard hm2, ml_orchard hm2, mo_strangerBy hm2, mt_strangerBy hm2, ml_strangerBy hm2, mo_strangerOf hm2, mt_strangerOf hm2, ml_strangerOf hm2, mo_lane hm2, mt_lane hm2, ml_lane hm2, mo_loud hm2, mt_loud hm2, ml_loud hm2, mo_s hm2, mt_s hm2, ml_s hm2, mo_ripe hm2, mt_ripe hm2, ml_ripe hm2, x2.aT, ix_lt, hj]
    refine lives_a x hj y2 (fun h3 y3 => ?_)
    simp (disch := first | assumption | omega | decide | rfl) only [w_X9_livesDay_53, w_X9_livesDay_56, nl_int, nl_ref, nl_null, nl_un, nl_rf, nl_long, isR_ref, isR_null, isR_rf, rf_some, rf_none, rOf_ref, rOf_null, rOf_rf, kn_v, kn_0, true_and, and_true, and_self, tin, inA_x, inA_l, ix_add, ix_addl, ix_ladd, ix_mul, ix_mull, ix_lmul, ix_tn, lt_tn, Nat.reduceLeDiff, Nat.reduceLT, Nat.reduceAdd, Nat.reduceMul, true_or, or_true, ↓reduceIte, aOk, ref_null, null_null, false_or, Option.isSome_some, Option.getD_some, ite_true, ite_false, eq_self, not_false_eq_true, not_true_eq_false, bz_ne, bz_1, reduceCtorEq, Bool.not_true, Bool.not_false]
    exact nx h3 v3 y3
end
