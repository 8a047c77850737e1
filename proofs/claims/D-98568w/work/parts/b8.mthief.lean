/-! THE MODEL: thieves -/
set_option maxRecDepth 100000
noncomputable def voF (v w : Int32) : Bool := decide (0 ≤ v ∧ v ≤ 11) && decide (0 ≤ w ∧ w ≤ 6)
noncomputable def thS (O : Oc) (p lane loud : Nat) (st : Bo × Int32) (k : Nat) : Bo × Int32 := (caF O st.1 (O.ts (O.pg p k)) lane loud, st.2 + su (flF O st.1 (O.ts (O.pg p k)) lane loud) (fun a => ix (O.wo a)) O.nA)
noncomputable def thF (O : Oc) (B : Bo) (p lane loud n : Nat) : Bo × Int32 := foI (thS O p lane loud) (B, 0) n
noncomputable def thA (O : Oc) (B : Bo) (p lane loud : Nat) : Int32 := (thF O B p lane loud (O.pm p)).2
noncomputable def mayV (O : Oc) (u v w : Int32) : Bool := inN u O.nG && voF v w
noncomputable def hiM (O : Oc) (B : Bo) (lane loud k n : Nat) : Int32 := foI (fun z p => if p = k then z else (if z < thA O B p lane loud then thA O B p lane loud else z)) 0 n
noncomputable def hiS (O : Oc) (B : Bo) (lane loud : Nat) (st : Int32 × Int32) (k : Nat) : Int32 × Int32 := if ¬ st.1 < 0 ∧ ¬ hiM O B lane loud k O.nG < st.2 then st else (ix k, hiM O B lane loud k O.nG)
noncomputable def hiF (O : Oc) (B : Bo) (lane loud n : Nat) : Int32 × Int32 := foI (hiS O B lane loud) (-1, 0) n
noncomputable def hidF (O : Oc) (B : Bo) (v w : Int32) : Int32 := if (voF v w && !decide (O.nG < 2)) = true then (hiF O B (tn v) (tn w) O.nG).1 else -1
section
variable {d D m a b c p q s n k i j K T lane loud : Nat} {h h' : AH} {Q : Rs → AH → Prop} {O : Oc} {B : Bo} {A F : List Nat} {u v w : Int32} {l : List Nat}
theorem th_snd : ∀ n, (thF O B p lane loud n).1.snd = B.snd
  | 0 => rfl
  | n + 1 => th_snd n
theorem th_wb (z : WB O B) : ∀ n, WB O (thF O B p lane loud n).1
  | 0 => z
  | n + 1 => wb_ca (th_wb z n)
theorem cm_isVoice : Ca (D + 2) 231 [.int v, .int w] h Q = Q (.inl (some (.int (bz (voF v w))))) h := by
  rw [e_X9_isVoice]
  unfold voF
  cases q1 : decide (0 ≤ v ∧ v ≤ 11)
  · simp (disch := first | assumption | omega | decide | rfl) only [w_X9_isVoice_0, w_X9_isVoice_1, w_X9_isVoice_2, w_X9_isVoice_4, w_X9_isVoice_7, w_X9_isVoice_24, w_X9_isVoice_25, nl_int, nl_ref, nl_null, nl_un, nl_rf, nl_long, isR_ref, isR_null, isR_rf, rf_some, rf_none, rOf_ref, rOf_null, rOf_rf, kn_v, kn_0, true_and, and_true, and_self, tin, inA_x, inA_l, ix_add, ix_addl, ix_ladd, ix_mul, ix_mull, ix_lmul, ix_tn, lt_tn, Nat.reduceLeDiff, Nat.reduceLT, Nat.reduceAdd, Nat.reduceMul, true_or, or_true, ↓reduceIte, aOk, ref_null, null_null, false_or, Option.isSome_some, Option.getD_some, ite_true, ite_false, eq_self, not_false_eq_true, not_true_eq_false, bz_ne, bz_1, reduceCtorEq, Bool.not_true, Bool.not_false, cm_within, q1, Bool.false_and]
    rfl
  · cases q2 : decide (0 ≤ w ∧ w ≤ 6)
    · simp (disch := first | assumption | omega | decide | rfl) only [w_X9_isVoice_0, w_X9_isVoice_1, w_X9_isVoice_2, w_X9_isVoice_4, w_X9_isVoice_7, w_X9_isVoice_10, w_X9_isVoice_11, w_X9_isVoice_12, w_X9_isVoice_14, w_X9_isVoice_17, w_X9_isVoice_24, w_X9_isVoice_25, nl_int, nl_ref, nl_null, nl_un, nl_rf, nl_long, isR_ref, isR_null, isR_rf, rf_some, rf_none, rOf_ref, rOf_null, rOf_rf, kn_v, kn_0, true_and, and_true, and_self, tin, inA_x, inA_l, ix_add, ix_addl, ix_ladd, ix_mul, ix_mull, ix_lmul, ix_tn, lt_tn, Nat.reduceLeDiff, Nat.reduceLT, Nat.reduceAdd, Nat.reduceMul, true_or, or_true, ↓reduceIte, aOk, ref_null, null_null, false_or, Option.isSome_some, Option.getD_some, ite_true, ite_false, eq_self, not_false_eq_true, not_true_eq_false, bz_ne, bz_1, reduceCtorEq, Bool.not_true, Bool.not_false, cm_within, q1, q2, Bool.and_false]
      rfl
    · simp (disch := first | assumption | omega | decide | rfl) only [w_X9_isVoice_0, w_X9_isVoice_1, w_X9_isVoice_2, w_X9_isVoice_4, w_X9_isVoice_7, w_X9_isVoice_10, w_X9_isVoice_11, w_X9_isVoice_12, w_X9_isVoice_14, w_X9_isVoice_17, w_X9_isVoice_20, w_X9_isVoice_21, w_X9_isVoice_25, nl_int, nl_ref, nl_null, nl_un, nl_rf, nl_long, isR_ref, isR_null, isR_rf, rf_some, rf_none, rOf_ref, rOf_null, rOf_rf, kn_v, kn_0, true_and, and_true, and_self, tin, inA_x, inA_l, ix_add, ix_addl, ix_ladd, ix_mul, ix_mull, ix_lmul, ix_tn, lt_tn, Nat.reduceLeDiff, Nat.reduceLT, Nat.reduceAdd, Nat.reduceMul, true_or, or_true, ↓reduceIte, aOk, ref_null, null_null, false_or, Option.isSome_some, Option.getD_some, ite_true, ite_false, eq_self, not_false_eq_true, not_true_eq_false, bz_ne, bz_1, reduceCtorEq, Bool.not_true, Bool.not_false, cm_within, q1, q2, Bool.and_true]
      rfl
theorem voF_ex (hv : voF v w = true) : ∃ a b, a < 12 ∧ b < 7 ∧ v = ix a ∧ w = ix b := by
  unfold voF at hv
  rw [Bool.and_eq_true, decide_eq_true_eq, decide_eq_true_eq] at hv
  obtain ⟨a, _, h2, e1⟩ := vr_ex (lo := 0) (hi := 11) (by decide) hv.1 (by decide)
  obtain ⟨b, _, h4, e2⟩ := vr_ex (lo := 0) (hi := 6) (by decide) hv.2 (by decide)
  exact ⟨a, b, by omega, by omega, e1, e2⟩
theorem cm_thiefOf (x : M0 h m O) (y : MB h (m + 53) 0 O.nA B) (z : WB O B) (hp : p < O.nG) (hl : lane < 12) (hd : loud < 7) (fin : ∀ h', Md m [] [130, 131, 132] h h' → Q (.inl (some (.int (thA O B p lane loud)))) h') : Ca (D + 3) 232 [.ref m, .int (ix p), .int (ix lane), .int (ix loud)] h Q := by
  have n1 := x.wo.nA
  have n2 := x.wo.nS
  have n5 := x.wo.nG
  have pb := x.wo.pm p hp
  rw [e_X9_thiefOf]
  simp (disch := first | assumption | omega | decide | rfl) only [w_X9_thiefOf_0, w_X9_thiefOf_1, w_X9_thiefOf_4, w_X9_thiefOf_5, w_X9_thiefOf_6, w_X9_thiefOf_8, w_X9_thiefOf_9, w_X9_thiefOf_12, w_X9_thiefOf_13, w_X9_thiefOf_14, w_X9_thiefOf_16, w_X9_thiefOf_17, w_X9_thiefOf_19, w_X9_thiefOf_20, nl_int, nl_ref, nl_null, nl_un, nl_rf, nl_long, isR_ref, isR_null, isR_rf, rf_some, rf_none, rOf_ref, rOf_null, rOf_rf, kn_v, kn_0, true_and, and_true, and_self, tin, inA_x, inA_l, ix_add, ix_addl, ix_ladd, ix_mul, ix_mull, ix_lmul, ix_tn, lt_tn, Nat.reduceLeDiff, Nat.reduceLT, Nat.reduceAdd, Nat.reduceMul, true_or, or_true, ↓reduceIte, aOk, ref_null, null_null, false_or, Option.isSome_some, Option.getD_some, ite_true, ite_false, eq_self, not_false_eq_true, not_true_eq_false, bz_ne, bz_1, reduceCtorEq, Bool.not_true, Bool.not_false, mo_0 x.mo, mo_s x.mo, mt_s x.mo, ml_s x.mo, mo_pageMany x.mo, mt_pageMany x.mo, ml_pageMany x.mo, mo_soundTold x.mo, mt_soundTold x.mo, ml_soundTold x.mo, mo_pageOf x.mo, mt_pageOf x.mo, ml_pageOf x.mo, mo_orchard x.mo, mt_orchard x.mo, ml_orchard x.mo, mo_worthTold x.mo, mt_worthTold x.mo, ml_worthTold x.mo, y.h0, y.l0]
  refine lp (P := fun j => ∀ h2 (v8 v9 : Value), Md m [] [130, 131, 132] h h2 → Ru (D + 2) 232 22 [.ref m, .int (ix p), .int (ix lane), .int (ix loud), .int (ix (thF O B p lane loud j).1.hang), .int (ix (thF O B p lane loud j).1.loose), .int (thF O B p lane loud j).2, .int (ix j), v8, v9] [] h2 Q) (N := O.pm p) ?_ ?_ h un un Md.refl
  · intro h2 v8 v9 u2
    have x2 : M0 h2 m O := x.md u2
    have hm2 := x2.mo
    have e : ¬ O.pm p < O.pm p := by omega
    rw [w_X9_thiefOf_22]
    simp (disch := first | assumption | omega | decide | rfl) only [w_X9_thiefOf_24, w_X9_thiefOf_25, w_X9_thiefOf_28, w_X9_thiefOf_29, w_X9_thiefOf_30, w_X9_thiefOf_142, w_X9_thiefOf_144, nl_int, nl_ref, nl_null, nl_un, nl_rf, nl_long, isR_ref, isR_null, isR_rf, rf_some, rf_none, rOf_ref, rOf_null, rOf_rf, kn_v, kn_0, true_and, and_true, and_self, tin, inA_x, inA_l, ix_add, ix_addl, ix_ladd, ix_mul, ix_mull, ix_lmul, ix_tn, lt_tn, Nat.reduceLeDiff, Nat.reduceLT, Nat.reduceAdd, Nat.reduceMul, true_or, or_true, ↓reduceIte, aOk, ref_null, null_null, false_or, Option.isSome_some, Option.getD_some, ite_true, ite_false, eq_self, not_false_eq_true, not_true_eq_false, bz_ne, bz_1, reduceCtorEq, Bool.not_true, Bool.not_false, mo_0 hm2, mo_s hm2, mt_s hm2, ml_s hm2, mo_pageMany hm2, mt_pageMany hm2, ml_pageMany hm2, mo_soundTold hm2, mt_soundTold hm2, ml_soundTold hm2, mo_pageOf hm2, mt_pageOf hm2, ml_pageOf hm2, mo_orchard hm2, mt_orchard hm2, ml_orchard hm2, mo_worthTold hm2, mt_worthTold hm2, ml_worthTold hm2, x2.pm hp, ix_lt, e]
    exact fin h2 u2
  · intro j hj nx h2 v8 v9 u2
    have x2 : M0 h2 m O := x.md u2
    have hm2 := x2.mo
    have y2 : MB h2 (m + 53) 0 O.nA B := y.md u2 (by decide)
    have g1 := x2.pg hp hj
    have b1 := x.wo.pg p hp j hj
    have g2 := x2.ts b1
    have b2 := x.wo.ts _ b1
    have es : thF O B p lane loud (j + 1) = thS O p lane loud (thF O B p lane loud j) j := rfl
    rw [es] at nx
    have sn := th_snd (O := O) (B := B) (p := p) (lane := lane) (loud := loud) j
    have wb := th_wb (O := O) (B := B) (p := p) (lane := lane) (loud := loud) z j
    revert nx sn wb
    generalize thF O B p lane loud j = st
    intro nx sn wb
    have hh := wb.lt x.wo
    unfold thS at nx
    rw [w_X9_thiefOf_22]
    simp (disch := first | assumption | omega | decide | rfl) only [w_X9_thiefOf_24, w_X9_thiefOf_25, w_X9_thiefOf_28, w_X9_thiefOf_29, w_X9_thiefOf_30, w_X9_thiefOf_33, w_X9_thiefOf_34, w_X9_thiefOf_35, w_X9_thiefOf_38, w_X9_thiefOf_39, w_X9_thiefOf_42, w_X9_thiefOf_44, w_X9_thiefOf_45, w_X9_thiefOf_46, w_X9_thiefOf_48, w_X9_thiefOf_49, w_X9_thiefOf_50, w_X9_thiefOf_51, w_X9_thiefOf_52, w_X9_thiefOf_53, nl_int, nl_ref, nl_null, nl_un, nl_rf, nl_long, isR_ref, isR_null, isR_rf, rf_some, rf_none, rOf_ref, rOf_null, rOf_rf, kn_v, kn_0, true_and, and_true, and_self, tin, inA_x, inA_l, ix_add, ix_addl, ix_ladd, ix_mul, ix_mull, ix_lmul, ix_tn, lt_tn, Nat.reduceLeDiff, Nat.reduceLT, Nat.reduceAdd, Nat.reduceMul, true_or, or_true, ↓reduceIte, aOk, ref_null, null_null, false_or, Option.isSome_some, Option.getD_some, ite_true, ite_false, eq_self, not_false_eq_true, not_true_eq_false, bz_ne, bz_1, reduceCtorEq, Bool.not_true, Bool.not_false, mo_0 hm2, mo_s hm2, mt_s hm2, ml_s hm2, mo_pageMany hm2, mt_pageMany hm2, ml_pageMany hm2, mo_soundTold hm2, mt_soundTold hm2, ml_soundTold hm2, mo_pageOf hm2, mt_pageOf hm2, ml_pageOf hm2, mo_orchard hm2, mt_orchard hm2, ml_orchard hm2, mo_worthTold hm2, mt_worthTold hm2, ml_worthTold hm2, x2.pm hp, ix_lt, hj, g1, g2]
    rw [cm_hears (snd := B.snd) x2 b2 hl hd z.snd y2.s0, kn_0]
    generalize O.ts (O.pg p j) = s at nx ⊢
    have u3 : Md m [] [130, 131, 132] h (sFi (sFi h2 130 m (ix (whF O B.snd s lane loud))) 131 m (ix (ecF O B.snd s lane loud))) := (u2.sFi (by decide)).sFi (by decide)
    have a1 : Fi (sFi (sFi h2 130 m (ix (whF O B.snd s lane loud))) 131 m (ix (ecF O B.snd s lane loud))) 130 m = ix (whF O B.snd s lane loud) := by rw [Fi_otherf (by decide), Fi_same]
    have a2 : Fi (sFi (sFi h2 130 m (ix (whF O B.snd s lane loud))) 131 m (ix (ecF O B.snd s lane loud))) 131 m = ix (ecF O B.snd s lane loud) := Fi_same
    revert u3 a1 a2
    generalize sFi (sFi h2 130 m (ix (whF O B.snd s lane loud))) 131 m (ix (ecF O B.snd s lane loud)) = h3
    intro u3 a1 a2
    have x3 : M0 h3 m O := x.md u3
    have hm3 := x3.mo
    simp (disch := first | assumption | omega | decide | rfl) only [w_X9_thiefOf_56, w_X9_thiefOf_57, w_X9_thiefOf_59, w_X9_thiefOf_61, w_X9_thiefOf_62, w_X9_thiefOf_65, w_X9_thiefOf_66, w_X9_thiefOf_69, nl_int, nl_ref, nl_null, nl_un, nl_rf, nl_long, isR_ref, isR_null, isR_rf, rf_some, rf_none, rOf_ref, rOf_null, rOf_rf, kn_v, kn_0, true_and, and_true, and_self, tin, inA_x, inA_l, ix_add, ix_addl, ix_ladd, ix_mul, ix_mull, ix_lmul, ix_tn, lt_tn, Nat.reduceLeDiff, Nat.reduceLT, Nat.reduceAdd, Nat.reduceMul, true_or, or_true, ↓reduceIte, aOk, ref_null, null_null, false_or, Option.isSome_some, Option.getD_some, ite_true, ite_false, eq_self, not_false_eq_true, not_true_eq_false, bz_ne, bz_1, reduceCtorEq, Bool.not_true, Bool.not_false, mo_0 hm3, mo_s hm3, mt_s hm3, ml_s hm3, mo_pageMany hm3, mt_pageMany hm3, ml_pageMany hm3, mo_soundTold hm3, mt_soundTold hm3, ml_soundTold hm3, mo_pageOf hm3, mt_pageOf hm3, ml_pageOf hm3, mo_orchard hm3, mt_orchard hm3, ml_orchard hm3, mo_worthTold hm3, mt_worthTold hm3, ml_worthTold hm3, a1, a2]
    rw [cm_fallsBy x3 hh, kn_v]
    have ef : faF O st.1.hang st.1.loose (whF O B.snd s lane loud) (ecF O B.snd s lane loud) = flF O st.1 s lane loud := by unfold flF; rw [sn]
    have el : loF O st.1.hang st.1.loose (whF O B.snd s lane loud) (ecF O B.snd s lane loud) = (caF O st.1 s lane loud).loose := by show _ = loF O st.1.hang st.1.loose (whF O st.1.snd s lane loud) (ecF O st.1.snd s lane loud); rw [sn]
    have hf : flF O st.1 s lane loud < 1024 := faF_lt hh
    rw [ef, el]
    have u4 : Md m [] [130, 131, 132] h (sFi h3 132 m (ix (caF O st.1 s lane loud).loose)) := u3.sFi (by decide)
    have a3 : Fi (sFi h3 132 m (ix (caF O st.1 s lane loud).loose)) 132 m = ix (caF O st.1 s lane loud).loose := Fi_same
    revert u4 a3
    generalize sFi h3 132 m (ix (caF O st.1 s lane loud).loose) = h4
    intro u4 a3
    have x4 : M0 h4 m O := x.md u4
    have hm4 := x4.mo
    simp (disch := first | assumption | omega | decide | rfl) only [w_X9_thiefOf_72, w_X9_thiefOf_74, w_X9_thiefOf_76, w_X9_thiefOf_78, w_X9_thiefOf_79, w_X9_thiefOf_80, w_X9_thiefOf_81, w_X9_thiefOf_83, w_X9_thiefOf_84, w_X9_thiefOf_87, w_X9_thiefOf_89, w_X9_thiefOf_90, nl_int, nl_ref, nl_null, nl_un, nl_rf, nl_long, isR_ref, isR_null, isR_rf, rf_some, rf_none, rOf_ref, rOf_null, rOf_rf, kn_v, kn_0, true_and, and_true, and_self, tin, inA_x, inA_l, ix_add, ix_addl, ix_ladd, ix_mul, ix_mull, ix_lmul, ix_tn, lt_tn, Nat.reduceLeDiff, Nat.reduceLT, Nat.reduceAdd, Nat.reduceMul, true_or, or_true, ↓reduceIte, aOk, ref_null, null_null, false_or, Option.isSome_some, Option.getD_some, ite_true, ite_false, eq_self, not_false_eq_true, not_true_eq_false, bz_ne, bz_1, reduceCtorEq, Bool.not_true, Bool.not_false, mo_0 hm4, mo_s hm4, mt_s hm4, ml_s hm4, mo_pageMany hm4, mt_pageMany hm4, ml_pageMany hm4, mo_soundTold hm4, mt_soundTold hm4, ml_soundTold hm4, mo_pageOf hm4, mt_pageOf hm4, ml_pageOf hm4, mo_orchard hm4, mt_orchard hm4, ml_orchard hm4, mo_worthTold hm4, mt_worthTold hm4, ml_worthTold hm4, a3, ix_sd]
    refine (fun t => ?b0) (lp (P := fun i => Ru (D + 2) 232 92 [.ref m, .int (ix p), .int (ix lane), .int (ix loud), .int (ix (caF O st.1 s lane loud).hang), .int (ix (caF O st.1 s lane loud).loose), .int (st.2 + su (flF O st.1 s lane loud) (fun a => ix (O.wo a)) i), .int (ix j), .int (ix (flF O st.1 s lane loud)), .int (ix i)] [] h4 Q) (N := O.nA) ?b1 ?b2)
    case b0 =>
      rw [show st.2 + su (flF O st.1 s lane loud) (fun a => ix (O.wo a)) 0 = st.2 from i32_0 _] at t
      exact t
    case b1 =>
      have e : ¬ O.nA < O.nA := by omega
      rw [w_X9_thiefOf_92]
      simp (disch := first | assumption | omega | decide | rfl) only [w_X9_thiefOf_94, w_X9_thiefOf_95, w_X9_thiefOf_98, w_X9_thiefOf_99, w_X9_thiefOf_100, w_X9_thiefOf_136, w_X9_thiefOf_139, nl_int, nl_ref, nl_null, nl_un, nl_rf, nl_long, isR_ref, isR_null, isR_rf, rf_some, rf_none, rOf_ref, rOf_null, rOf_rf, kn_v, kn_0, true_and, and_true, and_self, tin, inA_x, inA_l, ix_add, ix_addl, ix_ladd, ix_mul, ix_mull, ix_lmul, ix_tn, lt_tn, Nat.reduceLeDiff, Nat.reduceLT, Nat.reduceAdd, Nat.reduceMul, true_or, or_true, ↓reduceIte, aOk, ref_null, null_null, false_or, Option.isSome_some, Option.getD_some, ite_true, ite_false, eq_self, not_false_eq_true, not_true_eq_false, bz_ne, bz_1, reduceCtorEq, Bool.not_true, Bool.not_false, mo_0 hm4, mo_s hm4, mt_s hm4, ml_s hm4, mo_pageMany hm4, mt_pageMany hm4, ml_pageMany hm4, mo_soundTold hm4, mt_soundTold hm4, ml_soundTold hm4, mo_pageOf hm4, mt_pageOf hm4, ml_pageOf hm4, mo_orchard hm4, mt_orchard hm4, ml_orchard hm4, mo_worthTold hm4, mt_worthTold hm4, ml_worthTold hm4, x4.aA, ix_lt, e]
      exact nx h4 _ _ u4
    case b2 =>
      intro i hi ni
      have g5 := x4.wt hi
      have hb := has_b (n := flF O st.1 s lane loud) (k := i) (by omega) (by omega)
      rw [su, ← Int32.add_assoc] at ni
      rw [w_X9_thiefOf_92]
      cases q1 : (flF O st.1 s lane loud).testBit i
      · have hb : (ix (flF O st.1 s lane loud) >>> (ix i &&& 31) &&& 1 = 1) = False := by rw [hb, q1]; simp
        rw [q1, if_neg (by decide)] at ni
        simp (disch := first | assumption | omega | decide | rfl) only [w_X9_thiefOf_94, w_X9_thiefOf_95, w_X9_thiefOf_98, w_X9_thiefOf_99, w_X9_thiefOf_100, w_X9_thiefOf_103, w_X9_thiefOf_105, w_X9_thiefOf_107, w_X9_thiefOf_109, w_X9_thiefOf_110, w_X9_thiefOf_111, w_X9_thiefOf_112, w_X9_thiefOf_113, w_X9_thiefOf_126, w_X9_thiefOf_127, w_X9_thiefOf_128, w_X9_thiefOf_130, w_X9_thiefOf_133, nl_int, nl_ref, nl_null, nl_un, nl_rf, nl_long, isR_ref, isR_null, isR_rf, rf_some, rf_none, rOf_ref, rOf_null, rOf_rf, kn_v, kn_0, true_and, and_true, and_self, tin, inA_x, inA_l, ix_add, ix_addl, ix_ladd, ix_mul, ix_mull, ix_lmul, ix_tn, lt_tn, Nat.reduceLeDiff, Nat.reduceLT, Nat.reduceAdd, Nat.reduceMul, true_or, or_true, ↓reduceIte, aOk, ref_null, null_null, false_or, Option.isSome_some, Option.getD_some, ite_true, ite_false, eq_self, not_false_eq_true, not_true_eq_false, bz_ne, bz_1, reduceCtorEq, Bool.not_true, Bool.not_false, mo_0 hm4, mo_s hm4, mt_s hm4, ml_s hm4, mo_pageMany hm4, mt_pageMany hm4, ml_pageMany hm4, mo_soundTold hm4, mt_soundTold hm4, ml_soundTold hm4, mo_pageOf hm4, mt_pageOf hm4, ml_pageOf hm4, mo_orchard hm4, mt_orchard hm4, ml_orchard hm4, mo_worthTold hm4, mt_worthTold hm4, ml_worthTold hm4, x4.aA, ix_lt, hi, hb]
        exact ni
      · have hb : (ix (flF O st.1 s lane loud) >>> (ix i &&& 31) &&& 1 = 1) = True := by rw [hb, q1]; simp
        rw [q1, if_pos rfl] at ni
        simp (disch := first | assumption | omega | decide | rfl) only [w_X9_thiefOf_94, w_X9_thiefOf_95, w_X9_thiefOf_98, w_X9_thiefOf_99, w_X9_thiefOf_100, w_X9_thiefOf_103, w_X9_thiefOf_105, w_X9_thiefOf_107, w_X9_thiefOf_109, w_X9_thiefOf_110, w_X9_thiefOf_111, w_X9_thiefOf_112, w_X9_thiefOf_113, w_X9_thiefOf_116, w_X9_thiefOf_117, w_X9_thiefOf_120, w_X9_thiefOf_122, w_X9_thiefOf_123, w_X9_thiefOf_127, w_X9_thiefOf_128, w_X9_thiefOf_130, w_X9_thiefOf_133, nl_int, nl_ref, nl_null, nl_un, nl_rf, nl_long, isR_ref, isR_null, isR_rf, rf_some, rf_none, rOf_ref, rOf_null, rOf_rf, kn_v, kn_0, true_and, and_true, and_self, tin, inA_x, inA_l, ix_add, ix_addl, ix_ladd, ix_mul, ix_mull, ix_lmul, ix_tn, lt_tn, Nat.reduceLeDiff, Nat.reduceLT, Nat.reduceAdd, Nat.reduceMul, true_or, or_true, ↓reduceIte, aOk, ref_null, null_null, false_or, Option.isSome_some, Option.getD_some, ite_true, ite_false, eq_self, not_false_eq_true, not_true_eq_false, bz_ne, bz_1, reduceCtorEq, Bool.not_true, Bool.not_false, mo_0 hm4, mo_s hm4, mt_s hm4, ml_s hm4, mo_pageMany hm4, mt_pageMany hm4, ml_pageMany hm4, mo_soundTold hm4, mt_soundTold hm4, ml_soundTold hm4, mo_pageOf hm4, mt_pageOf hm4, ml_pageOf hm4, mo_orchard hm4, mt_orchard hm4, ml_orchard hm4, mo_worthTold hm4, mt_worthTold hm4, ml_worthTold hm4, x4.aA, ix_lt, hi, hb, g5]
        exact ni
theorem cm_thief (x : M0 h m O) (y : MB h (m + 53) 0 O.nA B) (z : WB O B) : Ca (D + 4) 230 [.ref m, .int u, .int v, .int w] h (fun r h' => r = .inl (some (.int (if mayV O u v w = true then thA O B (tn u) (tn v) (tn w) else 0))) ∧ Md m [] [60, 130, 131, 132] h h' ∧ Fi h' 60 m = (if mayV O u v w = true then 0 else 1)) := by
  have n5 := x.wo.nG
  have hm := x.mo
  generalize hQ : (fun r h' => r = .inl (some (.int (if mayV O u v w = true then thA O B (tn u) (tn v) (tn w) else 0))) ∧ Md m [] [60, 130, 131, 132] h h' ∧ Fi h' 60 m = (if mayV O u v w = true then 0 else 1) : Rs → AH → Prop) = Q
  have bad : mayV O u v w = false → Ru (D + 3) 230 28 [.ref m, .int u, .int v, .int w] [.int 1, .ref m] h Q := by
    intro q
    have u1 : Md m [] [60, 130, 131, 132] h (sFi h 60 m 1) := md_sFi (by decide)
    simp (disch := first | assumption | omega | decide | rfl) only [w_X9_thief_28, w_X9_thief_31, w_X9_thief_32, w_X9_thief_35, w_X9_thief_36, w_X9_thief_39, w_X9_thief_40, w_X9_thief_50, nl_int, nl_ref, nl_null, nl_un, nl_rf, nl_long, isR_ref, isR_null, isR_rf, rf_some, rf_none, rOf_ref, rOf_null, rOf_rf, kn_v, kn_0, true_and, and_true, and_self, tin, inA_x, inA_l, ix_add, ix_addl, ix_ladd, ix_mul, ix_mull, ix_lmul, ix_tn, lt_tn, Nat.reduceLeDiff, Nat.reduceLT, Nat.reduceAdd, Nat.reduceMul, true_or, or_true, ↓reduceIte, aOk, ref_null, null_null, false_or, Option.isSome_some, Option.getD_some, ite_true, ite_false, eq_self, not_false_eq_true, not_true_eq_false, bz_ne, bz_1, reduceCtorEq, Bool.not_true, Bool.not_false, mo_0 hm, Tg_sFi, Tg_sFl, Tg_sFr, Tg_sAi, Tg_sAl, Tg_sAr, An_sFi, An_sFl, An_sFr, An_sAi, An_sAl, An_sAr, Fi_sFl, Fi_sFr, Fi_sAi, Fi_sAl, Fi_sAr, Fl_sFi, Fl_sFr, Fl_sAi, Fl_sAl, Fl_sAr, Fr_sFi, Fr_sFl, Fr_sAi, Fr_sAl, Fr_sAr, Ai_sFi, Ai_sFl, Ai_sFr, Ai_sAl, Ai_sAr, Al_sFi, Al_sFl, Al_sFr, Al_sAi, Al_sAr, Ar_sFi, Ar_sFl, Ar_sFr, Ar_sAi, Ar_sAl, Fi_same, Fl_same, Fr_same, Ai_same, Al_same, Ar_same, Fi_otherf, Fl_otherf, Fr_otherf]
    rw [← hQ, q]
    exact ⟨rfl, u1, Fi_same⟩
  rw [e_X9_thief]
  cases q1 : inN u O.nG
  · have bad := bad (by unfold mayV; rw [q1]; rfl)
    by_cases q2 : u < 0
    · simp (disch := first | assumption | omega | decide | rfl) only [w_X9_thief_0, w_X9_thief_1, w_X9_thief_2, w_X9_thief_27, nl_int, nl_ref, nl_null, nl_un, nl_rf, nl_long, isR_ref, isR_null, isR_rf, rf_some, rf_none, rOf_ref, rOf_null, rOf_rf, kn_v, kn_0, true_and, and_true, and_self, tin, inA_x, inA_l, ix_add, ix_addl, ix_ladd, ix_mul, ix_mull, ix_lmul, ix_tn, lt_tn, Nat.reduceLeDiff, Nat.reduceLT, Nat.reduceAdd, Nat.reduceMul, true_or, or_true, ↓reduceIte, aOk, ref_null, null_null, false_or, Option.isSome_some, Option.getD_some, ite_true, ite_false, eq_self, not_false_eq_true, not_true_eq_false, bz_ne, bz_1, reduceCtorEq, Bool.not_true, Bool.not_false, q2]
      exact bad
    · have q3 : (u < ix O.nG) = False := by
        refine eq_false (fun q3 => ?_)
        unfold inN at q1
        rw [decide_eq_false_iff_not] at q1
        exact q1 ⟨Int32.not_lt.mp q2, q3⟩
      simp (disch := first | assumption | omega | decide | rfl) only [w_X9_thief_0, w_X9_thief_1, w_X9_thief_2, w_X9_thief_5, w_X9_thief_6, w_X9_thief_7, w_X9_thief_10, w_X9_thief_11, w_X9_thief_12, w_X9_thief_27, nl_int, nl_ref, nl_null, nl_un, nl_rf, nl_long, isR_ref, isR_null, isR_rf, rf_some, rf_none, rOf_ref, rOf_null, rOf_rf, kn_v, kn_0, true_and, and_true, and_self, tin, inA_x, inA_l, ix_add, ix_addl, ix_ladd, ix_mul, ix_mull, ix_lmul, ix_tn, lt_tn, Nat.reduceLeDiff, Nat.reduceLT, Nat.reduceAdd, Nat.reduceMul, true_or, or_true, ↓reduceIte, aOk, ref_null, null_null, false_or, Option.isSome_some, Option.getD_some, ite_true, ite_false, eq_self, not_false_eq_true, not_true_eq_false, bz_ne, bz_1, reduceCtorEq, Bool.not_true, Bool.not_false, q2, mo_0 hm, mo_orchard hm, mt_orchard hm, ml_orchard hm, x.aG, q3]
      exact bad
  · obtain ⟨p, hp, rfl⟩ := inN_ex (by omega) q1
    have q2 : (ix p < 0) = False := eq_false (ix_nn (by omega))
    simp (disch := first | assumption | omega | decide | rfl) only [w_X9_thief_0, w_X9_thief_1, w_X9_thief_2, w_X9_thief_5, w_X9_thief_6, w_X9_thief_7, w_X9_thief_10, w_X9_thief_11, w_X9_thief_12, w_X9_thief_15, w_X9_thief_16, w_X9_thief_17, nl_int, nl_ref, nl_null, nl_un, nl_rf, nl_long, isR_ref, isR_null, isR_rf, rf_some, rf_none, rOf_ref, rOf_null, rOf_rf, kn_v, kn_0, true_and, and_true, and_self, tin, inA_x, inA_l, ix_add, ix_addl, ix_ladd, ix_mul, ix_mull, ix_lmul, ix_tn, lt_tn, Nat.reduceLeDiff, Nat.reduceLT, Nat.reduceAdd, Nat.reduceMul, true_or, or_true, ↓reduceIte, aOk, ref_null, null_null, false_or, Option.isSome_some, Option.getD_some, ite_true, ite_false, eq_self, not_false_eq_true, not_true_eq_false, bz_ne, bz_1, reduceCtorEq, Bool.not_true, Bool.not_false, q2, mo_0 hm, mo_orchard hm, mt_orchard hm, ml_orchard hm, x.aG, ix_lt, hp, cm_isVoice]
    cases q4 : voF v w
    · have bad := bad (by unfold mayV; rw [q4, Bool.and_false])
      simp (disch := first | assumption | omega | decide | rfl) only [w_X9_thief_20, w_X9_thief_27, nl_int, nl_ref, nl_null, nl_un, nl_rf, nl_long, isR_ref, isR_null, isR_rf, rf_some, rf_none, rOf_ref, rOf_null, rOf_rf, kn_v, kn_0, true_and, and_true, and_self, tin, inA_x, inA_l, ix_add, ix_addl, ix_ladd, ix_mul, ix_mull, ix_lmul, ix_tn, lt_tn, Nat.reduceLeDiff, Nat.reduceLT, Nat.reduceAdd, Nat.reduceMul, true_or, or_true, ↓reduceIte, aOk, ref_null, null_null, false_or, Option.isSome_some, Option.getD_some, ite_true, ite_false, eq_self, not_false_eq_true, not_true_eq_false, bz_ne, bz_1, reduceCtorEq, Bool.not_true, Bool.not_false]
      exact bad
    · obtain ⟨a, b, ha, hb, rfl, rfl⟩ := voF_ex q4
      have ok : mayV O (ix p) (ix a) (ix b) = true := by unfold mayV; rw [q1, q4]; rfl
      simp (disch := first | assumption | omega | decide | rfl) only [w_X9_thief_20, w_X9_thief_23, w_X9_thief_24, w_X9_thief_28, nl_int, nl_ref, nl_null, nl_un, nl_rf, nl_long, isR_ref, isR_null, isR_rf, rf_some, rf_none, rOf_ref, rOf_null, rOf_rf, kn_v, kn_0, true_and, and_true, and_self, tin, inA_x, inA_l, ix_add, ix_addl, ix_ladd, ix_mul, ix_mull, ix_lmul, ix_tn, lt_tn, Nat.reduceLeDiff, Nat.reduceLT, Nat.reduceAdd, Nat.reduceMul, true_or, or_true, ↓reduceIte, aOk, ref_null, null_null, false_or, Option.isSome_some, Option.getD_some, ite_true, ite_false, eq_self, not_false_eq_true, not_true_eq_false, bz_ne, bz_1, reduceCtorEq, Bool.not_true, Bool.not_false, mo_0 hm]
      have u1 : Md m [] [60, 130, 131, 132] h (sFi h 60 m 0) := md_sFi (by decide)
      have u01 : Md m [] [60] h (sFi h 60 m 0) := md_sFi (by decide)
      have f1 : Fi (sFi h 60 m 0) 60 m = 0 := Fi_same
      revert u1 u01 f1
      generalize sFi h 60 m 0 = h1
      intro u1 u01 f1
      have x1 : M0 h1 m O := x.md u1
      have d1 : ((0 : Int32) = 1) = False := by decide
      simp (disch := first | assumption | omega | decide | rfl) only [w_X9_thief_31, w_X9_thief_32, w_X9_thief_35, w_X9_thief_36, w_X9_thief_39, w_X9_thief_40, w_X9_thief_43, w_X9_thief_44, w_X9_thief_45, w_X9_thief_46, w_X9_thief_47, nl_int, nl_ref, nl_null, nl_un, nl_rf, nl_long, isR_ref, isR_null, isR_rf, rf_some, rf_none, rOf_ref, rOf_null, rOf_rf, kn_v, kn_0, true_and, and_true, and_self, tin, inA_x, inA_l, ix_add, ix_addl, ix_ladd, ix_mul, ix_mull, ix_lmul, ix_tn, lt_tn, Nat.reduceLeDiff, Nat.reduceLT, Nat.reduceAdd, Nat.reduceMul, true_or, or_true, ↓reduceIte, aOk, ref_null, null_null, false_or, Option.isSome_some, Option.getD_some, ite_true, ite_false, eq_self, not_false_eq_true, not_true_eq_false, bz_ne, bz_1, reduceCtorEq, Bool.not_true, Bool.not_false, mo_0 x1.mo, f1, d1]
      refine cm_thiefOf x1 (y.md u01 (by decide)) z hp ha hb (fun h2 u2 => ?_)
      simp (disch := first | assumption | omega | decide | rfl) only [w_X9_thief_50, nl_int, nl_ref, nl_null, nl_un, nl_rf, nl_long, isR_ref, isR_null, isR_rf, rf_some, rf_none, rOf_ref, rOf_null, rOf_rf, kn_v, kn_0, true_and, and_true, and_self, tin, inA_x, inA_l, ix_add, ix_addl, ix_ladd, ix_mul, ix_mull, ix_lmul, ix_tn, lt_tn, Nat.reduceLeDiff, Nat.reduceLT, Nat.reduceAdd, Nat.reduceMul, true_or, or_true, ↓reduceIte, aOk, ref_null, null_null, false_or, Option.isSome_some, Option.getD_some, ite_true, ite_false, eq_self, not_false_eq_true, not_true_eq_false, bz_ne, bz_1, reduceCtorEq, Bool.not_true, Bool.not_false]
      rw [← hQ, ok, tn_ix (by omega), tn_ix (by omega), tn_ix (by omega)]
      exact ⟨rfl, u1.t u2, by rw [u2.fi (by decide)]; exact f1⟩
theorem cm_hide (x : M0 h m O) (y : MB h (m + 53) 0 O.nA B) (z : WB O B) : Ca (D + 4) 233 [.ref m, .int v, .int w] h (fun r h' => r = .inl (some (.int (hidF O B v w))) ∧ Md m [] [60, 130, 131, 132] h h' ∧ Fi h' 60 m = 0) := by
  have n5 := x.wo.nG
  generalize hQ : (fun r h' => r = .inl (some (.int (hidF O B v w))) ∧ Md m [] [60, 130, 131, 132] h h' ∧ Fi h' 60 m = 0 : Rs → AH → Prop) = Q
  have fin : ∀ r : Int32, ∀ h2, Md m [] [60, 130, 131, 132] h h2 → Fi h2 60 m = 0 → r = hidF O B v w → Q (.inl (some (.int r))) h2 := fun r h2 a b e => by
    rw [← hQ, e]; exact ⟨rfl, a, b⟩
  rw [e_X9_hide]
  simp (disch := first | assumption | omega | decide | rfl) only [w_X9_hide_0, w_X9_hide_1, w_X9_hide_2, w_X9_hide_5, w_X9_hide_6, w_X9_hide_7, nl_int, nl_ref, nl_null, nl_un, nl_rf, nl_long, isR_ref, isR_null, isR_rf, rf_some, rf_none, rOf_ref, rOf_null, rOf_rf, kn_v, kn_0, true_and, and_true, and_self, tin, inA_x, inA_l, ix_add, ix_addl, ix_ladd, ix_mul, ix_mull, ix_lmul, ix_tn, lt_tn, Nat.reduceLeDiff, Nat.reduceLT, Nat.reduceAdd, Nat.reduceMul, true_or, or_true, ↓reduceIte, aOk, ref_null, null_null, false_or, Option.isSome_some, Option.getD_some, ite_true, ite_false, eq_self, not_false_eq_true, not_true_eq_false, bz_ne, bz_1, reduceCtorEq, Bool.not_true, Bool.not_false, mo_0 x.mo, cm_isVoice]
  have u1 : Md m [] [60, 130, 131, 132] h (sFi h 60 m 0) := md_sFi (by decide)
  have f1 : Fi (sFi h 60 m 0) 60 m = 0 := Fi_same
  revert u1 f1
  generalize sFi h 60 m 0 = h1
  intro u1 f1
  have x1 : M0 h1 m O := x.md u1
  have hm1 := x1.mo
  cases q1 : voF v w
  · simp (disch := first | assumption | omega | decide | rfl) only [w_X9_hide_10, w_X9_hide_23, w_X9_hide_24, nl_int, nl_ref, nl_null, nl_un, nl_rf, nl_long, isR_ref, isR_null, isR_rf, rf_some, rf_none, rOf_ref, rOf_null, rOf_rf, kn_v, kn_0, true_and, and_true, and_self, tin, inA_x, inA_l, ix_add, ix_addl, ix_ladd, ix_mul, ix_mull, ix_lmul, ix_tn, lt_tn, Nat.reduceLeDiff, Nat.reduceLT, Nat.reduceAdd, Nat.reduceMul, true_or, or_true, ↓reduceIte, aOk, ref_null, null_null, false_or, Option.isSome_some, Option.getD_some, ite_true, ite_false, eq_self, not_false_eq_true, not_true_eq_false, bz_ne, bz_1, reduceCtorEq, Bool.not_true, Bool.not_false]
    exact fin _ _ u1 f1 (by unfold hidF; rw [q1]; rfl)
  · obtain ⟨a, b, ha, hb, rfl, rfl⟩ := voF_ex q1
    by_cases q2 : O.nG < 2
    · have d2 : (O.nG < 2) = True := eq_true q2
      simp (disch := first | assumption | omega | decide | rfl) only [w_X9_hide_10, w_X9_hide_13, w_X9_hide_14, w_X9_hide_17, w_X9_hide_18, w_X9_hide_19, w_X9_hide_20, w_X9_hide_23, w_X9_hide_24, nl_int, nl_ref, nl_null, nl_un, nl_rf, nl_long, isR_ref, isR_null, isR_rf, rf_some, rf_none, rOf_ref, rOf_null, rOf_rf, kn_v, kn_0, true_and, and_true, and_self, tin, inA_x, inA_l, ix_add, ix_addl, ix_ladd, ix_mul, ix_mull, ix_lmul, ix_tn, lt_tn, Nat.reduceLeDiff, Nat.reduceLT, Nat.reduceAdd, Nat.reduceMul, true_or, or_true, ↓reduceIte, aOk, ref_null, null_null, false_or, Option.isSome_some, Option.getD_some, ite_true, ite_false, eq_self, not_false_eq_true, not_true_eq_false, bz_ne, bz_1, reduceCtorEq, Bool.not_true, Bool.not_false, mo_0 hm1, mo_orchard hm1, mt_orchard hm1, ml_orchard hm1, x1.aG, ix_ltl, d2]
      exact fin _ _ u1 f1 (by unfold hidF; rw [decide_eq_true q2, q1]; rfl)
    · have d2 : (O.nG < 2) = False := eq_false q2
      unfold hidF at fin
      rw [q1, decide_eq_false q2, Bool.not_false, Bool.and_true, if_pos rfl, tn_ix (by omega), tn_ix (by omega)] at fin
      simp (disch := first | assumption | omega | decide | rfl) only [w_X9_hide_10, w_X9_hide_13, w_X9_hide_14, w_X9_hide_17, w_X9_hide_18, w_X9_hide_19, w_X9_hide_20, w_X9_hide_25, w_X9_hide_26, w_X9_hide_27, w_X9_hide_28, w_X9_hide_30, w_X9_hide_31, nl_int, nl_ref, nl_null, nl_un, nl_rf, nl_long, isR_ref, isR_null, isR_rf, rf_some, rf_none, rOf_ref, rOf_null, rOf_rf, kn_v, kn_0, true_and, and_true, and_self, tin, inA_x, inA_l, ix_add, ix_addl, ix_ladd, ix_mul, ix_mull, ix_lmul, ix_tn, lt_tn, Nat.reduceLeDiff, Nat.reduceLT, Nat.reduceAdd, Nat.reduceMul, true_or, or_true, ↓reduceIte, aOk, ref_null, null_null, false_or, Option.isSome_some, Option.getD_some, ite_true, ite_false, eq_self, not_false_eq_true, not_true_eq_false, bz_ne, bz_1, reduceCtorEq, Bool.not_true, Bool.not_false, mo_0 hm1, mo_orchard hm1, mt_orchard hm1, ml_orchard hm1, x1.aG, ix_ltl, d2]
      refine lp (P := fun j => ∀ h2 (v6 v7 : Value), Md m [] [60, 130, 131, 132] h h2 → Fi h2 60 m = 0 → Ru (D + 3) 233 33 [.ref m, .int (ix a), .int (ix b), .int (hiF O B a b j).1, .int (hiF O B a b j).2, .int (ix j), v6, v7] [] h2 Q) (N := O.nG) ?_ ?_ h1 un un u1 f1
      · intro h2 v6 v7 u2 f2
        have x2 : M0 h2 m O := x.md u2
        have hm2 := x2.mo
        have e : ¬ O.nG < O.nG := by omega
        rw [w_X9_hide_33]
        simp (disch := first | assumption | omega | decide | rfl) only [w_X9_hide_35, w_X9_hide_36, w_X9_hide_39, w_X9_hide_40, w_X9_hide_41, w_X9_hide_116, w_X9_hide_117, nl_int, nl_ref, nl_null, nl_un, nl_rf, nl_long, isR_ref, isR_null, isR_rf, rf_some, rf_none, rOf_ref, rOf_null, rOf_rf, kn_v, kn_0, true_and, and_true, and_self, tin, inA_x, inA_l, ix_add, ix_addl, ix_ladd, ix_mul, ix_mull, ix_lmul, ix_tn, lt_tn, Nat.reduceLeDiff, Nat.reduceLT, Nat.reduceAdd, Nat.reduceMul, true_or, or_true, ↓reduceIte, aOk, ref_null, null_null, false_or, Option.isSome_some, Option.getD_some, ite_true, ite_false, eq_self, not_false_eq_true, not_true_eq_false, bz_ne, bz_1, reduceCtorEq, Bool.not_true, Bool.not_false, mo_0 hm2, mo_orchard hm2, mt_orchard hm2, ml_orchard hm2, x2.aG, ix_lt, e]
        exact fin _ _ u2 f2 rfl
      · intro j hj nx h2 v6 v7 u2 f2
        have x2 : M0 h2 m O := x.md u2
        have hm2 := x2.mo
        have jn : ∀ (st' : Int32 × Int32) h2 (v6 v7 : Value), hiF O B a b (j + 1) = st' → Md m [] [60, 130, 131, 132] h h2 → Fi h2 60 m = 0 → Ru (D + 3) 233 110 [.ref m, .int (ix a), .int (ix b), .int st'.1, .int st'.2, .int (ix j), v6, v7] [] h2 Q := by
          intro st' h2 v6 v7 es u2 f2
          rw [← es]
          simp (disch := first | assumption | omega | decide | rfl) only [w_X9_hide_110, w_X9_hide_113, nl_int, nl_ref, nl_null, nl_un, nl_rf, nl_long, isR_ref, isR_null, isR_rf, rf_some, rf_none, rOf_ref, rOf_null, rOf_rf, kn_v, kn_0, true_and, and_true, and_self, tin, inA_x, inA_l, ix_add, ix_addl, ix_ladd, ix_mul, ix_mull, ix_lmul, ix_tn, lt_tn, Nat.reduceLeDiff, Nat.reduceLT, Nat.reduceAdd, Nat.reduceMul, true_or, or_true, ↓reduceIte, aOk, ref_null, null_null, false_or, Option.isSome_some, Option.getD_some, ite_true, ite_false, eq_self, not_false_eq_true, not_true_eq_false, bz_ne, bz_1, reduceCtorEq, Bool.not_true, Bool.not_false]
          exact nx h2 v6 v7 u2 f2
        rw [show hiF O B a b (j + 1) = hiS O B a b (hiF O B a b j) j from rfl] at jn
        unfold hiS at jn
        revert jn
        generalize hiF O B a b j = st
        intro jn
        rw [w_X9_hide_33]
        simp (disch := first | assumption | omega | decide | rfl) only [w_X9_hide_35, w_X9_hide_36, w_X9_hide_39, w_X9_hide_40, w_X9_hide_41, w_X9_hide_44, w_X9_hide_45, w_X9_hide_47, w_X9_hide_48, nl_int, nl_ref, nl_null, nl_un, nl_rf, nl_long, isR_ref, isR_null, isR_rf, rf_some, rf_none, rOf_ref, rOf_null, rOf_rf, kn_v, kn_0, true_and, and_true, and_self, tin, inA_x, inA_l, ix_add, ix_addl, ix_ladd, ix_mul, ix_mull, ix_lmul, ix_tn, lt_tn, Nat.reduceLeDiff, Nat.reduceLT, Nat.reduceAdd, Nat.reduceMul, true_or, or_true, ↓reduceIte, aOk, ref_null, null_null, false_or, Option.isSome_some, Option.getD_some, ite_true, ite_false, eq_self, not_false_eq_true, not_true_eq_false, bz_ne, bz_1, reduceCtorEq, Bool.not_true, Bool.not_false, mo_0 hm2, mo_orchard hm2, mt_orchard hm2, ml_orchard hm2, x2.aG, ix_lt, hj]
        refine lp (P := fun p => ∀ h3, Md m [] [60, 130, 131, 132] h h3 → Fi h3 60 m = 0 → Ru (D + 3) 233 50 [.ref m, .int (ix a), .int (ix b), .int st.1, .int st.2, .int (ix j), .int (hiM O B a b j p), .int (ix p)] [] h3 Q) (N := O.nG) ?_ ?_ h2 u2 f2
        · intro h3 u3 f3
          have x3 : M0 h3 m O := x.md u3
          have hm3 := x3.mo
          have e : ¬ O.nG < O.nG := by omega
          rw [w_X9_hide_50]
          simp (disch := first | assumption | omega | decide | rfl) only [w_X9_hide_52, w_X9_hide_53, w_X9_hide_56, w_X9_hide_57, w_X9_hide_58, nl_int, nl_ref, nl_null, nl_un, nl_rf, nl_long, isR_ref, isR_null, isR_rf, rf_some, rf_none, rOf_ref, rOf_null, rOf_rf, kn_v, kn_0, true_and, and_true, and_self, tin, inA_x, inA_l, ix_add, ix_addl, ix_ladd, ix_mul, ix_mull, ix_lmul, ix_tn, lt_tn, Nat.reduceLeDiff, Nat.reduceLT, Nat.reduceAdd, Nat.reduceMul, true_or, or_true, ↓reduceIte, aOk, ref_null, null_null, false_or, Option.isSome_some, Option.getD_some, ite_true, ite_false, eq_self, not_false_eq_true, not_true_eq_false, bz_ne, bz_1, reduceCtorEq, Bool.not_true, Bool.not_false, mo_0 hm3, mo_orchard hm3, mt_orchard hm3, ml_orchard hm3, x3.aG, ix_lt, e]
          generalize hiM O B a b j O.nG = lv at jn ⊢
          by_cases q4 : st.1 < 0
          · rw [if_neg (by simp [q4])] at jn
            simp (disch := first | assumption | omega | decide | rfl) only [w_X9_hide_89, w_X9_hide_90, w_X9_hide_103, w_X9_hide_105, w_X9_hide_106, w_X9_hide_108, nl_int, nl_ref, nl_null, nl_un, nl_rf, nl_long, isR_ref, isR_null, isR_rf, rf_some, rf_none, rOf_ref, rOf_null, rOf_rf, kn_v, kn_0, true_and, and_true, and_self, tin, inA_x, inA_l, ix_add, ix_addl, ix_ladd, ix_mul, ix_mull, ix_lmul, ix_tn, lt_tn, Nat.reduceLeDiff, Nat.reduceLT, Nat.reduceAdd, Nat.reduceMul, true_or, or_true, ↓reduceIte, aOk, ref_null, null_null, false_or, Option.isSome_some, Option.getD_some, ite_true, ite_false, eq_self, not_false_eq_true, not_true_eq_false, bz_ne, bz_1, reduceCtorEq, Bool.not_true, Bool.not_false, q4]
            exact jn (_, _) h3 _ _ rfl u3 f3
          · by_cases q5 : lv < st.2
            · rw [if_neg (by simp [q5])] at jn
              simp (disch := first | assumption | omega | decide | rfl) only [w_X9_hide_89, w_X9_hide_90, w_X9_hide_93, w_X9_hide_95, w_X9_hide_97, w_X9_hide_103, w_X9_hide_105, w_X9_hide_106, w_X9_hide_108, nl_int, nl_ref, nl_null, nl_un, nl_rf, nl_long, isR_ref, isR_null, isR_rf, rf_some, rf_none, rOf_ref, rOf_null, rOf_rf, kn_v, kn_0, true_and, and_true, and_self, tin, inA_x, inA_l, ix_add, ix_addl, ix_ladd, ix_mul, ix_mull, ix_lmul, ix_tn, lt_tn, Nat.reduceLeDiff, Nat.reduceLT, Nat.reduceAdd, Nat.reduceMul, true_or, or_true, ↓reduceIte, aOk, ref_null, null_null, false_or, Option.isSome_some, Option.getD_some, ite_true, ite_false, eq_self, not_false_eq_true, not_true_eq_false, bz_ne, bz_1, reduceCtorEq, Bool.not_true, Bool.not_false, q4, q5]
              exact jn (_, _) h3 _ _ rfl u3 f3
            · rw [if_pos ⟨q4, q5⟩] at jn
              simp (disch := first | assumption | omega | decide | rfl) only [w_X9_hide_89, w_X9_hide_90, w_X9_hide_93, w_X9_hide_95, w_X9_hide_97, w_X9_hide_100, nl_int, nl_ref, nl_null, nl_un, nl_rf, nl_long, isR_ref, isR_null, isR_rf, rf_some, rf_none, rOf_ref, rOf_null, rOf_rf, kn_v, kn_0, true_and, and_true, and_self, tin, inA_x, inA_l, ix_add, ix_addl, ix_ladd, ix_mul, ix_mull, ix_lmul, ix_tn, lt_tn, Nat.reduceLeDiff, Nat.reduceLT, Nat.reduceAdd, Nat.reduceMul, true_or, or_true, ↓reduceIte, aOk, ref_null, null_null, false_or, Option.isSome_some, Option.getD_some, ite_true, ite_false, eq_self, not_false_eq_true, not_true_eq_false, bz_ne, bz_1, reduceCtorEq, Bool.not_true, Bool.not_false, q4, q5]
              exact jn st h3 _ _ rfl u3 f3
        · intro p hp np h3 u3 f3
          have x3 : M0 h3 m O := x.md u3
          have hm3 := x3.mo
          have np : ∀ h3, Md m [] [60, 130, 131, 132] h h3 → Fi h3 60 m = 0 → Ru (D + 3) 233 83 [.ref m, .int (ix a), .int (ix b), .int st.1, .int st.2, .int (ix j), .int (hiM O B a b j (p + 1)), .int (ix p)] [] h3 Q := by
            intro h3 u3 f3
            simp (disch := first | assumption | omega | decide | rfl) only [w_X9_hide_83, w_X9_hide_86, nl_int, nl_ref, nl_null, nl_un, nl_rf, nl_long, isR_ref, isR_null, isR_rf, rf_some, rf_none, rOf_ref, rOf_null, rOf_rf, kn_v, kn_0, true_and, and_true, and_self, tin, inA_x, inA_l, ix_add, ix_addl, ix_ladd, ix_mul, ix_mull, ix_lmul, ix_tn, lt_tn, Nat.reduceLeDiff, Nat.reduceLT, Nat.reduceAdd, Nat.reduceMul, true_or, or_true, ↓reduceIte, aOk, ref_null, null_null, false_or, Option.isSome_some, Option.getD_some, ite_true, ite_false, eq_self, not_false_eq_true, not_true_eq_false, bz_ne, bz_1, reduceCtorEq, Bool.not_true, Bool.not_false]
            exact np h3 u3 f3
          rw [show hiM O B a b j (p + 1) = if p = j then hiM O B a b j p else (if hiM O B a b j p < thA O B p a b then thA O B p a b else hiM O B a b j p) from rfl] at np
          rw [w_X9_hide_50]
          by_cases q6 : p = j
          · have d6 : (p = j) = True := eq_true q6
            rw [if_pos q6] at np
            simp (disch := first | assumption | omega | decide | rfl) only [w_X9_hide_52, w_X9_hide_53, w_X9_hide_56, w_X9_hide_57, w_X9_hide_58, w_X9_hide_61, w_X9_hide_63, w_X9_hide_65, nl_int, nl_ref, nl_null, nl_un, nl_rf, nl_long, isR_ref, isR_null, isR_rf, rf_some, rf_none, rOf_ref, rOf_null, rOf_rf, kn_v, kn_0, true_and, and_true, and_self, tin, inA_x, inA_l, ix_add, ix_addl, ix_ladd, ix_mul, ix_mull, ix_lmul, ix_tn, lt_tn, Nat.reduceLeDiff, Nat.reduceLT, Nat.reduceAdd, Nat.reduceMul, true_or, or_true, ↓reduceIte, aOk, ref_null, null_null, false_or, Option.isSome_some, Option.getD_some, ite_true, ite_false, eq_self, not_false_eq_true, not_true_eq_false, bz_ne, bz_1, reduceCtorEq, Bool.not_true, Bool.not_false, mo_0 hm3, mo_orchard hm3, mt_orchard hm3, ml_orchard hm3, x3.aG, ix_lt, hp, ix_eq, d6]
            exact np h3 u3 f3
          · have d6 : (p = j) = False := eq_false q6
            rw [if_neg q6] at np
            simp (disch := first | assumption | omega | decide | rfl) only [w_X9_hide_52, w_X9_hide_53, w_X9_hide_56, w_X9_hide_57, w_X9_hide_58, w_X9_hide_61, w_X9_hide_63, w_X9_hide_65, w_X9_hide_68, w_X9_hide_70, w_X9_hide_71, w_X9_hide_73, w_X9_hide_74, w_X9_hide_75, nl_int, nl_ref, nl_null, nl_un, nl_rf, nl_long, isR_ref, isR_null, isR_rf, rf_some, rf_none, rOf_ref, rOf_null, rOf_rf, kn_v, kn_0, true_and, and_true, and_self, tin, inA_x, inA_l, ix_add, ix_addl, ix_ladd, ix_mul, ix_mull, ix_lmul, ix_tn, lt_tn, Nat.reduceLeDiff, Nat.reduceLT, Nat.reduceAdd, Nat.reduceMul, true_or, or_true, ↓reduceIte, aOk, ref_null, null_null, false_or, Option.isSome_some, Option.getD_some, ite_true, ite_false, eq_self, not_false_eq_true, not_true_eq_false, bz_ne, bz_1, reduceCtorEq, Bool.not_true, Bool.not_false, mo_0 hm3, mo_orchard hm3, mt_orchard hm3, ml_orchard hm3, x3.aG, ix_lt, hp, ix_eq, d6]
            refine cm_thiefOf x3 (y.md u3 (by decide)) z hp ha hb (fun h4 u4 => ?_)
            simp (disch := first | assumption | omega | decide | rfl) only [w_X9_hide_78, w_X9_hide_81, nl_int, nl_ref, nl_null, nl_un, nl_rf, nl_long, isR_ref, isR_null, isR_rf, rf_some, rf_none, rOf_ref, rOf_null, rOf_rf, kn_v, kn_0, true_and, and_true, and_self, tin, inA_x, inA_l, ix_add, ix_addl, ix_ladd, ix_mul, ix_mull, ix_lmul, ix_tn, lt_tn, Nat.reduceLeDiff, Nat.reduceLT, Nat.reduceAdd, Nat.reduceMul, true_or, or_true, ↓reduceIte, aOk, ref_null, null_null, false_or, Option.isSome_some, Option.getD_some, ite_true, ite_false, eq_self, not_false_eq_true, not_true_eq_false, bz_ne, bz_1, reduceCtorEq, Bool.not_true, Bool.not_false, c_max]
            exact np h4 (u3.t u4) (by rw [u4.fi (by decide)]; exact f3)
end
