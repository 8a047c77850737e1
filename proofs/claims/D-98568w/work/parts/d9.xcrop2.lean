/-! NAMEORCHARD: crops answer as the model's -/
set_option maxRecDepth 100000
section
variable {h h' h1 h2 : AH} {A : Nat → Prop} {x a b c p q l o lo hi n k t d D s j i c' hang loose w e : Nat} {O : Oc} {S : Sg} {B C : Bo} {Q : Rs → AH → Prop} {u v y : Int32}
theorem i32_le {x y : Int32} : (x ≤ y) = (x.toInt ≤ y.toInt) := propext Int32.le_iff_toInt_le
theorem i32_lt {x y : Int32} : (x < y) = (x.toInt < y.toInt) := propext Int32.lt_iff_toInt_lt
theorem foI_take {α : Type} {f : α → Nat → α} {z : α} {l : List Nat} : ∀ i, i ≤ l.length → foI (fun st i => f st (l.getD i 0)) z i = (l.take i).foldl f z
  | 0, _ => by rw [foI]; rfl
  | i + 1, h => by rw [foI, foI_take i (by omega), take_s (by omega), List.foldl_append]; rfl
theorem twA_0 : ∀ n, twA O hang 0 n = 0
  | 0 => rfl
  | n + 1 => by rw [twA, if_neg (by rw [Nat.zero_testBit]; simp)]; exact twA_0 n
theorem noop_fa (z : hang &&& (w ||| e) = 0) : faF O hang loose w e = 0 := by
  have f0 : f1F O hang loose w e = 0 := by
    refine set_ext (fun i => ?_)
    have b := congrArg (fun s => Nat.testBit s i) z
    simp only [Nat.testBit_and, Nat.testBit_or, Nat.zero_testBit] at b
    unfold f1F
    simp only [Nat.testBit_and, Nat.testBit_or, sd_bit, Nat.zero_testBit]
    revert b
    cases hang.testBit i <;> cases w.testBit i <;> cases e.testBit i <;> simp
  unfold faF
  rw [f0]
  exact twA_0 _
theorem noop_lo (z : hang &&& (w ||| e) = 0) (hl : ∀ i, loose.testBit i = true → hang.testBit i = true) : loF O hang loose w e = loose := by
  unfold loF
  rw [noop_fa z]
  refine set_ext (fun i => ?_)
  have b := congrArg (fun s => Nat.testBit s i) z
  simp only [Nat.testBit_and, Nat.testBit_or, Nat.zero_testBit] at b
  simp only [Nat.testBit_and, Nat.testBit_or, sd_bit, Nat.zero_testBit]
  have := hl i
  revert b this
  cases hang.testBit i <;> cases w.testBit i <;> cases e.testBit i <;> cases loose.testBit i <;> simp
theorem sd_0 : sd hang 0 = hang := set_ext (fun i => by rw [sd_bit, Nat.zero_testBit]; simp)
theorem noop_af (zc : WB O C) (z : C.hang &&& (whC O B k ||| ecC O B k) = 0) : afF O B C k = C := by
  unfold afF
  rw [noop_fa z, noop_lo z zc.loose, sd_0]
  rfl
theorem fold_law {V : Nat → Int32} {nw z : Nat → Bool} {v0 : Int32} (h1 : ∀ k, nw k = true → okC O k = true) (h2 : ∀ k, z k = true → V k = v0) (h3 : ∀ k, okC O k = true → nw k = false → z k = true ∨ ∃ e, e < k ∧ okC O e = true ∧ V e = V k ∧ z e = z k) : ∀ n, foI (fun (st : Int32 × Int32) k => if nw k = true then (if st.1 < V k then (V k, ix k) else st) else st) (v0, -1) n = (clN O n).foldl (fun (st : Int32 × Int32) k => if z k = true then st else if V k ≤ st.1 then st else (V k, ix k)) (v0, -1) ∧ v0 ≤ (foI (fun (st : Int32 × Int32) k => if nw k = true then (if st.1 < V k then (V k, ix k) else st) else st) (v0, -1) n).1 ∧ ∀ e, e < n → okC O e = true → z e = false → V e ≤ (foI (fun (st : Int32 × Int32) k => if nw k = true then (if st.1 < V k then (V k, ix k) else st) else st) (v0, -1) n).1 := by
  intro n
  induction n with
  | zero => exact ⟨rfl, Int32.le_refl _, fun e he => absurd he (by omega)⟩
  | succ n ih =>
    obtain ⟨i1, i2, i3⟩ := ih
    rw [foI, clN_s]
    revert i1 i2 i3
    generalize foI (fun (st : Int32 × Int32) k => if nw k = true then (if st.1 < V k then (V k, ix k) else st) else st) (v0, -1) n = st
    intro i1 i2 i3
    cases qo : okC O n
    · have qn : nw n = false := by
        cases q : nw n
        · rfl
        · rw [h1 n q] at qo; exact qo
      rw [qn, if_neg (by decide), if_neg (by decide)]
      refine ⟨i1, i2, fun e he ho => i3 e ?_ ho⟩
      have : e ≠ n := fun q => by rw [q, qo] at ho; exact absurd ho (by decide)
      omega
    · rw [if_pos rfl, List.foldl_append, ← i1]
      show _ = (if z n = true then st else if V n ≤ st.1 then st else (V n, ix n)) ∧ _
      cases qn : nw n
      · rw [if_neg (by decide)]
        rcases h3 n qo qn with q | ⟨e, he, e1, e2, e3⟩
        · rw [if_pos q]
          refine ⟨rfl, i2, fun e he ho hz => ?_⟩
          by_cases qe : e = n
          · rw [qe, q] at hz; exact absurd hz (by decide)
          · exact i3 e (by omega) ho hz
        · cases qz : z n
          · have le : V n ≤ st.1 := by rw [← e2]; exact i3 e he e1 (by rw [e3, qz])
            rw [if_neg (by decide), if_pos le]
            refine ⟨rfl, i2, fun e he ho hz => ?_⟩
            by_cases qe : e = n
            · rw [qe]; exact le
            · exact i3 e (by omega) ho hz
          · rw [if_pos rfl]
            refine ⟨rfl, i2, fun e he ho hz => ?_⟩
            by_cases qe : e = n
            · rw [qe, qz] at hz; exact absurd hz (by decide)
            · exact i3 e (by omega) ho hz
      · rw [if_pos rfl]
        cases qz : z n
        · rw [if_neg (show ¬ (false = true) by decide)]
          by_cases q : st.1 < V n
          · have nle : ¬ V n ≤ st.1 := Int32.not_le.mpr q
            rw [if_pos q, if_neg nle]
            refine ⟨rfl, ?_, fun e he ho hz => ?_⟩
            · show v0 ≤ V n
              rw [i32_le] at i2 ⊢
              rw [i32_lt] at q
              omega
            · show V e ≤ V n
              by_cases qe : e = n
              · rw [qe]; exact Int32.le_refl _
              · have := i3 e (by omega) ho hz
                rw [i32_le] at this ⊢
                rw [i32_lt] at q
                omega
          · have le : V n ≤ st.1 := Int32.not_lt.mp q
            rw [if_neg q, if_pos le]
            refine ⟨rfl, i2, fun e he ho hz => ?_⟩
            by_cases qe : e = n
            · rw [qe]; exact le
            · exact i3 e (by omega) ho hz
        · have le : ¬ st.1 < V n := by rw [h2 n qz]; exact Int32.not_lt.mpr i2
          rw [if_pos rfl, if_neg le]
          refine ⟨rfl, i2, fun e he ho hz => ?_⟩
          by_cases qe : e = n
          · rw [qe, qz] at hz; exact absurd hz (by decide)
          · exact i3 e (by omega) ho hz
theorem nw_no (ok : okC O k = true) (q : nwC O B k = false) : whC O B k ||| ecC O B k = 0 ∨ ∃ e, e < k ∧ okC O e = true ∧ whC O B e = whC O B k ∧ ecC O B e = ecC O B k := by
  unfold nwC at q
  rw [ok, Bool.true_and] at q
  by_cases q1 : whC O B k ||| ecC O B k = 0
  · exact Or.inl q1
  · rw [decide_eq_false q1, Bool.not_false, Bool.true_and] at q
    have q : anyb (fun e => okC O e && decide (whC O B e = whC O B k) && decide (ecC O B e = ecC O B k)) k 0 = true := by
      revert q
      cases anyb (fun e => okC O e && decide (whC O B e = whC O B k) && decide (ecC O B e = ecC O B k)) k 0 <;> simp
    rw [anyb_t] at q
    obtain ⟨j, hj, hp⟩ := q
    rw [Nat.zero_add, Bool.and_eq_true, Bool.and_eq_true, decide_eq_true_eq, decide_eq_true_eq] at hp
    exact Or.inr ⟨j, hj, hp.1.1, hp.1.2, hp.2⟩
theorem crop_law : ∀ n day C, WB O C → C.day = B.day + ix day → xmF O B n C = crF O B (clN O (16 * O.nP)) n day C.hang C.loose := by
  intro n
  induction n with
  | zero => intro day C zc hd; rw [xmF, crF]
  | succ n ih =>
    intro day C zc hd
    have dd : C.day + 1 = B.day + ix (day + 1) := by rw [hd, Int32.add_assoc, show (1 : Int32) = ix 1 from rfl, ix_add]
    have hR : ∀ k, (xmF O B n (paF (afF O B C k))).1 = (crF O B (clN O (16 * O.nP)) n (day + 1) (sd C.hang (faF O C.hang C.loose (whC O B k) (ecC O B k))) (loF O C.hang C.loose (whC O B k) (ecC O B k))).1 := fun k => by
      rw [ih (day + 1) (paF (afF O B C k)) (wb_pa (wb_af zc)) dd]
      rfl
    have h0 : (xmF O B n (paF C)).1 = (crF O B (clN O (16 * O.nP)) n (day + 1) C.hang C.loose).1 := by
      rw [ih (day + 1) (paF C) (wb_pa zc) dd]
      rfl
    have law := (fold_law (O := O) (V := fun k => xvF O B C (fun D => (xmF O B n D).1) k) (nw := nwC O B) (z := fun k => decide (C.hang &&& (whC O B k ||| ecC O B k) = 0)) (v0 := (xmF O B n (paF C)).1) (fun k q => nw_ok q) (fun k q => ?_) (fun k ok q => ?_) (16 * O.nP)).1
    · rw [xmF, crF, foI_take _ (Nat.le_refl _), List.take_length, ← h0]
      have e1 : xmS O B (fun D => (xmF O B n D).1) C = (fun (st : Int32 × Int32) k => if nwC O B k = true then (if st.1 < xvF O B C (fun D => (xmF O B n D).1) k then (xvF O B C (fun D => (xmF O B n D).1) k, ix k) else st) else st) := by
        funext st k
        rw [xmS]
      have e2 : stC O B (fun a b => (crF O B (clN O (16 * O.nP)) n (day + 1) a b).1) day C.hang C.loose = (fun (st : Int32 × Int32) k => if decide (C.hang &&& (whC O B k ||| ecC O B k) = 0) = true then st else if xvF O B C (fun D => (xmF O B n D).1) k ≤ st.1 then st else (xvF O B C (fun D => (xmF O B n D).1) k, ix k)) := by
        funext st k
        simp only [stC, xvF, ← hR, ← hd, decide_eq_true_eq]
        first | rfl | congr 1
      rw [e1, e2]
      exact law
    · have q : C.hang &&& (whC O B k ||| ecC O B k) = 0 := of_decide_eq_true q
      show xvF O B C (fun D => (xmF O B n D).1) k = _
      unfold xvF
      rw [noop_fa q, noop_af zc q, su_0, Int32.zero_add]
    · rcases nw_no ok q with q1 | ⟨e, he, o1, e1, e2⟩
      · left
        show decide (C.hang &&& (whC O B k ||| ecC O B k) = 0) = true
        rw [q1, Nat.and_zero]
        rfl
      · refine Or.inr ⟨e, he, o1, ?_, ?_⟩
        · show xvF O B C _ e = xvF O B C _ k
          unfold xvF afF
          rw [e1, e2]
        · show decide (C.hang &&& (whC O B e ||| ecC O B e) = 0) = _
          rw [e1, e2]
theorem xcrop (X : XN h x lo hi o b O S) (W : WB O S.B) : Ca (D + 275) 27 [.ref x, .int v, .int y] h (fun r h' => r = .inl (some (.int (cropF O S.B v y))) ∧ Tf x h h') := by
  generalize hQ : (fun r h' => r = .inl (some (.int (cropF O S.B v y))) ∧ Tf x h h' : Rs → AH → Prop) = Q
  rw [e_X1_crop]
  have bad : ¬ ((0 ≤ v ∧ v ≤ 3) ∧ (0 ≤ y ∧ y ≤ 1)) → Ru (D + 274) 27 18 [.ref x, .int v, .int y, un] [] h Q := by
    intro q
    simp (disch := first | assumption | omega | decide | rfl) only [w_X1_crop_18, w_X1_crop_20, nl_int, nl_ref, nl_null, nl_un, nl_rf, nl_long, isR_ref, isR_null, isR_rf, rf_some, rf_none, rOf_ref, rOf_null, rOf_rf, kn_v, kn_0, true_and, and_true, and_self, tin, inA_x, inA_l, ix_add, ix_addl, ix_ladd, ix_mul, ix_mull, ix_lmul, ix_tn, lt_tn, Nat.reduceLeDiff, Nat.reduceLT, Nat.reduceAdd, Nat.reduceMul, true_or, or_true, ↓reduceIte, aOk, ref_null, null_null, false_or, Option.isSome_some, Option.getD_some, ite_true, ite_false, eq_self, not_false_eq_true, not_true_eq_false, bz_ne, bz_1, reduceCtorEq, Bool.not_true, Bool.not_false]
    rw [← hQ]
    unfold cropF
    rw [if_neg q]
    exact ⟨rfl, Tf.refl⟩
  by_cases q1 : 0 ≤ v ∧ v ≤ 3
  · have c1 : decide (0 ≤ v ∧ v ≤ 3) = true := decide_eq_true q1
    by_cases q2 : 0 ≤ y ∧ y ≤ 1
    · have c2 : decide (0 ≤ y ∧ y ≤ 1) = true := decide_eq_true q2
      obtain ⟨k, hk, rfl⟩ := v3_ex q1
      have fin : ∀ r h', r = (if y = 0 then (xmF O S.B k S.B).1 else (xmF O S.B k S.B).2) → Tf x h h' → Q (.inl (some (.int r))) h' := by
        intro r h' e t
        rw [← hQ]
        unfold cropF
        rw [if_pos ⟨q1, q2⟩, ix_tn (by omega), e, crop_law k 0 S.B W (Int32.add_zero _).symm]
        exact ⟨rfl, t⟩
      simp (disch := first | assumption | omega | decide | rfl) only [w_X1_crop_0, w_X1_crop_1, w_X1_crop_2, w_X1_crop_3, w_X1_crop_6, w_X1_crop_9, w_X1_crop_10, w_X1_crop_11, w_X1_crop_12, w_X1_crop_15, w_X1_crop_21, w_X1_crop_22, w_X1_crop_25, nl_int, nl_ref, nl_null, nl_un, nl_rf, nl_long, isR_ref, isR_null, isR_rf, rf_some, rf_none, rOf_ref, rOf_null, rOf_rf, kn_v, kn_0, true_and, and_true, and_self, tin, inA_x, inA_l, ix_add, ix_addl, ix_ladd, ix_mul, ix_mull, ix_lmul, ix_tn, lt_tn, Nat.reduceLeDiff, Nat.reduceLT, Nat.reduceAdd, Nat.reduceMul, true_or, or_true, ↓reduceIte, aOk, ref_null, null_null, false_or, Option.isSome_some, Option.getD_some, ite_true, ite_false, eq_self, not_false_eq_true, not_true_eq_false, bz_ne, bz_1, reduceCtorEq, Bool.not_true, Bool.not_false, cx_within, c1, c2, X.f.tx, X.f.f8, X.f.t42]
      refine ca_mono (cx_clays X W) ?_
      rintro r h1 ⟨rfl, t1, r1, nc1⟩
      have X1 := X.tf t1
      simp (disch := first | assumption | omega | decide | rfl) only [w_X1_crop_28, w_X1_crop_29, w_X1_crop_32, w_X1_crop_33, nl_int, nl_ref, nl_null, nl_un, nl_rf, nl_long, isR_ref, isR_null, isR_rf, rf_some, rf_none, rOf_ref, rOf_null, rOf_rf, kn_v, kn_0, true_and, and_true, and_self, tin, inA_x, inA_l, ix_add, ix_addl, ix_ladd, ix_mul, ix_mull, ix_lmul, ix_tn, lt_tn, Nat.reduceLeDiff, Nat.reduceLT, Nat.reduceAdd, Nat.reduceMul, true_or, or_true, ↓reduceIte, aOk, ref_null, null_null, false_or, Option.isSome_some, Option.getD_some, ite_true, ite_false, eq_self, not_false_eq_true, not_true_eq_false, bz_ne, bz_1, reduceCtorEq, Bool.not_true, Bool.not_false, X1.f.tx, X1.f.f8, X1.f.t42]
      have t2 : Tf x h1 (sFi h1 51 (x + 42) (-1)) := tf_fi (by unfold Xs; omega)
      have c2' : Cr x 0 h1 (sFi h1 51 (x + 42) (-1)) := un_sFi (Or.inr (Or.inr (Or.inl rfl)))
      have f2 : Fi (sFi h1 51 (x + 42) (-1)) 51 (x + 42) = -1 := Fi_same
      revert t2 c2' f2
      generalize sFi h1 51 (x + 42) (-1) = h2
      intro t2 c2' f2
      have X2 := X1.tf t2
      simp (disch := first | assumption | omega | decide | rfl) only [w_X1_crop_36, w_X1_crop_37, w_X1_crop_40, w_X1_crop_41, w_X1_crop_44, w_X1_crop_45, nl_int, nl_ref, nl_null, nl_un, nl_rf, nl_long, isR_ref, isR_null, isR_rf, rf_some, rf_none, rOf_ref, rOf_null, rOf_rf, kn_v, kn_0, true_and, and_true, and_self, tin, inA_x, inA_l, ix_add, ix_addl, ix_ladd, ix_mul, ix_mull, ix_lmul, ix_tn, lt_tn, Nat.reduceLeDiff, Nat.reduceLT, Nat.reduceAdd, Nat.reduceMul, true_or, or_true, ↓reduceIte, aOk, ref_null, null_null, false_or, Option.isSome_some, Option.getD_some, ite_true, ite_false, eq_self, not_false_eq_true, not_true_eq_false, bz_ne, bz_1, reduceCtorEq, Bool.not_true, Bool.not_false, X2.f.tx, X2.f.f8, X2.f.t42, X2.fb]
      rw [show D + 274 = D + 4 + 270 from rfl]
      refine ca_mono (cx_most k hk (D + 4) (by omega) h2 b S.B X2 (c2'.rc X1.f r1 (by omega)) (c2'.nc X1.f nc1 (by omega)) X2.xb W (Or.inl rfl)) ?_
      rintro r h3 ⟨rfl, t3, c3, g1, g2⟩
      have X3 := X2.tf t3
      have t4 : Tf x h h3 := (t1.trans t2).trans t3
      by_cases q3 : y = 0
      · have d3 : (y = 0) = True := eq_true q3
        rw [if_pos q3] at fin
        simp (disch := first | assumption | omega | decide | rfl) only [w_X1_crop_48, w_X1_crop_49, w_X1_crop_50, w_X1_crop_53, w_X1_crop_54, w_X1_crop_64, nl_int, nl_ref, nl_null, nl_un, nl_rf, nl_long, isR_ref, isR_null, isR_rf, rf_some, rf_none, rOf_ref, rOf_null, rOf_rf, kn_v, kn_0, true_and, and_true, and_self, tin, inA_x, inA_l, ix_add, ix_addl, ix_ladd, ix_mul, ix_mull, ix_lmul, ix_tn, lt_tn, Nat.reduceLeDiff, Nat.reduceLT, Nat.reduceAdd, Nat.reduceMul, true_or, or_true, ↓reduceIte, aOk, ref_null, null_null, false_or, Option.isSome_some, Option.getD_some, ite_true, ite_false, eq_self, not_false_eq_true, not_true_eq_false, bz_ne, bz_1, reduceCtorEq, Bool.not_true, Bool.not_false, d3]
        exact fin _ h3 rfl t4
      · have d3 : (y = 0) = False := eq_false q3
        rw [if_neg q3] at fin
        have g3 : Fi h3 51 (x + 42) = (xmF O S.B k S.B).2 := by
          by_cases q4 : k = 0
          · rw [g2 q4, f2, q4, xmF]
          · exact g1 (by omega)
        simp (disch := first | assumption | omega | decide | rfl) only [w_X1_crop_48, w_X1_crop_49, w_X1_crop_50, w_X1_crop_53, w_X1_crop_54, w_X1_crop_57, w_X1_crop_58, w_X1_crop_61, w_X1_crop_64, nl_int, nl_ref, nl_null, nl_un, nl_rf, nl_long, isR_ref, isR_null, isR_rf, rf_some, rf_none, rOf_ref, rOf_null, rOf_rf, kn_v, kn_0, true_and, and_true, and_self, tin, inA_x, inA_l, ix_add, ix_addl, ix_ladd, ix_mul, ix_mull, ix_lmul, ix_tn, lt_tn, Nat.reduceLeDiff, Nat.reduceLT, Nat.reduceAdd, Nat.reduceMul, true_or, or_true, ↓reduceIte, aOk, ref_null, null_null, false_or, Option.isSome_some, Option.getD_some, ite_true, ite_false, eq_self, not_false_eq_true, not_true_eq_false, bz_ne, bz_1, reduceCtorEq, Bool.not_true, Bool.not_false, d3, X3.f.tx, X3.f.f8, X3.f.t42, g3]
        exact fin _ h3 rfl t4
    · have c2 : decide (0 ≤ y ∧ y ≤ 1) = false := decide_eq_false q2
      simp (disch := first | assumption | omega | decide | rfl) only [w_X1_crop_0, w_X1_crop_1, w_X1_crop_2, w_X1_crop_3, w_X1_crop_6, w_X1_crop_9, w_X1_crop_10, w_X1_crop_11, w_X1_crop_12, w_X1_crop_15, nl_int, nl_ref, nl_null, nl_un, nl_rf, nl_long, isR_ref, isR_null, isR_rf, rf_some, rf_none, rOf_ref, rOf_null, rOf_rf, kn_v, kn_0, true_and, and_true, and_self, tin, inA_x, inA_l, ix_add, ix_addl, ix_ladd, ix_mul, ix_mull, ix_lmul, ix_tn, lt_tn, Nat.reduceLeDiff, Nat.reduceLT, Nat.reduceAdd, Nat.reduceMul, true_or, or_true, ↓reduceIte, aOk, ref_null, null_null, false_or, Option.isSome_some, Option.getD_some, ite_true, ite_false, eq_self, not_false_eq_true, not_true_eq_false, bz_ne, bz_1, reduceCtorEq, Bool.not_true, Bool.not_false, cx_within, c1, c2]
      exact bad (fun e => q2 e.2)
  · have c1 : decide (0 ≤ v ∧ v ≤ 3) = false := decide_eq_false q1
    simp (disch := first | assumption | omega | decide | rfl) only [w_X1_crop_0, w_X1_crop_1, w_X1_crop_2, w_X1_crop_3, w_X1_crop_6, nl_int, nl_ref, nl_null, nl_un, nl_rf, nl_long, isR_ref, isR_null, isR_rf, rf_some, rf_none, rOf_ref, rOf_null, rOf_rf, kn_v, kn_0, true_and, and_true, and_self, tin, inA_x, inA_l, ix_add, ix_addl, ix_ladd, ix_mul, ix_mull, ix_lmul, ix_tn, lt_tn, Nat.reduceLeDiff, Nat.reduceLT, Nat.reduceAdd, Nat.reduceMul, true_or, or_true, ↓reduceIte, aOk, ref_null, null_null, false_or, Option.isSome_some, Option.getD_some, ite_true, ite_false, eq_self, not_false_eq_true, not_true_eq_false, bz_ne, bz_1, reduceCtorEq, Bool.not_true, Bool.not_false, cx_within, c1]
    exact bad (fun e => q1 e.1)
end
