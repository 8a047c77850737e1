/-! THE MODEL: banns -/
set_option maxRecDepth 100000
abbrev Bst : Type := Int32 × (Nat → Nat)
noncomputable def bnB (O : Oc) (lane loud : Nat) (B : Bo) (b : Nat) : Bo := ((caF O (caF O B (O.ba b) lane loud) (O.bb b) lane loud).hang, (caF O (caF O B (O.ba b) lane loud) (O.bb b) lane loud).loose, B.snd, B.day + 7, (caF O (caF O B (O.ba b) lane loud) (O.bb b) lane loud).had, B.pk)
noncomputable def bnL (O : Oc) (lane loud : Nat) (B : Bo) (b : Nat) (lost : Int32) : Int32 := lost + su (flF O B (O.ba b) lane loud) (fun a => vaF O a B.day) O.nA + su (flF O (caF O B (O.ba b) lane loud) (O.bb b) lane loud) (fun a => vaF O a B.day) O.nA
noncomputable def bnF (O : Oc) (lane loud : Nat) : Nat → Nat → Bo → Int32 → (Nat → Nat) → Nat → Bst → Bst
  | 0, _, _, lost, ord, _, st => if ¬ st.1 < 0 ∧ ¬ lost < st.1 then st else (lost, ord)
  | n + 1, used, B, lost, ord, t, st => foI (fun st b => if used.testBit b = true then st else bnF O lane loud n (used ||| 2 ^ b) (bnB O lane loud B b) (bnL O lane loud B b lost) (fun j => if j = t then b else ord j) (t + 1) st) st O.nB
noncomputable def bnA (O : Oc) (B : Bo) (lane loud : Nat) : Bst := bnF O lane loud O.nB 0 B 0 (fun _ => 0) 0 (-1, fun _ => 0)
noncomputable def mayW (O : Oc) (u v w : Int32) : Bool := voF u v && !decide (O.nB = 0) && decide (0 ≤ w ∧ w ≤ ix O.nB)
noncomputable def banF (O : Oc) (B : Bo) (u v w : Int32) : Int32 := if mayW O u v w = true then (if w = 0 then (bnA O B (tn u) (tn v)).1 else ix ((bnA O B (tn u) (tn v)).2 (tn w - 1))) else -1
/-- what is best so far -/
def BO (h : AH) (m n : Nat) (st : Bst) : Prop := Fi h 145 m = st.1 ∧ (¬ st.1 < 0 → ∀ j, j < n → Ai h (m + 66) j = ix (st.2 j))
abbrev baA : List Nat := 35 :: 65 :: 66 :: eA
abbrev baG : List Nat := [130, 131, 132, 145]
section
variable {d D m a b c p q s n k i j K T lane loud : Nat} {h h' : AH} {Q : Rs → AH → Prop} {O : Oc} {B B0 : Bo} {A F : List Nat} {u v w : Int32} {l : List Nat} {st : Bst}
theorem BO.md (x : BO h m n st) (u : Md m A F h h') (h1 : 66 ∉ A) (h2 : 145 ∉ F) : BO h' m n st := by
  unfold BO
  rw [u.ai h1, u.fi h2]
  exact x
theorem wb_bn (z : WB O B) : WB O (bnB O lane loud B b) := by
  have := wb_ca (s := O.bb b) (lane := lane) (loud := loud) (wb_ca (s := O.ba b) (lane := lane) (loud := loud) z)
  exact ⟨this.hang, this.loose, z.snd⟩
theorem va_nn (wo : WO O) {day : Int32} (ha : a < O.nA) : ∃ t, t ≤ 999 ∧ vaF O a day = ix t := by
  have b := wo.wo a ha
  unfold vaF
  cases O.vl with
  | none =>
    dsimp only
    split
    · exact ⟨0, by omega, rfl⟩
    · exact ⟨_, by omega, rfl⟩
  | some φ =>
    dsimp only
    unfold clF
    split
    · exact ⟨0, by omega, rfl⟩
    · rename_i q1
      split
      · exact ⟨999, by omega, rfl⟩
      · rename_i q2
        obtain ⟨t, _, h2, e⟩ := vr_ex (lo := 0) (hi := 999) (by decide) ⟨Int32.not_lt.mp q1, Int32.not_lt.mp q2⟩ (by decide)
        exact ⟨t, h2, e⟩
theorem su_nn {S : Nat} {V : Nat → Int32} : ∀ n, (∀ a, a < n → ∃ t, t ≤ 999 ∧ V a = ix t) → ∃ t, t ≤ 999 * n ∧ su S V n = ix t
  | 0, _ => ⟨0, by omega, rfl⟩
  | n + 1, hv => by
    obtain ⟨t, h1, e1⟩ := su_nn n (fun a ha => hv a (by omega))
    obtain ⟨r, h2, e2⟩ := hv n (by omega)
    rw [su, e1]
    split
    · exact ⟨t + r, by omega, by rw [e2, ix_add]⟩
    · exact ⟨t, by omega, Int32.add_zero _⟩
def pcn (u : Nat) : Nat := u % 2 + u / 2 % 2 + u / 4 % 2 + u / 8 % 2
theorem pcn_1 : ∀ n : Fin 5, ∀ u : Fin 16, u.1 < 2 ^ n.1 → pcn u.1 < n.1 → ∃ b : Fin 4, b.1 < n.1 ∧ u.1.testBit b.1 = false := by decide +kernel
theorem pcn_2 : ∀ n : Fin 5, ∀ u : Fin 16, ∀ b : Fin 4, u.1 < 2 ^ n.1 → b.1 < n.1 → u.1.testBit b.1 = false → pcn (u.1 ||| 2 ^ b.1) = pcn u.1 + 1 ∧ (u.1 ||| 2 ^ b.1) < 2 ^ n.1 := by decide +kernel
theorem rd_nn (wo : WO O) : ∀ n k used B lost ord st L, k + n = O.nB → pcn used = k → used < 2 ^ O.nB → lost = ix L → L ≤ 20000 * k → ¬ (bnF O lane loud n used B lost ord k st).1 < 0 := by
  have n1 := wo.nA
  have n6 := wo.nB
  have p16 : 2 ^ O.nB ≤ 16 := Nat.pow_le_pow_right (n := 2) (j := 4) (by decide) n6
  intro n
  induction n with
  | zero =>
    intro k used B lost ord st L hk hp hu el hL
    rw [bnF]
    split
    · rename_i q; exact q.1
    · rw [el]; exact ix_nn (by omega)
  | succ n ih =>
    intro k used B lost ord st L hk hp hu el hL
    rw [bnF]
    have key : ∀ j, j ≤ O.nB → (∃ b, b < j ∧ used.testBit b = false) → ¬ (foI (fun st b => if used.testBit b = true then st else bnF O lane loud n (used ||| 2 ^ b) (bnB O lane loud B b) (bnL O lane loud B b lost) (fun j => if j = k then b else ord j) (k + 1) st) st j).1 < 0 := by
      intro j
      induction j with
      | zero => rintro _ ⟨b, hb, _⟩; omega
      | succ j ihj =>
        rintro hj ⟨b, hb, hbb⟩
        rw [foI]
        by_cases q : used.testBit j = true
        · rw [if_pos q]
          refine ihj (by omega) ⟨b, ?_, hbb⟩
          have : b ≠ j := fun e => by rw [e, q] at hbb; exact absurd hbb (by decide)
          omega
        · rw [if_neg q]
          have p2 := pcn_2 ⟨O.nB, by omega⟩ ⟨used, by omega⟩ ⟨j, by omega⟩ hu (by show j < O.nB; omega) (Bool.not_eq_true _ ▸ q)
          obtain ⟨t1, h1, e1⟩ := su_nn (S := flF O B (O.ba j) lane loud) (V := fun a => vaF O a B.day) O.nA (fun a ha => va_nn wo ha)
          obtain ⟨t2, h2, e2⟩ := su_nn (S := flF O (caF O B (O.ba j) lane loud) (O.bb j) lane loud) (V := fun a => vaF O a B.day) O.nA (fun a ha => va_nn wo ha)
          refine ih (k + 1) _ _ _ _ _ (L + t1 + t2) (by omega) (by rw [← hp]; exact p2.1) p2.2 ?_ (by omega)
          unfold bnL
          rw [el, e1, e2, ix_add, ix_add]
    obtain ⟨b, hb, hbb⟩ := pcn_1 ⟨O.nB, by omega⟩ ⟨used, by omega⟩ hu (by show pcn used < O.nB; omega)
    exact key O.nB (Nat.le_refl _) ⟨b.1, hb, hbb⟩
theorem bnA_nn (wo : WO O) (h0 : O.nB ≠ 0) : ¬ (bnA O B lane loud).1 < 0 := rd_nn wo O.nB 0 0 B 0 _ _ 0 (by omega) (by decide) (Nat.two_pow_pos _) rfl (by omega)
/-- one of the two calls of a bann -/
theorem reads0_p (x : M0 h m O) (y : MB h (m + 53) 0 O.nA B0) (z : WB O B) (es : B.snd = B0.snd) (hl : lane < 12) (hd : loud < 7) (ht : k < 5) (ed : B.day = B0.day + ix (7 * k)) (hb : b < O.nB) (hi : i < 2) (hs : s = if i = 0 then O.ba b else O.bb b) {l2 v3 v4 v5 v13 : Value} (nx : ∀ h' v13, Md m (35 :: eA) [130, 131, 132] h h' → Ru (D + 7) 235 112 [.ref m, .int (ix k), l2, v3, v4, v5, .int (ix lane), .int (ix loud), .int (ix b), .int (ix (caF O B s lane loud).hang), .int (ix (caF O B s lane loud).loose), .int (w + su (flF O B s lane loud) (fun a => vaF O a B.day) O.nA), .int (ix (i + 1)), v13] [] h' Q) : Ru (D + 7) 235 112 [.ref m, .int (ix k), l2, v3, v4, v5, .int (ix lane), .int (ix loud), .int (ix b), .int (ix B.hang), .int (ix B.loose), .int w, .int (ix i), v13] [] h Q := by
  have n1 := x.wo.nA
  have n2 := x.wo.nS
  have n6 := x.wo.nB
  have hm := x.mo
  have hh := z.lt x.wo
  have b1 : s < O.nS := by
    rw [hs]
    split
    · exact x.wo.ba b hb
    · exact x.wo.bb b hb
  have z0 : ∀ a, a < O.nA → B0.snd a < O.nS := by rw [← es]; exact z.snd
  have e : (ix i < 2) = True := ltT (n := 2) hi (by decide)
  have r1 : Ru (D + 7) 235 112 [.ref m, .int (ix k), l2, v3, v4, v5, .int (ix lane), .int (ix loud), .int (ix b), .int (ix B.hang), .int (ix B.loose), .int w, .int (ix i), v13] [] h Q = Ru (D + 7) 235 141 [.ref m, .int (ix k), l2, v3, v4, v5, .int (ix lane), .int (ix loud), .int (ix b), .int (ix B.hang), .int (ix B.loose), .int w, .int (ix i), v13] [.int (ix s), .ref m] h Q := by
    rw [w_X9_reads0_112]
    by_cases q : i = 0
    · have d0 : (i = 0) = True := eq_true q
      have hs : O.ba b = s := by rw [hs, if_pos q]
      simp (disch := first | assumption | omega | decide | rfl) only [w_X9_reads0_114, w_X9_reads0_115, w_X9_reads0_118, w_X9_reads0_119, w_X9_reads0_121, w_X9_reads0_124, w_X9_reads0_125, w_X9_reads0_128, w_X9_reads0_130, w_X9_reads0_131, nl_int, nl_ref, nl_null, nl_un, nl_rf, nl_long, isR_ref, isR_null, isR_rf, rf_some, rf_none, rOf_ref, rOf_null, rOf_rf, kn_v, kn_0, true_and, and_true, and_self, tin, inA_x, inA_l, ix_add, ix_addl, ix_ladd, ix_mul, ix_mull, ix_lmul, ix_tn, lt_tn, Nat.reduceLeDiff, Nat.reduceLT, Nat.reduceAdd, Nat.reduceMul, true_or, or_true, ↓reduceIte, aOk, ref_null, null_null, false_or, Option.isSome_some, Option.getD_some, ite_true, ite_false, eq_self, not_false_eq_true, not_true_eq_false, bz_ne, bz_1, reduceCtorEq, Bool.not_true, Bool.not_false, mo_0 hm, mo_orchard hm, mt_orchard hm, ml_orchard hm, mo_bestOrder hm, mt_bestOrder hm, ml_bestOrder hm, mo_order hm, mt_order hm, ml_order hm, mo_bannA hm, mt_bannA hm, ml_bannA hm, mo_bannB hm, mt_bannB hm, ml_bannB hm, mo_s hm, mt_s hm, ml_s hm, e, x.ba hb, ix_eql, d0, hs]
    · have d0 : (i = 0) = False := eq_false q
      have hs : O.bb b = s := by rw [hs, if_neg q]
      simp (disch := first | assumption | omega | decide | rfl) only [w_X9_reads0_114, w_X9_reads0_115, w_X9_reads0_118, w_X9_reads0_119, w_X9_reads0_121, w_X9_reads0_134, w_X9_reads0_135, w_X9_reads0_138, w_X9_reads0_140, nl_int, nl_ref, nl_null, nl_un, nl_rf, nl_long, isR_ref, isR_null, isR_rf, rf_some, rf_none, rOf_ref, rOf_null, rOf_rf, kn_v, kn_0, true_and, and_true, and_self, tin, inA_x, inA_l, ix_add, ix_addl, ix_ladd, ix_mul, ix_mull, ix_lmul, ix_tn, lt_tn, Nat.reduceLeDiff, Nat.reduceLT, Nat.reduceAdd, Nat.reduceMul, true_or, or_true, ↓reduceIte, aOk, ref_null, null_null, false_or, Option.isSome_some, Option.getD_some, ite_true, ite_false, eq_self, not_false_eq_true, not_true_eq_false, bz_ne, bz_1, reduceCtorEq, Bool.not_true, Bool.not_false, mo_0 hm, mo_orchard hm, mt_orchard hm, ml_orchard hm, mo_bestOrder hm, mt_bestOrder hm, ml_bestOrder hm, mo_order hm, mt_order hm, ml_order hm, mo_bannA hm, mt_bannA hm, ml_bannA hm, mo_bannB hm, mt_bannB hm, ml_bannB hm, mo_s hm, mt_s hm, ml_s hm, e, x.bb hb, ix_eql, d0, hs]
  rw [r1]
  simp (disch := first | assumption | omega | decide | rfl) only [w_X9_reads0_141, w_X9_reads0_143, w_X9_reads0_145, nl_int, nl_ref, nl_null, nl_un, nl_rf, nl_long, isR_ref, isR_null, isR_rf, rf_some, rf_none, rOf_ref, rOf_null, rOf_rf, kn_v, kn_0, true_and, and_true, and_self, tin, inA_x, inA_l, ix_add, ix_addl, ix_ladd, ix_mul, ix_mull, ix_lmul, ix_tn, lt_tn, Nat.reduceLeDiff, Nat.reduceLT, Nat.reduceAdd, Nat.reduceMul, true_or, or_true, ↓reduceIte, aOk, ref_null, null_null, false_or, Option.isSome_some, Option.getD_some, ite_true, ite_false, eq_self, not_false_eq_true, not_true_eq_false, bz_ne, bz_1, reduceCtorEq, Bool.not_true, Bool.not_false, mo_0 hm]
  rw [cm_hears (snd := B0.snd) x b1 hl hd z0 y.s0, kn_0, ← es]
  have u3 : Md m [] [130, 131, 132] h (sFi (sFi h 130 m (ix (whF O B.snd s lane loud))) 131 m (ix (ecF O B.snd s lane loud))) := (md_sFi (by decide)).sFi (by decide)
  have a1 : Fi (sFi (sFi h 130 m (ix (whF O B.snd s lane loud))) 131 m (ix (ecF O B.snd s lane loud))) 130 m = ix (whF O B.snd s lane loud) := by rw [Fi_otherf (by decide), Fi_same]
  have a2 : Fi (sFi (sFi h 130 m (ix (whF O B.snd s lane loud))) 131 m (ix (ecF O B.snd s lane loud))) 131 m = ix (ecF O B.snd s lane loud) := Fi_same
  revert u3 a1 a2
  generalize sFi (sFi h 130 m (ix (whF O B.snd s lane loud))) 131 m (ix (ecF O B.snd s lane loud)) = h3
  intro u3 a1 a2
  have x3 : M0 h3 m O := x.md u3
  have hm3 := x3.mo
  simp (disch := first | assumption | omega | decide | rfl) only [w_X9_reads0_148, w_X9_reads0_149, w_X9_reads0_151, w_X9_reads0_153, w_X9_reads0_154, w_X9_reads0_157, w_X9_reads0_158, w_X9_reads0_161, nl_int, nl_ref, nl_null, nl_un, nl_rf, nl_long, isR_ref, isR_null, isR_rf, rf_some, rf_none, rOf_ref, rOf_null, rOf_rf, kn_v, kn_0, true_and, and_true, and_self, tin, inA_x, inA_l, ix_add, ix_addl, ix_ladd, ix_mul, ix_mull, ix_lmul, ix_tn, lt_tn, Nat.reduceLeDiff, Nat.reduceLT, Nat.reduceAdd, Nat.reduceMul, true_or, or_true, ↓reduceIte, aOk, ref_null, null_null, false_or, Option.isSome_some, Option.getD_some, ite_true, ite_false, eq_self, not_false_eq_true, not_true_eq_false, bz_ne, bz_1, reduceCtorEq, Bool.not_true, Bool.not_false, mo_0 hm3, mo_orchard hm3, mt_orchard hm3, ml_orchard hm3, mo_bestOrder hm3, mt_bestOrder hm3, ml_bestOrder hm3, mo_order hm3, mt_order hm3, ml_order hm3, mo_bannA hm3, mt_bannA hm3, ml_bannA hm3, mo_bannB hm3, mt_bannB hm3, ml_bannB hm3, mo_s hm3, mt_s hm3, ml_s hm3, a1, a2]
  rw [cm_fallsBy x3 hh, kn_v]
  have hf : flF O B s lane loud < 1024 := faF_lt hh
  rw [show faF O B.hang B.loose (whF O B.snd s lane loud) (ecF O B.snd s lane loud) = flF O B s lane loud from rfl, show loF O B.hang B.loose (whF O B.snd s lane loud) (ecF O B.snd s lane loud) = (caF O B s lane loud).loose from rfl]
  have u4 : Md m [] [130, 131, 132] h (sFi h3 132 m (ix (caF O B s lane loud).loose)) := u3.sFi (by decide)
  have a3 : Fi (sFi h3 132 m (ix (caF O B s lane loud).loose)) 132 m = ix (caF O B s lane loud).loose := Fi_same
  revert u4 a3
  generalize sFi h3 132 m (ix (caF O B s lane loud).loose) = h4
  intro u4 a3
  have x4 : M0 h4 m O := x.md u4
  have hm4 := x4.mo
  have y4 : MB h4 (m + 53) 0 O.nA B0 := y.md u4 (by decide)
  simp (disch := first | assumption | omega | decide | rfl) only [w_X9_reads0_164, w_X9_reads0_166, w_X9_reads0_168, w_X9_reads0_170, w_X9_reads0_171, w_X9_reads0_172, w_X9_reads0_173, w_X9_reads0_175, w_X9_reads0_176, w_X9_reads0_179, w_X9_reads0_181, w_X9_reads0_183, w_X9_reads0_184, w_X9_reads0_186, w_X9_reads0_187, w_X9_reads0_190, w_X9_reads0_191, w_X9_reads0_192, w_X9_reads0_194, w_X9_reads0_195, w_X9_reads0_196, w_X9_reads0_197, nl_int, nl_ref, nl_null, nl_un, nl_rf, nl_long, isR_ref, isR_null, isR_rf, rf_some, rf_none, rOf_ref, rOf_null, rOf_rf, kn_v, kn_0, true_and, and_true, and_self, tin, inA_x, inA_l, ix_add, ix_addl, ix_ladd, ix_mul, ix_mull, ix_lmul, ix_tn, lt_tn, Nat.reduceLeDiff, Nat.reduceLT, Nat.reduceAdd, Nat.reduceMul, true_or, or_true, ↓reduceIte, aOk, ref_null, null_null, false_or, Option.isSome_some, Option.getD_some, ite_true, ite_false, eq_self, not_false_eq_true, not_true_eq_false, bz_ne, bz_1, reduceCtorEq, Bool.not_true, Bool.not_false, mo_0 hm4, mo_orchard hm4, mt_orchard hm4, ml_orchard hm4, mo_bestOrder hm4, mt_bestOrder hm4, ml_bestOrder hm4, mo_order hm4, mt_order hm4, ml_order hm4, mo_bannA hm4, mt_bannA hm4, ml_bannA hm4, mo_bannB hm4, mt_bannB hm4, ml_bannB hm4, mo_s hm4, mt_s hm4, ml_s hm4, a3, ix_sd, y4.d0]
  rw [← ed]
  refine ca_mono (cm_worthOf x4 hf) ?_
  rintro r h5 ⟨rfl, u5⟩
  simp (disch := first | assumption | omega | decide | rfl) only [w_X9_reads0_200, w_X9_reads0_201, w_X9_reads0_203, w_X9_reads0_206, nl_int, nl_ref, nl_null, nl_un, nl_rf, nl_long, isR_ref, isR_null, isR_rf, rf_some, rf_none, rOf_ref, rOf_null, rOf_rf, kn_v, kn_0, true_and, and_true, and_self, tin, inA_x, inA_l, ix_add, ix_addl, ix_ladd, ix_mul, ix_mull, ix_lmul, ix_tn, lt_tn, Nat.reduceLeDiff, Nat.reduceLT, Nat.reduceAdd, Nat.reduceMul, true_or, or_true, ↓reduceIte, aOk, ref_null, null_null, false_or, Option.isSome_some, Option.getD_some, ite_true, ite_false, eq_self, not_false_eq_true, not_true_eq_false, bz_ne, bz_1, reduceCtorEq, Bool.not_true, Bool.not_false]
  exact nx h5 _ ((u4.mono (by decide) (by decide)).t u5)
theorem cm_reads0 (wo : WO O) (hl : lane < 12) (hd : loud < 7) : ∀ n k used B lost ord st h, k + n = O.nB → used < 16 → M0 h m O → MB h (m + 53) 0 O.nA B0 → WB O B → B.snd = B0.snd → B.day = B0.day + ix (7 * k) → (∀ j, j < k → Ai h (m + 65) j = ix (ord j)) → BO h m O.nB st → Ca (D + 8 + n) 235 [.ref m, .int (ix k), .int (ix used), .int (ix B.hang), .int (ix B.loose), .int lost, .int (ix lane), .int (ix loud)] h (fun r h' => r = .inl none ∧ Md m baA baG h h' ∧ (∀ j, j < k → Ai h' (m + 65) j = ix (ord j)) ∧ BO h' m O.nB (bnF O lane loud n used B lost ord k st)) := by
  have n1 := wo.nA
  have n6 := wo.nB
  intro n
  induction n with
  | zero =>
    intro k used B lost ord st h hk hu x y z es ed go gb
    have ek : k = O.nB := by omega
    have d0 : (k = O.nB) = True := eq_true ek
    have hm := x.mo
    obtain ⟨gb1, gb2⟩ := id gb
    have skip : (¬ st.1 < 0 ∧ ¬ lost < st.1) → Md m baA baG h h ∧ (∀ j, j < k → Ai h (m + 65) j = ix (ord j)) ∧ BO h m O.nB (bnF O lane loud 0 used B lost ord k st) := fun q => by
      refine ⟨Md.refl, go, ?_⟩
      rw [bnF, if_pos q]
      exact gb
    have take : ¬ (¬ st.1 < 0 ∧ ¬ lost < st.1) → Ru (D + 7) 235 27 [.ref m, .int (ix k), .int (ix used), .int (ix B.hang), .int (ix B.loose), .int lost, .int (ix lane), .int (ix loud), un, un, un, un, un, un] [] h (fun r h' => r = .inl none ∧ Md m baA baG h h' ∧ (∀ j, j < k → Ai h' (m + 65) j = ix (ord j)) ∧ BO h' m O.nB (bnF O lane loud 0 used B lost ord k st)) := fun q => by
      rw [bnF, if_neg q]
      simp (disch := first | assumption | omega | decide | rfl) only [w_X9_reads0_27, w_X9_reads0_28, w_X9_reads0_30, w_X9_reads0_33, w_X9_reads0_34, nl_int, nl_ref, nl_null, nl_un, nl_rf, nl_long, isR_ref, isR_null, isR_rf, rf_some, rf_none, rOf_ref, rOf_null, rOf_rf, kn_v, kn_0, true_and, and_true, and_self, tin, inA_x, inA_l, ix_add, ix_addl, ix_ladd, ix_mul, ix_mull, ix_lmul, ix_tn, lt_tn, Nat.reduceLeDiff, Nat.reduceLT, Nat.reduceAdd, Nat.reduceMul, true_or, or_true, ↓reduceIte, aOk, ref_null, null_null, false_or, Option.isSome_some, Option.getD_some, ite_true, ite_false, eq_self, not_false_eq_true, not_true_eq_false, bz_ne, bz_1, reduceCtorEq, Bool.not_true, Bool.not_false, mo_0 hm]
      have u1 : Md m baA baG h (sFi h 145 m lost) := md_sFi (by decide)
      have f1 : Fi (sFi h 145 m lost) 145 m = lost := Fi_same
      have g1 : Ai (sFi h 145 m lost) (m + 65) = Ai h (m + 65) := rfl
      revert u1 f1 g1
      generalize sFi h 145 m lost = h1
      intro u1 f1 g1
      refine lp (P := fun j => ∀ h2, Md m baA baG h h2 → Fi h2 145 m = lost → Ai h2 (m + 65) = Ai h (m + 65) → (∀ i, i < j → Ai h2 (m + 66) i = Ai h (m + 65) i) → Ru (D + 7) 235 36 [.ref m, .int (ix k), .int (ix used), .int (ix B.hang), .int (ix B.loose), .int lost, .int (ix lane), .int (ix loud), .int (ix j), un, un, un, un, un] [] h2 (fun r h' => r = .inl none ∧ Md m baA baG h h' ∧ (∀ j, j < k → Ai h' (m + 65) j = ix (ord j)) ∧ BO h' m O.nB (lost, ord))) (N := 4) ?_ ?_ h1 u1 f1 g1 (fun i hi => absurd hi (by omega))
      · intro h2 u2 f2 g2 e2
        have e : (ix 4 < 4) = False := eq_false (by decide)
        rw [w_X9_reads0_36]
        simp (disch := first | assumption | omega | decide | rfl) only [w_X9_reads0_38, w_X9_reads0_39, w_X9_reads0_62, nl_int, nl_ref, nl_null, nl_un, nl_rf, nl_long, isR_ref, isR_null, isR_rf, rf_some, rf_none, rOf_ref, rOf_null, rOf_rf, kn_v, kn_0, true_and, and_true, and_self, tin, inA_x, inA_l, ix_add, ix_addl, ix_ladd, ix_mul, ix_mull, ix_lmul, ix_tn, lt_tn, Nat.reduceLeDiff, Nat.reduceLT, Nat.reduceAdd, Nat.reduceMul, true_or, or_true, ↓reduceIte, aOk, ref_null, null_null, false_or, Option.isSome_some, Option.getD_some, ite_true, ite_false, eq_self, not_false_eq_true, not_true_eq_false, bz_ne, bz_1, reduceCtorEq, Bool.not_true, Bool.not_false, e]
        refine ⟨u2, fun j hj => by rw [g2]; exact go j hj, f2, fun _ j hj => ?_⟩
        rw [e2 j (by omega)]
        exact go j (by omega)
      · intro j hj nx h2 u2 f2 g2 e2
        have hm2 := u2.mo hm
        have e : (ix j < 4) = True := ltT (n := 4) hj (by decide)
        rw [w_X9_reads0_36]
        simp (disch := first | assumption | omega | decide | rfl) only [w_X9_reads0_38, w_X9_reads0_39, w_X9_reads0_42, w_X9_reads0_43, w_X9_reads0_46, w_X9_reads0_48, w_X9_reads0_49, w_X9_reads0_52, w_X9_reads0_54, w_X9_reads0_55, w_X9_reads0_56, w_X9_reads0_59, nl_int, nl_ref, nl_null, nl_un, nl_rf, nl_long, isR_ref, isR_null, isR_rf, rf_some, rf_none, rOf_ref, rOf_null, rOf_rf, kn_v, kn_0, true_and, and_true, and_self, tin, inA_x, inA_l, ix_add, ix_addl, ix_ladd, ix_mul, ix_mull, ix_lmul, ix_tn, lt_tn, Nat.reduceLeDiff, Nat.reduceLT, Nat.reduceAdd, Nat.reduceMul, true_or, or_true, ↓reduceIte, aOk, ref_null, null_null, false_or, Option.isSome_some, Option.getD_some, ite_true, ite_false, eq_self, not_false_eq_true, not_true_eq_false, bz_ne, bz_1, reduceCtorEq, Bool.not_true, Bool.not_false, mo_0 hm2, mo_orchard hm2, mt_orchard hm2, ml_orchard hm2, mo_bestOrder hm2, mt_bestOrder hm2, ml_bestOrder hm2, mo_order hm2, mt_order hm2, ml_order hm2, mo_bannA hm2, mt_bannA hm2, ml_bannA hm2, mo_bannB hm2, mt_bannB hm2, ml_bannB hm2, mo_s hm2, mt_s hm2, ml_s hm2, e]
        refine nx _ (u2.sAi (by decide)) f2 (by rw [Ai_other (by omega)]; exact g2) (fun i hi => ?_)
        rw [Ai_same]
        by_cases qi : i = j
        · subst qi; rw [upd_s, g2]
        · rw [upd_n qi]; exact e2 i (by omega)
    rw [e_X9_reads0]
    by_cases q1 : st.1 < 0
    · simp (disch := first | assumption | omega | decide | rfl) only [w_X9_reads0_0, w_X9_reads0_1, w_X9_reads0_2, w_X9_reads0_5, w_X9_reads0_6, w_X9_reads0_7, w_X9_reads0_10, w_X9_reads0_11, w_X9_reads0_14, nl_int, nl_ref, nl_null, nl_un, nl_rf, nl_long, isR_ref, isR_null, isR_rf, rf_some, rf_none, rOf_ref, rOf_null, rOf_rf, kn_v, kn_0, true_and, and_true, and_self, tin, inA_x, inA_l, ix_add, ix_addl, ix_ladd, ix_mul, ix_mull, ix_lmul, ix_tn, lt_tn, Nat.reduceLeDiff, Nat.reduceLT, Nat.reduceAdd, Nat.reduceMul, true_or, or_true, ↓reduceIte, aOk, ref_null, null_null, false_or, Option.isSome_some, Option.getD_some, ite_true, ite_false, eq_self, not_false_eq_true, not_true_eq_false, bz_ne, bz_1, reduceCtorEq, Bool.not_true, Bool.not_false, mo_0 hm, mo_orchard hm, mt_orchard hm, ml_orchard hm, mo_bestOrder hm, mt_bestOrder hm, ml_bestOrder hm, mo_order hm, mt_order hm, ml_order hm, mo_bannA hm, mt_bannA hm, ml_bannA hm, mo_bannB hm, mt_bannB hm, ml_bannB hm, mo_s hm, mt_s hm, ml_s hm, x.aB, ix_eq, d0, gb1, q1]
      exact take (fun q => q.1 q1)
    · by_cases q2 : lost < st.1
      · simp (disch := first | assumption | omega | decide | rfl) only [w_X9_reads0_0, w_X9_reads0_1, w_X9_reads0_2, w_X9_reads0_5, w_X9_reads0_6, w_X9_reads0_7, w_X9_reads0_10, w_X9_reads0_11, w_X9_reads0_14, w_X9_reads0_17, w_X9_reads0_19, w_X9_reads0_20, w_X9_reads0_23, nl_int, nl_ref, nl_null, nl_un, nl_rf, nl_long, isR_ref, isR_null, isR_rf, rf_some, rf_none, rOf_ref, rOf_null, rOf_rf, kn_v, kn_0, true_and, and_true, and_self, tin, inA_x, inA_l, ix_add, ix_addl, ix_ladd, ix_mul, ix_mull, ix_lmul, ix_tn, lt_tn, Nat.reduceLeDiff, Nat.reduceLT, Nat.reduceAdd, Nat.reduceMul, true_or, or_true, ↓reduceIte, aOk, ref_null, null_null, false_or, Option.isSome_some, Option.getD_some, ite_true, ite_false, eq_self, not_false_eq_true, not_true_eq_false, bz_ne, bz_1, reduceCtorEq, Bool.not_true, Bool.not_false, mo_0 hm, mo_orchard hm, mt_orchard hm, ml_orchard hm, mo_bestOrder hm, mt_bestOrder hm, ml_bestOrder hm, mo_order hm, mt_order hm, ml_order hm, mo_bannA hm, mt_bannA hm, ml_bannA hm, mo_bannB hm, mt_bannB hm, ml_bannB hm, mo_s hm, mt_s hm, ml_s hm, x.aB, ix_eq, d0, gb1, q1, q2]
        exact take (fun q => q.2 q2)
      · simp (disch := first | assumption | omega | decide | rfl) only [w_X9_reads0_0, w_X9_reads0_1, w_X9_reads0_2, w_X9_reads0_5, w_X9_reads0_6, w_X9_reads0_7, w_X9_reads0_10, w_X9_reads0_11, w_X9_reads0_14, w_X9_reads0_17, w_X9_reads0_19, w_X9_reads0_20, w_X9_reads0_23, w_X9_reads0_26, nl_int, nl_ref, nl_null, nl_un, nl_rf, nl_long, isR_ref, isR_null, isR_rf, rf_some, rf_none, rOf_ref, rOf_null, rOf_rf, kn_v, kn_0, true_and, and_true, and_self, tin, inA_x, inA_l, ix_add, ix_addl, ix_ladd, ix_mul, ix_mull, ix_lmul, ix_tn, lt_tn, Nat.reduceLeDiff, Nat.reduceLT, Nat.reduceAdd, Nat.reduceMul, true_or, or_true, ↓reduceIte, aOk, ref_null, null_null, false_or, Option.isSome_some, Option.getD_some, ite_true, ite_false, eq_self, not_false_eq_true, not_true_eq_false, bz_ne, bz_1, reduceCtorEq, Bool.not_true, Bool.not_false, mo_0 hm, mo_orchard hm, mt_orchard hm, ml_orchard hm, mo_bestOrder hm, mt_bestOrder hm, ml_bestOrder hm, mo_order hm, mt_order hm, ml_order hm, mo_bannA hm, mt_bannA hm, ml_bannA hm, mo_bannB hm, mt_bannB hm, ml_bannB hm, mo_s hm, mt_s hm, ml_s hm, x.aB, ix_eq, d0, gb1, q1, q2]
        exact skip ⟨q1, q2⟩
  | succ n ih =>
    intro k used B lost ord st h hk hu x y z es ed go gb
    have d0 : (k = O.nB) = False := eq_false (by omega)
    have hm := x.mo
    rw [show D + 8 + (n + 1) = D + 8 + n + 1 from rfl, e_X9_reads0, bnF]
    simp (disch := first | assumption | omega | decide | rfl) only [w_X9_reads0_0, w_X9_reads0_1, w_X9_reads0_2, w_X9_reads0_5, w_X9_reads0_6, w_X9_reads0_7, w_X9_reads0_63, w_X9_reads0_64, nl_int, nl_ref, nl_null, nl_un, nl_rf, nl_long, isR_ref, isR_null, isR_rf, rf_some, rf_none, rOf_ref, rOf_null, rOf_rf, kn_v, kn_0, true_and, and_true, and_self, tin, inA_x, inA_l, ix_add, ix_addl, ix_ladd, ix_mul, ix_mull, ix_lmul, ix_tn, lt_tn, Nat.reduceLeDiff, Nat.reduceLT, Nat.reduceAdd, Nat.reduceMul, true_or, or_true, ↓reduceIte, aOk, ref_null, null_null, false_or, Option.isSome_some, Option.getD_some, ite_true, ite_false, eq_self, not_false_eq_true, not_true_eq_false, bz_ne, bz_1, reduceCtorEq, Bool.not_true, Bool.not_false, mo_0 hm, mo_orchard hm, mt_orchard hm, ml_orchard hm, mo_bestOrder hm, mt_bestOrder hm, ml_bestOrder hm, mo_order hm, mt_order hm, ml_order hm, mo_bannA hm, mt_bannA hm, ml_bannA hm, mo_bannB hm, mt_bannB hm, ml_bannB hm, mo_s hm, mt_s hm, ml_s hm, x.aB, ix_eq, d0]
    refine lp (P := fun j => ∀ h2 (v9 v10 v11 v12 v13 : Value), Md m baA baG h h2 → (∀ i, i < k → Ai h2 (m + 65) i = ix (ord i)) → BO h2 m O.nB (foI (fun st b => if used.testBit b = true then st else bnF O lane loud n (used ||| 2 ^ b) (bnB O lane loud B b) (bnL O lane loud B b lost) (fun j => if j = k then b else ord j) (k + 1) st) st j) → Ru (D + 8 + n) 235 66 [.ref m, .int (ix k), .int (ix used), .int (ix B.hang), .int (ix B.loose), .int lost, .int (ix lane), .int (ix loud), .int (ix j), v9, v10, v11, v12, v13] [] h2 _) (N := O.nB) ?_ ?_ h un un un un un Md.refl go gb
    · intro h2 v9 v10 v11 v12 v13 u2 go2 gb2
      have x2 : M0 h2 m O := x.md u2
      have hm2 := x2.mo
      have e : ¬ O.nB < O.nB := by omega
      rw [w_X9_reads0_66]
      simp (disch := first | assumption | omega | decide | rfl) only [w_X9_reads0_68, w_X9_reads0_69, w_X9_reads0_72, w_X9_reads0_73, w_X9_reads0_74, w_X9_reads0_238, nl_int, nl_ref, nl_null, nl_un, nl_rf, nl_long, isR_ref, isR_null, isR_rf, rf_some, rf_none, rOf_ref, rOf_null, rOf_rf, kn_v, kn_0, true_and, and_true, and_self, tin, inA_x, inA_l, ix_add, ix_addl, ix_ladd, ix_mul, ix_mull, ix_lmul, ix_tn, lt_tn, Nat.reduceLeDiff, Nat.reduceLT, Nat.reduceAdd, Nat.reduceMul, true_or, or_true, ↓reduceIte, aOk, ref_null, null_null, false_or, Option.isSome_some, Option.getD_some, ite_true, ite_false, eq_self, not_false_eq_true, not_true_eq_false, bz_ne, bz_1, reduceCtorEq, Bool.not_true, Bool.not_false, mo_0 hm2, mo_orchard hm2, mt_orchard hm2, ml_orchard hm2, mo_bestOrder hm2, mt_bestOrder hm2, ml_bestOrder hm2, mo_order hm2, mt_order hm2, ml_order hm2, mo_bannA hm2, mt_bannA hm2, ml_bannA hm2, mo_bannB hm2, mt_bannB hm2, ml_bannB hm2, mo_s hm2, mt_s hm2, ml_s hm2, x2.aB, ix_lt, e]
      exact ⟨u2, go2, gb2⟩
    · intro j hj nx h2 v9 v10 v11 v12 v13 u2 go2 gb2
      have x2 : M0 h2 m O := x.md u2
      have hm2 := x2.mo
      have y2 : MB h2 (m + 53) 0 O.nA B0 := y.md u2 (by decide)
      have hb := has_b (n := used) (k := j) (by omega) (by omega)
      rw [foI] at nx
      revert nx gb2
      generalize foI (fun st b => if used.testBit b = true then st else bnF O lane loud n (used ||| 2 ^ b) (bnB O lane loud B b) (bnL O lane loud B b lost) (fun j => if j = k then b else ord j) (k + 1) st) st j = st2
      intro nx gb2
      rw [w_X9_reads0_66]
      cases q1 : used.testBit j
      · have hb : (ix used >>> (ix j &&& 31) &&& 1 = 1) = False := by rw [hb, q1]; simp
        rw [q1, if_neg (by decide)] at nx
        simp (disch := first | assumption | omega | decide | rfl) only [w_X9_reads0_68, w_X9_reads0_69, w_X9_reads0_72, w_X9_reads0_73, w_X9_reads0_74, w_X9_reads0_77, w_X9_reads0_78, w_X9_reads0_80, w_X9_reads0_81, w_X9_reads0_82, w_X9_reads0_83, w_X9_reads0_84, w_X9_reads0_90, w_X9_reads0_91, w_X9_reads0_94, w_X9_reads0_95, w_X9_reads0_97, w_X9_reads0_98, w_X9_reads0_99, w_X9_reads0_101, w_X9_reads0_103, w_X9_reads0_105, w_X9_reads0_107, w_X9_reads0_109, w_X9_reads0_110, nl_int, nl_ref, nl_null, nl_un, nl_rf, nl_long, isR_ref, isR_null, isR_rf, rf_some, rf_none, rOf_ref, rOf_null, rOf_rf, kn_v, kn_0, true_and, and_true, and_self, tin, inA_x, inA_l, ix_add, ix_addl, ix_ladd, ix_mul, ix_mull, ix_lmul, ix_tn, lt_tn, Nat.reduceLeDiff, Nat.reduceLT, Nat.reduceAdd, Nat.reduceMul, true_or, or_true, ↓reduceIte, aOk, ref_null, null_null, false_or, Option.isSome_some, Option.getD_some, ite_true, ite_false, eq_self, not_false_eq_true, not_true_eq_false, bz_ne, bz_1, reduceCtorEq, Bool.not_true, Bool.not_false, mo_0 hm2, mo_orchard hm2, mt_orchard hm2, ml_orchard hm2, mo_bestOrder hm2, mt_bestOrder hm2, ml_bestOrder hm2, mo_order hm2, mt_order hm2, ml_order hm2, mo_bannA hm2, mt_bannA hm2, ml_bannA hm2, mo_bannB hm2, mt_bannB hm2, ml_bannB hm2, mo_s hm2, mt_s hm2, ml_s hm2, x2.aB, ix_lt, hj, hb]
        have u3 : Md m baA baG h (sAi h2 (m + 65) (upd (Ai h2 (m + 65)) k (ix j))) := u2.sAi (by decide)
        have u23 : Md m [65] [] h2 (sAi h2 (m + 65) (upd (Ai h2 (m + 65)) k (ix j))) := md_sAi (by decide)
        have go3 : ∀ i, i < k + 1 → Ai (sAi h2 (m + 65) (upd (Ai h2 (m + 65)) k (ix j))) (m + 65) i = ix (if i = k then j else ord i) := fun i hi => by {rw [Ai_same]; by_cases qi : i = k; rw [qi, upd_s, if_pos rfl]; rw [upd_n qi, if_neg qi]; exact go2 i (by omega)}
        revert u3 u23 go3
        generalize sAi h2 (m + 65) (upd (Ai h2 (m + 65)) k (ix j)) = h3
        intro u3 u23 go3
        have gb3 : BO h3 m O.nB st2 := gb2.md u23 (by decide) (by decide)
        have x3 : M0 h3 m O := x.md u3
        have y3 : MB h3 (m + 53) 0 O.nA B0 := y.md u3 (by decide)
        rw [show D + 8 + n = D + n + 1 + 7 by omega]
        refine reads0_p (i := 0) (b := j) x3 y3 z es hl hd (by omega) ed hj (by omega) (by rw [if_pos rfl]) (fun h4 v13 u4 => ?_)
        have x4 : M0 h4 m O := x3.md u4
        have y4 : MB h4 (m + 53) 0 O.nA B0 := y3.md u4 (by decide)
        refine reads0_p (i := 1) (b := j) x4 y4 (wb_ca z) es hl hd (by omega) ed hj (by omega) (by rw [if_neg (by decide)]) (fun h5 v13 u5 => ?_)
        have x5 : M0 h5 m O := x4.md u5
        have y5 : MB h5 (m + 53) 0 O.nA B0 := y4.md u5 (by decide)
        have e2 : (ix (1 + 1) < 2) = False := eq_false (by decide)
        have o1 := ix_one (k := j) (by omega)
        have u6 : Md m baA baG h h5 := (u3.t u4).t u5
        have u36 : Md m (35 :: eA) [130, 131, 132] h3 h5 := u4.t u5
        have hm5 := x5.mo
        rw [w_X9_reads0_112]
        simp (disch := first | assumption | omega | decide | rfl) only [w_X9_reads0_114, w_X9_reads0_115, w_X9_reads0_209, w_X9_reads0_210, w_X9_reads0_211, w_X9_reads0_212, w_X9_reads0_213, w_X9_reads0_214, w_X9_reads0_215, w_X9_reads0_217, w_X9_reads0_218, w_X9_reads0_219, w_X9_reads0_221, w_X9_reads0_223, w_X9_reads0_225, w_X9_reads0_227, w_X9_reads0_229, nl_int, nl_ref, nl_null, nl_un, nl_rf, nl_long, isR_ref, isR_null, isR_rf, rf_some, rf_none, rOf_ref, rOf_null, rOf_rf, kn_v, kn_0, true_and, and_true, and_self, tin, inA_x, inA_l, ix_add, ix_addl, ix_ladd, ix_mul, ix_mull, ix_lmul, ix_tn, lt_tn, Nat.reduceLeDiff, Nat.reduceLT, Nat.reduceAdd, Nat.reduceMul, true_or, or_true, ↓reduceIte, aOk, ref_null, null_null, false_or, Option.isSome_some, Option.getD_some, ite_true, ite_false, eq_self, not_false_eq_true, not_true_eq_false, bz_ne, bz_1, reduceCtorEq, Bool.not_true, Bool.not_false, mo_0 hm5, e2, o1, ix_or]
        have ih2 := ih (k + 1) (used ||| 2 ^ j) (bnB O lane loud B j) (bnL O lane loud B j lost) (fun i => if i = k then j else ord i) st2 h5 (by omega) (Nat.or_lt_two_pow (n := 4) hu (Nat.pow_lt_pow_right (a := 2) (n := 4) (by decide) (by omega))) x5 y5 (wb_bn z) es (by
          show B.day + 7 = _
          rw [ed, Int32.add_assoc, show (7 : Int32) = ix 7 from rfl, ix_add]
          congr 2) (fun i hi => by rw [u36.ai (by decide)]; exact go3 i hi) (gb3.md u36 (by decide) (by decide))
        rw [show D + n + 1 + 7 = D + 8 + n by omega]
        refine ca_mono ih2 ?_
        rintro r h7 ⟨rfl, u7, go7, gb7⟩
        simp (disch := first | assumption | omega | decide | rfl) only [w_X9_reads0_232, w_X9_reads0_235, nl_int, nl_ref, nl_null, nl_un, nl_rf, nl_long, isR_ref, isR_null, isR_rf, rf_some, rf_none, rOf_ref, rOf_null, rOf_rf, kn_v, kn_0, true_and, and_true, and_self, tin, inA_x, inA_l, ix_add, ix_addl, ix_ladd, ix_mul, ix_mull, ix_lmul, ix_tn, lt_tn, Nat.reduceLeDiff, Nat.reduceLT, Nat.reduceAdd, Nat.reduceMul, true_or, or_true, ↓reduceIte, aOk, ref_null, null_null, false_or, Option.isSome_some, Option.getD_some, ite_true, ite_false, eq_self, not_false_eq_true, not_true_eq_false, bz_ne, bz_1, reduceCtorEq, Bool.not_true, Bool.not_false]
        refine nx h7 _ _ _ _ _ (u6.t u7) (fun i hi => ?_) gb7
        have := go7 i (by omega)
        rw [if_neg (by omega)] at this
        exact this
      · have hb : (ix used >>> (ix j &&& 31) &&& 1 = 1) = True := by rw [hb, q1]; simp
        rw [q1, if_pos rfl] at nx
        simp (disch := first | assumption | omega | decide | rfl) only [w_X9_reads0_68, w_X9_reads0_69, w_X9_reads0_72, w_X9_reads0_73, w_X9_reads0_74, w_X9_reads0_77, w_X9_reads0_78, w_X9_reads0_80, w_X9_reads0_81, w_X9_reads0_82, w_X9_reads0_83, w_X9_reads0_84, w_X9_reads0_87, w_X9_reads0_232, w_X9_reads0_235, nl_int, nl_ref, nl_null, nl_un, nl_rf, nl_long, isR_ref, isR_null, isR_rf, rf_some, rf_none, rOf_ref, rOf_null, rOf_rf, kn_v, kn_0, true_and, and_true, and_self, tin, inA_x, inA_l, ix_add, ix_addl, ix_ladd, ix_mul, ix_mull, ix_lmul, ix_tn, lt_tn, Nat.reduceLeDiff, Nat.reduceLT, Nat.reduceAdd, Nat.reduceMul, true_or, or_true, ↓reduceIte, aOk, ref_null, null_null, false_or, Option.isSome_some, Option.getD_some, ite_true, ite_false, eq_self, not_false_eq_true, not_true_eq_false, bz_ne, bz_1, reduceCtorEq, Bool.not_true, Bool.not_false, mo_0 hm2, mo_orchard hm2, mt_orchard hm2, ml_orchard hm2, mo_bestOrder hm2, mt_bestOrder hm2, ml_bestOrder hm2, mo_order hm2, mt_order hm2, ml_order hm2, mo_bannA hm2, mt_bannA hm2, ml_bannA hm2, mo_bannB hm2, mt_bannB hm2, ml_bannB hm2, mo_s hm2, mt_s hm2, ml_s hm2, x2.aB, ix_lt, hj, hb]
        exact nx h2 _ _ _ _ _ u2 go2 gb2
theorem cm_banns (x : M0 h m O) (y : MB h (m + 53) 0 O.nA B) (z : WB O B) : Ca (D + 14) 234 [.ref m, .int u, .int v, .int w] h (fun r h' => r = .inl (some (.int (banF O B u v w))) ∧ Md m baA (60 :: baG) h h' ∧ Fi h' 60 m = 0) := by
  have n1 := x.wo.nA
  have n6 := x.wo.nB
  generalize hQ : (fun r h' => r = .inl (some (.int (banF O B u v w))) ∧ Md m baA (60 :: baG) h h' ∧ Fi h' 60 m = 0 : Rs → AH → Prop) = Q
  have fin : ∀ r : Int32, ∀ h2, Md m baA (60 :: baG) h h2 → Fi h2 60 m = 0 → r = banF O B u v w → Q (.inl (some (.int r))) h2 := fun r h2 a b e => by
    rw [← hQ, e]; exact ⟨rfl, a, b⟩
  rw [e_X9_banns]
  simp (disch := first | assumption | omega | decide | rfl) only [w_X9_banns_0, w_X9_banns_1, w_X9_banns_2, w_X9_banns_5, w_X9_banns_6, w_X9_banns_7, nl_int, nl_ref, nl_null, nl_un, nl_rf, nl_long, isR_ref, isR_null, isR_rf, rf_some, rf_none, rOf_ref, rOf_null, rOf_rf, kn_v, kn_0, true_and, and_true, and_self, tin, inA_x, inA_l, ix_add, ix_addl, ix_ladd, ix_mul, ix_mull, ix_lmul, ix_tn, lt_tn, Nat.reduceLeDiff, Nat.reduceLT, Nat.reduceAdd, Nat.reduceMul, true_or, or_true, ↓reduceIte, aOk, ref_null, null_null, false_or, Option.isSome_some, Option.getD_some, ite_true, ite_false, eq_self, not_false_eq_true, not_true_eq_false, bz_ne, bz_1, reduceCtorEq, Bool.not_true, Bool.not_false, mo_0 x.mo, cm_isVoice]
  have u1 : Md m baA (60 :: baG) h (sFi h 60 m 0) := md_sFi (by decide)
  have f1 : Fi (sFi h 60 m 0) 60 m = 0 := Fi_same
  revert u1 f1
  generalize sFi h 60 m 0 = h1
  intro u1 f1
  have x1 : M0 h1 m O := x.md u1
  have hm1 := x1.mo
  cases q1 : voF u v
  · simp (disch := first | assumption | omega | decide | rfl) only [w_X9_banns_10, w_X9_banns_36, w_X9_banns_37, nl_int, nl_ref, nl_null, nl_un, nl_rf, nl_long, isR_ref, isR_null, isR_rf, rf_some, rf_none, rOf_ref, rOf_null, rOf_rf, kn_v, kn_0, true_and, and_true, and_self, tin, inA_x, inA_l, ix_add, ix_addl, ix_ladd, ix_mul, ix_mull, ix_lmul, ix_tn, lt_tn, Nat.reduceLeDiff, Nat.reduceLT, Nat.reduceAdd, Nat.reduceMul, true_or, or_true, ↓reduceIte, aOk, ref_null, null_null, false_or, Option.isSome_some, Option.getD_some, ite_true, ite_false, eq_self, not_false_eq_true, not_true_eq_false, bz_ne, bz_1, reduceCtorEq, Bool.not_true, Bool.not_false]
    exact fin _ _ u1 f1 (by unfold banF mayW; rw [q1]; rfl)
  · obtain ⟨a, b, ha, hb, rfl, rfl⟩ := voF_ex q1
    by_cases q2 : O.nB = 0
    · have d2 : (O.nB = 0) = True := eq_true q2
      simp (disch := first | assumption | omega | decide | rfl) only [w_X9_banns_10, w_X9_banns_13, w_X9_banns_14, w_X9_banns_17, w_X9_banns_18, w_X9_banns_19, w_X9_banns_36, w_X9_banns_37, nl_int, nl_ref, nl_null, nl_un, nl_rf, nl_long, isR_ref, isR_null, isR_rf, rf_some, rf_none, rOf_ref, rOf_null, rOf_rf, kn_v, kn_0, true_and, and_true, and_self, tin, inA_x, inA_l, ix_add, ix_addl, ix_ladd, ix_mul, ix_mull, ix_lmul, ix_tn, lt_tn, Nat.reduceLeDiff, Nat.reduceLT, Nat.reduceAdd, Nat.reduceMul, true_or, or_true, ↓reduceIte, aOk, ref_null, null_null, false_or, Option.isSome_some, Option.getD_some, ite_true, ite_false, eq_self, not_false_eq_true, not_true_eq_false, bz_ne, bz_1, reduceCtorEq, Bool.not_true, Bool.not_false, mo_0 hm1, mo_orchard hm1, mt_orchard hm1, ml_orchard hm1, mo_s hm1, mt_s hm1, ml_s hm1, mo_bestOrder hm1, mt_bestOrder hm1, ml_bestOrder hm1, x1.aB, ix_eql, d2]
      exact fin _ _ u1 f1 (by unfold banF mayW; rw [decide_eq_true q2, q1]; rfl)
    · have d2 : (O.nB = 0) = False := eq_false q2
      simp (disch := first | assumption | omega | decide | rfl) only [w_X9_banns_10, w_X9_banns_13, w_X9_banns_14, w_X9_banns_17, w_X9_banns_18, w_X9_banns_19, w_X9_banns_22, w_X9_banns_23, w_X9_banns_24, w_X9_banns_25, w_X9_banns_28, w_X9_banns_29, w_X9_banns_30, nl_int, nl_ref, nl_null, nl_un, nl_rf, nl_long, isR_ref, isR_null, isR_rf, rf_some, rf_none, rOf_ref, rOf_null, rOf_rf, kn_v, kn_0, true_and, and_true, and_self, tin, inA_x, inA_l, ix_add, ix_addl, ix_ladd, ix_mul, ix_mull, ix_lmul, ix_tn, lt_tn, Nat.reduceLeDiff, Nat.reduceLT, Nat.reduceAdd, Nat.reduceMul, true_or, or_true, ↓reduceIte, aOk, ref_null, null_null, false_or, Option.isSome_some, Option.getD_some, ite_true, ite_false, eq_self, not_false_eq_true, not_true_eq_false, bz_ne, bz_1, reduceCtorEq, Bool.not_true, Bool.not_false, mo_0 hm1, mo_orchard hm1, mt_orchard hm1, ml_orchard hm1, mo_s hm1, mt_s hm1, ml_s hm1, mo_bestOrder hm1, mt_bestOrder hm1, ml_bestOrder hm1, x1.aB, ix_eql, d2, cm_within]
      by_cases q3 : 0 ≤ w ∧ w ≤ ix O.nB
      · have c3 : decide (0 ≤ w ∧ w ≤ ix O.nB) = true := decide_eq_true q3
        obtain ⟨k, _, hk, rfl⟩ := vr_ex (lo := 0) (hi := O.nB) (by omega) q3 (by decide)
        have ok : mayW O (ix a) (ix b) (ix k) = true := by unfold mayW; rw [q1, decide_eq_false q2, c3]; rfl
        unfold banF at fin
        rw [if_pos ok, tn_ix (by omega), tn_ix (by omega), tn_ix (by omega)] at fin
        simp (disch := first | assumption | omega | decide | rfl) only [w_X9_banns_33, w_X9_banns_38, w_X9_banns_39, w_X9_banns_40, nl_int, nl_ref, nl_null, nl_un, nl_rf, nl_long, isR_ref, isR_null, isR_rf, rf_some, rf_none, rOf_ref, rOf_null, rOf_rf, kn_v, kn_0, true_and, and_true, and_self, tin, inA_x, inA_l, ix_add, ix_addl, ix_ladd, ix_mul, ix_mull, ix_lmul, ix_tn, lt_tn, Nat.reduceLeDiff, Nat.reduceLT, Nat.reduceAdd, Nat.reduceMul, true_or, or_true, ↓reduceIte, aOk, ref_null, null_null, false_or, Option.isSome_some, Option.getD_some, ite_true, ite_false, eq_self, not_false_eq_true, not_true_eq_false, bz_ne, bz_1, reduceCtorEq, Bool.not_true, Bool.not_false, c3, mo_0 hm1]
        have u2 : Md m baA (60 :: baG) h (sFi h1 145 m (-1)) := u1.sFi (by decide)
        have f2 : Fi (sFi h1 145 m (-1)) 60 m = 0 := by rw [Fi_otherf (by decide)]; exact f1
        have f3 : Fi (sFi h1 145 m (-1)) 145 m = -1 := Fi_same
        revert u2 f2 f3
        generalize sFi h1 145 m (-1) = h2
        intro u2 f2 f3
        have x2 : M0 h2 m O := x.md u2
        have hm2 := x2.mo
        have y2 : MB h2 (m + 53) 0 O.nA B := y.md u2 (by decide)
        simp (disch := first | assumption | omega | decide | rfl) only [w_X9_banns_43, w_X9_banns_44, w_X9_banns_45, w_X9_banns_46, w_X9_banns_47, w_X9_banns_50, w_X9_banns_51, w_X9_banns_52, w_X9_banns_53, w_X9_banns_56, w_X9_banns_57, w_X9_banns_58, w_X9_banns_59, w_X9_banns_60, w_X9_banns_61, nl_int, nl_ref, nl_null, nl_un, nl_rf, nl_long, isR_ref, isR_null, isR_rf, rf_some, rf_none, rOf_ref, rOf_null, rOf_rf, kn_v, kn_0, true_and, and_true, and_self, tin, inA_x, inA_l, ix_add, ix_addl, ix_ladd, ix_mul, ix_mull, ix_lmul, ix_tn, lt_tn, Nat.reduceLeDiff, Nat.reduceLT, Nat.reduceAdd, Nat.reduceMul, true_or, or_true, ↓reduceIte, aOk, ref_null, null_null, false_or, Option.isSome_some, Option.getD_some, ite_true, ite_false, eq_self, not_false_eq_true, not_true_eq_false, bz_ne, bz_1, reduceCtorEq, Bool.not_true, Bool.not_false, mo_0 hm2, mo_orchard hm2, mt_orchard hm2, ml_orchard hm2, mo_s hm2, mt_s hm2, ml_s hm2, mo_bestOrder hm2, mt_bestOrder hm2, ml_bestOrder hm2, y2.h0, y2.l0]
        have e14 : D + 13 = D + 5 - O.nB + 8 + O.nB := by omega
        rw [e14]
        refine ca_mono (cm_reads0 (D := D + 5 - O.nB) (B0 := B) (m := m) x.wo ha hb O.nB 0 0 B 0 (fun _ => 0) (-1, fun _ => 0) h2 (by omega) (by decide) x2 y2 z rfl (i32_0 _).symm (fun j hj => absurd hj (by omega)) ⟨f3, fun q => absurd (by decide) q⟩) ?_
        rintro r h3 ⟨rfl, u3, -, g1, g2⟩
        have hm3 := u3.mo hm2
        have u4 : Md m baA (60 :: baG) h h3 := u2.t u3
        have f4 : Fi h3 60 m = 0 := by rw [u3.fi (by decide)]; exact f2
        rw [show bnF O a b O.nB 0 B 0 (fun _ => 0) 0 (-1, fun _ => 0) = bnA O B a b from rfl] at g1 g2
        rw [← e14]
        by_cases q4 : k = 0
        · have d4 : (k = 0) = True := eq_true q4
          rw [if_pos (by rw [q4]; rfl)] at fin
          simp (disch := first | assumption | omega | decide | rfl) only [w_X9_banns_64, w_X9_banns_65, w_X9_banns_68, w_X9_banns_69, w_X9_banns_72, w_X9_banns_83, nl_int, nl_ref, nl_null, nl_un, nl_rf, nl_long, isR_ref, isR_null, isR_rf, rf_some, rf_none, rOf_ref, rOf_null, rOf_rf, kn_v, kn_0, true_and, and_true, and_self, tin, inA_x, inA_l, ix_add, ix_addl, ix_ladd, ix_mul, ix_mull, ix_lmul, ix_tn, lt_tn, Nat.reduceLeDiff, Nat.reduceLT, Nat.reduceAdd, Nat.reduceMul, true_or, or_true, ↓reduceIte, aOk, ref_null, null_null, false_or, Option.isSome_some, Option.getD_some, ite_true, ite_false, eq_self, not_false_eq_true, not_true_eq_false, bz_ne, bz_1, reduceCtorEq, Bool.not_true, Bool.not_false, mo_0 hm3, ix_eql, d4, g1]
          exact fin _ _ u4 f4 rfl
        · have d4 : (k = 0) = False := eq_false q4
          rw [if_neg (by rw [show ((0 : Int32)) = ix 0 from rfl, ix_eq (by omega) (by decide)]; exact q4)] at fin
          have g3 := g2 (bnA_nn x.wo q2) (k - 1) (by omega)
          have es : ix k - 1 = ix (k - 1) := ix_subl (n := 1) (by omega)
          simp (disch := first | assumption | omega | decide | rfl) only [w_X9_banns_64, w_X9_banns_65, w_X9_banns_75, w_X9_banns_76, w_X9_banns_79, w_X9_banns_80, w_X9_banns_81, w_X9_banns_82, w_X9_banns_83, nl_int, nl_ref, nl_null, nl_un, nl_rf, nl_long, isR_ref, isR_null, isR_rf, rf_some, rf_none, rOf_ref, rOf_null, rOf_rf, kn_v, kn_0, true_and, and_true, and_self, tin, inA_x, inA_l, ix_add, ix_addl, ix_ladd, ix_mul, ix_mull, ix_lmul, ix_tn, lt_tn, Nat.reduceLeDiff, Nat.reduceLT, Nat.reduceAdd, Nat.reduceMul, true_or, or_true, ↓reduceIte, aOk, ref_null, null_null, false_or, Option.isSome_some, Option.getD_some, ite_true, ite_false, eq_self, not_false_eq_true, not_true_eq_false, bz_ne, bz_1, reduceCtorEq, Bool.not_true, Bool.not_false, mo_0 hm3, mo_orchard hm3, mt_orchard hm3, ml_orchard hm3, mo_s hm3, mt_s hm3, ml_s hm3, mo_bestOrder hm3, mt_bestOrder hm3, ml_bestOrder hm3, ix_eql, d4, es, g3]
          exact fin _ _ u4 f4 rfl
      · have c3 : decide (0 ≤ w ∧ w ≤ ix O.nB) = false := decide_eq_false q3
        simp (disch := first | assumption | omega | decide | rfl) only [w_X9_banns_33, w_X9_banns_36, w_X9_banns_37, nl_int, nl_ref, nl_null, nl_un, nl_rf, nl_long, isR_ref, isR_null, isR_rf, rf_some, rf_none, rOf_ref, rOf_null, rOf_rf, kn_v, kn_0, true_and, and_true, and_self, tin, inA_x, inA_l, ix_add, ix_addl, ix_ladd, ix_mul, ix_mull, ix_lmul, ix_tn, lt_tn, Nat.reduceLeDiff, Nat.reduceLT, Nat.reduceAdd, Nat.reduceMul, true_or, or_true, ↓reduceIte, aOk, ref_null, null_null, false_or, Option.isSome_some, Option.getD_some, ite_true, ite_false, eq_self, not_false_eq_true, not_true_eq_false, bz_ne, bz_1, reduceCtorEq, Bool.not_true, Bool.not_false, c3]
        exact fin _ _ u1 f1 (by unfold banF mayW; rw [c3, Bool.and_false]; rfl)
end
