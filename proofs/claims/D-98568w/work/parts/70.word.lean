/-! WORDS: their letters, how they are near; the class Sound -/
set_option maxRecDepth 100000
noncomputable def lix (n : Nat) : Int64 := Int64.ofNat n
noncomputable def wlA : Nat → Nat → Nat
  | 0, _ => 0
  | f + 1, w => if w = 0 then 0 else wlA f (w / 27) + 1
noncomputable def wl (w : Nat) : Nat := wlA 8 w
noncomputable def ltr (w k : Nat) : Nat := w / 27 ^ (wl w - 1 - k) % 27
theorem wlA_le : ∀ f w, wlA f w ≤ f
  | 0, w => Nat.le_refl _
  | f + 1, w => by
    rw [wlA]
    split
    · omega
    · have := wlA_le f (w / 27); omega
theorem wl_le (w : Nat) : wl w ≤ 8 := wlA_le 8 w
/-- as long as p holds -/
noncomputable def cpre (p : Nat → Bool) : Nat → Nat → Nat
  | 0, k => k
  | n + 1, k => if p k = true then cpre p n (k + 1) else k
noncomputable def anyb (p : Nat → Bool) : Nat → Nat → Bool
  | 0, _ => false
  | n + 1, k => if p k = true then true else anyb p n (k + 1)
theorem cpre_le (p : Nat → Bool) : ∀ n k, k ≤ cpre p n k ∧ cpre p n k ≤ k + n
  | 0, k => ⟨Nat.le_refl _, Nat.le_refl _⟩
  | n + 1, k => by
    rw [cpre]
    split
    · have := cpre_le p n (k + 1); omega
    · omega
/-- the fewest letters put in, left out, changed -/
noncomputable def lev (a b : Nat → Nat) : Nat → Nat → Nat
  | 0 => fun j => j
  | i + 1 => fun j => Nat.rec (i + 1) (fun j r => min (lev a b i j + (if a i = b j then 0 else 1)) (1 + min (lev a b i (j + 1)) r)) j
theorem lev_0 {a b : Nat → Nat} {j : Nat} : lev a b 0 j = j := rfl
theorem lev_s0 {a b : Nat → Nat} {i : Nat} : lev a b i 0 = i := by cases i <;> rfl
theorem lev_ss {a b : Nat → Nat} {i j : Nat} : lev a b (i + 1) (j + 1) = min (lev a b i j + (if a i = b j then 0 else 1)) (1 + min (lev a b i (j + 1)) (lev a b (i + 1) j)) := rfl
theorem lev_le {a b : Nat → Nat} : ∀ i j, lev a b i j ≤ i + j := by
  intro i
  induction i with
  | zero => intro j; rw [lev_0]; omega
  | succ i ih =>
    intro j
    cases j with
    | zero => rw [lev_s0]; omega
    | succ j =>
      rw [lev_ss]
      have := ih (j + 1)
      omega
noncomputable def edF (w u : Nat) : Nat := lev (ltr w) (ltr u) (wl w) (wl u)
noncomputable def stF (w u : Nat) : Nat := cpre (fun k => decide (ltr w k = ltr u k)) (min (wl w) (wl u)) 0
noncomputable def rhF (w u : Nat) : Nat := cpre (fun k => decide (ltr w (wl w - 1 - k) = ltr u (wl u - 1 - k))) (min (wl w) (wl u)) 0
noncomputable def hoF (w c : Nat) : Bool := anyb (fun k => decide (ltr w k = c)) (wl w) 0
theorem ltr_lt (w k : Nat) : ltr w k < 27 := Nat.mod_lt _ (by decide)
noncomputable def bz (b : Bool) : Int32 := if b = true then 1 else 0
/-- the object -/
noncomputable def lta (h : AH) (p : Nat) : Nat := (Fr h 161 p).getD 0
def SO (h : AH) (p w : Nat) : Prop := Tg h p = 16 ∧ Fl h 160 p = lix w ∧ Fr h 161 p = some (lta h p) ∧ Tg h (lta h p) = 1020 ∧ An h (lta h p) = 8 ∧ Fi h 162 p = ix (wl w) ∧ ∀ k, k < wl w → Ai h (lta h p) k = ix (ltr w k)
section
variable {d p q r w u c : Nat} {h : AH} {Q : Rs → AH → Prop}
theorem c_minx {a b : Nat} (ha : a < 2147483648) (hb : b < 2147483648) : Ca (d + 1) 329 [.int (ix a), .int (ix b)] h Q = Q (.inl (some (.int (ix (min a b))))) h := by
  rw [c_min]
  simp only [ix_lt hb ha]
  by_cases q : b < a
  · rw [if_pos q, Nat.min_eq_right (by omega)]
  · rw [if_neg q, Nat.min_eq_left (by omega)]
theorem c_maxx {a b : Nat} (ha : a < 2147483648) (hb : b < 2147483648) : Ca (d + 1) 328 [.int (ix a), .int (ix b)] h Q = Q (.inl (some (.int (ix (max a b))))) h := by
  rw [c_max]
  simp only [ix_lt ha hb]
  by_cases q : a < b
  · rw [if_pos q, Nat.max_eq_right (by omega)]
  · rw [if_neg q, Nat.max_eq_left (by omega)]
theorem SO.at (s : SO h p w) {k : Nat} (hk : k < wl w) : Ai h (lta h p) k = ix (ltr w k) := s.2.2.2.2.2.2 k hk
theorem c_many (s : SO h p w) : Ca (d + 1) 262 [.ref p] h Q = Q (.inl (some (.int (ix (wl w))))) h := by
  obtain ⟨s1, s2, s3, s4, s5, s6, s7⟩ := s
  rw [e_X15_many]
  simp (disch := first | assumption | omega | decide | rfl) only [w_X15_many_0, w_X15_many_1, w_X15_many_4, nl_int, nl_ref, nl_null, nl_un, nl_rf, nl_long, isR_ref, isR_null, isR_rf, rf_some, rf_none, rOf_ref, rOf_null, rOf_rf, kn_v, kn_0, true_and, and_true, and_self, tin, inA_x, inA_l, ix_add, ix_addl, ix_ladd, ix_mul, ix_mull, ix_lmul, ix_tn, lt_tn, Nat.reduceLeDiff, Nat.reduceLT, Nat.reduceAdd, Nat.reduceMul, true_or, or_true, ↓reduceIte, aOk, ref_null, null_null, false_or, Option.isSome_some, Option.getD_some, ite_true, ite_false, eq_self, not_false_eq_true, not_true_eq_false, s1, s6]
theorem c_first (s : SO h p w) (hw : 0 < wl w) : Ca (d + 1) 258 [.ref p] h Q = Q (.inl (some (.int (ix (ltr w 0))))) h := by
  obtain ⟨s1, s2, s3, s4, s5, s6, s7⟩ := s
  rw [e_X15_first]
  simp (disch := first | assumption | omega | decide | rfl) only [w_X15_first_0, w_X15_first_1, w_X15_first_4, w_X15_first_5, w_X15_first_6, nl_int, nl_ref, nl_null, nl_un, nl_rf, nl_long, isR_ref, isR_null, isR_rf, rf_some, rf_none, rOf_ref, rOf_null, rOf_rf, kn_v, kn_0, true_and, and_true, and_self, tin, inA_x, inA_l, ix_add, ix_addl, ix_ladd, ix_mul, ix_mull, ix_lmul, ix_tn, lt_tn, Nat.reduceLeDiff, Nat.reduceLT, Nat.reduceAdd, Nat.reduceMul, true_or, or_true, ↓reduceIte, aOk, ref_null, null_null, false_or, Option.isSome_some, Option.getD_some, ite_true, ite_false, eq_self, not_false_eq_true, not_true_eq_false, s1, s3, s4, s5, s7]
theorem c_holds (s : SO h p w) (hc : c < 27) : Ca (d + 1) 263 [.ref p, .int (ix c)] h Q = Q (.inl (some (.int (bz (hoF w c))))) h := by
  have hw := wl_le w
  obtain ⟨s1, s2, s3, s4, s5, s6, s7⟩ := id s
  rw [e_X15_holds]
  simp (disch := first | assumption | omega | decide | rfl) only [w_X15_holds_0, w_X15_holds_1, nl_int, nl_ref, nl_null, nl_un, nl_rf, nl_long, isR_ref, isR_null, isR_rf, rf_some, rf_none, rOf_ref, rOf_null, rOf_rf, kn_v, kn_0, true_and, and_true, and_self, tin, inA_x, inA_l, ix_add, ix_addl, ix_ladd, ix_mul, ix_mull, ix_lmul, ix_tn, lt_tn, Nat.reduceLeDiff, Nat.reduceLT, Nat.reduceAdd, Nat.reduceMul, true_or, or_true, ↓reduceIte, aOk, ref_null, null_null, false_or, Option.isSome_some, Option.getD_some, ite_true, ite_false, eq_self, not_false_eq_true, not_true_eq_false, ix_0]
  have key : ∀ n j, j + n = wl w → Ru d 263 2 [.ref p, .int (ix c), .int (ix j)] [] h Q = Q (.inl (some (.int (bz (anyb (fun k => decide (ltr w k = c)) n j))))) h := by
    intro n
    induction n with
    | zero =>
      intro j hj
      have e : ¬ j < wl w := by omega
      simp (disch := first | assumption | omega | decide | rfl) only [w_X15_holds_2, w_X15_holds_3, w_X15_holds_4, w_X15_holds_7, w_X15_holds_10, w_X15_holds_11, w_X15_holds_14, w_X15_holds_15, w_X15_holds_16, w_X15_holds_17, w_X15_holds_20, w_X15_holds_21, w_X15_holds_22, w_X15_holds_25, w_X15_holds_28, w_X15_holds_29, nl_int, nl_ref, nl_null, nl_un, nl_rf, nl_long, isR_ref, isR_null, isR_rf, rf_some, rf_none, rOf_ref, rOf_null, rOf_rf, kn_v, kn_0, true_and, and_true, and_self, tin, inA_x, inA_l, ix_add, ix_addl, ix_ladd, ix_mul, ix_mull, ix_lmul, ix_tn, lt_tn, Nat.reduceLeDiff, Nat.reduceLT, Nat.reduceAdd, Nat.reduceMul, true_or, or_true, ↓reduceIte, aOk, ref_null, null_null, false_or, Option.isSome_some, Option.getD_some, ite_true, ite_false, eq_self, not_false_eq_true, not_true_eq_false, s1, s6, ix_lt, e]
      rfl
    | succ n ih =>
      intro j hj
      have e : j < wl w := by omega
      have hl := ltr_lt w j
      rw [w_X15_holds_2]
      simp (disch := first | assumption | omega | decide | rfl) only [w_X15_holds_3, w_X15_holds_4, w_X15_holds_7, w_X15_holds_10, w_X15_holds_11, w_X15_holds_14, w_X15_holds_15, w_X15_holds_16, w_X15_holds_17, w_X15_holds_20, w_X15_holds_21, w_X15_holds_22, w_X15_holds_25, w_X15_holds_28, w_X15_holds_29, nl_int, nl_ref, nl_null, nl_un, nl_rf, nl_long, isR_ref, isR_null, isR_rf, rf_some, rf_none, rOf_ref, rOf_null, rOf_rf, kn_v, kn_0, true_and, and_true, and_self, tin, inA_x, inA_l, ix_add, ix_addl, ix_ladd, ix_mul, ix_mull, ix_lmul, ix_tn, lt_tn, Nat.reduceLeDiff, Nat.reduceLT, Nat.reduceAdd, Nat.reduceMul, true_or, or_true, ↓reduceIte, aOk, ref_null, null_null, false_or, Option.isSome_some, Option.getD_some, ite_true, ite_false, eq_self, not_false_eq_true, not_true_eq_false, s1, s3, s4, s5, s6, s7, ix_lt, e, ix_eq, ih]
      rw [anyb]
      by_cases z : ltr w j = c
      · simp [z, bz]
      · simp [z]
  exact key (wl w) 0 (by omega)
theorem c_start (s : SO h p w) (t : SO h q u) : Ca (d + 2) 260 [.ref p, .ref q] h Q = Q (.inl (some (.int (ix (stF w u))))) h := by
  have hw := wl_le w
  have hu := wl_le u
  obtain ⟨s1, s2, s3, s4, s5, s6, s7⟩ := id s
  obtain ⟨t1, t2, t3, t4, t5, t6, t7⟩ := id t
  rw [e_X15_start nl_ref]
  simp (disch := first | assumption | omega | decide | rfl) only [w_X15_start_0, w_X15_start_1, nl_int, nl_ref, nl_null, nl_un, nl_rf, nl_long, isR_ref, isR_null, isR_rf, rf_some, rf_none, rOf_ref, rOf_null, rOf_rf, kn_v, kn_0, true_and, and_true, and_self, tin, inA_x, inA_l, ix_add, ix_addl, ix_ladd, ix_mul, ix_mull, ix_lmul, ix_tn, lt_tn, Nat.reduceLeDiff, Nat.reduceLT, Nat.reduceAdd, Nat.reduceMul, true_or, or_true, ↓reduceIte, aOk, ref_null, null_null, false_or, Option.isSome_some, Option.getD_some, ite_true, ite_false, eq_self, not_false_eq_true, not_true_eq_false, ix_0]
  have key : ∀ n j, j + n = min (wl w) (wl u) → Ru (d + 1) 260 2 [.ref p, .ref q, .int (ix j)] [] h Q = Q (.inl (some (.int (ix (cpre (fun k => decide (ltr w k = ltr u k)) n j))))) h := by
    intro n
    induction n with
    | zero =>
      intro j hj
      have e : ¬ j < min (wl w) (wl u) := by omega
      simp (disch := first | assumption | omega | decide | rfl) only [w_X15_start_2, w_X15_start_3, w_X15_start_4, w_X15_start_7, w_X15_start_8, w_X15_start_11, w_X15_start_14, w_X15_start_17, w_X15_start_18, w_X15_start_21, w_X15_start_22, w_X15_start_23, w_X15_start_24, w_X15_start_27, w_X15_start_28, w_X15_start_29, w_X15_start_32, w_X15_start_35, w_X15_start_38, w_X15_start_39, nl_int, nl_ref, nl_null, nl_un, nl_rf, nl_long, isR_ref, isR_null, isR_rf, rf_some, rf_none, rOf_ref, rOf_null, rOf_rf, kn_v, kn_0, true_and, and_true, and_self, tin, inA_x, inA_l, ix_add, ix_addl, ix_ladd, ix_mul, ix_mull, ix_lmul, ix_tn, lt_tn, Nat.reduceLeDiff, Nat.reduceLT, Nat.reduceAdd, Nat.reduceMul, true_or, or_true, ↓reduceIte, aOk, ref_null, null_null, false_or, Option.isSome_some, Option.getD_some, ite_true, ite_false, eq_self, not_false_eq_true, not_true_eq_false, s1, s6, t1, t6, c_minx, ix_lt, e]
      rfl
    | succ n ih =>
      intro j hj
      have e : j < min (wl w) (wl u) := by omega
      have hl := ltr_lt w j
      have hl2 := ltr_lt u j
      rw [w_X15_start_2]
      simp (disch := first | assumption | omega | decide | rfl) only [w_X15_start_3, w_X15_start_4, w_X15_start_7, w_X15_start_8, w_X15_start_11, w_X15_start_14, w_X15_start_17, w_X15_start_18, w_X15_start_21, w_X15_start_22, w_X15_start_23, w_X15_start_24, w_X15_start_27, w_X15_start_28, w_X15_start_29, w_X15_start_32, w_X15_start_35, w_X15_start_38, w_X15_start_39, nl_int, nl_ref, nl_null, nl_un, nl_rf, nl_long, isR_ref, isR_null, isR_rf, rf_some, rf_none, rOf_ref, rOf_null, rOf_rf, kn_v, kn_0, true_and, and_true, and_self, tin, inA_x, inA_l, ix_add, ix_addl, ix_ladd, ix_mul, ix_mull, ix_lmul, ix_tn, lt_tn, Nat.reduceLeDiff, Nat.reduceLT, Nat.reduceAdd, Nat.reduceMul, true_or, or_true, ↓reduceIte, aOk, ref_null, null_null, false_or, Option.isSome_some, Option.getD_some, ite_true, ite_false, eq_self, not_false_eq_true, not_true_eq_false, s1, s3, s4, s5, s6, s7, t1, t3, t4, t5, t6, t7, c_minx, ix_lt, e, ix_eq, ih]
      rw [cpre]
      by_cases z : ltr w j = ltr u j
      · simp [z]
      · simp [z]
  exact key (min (wl w) (wl u)) 0 (by omega)
theorem c_rhyme (s : SO h p w) (t : SO h q u) : Ca (d + 2) 261 [.ref p, .ref q] h Q = Q (.inl (some (.int (ix (rhF w u))))) h := by
  have hw := wl_le w
  have hu := wl_le u
  obtain ⟨s1, s2, s3, s4, s5, s6, s7⟩ := id s
  obtain ⟨t1, t2, t3, t4, t5, t6, t7⟩ := id t
  rw [e_X15_rhyme nl_ref]
  simp (disch := first | assumption | omega | decide | rfl) only [w_X15_rhyme_0, w_X15_rhyme_1, nl_int, nl_ref, nl_null, nl_un, nl_rf, nl_long, isR_ref, isR_null, isR_rf, rf_some, rf_none, rOf_ref, rOf_null, rOf_rf, kn_v, kn_0, true_and, and_true, and_self, tin, inA_x, inA_l, ix_add, ix_addl, ix_ladd, ix_mul, ix_mull, ix_lmul, ix_tn, lt_tn, Nat.reduceLeDiff, Nat.reduceLT, Nat.reduceAdd, Nat.reduceMul, true_or, or_true, ↓reduceIte, aOk, ref_null, null_null, false_or, Option.isSome_some, Option.getD_some, ite_true, ite_false, eq_self, not_false_eq_true, not_true_eq_false, ix_0]
  have key : ∀ n j, j + n = min (wl w) (wl u) → Ru (d + 1) 261 2 [.ref p, .ref q, .int (ix j)] [] h Q = Q (.inl (some (.int (ix (cpre (fun k => decide (ltr w (wl w - 1 - k) = ltr u (wl u - 1 - k))) n j))))) h := by
    intro n
    induction n with
    | zero =>
      intro j hj
      have e : ¬ j < min (wl w) (wl u) := by omega
      simp (disch := first | assumption | omega | decide | rfl) only [w_X15_rhyme_2, w_X15_rhyme_3, w_X15_rhyme_4, w_X15_rhyme_7, w_X15_rhyme_8, w_X15_rhyme_11, w_X15_rhyme_14, w_X15_rhyme_17, w_X15_rhyme_18, w_X15_rhyme_21, w_X15_rhyme_22, w_X15_rhyme_25, w_X15_rhyme_26, w_X15_rhyme_27, w_X15_rhyme_28, w_X15_rhyme_29, w_X15_rhyme_30, w_X15_rhyme_31, w_X15_rhyme_34, w_X15_rhyme_35, w_X15_rhyme_38, w_X15_rhyme_39, w_X15_rhyme_40, w_X15_rhyme_41, w_X15_rhyme_42, w_X15_rhyme_43, w_X15_rhyme_46, w_X15_rhyme_49, w_X15_rhyme_52, w_X15_rhyme_53, nl_int, nl_ref, nl_null, nl_un, nl_rf, nl_long, isR_ref, isR_null, isR_rf, rf_some, rf_none, rOf_ref, rOf_null, rOf_rf, kn_v, kn_0, true_and, and_true, and_self, tin, inA_x, inA_l, ix_add, ix_addl, ix_ladd, ix_mul, ix_mull, ix_lmul, ix_tn, lt_tn, Nat.reduceLeDiff, Nat.reduceLT, Nat.reduceAdd, Nat.reduceMul, true_or, or_true, ↓reduceIte, aOk, ref_null, null_null, false_or, Option.isSome_some, Option.getD_some, ite_true, ite_false, eq_self, not_false_eq_true, not_true_eq_false, s1, s6, t1, t6, c_minx, ix_lt, e]
      rfl
    | succ n ih =>
      intro j hj
      have e : j < min (wl w) (wl u) := by omega
      have hl := ltr_lt w (wl w - 1 - j)
      have hl2 := ltr_lt u (wl u - 1 - j)
      have x1 : ix (wl w) - 1 = ix (wl w - 1) := ix_subl (n := 1) (by omega)
      have x2 : ix (wl u) - 1 = ix (wl u - 1) := ix_subl (n := 1) (by omega)
      have x3 : ix (wl w - 1) - ix j = ix (wl w - 1 - j) := ix_sub (by omega)
      have x4 : ix (wl u - 1) - ix j = ix (wl u - 1 - j) := ix_sub (by omega)
      rw [w_X15_rhyme_2]
      simp (disch := first | assumption | omega | decide | rfl) only [w_X15_rhyme_3, w_X15_rhyme_4, w_X15_rhyme_7, w_X15_rhyme_8, w_X15_rhyme_11, w_X15_rhyme_14, w_X15_rhyme_17, w_X15_rhyme_18, w_X15_rhyme_21, w_X15_rhyme_22, w_X15_rhyme_25, w_X15_rhyme_26, w_X15_rhyme_27, w_X15_rhyme_28, w_X15_rhyme_29, w_X15_rhyme_30, w_X15_rhyme_31, w_X15_rhyme_34, w_X15_rhyme_35, w_X15_rhyme_38, w_X15_rhyme_39, w_X15_rhyme_40, w_X15_rhyme_41, w_X15_rhyme_42, w_X15_rhyme_43, w_X15_rhyme_46, w_X15_rhyme_49, w_X15_rhyme_52, w_X15_rhyme_53, nl_int, nl_ref, nl_null, nl_un, nl_rf, nl_long, isR_ref, isR_null, isR_rf, rf_some, rf_none, rOf_ref, rOf_null, rOf_rf, kn_v, kn_0, true_and, and_true, and_self, tin, inA_x, inA_l, ix_add, ix_addl, ix_ladd, ix_mul, ix_mull, ix_lmul, ix_tn, lt_tn, Nat.reduceLeDiff, Nat.reduceLT, Nat.reduceAdd, Nat.reduceMul, true_or, or_true, ↓reduceIte, aOk, ref_null, null_null, false_or, Option.isSome_some, Option.getD_some, ite_true, ite_false, eq_self, not_false_eq_true, not_true_eq_false, s1, s3, s4, s5, s6, s7, t1, t3, t4, t5, t6, t7, x1, x2, x3, x4, c_minx, ix_lt, e, ix_eq, ih]
      rw [cpre]
      by_cases z : ltr w (wl w - 1 - j) = ltr u (wl u - 1 - j)
      · simp [z]
      · simp [z]
  exact key (min (wl w) (wl u)) 0 (by omega)
theorem c_edits (s : SO h p w) (t : SO h q u) (hr : 1000 ≤ Tg h r ∧ Tg h r < 1020) (hn : An h r = 9) : Ca (d + 2) 259 [.ref p, .ref q, .ref r] h (fun x h' => x = .inl (some (.int (ix (edF w u)))) ∧ ∃ g, h' = sAi h r g) := by
  have hw := wl_le w
  have hu := wl_le u
  obtain ⟨s1, s2, s3, s4, s5, s6, s7⟩ := id s
  obtain ⟨t1, t2, t3, t4, t5, t6, t7⟩ := id t
  have r1 : lta h p ≠ r := fun e => by rw [e] at s4; omega
  have r2 : lta h q ≠ r := fun e => by rw [e] at t4; omega
  have h6 : 1000 ≤ Tg h r := hr.1
  have h7 : Tg h r < 2000 := by omega
  have h8 : Tg h r < 1900 := by omega
  rw [e_X15_edits nl_ref nl_ref]
  simp (disch := first | assumption | omega | decide | rfl) only [w_X15_edits_0, w_X15_edits_1, nl_int, nl_ref, nl_null, nl_un, nl_rf, nl_long, isR_ref, isR_null, isR_rf, rf_some, rf_none, rOf_ref, rOf_null, rOf_rf, kn_v, kn_0, true_and, and_true, and_self, tin, inA_x, inA_l, ix_add, ix_addl, ix_ladd, ix_mul, ix_mull, ix_lmul, ix_tn, lt_tn, Nat.reduceLeDiff, Nat.reduceLT, Nat.reduceAdd, Nat.reduceMul, true_or, or_true, ↓reduceIte, aOk, ref_null, null_null, false_or, Option.isSome_some, Option.getD_some, ite_true, ite_false, eq_self, not_false_eq_true, not_true_eq_false, ix_0]
  generalize hQ : (fun x h' => x = .inl (some (.int (ix (edF w u)))) ∧ ∃ g, h' = sAi h r g : Rs → AH → Prop) = Q
  -- the inner loop
  have k3 : ∀ n j i (F : Nat → Int32) (v : Value), j + n = wl u + 1 → 1 ≤ j → i < wl w → (∀ z, z < j → F z = ix (lev (ltr w) (ltr u) (i + 1) z)) → (∀ z, j ≤ z → z ≤ wl u → F z = ix (lev (ltr w) (ltr u) i z)) → (∀ F', (∀ z, z ≤ wl u → F' z = ix (lev (ltr w) (ltr u) (i + 1) z)) → ∀ v1 v2 v3 : Value, nl v2 = true → Ru (d + 1) 259 118 [.ref p, .ref q, .ref r, .int (ix (i + 1)), v1, v2, v3] [] (sAi h r F') Q) → Ru (d + 1) 259 42 [.ref p, .ref q, .ref r, .int (ix (i + 1)), .int (ix (lev (ltr w) (ltr u) i (j - 1))), .int (ix j), v] [] (sAi h r F) Q := by
    intro n
    induction n with
    | zero =>
      intro j i F v hj h1 hi hA hB fin
      have e : wl u < j := by omega
      rw [w_X15_edits_42]
      simp (disch := first | assumption | omega | decide | rfl) only [w_X15_edits_44, w_X15_edits_45, w_X15_edits_48, nl_int, nl_ref, nl_null, nl_un, nl_rf, nl_long, isR_ref, isR_null, isR_rf, rf_some, rf_none, rOf_ref, rOf_null, rOf_rf, kn_v, kn_0, true_and, and_true, and_self, tin, inA_x, inA_l, ix_add, ix_addl, ix_ladd, ix_mul, ix_mull, ix_lmul, ix_tn, lt_tn, Nat.reduceLeDiff, Nat.reduceLT, Nat.reduceAdd, Nat.reduceMul, true_or, or_true, ↓reduceIte, aOk, ref_null, null_null, false_or, Option.isSome_some, Option.getD_some, ite_true, ite_false, eq_self, not_false_eq_true, not_true_eq_false, Tg_sFi, Tg_sFl, Tg_sFr, Tg_sAi, Tg_sAl, Tg_sAr, An_sFi, An_sFl, An_sFr, An_sAi, An_sAl, An_sAr, Fi_sFl, Fi_sFr, Fi_sAi, Fi_sAl, Fi_sAr, Fl_sFi, Fl_sFr, Fl_sAi, Fl_sAl, Fl_sAr, Fr_sFi, Fr_sFl, Fr_sAi, Fr_sAl, Fr_sAr, Ai_sFi, Ai_sFl, Ai_sFr, Ai_sAl, Ai_sAr, Al_sFi, Al_sFl, Al_sFr, Al_sAi, Al_sAr, Ar_sFi, Ar_sFl, Ar_sFr, Ar_sAi, Ar_sAl, Fi_same, Fl_same, Fr_same, Ai_same, Al_same, Ar_same, Fi_otherf, Fl_otherf, Fr_otherf, t1, t6, ix_lt, e]
      exact fin F (fun z hz => hA z (by omega)) _ _ _ rfl
    | succ n ih =>
      intro j i F v hj h1 hi hA hB fin
      have e : ¬ wl u < j := by omega
      obtain ⟨j, rfl⟩ : ∃ y, j = y + 1 := ⟨j - 1, by omega⟩
      have x1 : ix (j + 1) - 1 = ix j := ix_subl (n := 1) (a := j + 1) (by omega)
      have x2 : ix (i + 1) - 1 = ix i := ix_subl (n := 1) (a := i + 1) (by omega)
      have f1 := hB (j + 1) (by omega) (by omega)
      have f2 := hA j (by omega)
      have b1 := lev_le (a := ltr w) (b := ltr u) i (j + 1)
      have b2 := lev_le (a := ltr w) (b := ltr u) (i + 1) j
      have b3 := lev_le (a := ltr w) (b := ltr u) i j
      have hl := ltr_lt w i
      have hl2 := ltr_lt u j
      have ej : j + 1 - 1 = j := by omega
      rw [w_X15_edits_42]
      rw [ej]
      have fin2 : ∀ c, Ru (d + 1) 259 104 [.ref p, .ref q, .ref r, .int (ix (i + 1)), .int (ix (lev (ltr w) (ltr u) i j)), .int (ix (j + 1)), .int (ix (lev (ltr w) (ltr u) i (j + 1)))] [.int (ix (lev (ltr w) (ltr u) i j + (if ltr w i = ltr u j then 0 else 1))), .int (ix (min (lev (ltr w) (ltr u) i (j + 1)) (lev (ltr w) (ltr u) (i + 1) j) + 1)), .int (ix (j + 1)), .ref r] (sAi h r F) Q ∨ c = 0 := by
        intro c
        refine Or.inl ?_
        have b4 : lev (ltr w) (ltr u) i j + (if ltr w i = ltr u j then 0 else 1) < 100 := by split <;> omega
        generalize hcc : lev (ltr w) (ltr u) i j + (if ltr w i = ltr u j then 0 else 1) = cc at b4
        simp (disch := first | assumption | omega | decide | rfl) only [w_X15_edits_104, w_X15_edits_107, w_X15_edits_108, w_X15_edits_110, w_X15_edits_112, w_X15_edits_115, nl_int, nl_ref, nl_null, nl_un, nl_rf, nl_long, isR_ref, isR_null, isR_rf, rf_some, rf_none, rOf_ref, rOf_null, rOf_rf, kn_v, kn_0, true_and, and_true, and_self, tin, inA_x, inA_l, ix_add, ix_addl, ix_ladd, ix_mul, ix_mull, ix_lmul, ix_tn, lt_tn, Nat.reduceLeDiff, Nat.reduceLT, Nat.reduceAdd, Nat.reduceMul, true_or, or_true, ↓reduceIte, aOk, ref_null, null_null, false_or, Option.isSome_some, Option.getD_some, ite_true, ite_false, eq_self, not_false_eq_true, not_true_eq_false, Tg_sFi, Tg_sFl, Tg_sFr, Tg_sAi, Tg_sAl, Tg_sAr, An_sFi, An_sFl, An_sFr, An_sAi, An_sAl, An_sAr, Fi_sFl, Fi_sFr, Fi_sAi, Fi_sAl, Fi_sAr, Fl_sFi, Fl_sFr, Fl_sAi, Fl_sAl, Fl_sAr, Fr_sFi, Fr_sFl, Fr_sAi, Fr_sAl, Fr_sAr, Ai_sFi, Ai_sFl, Ai_sFr, Ai_sAl, Ai_sAr, Al_sFi, Al_sFl, Al_sFr, Al_sAi, Al_sAr, Ar_sFi, Ar_sFl, Ar_sFr, Ar_sAi, Ar_sAl, Fi_same, Fl_same, Fr_same, Ai_same, Al_same, Ar_same, Fi_otherf, Fl_otherf, Fr_otherf, c_minx, h6, h8, hn, sAi_sAi]
        have := ih (j + 1 + 1) i (upd F (j + 1) (ix (min (min (lev (ltr w) (ltr u) i (j + 1)) (lev (ltr w) (ltr u) (i + 1) j) + 1) cc))) (.int (ix (lev (ltr w) (ltr u) i (j + 1)))) (by omega) (by omega) hi (fun z hz => ?_) (fun z hz hz2 => ?_) fin
        · exact this
        · by_cases q : z = j + 1
          · subst q
            show (if j + 1 = j + 1 then _ else _) = _
            rw [if_pos rfl, lev_ss, hcc]
            congr 1
            omega
          · show (if z = j + 1 then _ else F z) = _
            rw [if_neg q]
            exact hA z (by omega)
        · show (if z = j + 1 then _ else F z) = _
          rw [if_neg (by omega)]
          exact hB z (by omega) hz2
      simp (disch := first | assumption | omega | decide | rfl) only [w_X15_edits_44, w_X15_edits_45, w_X15_edits_48, w_X15_edits_51, w_X15_edits_52, w_X15_edits_54, w_X15_edits_55, w_X15_edits_57, w_X15_edits_58, w_X15_edits_60, w_X15_edits_61, w_X15_edits_63, w_X15_edits_64, w_X15_edits_65, w_X15_edits_67, w_X15_edits_68, w_X15_edits_69, w_X15_edits_70, w_X15_edits_73, w_X15_edits_74, w_X15_edits_75, w_X15_edits_76, w_X15_edits_79, w_X15_edits_80, w_X15_edits_81, w_X15_edits_82, w_X15_edits_83, w_X15_edits_84, w_X15_edits_87, w_X15_edits_89, w_X15_edits_90, w_X15_edits_91, w_X15_edits_92, w_X15_edits_95, w_X15_edits_97, w_X15_edits_100, w_X15_edits_102, w_X15_edits_103, nl_int, nl_ref, nl_null, nl_un, nl_rf, nl_long, isR_ref, isR_null, isR_rf, rf_some, rf_none, rOf_ref, rOf_null, rOf_rf, kn_v, kn_0, true_and, and_true, and_self, tin, inA_x, inA_l, ix_add, ix_addl, ix_ladd, ix_mul, ix_mull, ix_lmul, ix_tn, lt_tn, Nat.reduceLeDiff, Nat.reduceLT, Nat.reduceAdd, Nat.reduceMul, true_or, or_true, ↓reduceIte, aOk, ref_null, null_null, false_or, Option.isSome_some, Option.getD_some, ite_true, ite_false, eq_self, not_false_eq_true, not_true_eq_false, Tg_sFi, Tg_sFl, Tg_sFr, Tg_sAi, Tg_sAl, Tg_sAr, An_sFi, An_sFl, An_sFr, An_sAi, An_sAl, An_sAr, Fi_sFl, Fi_sFr, Fi_sAi, Fi_sAl, Fi_sAr, Fl_sFi, Fl_sFr, Fl_sAi, Fl_sAl, Fl_sAr, Fr_sFi, Fr_sFl, Fr_sAi, Fr_sAl, Fr_sAr, Ai_sFi, Ai_sFl, Ai_sFr, Ai_sAl, Ai_sAr, Al_sFi, Al_sFl, Al_sFr, Al_sAi, Al_sAr, Ar_sFi, Ar_sFl, Ar_sFr, Ar_sAi, Ar_sAl, Fi_same, Fl_same, Fr_same, Ai_same, Al_same, Ar_same, Fi_otherf, Fl_otherf, Fr_otherf, Ai_other, s1, s3, s4, s5, s6, s7, t1, t3, t4, t5, t6, t7, x1, x2, c_minx, h6, h7, hn, ix_lt, e, f1, f2, ix_eq]
      have fin2 := (fin2 1).resolve_right (by decide)
      by_cases z : ltr w i = ltr u j
      · rw [if_pos z] at fin2 ⊢
        exact fin2
      · rw [if_neg z] at fin2 ⊢
        exact fin2
  -- the outer loop
  have k2 : ∀ n i (F : Nat → Int32) (v1 v2 v3 : Value), nl v2 = true → i + n = wl w → (∀ z, z ≤ wl u → F z = ix (lev (ltr w) (ltr u) i z)) → Ru (d + 1) 259 22 [.ref p, .ref q, .ref r, .int (ix (i + 1)), v1, v2, v3] [] (sAi h r F) Q := by
    intro n
    induction n with
    | zero =>
      intro i F v1 v2 v3 hv hi hF
      have e : wl w < i + 1 := by omega
      have f := hF (wl u) (by omega)
      simp (disch := first | assumption | omega | decide | rfl) only [w_X15_edits_22, w_X15_edits_23, w_X15_edits_24, w_X15_edits_27, w_X15_edits_124, w_X15_edits_125, w_X15_edits_126, w_X15_edits_129, w_X15_edits_130, nl_int, nl_ref, nl_null, nl_un, nl_rf, nl_long, isR_ref, isR_null, isR_rf, rf_some, rf_none, rOf_ref, rOf_null, rOf_rf, kn_v, kn_0, true_and, and_true, and_self, tin, inA_x, inA_l, ix_add, ix_addl, ix_ladd, ix_mul, ix_mull, ix_lmul, ix_tn, lt_tn, Nat.reduceLeDiff, Nat.reduceLT, Nat.reduceAdd, Nat.reduceMul, true_or, or_true, ↓reduceIte, aOk, ref_null, null_null, false_or, Option.isSome_some, Option.getD_some, ite_true, ite_false, eq_self, not_false_eq_true, not_true_eq_false, Tg_sFi, Tg_sFl, Tg_sFr, Tg_sAi, Tg_sAl, Tg_sAr, An_sFi, An_sFl, An_sFr, An_sAi, An_sAl, An_sAr, Fi_sFl, Fi_sFr, Fi_sAi, Fi_sAl, Fi_sAr, Fl_sFi, Fl_sFr, Fl_sAi, Fl_sAl, Fl_sAr, Fr_sFi, Fr_sFl, Fr_sAi, Fr_sAl, Fr_sAr, Ai_sFi, Ai_sFl, Ai_sFr, Ai_sAl, Ai_sAr, Al_sFi, Al_sFl, Al_sFr, Al_sAi, Al_sAr, Ar_sFi, Ar_sFl, Ar_sFr, Ar_sAi, Ar_sAl, Fi_same, Fl_same, Fr_same, Ai_same, Al_same, Ar_same, Fi_otherf, Fl_otherf, Fr_otherf, s1, s6, t1, t6, ix_lt, e, h6, h7, hn, f]
      rw [← hQ]
      refine ⟨?_, _, rfl⟩
      rw [show i = wl w by omega]
      rfl
    | succ n ih =>
      intro i F v1 v2 v3 hv hi hF
      have e : ¬ wl w < i + 1 := by omega
      have f := hF 0 (by omega)
      rw [lev_s0] at f
      rw [w_X15_edits_22]
      simp (disch := first | assumption | omega | decide | rfl) only [w_X15_edits_23, w_X15_edits_24, w_X15_edits_27, w_X15_edits_30, w_X15_edits_31, w_X15_edits_32, w_X15_edits_33, w_X15_edits_35, w_X15_edits_36, w_X15_edits_37, w_X15_edits_38, w_X15_edits_39, w_X15_edits_40, nl_int, nl_ref, nl_null, nl_un, nl_rf, nl_long, isR_ref, isR_null, isR_rf, rf_some, rf_none, rOf_ref, rOf_null, rOf_rf, kn_v, kn_0, true_and, and_true, and_self, tin, inA_x, inA_l, ix_add, ix_addl, ix_ladd, ix_mul, ix_mull, ix_lmul, ix_tn, lt_tn, Nat.reduceLeDiff, Nat.reduceLT, Nat.reduceAdd, Nat.reduceMul, true_or, or_true, ↓reduceIte, aOk, ref_null, null_null, false_or, Option.isSome_some, Option.getD_some, ite_true, ite_false, eq_self, not_false_eq_true, not_true_eq_false, Tg_sFi, Tg_sFl, Tg_sFr, Tg_sAi, Tg_sAl, Tg_sAr, An_sFi, An_sFl, An_sFr, An_sAi, An_sAl, An_sAr, Fi_sFl, Fi_sFr, Fi_sAi, Fi_sAl, Fi_sAr, Fl_sFi, Fl_sFr, Fl_sAi, Fl_sAl, Fl_sAr, Fr_sFi, Fr_sFl, Fr_sAi, Fr_sAl, Fr_sAr, Ai_sFi, Ai_sFl, Ai_sFr, Ai_sAl, Ai_sAr, Al_sFi, Al_sFl, Al_sFr, Al_sAi, Al_sAr, Ar_sFi, Ar_sFl, Ar_sFr, Ar_sAi, Ar_sAl, Fi_same, Fl_same, Fr_same, Ai_same, Al_same, Ar_same, Fi_otherf, Fl_otherf, Fr_otherf, s1, s6, ix_lt, e, h6, h7, h8, hn, f, sAi_sAi, ix_1]
      have := k3 (wl u) 1 i (upd F 0 (ix (i + 1))) v3 (by omega) (by omega) (by omega) (fun z hz => ?_) (fun z hz hz2 => ?_) (fun F' hF' w1 w2 w3 hw2 => ?_)
      · rw [show (1 : Nat) - 1 = 0 from rfl, lev_s0] at this
        exact this
      · have : z = 0 := by omega
        subst this
        rw [lev_s0]
        rfl
      · show (if z = 0 then _ else F z) = _
        rw [if_neg (by omega)]
        exact hF z hz2
      · simp (disch := first | assumption | omega | decide | rfl) only [w_X15_edits_118, w_X15_edits_121, nl_int, nl_ref, nl_null, nl_un, nl_rf, nl_long, isR_ref, isR_null, isR_rf, rf_some, rf_none, rOf_ref, rOf_null, rOf_rf, kn_v, kn_0, true_and, and_true, and_self, tin, inA_x, inA_l, ix_add, ix_addl, ix_ladd, ix_mul, ix_mull, ix_lmul, ix_tn, lt_tn, Nat.reduceLeDiff, Nat.reduceLT, Nat.reduceAdd, Nat.reduceMul, true_or, or_true, ↓reduceIte, aOk, ref_null, null_null, false_or, Option.isSome_some, Option.getD_some, ite_true, ite_false, eq_self, not_false_eq_true, not_true_eq_false]
        exact ih (i + 1) F' w1 w2 w3 hw2 (by omega) hF'
  -- the first row
  have k1 : ∀ n j (F : Nat → Int32), j + n = wl u + 1 → (∀ z, z < j → F z = ix z) → Ru (d + 1) 259 2 [.ref p, .ref q, .ref r, .int (ix j), un, un, un] [] (sAi h r F) Q := by
    intro n
    induction n with
    | zero =>
      intro j F hj hF
      have e : wl u < j := by omega
      simp (disch := first | assumption | omega | decide | rfl) only [w_X15_edits_2, w_X15_edits_3, w_X15_edits_4, w_X15_edits_7, w_X15_edits_10, w_X15_edits_11, w_X15_edits_12, w_X15_edits_13, w_X15_edits_14, w_X15_edits_17, w_X15_edits_20, w_X15_edits_21, nl_int, nl_ref, nl_null, nl_un, nl_rf, nl_long, isR_ref, isR_null, isR_rf, rf_some, rf_none, rOf_ref, rOf_null, rOf_rf, kn_v, kn_0, true_and, and_true, and_self, tin, inA_x, inA_l, ix_add, ix_addl, ix_ladd, ix_mul, ix_mull, ix_lmul, ix_tn, lt_tn, Nat.reduceLeDiff, Nat.reduceLT, Nat.reduceAdd, Nat.reduceMul, true_or, or_true, ↓reduceIte, aOk, ref_null, null_null, false_or, Option.isSome_some, Option.getD_some, ite_true, ite_false, eq_self, not_false_eq_true, not_true_eq_false, Tg_sFi, Tg_sFl, Tg_sFr, Tg_sAi, Tg_sAl, Tg_sAr, An_sFi, An_sFl, An_sFr, An_sAi, An_sAl, An_sAr, Fi_sFl, Fi_sFr, Fi_sAi, Fi_sAl, Fi_sAr, Fl_sFi, Fl_sFr, Fl_sAi, Fl_sAl, Fl_sAr, Fr_sFi, Fr_sFl, Fr_sAi, Fr_sAl, Fr_sAr, Ai_sFi, Ai_sFl, Ai_sFr, Ai_sAl, Ai_sAr, Al_sFi, Al_sFl, Al_sFr, Al_sAi, Al_sAr, Ar_sFi, Ar_sFl, Ar_sFr, Ar_sAi, Ar_sAl, Fi_same, Fl_same, Fr_same, Ai_same, Al_same, Ar_same, Fi_otherf, Fl_otherf, Fr_otherf, t1, t6, ix_lt, e, ix_1]
      exact k2 (wl w) 0 F _ _ _ rfl (by omega) (fun z hz => by rw [lev_0]; exact hF z (by omega))
    | succ n ih =>
      intro j F hj hF
      have e : ¬ wl u < j := by omega
      rw [w_X15_edits_2]
      simp (disch := first | assumption | omega | decide | rfl) only [w_X15_edits_3, w_X15_edits_4, w_X15_edits_7, w_X15_edits_10, w_X15_edits_11, w_X15_edits_12, w_X15_edits_13, w_X15_edits_14, w_X15_edits_17, nl_int, nl_ref, nl_null, nl_un, nl_rf, nl_long, isR_ref, isR_null, isR_rf, rf_some, rf_none, rOf_ref, rOf_null, rOf_rf, kn_v, kn_0, true_and, and_true, and_self, tin, inA_x, inA_l, ix_add, ix_addl, ix_ladd, ix_mul, ix_mull, ix_lmul, ix_tn, lt_tn, Nat.reduceLeDiff, Nat.reduceLT, Nat.reduceAdd, Nat.reduceMul, true_or, or_true, ↓reduceIte, aOk, ref_null, null_null, false_or, Option.isSome_some, Option.getD_some, ite_true, ite_false, eq_self, not_false_eq_true, not_true_eq_false, Tg_sFi, Tg_sFl, Tg_sFr, Tg_sAi, Tg_sAl, Tg_sAr, An_sFi, An_sFl, An_sFr, An_sAi, An_sAl, An_sAr, Fi_sFl, Fi_sFr, Fi_sAi, Fi_sAl, Fi_sAr, Fl_sFi, Fl_sFr, Fl_sAi, Fl_sAl, Fl_sAr, Fr_sFi, Fr_sFl, Fr_sAi, Fr_sAl, Fr_sAr, Ai_sFi, Ai_sFl, Ai_sFr, Ai_sAl, Ai_sAr, Al_sFi, Al_sFl, Al_sFr, Al_sAi, Al_sAr, Ar_sFi, Ar_sFl, Ar_sFr, Ar_sAi, Ar_sAl, Fi_same, Fl_same, Fr_same, Ai_same, Al_same, Ar_same, Fi_otherf, Fl_otherf, Fr_otherf, t1, t6, ix_lt, e, h6, h8, hn, sAi_sAi]
      refine ih (j + 1) _ (by omega) (fun z hz => ?_)
      by_cases q : z = j
      · subst q
        exact if_pos rfl
      · show (if z = j then _ else F z) = _
        rw [if_neg q]
        exact hF z (by omega)
  have := k1 (wl u + 1) 0 (Ai h r) (by omega) (fun z hz => by omega)
  rwa [sAi_self] at this
end
