/-! EXPRESSIONS as objects: what they are worked to -/
set_option maxRecDepth 100000
/-- what a link makes, by its kind -/
noncomputable def lkF (t : Nat) (a b : Int32) : Int32 := if t = 24 then a * b else if t = 25 then a + b else if t = 26 then a - b else if t = 27 then (if a < b then 1 else 0) else if t = 28 then (if a = b then 1 else 0) else if t = 29 then (if ¬ a = 0 ∧ ¬ b = 0 then 1 else 0) else (if ¬ a = 0 ∨ ¬ b = 0 then 1 else 0)
noncomputable def chF (T : Nat → Nat) (ψ : Nat → Ph) (v : Nat → Int32) (x : Int32) : Nat → Int32
  | 0 => x
  | n + 1 => lkF (T n) (chF T ψ v x n) (ψ n v)
/-- a cell of an orchard that was read into the places lo .. hi -/
def Inn (lo hi a : Nat) : Prop := lo ≤ a ∧ a < hi
def Ex (lo hi bs : Nat) : Nat → AH → Nat → Ph → Prop
  | 0, _, _, _ => False
  | k + 1, h, a, φ => Inn lo hi a ∧ ((Tg h a = 20 ∧ φ = fun _ => Fi h 167 a) ∨ (Tg h a = 19 ∧ ∃ w, w < 4 ∧ Fi h 166 a = ix w ∧ φ = fun v => v (bs + w)) ∨ (Tg h a = 21 ∧ ∃ e φ1, Fr h 168 a = some e ∧ Ex lo hi bs k h e φ1 ∧ φ = fun v => if φ1 v = 0 then 1 else 0) ∨ (Tg h a = 22 ∧ ∃ f φ0 l, ∃ ψ : Nat → Ph, Fr h 169 a = some f ∧ Ex lo hi bs k h f φ0 ∧ Fr h 170 a = some l ∧ Inn lo hi l ∧ Inn lo hi (ed h l) ∧ WL h l ∧ (∀ i, i < sz h l → Inn lo hi (el h l i) ∧ (24 ≤ Tg h (el h l i) ∧ Tg h (el h l i) ≤ 30) ∧ ∃ e, Fr h 171 (el h l i) = some e ∧ Ex lo hi bs k h e (ψ i)) ∧ φ = fun v => chF (fun i => Tg h (el h l i)) ψ v (φ0 v) (sz h l)))
section
variable {d lo hi bs a b f fo : Nat} {h : AH} {Q : Rs → AH → Prop} {x y : Int32} {φ : Ph}
theorem c_with (ht : 24 ≤ Tg h a ∧ Tg h a ≤ 30) : ∃ z, lk [(24, 277), (25, 279), (26, 281), (27, 283), (28, 285), (29, 287), (30, 289)] (Tg h a) = some z ∧ Ca (d + 1) z [.ref a, .int x, .int y] h Q = Q (.inl (some (.int (lkF (Tg h a) x y)))) h := by
  rcases (show Tg h a = 24 ∨ Tg h a = 25 ∨ Tg h a = 26 ∨ Tg h a = 27 ∨ Tg h a = 28 ∨ Tg h a = 29 ∨ Tg h a = 30 by omega) with q | q | q | q | q | q | q
  · refine ⟨277, by rw [q]; rfl, ?_⟩
    rw [e_X23_with, q]; simp (disch := first | assumption | omega | decide | rfl) only [w_X23_with_0, w_X23_with_1, w_X23_with_2, w_X23_with_3, nl_int, nl_ref, nl_null, nl_un, nl_rf, nl_long, isR_ref, isR_null, isR_rf, rf_some, rf_none, rOf_ref, rOf_null, rOf_rf, kn_v, kn_0, true_and, and_true, and_self, tin, inA_x, inA_l, ix_add, ix_addl, ix_ladd, ix_mul, ix_mull, ix_lmul, ix_tn, lt_tn, Nat.reduceLeDiff, Nat.reduceLT, Nat.reduceAdd, Nat.reduceMul, true_or, or_true, ↓reduceIte, aOk, ref_null, null_null, false_or, Option.isSome_some, Option.getD_some, ite_true, ite_false, eq_self, not_false_eq_true, not_true_eq_false]; rfl
  · refine ⟨279, by rw [q]; rfl, ?_⟩
    rw [e_X24_with, q]; simp (disch := first | assumption | omega | decide | rfl) only [w_X24_with_0, w_X24_with_1, w_X24_with_2, w_X24_with_3, nl_int, nl_ref, nl_null, nl_un, nl_rf, nl_long, isR_ref, isR_null, isR_rf, rf_some, rf_none, rOf_ref, rOf_null, rOf_rf, kn_v, kn_0, true_and, and_true, and_self, tin, inA_x, inA_l, ix_add, ix_addl, ix_ladd, ix_mul, ix_mull, ix_lmul, ix_tn, lt_tn, Nat.reduceLeDiff, Nat.reduceLT, Nat.reduceAdd, Nat.reduceMul, true_or, or_true, ↓reduceIte, aOk, ref_null, null_null, false_or, Option.isSome_some, Option.getD_some, ite_true, ite_false, eq_self, not_false_eq_true, not_true_eq_false]; rfl
  · refine ⟨281, by rw [q]; rfl, ?_⟩
    rw [e_X25_with, q]; simp (disch := first | assumption | omega | decide | rfl) only [w_X25_with_0, w_X25_with_1, w_X25_with_2, w_X25_with_3, nl_int, nl_ref, nl_null, nl_un, nl_rf, nl_long, isR_ref, isR_null, isR_rf, rf_some, rf_none, rOf_ref, rOf_null, rOf_rf, kn_v, kn_0, true_and, and_true, and_self, tin, inA_x, inA_l, ix_add, ix_addl, ix_ladd, ix_mul, ix_mull, ix_lmul, ix_tn, lt_tn, Nat.reduceLeDiff, Nat.reduceLT, Nat.reduceAdd, Nat.reduceMul, true_or, or_true, ↓reduceIte, aOk, ref_null, null_null, false_or, Option.isSome_some, Option.getD_some, ite_true, ite_false, eq_self, not_false_eq_true, not_true_eq_false]; rfl
  · refine ⟨283, by rw [q]; rfl, ?_⟩
    rw [e_X26_with, q]
    by_cases z : x < y
    · simp (disch := first | assumption | omega | decide | rfl) only [w_X26_with_0, w_X26_with_1, w_X26_with_2, w_X26_with_5, w_X26_with_6, w_X26_with_9, w_X26_with_10, nl_int, nl_ref, nl_null, nl_un, nl_rf, nl_long, isR_ref, isR_null, isR_rf, rf_some, rf_none, rOf_ref, rOf_null, rOf_rf, kn_v, kn_0, true_and, and_true, and_self, tin, inA_x, inA_l, ix_add, ix_addl, ix_ladd, ix_mul, ix_mull, ix_lmul, ix_tn, lt_tn, Nat.reduceLeDiff, Nat.reduceLT, Nat.reduceAdd, Nat.reduceMul, true_or, or_true, ↓reduceIte, aOk, ref_null, null_null, false_or, Option.isSome_some, Option.getD_some, ite_true, ite_false, eq_self, not_false_eq_true, not_true_eq_false, z]; simp [lkF, z]
    · simp (disch := first | assumption | omega | decide | rfl) only [w_X26_with_0, w_X26_with_1, w_X26_with_2, w_X26_with_5, w_X26_with_6, w_X26_with_9, w_X26_with_10, nl_int, nl_ref, nl_null, nl_un, nl_rf, nl_long, isR_ref, isR_null, isR_rf, rf_some, rf_none, rOf_ref, rOf_null, rOf_rf, kn_v, kn_0, true_and, and_true, and_self, tin, inA_x, inA_l, ix_add, ix_addl, ix_ladd, ix_mul, ix_mull, ix_lmul, ix_tn, lt_tn, Nat.reduceLeDiff, Nat.reduceLT, Nat.reduceAdd, Nat.reduceMul, true_or, or_true, ↓reduceIte, aOk, ref_null, null_null, false_or, Option.isSome_some, Option.getD_some, ite_true, ite_false, eq_self, not_false_eq_true, not_true_eq_false, z]; simp [lkF, z]
  · refine ⟨285, by rw [q]; rfl, ?_⟩
    rw [e_X27_with, q]
    by_cases z : x = y
    · simp (disch := first | assumption | omega | decide | rfl) only [w_X27_with_0, w_X27_with_1, w_X27_with_2, w_X27_with_5, w_X27_with_6, w_X27_with_9, w_X27_with_10, nl_int, nl_ref, nl_null, nl_un, nl_rf, nl_long, isR_ref, isR_null, isR_rf, rf_some, rf_none, rOf_ref, rOf_null, rOf_rf, kn_v, kn_0, true_and, and_true, and_self, tin, inA_x, inA_l, ix_add, ix_addl, ix_ladd, ix_mul, ix_mull, ix_lmul, ix_tn, lt_tn, Nat.reduceLeDiff, Nat.reduceLT, Nat.reduceAdd, Nat.reduceMul, true_or, or_true, ↓reduceIte, aOk, ref_null, null_null, false_or, Option.isSome_some, Option.getD_some, ite_true, ite_false, eq_self, not_false_eq_true, not_true_eq_false, z]; simp [lkF, z]
    · simp (disch := first | assumption | omega | decide | rfl) only [w_X27_with_0, w_X27_with_1, w_X27_with_2, w_X27_with_5, w_X27_with_6, w_X27_with_9, w_X27_with_10, nl_int, nl_ref, nl_null, nl_un, nl_rf, nl_long, isR_ref, isR_null, isR_rf, rf_some, rf_none, rOf_ref, rOf_null, rOf_rf, kn_v, kn_0, true_and, and_true, and_self, tin, inA_x, inA_l, ix_add, ix_addl, ix_ladd, ix_mul, ix_mull, ix_lmul, ix_tn, lt_tn, Nat.reduceLeDiff, Nat.reduceLT, Nat.reduceAdd, Nat.reduceMul, true_or, or_true, ↓reduceIte, aOk, ref_null, null_null, false_or, Option.isSome_some, Option.getD_some, ite_true, ite_false, eq_self, not_false_eq_true, not_true_eq_false, z]; simp [lkF, z]
  · refine ⟨287, by rw [q]; rfl, ?_⟩
    rw [e_X28_with, q]
    by_cases z : x = 0
    · simp (disch := first | assumption | omega | decide | rfl) only [w_X28_with_0, w_X28_with_1, w_X28_with_4, w_X28_with_5, w_X28_with_8, w_X28_with_9, w_X28_with_12, w_X28_with_13, nl_int, nl_ref, nl_null, nl_un, nl_rf, nl_long, isR_ref, isR_null, isR_rf, rf_some, rf_none, rOf_ref, rOf_null, rOf_rf, kn_v, kn_0, true_and, and_true, and_self, tin, inA_x, inA_l, ix_add, ix_addl, ix_ladd, ix_mul, ix_mull, ix_lmul, ix_tn, lt_tn, Nat.reduceLeDiff, Nat.reduceLT, Nat.reduceAdd, Nat.reduceMul, true_or, or_true, ↓reduceIte, aOk, ref_null, null_null, false_or, Option.isSome_some, Option.getD_some, ite_true, ite_false, eq_self, not_false_eq_true, not_true_eq_false, z]; simp [lkF, z]
    · by_cases z2 : y = 0
      · simp (disch := first | assumption | omega | decide | rfl) only [w_X28_with_0, w_X28_with_1, w_X28_with_4, w_X28_with_5, w_X28_with_8, w_X28_with_9, w_X28_with_12, w_X28_with_13, nl_int, nl_ref, nl_null, nl_un, nl_rf, nl_long, isR_ref, isR_null, isR_rf, rf_some, rf_none, rOf_ref, rOf_null, rOf_rf, kn_v, kn_0, true_and, and_true, and_self, tin, inA_x, inA_l, ix_add, ix_addl, ix_ladd, ix_mul, ix_mull, ix_lmul, ix_tn, lt_tn, Nat.reduceLeDiff, Nat.reduceLT, Nat.reduceAdd, Nat.reduceMul, true_or, or_true, ↓reduceIte, aOk, ref_null, null_null, false_or, Option.isSome_some, Option.getD_some, ite_true, ite_false, eq_self, not_false_eq_true, not_true_eq_false, z, z2]; simp [lkF, z, z2]
      · simp (disch := first | assumption | omega | decide | rfl) only [w_X28_with_0, w_X28_with_1, w_X28_with_4, w_X28_with_5, w_X28_with_8, w_X28_with_9, w_X28_with_12, w_X28_with_13, nl_int, nl_ref, nl_null, nl_un, nl_rf, nl_long, isR_ref, isR_null, isR_rf, rf_some, rf_none, rOf_ref, rOf_null, rOf_rf, kn_v, kn_0, true_and, and_true, and_self, tin, inA_x, inA_l, ix_add, ix_addl, ix_ladd, ix_mul, ix_mull, ix_lmul, ix_tn, lt_tn, Nat.reduceLeDiff, Nat.reduceLT, Nat.reduceAdd, Nat.reduceMul, true_or, or_true, ↓reduceIte, aOk, ref_null, null_null, false_or, Option.isSome_some, Option.getD_some, ite_true, ite_false, eq_self, not_false_eq_true, not_true_eq_false, z, z2]; simp [lkF, z, z2]
  · refine ⟨289, by rw [q]; rfl, ?_⟩
    rw [e_X29_with, q]
    by_cases z : x = 0
    · by_cases z2 : y = 0
      · simp (disch := first | assumption | omega | decide | rfl) only [w_X29_with_0, w_X29_with_1, w_X29_with_4, w_X29_with_5, w_X29_with_8, w_X29_with_9, w_X29_with_12, w_X29_with_13, nl_int, nl_ref, nl_null, nl_un, nl_rf, nl_long, isR_ref, isR_null, isR_rf, rf_some, rf_none, rOf_ref, rOf_null, rOf_rf, kn_v, kn_0, true_and, and_true, and_self, tin, inA_x, inA_l, ix_add, ix_addl, ix_ladd, ix_mul, ix_mull, ix_lmul, ix_tn, lt_tn, Nat.reduceLeDiff, Nat.reduceLT, Nat.reduceAdd, Nat.reduceMul, true_or, or_true, ↓reduceIte, aOk, ref_null, null_null, false_or, Option.isSome_some, Option.getD_some, ite_true, ite_false, eq_self, not_false_eq_true, not_true_eq_false, z, z2]; simp [lkF, z, z2]
      · simp (disch := first | assumption | omega | decide | rfl) only [w_X29_with_0, w_X29_with_1, w_X29_with_4, w_X29_with_5, w_X29_with_8, w_X29_with_9, w_X29_with_12, w_X29_with_13, nl_int, nl_ref, nl_null, nl_un, nl_rf, nl_long, isR_ref, isR_null, isR_rf, rf_some, rf_none, rOf_ref, rOf_null, rOf_rf, kn_v, kn_0, true_and, and_true, and_self, tin, inA_x, inA_l, ix_add, ix_addl, ix_ladd, ix_mul, ix_mull, ix_lmul, ix_tn, lt_tn, Nat.reduceLeDiff, Nat.reduceLT, Nat.reduceAdd, Nat.reduceMul, true_or, or_true, ↓reduceIte, aOk, ref_null, null_null, false_or, Option.isSome_some, Option.getD_some, ite_true, ite_false, eq_self, not_false_eq_true, not_true_eq_false, z, z2]; simp [lkF, z, z2]
    · simp (disch := first | assumption | omega | decide | rfl) only [w_X29_with_0, w_X29_with_1, w_X29_with_4, w_X29_with_5, w_X29_with_8, w_X29_with_9, w_X29_with_12, w_X29_with_13, nl_int, nl_ref, nl_null, nl_un, nl_rf, nl_long, isR_ref, isR_null, isR_rf, rf_some, rf_none, rOf_ref, rOf_null, rOf_rf, kn_v, kn_0, true_and, and_true, and_self, tin, inA_x, inA_l, ix_add, ix_addl, ix_ladd, ix_mul, ix_mull, ix_lmul, ix_tn, lt_tn, Nat.reduceLeDiff, Nat.reduceLT, Nat.reduceAdd, Nat.reduceMul, true_or, or_true, ↓reduceIte, aOk, ref_null, null_null, false_or, Option.isSome_some, Option.getD_some, ite_true, ite_false, eq_self, not_false_eq_true, not_true_eq_false, z]; simp [lkF, z]
theorem ca_d {d d' y : Nat} {as : List Value} (e : d = d') (P : Prop) (x : Ca d' y as h Q = P) : Ca d y as h Q = P := by subst e; exact x
/-- an expression is worked: it answers what it means by the facts -/
theorem c_of (hf : Tg h f = 6) (hfo : Fr h 44 f = some fo) (tfo : Tg h fo = 1015) (nfo : An h fo = 4) : ∀ k a φ, Ex lo hi bs k h a φ → ∃ z, lk [(19, 267), (20, 269), (21, 271), (22, 273)] (Tg h a) = some z ∧ ∀ d (Q : Rs → AH → Prop), 4 * k ≤ d → Ca d z [.ref a, .ref f] h Q = Q (.inl (some (.int (φ (fun j => Ai h fo (j - bs)))))) h := by
  intro k
  induction k with
  | zero => intro a φ hx; exact hx.elim
  | succ k ih =>
    intro a φ hx
    obtain ⟨-, hx⟩ := hx
    rcases hx with ⟨ht, rfl⟩ | ⟨ht, w, hw, hi, rfl⟩ | ⟨ht, e, φ1, he, hx, rfl⟩ | ⟨ht, g, φ0, l, ψ, hg, hx, hl, -, -, wl, hk, rfl⟩
    · refine ⟨269, by rw [ht]; rfl, fun d Q hd => ?_⟩
      obtain ⟨d, rfl⟩ : ∃ z, d = z + 1 := ⟨d - 1, by omega⟩
      rw [e_X19_of nl_ref]
      simp (disch := first | assumption | omega | decide | rfl) only [w_X19_of_0, w_X19_of_1, w_X19_of_4, nl_int, nl_ref, nl_null, nl_un, nl_rf, nl_long, isR_ref, isR_null, isR_rf, rf_some, rf_none, rOf_ref, rOf_null, rOf_rf, kn_v, kn_0, true_and, and_true, and_self, tin, inA_x, inA_l, ix_add, ix_addl, ix_ladd, ix_mul, ix_mull, ix_lmul, ix_tn, lt_tn, Nat.reduceLeDiff, Nat.reduceLT, Nat.reduceAdd, Nat.reduceMul, true_or, or_true, ↓reduceIte, aOk, ref_null, null_null, false_or, Option.isSome_some, Option.getD_some, ite_true, ite_false, eq_self, not_false_eq_true, not_true_eq_false, ht]
    · refine ⟨267, by rw [ht]; rfl, fun d Q hd => ?_⟩
      obtain ⟨d, rfl⟩ : ∃ z, d = z + 1 := ⟨d - 1, by omega⟩
      rw [e_X18_of nl_ref]
      simp (disch := first | assumption | omega | decide | rfl) only [w_X18_of_0, w_X18_of_1, w_X18_of_4, w_X18_of_5, w_X18_of_8, w_X18_of_9, nl_int, nl_ref, nl_null, nl_un, nl_rf, nl_long, isR_ref, isR_null, isR_rf, rf_some, rf_none, rOf_ref, rOf_null, rOf_rf, kn_v, kn_0, true_and, and_true, and_self, tin, inA_x, inA_l, ix_add, ix_addl, ix_ladd, ix_mul, ix_mull, ix_lmul, ix_tn, lt_tn, Nat.reduceLeDiff, Nat.reduceLT, Nat.reduceAdd, Nat.reduceMul, true_or, or_true, ↓reduceIte, aOk, ref_null, null_null, false_or, Option.isSome_some, Option.getD_some, ite_true, ite_false, eq_self, not_false_eq_true, not_true_eq_false, ht, hf, hfo, tfo, nfo, hi]
      rw [show bs + w - bs = w by omega]
    · refine ⟨271, by rw [ht]; rfl, fun d Q hd => ?_⟩
      obtain ⟨d, rfl⟩ : ∃ z, d = z + 1 := ⟨d - 1, by omega⟩
      obtain ⟨z, hz, hc⟩ := ih e φ1 hx
      rw [e_X20_of nl_ref]
      simp (disch := first | assumption | omega | decide | rfl) only [w_X20_of_0, w_X20_of_1, w_X20_of_4, nl_int, nl_ref, nl_null, nl_un, nl_rf, nl_long, isR_ref, isR_null, isR_rf, rf_some, rf_none, rOf_ref, rOf_null, rOf_rf, kn_v, kn_0, true_and, and_true, and_self, tin, inA_x, inA_l, ix_add, ix_addl, ix_ladd, ix_mul, ix_mull, ix_lmul, ix_tn, lt_tn, Nat.reduceLeDiff, Nat.reduceLT, Nat.reduceAdd, Nat.reduceMul, true_or, or_true, ↓reduceIte, aOk, ref_null, null_null, false_or, Option.isSome_some, Option.getD_some, ite_true, ite_false, eq_self, not_false_eq_true, not_true_eq_false, ht, he]
      rw [w_X20_of_5 hz, hc d _ (by omega), kn_v]
      by_cases q : φ1 (fun j => Ai h fo (j - bs)) = 0
      · simp (disch := first | assumption | omega | decide | rfl) only [w_X20_of_8, w_X20_of_11, w_X20_of_12, w_X20_of_15, w_X20_of_16, nl_int, nl_ref, nl_null, nl_un, nl_rf, nl_long, isR_ref, isR_null, isR_rf, rf_some, rf_none, rOf_ref, rOf_null, rOf_rf, kn_v, kn_0, true_and, and_true, and_self, tin, inA_x, inA_l, ix_add, ix_addl, ix_ladd, ix_mul, ix_mull, ix_lmul, ix_tn, lt_tn, Nat.reduceLeDiff, Nat.reduceLT, Nat.reduceAdd, Nat.reduceMul, true_or, or_true, ↓reduceIte, aOk, ref_null, null_null, false_or, Option.isSome_some, Option.getD_some, ite_true, ite_false, eq_self, not_false_eq_true, not_true_eq_false, q]
      · simp (disch := first | assumption | omega | decide | rfl) only [w_X20_of_8, w_X20_of_11, w_X20_of_12, w_X20_of_15, w_X20_of_16, nl_int, nl_ref, nl_null, nl_un, nl_rf, nl_long, isR_ref, isR_null, isR_rf, rf_some, rf_none, rOf_ref, rOf_null, rOf_rf, kn_v, kn_0, true_and, and_true, and_self, tin, inA_x, inA_l, ix_add, ix_addl, ix_ladd, ix_mul, ix_mull, ix_lmul, ix_tn, lt_tn, Nat.reduceLeDiff, Nat.reduceLT, Nat.reduceAdd, Nat.reduceMul, true_or, or_true, ↓reduceIte, aOk, ref_null, null_null, false_or, Option.isSome_some, Option.getD_some, ite_true, ite_false, eq_self, not_false_eq_true, not_true_eq_false, q]
    · refine ⟨273, by rw [ht]; rfl, fun d Q hd => ?_⟩
      obtain ⟨d, rfl⟩ : ∃ z, d = z + 4 := ⟨d - 4, by omega⟩
      obtain ⟨z, hz, hc⟩ := ih g φ0 hx
      have key : ∀ n j, j + n = sz h l → Ru (d + 3) 273 11 [.ref a, .ref f, .int (chF (fun i => Tg h (el h l i)) ψ (fun j => Ai h fo (j - bs)) (φ0 (fun j => Ai h fo (j - bs))) j), .int (ix j)] [] h Q = Q (.inl (some (.int (chF (fun i => Tg h (el h l i)) ψ (fun j => Ai h fo (j - bs)) (φ0 (fun j => Ai h fo (j - bs))) (sz h l))))) h := by
        have zb : sz h l < 1000000 := wl.2.2.1
        intro n
        induction n with
        | zero =>
          intro j hj
          have ej : j = sz h l := by omega
          subst ej
          have e : ¬ sz h l < sz h l := by omega
          simp (disch := first | assumption | omega | decide | rfl) only [w_X21_of_11, w_X21_of_12, w_X21_of_13, w_X21_of_16, w_X21_of_19, w_X21_of_45, w_X21_of_46, nl_int, nl_ref, nl_null, nl_un, nl_rf, nl_long, isR_ref, isR_null, isR_rf, rf_some, rf_none, rOf_ref, rOf_null, rOf_rf, kn_v, kn_0, true_and, and_true, and_self, tin, inA_x, inA_l, ix_add, ix_addl, ix_ladd, ix_mul, ix_mull, ix_lmul, ix_tn, lt_tn, Nat.reduceLeDiff, Nat.reduceLT, Nat.reduceAdd, Nat.reduceMul, true_or, or_true, ↓reduceIte, aOk, ref_null, null_null, false_or, Option.isSome_some, Option.getD_some, ite_true, ite_false, eq_self, not_false_eq_true, not_true_eq_false, ht, hl, c_size wl, wl.tg, ix_lt, e]
        | succ n ihn =>
          intro j hj
          have e : j < sz h l := by omega
          obtain ⟨-, tk, ek, he, hxk⟩ := hk j e
          obtain ⟨z2, hz2, hc2⟩ := ih ek (ψ j) hxk
          have tm : Tg h (el h l j) ∈ [24, 25, 26, 27, 28, 29, 30] := by
            rcases (show Tg h (el h l j) = 24 ∨ Tg h (el h l j) = 25 ∨ Tg h (el h l j) = 26 ∨ Tg h (el h l j) = 27 ∨ Tg h (el h l j) = 28 ∨ Tg h (el h l j) = 29 ∨ Tg h (el h l j) = 30 by omega) with q | q | q | q | q | q | q <;> rw [q] <;> decide
          obtain ⟨z3, hz3, hc3⟩ := c_with (d := d + 1) (Q := Kn (d + 2) 275 10 13 [.ref (el h l j), .int (chF (fun i => Tg h (el h l i)) ψ (fun j => Ai h fo (j - bs)) (φ0 (fun j => Ai h fo (j - bs))) j), .ref f] [] (Kn (d + 3) 273 35 38 [.ref a, .ref f, .int (chF (fun i => Tg h (el h l i)) ψ (fun j => Ai h fo (j - bs)) (φ0 (fun j => Ai h fo (j - bs))) j), .int (ix j)] [] Q)) (x := chF (fun i => Tg h (el h l i)) ψ (fun j => Ai h fo (j - bs)) (φ0 (fun j => Ai h fo (j - bs))) j) (y := ψ j (fun j => Ai h fo (j - bs))) tk
          rw [w_X21_of_11]
          simp (disch := first | assumption | omega | decide | rfl) only [w_X21_of_12, w_X21_of_13, w_X21_of_16, w_X21_of_19, w_X21_of_22, w_X21_of_23, w_X21_of_26, w_X21_of_27, w_X21_of_30, w_X21_of_33, w_X21_of_34, nl_int, nl_ref, nl_null, nl_un, nl_rf, nl_long, isR_ref, isR_null, isR_rf, rf_some, rf_none, rOf_ref, rOf_null, rOf_rf, kn_v, kn_0, true_and, and_true, and_self, tin, inA_x, inA_l, ix_add, ix_addl, ix_ladd, ix_mul, ix_mull, ix_lmul, ix_tn, lt_tn, Nat.reduceLeDiff, Nat.reduceLT, Nat.reduceAdd, Nat.reduceMul, true_or, or_true, ↓reduceIte, aOk, ref_null, null_null, false_or, Option.isSome_some, Option.getD_some, ite_true, ite_false, eq_self, not_false_eq_true, not_true_eq_false, ht, hl, c_size wl, c_get wl, wl.tg, ix_lt, e, tm]
          have l35 : lk [(24, 275), (25, 275), (26, 275), (27, 275), (28, 275), (29, 275), (30, 275)] (Tg h (el h l j)) = some 275 := by
            rcases (show Tg h (el h l j) = 24 ∨ Tg h (el h l j) = 25 ∨ Tg h (el h l j) = 26 ∨ Tg h (el h l j) = 27 ∨ Tg h (el h l j) = 28 ∨ Tg h (el h l j) = 29 ∨ Tg h (el h l j) = 30 by omega) with q | q | q | q | q | q | q <;> rw [q] <;> rfl
          rw [w_X21_of_35 l35, e_X22_on nl_ref]
          rw [w_X22_on_0]
          simp (disch := first | assumption | omega | decide | rfl) only [w_X22_on_1, w_X22_on_2, w_X22_on_3, w_X22_on_6, nl_int, nl_ref, nl_null, nl_un, nl_rf, nl_long, isR_ref, isR_null, isR_rf, rf_some, rf_none, rOf_ref, rOf_null, rOf_rf, kn_v, kn_0, true_and, and_true, and_self, tin, inA_x, inA_l, ix_add, ix_addl, ix_ladd, ix_mul, ix_mull, ix_lmul, ix_tn, lt_tn, Nat.reduceLeDiff, Nat.reduceLT, Nat.reduceAdd, Nat.reduceMul, true_or, or_true, ↓reduceIte, aOk, ref_null, null_null, false_or, Option.isSome_some, Option.getD_some, ite_true, ite_false, eq_self, not_false_eq_true, not_true_eq_false, tm, he]
          rw [w_X22_on_7 hz2, hc2 (d + 2) _ (by omega), kn_v, w_X22_on_10 hz3, hc3, kn_v]
          simp (disch := first | assumption | omega | decide | rfl) only [w_X22_on_13, w_X21_of_38, w_X21_of_39, w_X21_of_42, nl_int, nl_ref, nl_null, nl_un, nl_rf, nl_long, isR_ref, isR_null, isR_rf, rf_some, rf_none, rOf_ref, rOf_null, rOf_rf, kn_v, kn_0, true_and, and_true, and_self, tin, inA_x, inA_l, ix_add, ix_addl, ix_ladd, ix_mul, ix_mull, ix_lmul, ix_tn, lt_tn, Nat.reduceLeDiff, Nat.reduceLT, Nat.reduceAdd, Nat.reduceMul, true_or, or_true, ↓reduceIte, aOk, ref_null, null_null, false_or, Option.isSome_some, Option.getD_some, ite_true, ite_false, eq_self, not_false_eq_true, not_true_eq_false]
          exact ihn (j + 1) (by omega)
      rw [e_X21_of nl_ref]
      simp (disch := first | assumption | omega | decide | rfl) only [w_X21_of_0, w_X21_of_1, w_X21_of_4, nl_int, nl_ref, nl_null, nl_un, nl_rf, nl_long, isR_ref, isR_null, isR_rf, rf_some, rf_none, rOf_ref, rOf_null, rOf_rf, kn_v, kn_0, true_and, and_true, and_self, tin, inA_x, inA_l, ix_add, ix_addl, ix_ladd, ix_mul, ix_mull, ix_lmul, ix_tn, lt_tn, Nat.reduceLeDiff, Nat.reduceLT, Nat.reduceAdd, Nat.reduceMul, true_or, or_true, ↓reduceIte, aOk, ref_null, null_null, false_or, Option.isSome_some, Option.getD_some, ite_true, ite_false, eq_self, not_false_eq_true, not_true_eq_false, ht, hg]
      rw [w_X21_of_5 hz, hc (d + 3) _ (by omega), kn_v]
      simp (disch := first | assumption | omega | decide | rfl) only [w_X21_of_8, w_X21_of_9, w_X21_of_10, nl_int, nl_ref, nl_null, nl_un, nl_rf, nl_long, isR_ref, isR_null, isR_rf, rf_some, rf_none, rOf_ref, rOf_null, rOf_rf, kn_v, kn_0, true_and, and_true, and_self, tin, inA_x, inA_l, ix_add, ix_addl, ix_ladd, ix_mul, ix_mull, ix_lmul, ix_tn, lt_tn, Nat.reduceLeDiff, Nat.reduceLT, Nat.reduceAdd, Nat.reduceMul, true_or, or_true, ↓reduceIte, aOk, ref_null, null_null, false_or, Option.isSome_some, Option.getD_some, ite_true, ite_false, eq_self, not_false_eq_true, not_true_eq_false]
      exact key (sz h l) 0 (by omega)
end
