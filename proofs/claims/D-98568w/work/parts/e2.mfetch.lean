/-! THE MODEL: all fetched, by breadth -/
set_option maxRecDepth 100000
def FB (h : AH) (m : Nat) (O : Oc) (B : Bo) (L : List Nat) : Prop := (∀ i, i < L.length → Ai h (m + 62) i = ix (L.getD i 0)) ∧ (∀ t, t < 1048576 → wb (Ai h (m + 63) (t / 32)) (t % 32) = decide (t ∈ L)) ∧ (L.Nodup) ∧ (∀ t, t ∈ L → VS O B t) ∧ (∀ t, t ∈ L → gdN O t = false)
theorem FB.st {h : AH} {m : Nat} {O : Oc} {B : Bo} {L : List Nat} (z_ : FB h m O B L) : ∀ i, i < L.length → Ai h (m + 62) i = ix (L.getD i 0) := z_.1
theorem FB.mt {h : AH} {m : Nat} {O : Oc} {B : Bo} {L : List Nat} (z_ : FB h m O B L) : ∀ t, t < 1048576 → wb (Ai h (m + 63) (t / 32)) (t % 32) = decide (t ∈ L) := z_.2.1
theorem FB.nd {h : AH} {m : Nat} {O : Oc} {B : Bo} {L : List Nat} (z_ : FB h m O B L) : L.Nodup := z_.2.2.1
theorem FB.vs {h : AH} {m : Nat} {O : Oc} {B : Bo} {L : List Nat} (z_ : FB h m O B L) : ∀ t, t ∈ L → VS O B t := z_.2.2.2.1
theorem FB.gd {h : AH} {m : Nat} {O : Oc} {B : Bo} {L : List Nat} (z_ : FB h m O B L) : ∀ t, t ∈ L → gdN O t = false := z_.2.2.2.2
abbrev feA : List Nat := [58, 59, 60, 62, 63]
abbrev feG : List Nat := [60, 130, 131, 132, 137]
def FI (h : AH) (h2 : AH) (m : Nat) (O : Oc) (B : Bo) (cl : List Nat) (L0 : List Nat) (L : List Nat) (n : Nat) (i : Nat) : Prop := (Md m feA feG h h2) ∧ (Fi h2 60 m = 0) ∧ (LC h2 m O B cl) ∧ (FB h2 m O B L) ∧ (∃ N, L = L0 ++ N) ∧ (∀ t, t ∈ L → Rq2 O B n (cdN B) t) ∧ (∀ j, j < i → ∀ c, c ∈ cl → nxN O B (L0.getD j 0) c ∈ L)
theorem FI.md {h : AH} {h2 : AH} {m : Nat} {O : Oc} {B : Bo} {cl : List Nat} {L0 : List Nat} {L : List Nat} {n : Nat} {i : Nat} (z_ : FI h h2 m O B cl L0 L n i) : Md m feA feG h h2 := z_.1
theorem FI.th {h : AH} {h2 : AH} {m : Nat} {O : Oc} {B : Bo} {cl : List Nat} {L0 : List Nat} {L : List Nat} {n : Nat} {i : Nat} (z_ : FI h h2 m O B cl L0 L n i) : Fi h2 60 m = 0 := z_.2.1
theorem FI.lc {h : AH} {h2 : AH} {m : Nat} {O : Oc} {B : Bo} {cl : List Nat} {L0 : List Nat} {L : List Nat} {n : Nat} {i : Nat} (z_ : FI h h2 m O B cl L0 L n i) : LC h2 m O B cl := z_.2.2.1
theorem FI.fb {h : AH} {h2 : AH} {m : Nat} {O : Oc} {B : Bo} {cl : List Nat} {L0 : List Nat} {L : List Nat} {n : Nat} {i : Nat} (z_ : FI h h2 m O B cl L0 L n i) : FB h2 m O B L := z_.2.2.2.1
theorem FI.pre {h : AH} {h2 : AH} {m : Nat} {O : Oc} {B : Bo} {cl : List Nat} {L0 : List Nat} {L : List Nat} {n : Nat} {i : Nat} (z_ : FI h h2 m O B cl L0 L n i) : ∃ N, L = L0 ++ N := z_.2.2.2.2.1
theorem FI.rh {h : AH} {h2 : AH} {m : Nat} {O : Oc} {B : Bo} {cl : List Nat} {L0 : List Nat} {L : List Nat} {n : Nat} {i : Nat} (z_ : FI h h2 m O B cl L0 L n i) : ∀ t, t ∈ L → Rq2 O B n (cdN B) t := z_.2.2.2.2.2.1
theorem FI.clo {h : AH} {h2 : AH} {m : Nat} {O : Oc} {B : Bo} {cl : List Nat} {L0 : List Nat} {L : List Nat} {n : Nat} {i : Nat} (z_ : FI h h2 m O B cl L0 L n i) : ∀ j, j < i → ∀ c, c ∈ cl → nxN O B (L0.getD j 0) c ∈ L := z_.2.2.2.2.2.2
section
variable {d D m a b c p q s n k i j t : Nat} {h h' h2 h3 : AH} {Q : Rs → AH → Prop} {O : Oc} {B : Bo} {A F : List Nat} {u v w : Int32} {L L0 cl N : List Nat}
theorem vs_lt (wo : WO O) (v : VS O B t) : t < 1048576 := by
  have : t / 1024 < 1024 := v.lt wo
  omega
theorem FB.md (x : FB h m O B L) (u : Md m A F h h') (h1 : 62 ∉ A) (h2 : 63 ∉ A) : FB h' m O B L := by
  unfold FB
  rw [u.ai h1, u.ai h2]
  exact x
theorem cm_meets (hm : MO h m) (ht : t < 1048576) (mt : ∀ t, t < 1048576 → wb (Ai h (m + 63) (t / 32)) (t % 32) = decide (t ∈ L)) : Ca (D + 1) 221 [.ref m, .int (ix t)] h (fun r h' => r = .inl (some (.int (bz (!decide (t ∈ L))))) ∧ Md m [63] [] h h' ∧ ∀ s, s < 1048576 → wb (Ai h' (m + 63) (s / 32)) (s % 32) = decide (s ∈ L ∨ s = t)) := by
  have r2 : ix t / 32 = ix (t / 32) := ix_dvl (n := 32) (by omega) (by decide) (by decide)
  have rd := wb_rd (x := Ai h (m + 63) (t / 32)) (k := t % 32) (by omega)
  rw [mt t ht] at rd
  rw [e_X9_meets]
  by_cases q : t ∈ L
  · have d1 : (Ai h (m + 63) (t / 32) >>> (ix (t % 32) &&& 31) &&& 1 = 1) = True := by rw [rd]; simp [q]
    simp (disch := first | assumption | omega | decide | rfl) only [w_X9_meets_0, w_X9_meets_1, w_X9_meets_4, w_X9_meets_5, w_X9_meets_7, w_X9_meets_8, w_X9_meets_9, w_X9_meets_10, w_X9_meets_12, w_X9_meets_13, w_X9_meets_14, w_X9_meets_15, w_X9_meets_16, w_X9_meets_17, w_X9_meets_20, w_X9_meets_21, nl_int, nl_ref, nl_null, nl_un, nl_rf, nl_long, isR_ref, isR_null, isR_rf, rf_some, rf_none, rOf_ref, rOf_null, rOf_rf, kn_v, kn_0, true_and, and_true, and_self, tin, inA_x, inA_l, ix_add, ix_addl, ix_ladd, ix_mul, ix_mull, ix_lmul, ix_tn, lt_tn, Nat.reduceLeDiff, Nat.reduceLT, Nat.reduceAdd, Nat.reduceMul, true_or, or_true, ↓reduceIte, aOk, ref_null, null_null, false_or, Option.isSome_some, Option.getD_some, ite_true, ite_false, eq_self, not_false_eq_true, not_true_eq_false, bz_ne, bz_1, reduceCtorEq, Bool.not_true, Bool.not_false, mo_0 hm, mo_met hm, mt_met hm, ml_met hm, r2, ix_rem2, d1]
    have e : ∀ s, (s ∈ L ∨ s = t) = (s ∈ L) := fun s => propext ⟨fun hh => hh.elim id (fun e => by rw [e]; exact q), Or.inl⟩
    refine ⟨by rw [decide_eq_true q]; rfl, Md.refl, fun s hs => ?_⟩
    simp only [e]
    exact mt s hs
  · have d1 : (Ai h (m + 63) (t / 32) >>> (ix (t % 32) &&& 31) &&& 1 = 1) = False := by rw [rd]; simp [q]
    simp (disch := first | assumption | omega | decide | rfl) only [w_X9_meets_0, w_X9_meets_1, w_X9_meets_4, w_X9_meets_5, w_X9_meets_7, w_X9_meets_8, w_X9_meets_9, w_X9_meets_10, w_X9_meets_12, w_X9_meets_13, w_X9_meets_14, w_X9_meets_15, w_X9_meets_16, w_X9_meets_17, w_X9_meets_22, w_X9_meets_23, w_X9_meets_26, w_X9_meets_27, w_X9_meets_29, w_X9_meets_30, w_X9_meets_31, w_X9_meets_32, w_X9_meets_33, w_X9_meets_34, w_X9_meets_36, w_X9_meets_37, w_X9_meets_38, w_X9_meets_39, w_X9_meets_40, w_X9_meets_41, nl_int, nl_ref, nl_null, nl_un, nl_rf, nl_long, isR_ref, isR_null, isR_rf, rf_some, rf_none, rOf_ref, rOf_null, rOf_rf, kn_v, kn_0, true_and, and_true, and_self, tin, inA_x, inA_l, ix_add, ix_addl, ix_ladd, ix_mul, ix_mull, ix_lmul, ix_tn, lt_tn, Nat.reduceLeDiff, Nat.reduceLT, Nat.reduceAdd, Nat.reduceMul, true_or, or_true, ↓reduceIte, aOk, ref_null, null_null, false_or, Option.isSome_some, Option.getD_some, ite_true, ite_false, eq_self, not_false_eq_true, not_true_eq_false, bz_ne, bz_1, reduceCtorEq, Bool.not_true, Bool.not_false, mo_0 hm, mo_met hm, mt_met hm, ml_met hm, r2, ix_rem2, d1]
    refine ⟨by rw [decide_eq_false q]; rfl, md_sAi (by decide), fun s hs => ?_⟩
    rw [Ai_same]
    by_cases qs : s / 32 = t / 32
    · rw [qs, upd_s, wb_or (by omega) (by omega), ← qs, mt s hs]
      by_cases qe : s = t
      · subst qe
        simp
      · rw [decide_eq_false (show ¬ s % 32 = t % 32 by omega), Bool.or_false]
        simp [qe]
    · rw [upd_n qs, mt s hs]
      have qe : ¬ s = t := fun e => qs (by rw [e])
      simp [qe]
theorem or_add (a : Nat) {b : Nat} (hb : b < 1024) : a * 1024 ||| b = a * 1024 + b := by
  have := Nat.two_pow_add_eq_or_of_lt (i := 10) hb a
  rw [Nat.mul_comm] at this
  exact this.symm
theorem cl_mem (hc : c ∈ clN O n) : c < n ∧ okC O c = true := by
  unfold clN at hc
  rw [List.mem_filter, List.mem_range] at hc
  exact hc
theorem mem_cl (h1 : c < n) (h2 : okC O c = true) : c ∈ clN O n := by
  unfold clN
  rw [List.mem_filter, List.mem_range]
  exact ⟨h1, h2⟩
theorem getD_mem {l : List Nat} (hi : i < l.length) : l.getD i 0 ∈ l := by
  rw [List.getD, List.getElem?_eq_getElem hi]
  exact List.getElem_mem hi
theorem mem_getD {l : List Nat} (hc : c ∈ l) : ∃ i, i < l.length ∧ l.getD i 0 = c := by
  obtain ⟨i, hi, e⟩ := List.getElem_of_mem hc
  exact ⟨i, hi, by rw [List.getD, List.getElem?_eq_getElem hi]; exact e⟩
theorem getD_l (hi : i < L0.length) : (L0 ++ N).getD i 0 = L0.getD i 0 := by simp [List.getD, List.getElem?_append_left hi]
theorem fs_up : fsF O B n B = true → fsF O B (n + 1) B = true := by
  have key : ∀ n C, fsF O B n C = true → fsF O B (n + 1) C = true := by
    intro n
    induction n with
    | zero => intro C q; rw [fsF] at q; rw [fsF, q]; rfl
    | succ n ih =>
      intro C q
      rw [fsF, Bool.or_eq_true] at q ⊢
      rcases q with q | q
      · exact Or.inl q
      · right
        rw [anyb_t] at q ⊢
        obtain ⟨j, hj, hp⟩ := q
        refine ⟨j, hj, ?_⟩
        rw [Bool.and_eq_true] at hp ⊢
        exact ⟨hp.1, ih _ hp.2⟩
  exact key n B
theorem fs_down : ∀ k, fsF O B (n + k) B = false → fsF O B n B = false
  | 0, q => q
  | k + 1, q => by
    refine fs_down k ?_
    cases e : fsF O B (n + k) B
    · rfl
    · have := fs_up e
      rw [show n + k + 1 = n + (k + 1) from rfl, q] at this
      exact absurd this (by decide)
theorem cpre_at {P : Nat → Bool} : ∀ m k, k ≤ n → n < k + m → (∀ j, k ≤ j → j < n → P j = true) → P n = false → cpre P m k = n
  | 0, k, h1, h2, _, _ => by omega
  | m + 1, k, h1, h2, h3, h4 => by
    rw [cpre]
    by_cases q : k = n
    · rw [q, h4, if_neg (by decide)]
    · rw [if_pos (h3 k (Nat.le_refl _) (by omega))]
      exact cpre_at m (k + 1) (by omega) (by omega) (fun j hj => h3 j (by omega)) h4
theorem cpre_all {P : Nat → Bool} : ∀ m k, (∀ j, k ≤ j → j < k + m → P j = true) → cpre P m k = k + m
  | 0, k, _ => rfl
  | m + 1, k, h3 => by
    rw [cpre, if_pos (h3 k (Nat.le_refl _) (by omega)), cpre_all m (k + 1) (fun j h1 h2 => h3 j (by omega) (by omega))]
    omega
theorem fet_n (hn : n < 5) (h1 : fsF O B n B = true) (h2 : ∀ k, k < n → fsF O B k B = false) : fetF O B = ix n := by
  have e : cpre (fun n => !fsF O B n B) 5 0 = n := cpre_at 5 0 (by omega) (by omega) (fun j _ hj => by rw [h2 j hj]; rfl) (by rw [h1]; rfl)
  unfold fetF
  rw [e, if_neg (by omega)]
theorem fet_no (h2 : fsF O B 4 B = false) : fetF O B = -1 := by
  have e : cpre (fun n => !fsF O B n B) 5 0 = 0 + 5 := cpre_all 5 0 (fun j _ hj => by rw [fs_down (n := j) (4 - j) (by rw [show j + (4 - j) = 4 by omega]; exact h2)]; rfl)
  unfold fetF
  rw [e, if_pos rfl]
/-- all calls on one state -/
theorem fetch_c (x : M0 h m O) (z : WB O B) (hcl : cl = clN O (16 * O.nP)) (hn : n < 4) (hi : i < L0.length) {lf : Int32} (fi : FI h h2 m O B cl L0 L (n + 1) i) (r0 : ∀ t, t ∈ L0 → Rq2 O B n (cdN B) t) (fin : ∀ h3, Md m feA feG h h3 → Fi h3 60 m = 0 → fsF O B (n + 1) B = true → Q (.inl (some (.int (ix (n + 1))))) h3) (nx : ∀ h3 L (v8 v9 v10 : Value), FI h h3 m O B cl L0 L (n + 1) (i + 1) → Ru (D + 4) 219 238 [.ref m, .int lf, .int (ix L.length), .int (ix (n + 1)), .int (ix L0.length), .int (ix i), .int (ix (L0.getD i 0 / 1024)), .int (ix (L0.getD i 0 % 1024)), v8, v9, v10] [] h3 Q) {v9 v10 : Value} : Ru (D + 4) 219 140 [.ref m, .int lf, .int (ix L.length), .int (ix (n + 1)), .int (ix L0.length), .int (ix i), .int (ix (L0.getD i 0 / 1024)), .int (ix (L0.getD i 0 % 1024)), .int 0, v9, v10] [] h2 Q := by
  have n1 := x.wo.nA
  have n3 := x.wo.nP
  have lb : cl.length ≤ 80 := by rw [hcl]; exact Nat.le_trans (clN_len _) (by omega)
  obtain ⟨N0, e0⟩ := fi.pre
  have s0 : L0.getD i 0 ∈ L0 := getD_mem hi
  have vs : VS O B (L0.getD i 0) := fi.fb.vs _ (by rw [e0]; exact List.mem_append_left _ s0)
  have rs := r0 _ s0
  have hang_lt : L0.getD i 0 / 1024 < 1024 := vs.lt x.wo
  refine lp (P := fun j => ∀ h3 L (v9 v10 : Value), FI h h3 m O B cl L0 L (n + 1) i → (∀ j', j' < j → nxN O B (L0.getD i 0) (cl.getD j' 0) ∈ L) → Ru (D + 4) 219 140 [.ref m, .int lf, .int (ix L.length), .int (ix (n + 1)), .int (ix L0.length), .int (ix i), .int (ix (L0.getD i 0 / 1024)), .int (ix (L0.getD i 0 % 1024)), .int (ix j), v9, v10] [] h3 Q) (N := cl.length) ?_ ?_ h2 L v9 v10 fi (fun j' hj => absurd hj (by omega))
  · intro h3 L v9 v10 f3 g3
    have x3 : M0 h3 m O := x.md f3.md
    have hm3 := x3.mo
    have e : ¬ cl.length < cl.length := by omega
    rw [w_X9_fetch_140]
    simp (disch := first | assumption | omega | decide | rfl) only [w_X9_fetch_142, w_X9_fetch_143, w_X9_fetch_146, nl_int, nl_ref, nl_null, nl_un, nl_rf, nl_long, isR_ref, isR_null, isR_rf, rf_some, rf_none, rOf_ref, rOf_null, rOf_rf, kn_v, kn_0, true_and, and_true, and_self, tin, inA_x, inA_l, ix_add, ix_addl, ix_ladd, ix_mul, ix_mull, ix_lmul, ix_tn, lt_tn, Nat.reduceLeDiff, Nat.reduceLT, Nat.reduceAdd, Nat.reduceMul, true_or, or_true, ↓reduceIte, aOk, ref_null, null_null, false_or, Option.isSome_some, Option.getD_some, ite_true, ite_false, eq_self, not_false_eq_true, not_true_eq_false, bz_ne, bz_1, reduceCtorEq, Bool.not_true, Bool.not_false, mo_0 hm3, f3.lc.n, ix_lt, e]
    refine nx h3 L _ _ _ ⟨f3.md, f3.th, f3.lc, f3.fb, f3.pre, f3.rh, fun j hj c hc => ?_⟩
    by_cases qj : j = i
    · obtain ⟨j', hj', e⟩ := mem_getD hc
      rw [qj, ← e]
      exact g3 j' hj'
    · exact f3.clo j (by omega) c hc
  · intro j hj nj h3 L v9 v10 f3 g3
    have x3 : M0 h3 m O := x.md f3.md
    have hm3 := x3.mo
    have c1 := f3.lc.n
    have c2 := f3.lc.w j hj
    have c3 := f3.lc.e j hj
    have cm : cl.getD j 0 ∈ cl := getD_mem hj
    have cok : cl.getD j 0 < 16 * O.nP ∧ okC O (cl.getD j 0) = true := cl_mem (n := 16 * O.nP) (by rw [← hcl]; exact cm)
    rw [w_X9_fetch_140]
    simp (disch := first | assumption | omega | decide | rfl) only [w_X9_fetch_142, w_X9_fetch_143, w_X9_fetch_146, w_X9_fetch_149, w_X9_fetch_150, w_X9_fetch_152, w_X9_fetch_154, w_X9_fetch_155, w_X9_fetch_158, w_X9_fetch_160, w_X9_fetch_161, w_X9_fetch_162, w_X9_fetch_165, w_X9_fetch_167, w_X9_fetch_168, nl_int, nl_ref, nl_null, nl_un, nl_rf, nl_long, isR_ref, isR_null, isR_rf, rf_some, rf_none, rOf_ref, rOf_null, rOf_rf, kn_v, kn_0, true_and, and_true, and_self, tin, inA_x, inA_l, ix_add, ix_addl, ix_ladd, ix_mul, ix_mull, ix_lmul, ix_tn, lt_tn, Nat.reduceLeDiff, Nat.reduceLT, Nat.reduceAdd, Nat.reduceMul, true_or, or_true, ↓reduceIte, aOk, ref_null, null_null, false_or, Option.isSome_some, Option.getD_some, ite_true, ite_false, eq_self, not_false_eq_true, not_true_eq_false, bz_ne, bz_1, reduceCtorEq, Bool.not_true, Bool.not_false, mo_0 hm3, mo_s hm3, mt_s hm3, ml_s hm3, mo_met hm3, mt_met hm3, ml_met hm3, mo_stateOf hm3, mt_stateOf hm3, ml_stateOf hm3, mo_heardBy hm3, mt_heardBy hm3, ml_heardBy hm3, mo_halfBy hm3, mt_halfBy hm3, ml_halfBy hm3, c1, c2, c3, ix_lt, hj, cm_fallsBy x3 hang_lt]
    have nj : ∀ h3 L (v9 v10 : Value), FI h h3 m O B cl L0 L (n + 1) i → (∀ j', j' < j → nxN O B (L0.getD i 0) (cl.getD j' 0) ∈ L) → nxN O B (L0.getD i 0) (cl.getD j 0) ∈ L → Ru (D + 4) 219 232 [.ref m, .int lf, .int (ix L.length), .int (ix (n + 1)), .int (ix L0.length), .int (ix i), .int (ix (L0.getD i 0 / 1024)), .int (ix (L0.getD i 0 % 1024)), .int (ix j), v9, v10] [] h3 Q := by
      intro h4 L v9 v10 f4 g4 g5
      simp (disch := first | assumption | omega | decide | rfl) only [w_X9_fetch_232, w_X9_fetch_235, nl_int, nl_ref, nl_null, nl_un, nl_rf, nl_long, isR_ref, isR_null, isR_rf, rf_some, rf_none, rOf_ref, rOf_null, rOf_rf, kn_v, kn_0, true_and, and_true, and_self, tin, inA_x, inA_l, ix_add, ix_addl, ix_ladd, ix_mul, ix_mull, ix_lmul, ix_tn, lt_tn, Nat.reduceLeDiff, Nat.reduceLT, Nat.reduceAdd, Nat.reduceMul, true_or, or_true, ↓reduceIte, aOk, ref_null, null_null, false_or, Option.isSome_some, Option.getD_some, ite_true, ite_false, eq_self, not_false_eq_true, not_true_eq_false, bz_ne, bz_1, reduceCtorEq, Bool.not_true, Bool.not_false]
      refine nj h4 L v9 v10 f4 (fun j' hj' => ?_)
      by_cases q : j' = j
      · rw [q]; exact g5
      · exact g4 j' (by omega)
    generalize cl.getD j 0 = c at cm cok nj ⊢
    have za : WB O (afF O B (stB B (L0.getD i 0)) c) := wb_af vs
    have vn : VS O B (nxN O B (L0.getD i 0) c) := vs_nx x.wo vs
    have rn : Rq2 O B (n + 1) (cdN B) (nxN O B (L0.getD i 0) c) := rh_app n _ _ rs cok.1 cok.2
    have ea : (afF O B (stB B (L0.getD i 0)) c).hang = sd (L0.getD i 0 / 1024) (faF O (L0.getD i 0 / 1024) (L0.getD i 0 % 1024) (whC O B c) (ecC O B c)) := rfl
    have el : (afF O B (stB B (L0.getD i 0)) c).loose = loF O (L0.getD i 0 / 1024) (L0.getD i 0 % 1024) (whC O B c) (ecC O B c) := rfl
    have ll := loose_lt za x.wo
    have lh := za.lt x.wo
    rw [← el]
    have en : nxN O B (L0.getD i 0) c = (afF O B (stB B (L0.getD i 0)) c).hang * 1024 + (afF O B (stB B (L0.getD i 0)) c).loose := rfl
    have gdn : gdN O (nxN O B (L0.getD i 0) c) = decide (sd (afF O B (stB B (L0.getD i 0)) c).hang (deF O) = 0) := by
      unfold gdN
      rw [en, show ((afF O B (stB B (L0.getD i 0)) c).hang * 1024 + (afF O B (stB B (L0.getD i 0)) c).loose) / 1024 = (afF O B (stB B (L0.getD i 0)) c).hang by omega]
    have u34 : Md m [] [132] h3 (sFi h3 132 m (ix (afF O B (stB B (L0.getD i 0)) c).loose)) := md_sFi (by decide)
    have a1 : Fi (sFi h3 132 m (ix (afF O B (stB B (L0.getD i 0)) c).loose)) 132 m = ix (afF O B (stB B (L0.getD i 0)) c).loose := Fi_same
    revert u34 a1
    generalize sFi h3 132 m (ix (afF O B (stB B (L0.getD i 0)) c).loose) = h4
    intro u34 a1
    have x4 : M0 h4 m O := x3.md u34
    have hm4 := x4.mo
    have f4 : FI h h4 m O B cl L0 L (n + 1) i := ⟨f3.md.t u34, by rw [u34.fi (by decide)]; exact f3.th, f3.lc.md u34 (by decide) (by decide) (by decide) (by decide), f3.fb.md u34 (by decide) (by decide), f3.pre, f3.rh, f3.clo⟩
    generalize faF O (L0.getD i 0 / 1024) (L0.getD i 0 % 1024) (whC O B c) (ecC O B c) = fa at ea ⊢
    have esd : ∀ v : Int32, v = ix (L0.getD i 0 / 1024) &&& (ix fa ^^^ -1) → v = ix (afF O B (stB B (L0.getD i 0)) c).hang := fun v e => by rw [e, ix_sd, ea]
    have esd := esd _ rfl
    generalize afF O B (stB B (L0.getD i 0)) c = C at za ea el ll lh en gdn a1 esd
    have sh : ix C.hang <<< ((10 : Int32) &&& 31) = ix (C.hang * 1024) := ix_shl (n := C.hang) (k := 10) (by decide) (by omega)
    have eo : ix (C.hang * 1024) ||| ix C.loose = ix (nxN O B (L0.getD i 0) c) := by rw [ix_or, or_add _ ll, en]
    have lsd : sd C.hang (deF O) < 1024 := sd_lt lh
    by_cases qg : sd C.hang (deF O) = 0
    · have dg : (sd C.hang (deF O) = 0) = True := eq_true qg
      simp (disch := first | assumption | omega | decide | rfl) only [w_X9_fetch_171, w_X9_fetch_173, w_X9_fetch_175, w_X9_fetch_177, w_X9_fetch_178, w_X9_fetch_179, w_X9_fetch_180, w_X9_fetch_182, w_X9_fetch_183, w_X9_fetch_184, w_X9_fetch_187, w_X9_fetch_188, w_X9_fetch_190, w_X9_fetch_192, w_X9_fetch_194, w_X9_fetch_195, w_X9_fetch_196, w_X9_fetch_197, w_X9_fetch_198, w_X9_fetch_201, w_X9_fetch_202, w_X9_fetch_203, w_X9_fetch_204, w_X9_fetch_207, w_X9_fetch_208, nl_int, nl_ref, nl_null, nl_un, nl_rf, nl_long, isR_ref, isR_null, isR_rf, rf_some, rf_none, rOf_ref, rOf_null, rOf_rf, kn_v, kn_0, true_and, and_true, and_self, tin, inA_x, inA_l, ix_add, ix_addl, ix_ladd, ix_mul, ix_mull, ix_lmul, ix_tn, lt_tn, Nat.reduceLeDiff, Nat.reduceLT, Nat.reduceAdd, Nat.reduceMul, true_or, or_true, ↓reduceIte, aOk, ref_null, null_null, false_or, Option.isSome_some, Option.getD_some, ite_true, ite_false, eq_self, not_false_eq_true, not_true_eq_false, bz_ne, bz_1, reduceCtorEq, Bool.not_true, Bool.not_false, mo_0 hm4, mo_s hm4, mt_s hm4, ml_s hm4, mo_met hm4, mt_met hm4, ml_met hm4, mo_stateOf hm4, mt_stateOf hm4, ml_stateOf hm4, mo_heardBy hm4, mt_heardBy hm4, ml_heardBy hm4, mo_halfBy hm4, mt_halfBy hm4, ml_halfBy hm4, esd, sh, a1, eo, cm_deaf x4, ix_sd, ix_eql, dg]
      refine fin h4 f4.md f4.th ?_
      have := (rh_fs (n := n + 1) x.wo (cdN B) (by unfold VS; rw [cd_st z x.wo]; exact ⟨z.hang, z.loose, z.snd⟩)).mpr ⟨_, rn, by rw [gdn]; exact decide_eq_true qg⟩
      rw [cd_st z x.wo] at this
      rw [← this]
      exact fs_irr _ _ _ rfl rfl
    · have dg : (sd C.hang (deF O) = 0) = False := eq_false qg
      rw [decide_eq_false qg] at gdn
      simp (disch := first | assumption | omega | decide | rfl) only [w_X9_fetch_171, w_X9_fetch_173, w_X9_fetch_175, w_X9_fetch_177, w_X9_fetch_178, w_X9_fetch_179, w_X9_fetch_180, w_X9_fetch_182, w_X9_fetch_183, w_X9_fetch_184, w_X9_fetch_187, w_X9_fetch_188, w_X9_fetch_190, w_X9_fetch_192, w_X9_fetch_194, w_X9_fetch_195, w_X9_fetch_196, w_X9_fetch_197, w_X9_fetch_198, w_X9_fetch_201, w_X9_fetch_202, w_X9_fetch_203, w_X9_fetch_204, w_X9_fetch_209, w_X9_fetch_210, w_X9_fetch_212, nl_int, nl_ref, nl_null, nl_un, nl_rf, nl_long, isR_ref, isR_null, isR_rf, rf_some, rf_none, rOf_ref, rOf_null, rOf_rf, kn_v, kn_0, true_and, and_true, and_self, tin, inA_x, inA_l, ix_add, ix_addl, ix_ladd, ix_mul, ix_mull, ix_lmul, ix_tn, lt_tn, Nat.reduceLeDiff, Nat.reduceLT, Nat.reduceAdd, Nat.reduceMul, true_or, or_true, ↓reduceIte, aOk, ref_null, null_null, false_or, Option.isSome_some, Option.getD_some, ite_true, ite_false, eq_self, not_false_eq_true, not_true_eq_false, bz_ne, bz_1, reduceCtorEq, Bool.not_true, Bool.not_false, mo_0 hm4, mo_s hm4, mt_s hm4, ml_s hm4, mo_met hm4, mt_met hm4, ml_met hm4, mo_stateOf hm4, mt_stateOf hm4, ml_stateOf hm4, mo_heardBy hm4, mt_heardBy hm4, ml_heardBy hm4, mo_halfBy hm4, mt_halfBy hm4, ml_halfBy hm4, esd, sh, a1, eo, cm_deaf x4, ix_sd, ix_eql, dg]
      have tl := vs_lt x.wo vn
      generalize nxN O B (L0.getD i 0) c = t at *
      refine ca_mono (cm_meets hm4 tl f4.fb.mt) ?_
      rintro r h5 ⟨rfl, u5, m5⟩
      by_cases qm : t ∈ L
      · have em : ∀ s, (s ∈ L ∨ s = t) = (s ∈ L) := fun s => propext ⟨fun hh => hh.elim id (fun e => by rw [e]; exact qm), Or.inl⟩
        simp only [em] at m5
        have f5 : FI h h5 m O B cl L0 L (n + 1) i := ⟨f4.md.t u5, by rw [u5.fi (by decide)]; exact f4.th, f4.lc.md u5 (by decide) (by decide) (by decide) (by decide), ⟨fun i hi => by rw [u5.ai (by decide)]; exact f4.fb.st i hi, m5, f4.fb.nd, f4.fb.vs, f4.fb.gd⟩, f4.pre, f4.rh, f4.clo⟩
        have dm : decide (t ∈ L) = true := decide_eq_true qm
        simp (disch := first | assumption | omega | decide | rfl) only [w_X9_fetch_215, w_X9_fetch_218, nl_int, nl_ref, nl_null, nl_un, nl_rf, nl_long, isR_ref, isR_null, isR_rf, rf_some, rf_none, rOf_ref, rOf_null, rOf_rf, kn_v, kn_0, true_and, and_true, and_self, tin, inA_x, inA_l, ix_add, ix_addl, ix_ladd, ix_mul, ix_mull, ix_lmul, ix_tn, lt_tn, Nat.reduceLeDiff, Nat.reduceLT, Nat.reduceAdd, Nat.reduceMul, true_or, or_true, ↓reduceIte, aOk, ref_null, null_null, false_or, Option.isSome_some, Option.getD_some, ite_true, ite_false, eq_self, not_false_eq_true, not_true_eq_false, bz_ne, bz_1, reduceCtorEq, Bool.not_true, Bool.not_false, dm]
        exact nj h5 L _ _ f5 g3 qm
      · have dm : decide (t ∈ L) = false := decide_eq_false qm
        have nd' : (L ++ [t]).Nodup := by
          rw [List.nodup_append]
          refine ⟨f4.fb.nd, by simp, fun a ha b hb e => ?_⟩
          rw [List.mem_singleton] at hb
          exact qm (by rw [← hb, ← e]; exact ha)
        have vs' : ∀ s, s ∈ L ++ [t] → VS O B s := fun s hs => by
          rcases List.mem_append.mp hs with q | q
          · exact f4.fb.vs s q
          · rw [List.mem_singleton] at q; rw [q]; exact vn
        have len := vs_len x.wo nd' vs'
        rw [List.length_append, List.length_singleton] at len
        have hm5 := u5.mo hm4
        simp (disch := first | assumption | omega | decide | rfl) only [w_X9_fetch_215, w_X9_fetch_221, w_X9_fetch_222, w_X9_fetch_225, w_X9_fetch_226, w_X9_fetch_228, w_X9_fetch_229, nl_int, nl_ref, nl_null, nl_un, nl_rf, nl_long, isR_ref, isR_null, isR_rf, rf_some, rf_none, rOf_ref, rOf_null, rOf_rf, kn_v, kn_0, true_and, and_true, and_self, tin, inA_x, inA_l, ix_add, ix_addl, ix_ladd, ix_mul, ix_mull, ix_lmul, ix_tn, lt_tn, Nat.reduceLeDiff, Nat.reduceLT, Nat.reduceAdd, Nat.reduceMul, true_or, or_true, ↓reduceIte, aOk, ref_null, null_null, false_or, Option.isSome_some, Option.getD_some, ite_true, ite_false, eq_self, not_false_eq_true, not_true_eq_false, bz_ne, bz_1, reduceCtorEq, Bool.not_true, Bool.not_false, mo_0 hm5, mo_s hm5, mt_s hm5, ml_s hm5, mo_met hm5, mt_met hm5, ml_met hm5, mo_stateOf hm5, mt_stateOf hm5, ml_stateOf hm5, mo_heardBy hm5, mt_heardBy hm5, ml_heardBy hm5, mo_halfBy hm5, mt_halfBy hm5, ml_halfBy hm5, dm]
        have u6 : Md m [62] [] h5 (sAi h5 (m + 62) (upd (Ai h5 (m + 62)) L.length (ix t))) := md_sAi (by decide)
        have ll2 : (L ++ [t]).length = L.length + 1 := by simp
        rw [← ll2]
        refine nj (sAi h5 (m + 62) (upd (Ai h5 (m + 62)) L.length (ix t))) (L ++ [t]) _ _ ⟨(f4.md.t u5).t u6, by rw [u6.fi (by decide), u5.fi (by decide)]; exact f4.th, (f4.lc.md u5 (by decide) (by decide) (by decide) (by decide)).md u6 (by decide) (by decide) (by decide) (by decide), ⟨fun i hi => ?_, fun s hs => ?_, nd', vs', fun s hs => ?_⟩, ?_, fun s hs => ?_, fun j hj c hc => List.mem_append_left _ (f4.clo j hj c hc)⟩ (fun j' hj' => List.mem_append_left _ (g3 j' hj')) (List.mem_append_right _ (List.mem_singleton.mpr rfl))
        · rw [ll2] at hi
          rw [Ai_same]
          by_cases qi : i = L.length
          · rw [qi, upd_s]; simp [List.getD]
          · rw [upd_n qi, u5.ai (by decide), f4.fb.st i (by omega), getD_l (by omega)]
        · rw [u6.ai (by decide), m5 s hs]
          simp [List.mem_append]
        · rcases List.mem_append.mp hs with q | q
          · exact f4.fb.gd s q
          · rw [List.mem_singleton] at q; rw [q]; exact gdn
        · obtain ⟨N, e⟩ := f4.pre
          exact ⟨N ++ [t], by rw [e, List.append_assoc]⟩
        · rcases List.mem_append.mp hs with q | q
          · exact f4.rh s q
          · rw [List.mem_singleton] at q; rw [q]; exact rn
/-- a level -/
theorem fetch_l (x : M0 h m O) (z : WB O B) (hcl : cl = clN O (16 * O.nP)) (hn : n < 4) (hk : k ≤ L0.length) (l0 : L0.length ≤ 59049) (fi : FI h h2 m O B cl L0 L0 (n + 1) k) (r0 : ∀ t, t ∈ L0 → Rq2 O B n (cdN B) t) (fin : ∀ h3, Md m feA feG h h3 → Fi h3 60 m = 0 → fsF O B (n + 1) B = true → Q (.inl (some (.int (ix (n + 1))))) h3) (nx : ∀ h3 L (v5 v6 v7 v8 v9 v10 : Value), FI h h3 m O B cl L0 L (n + 1) L0.length → Ru (D + 4) 219 244 [.ref m, .int (ix k), .int (ix L.length), .int (ix (n + 1)), .int (ix L0.length), v5, v6, v7, v8, v9, v10] [] h3 Q) {v6 v7 v8 v9 v10 : Value} : Ru (D + 4) 219 105 [.ref m, .int (ix k), .int (ix L0.length), .int (ix (n + 1)), .int (ix L0.length), .int (ix k), v6, v7, v8, v9, v10] [] h2 Q := by
  have key : ∀ q i, i + q = L0.length → ∀ h3 L (v6 v7 v8 v9 v10 : Value), FI h h3 m O B cl L0 L (n + 1) i → Ru (D + 4) 219 105 [.ref m, .int (ix k), .int (ix L.length), .int (ix (n + 1)), .int (ix L0.length), .int (ix i), v6, v7, v8, v9, v10] [] h3 Q := by
    intro q
    induction q with
    | zero =>
      intro i hi h3 L v6 v7 v8 v9 v10 f3
      have ei : i = L0.length := by omega
      have e : ¬ i < L0.length := by omega
      rw [w_X9_fetch_105]
      simp (disch := first | assumption | omega | decide | rfl) only [w_X9_fetch_107, w_X9_fetch_109, nl_int, nl_ref, nl_null, nl_un, nl_rf, nl_long, isR_ref, isR_null, isR_rf, rf_some, rf_none, rOf_ref, rOf_null, rOf_rf, kn_v, kn_0, true_and, and_true, and_self, tin, inA_x, inA_l, ix_add, ix_addl, ix_ladd, ix_mul, ix_mull, ix_lmul, ix_tn, lt_tn, Nat.reduceLeDiff, Nat.reduceLT, Nat.reduceAdd, Nat.reduceMul, true_or, or_true, ↓reduceIte, aOk, ref_null, null_null, false_or, Option.isSome_some, Option.getD_some, ite_true, ite_false, eq_self, not_false_eq_true, not_true_eq_false, bz_ne, bz_1, reduceCtorEq, Bool.not_true, Bool.not_false, ix_lt, e]
      rw [ei] at f3 ⊢
      exact nx h3 L _ _ _ _ _ _ f3
    | succ q ih =>
      intro i hi h3 L v6 v7 v8 v9 v10 f3
      have e : i < L0.length := by omega
      have x3 : M0 h3 m O := x.md f3.md
      have hm3 := x3.mo
      obtain ⟨N, eN⟩ := f3.pre
      have il : i < L.length := by rw [eN, List.length_append]; omega
      have g := f3.fb.st i il
      rw [eN, getD_l e] at g
      have vs : VS O B (L0.getD i 0) := f3.fb.vs _ (by rw [eN]; exact List.mem_append_left _ (getD_mem e))
      have tl := vs_lt x.wo vs
      have s1 : ix (L0.getD i 0) >>> ((10 : Int32) &&& 31) = ix (L0.getD i 0 / 1024) := ix_shr (n := L0.getD i 0) (k := 10) (by omega) (by decide)
      have s2 : ix (L0.getD i 0) &&& 1023 = ix (L0.getD i 0 % 1024) := pk_andN (n := L0.getD i 0) (m := 1023) (by omega) 10 (by decide)
      rw [w_X9_fetch_105]
      simp (disch := first | assumption | omega | decide | rfl) only [w_X9_fetch_107, w_X9_fetch_109, w_X9_fetch_112, w_X9_fetch_113, w_X9_fetch_116, w_X9_fetch_118, w_X9_fetch_119, w_X9_fetch_121, w_X9_fetch_122, w_X9_fetch_124, w_X9_fetch_125, w_X9_fetch_128, w_X9_fetch_130, w_X9_fetch_131, w_X9_fetch_134, w_X9_fetch_135, w_X9_fetch_137, w_X9_fetch_138, nl_int, nl_ref, nl_null, nl_un, nl_rf, nl_long, isR_ref, isR_null, isR_rf, rf_some, rf_none, rOf_ref, rOf_null, rOf_rf, kn_v, kn_0, true_and, and_true, and_self, tin, inA_x, inA_l, ix_add, ix_addl, ix_ladd, ix_mul, ix_mull, ix_lmul, ix_tn, lt_tn, Nat.reduceLeDiff, Nat.reduceLT, Nat.reduceAdd, Nat.reduceMul, true_or, or_true, ↓reduceIte, aOk, ref_null, null_null, false_or, Option.isSome_some, Option.getD_some, ite_true, ite_false, eq_self, not_false_eq_true, not_true_eq_false, bz_ne, bz_1, reduceCtorEq, Bool.not_true, Bool.not_false, mo_0 hm3, mo_s hm3, mt_s hm3, ml_s hm3, mo_met hm3, mt_met hm3, ml_met hm3, mo_stateOf hm3, mt_stateOf hm3, ml_stateOf hm3, mo_heardBy hm3, mt_heardBy hm3, ml_heardBy hm3, mo_halfBy hm3, mt_halfBy hm3, ml_halfBy hm3, ix_lt, e, g, s1, s2]
      refine fetch_c x z hcl hn e f3 r0 fin (fun h4 L v8 v9 v10 f4 => ?_)
      simp (disch := first | assumption | omega | decide | rfl) only [w_X9_fetch_238, w_X9_fetch_241, nl_int, nl_ref, nl_null, nl_un, nl_rf, nl_long, isR_ref, isR_null, isR_rf, rf_some, rf_none, rOf_ref, rOf_null, rOf_rf, kn_v, kn_0, true_and, and_true, and_self, tin, inA_x, inA_l, ix_add, ix_addl, ix_ladd, ix_mul, ix_mull, ix_lmul, ix_tn, lt_tn, Nat.reduceLeDiff, Nat.reduceLT, Nat.reduceAdd, Nat.reduceMul, true_or, or_true, ↓reduceIte, aOk, ref_null, null_null, false_or, Option.isSome_some, Option.getD_some, ite_true, ite_false, eq_self, not_false_eq_true, not_true_eq_false, bz_ne, bz_1, reduceCtorEq, Bool.not_true, Bool.not_false]
      exact ih (i + 1) (by omega) h4 L _ _ _ _ _ f4
  exact key (L0.length - k) k (by omega) h2 L0 _ _ _ _ _ fi
theorem cm_fetch (x : M0 h m O) (y : MB h (m + 53) 0 O.nA B) (z : WB O B) : Ca (D + 5) 219 [.ref m] h (fun r h' => r = .inl (some (.int (fetF O B))) ∧ Md m feA feG h h' ∧ Fi h' 60 m = 0) := by
  have n3 := x.wo.nP
  have hh := z.lt x.wo
  have hlo := loose_lt z x.wo
  generalize hQ : (fun r h' => r = .inl (some (.int (fetF O B))) ∧ Md m feA feG h h' ∧ Fi h' 60 m = 0 : Rs → AH → Prop) = Q
  have fin : ∀ r h2, r = fetF O B → Md m feA feG h h2 → Fi h2 60 m = 0 → Q (.inl (some (.int r))) h2 := fun r h2 e a b => by rw [← hQ, e]; exact ⟨rfl, a, b⟩
  rw [e_X9_fetch]
  simp (disch := first | assumption | omega | decide | rfl) only [w_X9_fetch_0, w_X9_fetch_1, w_X9_fetch_2, nl_int, nl_ref, nl_null, nl_un, nl_rf, nl_long, isR_ref, isR_null, isR_rf, rf_some, rf_none, rOf_ref, rOf_null, rOf_rf, kn_v, kn_0, true_and, and_true, and_self, tin, inA_x, inA_l, ix_add, ix_addl, ix_ladd, ix_mul, ix_mull, ix_lmul, ix_tn, lt_tn, Nat.reduceLeDiff, Nat.reduceLT, Nat.reduceAdd, Nat.reduceMul, true_or, or_true, ↓reduceIte, aOk, ref_null, null_null, false_or, Option.isSome_some, Option.getD_some, ite_true, ite_false, eq_self, not_false_eq_true, not_true_eq_false, bz_ne, bz_1, reduceCtorEq, Bool.not_true, Bool.not_false, mo_0 x.mo]
  have u1 : Md m feA feG h (sFi h 60 m 0) := md_sFi (by decide)
  have u01 : Md m [] [60] h (sFi h 60 m 0) := md_sFi (by decide)
  have f1 : Fi (sFi h 60 m 0) 60 m = 0 := Fi_same
  revert u1 u01 f1
  generalize sFi h 60 m 0 = h1
  intro u1 u01 f1
  have x1 : M0 h1 m O := x.md u01
  have y1 : MB h1 (m + 53) 0 O.nA B := y.md u01 (by decide)
  have hm1 := x1.mo
  have lsd : sd B.hang (deF O) < 1024 := sd_lt hh
  have g0 : fsF O B 0 B = decide (sd B.hang (deF O) = 0) := by rw [fsF]; rfl
  by_cases qg : sd B.hang (deF O) = 0
  · have dg : (sd B.hang (deF O) = 0) = True := eq_true qg
    rw [decide_eq_true qg] at g0
    simp (disch := first | assumption | omega | decide | rfl) only [w_X9_fetch_5, w_X9_fetch_6, w_X9_fetch_9, w_X9_fetch_10, w_X9_fetch_11, w_X9_fetch_12, w_X9_fetch_15, w_X9_fetch_16, w_X9_fetch_17, w_X9_fetch_18, w_X9_fetch_21, w_X9_fetch_22, nl_int, nl_ref, nl_null, nl_un, nl_rf, nl_long, isR_ref, isR_null, isR_rf, rf_some, rf_none, rOf_ref, rOf_null, rOf_rf, kn_v, kn_0, true_and, and_true, and_self, tin, inA_x, inA_l, ix_add, ix_addl, ix_ladd, ix_mul, ix_mull, ix_lmul, ix_tn, lt_tn, Nat.reduceLeDiff, Nat.reduceLT, Nat.reduceAdd, Nat.reduceMul, true_or, or_true, ↓reduceIte, aOk, ref_null, null_null, false_or, Option.isSome_some, Option.getD_some, ite_true, ite_false, eq_self, not_false_eq_true, not_true_eq_false, bz_ne, bz_1, reduceCtorEq, Bool.not_true, Bool.not_false, mo_0 hm1, mo_s hm1, mt_s hm1, ml_s hm1, mo_met hm1, mt_met hm1, ml_met hm1, mo_stateOf hm1, mt_stateOf hm1, ml_stateOf hm1, mo_heardBy hm1, mt_heardBy hm1, ml_heardBy hm1, mo_halfBy hm1, mt_halfBy hm1, ml_halfBy hm1, y1.h0, cm_deaf x1, ix_sd, ix_eql, dg]
    exact fin _ h1 (by rw [fet_n (n := 0) (by omega) g0 (fun k hk => absurd hk (by omega))]; rfl) u1 f1
  · have dg : (sd B.hang (deF O) = 0) = False := eq_false qg
    rw [decide_eq_false qg] at g0
    simp (disch := first | assumption | omega | decide | rfl) only [w_X9_fetch_5, w_X9_fetch_6, w_X9_fetch_9, w_X9_fetch_10, w_X9_fetch_11, w_X9_fetch_12, w_X9_fetch_15, w_X9_fetch_16, w_X9_fetch_17, w_X9_fetch_18, w_X9_fetch_23, w_X9_fetch_24, nl_int, nl_ref, nl_null, nl_un, nl_rf, nl_long, isR_ref, isR_null, isR_rf, rf_some, rf_none, rOf_ref, rOf_null, rOf_rf, kn_v, kn_0, true_and, and_true, and_self, tin, inA_x, inA_l, ix_add, ix_addl, ix_ladd, ix_mul, ix_mull, ix_lmul, ix_tn, lt_tn, Nat.reduceLeDiff, Nat.reduceLT, Nat.reduceAdd, Nat.reduceMul, true_or, or_true, ↓reduceIte, aOk, ref_null, null_null, false_or, Option.isSome_some, Option.getD_some, ite_true, ite_false, eq_self, not_false_eq_true, not_true_eq_false, bz_ne, bz_1, reduceCtorEq, Bool.not_true, Bool.not_false, mo_0 hm1, mo_s hm1, mt_s hm1, ml_s hm1, mo_met hm1, mt_met hm1, ml_met hm1, mo_stateOf hm1, mt_stateOf hm1, ml_stateOf hm1, mo_heardBy hm1, mt_heardBy hm1, ml_heardBy hm1, mo_halfBy hm1, mt_halfBy hm1, ml_halfBy hm1, y1.h0, cm_deaf x1, ix_sd, ix_eql, dg]
    refine ca_mono (cm_laysCalls x1 y1 z) ?_
    rintro r h2 ⟨rfl, u2, lc2⟩
    have u02 : Md m feA feG h h2 := u1.t u2
    have f2 : Fi h2 60 m = 0 := by rw [u2.fi (by decide)]; exact f1
    have y2 : MB h2 (m + 53) 0 O.nA B := y1.md u2 (by decide)
    simp (disch := first | assumption | omega | decide | rfl) only [w_X9_fetch_27, w_X9_fetch_28, nl_int, nl_ref, nl_null, nl_un, nl_rf, nl_long, isR_ref, isR_null, isR_rf, rf_some, rf_none, rOf_ref, rOf_null, rOf_rf, kn_v, kn_0, true_and, and_true, and_self, tin, inA_x, inA_l, ix_add, ix_addl, ix_ladd, ix_mul, ix_mull, ix_lmul, ix_tn, lt_tn, Nat.reduceLeDiff, Nat.reduceLT, Nat.reduceAdd, Nat.reduceMul, true_or, or_true, ↓reduceIte, aOk, ref_null, null_null, false_or, Option.isSome_some, Option.getD_some, ite_true, ite_false, eq_self, not_false_eq_true, not_true_eq_false, bz_ne, bz_1, reduceCtorEq, Bool.not_true, Bool.not_false]
    generalize hcl : clN O (16 * O.nP) = cl at lc2
    refine lp (P := fun j => ∀ h3, Md m feA feG h h3 → Fi h3 60 m = 0 → LC h3 m O B cl → MB h3 (m + 53) 0 O.nA B → (∀ a, a < j → Ai h3 (m + 63) a = 0) → Ru (D + 4) 219 29 [.ref m, .int (ix j), un, un, un, un, un, un, un, un, un] [] h3 Q) (N := 32768) ?_ ?_ h2 u02 f2 lc2 y2 (fun a ha => absurd ha (by omega))
    · intro h3 u3 f3 lc3 y3 g3
      have x3 : M0 h3 m O := x.md u3
      have hm3 := x3.mo
      have e : (ix 32768 < 32768) = False := eq_false (by decide)
      have e1 : ix B.hang <<< ((10 : Int32) &&& 31) = ix (B.hang * 1024) := ix_shl (n := B.hang) (k := 10) (by decide) (by omega)
      have e2 : B.loose &&& B.hang = B.loose := set_ext (fun i => by
        rw [Nat.testBit_and]
        have := z.loose i
        revert this
        cases B.loose.testBit i <;> cases B.hang.testBit i <;> simp)
      have e3 : ix (B.hang * 1024) ||| ix B.loose = ix (cdN B) := by rw [ix_or, or_add _ hlo]; rfl
      have v0 : VS O B (cdN B) := by unfold VS; rw [cd_st z x.wo]; exact ⟨z.hang, z.loose, z.snd⟩
      have t0 := vs_lt x.wo v0
      have gd0 : gdN O (cdN B) = false := by
        unfold gdN cdN
        rw [show (B.hang * 1024 + B.loose) / 1024 = B.hang by omega]
        exact decide_eq_false qg
      rw [w_X9_fetch_29]
      simp (disch := first | assumption | omega | decide | rfl) only [w_X9_fetch_30, w_X9_fetch_32, w_X9_fetch_48, w_X9_fetch_49, w_X9_fetch_52, w_X9_fetch_53, w_X9_fetch_54, w_X9_fetch_57, w_X9_fetch_58, w_X9_fetch_59, w_X9_fetch_61, w_X9_fetch_62, w_X9_fetch_63, w_X9_fetch_66, w_X9_fetch_67, w_X9_fetch_68, w_X9_fetch_69, w_X9_fetch_72, w_X9_fetch_73, w_X9_fetch_74, w_X9_fetch_75, w_X9_fetch_76, nl_int, nl_ref, nl_null, nl_un, nl_rf, nl_long, isR_ref, isR_null, isR_rf, rf_some, rf_none, rOf_ref, rOf_null, rOf_rf, kn_v, kn_0, true_and, and_true, and_self, tin, inA_x, inA_l, ix_add, ix_addl, ix_ladd, ix_mul, ix_mull, ix_lmul, ix_tn, lt_tn, Nat.reduceLeDiff, Nat.reduceLT, Nat.reduceAdd, Nat.reduceMul, true_or, or_true, ↓reduceIte, aOk, ref_null, null_null, false_or, Option.isSome_some, Option.getD_some, ite_true, ite_false, eq_self, not_false_eq_true, not_true_eq_false, bz_ne, bz_1, reduceCtorEq, Bool.not_true, Bool.not_false, mo_0 hm3, mo_s hm3, mt_s hm3, ml_s hm3, mo_met hm3, mt_met hm3, ml_met hm3, mo_stateOf hm3, mt_stateOf hm3, ml_stateOf hm3, mo_heardBy hm3, mt_heardBy hm3, ml_heardBy hm3, mo_halfBy hm3, mt_halfBy hm3, ml_halfBy hm3, e, y3.h0, y3.l0, e1, ix_and, e2, e3]
      have u34 : Md m [62] [] h3 (sAi h3 (m + 62) (upd (Ai h3 (m + 62)) 0 (ix (cdN B)))) := md_sAi (by decide)
      have a4 : Ai (sAi h3 (m + 62) (upd (Ai h3 (m + 62)) 0 (ix (cdN B)))) (m + 62) 0 = ix (cdN B) := by rw [Ai_same, upd_s]
      revert u34 a4
      generalize sAi h3 (m + 62) (upd (Ai h3 (m + 62)) 0 (ix (cdN B))) = h4
      intro u34 a4
      have hm4 := u34.mo hm3
      simp (disch := first | assumption | omega | decide | rfl) only [w_X9_fetch_77, w_X9_fetch_78, w_X9_fetch_79, w_X9_fetch_82, w_X9_fetch_83, w_X9_fetch_84, nl_int, nl_ref, nl_null, nl_un, nl_rf, nl_long, isR_ref, isR_null, isR_rf, rf_some, rf_none, rOf_ref, rOf_null, rOf_rf, kn_v, kn_0, true_and, and_true, and_self, tin, inA_x, inA_l, ix_add, ix_addl, ix_ladd, ix_mul, ix_mull, ix_lmul, ix_tn, lt_tn, Nat.reduceLeDiff, Nat.reduceLT, Nat.reduceAdd, Nat.reduceMul, true_or, or_true, ↓reduceIte, aOk, ref_null, null_null, false_or, Option.isSome_some, Option.getD_some, ite_true, ite_false, eq_self, not_false_eq_true, not_true_eq_false, bz_ne, bz_1, reduceCtorEq, Bool.not_true, Bool.not_false, mo_0 hm4, mo_s hm4, mt_s hm4, ml_s hm4, mo_met hm4, mt_met hm4, ml_met hm4, mo_stateOf hm4, mt_stateOf hm4, ml_stateOf hm4, mo_heardBy hm4, mt_heardBy hm4, ml_heardBy hm4, mo_halfBy hm4, mt_halfBy hm4, ml_halfBy hm4, a4]
      refine ca_mono (cm_meets (L := []) hm4 t0 (fun t ht => by rw [u34.ai (by decide), g3 (t / 32) (by omega), wb_0]; rfl)) ?_
      rintro r h5 ⟨rfl, u5, m5⟩
      have f5 : FI h h5 m O B cl [cdN B] [cdN B] 1 0 := ⟨(u3.t u34).t u5, by rw [u5.fi (by decide), u34.fi (by decide)]; exact f3, (lc3.md u34 (by decide) (by decide) (by decide) (by decide)).md u5 (by decide) (by decide) (by decide) (by decide), ⟨fun i hi => ?_, fun t ht => ?_, by simp, fun t ht => by rw [List.mem_singleton.mp ht]; exact v0, fun t ht => by rw [List.mem_singleton.mp ht]; exact gd0⟩, ⟨[], by simp⟩, fun t ht => by rw [List.mem_singleton.mp ht]; exact rh_refl _, fun j hj => absurd hj (by omega)⟩
      simp (disch := first | assumption | omega | decide | rfl) only [w_X9_fetch_87, w_X9_fetch_88, w_X9_fetch_89, w_X9_fetch_90, w_X9_fetch_91, w_X9_fetch_92, w_X9_fetch_93, nl_int, nl_ref, nl_null, nl_un, nl_rf, nl_long, isR_ref, isR_null, isR_rf, rf_some, rf_none, rOf_ref, rOf_null, rOf_rf, kn_v, kn_0, true_and, and_true, and_self, tin, inA_x, inA_l, ix_add, ix_addl, ix_ladd, ix_mul, ix_mull, ix_lmul, ix_tn, lt_tn, Nat.reduceLeDiff, Nat.reduceLT, Nat.reduceAdd, Nat.reduceMul, true_or, or_true, ↓reduceIte, aOk, ref_null, null_null, false_or, Option.isSome_some, Option.getD_some, ite_true, ite_false, eq_self, not_false_eq_true, not_true_eq_false, bz_ne, bz_1, reduceCtorEq, Bool.not_true, Bool.not_false]
      have lvl : ∀ q n, n + q = 4 → ∀ h6 L k (v4 v5 v6 v7 v8 v9 v10 : Value), k ≤ L.length → (∀ t, t ∈ L ↔ Rq2 O B n (cdN B) t) → FI h h6 m O B cl L L (n + 1) k → Ru (D + 4) 219 94 [.ref m, .int (ix k), .int (ix L.length), .int (ix (n + 1)), v4, v5, v6, v7, v8, v9, v10] [] h6 Q := by
        intro q
        induction q with
        | zero =>
          intro n hn h6 L k v4 v5 v6 v7 v8 v9 v10 hk hr f6
          have en : n = 4 := by omega
          subst en
          have e : (ix (4 + 1) < 5) = False := eq_false (by decide)
          rw [w_X9_fetch_94]
          simp (disch := first | assumption | omega | decide | rfl) only [w_X9_fetch_95, w_X9_fetch_96, w_X9_fetch_253, w_X9_fetch_254, nl_int, nl_ref, nl_null, nl_un, nl_rf, nl_long, isR_ref, isR_null, isR_rf, rf_some, rf_none, rOf_ref, rOf_null, rOf_rf, kn_v, kn_0, true_and, and_true, and_self, tin, inA_x, inA_l, ix_add, ix_addl, ix_ladd, ix_mul, ix_mull, ix_lmul, ix_tn, lt_tn, Nat.reduceLeDiff, Nat.reduceLT, Nat.reduceAdd, Nat.reduceMul, true_or, or_true, ↓reduceIte, aOk, ref_null, null_null, false_or, Option.isSome_some, Option.getD_some, ite_true, ite_false, eq_self, not_false_eq_true, not_true_eq_false, bz_ne, bz_1, reduceCtorEq, Bool.not_true, Bool.not_false, e]
          refine fin _ h6 ?_ f6.md f6.th
          refine (fet_no ?_).symm
          cases q : fsF O B 4 B
          · rfl
          · rw [fs_irr 4 B (stB B (cdN B)) (by rw [cd_st z x.wo]; rfl) (by rw [cd_st z x.wo]; rfl), rh_fs x.wo 4 _ v0] at q
            obtain ⟨t, r, g⟩ := q
            rw [f6.fb.gd t ((hr t).mpr r)] at g
            exact absurd g (by decide)
        | succ q ih =>
          intro n hn h6 L k v4 v5 v6 v7 v8 v9 v10 hk hr f6
          have e : (ix (n + 1) < 5) = True := ltT (n := 5) (by omega) (by decide)
          have len := vs_len x.wo f6.fb.nd f6.fb.vs
          rw [w_X9_fetch_94]
          simp (disch := first | assumption | omega | decide | rfl) only [w_X9_fetch_95, w_X9_fetch_96, w_X9_fetch_99, w_X9_fetch_100, w_X9_fetch_102, w_X9_fetch_103, nl_int, nl_ref, nl_null, nl_un, nl_rf, nl_long, isR_ref, isR_null, isR_rf, rf_some, rf_none, rOf_ref, rOf_null, rOf_rf, kn_v, kn_0, true_and, and_true, and_self, tin, inA_x, inA_l, ix_add, ix_addl, ix_ladd, ix_mul, ix_mull, ix_lmul, ix_tn, lt_tn, Nat.reduceLeDiff, Nat.reduceLT, Nat.reduceAdd, Nat.reduceMul, true_or, or_true, ↓reduceIte, aOk, ref_null, null_null, false_or, Option.isSome_some, Option.getD_some, ite_true, ite_false, eq_self, not_false_eq_true, not_true_eq_false, bz_ne, bz_1, reduceCtorEq, Bool.not_true, Bool.not_false, e]
          refine fetch_l x z hcl.symm (by omega) hk len f6 (fun t ht => (hr t).mp ht) (fun h7 u7 f7 g => ?_) (fun h7 L7 v5 v6 v7 v8 v9 v10 f7 => ?_)
          · refine fin _ h7 ?_ u7 f7
            refine (fet_n (n := n + 1) (by omega) g (fun k hk => ?_)).symm
            refine fs_down (n := k) (n - k) ?_
            rw [show k + (n - k) = n by omega]
            cases q : fsF O B n B
            · rfl
            · rw [fs_irr n B (stB B (cdN B)) (by rw [cd_st z x.wo]; rfl) (by rw [cd_st z x.wo]; rfl), rh_fs x.wo n _ v0] at q
              obtain ⟨t, r, g⟩ := q
              rw [f6.fb.gd t ((hr t).mpr r)] at g
              exact absurd g (by decide)
          · simp (disch := first | assumption | omega | decide | rfl) only [w_X9_fetch_244, w_X9_fetch_246, w_X9_fetch_247, w_X9_fetch_250, nl_int, nl_ref, nl_null, nl_un, nl_rf, nl_long, isR_ref, isR_null, isR_rf, rf_some, rf_none, rOf_ref, rOf_null, rOf_rf, kn_v, kn_0, true_and, and_true, and_self, tin, inA_x, inA_l, ix_add, ix_addl, ix_ladd, ix_mul, ix_mull, ix_lmul, ix_tn, lt_tn, Nat.reduceLeDiff, Nat.reduceLT, Nat.reduceAdd, Nat.reduceMul, true_or, or_true, ↓reduceIte, aOk, ref_null, null_null, false_or, Option.isSome_some, Option.getD_some, ite_true, ite_false, eq_self, not_false_eq_true, not_true_eq_false, bz_ne, bz_1, reduceCtorEq, Bool.not_true, Bool.not_false]
            obtain ⟨N, eN⟩ := f7.pre
            refine ih (n + 1) (by omega) h7 L7 L.length _ _ _ _ _ _ _ (by rw [eN, List.length_append]; omega) (fun t => ⟨f7.rh t, fun r => ?_⟩) ⟨f7.md, f7.th, f7.lc, f7.fb, ⟨[], by simp⟩, fun t ht => rh_up _ _ _ (f7.rh t ht), fun j hj c hc => ?_⟩
            · rcases rh_end n _ _ r with r | ⟨u, k', r, hk', ok', e⟩
              · rw [eN]; exact List.mem_append_left _ ((hr t).mpr r)
              · obtain ⟨j, hj, ej⟩ := mem_getD ((hr u).mpr r)
                rw [e, ← ej]
                exact f7.clo j hj k' (by rw [← hcl]; exact mem_cl hk' ok')
            · rw [eN, getD_l hj, ← eN]
              exact f7.clo j hj c hc
      exact lvl 4 0 (by omega) h5 [cdN B] 0 _ _ _ _ _ _ _ (by omega) (fun t => ⟨fun ht => (List.mem_singleton.mp ht).symm, fun r => List.mem_singleton.mpr (Eq.symm r)⟩) f5
      · have hi : i < 1 := hi
        have e0 : i = 0 := by omega
        rw [e0, u5.ai (by decide), a4]
        rfl
      · rw [m5 t ht]
        simp
    · intro j hj nx h3 u3 f3 lc3 y3 g3
      have hm3 := u3.mo x.mo
      have e : (ix j < 32768) = True := ltT (n := 32768) hj (by decide)
      have u34 : Md m [63] [] h3 (sAi h3 (m + 63) (upd (Ai h3 (m + 63)) j 0)) := md_sAi (by decide)
      rw [w_X9_fetch_29]
      simp (disch := first | assumption | omega | decide | rfl) only [w_X9_fetch_30, w_X9_fetch_32, w_X9_fetch_35, w_X9_fetch_36, w_X9_fetch_39, w_X9_fetch_40, w_X9_fetch_41, w_X9_fetch_42, w_X9_fetch_45, nl_int, nl_ref, nl_null, nl_un, nl_rf, nl_long, isR_ref, isR_null, isR_rf, rf_some, rf_none, rOf_ref, rOf_null, rOf_rf, kn_v, kn_0, true_and, and_true, and_self, tin, inA_x, inA_l, ix_add, ix_addl, ix_ladd, ix_mul, ix_mull, ix_lmul, ix_tn, lt_tn, Nat.reduceLeDiff, Nat.reduceLT, Nat.reduceAdd, Nat.reduceMul, true_or, or_true, ↓reduceIte, aOk, ref_null, null_null, false_or, Option.isSome_some, Option.getD_some, ite_true, ite_false, eq_self, not_false_eq_true, not_true_eq_false, bz_ne, bz_1, reduceCtorEq, Bool.not_true, Bool.not_false, mo_0 hm3, mo_s hm3, mt_s hm3, ml_s hm3, mo_met hm3, mt_met hm3, ml_met hm3, mo_stateOf hm3, mt_stateOf hm3, ml_stateOf hm3, mo_heardBy hm3, mt_heardBy hm3, ml_heardBy hm3, mo_halfBy hm3, mt_halfBy hm3, ml_halfBy hm3, e]
      refine nx _ (u3.t u34) f3 (lc3.md u34 (by decide) (by decide) (by decide) (by decide)) (y3.md u34 (by decide)) (fun a ha => ?_)
      rw [Ai_same]
      by_cases qa : a = j
      · rw [qa, upd_s]
      · rw [upd_n qa]; exact g3 a (by omega)
end
