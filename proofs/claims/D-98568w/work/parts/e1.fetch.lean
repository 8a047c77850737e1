/-! FETCHING ALL: states, reach, how many there are; bits of words -/
set_option maxRecDepth 100000
noncomputable def stB (B : Bo) (t : Nat) : Bo := (t / 1024, t % 1024, B.snd, B.day, B.had, B.pk)
noncomputable def cdN (C : Bo) : Nat := C.hang * 1024 + C.loose
noncomputable def nxN (O : Oc) (B : Bo) (t k : Nat) : Nat := cdN (afF O B (stB B t) k)
noncomputable def gdN (O : Oc) (t : Nat) : Bool := decide (sd (t / 1024) (deF O) = 0)
/-- within n calls -/
def Rq2 (O : Oc) (B : Bo) : Nat → Nat → Nat → Prop
  | 0, s, t => s = t
  | n + 1, s, t => s = t ∨ ∃ k, k < 16 * O.nP ∧ okC O k = true ∧ Rq2 O B n (nxN O B s k) t
def VS (O : Oc) (B : Bo) (t : Nat) : Prop := WB O (stB B t)
noncomputable def e3 (a b : Nat) : Nat → Nat
  | 0 => 0
  | i + 1 => e3 a b i * 3 + (if b.testBit i = true then 2 else if a.testBit i = true then 1 else 0)
section
variable {n k m s t u a b c d i j : Nat} {O : Oc} {B C E : Bo} {x y : Int32}
theorem fs_irr : ∀ n C E, C.hang = E.hang → C.loose = E.loose → fsF O B n C = fsF O B n E := by
  intro n
  induction n with
  | zero => intro C E h1 h2; rw [fsF, fsF]; unfold gdF; rw [h1]
  | succ n ih =>
    intro C E h1 h2
    rw [fsF, fsF]
    have e1 : gdF O C = gdF O E := by unfold gdF; rw [h1]
    have e4 : (fun k => okC O k && fsF O B n (afF O B C k)) = (fun k => okC O k && fsF O B n (afF O B E k)) := by
      funext k
      rw [ih _ (afF O B E k) (by show sd C.hang _ = sd E.hang _; rw [h1, h2]) (by show loF O C.hang C.loose _ _ = loF O E.hang E.loose _ _; rw [h1, h2])]
    rw [e1, e4]
theorem cd_st (z : WB O C) (wo : WO O) : stB B (cdN C) = (C.hang, C.loose, B.snd, B.day, B.had, B.pk) := by
  have l := loose_lt z wo
  unfold stB cdN
  rw [show (C.hang * 1024 + C.loose) / 1024 = C.hang by omega, show (C.hang * 1024 + C.loose) % 1024 = C.loose by omega]
theorem st_nx (wo : WO O) (v : VS O B s) : fsF O B n (stB B (nxN O B s k)) = fsF O B n (afF O B (stB B s) k) := by
  unfold nxN
  rw [cd_st (wb_af v) wo]
  exact fs_irr n _ _ rfl rfl
theorem vs_nx (wo : WO O) (v : VS O B s) : VS O B (nxN O B s k) := by
  unfold VS nxN
  rw [cd_st (wb_af v) wo]
  have w : WB O (afF O B (stB B s) k) := wb_af v
  exact ⟨w.hang, w.loose, w.snd⟩
theorem rh_fs (wo : WO O) : ∀ n s, VS O B s → (fsF O B n (stB B s) = true ↔ ∃ t, Rq2 O B n s t ∧ gdN O t = true) := by
  intro n
  induction n with
  | zero =>
    intro s v
    rw [fsF]
    exact ⟨fun q => ⟨s, rfl, q⟩, fun ⟨t, e, q⟩ => by rw [← e] at q; exact q⟩
  | succ n ih =>
    intro s v
    rw [fsF, Bool.or_eq_true, anyb_t]
    constructor
    · rintro (q | ⟨k, hk, q⟩)
      · exact ⟨s, Or.inl rfl, q⟩
      · rw [Nat.zero_add, Bool.and_eq_true, ← st_nx wo v, ih _ (vs_nx wo v)] at q
        obtain ⟨ok, t, r, g⟩ := q
        exact ⟨t, Or.inr ⟨k, hk, ok, r⟩, g⟩
    · rintro ⟨t, r | ⟨k, hk, ok, r⟩, g⟩
      · rw [← r] at g; exact Or.inl g
      · refine Or.inr ⟨k, hk, ?_⟩
        rw [Nat.zero_add, Bool.and_eq_true, ← st_nx wo v, ih _ (vs_nx wo v)]
        exact ⟨ok, t, r, g⟩
theorem rh_refl : ∀ n, Rq2 O B n s s
  | 0 => rfl
  | _ + 1 => Or.inl rfl
theorem rh_up : ∀ n s t, Rq2 O B n s t → Rq2 O B (n + 1) s t := by
  intro n
  induction n with
  | zero => intro s t r; exact Or.inl r
  | succ n ih =>
    rintro s t (r | ⟨k, hk, ok, r⟩)
    · exact Or.inl r
    · exact Or.inr ⟨k, hk, ok, ih _ _ r⟩
theorem rh_app : ∀ n s u, Rq2 O B n s u → k < 16 * O.nP → okC O k = true → Rq2 O B (n + 1) s (nxN O B u k) := by
  intro n
  induction n with
  | zero => intro s u r hk ok; rw [show s = u from r]; exact Or.inr ⟨k, hk, ok, rfl⟩
  | succ n ih =>
    rintro s u (r | ⟨k', hk', ok', r⟩) hk ok
    · rw [r]; exact Or.inr ⟨k, hk, ok, rh_refl _⟩
    · exact Or.inr ⟨k', hk', ok', ih _ _ r hk ok⟩
theorem rh_end : ∀ n s t, Rq2 O B (n + 1) s t → Rq2 O B n s t ∨ ∃ u k, Rq2 O B n s u ∧ k < 16 * O.nP ∧ okC O k = true ∧ t = nxN O B u k := by
  intro n
  induction n with
  | zero =>
    rintro s t (r | ⟨k, hk, ok, r⟩)
    · exact Or.inl r
    · exact Or.inr ⟨s, k, rfl, hk, ok, r.symm⟩
  | succ n ih =>
    rintro s t (r | ⟨k, hk, ok, r⟩)
    · exact Or.inl (Or.inl r)
    · rcases ih _ _ r with q | ⟨u, k', q, hk', ok', e⟩
      · exact Or.inl (Or.inr ⟨k, hk, ok, q⟩)
      · exact Or.inr ⟨u, k', Or.inr ⟨k, hk, ok, q⟩, hk', ok', e⟩
/-! how many -/
theorem nodup_len : ∀ n (l : List Nat), l.Nodup → (∀ x, x ∈ l → x < n) → l.length ≤ n := by
  intro n
  induction n with
  | zero =>
    intro l _ hx
    cases l with
    | nil => exact Nat.le_refl _
    | cons a l => exact absurd (hx a (List.mem_cons_self)) (by omega)
  | succ n ih =>
    intro l nd hx
    by_cases q : n ∈ l
    · have h1 := ih (l.erase n) (nd.erase n) (fun x hxl => by
        rw [nd.mem_erase_iff] at hxl
        have := hx x hxl.2
        have := hxl.1
        omega)
      rw [List.length_erase_of_mem q] at h1
      omega
    · have := ih l nd (fun x hxl => by
        have := hx x hxl
        have : x ≠ n := fun e => q (e ▸ hxl)
        omega)
      omega
theorem e3_lt : ∀ i, e3 a b i < 3 ^ i
  | 0 => by rw [e3]; decide
  | i + 1 => by
    have := e3_lt i
    rw [e3, Nat.pow_succ]
    split
    · omega
    · split <;> omega
theorem e3_inj : ∀ n, e3 a b n = e3 c d n → ∀ i, i < n → (if b.testBit i = true then 2 else if a.testBit i = true then 1 else 0) = (if d.testBit i = true then 2 else if c.testBit i = true then 1 else (0 : Nat)) := by
  intro n
  induction n with
  | zero => intro _ i hi; omega
  | succ n ih =>
    intro e i hi
    rw [e3, e3] at e
    have l1 : ∀ p q : Bool, (if p = true then 2 else if q = true then 1 else (0 : Nat)) < 3 := by decide
    have h1 := l1 (b.testBit n) (a.testBit n)
    have h2 := l1 (d.testBit n) (c.testBit n)
    revert e h1 h2
    generalize hx : (if b.testBit n = true then 2 else if a.testBit n = true then 1 else (0 : Nat)) = d1
    generalize hy : (if d.testBit n = true then 2 else if c.testBit n = true then 1 else (0 : Nat)) = d2
    intro e h1 h2
    by_cases q : i = n
    · rw [q, hx, hy]; omega
    · exact ih (by omega) i (by omega)
theorem vs_inj (wo : WO O) (v : VS O B s) (w : VS O B t) (e : e3 (s / 1024) (s % 1024) 10 = e3 (t / 1024) (t % 1024) 10) : s = t := by
  have key := e3_inj 10 e
  have hs : s / 1024 < 1024 := v.lt wo
  have ht : t / 1024 < 1024 := w.lt wo
  have l1 : ∀ i, (s % 1024).testBit i = true → (s / 1024).testBit i = true := v.loose
  have l2 : ∀ i, (t % 1024).testBit i = true → (t / 1024).testBit i = true := w.loose
  have both : ∀ i, (s / 1024).testBit i = (t / 1024).testBit i ∧ (s % 1024).testBit i = (t % 1024).testBit i := by
    intro i
    by_cases hi : i < 10
    · have k := key i hi
      have a1 := l1 i
      have a2 := l2 i
      revert k a1 a2
      cases (s / 1024).testBit i <;> cases (s % 1024).testBit i <;> cases (t / 1024).testBit i <;> cases (t % 1024).testBit i <;> simp
    · rw [lt_bit hs (by omega), lt_bit ht (by omega), lt_bit (Nat.mod_lt _ (by decide)) (by omega), lt_bit (Nat.mod_lt _ (by decide)) (by omega)]
      exact ⟨rfl, rfl⟩
  have e1 : s / 1024 = t / 1024 := set_ext (fun i => (both i).1)
  have e2 : s % 1024 = t % 1024 := set_ext (fun i => (both i).2)
  omega
theorem vs_len (wo : WO O) {l : List Nat} (nd : l.Nodup) (hv : ∀ t, t ∈ l → VS O B t) : l.length ≤ 59049 := by
  have h1 := nodup_len (3 ^ 10) (l.map (fun t => e3 (t / 1024) (t % 1024) 10)) (by
    unfold List.Nodup
    rw [List.pairwise_map]
    refine List.Pairwise.imp_of_mem ?_ nd
    intro a b ha hb ne e
    exact ne (vs_inj wo (hv a ha) (hv b hb) e)) (fun x hx => by
    rw [List.mem_map] at hx
    obtain ⟨t, _, rfl⟩ := hx
    exact e3_lt 10)
  rw [List.length_map] at h1
  exact h1
/-! bits of words -/
noncomputable def wb (x : Int32) (k : Nat) : Bool := x.toBitVec.getLsbD k
theorem one_bit {i : Nat} (hi : i < 32) : (1 : Int32).toBitVec.getLsbD i = decide (i = 0) := by
  have : ∀ i : Fin 32, (1 : Int32).toBitVec.getLsbD i.1 = decide (i.1 = 0) := by decide
  exact this ⟨i, hi⟩
theorem and1_bit : (x &&& 1 = 1) = (wb x 0 = true) := by
  refine propext ⟨fun e => ?_, fun e => i_ext (fun i hi => ?_)⟩
  · have := congrArg (fun z : Int32 => z.toBitVec.getLsbD 0) e
    simp only [Int32.toBitVec_and, BitVec.getLsbD_and, one_bit (show 0 < 32 by decide)] at this
    unfold wb
    simpa using this
  · rw [Int32.toBitVec_and, BitVec.getLsbD_and, one_bit hi]
    by_cases q : i = 0
    · subst q
      unfold wb at e
      rw [e]
      rfl
    · rw [decide_eq_false q, Bool.and_false]
theorem shr_bit (hk : k < 32) : wb (x >>> (ix k &&& 31)) 0 = wb x k := by
  unfold wb
  rw [Int32.toBitVec_shiftRight, BitVec.sshiftRight', smod32 hk, BitVec.getLsbD_sshiftRight]
  rw [Nat.add_zero, if_pos hk]
  rfl
theorem wb_rd (hk : k < 32) : (x >>> (ix k &&& 31) &&& 1 = 1) = (wb x k = true) := by rw [and1_bit, shr_bit hk]
theorem wb_or (hk : k < 32) (hj : j < 32) : wb (x ||| (1 <<< (ix k &&& 31))) j = (wb x j || decide (j = k)) := by
  unfold wb
  rw [Int32.toBitVec_or, BitVec.getLsbD_or, Int32.toBitVec_shiftLeft, BitVec.shiftLeft_eq', smod32 hk, BitVec.getLsbD_shiftLeft]
  rw [decide_eq_true hj, Bool.true_and]
  by_cases q : j < k
  · rw [decide_eq_true q, decide_eq_false (show ¬ j = k by omega)]
    simp
  · rw [decide_eq_false q, Bool.not_false, Bool.true_and, one_bit (by omega)]
    congr 1
    by_cases q2 : j = k
    · rw [decide_eq_true q2, decide_eq_true (show j - k = 0 by omega)]
    · rw [decide_eq_false q2, decide_eq_false (show ¬ j - k = 0 by omega)]
theorem wb_0 : wb 0 k = false := by
  unfold wb
  rw [show (0 : Int32).toBitVec = 0#32 from rfl, BitVec.getLsbD_zero]
end
