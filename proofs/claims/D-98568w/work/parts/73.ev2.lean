/-! EXPRESSIONS: what the model's work comes to -/
set_option maxRecDepth 100000
abbrev eA : List Nat := [26, 27, 28, 29, 30, 31, 32, 33, 34]
/-- changed at most at depths beyond d -/
def Eg (m d : Nat) (h h' : AH) : Prop := Md m eA [] h h' ∧ ∀ k ∈ eA, ∀ j, j ≤ d → Ai h' (m + k) j = Ai h (m + k) j
/-- changed at most from depth d on; of depth d the numbers xs are kept -/
def Ek (m d : Nat) (xs : List Nat) (h h' : AH) : Prop := Md m eA [] h h' ∧ (∀ k ∈ eA, ∀ j, j < d → Ai h' (m + k) j = Ai h (m + k) j) ∧ ∀ k ∈ xs, Ai h' (m + k) d = Ai h (m + k) d
section
variable {m d i n D ln T : Nat} {h h1 h2 : AH} {Q : Rs → AH → Prop} {xs ys : List Nat}
theorem Eg.refl : Eg m d h h := ⟨Md.refl, fun _ _ _ _ => rfl⟩
theorem Eg.trans (u : Eg m d h h1) (t : Eg m d h1 h2) : Eg m d h h2 := ⟨u.1.trans t.1 (fun _ q => q) (fun _ q => q), fun k hk j hj => (t.2 k hk j hj).trans (u.2 k hk j hj)⟩
theorem El.eg (u : El m (d + 1) h h1) : Eg m d h h1 := ⟨u.1, fun k hk j hj => u.2 k hk j (by omega)⟩
theorem Eg.up (u : Eg m (d + 1) h h1) : Eg m d h h1 := ⟨u.1, fun k hk j hj => u.2 k hk j (by omega)⟩
theorem Ek.eg (u : Ek m (d + 1) xs h h1) : Eg m d h h1 := ⟨u.1, fun k hk j hj => u.2.1 k hk j (by omega)⟩
theorem Ek.trans (u : Ek m d xs h h1) (t : Ek m d xs h1 h2) : Ek m d xs h h2 := ⟨u.1.trans t.1 (fun _ q => q) (fun _ q => q), fun k hk j hj => (t.2.1 k hk j hj).trans (u.2.1 k hk j hj), fun k hk => (t.2.2 k hk).trans (u.2.2 k hk)⟩
theorem Ek.less (u : Ek m d xs h h1) (hs : ∀ k ∈ ys, k ∈ xs) : Ek m d ys h h1 := ⟨u.1, u.2.1, fun k hk => u.2.2 k (hs k hk)⟩
theorem Eg.ek (u : Eg m d h h1) (hs : ∀ k ∈ xs, k ∈ eA) : Ek m d xs h h1 := ⟨u.1, fun k hk j hj => u.2 k hk j (by omega), fun k hk => u.2 k (hs k hk) d (Nat.le_refl _)⟩
theorem El.ek (u : El m d h h1) (hs : ∀ k ∈ xs, Ai h1 (m + k) d = Ai h (m + k) d) : Ek m d xs h h1 := ⟨u.1, fun k hk j hj => u.2 k hk j (by omega), hs⟩
theorem ek_st {k : Nat} {v : Int32} (hk : k ∈ eA) (hs : k ∉ xs) : Ek m d xs h (sAi h (m + k) (upd (Ai h (m + k)) d v)) := by
  refine ⟨md_sAi hk, fun j hj i hi => ?_, fun j hj => ?_⟩
  · by_cases q : j = k
    · subst q; rw [Ai_same]; exact upd_n (by omega)
    · rw [Ai_other (by omega)]
  · have q : j ≠ k := fun e => hs (e ▸ hj)
    rw [Ai_other (by omega)]
theorem Md.v35 (u : Md m eA [] h h1) : Ai h1 (m + 35) = Ai h (m + 35) := u.ai (by decide)
theorem pt_pos : ∀ {n : Nat} {cs : List Int32} {φ : Ph}, PtR n cs φ → 1 ≤ cs.length
  | 0, _, _, x => x.elim
  | n + 1, cs, φ, x => by
    rcases x with ⟨a, -, rfl, -⟩ | ⟨f, -, -, rfl, -⟩ | ⟨c1, φ1, -, rfl, -⟩ | ⟨k, c1, -, rfl⟩ <;> simp
/-- a part is worked -/
def Pw (m d D ln T n : Nat) (Q : Rs → AH → Prop) : Prop := ∀ (cs : List Int32) (φ : Ph), PtR n cs φ → ∀ (h : AH) (i : Nat) (c4 c5 : Value), Ln h m ln T → Cd h m i cs → i + cs.length ≤ T → (∀ (h' : AH) (c : Int32), Eg m d h h' → Ru (D + 3) 175 268 [.ref m, .int (ix ln), .int (ix (d)), .int (ix (i + cs.length - 1)), .int c, .int (φ (Ai h (m + 35)))] [] h' Q) → Ru (D + 3) 175 14 [.ref m, .int (ix ln), .int (ix (d)), .int (ix (i)), c4, c5] [] h Q
theorem ev_tm (hp : Pw m d D ln T n Q) (hd : d < 7) : ∀ (k : Nat) (cs : List Int32) (φ : Ph), TmR (PtR n) k cs φ → ∀ (h : AH) (i : Nat) (c4 c5 : Value), Ln h m ln T → Cd h m i cs → i + cs.length ≤ T → (d = 0 ∨ Ai h (m + 34) d ≠ 1) → Ai h (m + 33) d = 0 → (∀ (h' : AH) (c4 c5 : Value), Ek m d [26, 27, 28, 29, 30, 31, 34] h h' → Ai h' (m + 32) d = φ (Ai h (m + 35)) → Ru (D + 3) 175 14 [.ref m, .int (ix ln), .int (ix (d)), .int (ix (i + cs.length)), c4, c5] [] h' Q) → Ru (D + 3) 175 14 [.ref m, .int (ix ln), .int (ix (d)), .int (ix (i)), c4, c5] [] h Q := by
  intro k
  induction k with
  | zero =>
    intro cs φ hx h i c4 c5 hl hc hT hn h33 kk
    refine hp cs φ hx h i c4 c5 hl hc hT (fun h' c u => ?_)
    have hm' := u.1.mo hl.1
    have hpos := pt_pos hx
    have e33 : Ai h' (m + 33) d = 0 := by rw [u.2 33 (by decide) d (Nat.le_refl _)]; exact h33
    have e34 : Ai h' (m + 34) d = Ai h (m + 34) d := u.2 34 (by decide) d (Nat.le_refl _)
    rw [k_dlv hm' hd (by rw [e34]; exact hn), if_pos e33, show i + cs.length - 1 + 1 = i + cs.length by omega]
    exact kk _ _ _ ((u.ek (by decide)).trans (ek_st (by decide) (by decide))) (by rw [Ai_same]; exact upd_s)
  | succ k ih =>
    intro cs φ hx h i c4 c5 hl hc hT hn h33 kk
    obtain ⟨c1, φ1, c2, φ2, x1, x2, rfl, rfl⟩ := hx
    have hpos := pt_pos x2
    rw [List.length_append, List.length_cons] at hT kk
    refine ih c1 φ1 x1 h i c4 c5 hl hc.l (by omega) hn h33 (fun h1 d4 d5 u1 t1 => ?_)
    have hl1 := hl.md u1.1 (by decide)
    have hc1 := (hc.md u1.1 (by decide)).r
    refine k_mul hl1 (by omega) hc1.hd hd ?_
    have u2 : Ek m d [26, 27, 28, 29, 30, 31, 34] h1 (sAi h1 (m + 33) (upd (Ai h1 (m + 33)) d 22)) := ek_st (by decide) (by decide)
    have u12 := u1.trans u2
    have hl2 := hl.md u12.1 (by decide)
    refine hp c2 φ2 x2 _ _ _ _ hl2 ((hc1.md u2.1 (by decide)).tl) (by omega) (fun h3 c u3 => ?_)
    have hm3 := u3.1.mo hl2.1
    have e33 : Ai h3 (m + 33) d = 22 := by rw [u3.2 33 (by decide) d (Nat.le_refl _), Ai_same]; exact upd_s
    have e32 : Ai h3 (m + 32) d = φ1 (Ai h (m + 35)) := by rw [u3.2 32 (by decide) d (Nat.le_refl _), Ai_other (by omega)]; exact t1
    have e34 : Ai h3 (m + 34) d = Ai h (m + 34) d := by rw [u3.2 34 (by decide) d (Nat.le_refl _)]; exact u12.2.2 34 (by decide)
    rw [k_dlv hm3 hd (by rw [e34]; exact hn), if_neg (by rw [e33]; decide), show i + c1.length + 1 + c2.length - 1 + 1 = i + (c1.length + (c2.length + 1)) by omega]
    refine kk _ _ _ ((u12.trans (u3.ek (by decide))).trans (ek_st (by decide) (by decide))) ?_
    rw [Ai_same, upd_s, e32, u12.1.v35]
theorem ev_sm (hp : Pw m d D ln T n Q) (hd : d < 7) : ∀ (k : Nat) (cs : List Int32) (φ : Ph), SmR (PtR n) k cs φ → ∀ (h : AH) (i : Nat) (c4 c5 : Value), Ln h m ln T → Cd h m i cs → i + cs.length ≤ T → (d = 0 ∨ Ai h (m + 34) d ≠ 1) → Ai h (m + 33) d = 0 → Ai h (m + 30) d = 0 → Ai h (m + 31) d = 20 → (∀ (h' : AH) (c4 c5 : Value), Ek m d [26, 27, 28, 29, 34] h h' → smF (Ai h' (m + 31) d) (Ai h' (m + 30) d) (Ai h' (m + 32) d) = φ (Ai h (m + 35)) → Ru (D + 3) 175 14 [.ref m, .int (ix ln), .int (ix (d)), .int (ix (i + cs.length)), c4, c5] [] h' Q) → Ru (D + 3) 175 14 [.ref m, .int (ix ln), .int (ix (d)), .int (ix (i)), c4, c5] [] h Q := by
  intro k
  induction k with
  | zero =>
    intro cs φ hx h i c4 c5 hl hc hT hn h33 h30 h31 kk
    obtain ⟨k, hx⟩ := hx
    refine ev_tm hp hd k cs φ hx h i c4 c5 hl hc hT hn h33 (fun h' d4 d5 u t => kk h' d4 d5 (u.less (by decide)) ?_)
    rw [u.2.2 31 (by decide), u.2.2 30 (by decide), h30, h31, t]
    unfold smF
    rw [if_neg (by decide), Int32.zero_add]
  | succ k ih =>
    intro cs φ hx h i c4 c5 hl hc hT hn h33 h30 h31 kk
    obtain ⟨c1, φ1, c2, φ2, kt, o, x1, x2, ho, rfl, rfl⟩ := hx
    rw [List.length_append, List.length_cons] at hT kk
    refine ih c1 φ1 x1 h i c4 c5 hl hc.l (by omega) hn h33 h30 h31 (fun h1 d4 d5 u1 t1 => ?_)
    have hl1 := hl.md u1.1 (by decide)
    have hc1 := (hc.md u1.1 (by decide)).r
    refine k_sum hl1 (by omega) hc1.hd ho hd (fun h2 u2 s1 s2 s3 s4 s5 s6 s7 s8 => ?_)
    have u2k : Ek m d [26, 27, 28, 29, 34] h1 h2 := u2.ek (fun k hk => by
      simp only [List.mem_cons, List.not_mem_nil, or_false] at hk
      rcases hk with rfl | rfl | rfl | rfl | rfl <;> assumption)
    have u12 := u1.trans u2k
    have hl2 := hl.md u12.1 (by decide)
    refine ev_tm hp hd kt c2 φ2 x2 h2 _ _ _ hl2 ((hc1.md u2.1 (by decide)).tl) (by omega) (by rw [u12.2.2 34 (by decide)]; exact hn) s3 (fun h3 d4 d5 u3 t3 => ?_)
    rw [show i + c1.length + 1 + c2.length = i + (c1.length + (c2.length + 1)) by omega]
    refine kk h3 d4 d5 (u12.trans (u3.less (by decide))) ?_
    rw [u3.2.2 31 (by decide), u3.2.2 30 (by decide), s2, s1, t1, t3, u12.1.v35]
theorem ev_ts (hp : Pw m d D ln T n Q) (hd : d < 7) (cs : List Int32) (φ : Ph) (hx : TsR (PtR n) cs φ) (h : AH) (i : Nat) (c4 c5 : Value) (hl : Ln h m ln T) (hc : Cd h m i cs) (hT : i + cs.length ≤ T) (hn : d = 0 ∨ Ai h (m + 34) d ≠ 1) (h33 : Ai h (m + 33) d = 0) (h30 : Ai h (m + 30) d = 0) (h31 : Ai h (m + 31) d = 20) (h29 : Ai h (m + 29) d = 0) (kk : ∀ (h' : AH) (c4 c5 : Value), Ek m d [26, 27, 34] h h' → tsF (Ai h' (m + 29) d) (Ai h' (m + 28) d) (smF (Ai h' (m + 31) d) (Ai h' (m + 30) d) (Ai h' (m + 32) d)) = φ (Ai h (m + 35)) → Ru (D + 3) 175 14 [.ref m, .int (ix ln), .int (ix (d)), .int (ix (i + cs.length)), c4, c5] [] h' Q) : Ru (D + 3) 175 14 [.ref m, .int (ix ln), .int (ix (d)), .int (ix (i)), c4, c5] [] h Q := by
  rcases hx with ⟨k, hx⟩ | ⟨k1, k2, c1, φ1, c2, φ2, o, x1, x2, ho, rfl, rfl⟩
  · refine ev_sm hp hd k cs φ hx h i c4 c5 hl hc hT hn h33 h30 h31 (fun h' d4 d5 u t => kk h' d4 d5 (u.less (by decide)) ?_)
    rw [u.2.2 29 (by decide), h29, t]
    unfold tsF
    rw [if_neg (by decide), if_neg (by decide)]
  · rw [List.length_append, List.length_cons] at hT kk
    refine ev_sm hp hd k1 c1 φ1 x1 h i c4 c5 hl hc.l (by omega) hn h33 h30 h31 (fun h1 d4 d5 u1 t1 => ?_)
    have hl1 := hl.md u1.1 (by decide)
    have hc1 := (hc.md u1.1 (by decide)).r
    refine k_cmp hl1 (by omega) hc1.hd ho hd (fun h2 u2 s1 s2 s3 s4 s5 s6 s7 s8 => ?_)
    have u2k : Ek m d [26, 27, 34] h1 h2 := u2.ek (fun k hk => by
      simp only [List.mem_cons, List.not_mem_nil, or_false] at hk
      rcases hk with rfl | rfl | rfl <;> assumption)
    have u12 := (u1.less (ys := [26, 27, 34]) (by decide)).trans u2k
    have hl2 := hl.md u12.1 (by decide)
    refine ev_sm hp hd k2 c2 φ2 x2 h2 _ _ _ hl2 ((hc1.md u2.1 (by decide)).tl) (by omega) (by rw [u12.2.2 34 (by decide)]; exact hn) s5 s3 s4 (fun h3 d4 d5 u3 t3 => ?_)
    rw [show i + c1.length + 1 + c2.length = i + (c1.length + (c2.length + 1)) by omega]
    refine kk h3 d4 d5 (u12.trans (u3.less (by decide))) ?_
    rw [u3.2.2 29 (by decide), u3.2.2 28 (by decide), s2, s1, t1, t3, u12.1.v35]
theorem ev_al (hp : Pw m d D ln T n Q) (hd : d < 7) : ∀ (k : Nat) (cs : List Int32) (φ : Ph), AlR (PtR n) k cs φ → ∀ (h : AH) (i : Nat) (c4 c5 : Value), Ln h m ln T → Cd h m i cs → i + cs.length ≤ T → (d = 0 ∨ Ai h (m + 34) d ≠ 1) → Ai h (m + 33) d = 0 → Ai h (m + 30) d = 0 → Ai h (m + 31) d = 20 → Ai h (m + 29) d = 0 → Ai h (m + 27) d = 0 → (∀ (h' : AH) (c4 c5 : Value), Ek m d [34] h h' → keF (Ai h' (m + 27) d) (Ai h' (m + 26) d) (tsF (Ai h' (m + 29) d) (Ai h' (m + 28) d) (smF (Ai h' (m + 31) d) (Ai h' (m + 30) d) (Ai h' (m + 32) d))) = φ (Ai h (m + 35)) → Ru (D + 3) 175 14 [.ref m, .int (ix ln), .int (ix (d)), .int (ix (i + cs.length)), c4, c5] [] h' Q) → Ru (D + 3) 175 14 [.ref m, .int (ix ln), .int (ix (d)), .int (ix (i)), c4, c5] [] h Q := by
  intro k
  induction k with
  | zero =>
    intro cs φ hx h i c4 c5 hl hc hT hn h33 h30 h31 h29 h27 kk
    refine ev_ts hp hd cs φ hx h i c4 c5 hl hc hT hn h33 h30 h31 h29 (fun h' d4 d5 u t => kk h' d4 d5 (u.less (by decide)) ?_)
    rw [u.2.2 27 (by decide), h27, t]
    unfold keF
    rw [if_neg (by decide), if_neg (by decide)]
  | succ k ih =>
    intro cs φ hx h i c4 c5 hl hc hT hn h33 h30 h31 h29 h27 kk
    obtain ⟨c1, φ1, c2, φ2, o, x1, x2, ho, rfl, rfl⟩ := hx
    rw [List.length_append, List.length_cons] at hT kk
    refine ih c1 φ1 x1 h i c4 c5 hl hc.l (by omega) hn h33 h30 h31 h29 h27 (fun h1 d4 d5 u1 t1 => ?_)
    have hl1 := hl.md u1.1 (by decide)
    have hc1 := (hc.md u1.1 (by decide)).r
    refine k_and hl1 (by omega) hc1.hd ho hd (fun h2 u2 s1 s2 s3 s4 s5 s6 s7 => ?_)
    have u2k : Ek m d [34] h1 h2 := u2.ek (fun k hk => by
      simp only [List.mem_cons, List.not_mem_nil, or_false] at hk
      rcases hk with rfl
      assumption)
    have u12 := u1.trans u2k
    have hl2 := hl.md u12.1 (by decide)
    refine ev_ts hp hd c2 φ2 x2 h2 _ _ _ hl2 ((hc1.md u2.1 (by decide)).tl) (by omega) (by rw [u12.2.2 34 (by decide)]; exact hn) s6 s4 s5 s3 (fun h3 d4 d5 u3 t3 => ?_)
    rw [show i + c1.length + 1 + c2.length = i + (c1.length + (c2.length + 1)) by omega]
    refine kk h3 d4 d5 (u12.trans (u3.less (by decide))) ?_
    rw [u3.2.2 27 (by decide), u3.2.2 26 (by decide), s2, s1, t1, t3, u12.1.v35]
theorem ev_pt : ∀ (n d : Nat), d + n ≤ 6 → Pw m d D ln T n Q := by
  intro n
  induction n with
  | zero => intro d _ cs φ hx; exact hx.elim
  | succ n ih =>
    intro d hd cs φ hx h i c4 c5 hl hc hT kk
    rcases hx with ⟨a, ha, rfl, rfl⟩ | ⟨f, f1, f2, rfl, rfl⟩ | ⟨c1, φ1, x1, rfl, rfl⟩ | ⟨k, c1, x1, rfl⟩
    · rw [k_num hl (by simp at hT; omega) ha hc.hd]
      exact kk h _ Eg.refl
    · rw [k_fact hl (by simp at hT; omega) (by omega) hc.hd]
      exact kk h _ Eg.refl
    · have hpos := pt_pos x1
      rw [List.length_cons] at hT kk
      have hn : 0 < n := by cases n with | zero => exact x1.elim | succ n => omega
      refine k_open hl (by omega) hc.hd (Or.inr rfl) (by omega) (fun h1 u1 s1 s2 s3 s4 s5 s6 => ?_)
      rw [if_pos rfl] at s6
      have hl1 := hl.md u1.1 (by decide)
      refine ih (d + 1) (by omega) c1 φ1 x1 h1 (i + 1) _ _ hl1 ((hc.md u1.1 (by decide)).tl) (by omega) (fun h2 c u2 => ?_)
      have hm2 := u2.1.mo hl1.1
      rw [k_dnot rfl hm2 (by omega) (by rw [u2.2 34 (by decide) _ (Nat.le_refl _)]; exact s6), u1.1.v35, show i + 1 + c1.length - 1 = i + (c1.length + 1) - 1 by omega]
      exact kk h2 c (u1.eg.trans u2.up)
    · rw [List.length_cons, List.length_append, List.length_cons, List.length_nil] at hT kk
      refine k_open hl (by omega) hc.hd (Or.inl rfl) (by omega) (fun h1 u1 s1 s2 s3 s4 s5 s6 => ?_)
      rw [if_neg (by decide)] at s6
      have hl1 := hl.md u1.1 (by decide)
      have hc1 := (hc.md u1.1 (by decide)).tl
      refine ev_al (ih (d + 1) (by omega)) (by omega) k c1 φ x1 h1 (i + 1) _ _ hl1 hc1.l (by omega) (Or.inr (by rw [s6]; decide)) s5 s3 s4 s2 s1 (fun h2 d4 d5 u2 t2 => ?_)
      have hl2 := hl1.md u2.1 (by decide)
      refine k_close hl2 (by omega) ((hc1.md u2.1 (by decide)).r.hd) (by omega) (fun h3 u3 => ?_)
      rw [t2, u1.1.v35, show i + 1 + c1.length = i + (c1.length + (0 + 1) + 1) - 1 by omega]
      exact kk h3 _ ((u1.eg.trans u2.eg).trans u3.eg)
/-- the model's work of a line -/
theorem c_worked {F0 : Nat} {k : Nat} {cs : List Int32} {φ : Ph} (hl : Ln h m ln (F0 + cs.length)) (hF : Ai h (m + 21) ln = ix F0) (hc : Cd h m F0 cs) (hx : AlR (PtR 6) k cs φ) : Ca (D + 4) 175 [.ref m, .int (ix ln)] h (fun r h' => r = .inl (some (.int (φ (Ai h (m + 35))))) ∧ Md m eA [] h h') := by
  obtain ⟨hm, l1, l2, l3⟩ := id hl
  rw [e_X9_worked]
  simp (disch := first | assumption | omega | decide | rfl) only [w_X9_worked_0, w_X9_worked_1, w_X9_worked_2, w_X9_worked_3, w_X9_worked_4, mo_0 hm, mo_lineFrom hm, mt_lineFrom hm, ml_lineFrom hm, mo_lineTo hm, mt_lineTo hm, ml_lineTo hm, mo_codes hm, mt_codes hm, ml_codes hm, mo_byNot hm, mt_byNot hm, ml_byNot hm, mo_sumBy hm, mt_sumBy hm, ml_sumBy hm, mo_termBy hm, mt_termBy hm, ml_termBy hm, mo_ahead hm, mt_ahead hm, ml_ahead hm, mo_sum hm, mt_sum hm, ml_sum hm, mo_against hm, mt_against hm, ml_against hm, mo_keptBy hm, mt_keptBy hm, ml_keptBy hm, mo_valueOf hm, mt_valueOf hm, ml_valueOf hm, mo_kept hm, mt_kept hm, ml_kept hm, mo_term hm, mt_term hm, ml_term hm, nl_int, nl_ref, nl_null, nl_un, nl_rf, nl_long, isR_ref, isR_null, isR_rf, rf_some, rf_none, rOf_ref, rOf_null, rOf_rf, kn_v, kn_0, true_and, and_true, and_self, tin, inA_x, inA_l, ix_add, ix_addl, ix_ladd, ix_mul, ix_mull, ix_lmul, ix_tn, lt_tn, Nat.reduceLeDiff, Nat.reduceLT, Nat.reduceAdd, Nat.reduceMul, true_or, or_true, ↓reduceIte, aOk, ref_null, null_null, false_or, Option.isSome_some, Option.getD_some, ite_true, ite_false, eq_self, not_false_eq_true, not_true_eq_false]
  rw [show (Value.int 0) = Value.int (ix 0) from rfl]
  refine ca_mono (c_opens hm (by decide)) ?_
  rintro r h1 ⟨rfl, u1, s1, s2, s3, s4, s5, s6⟩
  have hm1 := u1.1.mo hm
  have e21 : Ai h1 (m + 21) ln = ix F0 := by rw [u1.1.ai (by decide)]; exact hF
  simp (disch := first | assumption | omega | decide | rfl) only [w_X9_worked_7, w_X9_worked_8, w_X9_worked_11, w_X9_worked_12, w_X9_worked_13, mo_0 hm1, mo_lineFrom hm1, mt_lineFrom hm1, ml_lineFrom hm1, mo_lineTo hm1, mt_lineTo hm1, ml_lineTo hm1, mo_codes hm1, mt_codes hm1, ml_codes hm1, mo_byNot hm1, mt_byNot hm1, ml_byNot hm1, mo_sumBy hm1, mt_sumBy hm1, ml_sumBy hm1, mo_termBy hm1, mt_termBy hm1, ml_termBy hm1, mo_ahead hm1, mt_ahead hm1, ml_ahead hm1, mo_sum hm1, mt_sum hm1, ml_sum hm1, mo_against hm1, mt_against hm1, ml_against hm1, mo_keptBy hm1, mt_keptBy hm1, ml_keptBy hm1, mo_valueOf hm1, mt_valueOf hm1, ml_valueOf hm1, mo_kept hm1, mt_kept hm1, ml_kept hm1, mo_term hm1, mt_term hm1, ml_term hm1, nl_int, nl_ref, nl_null, nl_un, nl_rf, nl_long, isR_ref, isR_null, isR_rf, rf_some, rf_none, rOf_ref, rOf_null, rOf_rf, kn_v, kn_0, true_and, and_true, and_self, tin, inA_x, inA_l, ix_add, ix_addl, ix_ladd, ix_mul, ix_mull, ix_lmul, ix_tn, lt_tn, Nat.reduceLeDiff, Nat.reduceLT, Nat.reduceAdd, Nat.reduceMul, true_or, or_true, ↓reduceIte, aOk, ref_null, null_null, false_or, Option.isSome_some, Option.getD_some, ite_true, ite_false, eq_self, not_false_eq_true, not_true_eq_false, e21]
  have hl1 := hl.md u1.1 (by decide)
  refine ev_al (ev_pt 6 0 (by decide)) (by decide) k cs φ hx h1 F0 _ _ hl1 (hc.md u1.1 (by decide)) (Nat.le_refl _) (Or.inl rfl) s5 s3 s4 s2 s1 (fun h2 d4 d5 u2 t2 => ?_)
  have hl2 := hl1.md u2.1 (by decide)
  have hm2 := hl2.1
  have e22 := hl2.2.2.1
  simp (disch := first | assumption | omega | decide | rfl) only [w_X9_worked_14, w_X9_worked_15, w_X9_worked_16, w_X9_worked_19, w_X9_worked_20, w_X9_worked_21, w_X9_worked_335, w_X9_worked_336, w_X9_worked_337, mo_0 hm2, mo_lineFrom hm2, mt_lineFrom hm2, ml_lineFrom hm2, mo_lineTo hm2, mt_lineTo hm2, ml_lineTo hm2, mo_codes hm2, mt_codes hm2, ml_codes hm2, mo_byNot hm2, mt_byNot hm2, ml_byNot hm2, mo_sumBy hm2, mt_sumBy hm2, ml_sumBy hm2, mo_termBy hm2, mt_termBy hm2, ml_termBy hm2, mo_ahead hm2, mt_ahead hm2, ml_ahead hm2, mo_sum hm2, mt_sum hm2, ml_sum hm2, mo_against hm2, mt_against hm2, ml_against hm2, mo_keptBy hm2, mt_keptBy hm2, ml_keptBy hm2, mo_valueOf hm2, mt_valueOf hm2, ml_valueOf hm2, mo_kept hm2, mt_kept hm2, ml_kept hm2, mo_term hm2, mt_term hm2, ml_term hm2, nl_int, nl_ref, nl_null, nl_un, nl_rf, nl_long, isR_ref, isR_null, isR_rf, rf_some, rf_none, rOf_ref, rOf_null, rOf_rf, kn_v, kn_0, true_and, and_true, and_self, tin, inA_x, inA_l, ix_add, ix_addl, ix_ladd, ix_mul, ix_mull, ix_lmul, ix_tn, lt_tn, Nat.reduceLeDiff, Nat.reduceLT, Nat.reduceAdd, Nat.reduceMul, true_or, or_true, ↓reduceIte, aOk, ref_null, null_null, false_or, Option.isSome_some, Option.getD_some, ite_true, ite_false, eq_self, not_false_eq_true, not_true_eq_false, e22, ix_lt, Nat.lt_irrefl]
  rw [show (Value.int 0) = Value.int (ix 0) from rfl]
  refine ca_mono (c_tests hm2 (by decide)) ?_
  rintro r h3 ⟨rfl, u3, v1, v2, v3, v4, v5, v6, v7⟩
  have hm3 := u3.1.mo hm2
  simp (disch := first | assumption | omega | decide | rfl) only [w_X9_worked_340, w_X9_worked_341, w_X9_worked_344, w_X9_worked_345, w_X9_worked_346, mo_0 hm3, mo_lineFrom hm3, mt_lineFrom hm3, ml_lineFrom hm3, mo_lineTo hm3, mt_lineTo hm3, ml_lineTo hm3, mo_codes hm3, mt_codes hm3, ml_codes hm3, mo_byNot hm3, mt_byNot hm3, ml_byNot hm3, mo_sumBy hm3, mt_sumBy hm3, ml_sumBy hm3, mo_termBy hm3, mt_termBy hm3, ml_termBy hm3, mo_ahead hm3, mt_ahead hm3, ml_ahead hm3, mo_sum hm3, mt_sum hm3, ml_sum hm3, mo_against hm3, mt_against hm3, ml_against hm3, mo_keptBy hm3, mt_keptBy hm3, ml_keptBy hm3, mo_valueOf hm3, mt_valueOf hm3, ml_valueOf hm3, mo_kept hm3, mt_kept hm3, ml_kept hm3, mo_term hm3, mt_term hm3, ml_term hm3, nl_int, nl_ref, nl_null, nl_un, nl_rf, nl_long, isR_ref, isR_null, isR_rf, rf_some, rf_none, rOf_ref, rOf_null, rOf_rf, kn_v, kn_0, true_and, and_true, and_self, tin, inA_x, inA_l, ix_add, ix_addl, ix_ladd, ix_mul, ix_mull, ix_lmul, ix_tn, lt_tn, Nat.reduceLeDiff, Nat.reduceLT, Nat.reduceAdd, Nat.reduceMul, true_or, or_true, ↓reduceIte, aOk, ref_null, null_null, false_or, Option.isSome_some, Option.getD_some, ite_true, ite_false, eq_self, not_false_eq_true, not_true_eq_false, v1]
  refine ⟨by rw [t2, u1.1.v35], (u1.1.trans u2.1 (fun _ q => q) (fun _ q => q)).trans u3.1 (fun _ q => q) (fun _ q => q)⟩
end
