/-! THE JUDGEMENT Ru and its equations, an opcode a row -/
set_option maxRecDepth 100000
theorem exec_mono1 : ∀ (n d k pc : Nat) (ls st : List Value) (h : AH) (x : Rs × AH), exec n d k pc ls st h = some x → exec (n + 1) d k pc ls st h = some x := by
  intro n
  induction n with
  | zero => intro d k pc ls st h x hx; simp [exec] at hx
  | succ n ih =>
    intro d k pc ls st h x hx
    rw [exec] at hx
    rw [exec]
    split at hx
    · cases hx
    · rename_i ins len hd
      try rw [hd]
      try dsimp only at hx ⊢
      split at hx
      · cases hx
      · rename_i pc' ls' st' h' hs
        try rw [hs]
        exact ih _ _ _ _ _ _ _ hx
      · rename_i r hs
        try rw [hs]
        exact hx
      · rename_i y as rest h' hs
        try rw [hs]
        try dsimp only at hx ⊢
        have key : ∀ z, (if 900 ≤ y then prim y as h' else if d = 0 ∨ mL y < (slA as).length then none else exec n (d - 1) y 0 (ent y as) [] h') = some z → (if 900 ≤ y then prim y as h' else if d = 0 ∨ mL y < (slA as).length then none else exec (n + 1) (d - 1) y 0 (ent y as) [] h') = some z := by
          intro z hz
          by_cases hy : 900 ≤ y
          · rw [if_pos hy] at hz ⊢; exact hz
          · rw [if_neg hy] at hz ⊢
            by_cases h0 : d = 0 ∨ mL y < (slA as).length
            · rw [if_pos h0] at hz; cases hz
            · rw [if_neg h0] at hz ⊢; exact ih _ _ _ _ _ _ _ hz
        split at hx
        · cases hx
        · rename_i v h1 hz
          rw [key _ hz]
          exact ih _ _ _ _ _ _ _ hx
        · rename_i a h1 hz
          rw [key _ hz]
          dsimp only
          by_cases hh : mH k = []
          · rw [if_pos hh] at hx ⊢; exact hx
          · rw [if_neg hh] at hx ⊢
            split at hx
            · rename_i q hq
              try rw [hq]
              exact ih _ _ _ _ _ _ _ hx
            · cases hx
theorem exec_mono {n m d k pc : Nat} {ls st : List Value} {h : AH} {x : Rs × AH} (hx : exec n d k pc ls st h = some x) (hm : n ≤ m) : exec m d k pc ls st h = some x := by
  obtain ⟨j, rfl⟩ := Nat.le.dest hm
  induction j with
  | zero => exact hx
  | succ j ih => exact exec_mono1 _ _ _ _ _ _ _ _ (ih (Nat.le_add_right _ _))
noncomputable def Ru (d k pc : Nat) (ls st : List Value) (h : AH) (Q : Rs → AH → Prop) : Prop := ∃ n r h', exec n d k pc ls st h = some (r, h') ∧ Q r h'
noncomputable def Ca (d y : Nat) (as : List Value) (h : AH) (Q : Rs → AH → Prop) : Prop := ∃ n r h', (if 900 ≤ y then prim y as h else if d = 0 ∨ mL y < (slA as).length then none else exec n (d - 1) y 0 (ent y as) [] h) = some (r, h') ∧ Q r h'
noncomputable def Kn (d k pc pc' : Nat) (ls rest : List Value) (Q : Rs → AH → Prop) : Rs → AH → Prop := fun r h => match r with
  | .inl v => Ru d k pc' ls (v.toList ++ rest) h Q
  | .inr a => if mH k = [] then Q (.inr a) h else match hnd k pc (Tg h a) with
    | some q => Ru d k q ls [.ref a] h Q
    | none => False
section
variable {d k pc pc' len : Nat} {ls ls' st st' rest as : List Value} {h h' : AH} {Q : Rs → AH → Prop} {ins : Instr} {cc : ByteArray}
theorem ru_nx (hc : mC k = cc) (hd : decode cc pc = .ok (ins, len)) (hs : stp k pc ls st h ins len = some (.inl (pc', ls', st', h'))) (hl : lenOk ins len = true := by rfl) : Ru d k pc ls st h Q = Ru d k pc' ls' st' h' Q := by
  subst hc
  apply propext
  constructor
  · rintro ⟨n, r, t, hx, hq⟩
    cases n with
    | zero => simp [exec] at hx
    | succ n =>
      rw [exec, hd] at hx
      dsimp only at hx
      rw [if_pos hl, hs] at hx
      exact ⟨n, r, t, hx, hq⟩
  · rintro ⟨n, r, t, hx, hq⟩
    refine ⟨n + 1, r, t, ?_, hq⟩
    rw [exec, hd]
    dsimp only
    rw [if_pos hl, hs]
    exact hx
theorem ru_fin {r : Rs} (hc : mC k = cc) (hd : decode cc pc = .ok (ins, len)) (hs : stp k pc ls st h ins len = some (.inr (.inl (r, h')))) (hl : lenOk ins len = true := by rfl) : Ru d k pc ls st h Q = Q r h' := by
  subst hc
  apply propext
  constructor
  · rintro ⟨n, r', t, hx, hq⟩
    cases n with
    | zero => simp [exec] at hx
    | succ n =>
      rw [exec, hd] at hx
      dsimp only at hx
      rw [if_pos hl, hs] at hx
      cases hx
      exact hq
  · intro hq
    refine ⟨1, r, h', ?_, hq⟩
    rw [exec, hd]
    dsimp only
    rw [if_pos hl, hs]
theorem ru_no (hc : mC k = cc) (hd : decode cc pc = .ok (ins, len)) (hs : stp k pc ls st h ins len = none) (hl : lenOk ins len = true := by rfl) : Ru d k pc ls st h Q = False := by
  subst hc
  apply propext
  constructor
  · rintro ⟨n, r', t, hx, hq⟩
    cases n with
    | zero => simp [exec] at hx
    | succ n =>
      rw [exec, hd] at hx
      dsimp only at hx
      rw [if_pos hl, hs] at hx
      cases hx
  · intro hq
    exact hq.elim
theorem ru_call {y : Nat} (hc : mC k = cc) (hd : decode cc pc = .ok (ins, len)) (hp : pc + 3 = pc') (hs : stp k pc ls st h ins len = some (.inr (.inr (y, as, rest, h')))) (hl : lenOk ins len = true := by rfl) : Ru d k pc ls st h Q = Ca d y as h' (Kn d k pc pc' ls rest Q) := by
  subst hc
  subst hp
  apply propext
  constructor
  · rintro ⟨n, r', t, hx, hq⟩
    cases n with
    | zero => simp [exec] at hx
    | succ n =>
      rw [exec, hd] at hx
      dsimp only at hx
      rw [if_pos hl, hs] at hx
      dsimp only at hx
      split at hx
      · cases hx
      · rename_i v h1 hz
        exact ⟨n, _, _, hz, n, r', t, hx, hq⟩
      · rename_i a h1 hz
        refine ⟨n, _, _, hz, ?_⟩
        show (if mH k = [] then Q (.inr a) h1 else _)
        by_cases hh : mH k = []
        · rw [if_pos hh] at hx ⊢
          cases hx
          exact hq
        · rw [if_neg hh] at hx ⊢
          split at hx
          · rename_i q hq'
            rw [hq']
            exact ⟨n, r', t, hx, hq⟩
          · cases hx
  · rintro ⟨n, r, h1, hz, hk⟩
    have mono : ∀ m, n ≤ m → (if 900 ≤ y then prim y as h' else if d = 0 ∨ mL y < (slA as).length then none else exec m (d - 1) y 0 (ent y as) [] h') = some (r, h1) := by
      intro m hm
      by_cases hy : 900 ≤ y
      · rw [if_pos hy] at hz ⊢; exact hz
      · rw [if_neg hy] at hz ⊢
        by_cases h0 : d = 0 ∨ mL y < (slA as).length
        · rw [if_pos h0] at hz; cases hz
        · rw [if_neg h0] at hz ⊢; exact exec_mono hz hm
    cases r with
    | inl v =>
      obtain ⟨m, r', t, hx, hq⟩ := hk
      refine ⟨max n m + 1, r', t, ?_, hq⟩
      rw [exec, hd]
      dsimp only
      rw [if_pos hl, hs]
      dsimp only
      rw [mono _ (Nat.le_max_left _ _)]
      exact exec_mono hx (Nat.le_max_right _ _)
    | inr a =>
      have hk : (if mH k = [] then Q (.inr a) h1 else match hnd k pc (Tg h1 a) with | some q => Ru d k q ls [.ref a] h1 Q | none => False) := hk
      by_cases hh : mH k = []
      · rw [if_pos hh] at hk
        refine ⟨n + 1, _, _, ?_, hk⟩
        rw [exec, hd]
        dsimp only
        rw [if_pos hl, hs]
        dsimp only
        rw [mono _ (Nat.le_refl _)]
        dsimp only
        rw [if_pos hh]
      · rw [if_neg hh] at hk
        split at hk
        · rename_i q hq'
          obtain ⟨m, r', t, hx, hq⟩ := hk
          refine ⟨max n m + 1, r', t, ?_, hq⟩
          rw [exec, hd]
          dsimp only
          rw [if_pos hl, hs]
          dsimp only
          rw [mono _ (Nat.le_max_left _ _)]
          dsimp only
          rw [if_neg hh, hq']
          exact exec_mono hx (Nat.le_max_right _ _)
        · exact hk.elim
theorem ru_if {c : Prop} [Decidable c] (hc : mC k = cc) (hd : decode cc pc = .ok (ins, len)) (hs : stp k pc ls st h ins len = if c then some (.inl (pc', ls', st', h')) else none) (hl : lenOk ins len = true := by rfl) : Ru d k pc ls st h Q = (c ∧ Ru d k pc' ls' st' h' Q) := by
  by_cases hh : c
  · rw [if_pos hh] at hs
    rw [ru_nx hc hd hs hl]
    exact propext ⟨fun q => ⟨hh, q⟩, fun q => q.2⟩
  · rw [if_neg hh] at hs
    rw [ru_no hc hd hs hl]
    exact propext ⟨fun q => q.elim, fun q => hh q.1⟩
theorem ru_if' {c c' : Prop} [Decidable c] (hc : mC k = cc) (hd : decode cc pc = .ok (ins, len)) (hs : stp k pc ls st h ins len = if c then some (.inl (pc', ls', st', h')) else none) (hcc : c ↔ c') (hl : lenOk ins len = true := by rfl) : Ru d k pc ls st h Q = (c' ∧ Ru d k pc' ls' st' h' Q) := by
  rw [ru_if hc hd hs hl, propext hcc]
/-- a call's callee -/
theorem ca_ru {y : Nat} (hy : y < 900) (hl : (slA as).length ≤ mL y) : Ca (d + 1) y as h Q = Ru d y 0 (ent y as) [] h Q := by
  apply propext
  constructor
  · rintro ⟨n, r, t, hx, hq⟩
    rw [if_neg (by omega), if_neg (by omega)] at hx
    exact ⟨n, r, t, hx, hq⟩
  · rintro ⟨n, r, t, hx, hq⟩
    exact ⟨n, r, t, by rw [if_neg (by omega), if_neg (by omega)]; exact hx, hq⟩
theorem ca_pr {y : Nat} {r : Rs} (hy : 900 ≤ y) (hp : prim y as h = some (r, h')) : Ca d y as h Q = Q r h' := by
  apply propext
  constructor
  · rintro ⟨n, r, t, hx, hq⟩
    rw [if_pos hy, hp] at hx
    cases hx
    exact hq
  · intro hq
    exact ⟨0, r, h', by rw [if_pos hy, hp], hq⟩
theorem kn_v {v : Value} : Kn d k pc pc' ls rest Q (.inl (some v)) h = Ru d k pc' ls (v :: rest) h Q := rfl
theorem kn_0 : Kn d k pc pc' ls rest Q (.inl none) h = Ru d k pc' ls rest h Q := rfl
theorem kn_t {a : Nat} (hh : mH k = []) : Kn d k pc pc' ls rest Q (.inr a) h = Q (.inr a) h := if_pos hh
theorem ru_mono {Q' : Rs → AH → Prop} (hx : Ru d k pc ls st h Q) (hq : ∀ r t, Q r t → Q' r t) : Ru d k pc ls st h Q' := by
  obtain ⟨n, r, t, e, q⟩ := hx
  exact ⟨n, r, t, e, hq _ _ q⟩
theorem ca_mono {y : Nat} {Q' : Rs → AH → Prop} (hx : Ca d y as h Q) (hq : ∀ r t, Q r t → Q' r t) : Ca d y as h Q' := by
  obtain ⟨n, r, t, e, q⟩ := hx
  exact ⟨n, r, t, e, hq _ _ q⟩
end
