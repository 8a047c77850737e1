/-! ONE INSTRUCTION OF THE ABSTRACT MACHINE IS DONE BY THE REAL ONE -/
set_option maxRecDepth 100000
abbrev Zz : Type := Nat × List Value × List Value × AH
theorem bi_inv {pc : Nat} {ls st : List Value} {h : AH} {f : Int32 → Int32 → Int32} {z : Zz} (hs : bi pc ls st h f = some (.inl z)) : ∃ x y st0, st = .int y :: .int x :: st0 ∧ z = (pc + 1, ls, .int (f x y) :: st0, h) := by
  unfold bi at hs
  split at hs
  · cases hs; exact ⟨_, _, _, rfl, rfl⟩
  · cases hs
theorem bl_inv {pc : Nat} {ls st : List Value} {h : AH} {f : Int64 → Int64 → Int64} {z : Zz} (hs : bl pc ls st h f = some (.inl z)) : ∃ x y st0, st = .long y :: .long x :: st0 ∧ z = (pc + 1, ls, .long (f x y) :: st0, h) := by
  unfold bl at hs
  split at hs
  · cases hs; exact ⟨_, _, _, rfl, rfl⟩
  · cases hs
theorem ldI_inv {pc len i : Nat} {ls st : List Value} {h : AH} {z : Zz} (hs : ldI pc len ls st h i = some (.inl z)) : ∃ x, ls[i]? = some (.int x) ∧ z = (pc + len, ls, .int x :: st, h) := by
  unfold ldI at hs
  split at hs
  · rename_i x e; cases hs; exact ⟨x, e, rfl⟩
  · cases hs
theorem ldL_inv {pc len i : Nat} {ls st : List Value} {h : AH} {z : Zz} (hs : ldL pc len ls st h i = some (.inl z)) : ∃ x, ls[i]? = some (.long x) ∧ z = (pc + len, ls, .long x :: st, h) := by
  unfold ldL at hs
  split at hs
  · rename_i x e; cases hs; exact ⟨x, e, rfl⟩
  · cases hs
theorem isR_or {v : Value} (h : isR v = true) : v = .null ∨ ∃ a, v = .ref a := by cases v <;> first | exact Or.inl rfl | exact Or.inr ⟨_, rfl⟩ | cases h
theorem ldA_inv {pc len i : Nat} {ls st : List Value} {h : AH} {z : Zz} (hs : ldA pc len ls st h i = some (.inl z)) : ∃ v, ls[i]? = some v ∧ isR v = true ∧ z = (pc + len, ls, v :: st, h) := by
  unfold ldA at hs
  split at hs
  · rename_i x e
    by_cases q : isR x = true
    · rw [if_pos q] at hs; cases hs; exact ⟨x, e, q, rfl⟩
    · rw [if_neg q] at hs; cases hs
  · cases hs
theorem stI_inv {pc len i : Nat} {ls st : List Value} {h : AH} {z : Zz} (hs : stI pc len ls st h i = some (.inl z)) : ∃ x st0, st = .int x :: st0 ∧ i < ls.length ∧ pvl ls i = true ∧ z = (pc + len, ls.set i (.int x), st0, h) := by
  unfold stI at hs
  split at hs
  · split at hs
    · rename_i q; cases hs; exact ⟨_, _, rfl, q.1, q.2, rfl⟩
    · cases hs
  · cases hs
theorem stL_inv {pc len i : Nat} {ls st : List Value} {h : AH} {z : Zz} (hs : stL pc len ls st h i = some (.inl z)) : ∃ x st0, st = .long x :: st0 ∧ i + 1 < ls.length ∧ pvl ls i = true ∧ z = (pc + len, (ls.set i (.long x)).set (i + 1) un, st0, h) := by
  unfold stL at hs
  split at hs
  · split at hs
    · rename_i q; cases hs; exact ⟨_, _, rfl, q.1, q.2, rfl⟩
    · cases hs
  · cases hs
theorem stA_inv {pc len i : Nat} {ls st : List Value} {h : AH} {z : Zz} (hs : stA pc len ls st h i = some (.inl z)) : ∃ v st0, st = v :: st0 ∧ isR v = true ∧ i < ls.length ∧ pvl ls i = true ∧ z = (pc + len, ls.set i v, st0, h) := by
  unfold stA at hs
  split at hs
  · split at hs
    · rename_i q; cases hs; exact ⟨_, _, rfl, q.1, q.2.1, q.2.2, rfl⟩
    · cases hs
  · cases hs
theorem jp_eq {pc t : Nat} {off : Int} (h : jp pc off = some t) : (pc : Int) + off = (t : Int) := by
  unfold jp at h
  split at h
  · rename_i n e; cases h; exact e
  · cases h
theorem br_inv {pc : Nat} {ls st : List Value} {h : AH} {off : Int} {b : Bool} {z : Zz} (hs : br pc ls st h off b = some (.inl z)) : ∃ t : Nat, (pc : Int) + off = (t : Int) ∧ z = (if b then t else pc + 3, ls, st, h) := by
  unfold br at hs
  split at hs
  · rename_i t e; cases hs; exact ⟨t, jp_eq e, rfl⟩
  · cases hs
theorem lenB {a b : Nat} (h : Nat.beq a b = true) : a = b := Nat.eq_of_beq_eq_true h
section
variable {p : Program} {l : Launch} {e : Env} {R : Room} {s : State} {m : MethodId} {args : Array Value} {below : List Frame} {meth : Method} {c : Code} {H : Heap} {locs : List Loc} {cells slots : Nat} {Q : State → Prop}
variable {D : va_G} {E : Nat → Nat} {k b0 c0 s0 pc : Nat} {ls st : List Value} {h : AH} {A : Array Slot} {z : Zz}
/-- the goal behind the instruction -/
abbrev Gk (p : Program) (l : Launch) (e : Env) (R : Room) (s : State) (m : MethodId) (args : Array Value) (below : List Frame) (meth : Method) (c : Code) (Q : State → Prop) (D : va_G) (E : Nat → Nat) (k b0 c0 s0 : Nat) (z : Zz) : Prop :=
  ∀ (H' : Heap) (locs' : List Loc) (cells' slots' : Nat) (A' : Array Slot), Iv D E k b0 c0 s0 s z.2.2.2 H' locs' cells' slots' z.2.1 A' → W p l e R s m args below meth c H' locs' cells' slots' Q (F0 m z.1 A' z.2.2.1)
theorem LR.at {n i : Nat} {v : Value} (hl : LR n ls A) (hi : ls[i]? = some v) (ht : trk v = true) : A[i]? = some (.val v) := hl.2.2.2 i v hi ht
theorem sd_ldI {len i : Nat} (hI : Iv D E k b0 c0 s0 s h H locs cells slots ls A) (hs : ldI pc len ls st h i = some (.inl z)) (kk : Gk p l e R s m args below meth c Q D E k b0 c0 s0 z)
    (row : ∀ x : Int32, A[i]? = some (.val (.int x)) → W p l e R s m args below meth c H locs cells slots Q (F0 m (pc + len) A (.int x :: st)) → W p l e R s m args below meth c H locs cells slots Q (F0 m pc A st)) : W p l e R s m args below meth c H locs cells slots Q (F0 m pc A st) := by
  obtain ⟨x, e1, rfl⟩ := ldI_inv hs
  exact row x (hI.2.2.1.at e1 rfl) (kk H locs cells slots A hI)
theorem sd_ldL {len i : Nat} (hI : Iv D E k b0 c0 s0 s h H locs cells slots ls A) (hs : ldL pc len ls st h i = some (.inl z)) (kk : Gk p l e R s m args below meth c Q D E k b0 c0 s0 z)
    (row : ∀ x : Int64, A[i]? = some (.val (.long x)) → W p l e R s m args below meth c H locs cells slots Q (F0 m (pc + len) A (.long x :: st)) → W p l e R s m args below meth c H locs cells slots Q (F0 m pc A st)) : W p l e R s m args below meth c H locs cells slots Q (F0 m pc A st) := by
  obtain ⟨x, e1, rfl⟩ := ldL_inv hs
  exact row x (hI.2.2.1.at e1 rfl) (kk H locs cells slots A hI)
theorem sd_ldA {len i : Nat} (hI : Iv D E k b0 c0 s0 s h H locs cells slots ls A) (hs : ldA pc len ls st h i = some (.inl z)) (kk : Gk p l e R s m args below meth c Q D E k b0 c0 s0 z)
    (row : ∀ x : Nat, A[i]? = some (.val (.ref x)) → W p l e R s m args below meth c H locs cells slots Q (F0 m (pc + len) A (.ref x :: st)) → W p l e R s m args below meth c H locs cells slots Q (F0 m pc A st))
    (row0 : A[i]? = some (.val .null) → W p l e R s m args below meth c H locs cells slots Q (F0 m (pc + len) A (.null :: st)) → W p l e R s m args below meth c H locs cells slots Q (F0 m pc A st)) : W p l e R s m args below meth c H locs cells slots Q (F0 m pc A st) := by
  obtain ⟨v, e1, e2, rfl⟩ := ldA_inv hs
  rcases isR_or e2 with rfl | ⟨a, rfl⟩
  · exact row0 (hI.2.2.1.at e1 rfl) (kk H locs cells slots A hI)
  · exact row a (hI.2.2.1.at e1 rfl) (kk H locs cells slots A hI)
noncomputable abbrev fl1 (i : Nat) (v : Value) (ls : List Value) : List (Nat × Value) := (i, v) :: (lrl 0 ls).filter (fun q => !(q.1 == i) && !(q.1 + 1 == i && q.2.category == 2))
theorem sd_stI {len i : Nat} (hI : Iv D E k b0 c0 s0 s h H locs cells slots ls A) (hs : stI pc len ls st h i = some (.inl z)) (kk : Gk p l e R s m args below meth c Q D E k b0 c0 s0 z)
    (row : ∀ (x : Int32) (rest : List Value), i < mL k → (∀ A' : Array Slot, lv_has A' (mL k) (fl1 i (.int x) ls) → W p l e R s m args below meth c H locs cells slots Q (F0 m (pc + len) A' rest)) → W p l e R s m args below meth c H locs cells slots Q (F0 m pc A (.int x :: rest))) : W p l e R s m args below meth c H locs cells slots Q (F0 m pc A st) := by
  obtain ⟨x, st0, rfl, e1, e2, rfl⟩ := stI_inv hs
  obtain ⟨i1, i2, i3, i4⟩ := hI
  exact row x st0 (by rw [← i3.2.2.1]; exact e1) (fun A' hA => kk H locs cells slots A' ⟨i1, i2, i3.st1 e1 e2 hA, i4⟩)
theorem sd_stA {len i : Nat} (hI : Iv D E k b0 c0 s0 s h H locs cells slots ls A) (hs : stA pc len ls st h i = some (.inl z)) (kk : Gk p l e R s m args below meth c Q D E k b0 c0 s0 z)
    (row : ∀ (x : Nat) (rest : List Value), i < mL k → (∀ A' : Array Slot, lv_has A' (mL k) (fl1 i (.ref x) ls) → W p l e R s m args below meth c H locs cells slots Q (F0 m (pc + len) A' rest)) → W p l e R s m args below meth c H locs cells slots Q (F0 m pc A (.ref x :: rest)))
    (row0 : ∀ (rest : List Value), i < mL k → (∀ A' : Array Slot, lv_has A' (mL k) (fl1 i .null ls) → W p l e R s m args below meth c H locs cells slots Q (F0 m (pc + len) A' rest)) → W p l e R s m args below meth c H locs cells slots Q (F0 m pc A (.null :: rest))) : W p l e R s m args below meth c H locs cells slots Q (F0 m pc A st) := by
  obtain ⟨v, st0, rfl, e0, e1, e2, rfl⟩ := stA_inv hs
  obtain ⟨i1, i2, i3, i4⟩ := hI
  rcases isR_or e0 with rfl | ⟨a, rfl⟩
  · exact row0 st0 (by rw [← i3.2.2.1]; exact e1) (fun A' hA => kk H locs cells slots A' ⟨i1, i2, i3.st1 e1 e2 hA, i4⟩)
  · exact row a st0 (by rw [← i3.2.2.1]; exact e1) (fun A' hA => kk H locs cells slots A' ⟨i1, i2, i3.st1 e1 e2 hA, i4⟩)
noncomputable abbrev fl2 (i : Nat) (v : Value) (ls : List Value) : List (Nat × Value) := (i, v) :: (lrl 0 ls).filter (fun q => !(q.1 == i) && (!(q.1 == i + 1) && !(q.1 + 1 == i && q.2.category == 2)))
theorem sd_stL {len i : Nat} (hI : Iv D E k b0 c0 s0 s h H locs cells slots ls A) (hs : stL pc len ls st h i = some (.inl z)) (kk : Gk p l e R s m args below meth c Q D E k b0 c0 s0 z)
    (row : ∀ (x : Int64) (rest : List Value), i + 1 < mL k → (∀ A' : Array Slot, lv_has A' (mL k) (fl2 i (.long x) ls) → W p l e R s m args below meth c H locs cells slots Q (F0 m (pc + len) A' rest)) → W p l e R s m args below meth c H locs cells slots Q (F0 m pc A (.long x :: rest))) : W p l e R s m args below meth c H locs cells slots Q (F0 m pc A st) := by
  obtain ⟨x, st0, rfl, e1, e2, rfl⟩ := stL_inv hs
  obtain ⟨i1, i2, i3, i4⟩ := hI
  exact row x st0 (by rw [← i3.2.2.1]; exact e1) (fun A' hA => kk H locs cells slots A' ⟨i1, i2, i3.st2 e1 e2 hA, i4⟩)
theorem sd_bi {f : Int32 → Int32 → Int32} (hI : Iv D E k b0 c0 s0 s h H locs cells slots ls A) (hs : bi pc ls st h f = some (.inl z)) (kk : Gk p l e R s m args below meth c Q D E k b0 c0 s0 z)
    (row : ∀ (x y : Int32) (rest : List Value), W p l e R s m args below meth c H locs cells slots Q (F0 m (pc + 1) A (.int (f x y) :: rest)) → W p l e R s m args below meth c H locs cells slots Q (F0 m pc A (.int y :: .int x :: rest))) : W p l e R s m args below meth c H locs cells slots Q (F0 m pc A st) := by
  obtain ⟨x, y, st0, rfl, rfl⟩ := bi_inv hs
  exact row x y st0 (kk H locs cells slots A hI)
theorem sd_bl {f : Int64 → Int64 → Int64} (hI : Iv D E k b0 c0 s0 s h H locs cells slots ls A) (hs : bl pc ls st h f = some (.inl z)) (kk : Gk p l e R s m args below meth c Q D E k b0 c0 s0 z)
    (row : ∀ (x y : Int64) (rest : List Value), W p l e R s m args below meth c H locs cells slots Q (F0 m (pc + 1) A (.long (f x y) :: rest)) → W p l e R s m args below meth c H locs cells slots Q (F0 m pc A (.long y :: .long x :: rest))) : W p l e R s m args below meth c H locs cells slots Q (F0 m pc A st) := by
  obtain ⟨x, y, st0, rfl, rfl⟩ := bl_inv hs
  exact row x y st0 (kk H locs cells slots A hI)
/-- a branch: both ways -/
theorem sd_br {off : Int} {cnd : Prop} {b : Bool} {st0 : List Value} (hI : Iv D E k b0 c0 s0 s h H locs cells slots ls A) (hs : br pc ls st0 h off b = some (.inl z)) (hb : b = true ↔ cnd) (kk : Gk p l e R s m args below meth c Q D E k b0 c0 s0 z)
    (row : ∀ t : Nat, (pc : Int) + off = (t : Int) → (cnd → W p l e R s m args below meth c H locs cells slots Q (F0 m t A st0)) → (¬ cnd → W p l e R s m args below meth c H locs cells slots Q (F0 m (pc + 3) A st0)) → W p l e R s m args below meth c H locs cells slots Q (F0 m pc A st)) : W p l e R s m args below meth c H locs cells slots Q (F0 m pc A st) := by
  obtain ⟨t, e1, rfl⟩ := br_inv hs
  refine row t e1 (fun q => ?_) (fun q => ?_)
  · have := kk H locs cells slots A hI
    rw [show b = true from hb.mpr q] at this
    exact this
  · have := kk H locs cells slots A hI
    rw [show b = false from by cases b with | true => exact absurd (hb.mp rfl) q | false => rfl] at this
    exact this
end
