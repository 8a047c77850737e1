/-! THE HEAP RELATION BEHIND A STORE, A NEW CELL -/
set_option maxRecDepth 100000
theorem clf_lt {t : Nat} {q : vw_C × (Nat → FieldType) × List Nat} (e : clf t = some q) : t < 100 ∧ t ≠ 45 ∧ t ≠ 0 := by
  have h := (cl_ok e)
  refine ⟨h.2.2.2.2.2.2.2.2.1, h.2.2.2.2.2.2.2.2.2, ?_⟩
  rintro rfl
  have : clf 0 = none := by decide +kernel
  rw [this] at e
  cases e
theorem getD_inj {l : List Nat} (hn : l.Nodup) {i j : Nat} (hi : i < l.length) (hj : j < l.length) (e : l.getD i 999 = l.getD j 999) : i = j := by
  have e' : l[i] = l[j] := by simpa [List.getD, hi, hj] using e
  rw [← List.Nodup.idxOf_getElem hn i hi, e', List.Nodup.idxOf_getElem hn j hj]
/-- a field is written -/
theorem Rp.put {D : va_G} {U : State} {h h' : AH} {H H' : Heap} {a k f : Nat} {q : vw_C × (Nat → FieldType) × List Nat} {v : Value} {cell : Cell} (R : Rp D U h H) (hq : clf (Tg h a) = some q) (hk : k < q.1.2.2) (hf : q.2.2.getD k 999 = f)
    (hap : ∀ x y, x < q.1.2.2 → y < q.1.2.2 → x ≠ y → D.2 (Tg h a) x ≠ D.2 (Tg h a) y) (hc : H[a]? = some cell) (e1 : H'[a]? = some (cell.setSlot (D.2 (Tg h a) k) v)) (e2 : H'.size = H.size) (e3 : ∀ b, b ≠ a → H'[b]? = H[b]?)
    (ht : Tg h' = Tg h) (hn : An h' = An h) (hx : Nx h' = Nx h) (hB : Bs h' = Bs h) (h5 : Ai h' = Ai h) (h6 : Al h' = Al h) (h7 : Ar h' = Ar h) (r1 : rdF h' f a = v) (r2 : ∀ g b, ¬ (g = f ∧ b = a) → rdF h' g b = rdF h g b) : Rp D U h' H' := by
  obtain ⟨g1, g2, g3, g4, g5, g6, g7, g8⟩ := R
  have hl := clf_lt hq
  refine ⟨by rw [e2, hx]; exact g1, ?_, ?_, ?_, ?_, ?_, ?_, ?_⟩
  · intro b q' hq'
    rw [ht] at hq'
    by_cases e : b = a
    · subst e
      cases hq.symm.trans hq'
      obtain ⟨V, ⟨c0, k1, k2, k3, k4⟩, k5, c1, k6, k7⟩ := g2 b q hq
      cases hc.symm.trans k1
      cases hc.symm.trans k6
      refine ⟨updV V k v, ?_, fun j hj hth => ?_, _, e1, k7⟩
      · rw [ht]
        exact ⟨_, e1, k2, k3, t_set k4 hap hk v⟩
      · have hcl := cl_ok hq
        by_cases ej : j = k
        · subst ej
          rw [hf, r1]
          simp [updV]
        · have ne : ¬ (q.2.2.getD j 999 = f ∧ b = b) := by
            rintro ⟨q1, -⟩
            exact ej (getD_inj hcl.2.2.2.2.2.2.1 (by rw [hcl.2.2.2.2.2.1]; exact hj) (by rw [hcl.2.2.2.2.2.1]; exact hk) (q1.trans hf.symm))
          rw [r2 _ _ ne]
          simp only [updV, if_neg ej]
          exact k5 j hj hth
    · exact (g2 b q' hq').kept (e3 b e) (by rw [ht]) (fun g => r2 _ _ (fun z => e z.2))
  · intro b hb
    rw [ht] at hb
    have e : b ≠ a := by rintro rfl; exact hl.2.1 hb
    exact (g3 b hb).kept (e3 b e) (fun g => r2 _ _ (fun z => e z.2))
  · intro b hb
    rw [ht] at hb
    have e : b ≠ a := by rintro rfl; omega
    exact (g4 b hb).kept (e3 b e) (fun g => r2 _ _ (fun z => e z.2))
  · intro b hb
    rw [ht] at hb
    have e : b ≠ a := by rintro rfl; omega
    refine ⟨by rw [ht]; exact (g5 b hb).1, (g5 b hb).2.kept (e3 b e) (by rw [ht]) (by rw [hn]) (fun j => ?_)⟩
    unfold aVl
    rw [ht, h5, h6, h7]
  · intro b hb; rw [ht] at hb; rw [hB]; exact g6 b hb
  · intro b hb hb2; rw [ht] at hb hb2; rw [hB]; exact g7 b hb hb2
  · intro b i y hb hi hy
    rw [ht] at hb; rw [hn] at hi; rw [h7] at hy; rw [ht]
    exact g8 b i y hb hi hy
/-- an array's place is written -/
theorem Rp.ast {D : va_G} {U : State} {h h' : AH} {H H' : Heap} {a i : Nat} {v : Value} {cell : Cell} (R : Rp D U h H) (ha : 1000 ≤ Tg h a) (hc : H[a]? = some cell) (e1 : H'[a]? = some (cell.setSlot i v)) (e2 : H'.size = H.size) (e3 : ∀ b, b ≠ a → H'[b]? = H[b]?) (hi : i < An h a)
    (ht : Tg h' = Tg h) (hn : An h' = An h) (hx : Nx h' = Nx h) (hB : Bs h' = Bs h) (hr : rdF h' = rdF h) (r1 : aVl h' a i = v) (r2 : ∀ b j, ¬ (j = i ∧ b = a) → aVl h' b j = aVl h b j)
    (r3 : ∀ b j y, elc (Tg h b) = some 0 → j < An h b → Ar h' b j = some y → aAsB 0 (Tg h y) = true) : Rp D U h' H' := by
  obtain ⟨g1, g2, g3, g4, g5, g6, g7, g8⟩ := R
  refine ⟨by rw [e2, hx]; exact g1, ?_, ?_, ?_, ?_, ?_, ?_, ?_⟩
  · intro b q' hq'
    rw [ht] at hq'
    have hl := clf_lt hq'
    have e : b ≠ a := by rintro rfl; omega
    exact (g2 b q' hq').kept (e3 b e) (by rw [ht]) (fun g => by rw [hr])
  · intro b hb
    rw [ht] at hb
    have e : b ≠ a := by rintro rfl; omega
    exact (g3 b hb).kept (e3 b e) (fun g => by rw [hr])
  · intro b hb
    rw [ht] at hb
    have e : b ≠ a := by rintro rfl; omega
    exact (g4 b hb).kept (e3 b e) (fun g => by rw [hr])
  · intro b hb
    rw [ht] at hb
    by_cases e : b = a
    · subst e
      obtain ⟨k0, c0, k1, k2, k3, k4, k5, k6⟩ := g5 b hb
      cases hc.symm.trans k1
      refine ⟨by rw [ht]; exact k0, cell.setSlot i v, e1, by rw [ht]; exact k2, k3, ?_, fun j hj => ?_, fun z => by rw [ht] at z ⊢; exact k6 z⟩
      · rw [hn]; simpa [Cell.setSlot] using k4
      · rw [hn] at hj
        by_cases ej : j = i
        · subst ej
          rw [r1]
          simp [Cell.setSlot, k4, hj]
        · rw [r2 b j (fun z => ej z.1), ← k5 j hj]
          simp [Cell.setSlot, Array.getElem?_setIfInBounds, Ne.symm ej]
    · refine ⟨by rw [ht]; exact (g5 b hb).1, (g5 b hb).2.kept (e3 b e) (by rw [ht]) (by rw [hn]) (fun j => r2 b j (fun z => e z.2))⟩
  · intro b hb; rw [ht] at hb; rw [hB]; exact g6 b hb
  · intro b hb hb2; rw [ht] at hb hb2; rw [hB]; exact g7 b hb hb2
  · intro b i y hb hi hy
    rw [ht] at hb; rw [hn] at hi; rw [ht]
    exact r3 b i y hb hi hy
theorem rdF_nCe {h : AH} {t n f b : Nat} (e : b ≠ Nx h) : rdF (nCe h t n) f b = rdF h f b := by
  unfold rdF
  show (match fKd f with | 3 => Value.long (if b = Nx h then 0 else Fl h f b) | 4 => va_rf (if b = Nx h then none else Fr h f b) | _ => Value.int (if b = Nx h then 0 else Fi h f b)) = _
  rw [if_neg e, if_neg e, if_neg e]
  rfl
theorem aVl_nCe {h : AH} {t n b j : Nat} (e : b ≠ Nx h) : aVl (nCe h t n) b j = aVl h b j := by
  unfold aVl
  rw [Tg_nCe, if_neg e]
  show (if Tg h b < 3000 then Value.int (at2 (Ai h) (Nx h) (fun _ => 0) b j) else if Tg h b < 4000 then Value.long (at2 (Al h) (Nx h) (fun _ => 0) b j) else if Tg h b < 5000 then Value.int (at2 (Ai h) (Nx h) (fun _ => 0) b j) else va_rf (at2 (Ar h) (Nx h) (fun _ => none) b j)) = _
  rw [at2_n e, at2_n e, at2_n e]
theorem An_nCe {h : AH} {t n b : Nat} : An (nCe h t n) b = if b = Nx h then n else An h b := rfl
/-- a cell is made: what it is to hold is shown by the last premise -/
theorem Rp.new {D : va_G} {U : State} {h : AH} {H : Heap} {t n : Nat} {c : Cell} (R : Rp D U h H) (hob : ∀ q, clf t = some q → ObOk D (nCe h t n) (H.push c) (Nx h) q) (h45 : t ≠ 45 ∧ t ≠ 155) (har : 1000 ≤ t → t < 6000 ∧ ArOk U (nCe h t n) (H.push c) (Nx h)) : Rp D U (nCe h t n) (H.push c) := by
  obtain ⟨g1, g2, g3, g4, g5, g6, g7, g8⟩ := R
  have old : ∀ b, b ≠ Nx h → Tg h b ≠ 0 → (H.push c)[b]? = H[b]? := by
    intro b _ hb
    have := Tg_lt hb
    rw [Array.getElem?_push, if_neg (by omega)]
  refine ⟨by rw [Array.size_push, g1]; rfl, ?_, ?_, ?_, ?_, ?_, ?_, ?_⟩
  · intro b q hq
    rw [Tg_nCe] at hq
    by_cases e : b = Nx h
    · subst e
      rw [if_pos rfl] at hq
      exact hob q hq
    · rw [if_neg e] at hq
      exact (g2 b q hq).kept (old b e (clf_lt hq).2.2) (by rw [Tg_nCe, if_neg e]) (fun f => rdF_nCe e)
  · intro b hb
    rw [Tg_nCe] at hb
    by_cases e : b = Nx h
    · rw [if_pos e] at hb; exact absurd hb h45.1
    · rw [if_neg e] at hb
      exact (g3 b hb).kept (old b e (by omega)) (fun f => rdF_nCe e)
  · intro b hb
    rw [Tg_nCe] at hb
    by_cases e : b = Nx h
    · rw [if_pos e] at hb; exact absurd hb h45.2
    · rw [if_neg e] at hb
      exact (g4 b hb).kept (old b e (by omega)) (fun f => rdF_nCe e)
  · intro b hb
    rw [Tg_nCe] at hb ⊢
    by_cases e : b = Nx h
    · subst e
      rw [if_pos rfl] at hb ⊢
      exact har hb
    · rw [if_neg e] at hb ⊢
      exact ⟨(g5 b hb).1, (g5 b hb).2.kept (old b e (by omega)) (by rw [Tg_nCe, if_neg e]) (by rw [An_nCe, if_neg e]) (fun j => aVl_nCe e)⟩
  · intro b hb
    show Bs h ≤ b
    rw [Tg_nCe] at hb
    by_cases e : b = Nx h
    · subst e; exact Nat.le_add_right _ _
    · rw [if_neg e] at hb; exact g6 b hb
  · intro b hb hb2
    show Bs h ≤ b
    rw [Tg_nCe] at hb hb2
    by_cases e : b = Nx h
    · subst e; exact Nat.le_add_right _ _
    · rw [if_neg e] at hb hb2; exact g7 b hb hb2
  · intro b i y hb hi hy
    rw [Tg_nCe] at hb
    rw [An_nCe] at hi
    have hy : at2 (Ar h) (Nx h) (fun _ => none) b i = some y := hy
    by_cases e : b = Nx h
    · subst e
      rw [at2_s] at hy
      cases hy
    · rw [if_neg e] at hb hi
      rw [at2_n e] at hy
      have h1 := g8 b i y hb hi hy
      have h2 : Tg h y ≠ 0 := by
        intro z
        rw [z] at h1
        exact absurd h1 (by decide)
      rw [Tg_nCe_o h2]
      exact h1
