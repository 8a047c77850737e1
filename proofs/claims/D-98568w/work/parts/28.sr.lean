/-! ARRAYS: loads and stores -/
set_option maxRecDepth 100000
section
variable {p : Program} {l : Launch} {e : Env} {R : Room} {s : State} {m : MethodId} {args : Array Value} {below : List Frame} {meth : Method} {c : Code} {H : Heap} {locs : List Loc} {cells slots : Nat} {Q : State → Prop}
variable {D : va_G} {E : Nat → Nat} {k b0 c0 s0 pc : Nat} {ls st : List Value} {h : AH} {A : Array Slot} {z : Zz}
theorem arr_at {a : Nat} {i : Int32} (hR : Rp D s h H) (ht : 1000 ≤ Tg h a) (hin : inA i (An h a)) : ∃ cell, H[a]? = some cell ∧ s.isArrayOf cell (aTy (Tg h a)) ∧ cell.vm ≠ .unknown ∧ ¬ (i < 0 ∨ cell.slots.size ≤ i.toNatClampNeg) ∧ cell.slots[i.toNatClampNeg]? = some (aVl h a i.toNatClampNeg) := by
  obtain ⟨-, cell, g1, g2, g3, g4, g5, g6⟩ := hR.2.2.2.2.1 a ht
  refine ⟨cell, g1, g2, g3, by rw [g4]; exact hin, g5 _ ?_⟩
  exact Nat.not_le.mp (fun q => hin (Or.inr q))
theorem aTy_i {t : Nat} (h : t < 2000) : aTy t = .int := if_pos h
theorem aTy_z {t : Nat} (h1 : 2000 ≤ t) (h : t < 3000) : aTy t = .boolean := by unfold aTy; rw [if_neg (by omega), if_pos h]
theorem aTy_l {t : Nat} (h1 : 3000 ≤ t) (h : t < 4000) : aTy t = .long := by unfold aTy; rw [if_neg (by omega), if_neg (by omega), if_pos h]
theorem aTy_b {t : Nat} (h1 : 4000 ≤ t) (h : t < 5000) : aTy t = .byte := by unfold aTy; rw [if_neg (by omega), if_neg (by omega), if_neg (by omega), if_pos h]
theorem aTy_r {t : Nat} (h1 : 5000 ≤ t) : aTy t = .object (eNm t) := by unfold aTy; rw [if_neg (by omega), if_neg (by omega), if_neg (by omega), if_neg (by omega)]
theorem aVl_i {a j : Nat} (h1 : Tg h a < 3000) : aVl h a j = .int (Ai h a j) := if_pos h1
theorem aVl_l {a j : Nat} (h1 : 3000 ≤ Tg h a) (h2 : Tg h a < 4000) : aVl h a j = .long (Al h a j) := by unfold aVl; rw [if_neg (by omega), if_pos h2]
theorem aVl_b {a j : Nat} (h1 : 4000 ≤ Tg h a) (h2 : Tg h a < 5000) : aVl h a j = .int (Ai h a j) := by unfold aVl; rw [if_neg (by omega), if_neg (by omega), if_pos h2]
theorem aVl_r {a j : Nat} (h1 : 5000 ≤ Tg h a) : aVl h a j = va_rf (Ar h a j) := by unfold aVl; rw [if_neg (by omega), if_neg (by omega), if_neg (by omega)]
theorem sd_iald (hx : p.tables.exec = Jvm.exec) (hb : c.code = mC k) (hI : Iv D E k b0 c0 s0 s h H locs cells slots ls A) (hs : stp k pc ls st h .iaload 1 = some (.inl z)) (hd : decode (mC k) pc = .ok (.iaload, 1)) (kk : Gk p l e R s m args below meth c Q D E k b0 c0 s0 z) : W p l e R s m args below meth c H locs cells slots Q (F0 m pc A st) := by
  simp only [stp] at hs
  split at hs
  · split at hs
    · rename_i i a st0 ht
      cases hs
      obtain ⟨cell, g1, g2, g3, g4, g5⟩ := arr_at hI.1 ht.1.1 ht.2
      rw [aTy_i ht.1.2] at g2
      rw [aVl_i (by omega)] at g5
      exact W.iald hx hb g1 g2 g3 g4 g5 rfl rfl hd (kk H locs cells slots A hI)
    · cases hs
  · cases hs
theorem sd_lald (hx : p.tables.exec = Jvm.exec) (hb : c.code = mC k) (hI : Iv D E k b0 c0 s0 s h H locs cells slots ls A) (hs : stp k pc ls st h .laload 1 = some (.inl z)) (hd : decode (mC k) pc = .ok (.laload, 1)) (kk : Gk p l e R s m args below meth c Q D E k b0 c0 s0 z) : W p l e R s m args below meth c H locs cells slots Q (F0 m pc A st) := by
  simp only [stp] at hs
  split at hs
  · split at hs
    · rename_i i a st0 ht
      cases hs
      obtain ⟨cell, g1, g2, g3, g4, g5⟩ := arr_at hI.1 (by have := ht.1.1; omega) ht.2
      rw [aTy_l ht.1.1 ht.1.2] at g2
      rw [aVl_l ht.1.1 ht.1.2] at g5
      exact W.lald hx hb g1 g2 g3 g4 g5 rfl rfl hd (kk H locs cells slots A hI)
    · cases hs
  · cases hs
theorem sd_aald (hx : p.tables.exec = Jvm.exec) (hb : c.code = mC k) (hI : Iv D E k b0 c0 s0 s h H locs cells slots ls A) (hs : stp k pc ls st h .aaload 1 = some (.inl z)) (hd : decode (mC k) pc = .ok (.aaload, 1)) (kk : Gk p l e R s m args below meth c Q D E k b0 c0 s0 z) : W p l e R s m args below meth c H locs cells slots Q (F0 m pc A st) := by
  simp only [stp] at hs
  split at hs
  · split at hs
    · rename_i i a st0 ht
      cases hs
      obtain ⟨cell, g1, g2, g3, g4, g5⟩ := arr_at hI.1 (by have := ht.1.1; omega) ht.2
      rw [aTy_r ht.1.1] at g2
      rw [aVl_r ht.1.1] at g5
      exact W.aald hx hb g1 g2 rfl g3 g4 g5 rfl rfl hd (kk H locs cells slots A hI)
    · cases hs
  · cases hs
theorem sd_bald (hx : p.tables.exec = Jvm.exec) (hb : c.code = mC k) (hI : Iv D E k b0 c0 s0 s h H locs cells slots ls A) (hs : stp k pc ls st h .baload 1 = some (.inl z)) (hd : decode (mC k) pc = .ok (.baload, 1)) (kk : Gk p l e R s m args below meth c Q D E k b0 c0 s0 z) : W p l e R s m args below meth c H locs cells slots Q (F0 m pc A st) := by
  simp only [stp] at hs
  split at hs
  · split at hs
    · rename_i i a st0 ht
      cases hs
      obtain ⟨ht1, ht2⟩ := ht
      rcases ht1 with ht1 | ht1
      · obtain ⟨cell, g1, g2, g3, g4, g5⟩ := arr_at hI.1 (by have := ht1.1; omega) ht2
        rw [aTy_z ht1.1 ht1.2] at g2
        rw [aVl_i ht1.2] at g5
        exact W.zald hx hb g1 g2 g3 g4 g5 rfl rfl hd (kk H locs cells slots A hI)
      · obtain ⟨cell, g1, g2, g3, g4, g5⟩ := arr_at hI.1 (by have := ht1.1; omega) ht2
        rw [aTy_b ht1.1 ht1.2] at g2
        rw [aVl_b ht1.1 ht1.2] at g5
        exact W.bald hx hb g1 g2 g3 g4 g5 rfl rfl hd (kk H locs cells slots A hI)
    · cases hs
  · cases hs
theorem sd_alen (hx : p.tables.exec = Jvm.exec) (hb : c.code = mC k) (hI : Iv D E k b0 c0 s0 s h H locs cells slots ls A) (hs : stp k pc ls st h .arraylength 1 = some (.inl z)) (hd : decode (mC k) pc = .ok (.arraylength, 1)) (kk : Gk p l e R s m args below meth c Q D E k b0 c0 s0 z) : W p l e R s m args below meth c H locs cells slots Q (F0 m pc A st) := by
  simp only [stp] at hs
  split at hs
  · split at hs
    · rename_i a st0 ht
      cases hs
      obtain ⟨-, cell, g1, g2, g3, g4, g5, g6⟩ := hI.1.2.2.2.2.1 a ht.1
      exact W.alen hx hb g1 g2 (by rw [g4]) rfl rfl hd (kk H locs cells slots A hI)
    · cases hs
  · cases hs
/-- what a store leaves -/
theorem Iv.ast {a i : Nat} {v : Value} {cell : Cell} {h' : AH} {H' : Heap} (hI : Iv D E k b0 c0 s0 s h H locs cells slots ls A) (ha : 1000 ≤ Tg h a) (hw : Tg h a % 1000 < 900) (hc : H[a]? = some cell) (e1 : H'[a]? = some (cell.setSlot i v)) (e2 : H'.size = H.size) (e3 : ∀ b, b ≠ a → H'[b]? = H[b]?) (hi : i < An h a)
    (ht : Tg h' = Tg h) (hn : An h' = An h) (hx : Nx h' = Nx h) (hB : Bs h' = Bs h) (hC : Nc h' = Nc h) (hS : Ns h' = Ns h) (hE : Ev h' = Ev h) (hr : rdF h' = rdF h) (r1 : aVl h' a i = v) (r2 : ∀ b j, ¬ (j = i ∧ b = a) → aVl h' b j = aVl h b j)
    (r3 : ∀ b j y, elc (Tg h b) = some 0 → j < An h b → Ar h' b j = some y → aAsB 0 (Tg h y) = true) : Iv D E k b0 c0 s0 s h' H' (locs ++ [⟨a, i⟩]) cells slots ls A := by
  obtain ⟨g1, g2, g3, g4, g5, g6, g7, g8⟩ := hI
  have hba : b0 ≤ a := by rw [← g8]; exact g1.2.2.2.2.2.2.1 a ha hw
  refine ⟨g1.ast ha hc e1 e2 e3 hi ht hn hx hB hr r1 r2 r3, g2.kept (fun b hb => e3 b (by omega)), g3, by rw [hC]; exact g4, by rw [hS]; exact g5, fun x hx' => ?_, by rw [hE]; exact g7, by rw [hB]; exact g8⟩
  rcases List.mem_append.mp hx' with y | y
  · exact g6 x y
  · rw [List.mem_singleton] at y; subst y; exact hba
theorem inA_lt {i : Int32} {n : Nat} (h : inA i n) : i.toNatClampNeg < n := Nat.not_le.mp (fun q => h (Or.inr q))
theorem rdF_sAi {a : Nat} {g : Nat → Int32} : rdF (sAi h a g) = rdF h := rfl
theorem aVl_sAi {a b j i : Nat} {x : Int32} (hne : ¬ (j = i ∧ b = a)) : aVl (sAi h a (upd (Ai h a) i x)) b j = aVl h b j := by
  have : Ai (sAi h a (upd (Ai h a) i x)) b j = Ai h b j := by
    show at2 (Ai h) a (upd (Ai h a) i x) b j = _
    by_cases e : b = a
    · subst e
      rw [at2_s]
      exact if_neg (fun q => hne ⟨q, rfl⟩)
    · rw [at2_n e]
  unfold aVl
  rw [this]
  rfl
theorem aVl_sAi_s {a i : Nat} {x : Int32} (ht : Tg h a < 3000) : aVl (sAi h a (upd (Ai h a) i x)) a i = .int x := by
  rw [aVl_i (by exact ht)]
  show Value.int (at2 (Ai h) a (upd (Ai h a) i x) a i) = _
  rw [at2_s]
  simp [upd]
theorem sd_iast (hx : p.tables.exec = Jvm.exec) (hb : c.code = mC k) (hI : Iv D E k b0 c0 s0 s h H locs cells slots ls A) (hs : stp k pc ls st h .iastore 1 = some (.inl z)) (hd : decode (mC k) pc = .ok (.iastore, 1)) (kk : Gk p l e R s m args below meth c Q D E k b0 c0 s0 z) : W p l e R s m args below meth c H locs cells slots Q (F0 m pc A st) := by
  simp only [stp] at hs
  split at hs
  · split at hs
    · rename_i x i a st0 ht
      cases hs
      obtain ⟨cell, g1, g2, g3, g4, g5⟩ := arr_at hI.1 ht.1.1 ht.2
      rw [aTy_i (by omega)] at g2
      refine W.iast hx hb g1 g2 g3 g4 rfl rfl hd (fun H' u1 u2 u3 => kk H' _ cells slots A ?_)
      exact hI.ast (h' := sAi h a (upd (Ai h a) i.toNatClampNeg x)) ht.1.1 (by have := ht.1; omega) g1 u1 u2 u3 (inA_lt ht.2) rfl rfl rfl rfl rfl rfl rfl rdF_sAi (aVl_sAi_s (by have := ht.1; omega)) (fun b j hne => aVl_sAi hne) (fun b j y q1 q2 q3 => hI.1.2.2.2.2.2.2.2 b j y q1 q2 q3)
    · cases hs
  · cases hs
theorem sd_bast (hx : p.tables.exec = Jvm.exec) (hb : c.code = mC k) (hI : Iv D E k b0 c0 s0 s h H locs cells slots ls A) (hs : stp k pc ls st h .bastore 1 = some (.inl z)) (hd : decode (mC k) pc = .ok (.bastore, 1)) (kk : Gk p l e R s m args below meth c Q D E k b0 c0 s0 z) : W p l e R s m args below meth c H locs cells slots Q (F0 m pc A st) := by
  simp only [stp] at hs
  split at hs
  · split at hs
    · rename_i x i a st0 ht
      cases hs
      obtain ⟨cell, g1, g2, g3, g4, g5⟩ := arr_at hI.1 (by have := ht.1.1; omega) ht.2.1
      rw [aTy_z ht.1.1 (by have := ht.1.2; omega)] at g2
      refine W.zast hx hb g1 g2 g3 g4 rfl rfl hd (fun H' u1 u2 u3 => kk H' _ cells slots A ?_)
      rw [(narrow_b01 ht.2.2).1] at u1
      exact hI.ast (h' := sAi h a (upd (Ai h a) i.toNatClampNeg x)) (by have := ht.1.1; omega) (by have := ht.1; omega) g1 u1 u2 u3 (inA_lt ht.2.1) rfl rfl rfl rfl rfl rfl rfl rdF_sAi (aVl_sAi_s (by have := ht.1.2; omega)) (fun b j hne => aVl_sAi hne) (fun b j y q1 q2 q3 => hI.1.2.2.2.2.2.2.2 b j y q1 q2 q3)
    · cases hs
  · cases hs
theorem aVl_sAl {a b j i : Nat} {x : Int64} (hne : ¬ (j = i ∧ b = a)) : aVl (sAl h a (vp_updL (Al h a) i x)) b j = aVl h b j := by
  have : Al (sAl h a (vp_updL (Al h a) i x)) b j = Al h b j := by
    show at2 (Al h) a (vp_updL (Al h a) i x) b j = _
    by_cases e : b = a
    · subst e
      rw [at2_s]
      exact if_neg (fun q => hne ⟨q, rfl⟩)
    · rw [at2_n e]
  unfold aVl
  rw [this]
  rfl
theorem sd_last (hx : p.tables.exec = Jvm.exec) (hb : c.code = mC k) (hI : Iv D E k b0 c0 s0 s h H locs cells slots ls A) (hs : stp k pc ls st h .lastore 1 = some (.inl z)) (hd : decode (mC k) pc = .ok (.lastore, 1)) (kk : Gk p l e R s m args below meth c Q D E k b0 c0 s0 z) : W p l e R s m args below meth c H locs cells slots Q (F0 m pc A st) := by
  simp only [stp] at hs
  split at hs
  · split at hs
    · rename_i x i a st0 ht
      cases hs
      have h4 : Tg h a < 4000 := by have := ht.1.2; omega
      obtain ⟨cell, g1, g2, g3, g4, g5⟩ := arr_at hI.1 (by have := ht.1.1; omega) ht.2
      rw [aTy_l ht.1.1 h4] at g2
      refine W.last hx hb g1 g2 g3 g4 rfl rfl hd (fun H' u1 u2 u3 => kk H' _ cells slots A ?_)
      refine hI.ast (h' := sAl h a (vp_updL (Al h a) i.toNatClampNeg x)) (by have := ht.1.1; omega) (by have := ht.1; omega) g1 u1 u2 u3 (inA_lt ht.2) rfl rfl rfl rfl rfl rfl rfl rfl ?_ (fun b j hne => aVl_sAl hne) (fun b j y q1 q2 q3 => hI.1.2.2.2.2.2.2.2 b j y q1 q2 q3)
      rw [aVl_l (by exact ht.1.1) (by exact h4)]
      show Value.long (at2 (Al h) a (vp_updL (Al h a) i.toNatClampNeg x) a i.toNatClampNeg) = _
      rw [at2_s]
      simp [vp_updL]
    · cases hs
  · cases hs
end
