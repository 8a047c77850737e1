/-! REFERENCE STORES, CASTS -/
set_option maxRecDepth 100000
section
variable {p : Program} {l : Launch} {e : Env} {R : Room} {s : State} {m : MethodId} {args : Array Value} {below : List Frame} {meth : Method} {c : Code} {H : Heap} {locs : List Loc} {cells slots : Nat} {Q : State → Prop}
variable {D : va_G} {E : Nat → Nat} {k b0 c0 s0 pc : Nat} {ls st : List Value} {h : AH} {A : Array Slot} {z : Zz}
theorem clf_big {t : Nat} (ht : 100 ≤ t) : clf t = none := by
  cases q : clf t with
  | none => rfl
  | some x => have := (clf_lt q).1; omega
theorem tNm_ar {t : Nat} (ht : 1000 ≤ t) : tNm t = "[" ++ (aTy t).toString := by
  unfold tNm
  rw [clf_big (by omega)]
  simp only
  rw [if_neg (by omega), if_neg (by omega)]
/-- the class of a cell by its kind -/
theorem rp_cls {a : Nat} (hR : Rp D s h H) (hK : KW D E s) (ht : (clf (Tg h a)).isSome = true ∨ Tg h a = 45 ∨ Tg h a = 155 ∨ (1000 ≤ Tg h a ∧ Tg h a % 1000 < 900)) : ∃ cell : Cell, H[a]? = some cell ∧ cell.vm.isStatics = false ∧ s.vm.findClass (tNm (Tg h a)) = some cell.cls := by
  rcases ht with ht | ht | ht | ht
  · obtain ⟨q, hq⟩ := Option.isSome_iff_exists.mp ht
    obtain ⟨V, ⟨cell, q1, q2, q3, q4⟩, hV, -⟩ := hR.2.1 a q hq
    refine ⟨cell, q1, by rw [q3]; rfl, ?_⟩
    have : tNm (Tg h a) = q.1.1 := by unfold tNm; rw [hq]
    rw [this, q2]
    exact (hK.2.2.1 _ q hq).2.1
  · obtain ⟨cell, g1, g2, g3, g4, g5⟩ := hR.2.2.1 a ht
    refine ⟨cell, g1, g2, ?_⟩
    rw [ht]; exact g4
  · obtain ⟨cell, g1, g2, g3, g4, g5⟩ := hR.2.2.2.1 a ht
    refine ⟨cell, g1, g2, ?_⟩
    rw [ht]; exact g4
  · obtain ⟨-, cell, g1, g2, g3, g4, g5, g6⟩ := hR.2.2.2.2.1 a ht.1
    refine ⟨cell, g1, ?_, ?_⟩
    · cases e0 : cell.vm with
      | statics q => exact absurd e0 (g2.1 q)
      | _ => rfl
    · rw [tNm_ar ht.1]
      have := g6 ht.2
      cases e0 : aTy (Tg h a) with
      | object C => rw [e0] at this; obtain ⟨_, _, _, _, _, y⟩ := this; exact y
      | _ => rw [e0] at this; exact this
theorem cast_obj {t : Nat} (ht : aAsB 0 t = true) : Cond.castable (tNm t) "java/lang/Object" ∈ lw_tbl ∧ ((clf t).isSome = true ∨ t = 45 ∨ t = 155 ∨ (1000 ≤ t ∧ t % 1000 < 900)) := by
  have h1 := of_decide_eq_true ht
  by_cases h2 : 1000 ≤ t
  · refine ⟨?_, Or.inr (Or.inr (Or.inr ⟨h2, by omega⟩))⟩
    rw [tNm_ar h2, aTy_i (by omega)]
    exact q2642
  · have h3 : t ∈ ([2, 3, 4, 5, 6, 7, 8, 9, 10, 11, 12, 13, 14, 15, 16, 17, 19, 20, 21, 22, 24, 25, 26, 27, 28, 29, 30, 32, 33, 34, 35, 42, 55, 155] : List Nat) := by
      simp only [List.mem_cons, List.not_mem_nil, or_false]
      omega
    simp only [List.mem_cons, List.not_mem_nil, or_false] at h3
    rcases h3 with rfl | rfl | rfl | rfl | rfl | rfl | rfl | rfl | rfl | rfl | rfl | rfl | rfl | rfl | rfl | rfl | rfl | rfl | rfl | rfl | rfl | rfl | rfl | rfl | rfl | rfl | rfl | rfl | rfl | rfl | rfl | rfl | rfl | rfl
    · exact ⟨q2604, Or.inl rfl⟩
    · exact ⟨q2605, Or.inl rfl⟩
    · exact ⟨q2602, Or.inl rfl⟩
    · exact ⟨q2606, Or.inl rfl⟩
    · exact ⟨q2608, Or.inl rfl⟩
    · exact ⟨q2609, Or.inl rfl⟩
    · exact ⟨q2610, Or.inl rfl⟩
    · exact ⟨q2611, Or.inl rfl⟩
    · exact ⟨q2612, Or.inl rfl⟩
    · exact ⟨q2613, Or.inl rfl⟩
    · exact ⟨q2617, Or.inl rfl⟩
    · exact ⟨q2614, Or.inl rfl⟩
    · exact ⟨q2615, Or.inl rfl⟩
    · exact ⟨q2616, Or.inl rfl⟩
    · exact ⟨q2618, Or.inl rfl⟩
    · exact ⟨q2619, Or.inl rfl⟩
    · exact ⟨q2621, Or.inl rfl⟩
    · exact ⟨q2622, Or.inl rfl⟩
    · exact ⟨q2623, Or.inl rfl⟩
    · exact ⟨q2624, Or.inl rfl⟩
    · exact ⟨q2625, Or.inl rfl⟩
    · exact ⟨q2626, Or.inl rfl⟩
    · exact ⟨q2627, Or.inl rfl⟩
    · exact ⟨q2628, Or.inl rfl⟩
    · exact ⟨q2629, Or.inl rfl⟩
    · exact ⟨q2630, Or.inl rfl⟩
    · exact ⟨q2631, Or.inl rfl⟩
    · exact ⟨q2632, Or.inl rfl⟩
    · exact ⟨q2633, Or.inl rfl⟩
    · exact ⟨q2634, Or.inl rfl⟩
    · exact ⟨q2603, Or.inl rfl⟩
    · exact ⟨q2607, Or.inl rfl⟩
    · exact ⟨q2620, Or.inl rfl⟩
    · exact ⟨q2620, Or.inr (Or.inr (Or.inl rfl))⟩
theorem va_any0 {v : Nat} (hR : Rp D s h H) (hK : KW D E s) (ht : aAsB 0 (Tg h v) = true) : va_Any "java/lang/Object" s H v := by
  obtain ⟨w1, w2⟩ := cast_obj ht
  obtain ⟨cell, g1, g2, g3⟩ := rp_cls hR hK w2
  obtain ⟨c1, t1, y1, y2, y3⟩ := Cond.castable_spec (hK.2.1 _ w1 rfl)
  obtain ⟨kC, hkC, -⟩ := Vm.findClass_spec g3
  refine ⟨cell, g1, g2, ⟨kC, hkC⟩, fun comp hc => ?_⟩
  cases y1.symm.trans g3
  cases y2.symm.trans hc
  exact y3
end
