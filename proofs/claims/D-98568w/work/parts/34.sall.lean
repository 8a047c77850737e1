/-! ONE INSTRUCTION, ANY -/
set_option maxRecDepth 100000
theorem nl_cat {v : Value} (h : nl v = true) : v.category = 1 := by cases v <;> first | rfl | cases h
section
variable {p : Program} {l : Launch} {e : Env} {R : Room} {s : State} {m : MethodId} {args : Array Value} {below : List Frame} {meth : Method} {c : Code} {H : Heap} {locs : List Loc} {cells slots : Nat} {Q : State → Prop}
variable {D : va_G} {E : Nat → Nat} {k b0 c0 s0 pc : Nat} {ls st : List Value} {h : AH} {A : Array Slot} {z : Zz}
theorem sd_inst {i : Nat} (hx : p.tables.exec = Jvm.exec) (hb : c.code = mC k) (hown : s.vm.findClass (onm (mO k)) = some m.cls) (hK : KW D E s) (hI : Iv D E k b0 c0 s0 s h H locs cells slots ls A) (hs : stp k pc ls st h (.instanceof i) 3 = some (.inl z)) (hd : decode (mC k) pc = .ok (.instanceof i, 3)) (kk : Gk p l e R s m args below meth c Q D E k b0 c0 s0 z) : W p l e R s m args below meth c H locs cells slots Q (F0 m pc A st) := by
  simp only [stp] at hs
  split at hs
  · rename_i a st0
    split at hs
    · rename_i L hL
      split at hs
      · rename_i b hbb
        cases hs
        have kk' := kk H locs cells slots A hI
        have hT : ∀ q ∈ tresT, q.1 = 20265 ∧ q.2 = [(32, false), (33, true), (34, false)] := by decide +kernel
        have hL2 : i < 10000 ∧ lk tresT (mO k * 10000 + i) = some L := by
          unfold tres at hL
          by_cases q : i < 10000
          · rw [if_pos q] at hL; exact ⟨q, hL⟩
          · rw [if_neg q] at hL; cases hL
        obtain ⟨w1, w2⟩ := hT _ (lk_mem hL2.2)
        have w2 : L = [(32, false), (33, true), (34, false)] := w2
        have w1 : mO k * 10000 + i = 20265 := w1
        have hok : mO k = 2 ∧ i = 265 := by omega
        subst w2
        have hm := lk_mem hbb
        simp only [List.mem_cons, List.not_mem_nil, or_false, Prod.mk.injEq] at hm
        have hl : Cond.classLink (onm (mO k)) i "NameOrchard$Picks" ∈ lw_all := by rw [hok.1, hok.2]; exact q1618
        rcases hm with ⟨t1, rfl⟩ | ⟨t1, rfl⟩ | ⟨t1, rfl⟩
        · obtain ⟨cell, g1, g2, g3⟩ := rp_cls hI.1 hK (a := a) (Or.inl (by rw [t1]; rfl))
          rw [t1] at g3
          exact va_instNo hx hb hown (hK.wd hl) hK.2.2.2.2.2.1 ⟨cell, g1, g2, g3⟩ hd kk'
        · obtain ⟨cell, g1, g2, g3⟩ := rp_cls hI.1 hK (a := a) (Or.inl (by rw [t1]; rfl))
          rw [t1] at g3
          have hkn := hK.2.2.1 33 _ rfl
          exact va_instS hx hb hown (hK.wd hl) hkn.2 ⟨cell, g1, g2, g3⟩ hd kk'
        · obtain ⟨cell, g1, g2, g3⟩ := rp_cls hI.1 hK (a := a) (Or.inl (by rw [t1]; rfl))
          rw [t1] at g3
          exact va_instNo hx hb hown (hK.wd hl) hK.2.2.2.2.2.2 ⟨cell, g1, g2, g3⟩ hd kk'
      · cases hs
    · cases hs
  · cases hs
end
