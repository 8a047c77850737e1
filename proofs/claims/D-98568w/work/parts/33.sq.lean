/-! AASTORE, CHECKCAST, INSTANCEOF -/
set_option maxRecDepth 100000
section
variable {p : Program} {l : Launch} {e : Env} {R : Room} {s : State} {m : MethodId} {args : Array Value} {below : List Frame} {meth : Method} {c : Code} {H : Heap} {locs : List Loc} {cells slots : Nat} {Q : State → Prop}
variable {D : va_G} {E : Nat → Nat} {k b0 c0 s0 pc : Nat} {ls st : List Value} {h : AH} {A : Array Slot} {z : Zz}
theorem va_anyS {v : Nat} {C : String} (hR : Rp D s h H) (hK : KW D E s) (ht : (clf (Tg h v)).isSome = true ∨ Tg h v = 45 ∨ Tg h v = 155 ∨ (1000 ≤ Tg h v ∧ Tg h v % 1000 < 900)) (hC : tNm (Tg h v) = C) : va_Any C s H v := by
  obtain ⟨cell, g1, g2, g3⟩ := rp_cls hR hK ht
  obtain ⟨kC, hkC, -⟩ := Vm.findClass_spec g3
  rw [hC] at g3
  exact ⟨cell, g1, g2, ⟨kC, hkC⟩, fun comp hc => vb_asgS comp _ hc g3⟩
theorem va_anyE {v en : Nat} (h3 : en ≤ 3) (hR : Rp D s h H) (hK : KW D E s) (ht : aAsB en (Tg h v) = true) : va_Any (eNam en) s H v := by
  rcases (show en = 0 ∨ en = 1 ∨ en = 2 ∨ en = 3 by omega) with rfl | rfl | rfl | rfl
  · exact va_any0 hR hK ht
  · have h1 : Tg h v = 45 := of_decide_eq_true ht
    exact va_anyS hR hK (Or.inr (Or.inl h1)) (by rw [h1]; rfl)
  · have h1 : Tg h v = 4 := of_decide_eq_true ht
    exact va_anyS hR hK (Or.inl (by rw [h1]; rfl)) (by rw [h1]; rfl)
  · have h1 : Tg h v = 35 := of_decide_eq_true ht
    exact va_anyS hR hK (Or.inl (by rw [h1]; rfl)) (by rw [h1]; rfl)
theorem aVl_sAr {a b j i : Nat} {x : Option Nat} (hne : ¬ (j = i ∧ b = a)) : aVl (sAr h a (va_up (Ar h a) i x)) b j = aVl h b j := by
  have : Ar (sAr h a (va_up (Ar h a) i x)) b j = Ar h b j := by
    show at2 (Ar h) a (va_up (Ar h a) i x) b j = _
    by_cases e : b = a
    · subst e
      rw [at2_s]
      exact if_neg (fun q => hne ⟨q, rfl⟩)
    · rw [at2_n e]
  unfold aVl
  rw [this]
  rfl
theorem sd_aast (hx : p.tables.exec = Jvm.exec) (hb : c.code = mC k) (hK : KW D E s) (hI : Iv D E k b0 c0 s0 s h H locs cells slots ls A) (hs : stp k pc ls st h .aastore 1 = some (.inl z)) (hd : decode (mC k) pc = .ok (.aastore, 1)) (kk : Gk p l e R s m args below meth c Q D E k b0 c0 s0 z) : W p l e R s m args below meth c H locs cells slots Q (F0 m pc A st) := by
  simp only [stp] at hs
  split at hs
  · rename_i v i a st0
    split at hs
    · rename_i en hen
      split at hs
      · rename_i hc
        cases hs
        obtain ⟨⟨ht, hin⟩, hv⟩ := hc
        have ht5 : 5000 ≤ Tg h a := ht.1
        obtain ⟨cell, g1, g2, g3, g4, g5⟩ := arr_at hI.1 (by omega) hin
        rw [aTy_r ht5] at g2
        have h3 := elc_le hen
        have hnm := eNm_of hen h3
        have isr : isR v = true := by
          rcases hv with rfl | hv
          · rfl
          · exact hv.1
        have go : ∀ H' : Heap, H'[a]? = some (cell.setSlot i.toNatClampNeg v) → H'.size = H.size → (∀ b, b ≠ a → H'[b]? = H[b]?) → W p l e R s m args below meth c H' (locs ++ [⟨a, i.toNatClampNeg⟩]) cells slots Q (F0 m (pc + 1) A st0) := by
          intro H' u1 u2 u3
          refine kk H' _ cells slots A (hI.ast (h' := sAr h a (va_up (Ar h a) i.toNatClampNeg (rOf v))) (by omega) (by have := ht.2; omega) g1 u1 u2 u3 (inA_lt hin) rfl rfl rfl rfl rfl rfl rfl rfl ?_ (fun b j hne => aVl_sAr hne) (fun b j y q1 q2 q3 => ?_))
          · rw [aVl_r (by exact ht5)]
            show va_rf (at2 (Ar h) a (va_up (Ar h a) i.toNatClampNeg (rOf v)) a i.toNatClampNeg) = _
            rw [at2_s]
            show va_rf (if i.toNatClampNeg = i.toNatClampNeg then rOf v else _) = v
            rw [if_pos rfl]
            exact rf_rOf isr
          · have q3 : at2 (Ar h) a (va_up (Ar h a) i.toNatClampNeg (rOf v)) b j = some y := q3
            by_cases e1 : b = a
            · subst e1
              rw [at2_s] at q3
              have q3 : (if j = i.toNatClampNeg then rOf v else Ar h b j) = some y := q3
              by_cases e2 : j = i.toNatClampNeg
              · rw [if_pos e2] at q3
                cases q1.symm.trans hen
                rcases hv with rfl | hv
                · cases q3
                · have := hv.2
                  rw [q3] at this
                  exact this
              · rw [if_neg e2] at q3
                exact hI.1.2.2.2.2.2.2.2 b j y q1 q2 q3
            · rw [at2_n e1] at q3
              exact hI.1.2.2.2.2.2.2.2 b j y q1 q2 q3
        rcases isR_or isr with rfl | ⟨w, rfl⟩
        · exact va_WaastN hx hb g1 g2 g3 g4 rfl rfl hd go
        · have hw : aAsB en (Tg h w) = true := by
            rcases hv with hv | hv
            · cases hv
            · exact hv.2
          obtain ⟨cellV, y1, y2, ⟨kC, hkC⟩, hasg⟩ := va_anyE h3 hI.1 hK hw
          obtain ⟨-, cell', g1', g2', g3', g4', g5', g6'⟩ := hI.1.2.2.2.2.1 a (by omega)
          cases g1.symm.trans g1'
          have hra := g6' (by have := ht.2; omega)
          rw [aTy_r ht5, hnm] at hra
          obtain ⟨kA, comp, k1, k2, k3, -⟩ := hra
          obtain ⟨kE, hkE, -⟩ := Vm.findClass_spec k3
          exact W.aast hx hb g1 g2.1 g3 k1 k2 rfl hkE ⟨fun q => g4 (Or.inl q), Nat.not_le.mp fun q => g4 (Or.inr q)⟩ y1 (fun q y => by rw [y] at y2; cases y2) hkC (hasg _ k3) rfl rfl hd go
      · cases hs
    · cases hs
  · cases hs
theorem sd_cast {i : Nat} (hx : p.tables.exec = Jvm.exec) (hb : c.code = mC k) (hown : s.vm.findClass (onm (mO k)) = some m.cls) (hK : KW D E s) (hI : Iv D E k b0 c0 s0 s h H locs cells slots ls A) (hs : stp k pc ls st h (.checkcast i) 3 = some (.inl z)) (hd : decode (mC k) pc = .ok (.checkcast i, 3)) (kk : Gk p l e R s m args below meth c Q D E k b0 c0 s0 z) : W p l e R s m args below meth c H locs cells slots Q (F0 m pc A st) := by
  simp only [stp] at hs
  split at hs
  · cases hs
    exact lv_castN hx hb hd (kk H locs cells slots A hI)
  · rename_i a st0
    split at hs
    · rename_i L hL
      split at hs
      · rename_i hm
        cases hs
        have kk' := kk H locs cells slots A hI
        obtain ⟨C, w, hall⟩ := xl_ok hL
        rcases hall _ hm with ⟨q1, q2, q3⟩ | ⟨q1, q2, q3⟩ | ⟨q1, q2, q3⟩
        · obtain ⟨cell, g1, g2, g3⟩ := rp_cls hI.1 hK (a := a) (q3.elim (fun y => Or.inr (Or.inr (Or.inl y))) Or.inl)
          rw [q1] at g3
          exact va_castE hx hb hown (hK.wd w) ⟨cell, g1, g2, g3⟩ hd kk'
        · exact va_castY hx hb hown (hK.wd w) (hK.2.1 _ q3 rfl) (rp_cls hI.1 hK (Or.inl q2)) hd kk'
        · obtain ⟨cell, g1, g2, g3⟩ := rp_cls hI.1 hK (a := a) (Or.inr (Or.inr (Or.inr ⟨q1, q2⟩)))
          rw [q3] at g3
          exact va_castE hx hb hown (hK.wd w) ⟨cell, g1, g2, g3⟩ hd kk'
      · cases hs
    · cases hs
  · cases hs
end
