/-! NATIVES: arraycopy, getClass -/
set_option maxRecDepth 100000
theorem spairs_at (at_ : Nat) : ∀ (xs : List Value) (i : Nat) (c : Cell) (k : Nat), (c.storePairs at_ (xs.zipIdx i)).slots[k]? = if at_ + i ≤ k ∧ k < at_ + i + xs.length ∧ k < c.slots.size then xs[k - (at_ + i)]? else c.slots[k]?
  | [], i, c, k => by
    rw [if_neg (by simp only [List.length_nil]; omega)]; rfl
  | x :: xs, i, c, k => by
    rw [List.zipIdx_cons]
    show ((c.setSlot (at_ + i) x).storePairs at_ (xs.zipIdx (i + 1))).slots[k]? = _
    rw [spairs_at at_ xs (i + 1)]
    have hz : (c.setSlot (at_ + i) x).slots.size = c.slots.size := by simp [Cell.setSlot]
    rw [hz]
    by_cases hk : k = at_ + i
    · subst hk
      rw [if_neg (by omega)]
      by_cases hs : at_ + i < c.slots.size
      · rw [if_pos ⟨Nat.le_refl _, by simp only [List.length_cons]; omega, hs⟩]
        simp [Cell.setSlot, hs]
      · rw [if_neg (fun q => hs q.2.2)]
        simp [Cell.setSlot, Array.getElem?_setIfInBounds, hs]
    · have e0 : (c.setSlot (at_ + i) x).slots[k]? = c.slots[k]? := by simp [Cell.setSlot, Array.getElem?_setIfInBounds, Ne.symm hk]
      rw [e0]
      by_cases h : at_ + (i + 1) ≤ k ∧ k < at_ + (i + 1) + xs.length ∧ k < c.slots.size
      · rw [if_pos h, if_pos ⟨by omega, by simp only [List.length_cons]; omega, h.2.2⟩, show k - (at_ + i) = (k - (at_ + (i + 1))) + 1 by omega, List.getElem?_cons_succ]
      · rw [if_neg h, if_neg (by simp only [List.length_cons]; omega)]
theorem copied_at {cs cd : Cell} {sp dp n : Int32} {k : Nat} (h4 : sp.toNatClampNeg + n.toNatClampNeg ≤ cs.slots.size) (h5 : dp.toNatClampNeg + n.toNatClampNeg ≤ cd.slots.size) : (copied cs cd sp dp n).slots[k]? = if dp.toNatClampNeg ≤ k ∧ k < dp.toNatClampNeg + n.toNatClampNeg then cs.slots[sp.toNatClampNeg + (k - dp.toNatClampNeg)]? else cd.slots[k]? := by
  unfold copied Cell.storeRun
  rw [spairs_at]
  have hl : (cs.stretch sp.toNatClampNeg n.toNatClampNeg).length = n.toNatClampNeg := by simp [Cell.stretch]
  rw [hl]
  by_cases q : dp.toNatClampNeg ≤ k ∧ k < dp.toNatClampNeg + n.toNatClampNeg
  · rw [if_pos q, if_pos ⟨by omega, by omega, by omega⟩]
    unfold Cell.stretch
    rw [List.getElem?_map, List.getElem?_range (by omega)]
    rw [Nat.add_zero]
    have : sp.toNatClampNeg + (k - dp.toNatClampNeg) < cs.slots.size := by omega
    simp [this]
  · rw [if_neg q, if_neg (by omega)]
theorem copied_facts (cs cd : Cell) (sp dp n : Int32) : (copied cs cd sp dp n).cls = cd.cls ∧ (copied cs cd sp dp n).vm = cd.vm ∧ (copied cs cd sp dp n).slots.size = cd.slots.size := by
  obtain ⟨h1, h2, h3, -⟩ := Cell.storePairs_facts cd dp.toNatClampNeg (cs.stretch sp.toNatClampNeg n.toNatClampNeg).zipIdx
  exact ⟨h1, h2, h3⟩
/-- an array's contents are written anew -/
theorem Rp.acp {D : va_G} {U : State} {h h' : AH} {H H' : Heap} {a : Nat} {cell cell' : Cell} (R : Rp D U h H) (ha : 1000 ≤ Tg h a) (hc : H[a]? = some cell) (e1 : H'[a]? = some cell') (f1 : cell'.cls = cell.cls) (f2 : cell'.vm = cell.vm) (f3 : cell'.slots.size = cell.slots.size) (e2 : H'.size = H.size) (e3 : ∀ b, b ≠ a → H'[b]? = H[b]?)
    (ht : Tg h' = Tg h) (hn : An h' = An h) (hx : Nx h' = Nx h) (hB : Bs h' = Bs h) (hr : rdF h' = rdF h) (r1 : ∀ j, j < An h a → cell'.slots[j]? = some (aVl h' a j)) (r2 : ∀ b j, b ≠ a → aVl h' b j = aVl h b j)
    (r3 : ∀ b j y, elc (Tg h b) = some 0 → j < An h b → Ar h' b j = some y → aAsB 0 (Tg h y) = true) : Rp D U h' H' := by
  obtain ⟨g1, g2, g3, g4, g5, g6, g7, g8⟩ := R
  refine ⟨by rw [e2, hx]; exact g1, ?_, ?_, ?_, ?_, ?_, ?_, ?_⟩
  · intro b q' hq'
    rw [ht] at hq'
    have hl := clf_lt hq'
    have e : b ≠ a := by rintro rfl; omega
    exact (g2 b q' hq').kept (e3 b e) (by rw [ht]) (fun g => by rw [hr])
  · intro b hb
    rw [ht] at hb
    have e : b ≠ a := by rintro rfl; omega
    exact (g3 b hb).kept (e3 b e) (fun g => by rw [hr])
  · intro b hb
    rw [ht] at hb
    have e : b ≠ a := by rintro rfl; omega
    exact (g4 b hb).kept (e3 b e) (fun g => by rw [hr])
  · intro b hb
    rw [ht] at hb
    by_cases e : b = a
    · subst e
      obtain ⟨k0, c0, k1, k2, k3, k4, k5, k6⟩ := g5 b hb
      cases hc.symm.trans k1
      refine ⟨by rw [ht]; exact k0, cell', e1, ?_, by rw [f2]; exact k3, by rw [hn, f3]; exact k4, fun j hj => r1 j (by rw [hn] at hj; exact hj), fun z => by rw [ht] at z ⊢; rw [f1]; exact k6 z⟩
      rw [ht]
      obtain ⟨y1, y2⟩ := k2
      exact ⟨by rw [f2]; exact y1, by rw [f1]; exact y2⟩
    · refine ⟨by rw [ht]; exact (g5 b hb).1, (g5 b hb).2.kept (e3 b e) (by rw [ht]) (by rw [hn]) (fun j => r2 b j e)⟩
  · intro b hb; rw [ht] at hb; rw [hB]; exact g6 b hb
  · intro b hb hb2; rw [ht] at hb hb2; rw [hB]; exact g7 b hb hb2
  · intro b i y hb hi hy
    rw [ht] at hb; rw [hn] at hi; rw [ht]
    exact r3 b i y hb hi hy
section
variable {p : Program} {l : Launch} {e : Env} {R : Room} {s : State} {m : MethodId} {args : Array Value} {below : List Frame} {meth : Method} {c : Code} {H : Heap} {locs : List Loc} {cells slots : Nat} {Q : State → Prop}
variable {D : va_G} {E : Nat → Nat} {k b0 c0 s0 pc : Nat} {ls st rest as : List Value} {h h1 : AH} {A : Array Slot}
theorem i32n (z : Int32) (hz : ¬ z < 0) : z.toInt = (z.toNatClampNeg : Int) := by
  have hz0 : (0 : Int) ≤ z.toInt := by
    have := Int32.not_lt.mp hz
    simpa using Int32.le_iff_toInt_le.mp this
  show z.toInt = ((z.toInt.toNat : Nat) : Int)
  omega
theorem cat_le (rest : List Value) : (rest.map fun v => v.category).sum ≤ 2 * rest.length := by
  induction rest with
  | nil => simp
  | cons v vs ih =>
    have : v.category ≤ 2 := by cases v <;> simp [Value.category]
    simp only [List.map_cons, List.sum_cons, List.length_cons]
    omega
theorem sd_copy {i : Nat} {v : Option Value} (hx : p.tables.exec = Jvm.exec) (hb : c.code = mC k) (hml : c.maxLocals = mL k) (hown : s.vm.findClass (onm (mO k)) = some m.cls) (hK : KW D E s) (hI : Iv D E k b0 c0 s0 s h H locs cells slots ls A) (hd : decode (mC k) pc = .ok (.invokestatic i, 3)) (hv : cres (mO k) i = some (as.length, 900)) (hp : prim 900 as h = some (.inl v, h1)) (hl : rest.length ≤ 8) (hfr : 1 ≤ R.frames) (hlo : 60 ≤ R.locals) (kk : Gk p l e R s m args below meth c Q D E k b0 c0 s0 (pc + 3, ls, v.toList ++ rest, h1)) : W p l e R s m args below meth c H locs cells slots Q (F0 m pc A (as.reverse ++ rest)) := by
  have hlink : Cond.methodLink (onm (mO k)) i arraycopyName ∈ lw_all := by
    rcases cs_ok hv with h0 | h0
    · exact h0.2
    · have : (900 : Nat) < 342 := h0.1
      omega
  have hcat := cat_le rest
  have hw : nativeFrameWords "java/lang/System" "arraycopy" 5 = 5 ∨ nativeFrameWords "java/lang/System" "arraycopy" 5 ≤ 20 := Or.inr (by decide)
  have hw : nativeFrameWords "java/lang/System" "arraycopy" 5 ≤ 20 := hw.elim (fun q => by omega) id
  obtain ⟨hR, hSx, hL, hC, hSl, hlo', hE, hB⟩ := hI
  simp only [prim, if_true] at hp
  split at hp
  · rename_i a sp b dp n
    split at hp
    · rename_i hc
      obtain ⟨h1', h2, h3, h4, h5⟩ := hc
      have step : ∀ (cs cd : Cell) (ty : FieldType), H[a]? = some cs → H[b]? = some cd → s.isArrayOf cs ty → s.isArrayOf cd ty → cs.vm ≠ .unknown → cd.vm ≠ .unknown → cs.slots.size = An h a → cd.slots.size = An h b →
          (∀ dComp : ClassId, (∃ kd, s.vm.classes[cd.cls]? = some kd ∧ kd.kind = .array dComp ty) → ∀ vm', s.vm.Alike vm' → ∀ (T : State), T.heap = H → ∀ j, j < n.toNatClampNeg → fits ty (cs.slots.getD (sp.toNatClampNeg + j) .null) = true ∧ (T.setVm vm').takes dComp (cs.slots.getD (sp.toNatClampNeg + j) .null)) →
          (∀ (H' : Heap) (locs' : List Loc), H'[b]? = some (copied cs cd sp dp n) → H'.size = H.size → (∀ q, q ≠ b → H'[q]? = H[q]?) → (∀ q ∈ locs', q ∈ locs ∨ q.base = b) → W p l e R s m args below meth c H' locs' cells slots Q (F0 m (pc + 3) A rest)) → W p l e R s m args below meth c H locs cells slots Q (F0 m pc A ([Value.ref a, .int sp, .ref b, .int dp, .int n].reverse ++ rest)) := by
        intro cs cd ty q1 q2 q3 q4 q5 q6 q7 q8 hvals kk' T hT X
        obtain ⟨y1, ks, y2, sC, y3⟩ := q3
        obtain ⟨z1, kd, z2, dC, z3⟩ := q4
        obtain ⟨vm', X', st⟩ := X.arraycopy hx hown (hK.wd hlink) (hK.wd q977) (hK.wd q976) (hK.wd q152) (src := a) (dst := b) (cs := cs) (cd := cd) (srcPos := sp) (destPos := dp) (n := n) (by rw [hT]; exact q1) (by rw [hT]; exact q2) y1 z1 q5 q6 y2 z2 y3 z3
          (by cases ty <;> simp [refKind]) h1' h2 h3 (by rw [i32n sp h1', i32n n h3, q7]; omega) (by rw [i32n dp h2, i32n n h3, q8]; omega) (fun vm' hal j hj => hvals dC ⟨kd, z2, z3⟩ vm' hal T hT j hj)
          (g := F0 m pc A ([Value.ref a, .int sp, .ref b, .int dp, .int n].reverse ++ rest)) rfl (by rw [hml]; exact hL.1) (rest := rest) rfl (by rw [hb]; exact hd) hfr (by show 2 * 0 + _ + _ ≤ _; omega)
        have hbl : b < H.size := (Array.getElem?_eq_some_iff.mp q2).1
        have hheap : ((T.setVm vm').setCell b (copied cs cd sp dp n)).heap = H.setIfInBounds b (copied cs cd sp dp n) := by rw [← hT]; rfl
        obtain ⟨t, a1, b1⟩ := kk' (H.setIfInBounds b (copied cs cd sp dp n)) _ (by simp [Array.getElem?_setIfInBounds, hbl]) (by simp) (fun q hq => by simp [Array.getElem?_setIfInBounds, Ne.symm hq]) (fun q hq => by
          rcases List.mem_append.mp hq with hq | hq
          · exact Or.inl hq
          · obtain ⟨z, -, hz⟩ := List.mem_map.mp hq
            rw [← hz]
            exact Or.inr rfl) _ hheap X'
        exact ⟨t, st t a1, b1⟩
      have fin : ∀ (h1 : AH) (cs cd : Cell) (H' : Heap) (locs' : List Loc), H[a]? = some cs → H[b]? = some cd → 1000 ≤ Tg h b → Tg h b % 1000 < 900 → cs.slots.size = An h a → cd.slots.size = An h b → H'[b]? = some (copied cs cd sp dp n) → H'.size = H.size → (∀ q, q ≠ b → H'[q]? = H[q]?) → (∀ q ∈ locs', q ∈ locs ∨ q.base = b) →
          Tg h1 = Tg h → An h1 = An h → Nc h1 = Nc h → Ns h1 = Ns h → Bs h1 = Bs h → Ev h1 = Ev h → rdF h1 = rdF h → (∀ j, j < An h b → (copied cs cd sp dp n).slots[j]? = some (aVl h1 b j)) → (∀ q j, q ≠ b → aVl h1 q j = aVl h q j) → (∀ q j y, elc (Tg h q) = some 0 → j < An h q → Ar h1 q j = some y → aAsB 0 (Tg h y) = true) → Iv D E k b0 c0 s0 s h1 H' locs' cells slots ls A := by
        intro h1 cs cd H' locs' q1 q2 q3 q4 q5 q6 u1 u2 u3 u4 t1 t2 t3 t4 t5 t6 t7 t8 t9 t10
        obtain ⟨f1, f2, f3⟩ := copied_facts cs cd sp dp n
        have hbb : b0 ≤ b := by rw [← hB]; exact hR.2.2.2.2.2.2.1 b q3 q4
        refine ⟨hR.acp q3 q2 u1 f1 f2 f3 u2 u3 t1 t2 (by unfold Nx; rw [t5, t3]) t5 t7 t8 t9 t10, hSx.kept (fun q hq => u3 q (Nat.ne_of_lt (Nat.lt_of_lt_of_le hq hbb))), hL, by rw [t3]; exact hC, by rw [t4]; exact hSl, fun q hq => ?_, by rw [t6]; exact hE, by rw [t5]; exact hB⟩
        rcases u4 q hq with z | z
        · exact hlo' q z
        · rw [z]; exact hbb
      split at hp
      · rename_i hty
        cases hp
        obtain ⟨⟨ta1, ta2⟩, tb1, tb2⟩ := hty
        obtain ⟨-, cs, g1, g2, g3, g4, g5, g6⟩ := hR.2.2.2.2.1 a ta1
        obtain ⟨-, cd, k1, k2, k3, k4, k5, k6⟩ := hR.2.2.2.2.1 b tb1
        have ea : aTy (Tg h a) = .int := by unfold aTy; rw [if_pos (by omega)]
        have eb : aTy (Tg h b) = .int := by unfold aTy; rw [if_pos (by omega)]
        rw [ea] at g2; rw [eb] at k2
        refine step cs cd .int g1 k1 g2 k2 g3 k3 g4 k4 (fun dC _ vm' _ T _ j hj => ?_) (fun H' locs' u1 u2 u3 u4 => kk H' locs' cells slots A (fin _ cs cd H' locs' g1 k1 tb1 (by omega) g4 k4 u1 u2 u3 u4 rfl rfl rfl rfl rfl rfl rfl (fun j hj => ?_) (fun q j hq => ?_) hR.2.2.2.2.2.2.2))
        · have ej : cs.slots.getD (sp.toNatClampNeg + j) .null = aVl h a (sp.toNatClampNeg + j) := by
            rw [Array.getD_eq_getD_getElem?, g5 _ (by omega)]; rfl
          rw [ej]
          unfold aVl
          rw [if_pos (by omega)]
          exact ⟨rfl, trivial⟩
        · rw [copied_at (by omega) (by omega)]
          have e0 : aVl (sAi h b (va_cpy (Ai h a) (Ai h b) sp.toNatClampNeg dp.toNatClampNeg n.toNatClampNeg)) b j = .int (va_cpy (Ai h a) (Ai h b) sp.toNatClampNeg dp.toNatClampNeg n.toNatClampNeg j) := by
            unfold aVl
            rw [Tg_sAi, if_pos (by omega), Ai_sAi, at2_s]
          rw [e0]
          unfold va_cpy
          by_cases q : dp.toNatClampNeg ≤ j ∧ j < dp.toNatClampNeg + n.toNatClampNeg
          · rw [if_pos q, if_pos q, g5 _ (by omega)]
            unfold aVl
            rw [if_pos (by omega)]
          · rw [if_neg q, if_neg q, k5 _ hj]
            unfold aVl
            rw [if_pos (by omega)]
        · unfold aVl
          rw [Tg_sAi, Ai_sAi, Al_sAi, Ar_sAi, at2_n hq]
      · split at hp
        · rename_i hty
          cases hp
          obtain ⟨ta, tb⟩ := hty
          have eln : ∀ t, elc t = some 0 → 5000 ≤ t ∧ t % 1000 < 900 ∧ aTy t = .object "java/lang/Object" := by
            intro t ht
            have hm := lk_mem ht
            have hall : ∀ q ∈ elT, 5000 ≤ q.1 ∧ q.1 % 1000 < 900 := by decide +kernel
            have := hall _ hm
            refine ⟨this.1, this.2, ?_⟩
            unfold aTy eNm
            rw [if_neg (by omega), if_neg (by omega), if_neg (by omega), if_neg (by omega), ht]
            have h9 : t ≠ 5903 := by rintro rfl; have := this.2; omega
            simp [h9]
          obtain ⟨ta1, ta2, ta3⟩ := eln _ ta
          obtain ⟨tb1, tb2, tb3⟩ := eln _ tb
          obtain ⟨-, cs, g1, g2, g3, g4, g5, g6⟩ := hR.2.2.2.2.1 a (by omega)
          obtain ⟨-, cd, k1, k2, k3, k4, k5, k6⟩ := hR.2.2.2.2.1 b (by omega)
          rw [ta3] at g2; rw [tb3] at k2
          have hel := hR.2.2.2.2.2.2.2
          refine step cs cd (.object "java/lang/Object") g1 k1 g2 k2 g3 k3 g4 k4 (fun dC hdC vm' hal T hT j hj => ?_) (fun H' locs' u1 u2 u3 u4 => kk H' locs' cells slots A (fin _ cs cd H' locs' g1 k1 (by omega) tb2 g4 k4 u1 u2 u3 u4 rfl rfl rfl rfl rfl rfl rfl (fun j hj => ?_) (fun q j hq => ?_) (fun q j y hq hj hy => ?_)))
          · have ej : cs.slots.getD (sp.toNatClampNeg + j) .null = aVl h a (sp.toNatClampNeg + j) := by
              rw [Array.getD_eq_getD_getElem?, g5 _ (by omega)]; rfl
            rw [ej]
            unfold aVl
            rw [if_neg (by omega), if_neg (by omega), if_neg (by omega)]
            cases hy : Ar h a (sp.toNatClampNeg + j) with
            | none => exact ⟨rfl, trivial⟩
            | some y =>
              obtain ⟨cellV, y1, y2, ⟨kC, hkC⟩, hasg⟩ := va_any0 hR hK (hel a _ y ta (by omega) hy)
              obtain ⟨kd, z2, z3⟩ := hdC
              have hRA := k6 tb2
              rw [tb3] at hRA
              obtain ⟨kA, comp, r1, r2, r3, -⟩ := hRA
              cases z2.symm.trans r1
              cases z3.symm.trans r2
              obtain ⟨kE, hkE, -⟩ := Vm.findClass_spec r3
              obtain ⟨kC', hkC', -⟩ := hal.2.2 _ _ hkC
              obtain ⟨kE', hkE', -⟩ := hal.2.2 _ _ hkE
              refine ⟨rfl, cellV, (show T.heap[y]? = some cellV by rw [hT]; exact y1), (fun q hq => by rw [hq] at y2; cases y2), ⟨kC', hkC'⟩, ⟨kE', hkE'⟩, ?_⟩
              show vm'.assignable _ _ = true
              rw [hal.assignable]
              exact hasg _ r3
          · rw [copied_at (by omega) (by omega)]
            have e0 : aVl (sAr h b (va_cpy (Ar h a) (Ar h b) sp.toNatClampNeg dp.toNatClampNeg n.toNatClampNeg)) b j = va_rf (va_cpy (Ar h a) (Ar h b) sp.toNatClampNeg dp.toNatClampNeg n.toNatClampNeg j) := by
              unfold aVl
              rw [Tg_sAr, if_neg (by omega), if_neg (by omega), if_neg (by omega), Ar_sAr, at2_s]
            rw [e0]
            unfold va_cpy
            by_cases q : dp.toNatClampNeg ≤ j ∧ j < dp.toNatClampNeg + n.toNatClampNeg
            · rw [if_pos q, if_pos q, g5 _ (by omega)]
              unfold aVl
              rw [if_neg (by omega), if_neg (by omega), if_neg (by omega)]
            · rw [if_neg q, if_neg q, k5 _ hj]
              unfold aVl
              rw [if_neg (by omega), if_neg (by omega), if_neg (by omega)]
          · unfold aVl
            rw [Tg_sAr, Ai_sAr, Al_sAr, Ar_sAr, at2_n hq]
          · rw [Ar_sAr] at hy
            by_cases e : q = b
            · subst e
              rw [at2_s] at hy
              unfold va_cpy at hy
              by_cases q' : dp.toNatClampNeg ≤ j ∧ j < dp.toNatClampNeg + n.toNatClampNeg
              · rw [if_pos q'] at hy
                exact hel a _ y ta (by omega) hy
              · rw [if_neg q'] at hy
                exact hel q j y hq hj hy
            · rw [at2_n e] at hy
              exact hel q j y hq hj hy
        · cases hp
    · cases hp
  · cases hp
theorem sd_getC {i a : Nat} {tb : List (Nat × Nat)} (hx : p.tables.exec = Jvm.exec) (hb : c.code = mC k) (hml : c.maxLocals = mL k) (hown : s.vm.findClass (onm (mO k)) = some m.cls) (hK : KW D E s) (hI : Iv D E k b0 c0 s0 s h H locs cells slots ls A) (hd : decode (mC k) pc = .ok (.invokevirtual i, 3)) (hv : vres (mO k) i = some (as.length, tb)) (hlk : lk tb (Tg h a) = some 901) (hl : rest.length ≤ 8) (hfr : 1 ≤ R.frames) (hlo : 60 ≤ R.locals) (kk : Gk p l e R s m args below meth c Q D E k b0 c0 s0 (pc + 3, ls, .ref (Ev h 60) :: rest, h)) : W p l e R s m args below meth c H locs cells slots Q (F0 m pc A (as.reverse ++ .ref a :: rest)) := by
  have hm : (Tg h a, 901) ∈ tb := lk_mem hlk
  have hcat := cat_le rest
  rcases cv_ok hv with ⟨h0, h1, h2⟩ | ⟨x, -, -, h3⟩
  · have h0 : as.length = 0 := h0
    obtain rfl : as = [] := List.length_eq_zero_iff.mp h0
    obtain ⟨-, t1, t2, t3⟩ := h1 _ hm
    have t1 : 5000 ≤ Tg h a := t1
    have t2 : Tg h a % 1000 < 900 := t2
    have t3 : tNm (Tg h a) = "[Ljava/lang/Object;" := t3
    have hr := rp_cls hI.1 hK (Or.inr (Or.inr (Or.inr ⟨by omega, t2⟩)))
    rw [t3] at hr
    refine va_getC hx hb (by rw [hml]; exact hI.2.2.1.1.symm) hown (hK.wd h2) (va_Nw.use rfl (hK.2.1 _ q2639 rfl)) (hK.wd q2638) (hK.wd q932) (hK.wd q968) hK.2.2.2.2.1 hr hfr (by omega) hd ?_
    have hE := hI.2.2.2.2.2.2.1
    rw [← hE]
    exact kk H locs cells slots A hI
  · rcases h3 with ⟨-, h3⟩ | ⟨_, -, h3⟩
    · have : (901 : Nat) < 342 := (h3 _ hm).1
      omega
    · have : (901 : Nat) < 342 := (h3 _ hm).1
      omega
end
