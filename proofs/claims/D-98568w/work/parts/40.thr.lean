/-! Throwable.<init> -/
set_option maxRecDepth 100000
theorem Rp.thr {D : va_G} {U : State} {h : AH} {H H' : Heap} {a : Nat} {q : vw_C × (Nat → FieldType) × List Nat} {cell cell' : Cell} (R : Rp D U h H) (hq : clf (Tg h a) = some q) (hc : H[a]? = some cell) (e1 : H'[a]? = some cell') (f1 : cell'.cls = cell.cls) (f2 : cell'.vm = cell.vm) (f3 : cell'.monitor = cell.monitor) (f4 : cell'.slots.size = cell.slots.size)
    (f5 : ∀ k, k < q.1.2.2 → fTh (q.2.2.getD k 999) = false → cell'.slots[D.2 (Tg h a) k]? = cell.slots[D.2 (Tg h a) k]?) (e2 : H'.size = H.size) (e3 : ∀ b, b ≠ a → H'[b]? = H[b]?) : Rp D U h H' := by
  obtain ⟨g1, g2, g3, g4, g5, g6, g7, g8⟩ := R
  have hl := clf_lt hq
  refine ⟨by rw [e2]; exact g1, ?_, ?_, ?_, ?_, g6, g7, g8⟩
  · intro b q' hq'
    by_cases e : b = a
    · subst e
      cases hq.symm.trans hq'
      obtain ⟨V, ⟨c0, k1, k2, k3, k4⟩, k5, c1, k6, k7⟩ := g2 b q hq
      cases hc.symm.trans k1
      cases hc.symm.trans k6
      refine ⟨fun k => (cell'.slots[D.2 (Tg h b) k]?).getD .null, ⟨cell', e1, by rw [f1]; exact k2, by rw [f2]; exact k3, fun k hk => ?_⟩, fun k hk hth => ?_, cell', e1, by rw [f3]; exact k7⟩
      · have hlt : D.2 (Tg h b) k < cell'.slots.size := by rw [f4]; exact (Array.getElem?_eq_some_iff.mp (k4 k hk)).1
        simp [hlt]
      · show (cell'.slots[D.2 (Tg h b) k]?).getD .null = _
        rw [f5 k hk hth, k4 k hk]
        exact k5 k hk hth
    · exact (g2 b q' hq').kept (e3 b e) rfl (fun g => rfl)
  · intro b hb
    have e : b ≠ a := by rintro rfl; exact hl.2.1 hb
    exact (g3 b hb).kept (e3 b e) (fun g => rfl)
  · intro b hb
    have e : b ≠ a := by rintro rfl; omega
    exact (g4 b hb).kept (e3 b e) (fun g => rfl)
  · intro b hb
    have e : b ≠ a := by rintro rfl; omega
    exact ⟨(g5 b hb).1, (g5 b hb).2.kept (e3 b e) rfl rfl (fun j => rfl)⟩
theorem thr_atoms {D : va_G} {E : Nat → Nat} {b0 : Nat} {s : State} {args : Array Value} (hK : KW D E s) (hS : Sx E b0 s s.heap) : ∀ c ∈ Bundle.throwableAtoms, c.before args s = true := by
  unfold Bundle.throwableAtoms
  refine List.forall_mem_cons.mpr ⟨hK.wd q143, List.forall_mem_cons.mpr ⟨hK.wd q741, List.forall_mem_cons.mpr ⟨hK.wd q750, List.forall_mem_cons.mpr ⟨hK.wd q753, List.forall_mem_cons.mpr ⟨hK.wd q756, List.forall_mem_cons.mpr ⟨hK.wd q758, List.forall_mem_cons.mpr ⟨hK.wd q742, List.forall_mem_cons.mpr ⟨hK.wd q743, List.forall_mem_cons.mpr ⟨hK.wd q184, List.forall_mem_cons.mpr ⟨hK.wd q185, ?_⟩⟩⟩⟩⟩⟩⟩⟩⟩⟩
  refine List.forall_mem_cons.mpr ⟨hK.wd q744, List.forall_mem_cons.mpr ⟨hK.wd q749, List.forall_mem_cons.mpr ⟨hK.wd q754, List.forall_mem_cons.mpr ⟨hK.wd q769, List.forall_mem_cons.mpr ⟨hK.wd q731, List.forall_mem_cons.mpr ⟨hK.wd q770, List.forall_mem_cons.mpr ⟨hK.wd q733, List.forall_mem_cons.mpr ⟨hK.wd q771, List.forall_mem_cons.mpr ⟨hK.wd q735, List.forall_mem_cons.mpr ⟨hK.wd q745, ?_⟩⟩⟩⟩⟩⟩⟩⟩⟩⟩
  exact List.forall_mem_cons.mpr ⟨hS.2.2.2.2.2.1.lays, List.forall_mem_cons.mpr ⟨hK.wd q747, List.forall_mem_cons.mpr ⟨hS.2.2.2.2.2.2.lays, List.forall_mem_cons.mpr ⟨hK.wd q737, fun _ h => absurd h List.not_mem_nil⟩⟩⟩⟩
/-- what an exception's class has -/
def ThOk (q : vw_C × (Nat → FieldType) × List Nat) : Prop := 5 < q.1.2.2 ∧ q.1.2.1 0 = ("java/lang/Throwable", "cause", "Ljava/lang/Throwable;", false) ∧ q.1.2.1 1 = ("java/lang/Throwable", "stackTrace", "[Ljava/lang/StackTraceElement;", false) ∧ q.1.2.1 2 = ("java/lang/Throwable", "suppressedExceptions", "Ljava/util/List;", false) ∧ q.1.2.1 4 = ("java/lang/Throwable", "backtrace", "Ljava/lang/Object;", false) ∧
  q.2.2.getD 4 999 = fBk ∧ fTh (q.2.2.getD 0 999) = true ∧ fTh (q.2.2.getD 1 999) = true ∧ fTh (q.2.2.getD 2 999) = true ∧ Cond.selects q.1.1 Bundle.tFill0 Bundle.tFill0 ∈ lw_all ∧ Cond.selects q.1.1 Bundle.tFill Bundle.tFill ∈ lw_all
theorem th_ok {t : Nat} (ht : t = 11 ∨ t = 57) : ∃ q, clf t = some q ∧ ThOk q := by
  rcases ht with rfl | rfl
  · exact ⟨((RX10, TX10, 7), tyX10, [147, 148, 149, 150, 151, 152, 153]), by rfl, by decide, rfl, rfl, rfl, rfl, rfl, by decide +kernel, by decide +kernel, by decide +kernel, q728, q729⟩
  · exact ⟨((RJ17, TJ17, 6), tyJ17, [147, 148, 149, 150, 151, 152]), by rfl, by decide, rfl, rfl, rfl, rfl, rfl, by decide +kernel, by decide +kernel, by decide +kernel, q1837, q752⟩
theorem rf_isRef (r : Option Nat) : (va_rf r).isRef = true := by cases r <;> rfl
section
variable {p : Program} {l : Launch} {e : Env} {R : Room} {s : State} {m : MethodId} {args : Array Value} {below : List Frame} {meth : Method} {c : Code} {H : Heap} {locs : List Loc} {cells slots : Nat} {Q : State → Prop}
variable {D : va_G} {E : Nat → Nat} {k b0 c0 s0 pc : Nat} {ls st rest as : List Value} {h h1 : AH} {A : Array Slot}
theorem sd_thr {i a : Nat} {v : Option Value} (hx : p.tables.exec = Jvm.exec) (hb : c.code = mC k) (hml : c.maxLocals = mL k) (hown : s.vm.findClass (onm (mO k)) = some m.cls) (hK : KW D E s) (hS0 : Sx E b0 s s.heap) (htr : e.platform.stackTraces = false) (hI : Iv D E k b0 c0 s0 s h H locs cells slots ls A) (hd : decode (mC k) pc = .ok (.invokespecial i, 3)) (hv : ires (mO k) i = some (as.length, 902)) (hp : prim 902 (.ref a :: as) h = some (.inl v, h1)) (hl : rest.length ≤ 8) (hfr : 5 ≤ R.frames) (hlo : 60 ≤ R.locals) (kk : Gk p l e R s m args below meth c Q D E k b0 c0 s0 (pc + 3, ls, v.toList ++ rest, h1)) : W p l e R s m args below meth c H locs cells slots Q (F0 m pc A (as.reverse ++ .ref a :: rest)) := by
  have hlink : as.length = 0 ∧ Cond.methodLink (onm (mO k)) i Bundle.tInit0 ∈ lw_all := by
    rcases ci_ok hv with h0 | h0 | h0
    · exact ⟨h0.2.1, h0.2.2⟩
    · have : (902 : Nat) = 903 := h0.1
      omega
    · have : (902 : Nat) < 342 := h0.1
      omega
  obtain ⟨hla, hlink⟩ := hlink
  obtain rfl : as = [] := List.length_eq_zero_iff.mp hla
  have hcat := cat_le rest
  simp only [prim] at hp
  rw [if_neg (by decide), if_neg (by decide), if_pos trivial] at hp
  · split at hp
    · rename_i hc
      cases hp
      obtain ⟨htg, hbk⟩ := hc
      obtain ⟨q, hq, t0, t1, t2, t3, t4, t5, t6, t7, t8, t9, t10⟩ := th_ok htg
      obtain ⟨hR, hSx, hL, hC, hSl, hlo', hE, hB⟩ := id hI
      obtain ⟨V, ⟨cell, q1, q2, q3, q4⟩, hV, cell2, q5, q6⟩ := hR.2.1 a q hq
      cases q1.symm.trans q5
      obtain ⟨hS, hfc, kC, hkC, hkind⟩ := hK.2.2.1 _ q hq
      have hcl := cl_ok hq
      have hba : b0 ≤ a := by rw [← hB]; exact hR.2.2.2.2.2.1 a (by rw [hq]; rfl)
      have hap : ∀ x y, x < q.1.2.2 → y < q.1.2.2 → x ≠ y → D.2 (Tg h a) x ≠ D.2 (Tg h a) y := by
        intro x y hx' hy' hne
        obtain ⟨_, _, _, fa, hia, ea⟩ := hS x hx'
        obtain ⟨_, _, _, fb, hib, eb⟩ := hS y hy'
        rw [← ea, ← eb]
        refine u_apart (u_lays (args := args) (fun w hw => hK.wd hw) hcl.1 hx') (u_lays (args := args) (fun w hw => hK.wd hw) hcl.1 hy') hia hib ?_
        rw [(State.fieldFound?_type hia (hcl.2.2.1 x hx')).1, (State.fieldFound?_type hib (hcl.2.2.1 y hy')).1]
        exact hcl.2.1 x hx' y hy' hne
      intro T hT X
      have howns : e.platform.frameOwnsMonitors = true := by rw [X.admits.platform]
      have hfin : e.platform.finalization = false := by rw [X.admits.platform]
      have hpl : e.platform.magicAccessors = ({} : Platform).magicAccessors := by rw [X.admits.platform]
      obtain ⟨T0, Z, L, LZ, Y⟩ := ThrowableC.of_atoms (args := args) howns hfin hpl (thr_atoms hK hS0)
      have hsel0 : selectMethod e.platform s.vm cell.cls T0.fill0 = .method T0.fill0 := by
        obtain ⟨c2, r2, m2, z1, z2, z3, z4, -⟩ := Cond.selects_spec (hK.wd (args := args) t9)
        cases Option.some.inj (z1.symm.trans hfc)
        cases Option.some.inj (z2.symm.trans (State.methodFound?_of_named Y.fill0 (by decide)))
        cases Option.some.inj (z3.symm.trans Y.fill0)
        rw [Launch.admits_selectMethod X.admits, q2]; exact z4
      have hselF : selectMethod e.platform s.vm cell.cls T0.fill = .method T0.fill := by
        obtain ⟨c2, r2, m2, z1, z2, z3, z4, -⟩ := Cond.selects_spec (hK.wd (args := args) t10)
        cases Option.some.inj (z1.symm.trans hfc)
        cases Option.some.inj (z2.symm.trans (State.methodFound?_of_named Y.fill (by decide)))
        cases Option.some.inj (z3.symm.trans Y.fill)
        rw [Launch.admits_selectMethod X.admits, q2]; exact z4
      -- the statics
      obtain ⟨cu, ku, iu, fu, au, cellS, u1, u2, u3, u4, u5, u6, u7, u8, u9, u10, u11⟩ := hSx.2.2.2.2.2.1
      obtain ⟨cv, kv, iv, fv, av, cellS2, v1, v2, v3, v4, v5, v6, v7, v8, v9, v10, v11⟩ := hSx.2.2.2.2.2.2
      cases Y.unassigned.symm.trans u2
      cases Y.sentinel.symm.trans v2
      cases L.statics.symm.trans u4
      cases L.statics.symm.trans v4
      cases u5.symm.trans v5
      -- the fields
      obtain ⟨x1, x2, x3, fC, hC1, hC2⟩ := hS 0 (by omega)
      rw [t1] at hC1
      cases Y.cause.symm.trans hC1
      obtain ⟨y1, y2, y3, fS, hS1, hS2⟩ := hS 1 (by omega)
      rw [t2] at hS1
      cases Y.stack.symm.trans hS1
      obtain ⟨z1, z2, z3, fP, hP1, hP2⟩ := hS 2 (by omega)
      rw [t3] at hP1
      cases Y.supp.symm.trans hP1
      obtain ⟨ci198, i198, fB, hk198, hg198, ha198, hsB, -, hnB, htB, hffB⟩ := Cond.ownField (t := .object "java/lang/Object") Y.found L.cls (by decide +kernel) (hK.wd (args := args) q740) (hK.wd (args := args) q739) e.platform hpl
      obtain ⟨w1, w2, w3, fB', hB1, hB2⟩ := hS 4 (by omega)
      rw [t4] at hB1
      cases hffB.symm.trans hB1
      have tyC := (u_facts hfc hkC (u_lays (args := args) (fun w hw => hK.wd hw) hcl.1 (show 0 < q.1.2.2 by omega)) (by rw [t1]; exact Y.cause)).2.2
      have tyS := (u_facts hfc hkC (u_lays (args := args) (fun w hw => hK.wd hw) hcl.1 (show 1 < q.1.2.2 by omega)) (by rw [t2]; exact Y.stack)).2.2
      have tyP := (u_facts hfc hkC (u_lays (args := args) (fun w hw => hK.wd hw) hcl.1 (show 2 < q.1.2.2 by omega)) (by rw [t3]; exact Y.supp)).2.2
      have hBv : cell.slots[fB.slot]? = some .null := by
        rw [hB2, q4 4 (by omega), hV 4 (by omega) (by rw [t5]; decide +kernel), t5]
        have : rdF h fBk a = va_rf (Fr h fBk a) := rfl
        rw [this, hbk]
        rfl
      have nBC : fB.slot ≠ T0.fCause.slot := by rw [hB2, hC2]; exact hap 4 0 (by omega) (by omega) (by decide)
      have nBS : fB.slot ≠ T0.fStack.slot := by rw [hB2, hS2]; exact hap 4 1 (by omega) (by omega) (by decide)
      have nBP : fB.slot ≠ T0.fSupp.slot := by rw [hB2, hP2]; exact hap 4 2 (by omega) (by omega) (by decide)
      have u0 : RefV := ⟨va_rf (pdO (E 54)), rf_isRef _⟩
      have hcell : T.heap[a]? = some cell := by rw [hT]; exact q1
      have lS : ∀ j, j < q.1.2.2 → D.2 (Tg h a) j < cell.slots.size := fun j hj => (Array.getElem?_eq_some_iff.mp (q4 j hj)).1
      have hskip : SkipFacts T0 e.platform s (fun u => u) ⟨va_rf (pdO (E 54)), rf_isRef _⟩ ((preparedCellV T0.toThrowableT cell a ⟨va_rf (pdO (E 54)), rf_isRef _⟩ ⟨va_rf (pdO (E 55)), rf_isRef _⟩).withEntry T.cur) :=
        ⟨{ ci198 := ci198, i198 := i198, fBack := fB }, ⟨hk198, hg198, ha198, hsB⟩, by
          simpa [preparedCellV, Cell.setSlot, Cell.withEntry, Array.getElem?_setIfInBounds, nBC, nBS, nBP, nBC.symm, nBS.symm, nBP.symm] using hBv, fun _ _ => rfl⟩
      obtain ⟨mk, methM, cM, kP, vm₁, hnamed, -, -, -, -, -, -, -, hW₁, st1⟩ := Steps.initColdArgs (e := e) X.here hx X.warmed hpl hown (t := Bundle.tInit0) rfl (by decide) (hK.wd hlink) (hK.wd (args := args) q742) (hK.wd (args := args) q743) (f := F0 m pc A ([].reverse ++ .ref a :: rest)) rfl (argsL := []) (rest := rest) (fun sig hs => by
        have : (parseMethodDescriptor Bundle.tInit0.desc).map (fun d => d.parameters.length) = some 0 := by decide +kernel
        rw [hs] at this
        exact (Option.some.inj this).symm) rfl (by rw [hb]; exact hd)
      cases Option.some.inj (hnamed.symm.trans Y.init0)
      have X₁ := X.noted hW₁
      have hmon : cell.monitor.owner = none ∧ cell.monitor.count = 0 := by rw [q6]; exact ⟨rfl, rfl⟩
      obtain ⟨vm₂, X₂, st2⟩ := X₁.ctorPlainOffV hx (g := F0 m pc A rest) rfl (by rw [hml]; exact hL.1) T0 L Z LZ [] (fun P hP => by cases hP) trivial (u0 := ⟨va_rf (pdO (E 54)), rf_isRef _⟩) (sen := ⟨va_rf (pdO (E 55)), rf_isRef _⟩) (self := a) (cell := cell) (cellS := cellS)
        hcell (fun z hz => by rw [q3] at hz; cases hz) (by rw [q3]; exact fun hz => by cases hz) hmon.1 hmon.2 hsel0 hselF (by show T.heap[_]? = _; rw [hT]; exact u5) (Nat.ne_of_lt (Nat.lt_of_lt_of_le u11 hba)) (fun hz => by rw [hz] at u6; cases u6) u10 v10
        ⟨by rw [hC2]; exact lS 0 (by omega), by simp [State.fitsSlot, State.slotType?, q2, q3, hkC, hkind, tyC, Y.causeType, fits]⟩ ⟨by rw [hS2]; exact lS 1 (by omega), by simp [State.fitsSlot, State.slotType?, q2, q3, hkC, hkind, tyS, Y.stackType]; cases pdO (E 54) <;> rfl⟩ ⟨by rw [hP2]; exact lS 2 (by omega), by simp [State.fitsSlot, State.slotType?, q2, q3, hkC, hkind, tyP, Y.suppType]; cases pdO (E 55) <;> rfl⟩
        Y.objLocals hskip htr [] (by rw [hb]; exact hd) (by simp only [List.length_nil]; omega) (by simp only [List.length_nil]; show 2 * 0 + _ + _ ≤ _; omega)
      have hal : a < H.size := (Array.getElem?_eq_some_iff.mp q1).1
      have hIv : ∀ L : List Loc, (∀ x ∈ L, x.base = a) → Iv D E k b0 c0 s0 s h (H.setIfInBounds a ((preparedCellV T0.toThrowableT cell a ⟨va_rf (pdO (E 54)), rf_isRef _⟩ ⟨va_rf (pdO (E 55)), rf_isRef _⟩).setSlot T0.fStack.slot (va_rf (pdO (E 54))))) (locs ++ L) cells slots ls A := by
        intro L hLb
        refine ⟨hR.thr hq q1 (cell' := (preparedCellV T0.toThrowableT cell a ⟨va_rf (pdO (E 54)), rf_isRef _⟩ ⟨va_rf (pdO (E 55)), rf_isRef _⟩).setSlot T0.fStack.slot (va_rf (pdO (E 54)))) (by simp [Array.getElem?_setIfInBounds, hal]) rfl rfl rfl (by simp [preparedCellV, Cell.setSlot]) (fun j hj hth => ?_) (by simp) (fun b hb' => by simp [Array.getElem?_setIfInBounds, Ne.symm hb']), hSx.kept (fun b hb' => by simp [Array.getElem?_setIfInBounds, Ne.symm (Nat.ne_of_lt (Nat.lt_of_lt_of_le hb' hba))]), hL, hC, hSl, fun x hx' => ?_, hE, hB⟩
        · have n0 : j ≠ 0 := by rintro rfl; rw [t6] at hth; cases hth
          have n1 : j ≠ 1 := by rintro rfl; rw [t7] at hth; cases hth
          have n2 : j ≠ 2 := by rintro rfl; rw [t8] at hth; cases hth
          have m0 : T0.fCause.slot ≠ D.2 (Tg h a) j := by rw [hC2]; exact hap 0 j (by omega) hj n0.symm
          have m1 : T0.fStack.slot ≠ D.2 (Tg h a) j := by rw [hS2]; exact hap 1 j (by omega) hj n1.symm
          have m2 : T0.fSupp.slot ≠ D.2 (Tg h a) j := by rw [hP2]; exact hap 2 j (by omega) hj n2.symm
          simp [preparedCellV, Cell.setSlot, Array.getElem?_setIfInBounds, m0, m1, m2]
        · rcases List.mem_append.mp hx' with y | y
          · exact hlo' x y
          · rw [hLb x y]; exact hba
      obtain ⟨t, a1, b1⟩ := kk _ _ cells slots A (hIv _ (fun x y => by
        simp only [List.mem_cons, List.not_mem_nil, or_false] at y
        rcases y with rfl | rfl | rfl | rfl <;> rfl)) _ (by rw [← hT]; rfl) X₂
      exact ⟨t, st1 t (fun acts => by rw [doInvoke_state]; exact st2 t a1), b1⟩
    · cases hp
theorem sd_obj {i a : Nat} {v : Option Value} (hx : p.tables.exec = Jvm.exec) (hb : c.code = mC k) (hml : c.maxLocals = mL k) (hown : s.vm.findClass (onm (mO k)) = some m.cls) (hK : KW D E s) (hI : Iv D E k b0 c0 s0 s h H locs cells slots ls A) (hd : decode (mC k) pc = .ok (.invokespecial i, 3)) (hv : ires (mO k) i = some (as.length, 903)) (hp : prim 903 (.ref a :: as) h = some (.inl v, h1)) (hl : rest.length ≤ 8) (hfr : 1 ≤ R.frames) (hlo : 60 ≤ R.locals) (kk : Gk p l e R s m args below meth c Q D E k b0 c0 s0 (pc + 3, ls, v.toList ++ rest, h1)) : W p l e R s m args below meth c H locs cells slots Q (F0 m pc A (as.reverse ++ .ref a :: rest)) := by
  have hlink : as.length = 0 ∧ Cond.methodLink (onm (mO k)) i Lib.objectInit ∈ lw_all := by
    rcases ci_ok hv with h0 | h0 | h0
    · have : (903 : Nat) = 902 := h0.1
      omega
    · exact ⟨h0.2.1, h0.2.2⟩
    · have : (903 : Nat) < 342 := h0.1
      omega
  obtain ⟨hla, hlink⟩ := hlink
  obtain rfl : as = [] := List.length_eq_zero_iff.mp hla
  have hcat := cat_le rest
  simp only [prim] at hp
  rw [if_neg (by decide), if_neg (by decide), if_neg (by decide), if_pos trivial] at hp
  cases hp
  exact W.objInit hx hb hown (hK.wd hlink) (hK.wd (args := args) q184) (hK.wd (args := args) q185) rfl (by rw [hml]; exact hI.2.2.1.1) rfl hd hfr (by show 2 * 0 + _ + _ ≤ _; omega) (kk H locs cells slots A hI)
end
