/-! A CALL: THE STEP INTO IT -/
set_option maxRecDepth 100000
theorem mdc_ok {k : Nat} (hk : k < 342) (hx : mN k ≠ lawN) : plainFor (mN k) = true ∧ mL k ≤ 14 ∧ ((mH k = [] ∧ Cond.code (mN k) (mC k) (mL k) (mR k) ∈ lw_all) ∨ (∃ (i : Nat) (C : String) (t : Nat × Nat × Nat × Nat), mH k = [(t.1, t.2.1, t.2.2.1, t.2.2.2)] ∧ Cond.codeWith (mN k) (mC k) (mL k) (mR k) [(t.1, t.2.1, t.2.2.1, i)] ∈ lw_all ∧ 0 < i ∧ Cond.classLink (onm (mO k)) i C ∈ lw_all ∧ tNm t.2.2.2 = C ∧ (clf t.2.2.2).isSome = true)) ∧ onm (mO k) = (mN k).cls := md_ok hk hx
/-- what is known of a method that is found -/
def Mf (s : State) (k : Nat) (mk : MethodId) : Prop := ∃ (methk : Method) (ck : Code), s.vm.method? mk = some methk ∧ methk.code = some ck ∧ ck.code = mC k ∧ ck.maxLocals = mL k ∧ methk.sig.returnType = mR k ∧ methk.locks = false ∧ parseMethodDescriptor (mN k).desc = some methk.sig ∧
  ((mH k = [] ∧ ck.exceptionTable.isEmpty = true) ∨ (∃ (i : Nat) (C : String) (t : Nat × Nat × Nat × Nat), mH k = [(t.1, t.2.1, t.2.2.1, t.2.2.2)] ∧ ck.exceptionTable.toList.map (fun h => (h.startPc, h.endPc, h.handlerPc, h.catchType)) = [(t.1, t.2.1, t.2.2.1, i)] ∧ 0 < i ∧ Cond.classLink (onm (mO k)) i C ∈ lw_all ∧ tNm t.2.2.2 = C ∧ (clf t.2.2.2).isSome = true))
theorem mf_of {D : va_G} {E : Nat → Nat} {s : State} {k : Nat} (hK : KW D E s) (hk : k < 342) (hx : mN k ≠ lawN) : ∃ mk, s.methodNamed? (mN k) = some mk ∧ Mf s k mk := by
  obtain ⟨-, -, h3, -⟩ := mdc_ok hk hx
  rcases h3 with ⟨e1, e2⟩ | ⟨i, C, t, e1, e2, e3⟩
  · have hc : (Cond.code (mN k) (mC k) (mL k) (mR k)).before #[] s = true := hK.wd e2
    obtain ⟨mk, hn⟩ := Cond.code_named hc
    obtain ⟨meth, c, h1, h2, h3, h4, h5, h6, h7, h8⟩ := Cond.code_spec hn hc
    exact ⟨mk, hn, meth, c, h1, h2, h3, h4, h5, h6, h8, Or.inl ⟨e1, h7⟩⟩
  · have hc : (Cond.codeWith (mN k) (mC k) (mL k) (mR k) [(t.1, t.2.1, t.2.2.1, i)]).before #[] s = true := hK.wd e2
    obtain ⟨mk, meth, c, hn, h1, h2, h3, h4, h5, h6, h7, h8⟩ := Cond.codeWith_spec hc
    exact ⟨mk, hn, meth, c, h1, h2, h3, h4, h6, h7, h8, Or.inr ⟨i, C, t, e1, h5, e3⟩⟩
section
variable {p : Program} {l : Launch} {e : Env} {R : Room} {s : State} {m : MethodId} {args : Array Value} {below : List Frame} {meth : Method} {c : Code} {T : State} {locs : List Loc} {cells slots : Nat}
variable {D : va_G} {E : Nat → Nat} {h : AH}
/-- the step of a call -/
def Hop (p : Program) (l : Launch) (e : Env) (R : Room) (s : State) (m : MethodId) (args : Array Value) (below : List Frame) (meth : Method) (c : Code) (T : State) (locs : List Loc) (cells slots : Nat) (g : JFrame) (rest : List Value) (y : Nat) (as : Array Value) : Prop :=
  ∃ (vm₁ : Vm) (mk : MethodId), s.methodNamed? (mN y) = some mk ∧ s.WarmedH vm₁ ∧ Stand p l e R s m args below meth c (T.setVm vm₁) locs cells slots ∧ ∀ target, (∀ acts, Steps p.tables e below (doInvoke e ((T.setVm vm₁).setTop { g with stack := rest }) acts mk as).1 target) → Steps p.tables e below (T.setTop g) target
theorem par_len {x : MethodName} {n : Nat} {sig : MethodDescriptor} (h : (parseMethodDescriptor x.desc).map (fun d => d.parameters.length) = some n) (hs : parseMethodDescriptor x.desc = some sig) : n = sig.parameters.length := by
  rw [hs] at h
  exact (Option.some.inj h).symm
theorem hop_S (X : Stand p l e R s m args below meth c T locs cells slots) (hexec : p.tables.exec = Jvm.exec) {k i n y : Nat} (hown : s.vm.findClass (onm (mO k)) = some m.cls) (hK : KW D E s) (hv : cres (mO k) i = some (n, y)) (hy : y < 900) {g : JFrame} (hg : g.method = m) {as rest : List Value} (hst : g.stack = as.reverse ++ rest) (hn : as.length = n) (hd : decode c.code g.pc = .ok (.invokestatic i, 3)) : y < 342 ∧ mN y ≠ lawN ∧ Hop p l e R s m args below meth c T locs cells slots g rest y as.toArray := by
  rcases cs_ok hv with h0 | ⟨h1, h2, h3, h4, h5, h6, h7⟩
  · have h9 : y = 900 := h0.1
    omega
  · obtain ⟨mk, hnm, methk, ck, g1, g2, g3, g4, g5, g6, g7, g8⟩ := mf_of hK h1 h2
    have hstatic : methk.isStatic = true := Cond.static_spec hnm g1 (hK.wd (args := #[]) h5)
    obtain ⟨kP, hkP, -⟩ := className_of_methodNamed hnm
    have hinitP : kP.init = .initialized := Cond.initialized_spec (findClass_of_methodNamed hnm) hkP (hK.wd (args := #[]) h6)
    refine ⟨h1, h2, ?_⟩
    rcases h7 with hl | ⟨host, hl⟩
    · obtain ⟨vm₁, X₁, st⟩ := X.invokestatic hexec hown (hK.wd hl) hnm g1 hstatic hkP hinitP h3 (g := g) hg (argsL := as) (rest := rest) (hn.trans (par_len h4 g7)) hst hd
      exact ⟨vm₁, mk, hnm, X₁.warmed, X₁, st⟩
    · obtain ⟨vm₁, X₁, st⟩ := X.invokestaticNest hexec hown (va_Nw.use rfl (hK.2.1 _ hl rfl)) hnm g1 hstatic hkP hinitP h3 (g := g) hg (argsL := as) (rest := rest) (hn.trans (par_len h4 g7)) hst hd
      exact ⟨vm₁, mk, hnm, X₁.warmed, X₁, st⟩
theorem hop_I (X : Stand p l e R s m args below meth c T locs cells slots) (hexec : p.tables.exec = Jvm.exec) {k i n y : Nat} (hown : s.vm.findClass (onm (mO k)) = some m.cls) (hK : KW D E s) (hv : ires (mO k) i = some (n, y)) (hy : y < 900) {g : JFrame} (hg : g.method = m) {as rest : List Value} {a : Addr} (hst : g.stack = as.reverse ++ .ref a :: rest) (hn : as.length = n) (hd : decode c.code g.pc = .ok (.invokespecial i, 3)) : y < 342 ∧ mN y ≠ lawN ∧ Hop p l e R s m args below meth c T locs cells slots g rest y (Value.ref a :: as).toArray := by
  rcases ci_ok hv with h0 | h0 | ⟨h1, h2, h3, h4, h5, h6, h7, h8, h9⟩
  · have h9 : y = 902 := h0.1
    omega
  · have h9 : y = 903 := h0.1
    omega
  · subst hg
    have hpl : e.platform.magicAccessors = ({} : Platform).magicAccessors := by rw [X.admits.platform]
    have hcode : (Cond.code (mN y) (mC y) (mL y) none).before args s = true := by
      obtain ⟨-, -, q3, -⟩ := mdc_ok h1 h2
      rcases q3 with ⟨-, q⟩ | ⟨_, _, _, q, -⟩
      · rw [← h6]; exact hK.wd q
      · have h7' : mH y = [] := h7
        rw [h7'] at q; cases q
    refine ⟨h1, h2, ?_⟩
    rcases h9 with hl | ⟨host, hl⟩
    · obtain ⟨mk, methM, cM, kP, vm₁, hnamed, hmethM, hcodeM, -, hlocalsM, -, hkP, -, hW₁, st⟩ := Steps.initColdArgs (e := e) X.here hexec X.warmed hpl hown h5 h3 (hK.wd hl) (hK.wd (args := args) h8) hcode (f := g) rfl (fun sig hs => hn.trans (par_len h4 hs)) hst hd
      exact ⟨vm₁, mk, hnamed, hW₁, X.noted hW₁, st⟩
    · obtain ⟨mk, methM, cM, kP, vm₁, hnamed, hmethM, hcodeM, -, hlocalsM, -, hkP, -, hW₁, st⟩ := Steps.initColdArgsNest (e := e) X.here hexec X.warmed hpl hown h5 h3 (va_Nw.use rfl (hK.2.1 _ hl rfl)) (hK.wd (args := args) h8) hcode (f := g) rfl (fun sig hs => hn.trans (par_len h4 hs)) hst hd
      exact ⟨vm₁, mk, hnamed, hW₁, X.noted hW₁, st⟩
theorem hop_V (X : Stand p l e R s m args below meth c T locs cells slots) (hexec : p.tables.exec = Jvm.exec) {k i n y a : Nat} {tb : List (Nat × Nat)} (hown : s.vm.findClass (onm (mO k)) = some m.cls) (hK : KW D E s) (hR : Rp D s h T.heap) (hv : vres (mO k) i = some (n, tb)) (hlk : lk tb (Tg h a) = some y) (hy : y < 900) {g : JFrame} (hg : g.method = m) {as rest : List Value} (hst : g.stack = as.reverse ++ .ref a :: rest) (hn : as.length = n) (hd : decode c.code g.pc = .ok (.invokevirtual i, 3)) : y < 342 ∧ mN y ≠ lawN ∧ Hop p l e R s m args below meth c T locs cells slots g rest y (Value.ref a :: as).toArray := by
  have hm : (Tg h a, y) ∈ tb := lk_mem hlk
  rcases cv_ok hv with h0 | ⟨x, h1, h2, h3⟩
  · have h9 : y = 901 := (h0.2.1 _ hm).1
    omega
  · rcases h3 with ⟨hl, h3⟩ | ⟨host, hl, h3⟩
    · obtain ⟨k1, k2, k3, k4⟩ := h3 _ hm
      obtain ⟨cell, c1, c2, c3⟩ := rp_cls hR hK (k3.elim Or.inl (fun q => Or.inr (q.elim Or.inl (fun q => Or.inr (Or.inl q)))))
      refine ⟨k1, k2, ?_⟩
      rcases k4 with ⟨r1, r2, r3, r4⟩ | ⟨r1, r2, r3, r4⟩
      · have r1 : mN y = x := r1
        subst r1
        obtain ⟨mk, hnm, methk, ck, g1, g2, g3, g4, g5, g6, g7, g8⟩ := mf_of hK k1 k2
        obtain ⟨mk', methM, hnamed, hmethM, hstM, habM⟩ := Cond.instanceMethod_spec (hK.wd (args := args) r3)
        cases hnm.symm.trans hnamed
        cases g1.symm.trans hmethM
        obtain ⟨c2', r2', m2, q1, q2, q3, q4, kP, hkP, hkPi⟩ := Cond.selects_spec (hK.wd (args := args) r2)
        cases c3.symm.trans q1
        cases (State.methodFound?_of_named hnamed h1).symm.trans q2
        cases hnamed.symm.trans q3
        have hselP : selectMethod e.platform s.vm cell.cls mk = .method mk := by rw [Launch.admits_selectMethod X.admits]; exact q4
        obtain ⟨vm₁, X₁, st⟩ := X.invokevirtual hexec hown (hK.wd hl) hnamed hmethM hstM hkP hkPi h1 (a := a) (cell := cell) c1 (fun z hz => by rw [hz] at c2; cases c2) hselP hmethM habM hkP hkPi (g := g) hg (argsL := as) (rest := rest) (hn.trans (par_len h2 g7)) hst hd
        exact ⟨vm₁, mk, hnm, X₁.warmed, X₁, st⟩
      · have hdecl : va_Decl s ⟨x.cls, x.name, x.desc⟩ := by
          rcases r2 with q | ⟨q, b, mm, r, q2⟩
          · exact va_Decl.abs (x := x) (hK.2.1 _ q rfl)
          · exact va_Decl.of (x := x) (hK.wd (args := #[]) q) (hK.wd (args := #[]) q2)
        obtain ⟨r0, r, hn0, hrm, hstR, hsigR⟩ := hdecl
        obtain ⟨cn, ck, r1', hcn, hck, hni, hf, hn1⟩ := Cond.sameMethod_found (hK.wd (args := #[]) r1)
        cases hn0.symm.trans hn1
        obtain ⟨mk, methM, hnamed, hmethM, -, habM⟩ := Cond.instanceMethod_spec (hK.wd (args := #[]) r4)
        obtain ⟨c2', r2', m2, q1, q2, q3, q4, kP, hkP, hkPi⟩ := Cond.selects_spec (hK.wd (args := #[]) r3)
        cases c3.symm.trans q1
        cases hf.symm.trans q2
        cases hnamed.symm.trans q3
        have hselP : selectMethod e.platform s.vm cell.cls r0 = .method mk := by rw [Launch.admits_selectMethod X.admits]; exact q4
        obtain ⟨vm₁, X₁, st⟩ := X.invokevirtualUp hexec hown (hK.wd hl) (hK.wd r1) h1 hn0 hrm hstR (a := a) (cell := cell) c1 (fun z hz => by rw [hz] at c2; cases c2) hselP hmethM habM hkP hkPi (g := g) hg (argsL := as) (rest := rest) (hn.trans (par_len h2 hsigR)) hst hd
        exact ⟨vm₁, mk, hnamed, X₁.warmed, X₁, st⟩
    · obtain ⟨k1, k2, k3, r1, r2, r3⟩ := h3 _ hm
      obtain ⟨cell, c1, c2, c3⟩ := rp_cls hR hK (k3.elim Or.inl (fun q => Or.inr (q.elim Or.inl (fun q => Or.inr (Or.inl q)))))
      refine ⟨k1, k2, ?_⟩
      have r1 : mN y = x := r1
      subst r1
      obtain ⟨mk, hnm, methk, ck, g1, g2, g3, g4, g5, g6, g7, g8⟩ := mf_of hK k1 k2
      obtain ⟨mk', methM, hnamed, hmethM, hstM, habM⟩ := Cond.instanceMethod_spec (hK.wd (args := args) r3)
      cases hnm.symm.trans hnamed
      cases g1.symm.trans hmethM
      obtain ⟨c2', r2', m2, q1, q2, q3, q4, kP, hkP, hkPi⟩ := Cond.selects_spec (hK.wd (args := args) r2)
      cases c3.symm.trans q1
      cases (State.methodFound?_of_named hnamed h1).symm.trans q2
      cases hnamed.symm.trans q3
      have hselP : selectMethod e.platform s.vm cell.cls mk = .method mk := by rw [Launch.admits_selectMethod X.admits]; exact q4
      obtain ⟨vm₁, X₁, st⟩ := X.invokevirtualNest hexec hown (va_Nw.use rfl (hK.2.1 _ hl rfl)) hnamed hmethM hstM hkP hkPi h1 (a := a) (cell := cell) c1 (fun z hz => by rw [hz] at c2; cases c2) hselP hmethM habM hkP hkPi (g := g) hg (argsL := as) (rest := rest) (hn.trans (par_len h2 g7)) hst hd
      exact ⟨vm₁, mk, hnm, X₁.warmed, X₁, st⟩
end
