/-! THE MAIN THEOREM OF THE ABSTRACT MACHINE -/
set_option maxRecDepth 100000
/-- what is known in a method's walk -/
def Cx (p : Program) (e : Env) (R : Room) (s : State) (m : MethodId) (meth : Method) (c : Code) (D : va_G) (E : Nat → Nat) (k d b0 c0 s0 : Nat) : Prop :=
  p.tables.exec = Jvm.exec ∧ c.code = mC k ∧ c.maxLocals = mL k ∧ s.vm.findClass (onm (mO k)) = some m.cls ∧ meth.name = (mN k).name ∧ KW D E s ∧ Sx E b0 s s.heap ∧ e.platform.stackTraces = false ∧ (601024 ≤ c0 + R.cells ∧ 7293034 ≤ s0 + R.slots) ∧ meth.sig.returnType = mR k ∧ meth.locks = false ∧ d + 5 ≤ R.frames ∧ 60 * d + 100 ≤ R.locals ∧
  ((mH k = [] ∧ c.exceptionTable.isEmpty = true) ∨ (∃ (i : Nat) (C : String) (t : Nat × Nat × Nat × Nat), mH k = [(t.1, t.2.1, t.2.2.1, t.2.2.2)] ∧ c.exceptionTable.toList.map (fun h => (h.startPc, h.endPc, h.handlerPc, h.catchType)) = [(t.1, t.2.1, t.2.2.1, i)] ∧ 0 < i ∧ Cond.classLink (onm (mO k)) i C ∈ lw_all ∧ tNm t.2.2.2 = C ∧ (clf t.2.2.2).isSome = true))
theorem snd_all : ∀ (n d k pc : Nat) (ls st : List Value) (h : AH) (r : Rs) (h' : AH), exec n d k pc ls st h = some (r, h') → Rh h → ∀ {p : Program} {l : Launch} {e : Env} {R : Room} {s : State} {m : MethodId} {args : Array Value} {below : List Frame} {meth : Method} {c : Code} {H : Heap} {locs : List Loc} {cells slots : Nat} {D : va_G} {E : Nat → Nat} {b0 c0 s0 : Nat} {A : Array Slot},
    Cx p e R s m meth c D E k d b0 c0 s0 → Iv D E k b0 c0 s0 s h H locs cells slots ls A → W p l e R s m args below meth c H locs cells slots (Fq D E b0 c0 s0 below s r h') (F0 m pc A st) := by
  intro n
  induction n with
  | zero => intro d k pc ls st h r h' hx; simp [exec] at hx
  | succ n ih =>
    intro d k pc ls st h r h' hx hrm p l e R s m args below meth c H locs cells slots D E b0 c0 s0 A hCx hI
    obtain ⟨x1, x2, x3, x4, x5, x6, x7, x8, x9, x10, x11, x12, x13, x14⟩ := id hCx
    rw [exec] at hx
    split at hx
    · cases hx
    · rename_i ins len hd
      by_cases hl : lenOk ins len = true
      · rw [if_pos hl] at hx
        split at hx
        · cases hx
        · rename_i pc' ls' st' h1 hs
          exact sd_all x1 x2 x4 x5 x6 x9 hI hd hl hs (fun H' locs' cells' slots' A' hI' => ih _ _ _ _ _ _ _ _ hx (stp_room hrm hs) hCx hI')
        · rename_i r0 hs
          cases hx
          refine sd_ret x1 x2 x10 x11 (fun hh => ?_) hI hd hl hs
          rcases x14 with q | ⟨_, _, _, q, -⟩
          · exact q.2
          · rw [hh] at q; cases q
        · rename_i y as rest h1 hs
          obtain ⟨rfl, hle, rfl, hcase⟩ := stp_call hl hs
          by_cases hy : 900 ≤ y
          · rw [if_pos hy] at hx
            split at hx
            · cases hx
            · rename_i v h2 hz
              have hr2 : Rh h2 := by
                obtain ⟨-, e1, e2⟩ := prim_inl hz
                exact ⟨by rw [e1]; exact hrm.1, by rw [e2]; exact hrm.2⟩
              have kk : Gk p l e R s m args below meth c (Fq D E b0 c0 s0 below s r h') D E k b0 c0 s0 (pc + 3, ls, v.toList ++ rest, h2) := fun H' locs' cells' slots' A' hI' => ih _ _ _ _ _ _ _ _ hx hr2 hCx hI'
              rcases hcase with ⟨i, tb, a, xs, rfl, hv, hlk, rfl, rfl⟩ | ⟨i, rfl, hv, rfl⟩ | ⟨i, a, xs, rfl, hv, rfl, rfl⟩
              · have h901 : y = 901 := by
                  rcases cv_ok hv with ⟨-, q, -⟩ | ⟨_, -, -, q⟩
                  · exact (q _ (lk_mem hlk)).1
                  · rcases q with ⟨-, q⟩ | ⟨_, -, q⟩
                    · have : y < 342 := (q _ (lk_mem hlk)).1
                      omega
                    · have : y < 342 := (q _ (lk_mem hlk)).1
                      omega
                subst h901
                simp only [prim] at hz
                rw [if_neg (by decide), if_pos trivial] at hz
                split at hz
                · cases hz
                  exact sd_getC x1 x2 x3 x4 x6 hI hd hv hlk hle (by omega) (by omega) kk
                · cases hz
              · have h900 : y = 900 := by
                  rcases cs_ok hv with q | q
                  · exact q.1
                  · have : y < 342 := q.1
                    omega
                subst h900
                exact sd_copy x1 x2 x3 x4 x6 hI hd hv hz hle (by omega) (by omega) kk
              · have h902 : y = 902 ∨ y = 903 := by
                  rcases ci_ok hv with q | q | q
                  · exact Or.inl q.1
                  · exact Or.inr q.1
                  · have : y < 342 := q.1
                    omega
                rcases h902 with rfl | rfl
                · exact sd_thr x1 x2 x3 x4 x6 x7 x8 hI hd hv hz hle (by omega) (by omega) kk
                · exact sd_obj x1 x2 x3 x4 x6 hI hd hv hz hle (by omega) (by omega) kk
            · rename_i a h2 hz
              obtain ⟨⟨v, q⟩, -⟩ := prim_inl hz
              cases q
          · rw [if_neg hy] at hx
            by_cases h0 : d = 0 ∨ mL y < (slA as).length
            · rw [if_pos h0] at hx
              cases hx
            rw [if_neg h0] at hx
            -- the call
            intro T hT X
            have hop : y < 342 ∧ mN y ≠ lawN ∧ Hop p l e R s m args below meth c T locs cells slots (F0 m pc A st) rest y as.toArray := by
              rcases hcase with ⟨i, tb, a, xs, rfl, hv, hlk, rfl, rfl⟩ | ⟨i, rfl, hv, rfl⟩ | ⟨i, a, xs, rfl, hv, rfl, rfl⟩
              · exact hop_V X x1 x4 x6 (by rw [hT]; exact hI.1) hv hlk (by omega) rfl rfl rfl (by rw [x2]; exact hd)
              · exact hop_S X x1 x4 x6 hv (by omega) rfl rfl rfl (by rw [x2]; exact hd)
              · exact hop_I X x1 x4 x6 hv (by omega) rfl rfl rfl (by rw [x2]; exact hd)
            obtain ⟨hy1, hy2, vm₁, mk, hnm, hW₁, X₁, stp1⟩ := hop
            obtain ⟨mk', hnm', methk, ck, g1, g2, g3, g4, g5, g6, g7, g8⟩ := mf_of x6 hy1 hy2
            cases hnm.symm.trans hnm'
            obtain ⟨m1, m2, -, m4⟩ := mdc_ok hy1 hy2
            have hcat := cat_le rest
            have hC := hI.2.2.2.1
            have hSl := hI.2.2.2.2.1
            have hr1 := hrm.1
            have hr2 := hrm.2
            have hg1' : (T.setVm vm₁).vm.method? mk = some methk := by rw [X₁.warmed.alike.method?]; exact g1
            obtain ⟨Y, hdo⟩ := X₁.into (g := F0 m pc A rest) rfl (by rw [x3]; exact hI.2.2.1.1) (by rw [x2]; exact hd) as.toArray (mk := mk) (R' := { frames := R.frames - 1, cells := R.cells - cells, slots := R.slots - slots, locals := R.locals - 60 }) hg1' g2 g6
              (State.plainMethod.of_named m1 (X₁.named hnm) hg1') (by show R.frames - 1 + 1 ≤ _; omega) (by show 2 * 0 + (rest.map fun v => v.category).sum + (ck.maxLocals + 11) + (R.locals - 60) ≤ _; rw [g4]; omega) (by show cells + (R.cells - cells) ≤ _; omega) (by show slots + (R.slots - slots) ≤ _; omega)
            have hWs : s.WarmedH ((T.setVm vm₁).calling (F0 m pc A rest) mk as.toArray).vm := hW₁
            have hHs : ((T.setVm vm₁).calling (F0 m pc A rest) mk as.toArray).heap = H := hT
            have hCx' : Cx p e { frames := R.frames - 1, cells := R.cells - cells, slots := R.slots - slots, locals := R.locals - 60 } ((T.setVm vm₁).calling (F0 m pc A rest) mk as.toArray) mk methk ck D E y (d - 1) b0 (Nc h1) (Ns h1) := by
              refine ⟨x1, g3, g4, ?_, (name_of_methodNamed hnm g1).1, x6.moved hWs, ?_, x8, ⟨by show _ ≤ Nc h1 + (R.cells - cells); omega, by show _ ≤ Ns h1 + (R.slots - slots); omega⟩, g5, g6, by show d - 1 + 5 ≤ R.frames - 1; omega, by show 60 * (d - 1) + 100 ≤ R.locals - 60; omega, g8⟩
              · rw [m4, hWs.alike.findClass]; exact findClass_of_methodNamed hnm
              · rw [hHs]; exact hI.2.1.moved hWs.alike
            have hI' : Iv D E y b0 (Nc h1) (Ns h1) ((T.setVm vm₁).calling (F0 m pc A rest) mk as.toArray) h1 H [] 0 0 (ent y as) ((lg_sl as ++ List.replicate (mL y - (lg_sl as).length) Slot.unset).toArray) :=
              ⟨hI.1.moved hWs.alike, hI.2.1.moved hWs.alike, LR.entry (by omega), rfl, rfl, (fun q hq => by cases hq), hI.2.2.2.2.2.2.1, hI.2.2.2.2.2.2.2⟩
            -- what the callee does
            have callee : ∀ r2 h2, exec n (d - 1) y 0 (ent y as) [] h1 = some (r2, h2) → ∃ t, (∀ acts, Steps p.tables e below (doInvoke e ((T.setVm vm₁).setTop (F0 m pc A rest)) acts mk as.toArray).1 t) ∧ Fq D E b0 (Nc h1) (Ns h1) (.java (F0 m pc A rest) :: below) ((T.setVm vm₁).calling (F0 m pc A rest) mk as.toArray) r2 h2 t := by
              intro r2 h2 hz
              obtain ⟨t, a1, a2⟩ := ih _ _ _ _ _ _ _ _ hz hrm hCx' hI' (l := l) (args := as.toArray) (below := .java (F0 m pc A rest) :: below) (((T.setVm vm₁).setTop (F0 m pc A rest)).pushFrame (.java (entryFrame mk as.toArray ck.maxLocals))) (by rw [← hT]; simp [State.pushFrame, State.setFrames, State.setTop, State.modifyTopJava]) Y
              refine ⟨t, fun acts => ?_, a2⟩
              rw [hdo acts]
              refine Steps.weaken (mid := [.java (F0 m pc A rest)]) ?_
              rw [g4, lg_entry_eq]
              rw [g4, lg_entry_eq] at a1
              exact a1
            split at hx
            · cases hx
            · rename_i v h2 hz
              obtain ⟨t, a1, L, kc, kn, f1, f2, f3, f4, f5, f6, f7, f8, f9, f10, f11⟩ := callee _ _ hz
              obtain ⟨T', X', w1, w2, w3⟩ := X₁.outOf (g := F0 m pc A rest) rfl (by rw [x2]; exact hd) (v := v) f2 f3 f4
              have hth : t.heap = T'.heap := by rw [w3]; simp [State.setTop, State.modifyTopJava]
              have hI2 : Iv D E k b0 c0 s0 s h2 T'.heap (locs ++ L) (cells + kc) (slots + kn) ls A := by
                refine ⟨?_, ?_, hI.2.2.1, by rw [f8, hC]; omega, by rw [f9, hSl]; omega, fun q hq => ?_, f10, f11⟩
                · rw [← hth]; exact f6.moved hWs.alike.symm
                · rw [← hth]; exact f7.moved hWs.alike.symm
                · rcases List.mem_append.mp hq with z | z
                  · exact hI.2.2.2.2.2.1 q z
                  · exact f5 q z
              obtain ⟨t2, b1, b2⟩ := ih _ _ _ _ _ _ _ _ hx (exec_room _ _ _ _ _ _ _ _ _ hz hrm) hCx hI2 (l := l) (args := args) (below := below) T' rfl X'
              refine ⟨t2, stp1 t2 (fun acts => (a1 acts).trans ?_), b2⟩
              rw [w3]
              exact b1
            · rename_i a h2 hz
              obtain ⟨t, a1, L, kc, kn, f1, f2, f3, f4, f5, f6, f7, f8, f9, f10, f11⟩ := callee _ _ hz
              obtain ⟨T', X', w1, w2, w3⟩ := X₁.outOfThrown (g := F0 m pc A rest) rfl (x := a) f2 f3 f4
              have hth : t.heap = T'.heap := by rw [w3]; exact Stand.throwing_heap T' _ a
              have hI2 : Iv D E k b0 c0 s0 s h2 T'.heap (locs ++ L) (cells + kc) (slots + kn) ls A := by
                refine ⟨?_, ?_, hI.2.2.1, by rw [f8, hC]; omega, by rw [f9, hSl]; omega, fun q hq => ?_, f10, f11⟩
                · rw [← hth]; exact f6.moved hWs.alike.symm
                · rw [← hth]; exact f7.moved hWs.alike.symm
                · rcases List.mem_append.mp hq with z | z
                  · exact hI.2.2.2.2.2.1 q z
                  · exact f5 q z
              by_cases hh : mH k = []
              · rw [if_pos hh] at hx
                cases hx
                have hem : c.exceptionTable = #[] := by
                  rcases x14 with q | ⟨_, _, _, q, -⟩
                  · simpa using q.2
                  · rw [hh] at q; cases q
                obtain ⟨y1, y2, y3, y4, y5⟩ := X'.leaveThrown a (g := F0 m pc A rest) rfl rfl rfl (fun z hz0 => by rw [hem] at hz0; cases hz0) x11
                refine ⟨_, stp1 _ (fun acts => (a1 acts).trans ?_), locs ++ L, cells + kc, slots + kn, y2, y3, y4, y5, hI2.2.2.2.2.2.1, ?_, ?_, hI2.2.2.2.1, hI2.2.2.2.2.1, f10, f11⟩
                · rw [w3]; exact y1
                · exact hI2.1
                · exact hI2.2.1
              · rw [if_neg hh] at hx
                split at hx
                · rename_i q hq
                  rcases x14 with z | ⟨i, C, tt, z1, z2, z3, z4, z5, z6⟩
                  · exact absurd z.1 hh
                  -- the handler
                  unfold hnd at hq
                  rw [z1] at hq
                  simp only [List.find?_cons, List.find?_nil] at hq
                  split at hq
                  · rename_i e0 he0
                    split at he0
                    · rename_i hcov
                      cases he0
                      split at hq
                      · rename_i htt
                        cases hq
                        obtain ⟨xe, hxe⟩ : ∃ xe, c.exceptionTable.toList = [xe] := by
                          cases hc : c.exceptionTable.toList with
                          | nil => rw [hc] at z2; cases z2
                          | cons u us =>
                            rw [hc] at z2
                            cases us with
                            | nil => exact ⟨u, rfl⟩
                            | cons u2 us2 => simp at z2
                        rw [hxe] at z2
                        simp only [List.map_cons, List.map_nil, List.cons.injEq, Prod.mk.injEq, and_true] at z2
                        obtain ⟨za, zb, zc, zd⟩ := z2
                        have htt : tt.2.2.2 = Tg h2 a := htt
                        obtain ⟨cell, o1, o2, o3⟩ := rp_cls hI2.1 x6 (Or.inl (by rw [← htt]; exact z6))
                        rw [← htt, z5] at o3
                        have hpl : e.platform.magicAccessors = ({} : Platform).magicAccessors := by rw [X'.admits.platform]
                        obtain ⟨cC, hfC, hcl⟩ := Cond.classLink_spec x4 (x6.wd (args := args) z4) e.platform hpl
                        cases o3.symm.trans hfC
                        obtain ⟨hg₁, hwarm₁, hready₁⟩ := State.classEntry (e := e) X'.warmed hcl
                        generalize hvm2 : T'.vm.noted m.cls i (.cls cell.cls) = vm₂ at hg₁ hwarm₁ hready₁
                        obtain ⟨kC, hkC⟩ := Vm.classAt_of_findClass o3
                        obtain ⟨kC', hkC', -⟩ := hwarm₁.alike.2.2 _ _ hkC
                        have hsz : vm₂.classes.size ≤ T'.vm.classes.size := by rw [← hvm2, Vm.size_note]; exact Nat.le_refl _
                        have hasg : vm₂.assignable cell.cls cell.cls = true := by
                          show vm₂.assignableAux (255 + 1) cell.cls cell.cls = true
                          rw [Vm.assignableAux, beq_self_eq_true, Bool.true_or]
                        have hfind : FindsW e ((T'.setTop (F0 m pc A rest)).pushFrame (.throwing a)) (F0 m pc A rest) a (.found tt.2.2.1) vm₂ := by
                          intro Q E0 d0 acts
                          rw [W.findHandler_eq (meth := meth) (code := c) (by rw [Stand.throwing_vm]; exact X'.method') X'.code, hxe, ← zc]
                          refine go_cold (c := cell.cls) (cell := cell) ?_ (by omega) ?_ (by rw [Stand.throwing_vm]; exact hsz) (by rw [Stand.throwing_heap]; exact o1) (fun z hz0 => by rw [hz0] at o2; cases o2) ⟨_, hkC'⟩ ⟨_, hkC'⟩ hasg
                          · simp only [covers, za, zb]; exact hcov
                          · rw [zd, Stand.throwing_vm]; exact hg₁
                        have X₃ := X'.noted hwarm₁
                        obtain ⟨t2, b1, b2⟩ := ih _ _ _ _ _ _ _ _ hx (exec_room _ _ _ _ _ _ _ _ _ hz hrm) hCx hI2 (l := l) (args := args) (below := below) (T'.setVm vm₂) rfl X₃
                        refine ⟨t2, stp1 t2 (fun acts => (a1 acts).trans ?_), b2⟩
                        rw [w3]
                        exact caughtW (g := F0 m pc A rest) X'.here hfind b1
                      · cases hq
                    · cases he0
                  · cases hq
                · cases hx
      · rw [if_neg hl] at hx
        cases hx
