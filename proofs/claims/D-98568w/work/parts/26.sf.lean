/-! FIELDS: getfield and putfield of the abstract machine are done by the real one -/
set_option maxRecDepth 100000
theorem fCl_big {f t : Nat} (h : t ∈ fCl f) : f < 202 := by
  by_cases q : f < 202
  · exact q
  · unfold fCl at h
    rw [if_neg (by omega)] at h
    unfold List.getD at h
    rw [List.getElem?_eq_none (by show 183 ≤ f; omega)] at h
    simp at h
theorem fCl_old0 : (List.range 202).all (fun f => fTh f || (fCl f).all (fun t => (clf t).isSome || decide ((t = 45 ∧ (f = 200 ∨ f = 201)) ∨ (t = 155 ∧ f = 182)))) = true := by decide +kernel
theorem fCl_old {f t : Nat} (h : t ∈ fCl f) (ht : fTh f = false) (hn : clf t = none) : (t = 45 ∧ (f = 200 ∨ f = 201)) ∨ (t = 155 ∧ f = 182) := by
  have h1 := List.all_eq_true.mp fCl_old0 f (List.mem_range.mpr (fCl_big h))
  rw [ht, Bool.false_or] at h1
  have h2 := List.all_eq_true.mp h1 t h
  rw [hn] at h2
  exact of_decide_eq_true h2
theorem rdF_trk {h : AH} {f a : Nat} : trk (rdF h f a) = true := by
  unfold rdF
  split
  · rfl
  · cases Fr h f a <;> rfl
  · rfl
section
variable {p : Program} {l : Launch} {e : Env} {R : Room} {s : State} {m : MethodId} {args : Array Value} {below : List Frame} {meth : Method} {c : Code} {H : Heap} {locs : List Loc} {cells slots : Nat} {Q : State → Prop}
variable {D : va_G} {E : Nat → Nat} {k b0 c0 s0 pc : Nat} {ls st : List Value} {h : AH} {A : Array Slot} {z : Zz}
theorem sd_getF {i : Nat} (hx : p.tables.exec = Jvm.exec) (hb : c.code = mC k) (hown : s.vm.findClass (onm (mO k)) = some m.cls) (hK : KW D E s) (hI : Iv D E k b0 c0 s0 s h H locs cells slots ls A) (hs : getF k pc ls st h i = some (.inl z)) (hd : decode (mC k) pc = .ok (.getfield i, 3)) (kk : Gk p l e R s m args below meth c Q D E k b0 c0 s0 z) : W p l e R s m args below meth c H locs cells slots Q (F0 m pc A st) := by
  unfold getF at hs
  split at hs
  · rename_i f a st0 hf
    split at hs
    · rename_i hc
      cases hs
      obtain ⟨hc1, hc2⟩ := hc
      obtain ⟨ref, nm, ds, hlink, hF, hfin, h200, h201, h182⟩ := fl_ok hf
      obtain ⟨hR, hI2⟩ := id hI
      have kk' := kk H locs cells slots A hI
      cases hq : clf (Tg h a) with
      | some q =>
        obtain ⟨j, hj, hjf, hnm, hds, hsame⟩ := hF _ q hq hc1
        obtain ⟨V, ⟨cell, q1, q2, q3, q4⟩, hV, -⟩ := hR.2.1 a q hq
        obtain ⟨hS, hfc, kC, hkC, hkind⟩ := hK.2.2.1 _ q hq
        obtain ⟨cf, kf, fi, fd, hi, hsl⟩ := hS j hj
        have hcl := cl_ok hq
        have hst := (u_facts hfc hkC (u_lays (args := args) (fun w hw => hK.wd hw) hcl.1 hj) hi).1
        rw [hnm, hds] at hi
        have hi' : s.fieldFound? ref nm ds = some (cf, kf, fi, fd) := by
          rcases hsame with q0 | q0
          · rw [← q0]; exact hi
          · exact u_same (hK.wd (args := args) q0.2) _ hi
        have hslot : cell.slots[fd.slot]? = some (rdF h f a) := by
          rw [hsl, q4 j hj, hV j hj (by rw [hjf]; exact hc2), hjf]
        rcases hlink with hl | ⟨host, hl⟩
        · exact W.getf hx hb hown (hK.wd hl) hi' hst q1 (by rw [q3]; exact fun z => by cases z) hslot rfl rfl hd kk'
        · exact va_Wgetf hx hb hown (va_Nw.use rfl (hK.2.1 _ hl rfl)) hi' hst q1 (by rw [q3]; exact fun z => by cases z) hslot rfl rfl hd kk'
      | none =>
        rcases fCl_old hc1 hc2 hq with ⟨e1, e2⟩ | ⟨e1, e2⟩
        · obtain ⟨cell, g1, g2, g3, g4, g5⟩ := hR.2.2.1 a e1
          rcases e2 with rfl | rfl
          · obtain ⟨rfl, rfl, rfl⟩ := h200 rfl
            obtain ⟨cf, k0, i0, fd, u1, u2, u3⟩ := g5 ("value", "[B", 200) (by simp [strF])
            rcases hlink with hl | ⟨host, hl⟩
            · exact W.getf hx hb hown (hK.wd hl) u1 u2 g1 g3 u3 rfl rfl hd kk'
            · exact va_Wgetf hx hb hown (va_Nw.use rfl (hK.2.1 _ hl rfl)) u1 u2 g1 g3 u3 rfl rfl hd kk'
          · obtain ⟨rfl, rfl, rfl⟩ := h201 rfl
            obtain ⟨cf, k0, i0, fd, u1, u2, u3⟩ := g5 ("coder", "B", 201) (by simp [strF])
            rcases hlink with hl | ⟨host, hl⟩
            · exact W.getf hx hb hown (hK.wd hl) u1 u2 g1 g3 u3 rfl rfl hd kk'
            · exact va_Wgetf hx hb hown (va_Nw.use rfl (hK.2.1 _ hl rfl)) u1 u2 g1 g3 u3 rfl rfl hd kk'
        · obtain ⟨cell, g1, g2, g3, g4, g5⟩ := hR.2.2.2.1 a e1
          subst e2
          obtain ⟨rfl, rfl, rfl⟩ := h182 rfl
          obtain ⟨cf, k0, i0, fd, u1, u2, u3⟩ := g5 ("value", "J", 182) (by simp [lngF])
          rcases hlink with hl | ⟨host, hl⟩
          · exact W.getf hx hb hown (hK.wd hl) u1 u2 g1 g3 u3 rfl rfl hd kk'
          · exact va_Wgetf hx hb hown (va_Nw.use rfl (hK.2.1 _ hl rfl)) u1 u2 g1 g3 u3 rfl rfl hd kk'
    · cases hs
  · cases hs
theorem narrow_b01 {v : Int32} (h : v = 0 ∨ v = 1) : narrow .boolean (.int v) = .int v ∧ fits .boolean (.int v) = true := by
  rcases h with rfl | rfl <;> decide
/-- the real store, whatever the kind: the new heap of the abstract machine is h' -/
theorem sd_put {i f a : Nat} {v : Value} {st0 : List Value} {h' : AH} (hx : p.tables.exec = Jvm.exec) (hb : c.code = mC k) (hown : s.vm.findClass (onm (mO k)) = some m.cls) (hnm : meth.name = (mN k).name) (hK : KW D E s) (hI : Iv D E k b0 c0 s0 s h H locs cells slots ls A) (hf : fres (mO k) i = some f)
    (ht : Tg h a ∈ fCl f ∧ Tg h a < 100 ∧ Tg h a ≠ 45) (hth : fTh f = false) (hw : fFn f = 0 ∨ (fFn f = mO k ∧ mI k = true)) (hty : ∀ ty, kdB (fKd f) ty = true → narrow ty v = v ∧ fits ty v = true) (hd : decode (mC k) pc = .ok (.putfield i, 3))
    (eT : Tg h' = Tg h) (eN : An h' = An h) (eX : Nx h' = Nx h) (eB : Bs h' = Bs h) (e5 : Ai h' = Ai h) (e6 : Al h' = Al h) (e7 : Ar h' = Ar h) (eC : Nc h' = Nc h) (eS : Ns h' = Ns h) (eE : Ev h' = Ev h) (r1 : rdF h' f a = v) (r2 : ∀ g b, ¬ (g = f ∧ b = a) → rdF h' g b = rdF h g b)
    (kk : Gk p l e R s m args below meth c Q D E k b0 c0 s0 (pc + 3, ls, st0, h')) : W p l e R s m args below meth c H locs cells slots Q (F0 m pc A (v :: .ref a :: st0)) := by
  obtain ⟨ref, nm, ds, hlink, hF, hfin, -, -, -⟩ := fl_ok hf
  obtain ⟨hR, hSx, hL, hC, hSl, hlo, hE, hB⟩ := hI
  cases hq : clf (Tg h a) with
  | none =>
    rcases fCl_old ht.1 hth hq with ⟨e1, e2⟩ | ⟨e1, e2⟩
    · exact absurd e1 ht.2.2
    · omega
  | some q =>
    obtain ⟨j, hj, hjf, hnm', hds, hsame⟩ := hF _ q hq ht.1
    obtain ⟨V, ⟨cell, q1, q2, q3, q4⟩, hV, -⟩ := hR.2.1 a q hq
    obtain ⟨hS, hfc, kC, hkC, hkind⟩ := hK.2.2.1 _ q hq
    obtain ⟨cf, kf, fi, fd, hi, hsl⟩ := hS j hj
    have hcl := cl_ok hq
    have hlays := u_lays (args := args) (fun w hw => hK.wd hw) hcl.1 hj
    have hst := (u_facts hfc hkC hlays hi).1
    have hk8 := hcl.2.2.2.2.2.2.2.1 j hj
    rw [hjf] at hk8
    have hpd := hcl.2.2.1 j hj
    obtain ⟨hnar, hfit⟩ := hty _ hk8.2.1
    have hap : ∀ x y, x < q.1.2.2 → y < q.1.2.2 → x ≠ y → D.2 (Tg h a) x ≠ D.2 (Tg h a) y := by
      intro x y hx' hy' hne
      obtain ⟨_, _, _, fa, hia, ea⟩ := hS x hx'
      obtain ⟨_, _, _, fb, hib, eb⟩ := hS y hy'
      rw [← ea, ← eb]
      refine u_apart (u_lays (args := args) (fun w hw => hK.wd hw) hcl.1 hx') (u_lays (args := args) (fun w hw => hK.wd hw) hcl.1 hy') hia hib ?_
      rw [(State.fieldFound?_type hia (hcl.2.2.1 x hx')).1, (State.fieldFound?_type hib (hcl.2.2.1 y hy')).1]
      exact hcl.2.1 x hx' y hy' hne
    have hba : b0 ≤ a := by rw [← hB]; exact hR.2.2.2.2.2.1 a (by rw [hq]; rfl)
    have go : ∀ H' : Heap, H'[a]? = some (cell.setSlot fd.slot v) → H'.size = H.size → (∀ b, b ≠ a → H'[b]? = H[b]?) → W p l e R s m args below meth c H' (locs ++ [⟨a, fd.slot⟩]) cells slots Q (F0 m (pc + 3) A st0) := by
      intro H' u1 u2 u3
      rw [hsl] at u1
      refine kk H' _ cells slots A ⟨hR.put hq hj hjf hap q1 u1 u2 u3 eT eN eX eB e5 e6 e7 r1 r2, hSx.kept (fun b hb' => u3 b (by omega)), hL, by rw [eC]; exact hC, by rw [eS]; exact hSl, fun x hx' => ?_, by rw [eE]; exact hE, by rw [eB]; exact hB⟩
      rcases List.mem_append.mp hx' with y | y
      · exact hlo x y
      · rw [List.mem_singleton] at y; subst y; exact hba
    have hlt : fd.slot < cell.slots.size := by rw [hsl]; exact k2_hasslot (q4 j hj)
    by_cases hfn : (q.1.2.1 j).2.2.2 = true
    · have hne : fFn f ≠ 0 := by have := hk8.2.2; rw [hfn] at this; exact of_decide_eq_true this.symm
      obtain ⟨w1, w2⟩ := hw.resolve_left hne
      have hlay := hK.wd (args := args) (hcl.1 _ (u_in_lay hj))
      unfold u_lay at hlay
      rw [if_pos hfn] at hlay
      have hin2 : meth.name = "<init>" := by rw [hnm]; exact eq_of_beq w2
      have h99 : fFn f ≠ 99 := by
        intro z
        have : ∀ x : Nat, x = 99 → onm x = "" := by rintro x rfl; rfl
        rw [z] at w1
        rw [← w1, this 99 rfl] at hown
        have hk := hfin hne
        have hm99 : mO k ≠ 99 := by
          intro zz
          have hkk : k < 342 ∨ 342 ≤ k := Nat.lt_or_ge _ _
          rcases hkk with y | y
          · exact absurd zz ((by decide +kernel : ∀ k, k < 342 → mO k ≠ 99) k y)
          · have : mtL[k]? = none := List.getElem?_eq_none (by show 342 ≤ k; exact y)
            simp [mO, mt, this] at zz
        exact hm99 w1.symm
      have href := hfin hne h99
      rcases hsame with q0 | q0
      · have hcf : m.cls = cf := by
          obtain ⟨_, _, c', _, _, _, -, -, hf', -, -, -, hown2, -⟩ := Cond.laysFinal_spec hlay
          have e1 : c' = cf := by have := hi.symm.trans hf'; simp at this; exact this.1.symm
          rw [q0, href, w1] at hown2
          rw [← e1]; exact Option.some.inj (hown.symm.trans hown2)
        have h6 := u_fits hfc hkC hkind (Or.inr hlay) hi hpd hnar hfit
        rw [hnm', hds, q0] at hi
        rcases hlink with hl | ⟨host, hl⟩
        · exact W.putFinK hx hb hown (hK.wd hl) hi hst hcf hin2 (by rw [q2]; exact h6) q1 q3 hlt rfl rfl hd go
        · exact va_Wputf hx hb hown (va_Nw.use rfl (hK.2.1 _ hl rfl)) hi hst (Or.inr ⟨hcf, hin2⟩) q1 (by rw [q3]; exact fun z => by cases z) hlt h6.1 (by rw [q2, q3]; exact h6.2) rfl rfl hd (go _ (by have hlt0 : a < H.size := (Array.getElem?_eq_some_iff.mp q1).1; show (Array.setIfInBounds H a _)[a]? = _; rw [Array.getElem?_setIfInBounds, if_pos rfl, if_pos hlt0]) (by simp) (fun b hb' => Array.getElem?_setIfInBounds_ne (Ne.symm hb')))
      · exact absurd q0.1 hne
    · have hfn : (q.1.2.1 j).2.2.2 = false := by cases e0 : (q.1.2.1 j).2.2.2 with | true => exact absurd e0 hfn | false => rfl
      have hlay := hK.wd (args := args) (hcl.1 _ (u_in_lay hj))
      unfold u_lay at hlay
      rw [if_neg (by rw [hfn]; decide)] at hlay
      have h6 := u_store hfc hkC hkind hlay hi hpd hnar hfit
      rw [hnm', hds] at hi
      have hi' : s.fieldFound? ref nm ds = some (cf, kf, fi, fd) := by
        rcases hsame with q0 | q0
        · rw [← q0]; exact hi
        · exact u_same (hK.wd (args := args) q0.2) _ hi
      rcases hlink with hl | ⟨host, hl⟩
      · exact W.putK hx hb (f := fd) ⟨hown, hK.wd hl, ⟨_, _, _, hi'⟩, hst⟩ (by rw [q2]; exact h6) q1 q3 hlt rfl rfl hd go
      · exact va_WputK hx hb (f := fd) hown (va_Nw.use rfl (hK.2.1 _ hl rfl)) hi' hst (by rw [q2]; exact h6) q1 q3 hlt rfl rfl hd go
end
