/-! THE ABSTRACT MACHINE IS SOUND -/
set_option maxRecDepth 100000
theorem takeA_inv : ∀ {n : Nat} {st acc as rest : List Value}, takeA n st acc = some (as, rest) → ∃ xs, as = xs ++ acc ∧ st = xs.reverse ++ rest ∧ xs.length = n
  | 0, st, acc, as, rest, h => by cases h; exact ⟨[], rfl, rfl, rfl⟩
  | n + 1, v :: st, acc, as, rest, h => by
    obtain ⟨xs, h1, h2, h3⟩ := takeA_inv (n := n) (show takeA n st (v :: acc) = _ from h)
    exact ⟨xs ++ [v], by rw [h1]; simp, by rw [h2]; simp, by simp [h3]⟩
  | n + 1, [], acc, as, rest, h => by cases h
theorem takeA_inv0 {n : Nat} {st as rest : List Value} (h : takeA n st [] = some (as, rest)) : st = as.reverse ++ rest ∧ as.length = n := by
  obtain ⟨xs, h1, h2, h3⟩ := takeA_inv h
  rw [List.append_nil] at h1
  subst h1
  exact ⟨h2, h3⟩
theorem stp_call {k pc len y : Nat} {ls st as rest : List Value} {h h' : AH} {ins : Instr} (hl : lenOk ins len = true) (hs : stp k pc ls st h ins len = some (.inr (.inr (y, as, rest, h')))) : h' = h ∧ rest.length ≤ 8 ∧ len = 3 ∧
    ((∃ i tb a xs, ins = .invokevirtual i ∧ vres (mO k) i = some (xs.length, tb) ∧ lk tb (Tg h a) = some y ∧ as = .ref a :: xs ∧ st = xs.reverse ++ .ref a :: rest) ∨ (∃ i, ins = .invokestatic i ∧ cres (mO k) i = some (as.length, y) ∧ st = as.reverse ++ rest) ∨ (∃ i a xs, ins = .invokespecial i ∧ ires (mO k) i = some (xs.length, y) ∧ as = .ref a :: xs ∧ st = xs.reverse ++ .ref a :: rest)) := by
  cases ins with
  | invokevirtual i =>
    obtain rfl : len = 3 := lenB hl
    simp only [stp, calV] at hs
    split at hs
    · rename_i n tb hv
      split at hs
      · rename_i xs a r0 ht
        split at hs
        · rename_i y0 hy
          split at hs
          · rename_i hle
            cases hs
            obtain ⟨e1, rfl⟩ := takeA_inv0 ht
            exact ⟨rfl, hle, rfl, Or.inl ⟨i, tb, a, xs, rfl, hv, hy, rfl, e1⟩⟩
          · cases hs
        · cases hs
      · cases hs
    · cases hs
  | invokestatic i =>
    obtain rfl : len = 3 := lenB hl
    simp only [stp, calS] at hs
    split at hs
    · rename_i n y0 hv
      split at hs
      · rename_i xs r0 ht
        split at hs
        · rename_i hle
          cases hs
          obtain ⟨e1, rfl⟩ := takeA_inv0 ht
          exact ⟨rfl, hle, rfl, Or.inr (Or.inl ⟨i, rfl, hv, e1⟩)⟩
        · cases hs
      · cases hs
    · cases hs
  | invokespecial i =>
    obtain rfl : len = 3 := lenB hl
    simp only [stp, calI] at hs
    split at hs
    · rename_i n y0 hv
      split at hs
      · rename_i xs a r0 ht
        split at hs
        · rename_i hle
          cases hs
          obtain ⟨e1, rfl⟩ := takeA_inv0 ht
          exact ⟨rfl, hle, rfl, Or.inr (Or.inr ⟨i, a, xs, rfl, hv, rfl, e1⟩)⟩
        · cases hs
      · cases hs
    · cases hs
  | _ => first | (simp [stp] at hs; done) | (simp only [stp, bi, bl, br, ldI, ldL, ldA, stI, stL, stA, cst, getF, putF, newA] at hs; repeat' first | (cases hs; done) | split at hs)
/-! room -/
abbrev Rh (h : AH) : Prop := Nc h ≤ 601024 ∧ Ns h ≤ 7293034
theorem stp_room {k pc len : Nat} {ls st : List Value} {h : AH} {ins : Instr} {z : Zz} (hr : Rh h) (hs : stp k pc ls st h ins len = some (.inl z)) : Rh z.2.2.2 := by
  cases ins with
  | new i =>
    simp only [stp] at hs
    split at hs
    · split at hs
      · rename_i q; cases hs; exact q
      · cases hs
    · cases hs
  | newarray a =>
    have key : ∀ kd, newA k pc 2 ls st h kd = some (.inl z) → Rh z.2.2.2 := by
      intro kd hs
      unfold newA at hs
      split at hs
      · split at hs
        · rename_i q; cases hs; exact q.2.2.2
        · cases hs
      · cases hs
    simp only [stp] at hs
    split at hs
    · exact key _ hs
    · exact key _ hs
    · exact key _ hs
    · cases hs
  | anewarray i =>
    simp only [stp] at hs
    split at hs
    · split at hs
      · unfold newA at hs
        split at hs
        · split at hs
          · rename_i q; cases hs; exact q.2.2.2
          · cases hs
        · cases hs
      · cases hs
    · cases hs
  | _ => first | (simp [stp] at hs; done) | (simp only [stp, bi, bl, br, ldI, ldL, ldA, stI, stL, stA, cst, getF, putF, calV, calS, calI] at hs; repeat' first | (cases hs; first | exact hr | done) | split at hs)
theorem stp_roomR {k pc len : Nat} {ls st : List Value} {h h' : AH} {ins : Instr} {r : Rs} (hs : stp k pc ls st h ins len = some (.inr (.inl (r, h')))) : h' = h := by
  cases ins with
  | _ => first | (simp [stp] at hs; done) | (simp only [stp, bi, bl, br, ldI, ldL, ldA, stI, stL, stA, cst, getF, putF, newA, calV, calS, calI] at hs; repeat' first | (cases hs; first | rfl | done) | split at hs)
theorem prim_inl {y : Nat} {as : List Value} {h h' : AH} {r : Rs} (hp : prim y as h = some (r, h')) : (∃ v, r = .inl v) ∧ Nc h' = Nc h ∧ Ns h' = Ns h := by
  unfold prim at hp
  repeat' first | (cases hp; exact ⟨⟨_, rfl⟩, rfl, rfl⟩) | (cases hp; done) | split at hp
theorem exec_room : ∀ (n d k pc : Nat) (ls st : List Value) (h : AH) (r : Rs) (h' : AH), exec n d k pc ls st h = some (r, h') → Rh h → Rh h' := by
  intro n
  induction n with
  | zero => intro d k pc ls st h r h' hx; simp [exec] at hx
  | succ n ih =>
    intro d k pc ls st h r h' hx hr
    rw [exec] at hx
    split at hx
    · cases hx
    · rename_i ins len hd
      by_cases hl : lenOk ins len = true
      · rw [if_pos hl] at hx
        split at hx
        · cases hx
        · rename_i pc' ls' st' h1 hs
          exact ih _ _ _ _ _ _ _ _ hx (stp_room hr hs)
        · rename_i r0 hs
          cases hx
          rw [stp_roomR hs]
          exact hr
        · rename_i y as rest h1 hs
          obtain ⟨rfl, -⟩ := stp_call hl hs
          have key : ∀ r2 h2, (if 900 ≤ y then prim y as h1 else if d = 0 ∨ mL y < (slA as).length then none else exec n (d - 1) y 0 (ent y as) [] h1) = some (r2, h2) → Rh h2 := by
            intro r2 h2 hz
            by_cases hy : 900 ≤ y
            · rw [if_pos hy] at hz
              obtain ⟨-, e1, e2⟩ := prim_inl hz
              exact ⟨by rw [e1]; exact hr.1, by rw [e2]; exact hr.2⟩
            · rw [if_neg hy] at hz
              by_cases h0 : d = 0 ∨ mL y < (slA as).length
              · rw [if_pos h0] at hz; cases hz
              · rw [if_neg h0] at hz; exact ih _ _ _ _ _ _ _ _ hz hr
          split at hx
          · cases hx
          · rename_i v h2 hz
            exact ih _ _ _ _ _ _ _ _ hx (key _ _ hz)
          · rename_i a h2 hz
            have := key _ _ hz
            by_cases hh : mH k = []
            · rw [if_pos hh] at hx; cases hx; exact this
            · rw [if_neg hh] at hx
              split at hx
              · exact ih _ _ _ _ _ _ _ _ hx this
              · cases hx
      · rw [if_neg hl] at hx
        cases hx
/-! a method's entry -/
theorem nl_c1 {v : Value} (h : nl v = true) : ¬ v.category = 2 := by cases v <;> first | (intro q; cases q; done) | cases h
theorem nl_c2 {v : Value} (h : ¬ nl v = true) : v.category = 2 := by cases v <;> first | rfl | exact absurd rfl h
theorem sl_len : ∀ vs : List Value, (slA vs).length = (lg_sl vs).length
  | [] => rfl
  | v :: vs => by
    have ih := sl_len vs
    unfold lg_sl at ih ⊢
    rw [List.flatMap_cons, List.length_append, slA]
    by_cases q : nl v = true
    · rw [if_pos q, if_neg (nl_c1 q)]
      simp only [List.length_cons, List.length_nil, ih]
      omega
    · rw [if_neg q, if_pos (nl_c2 q)]
      simp only [List.length_cons, List.length_nil, ih]
      omega
theorem sl_at : ∀ (vs : List Value) (i : Nat) (v : Value), (slA vs)[i]? = some v → trk v = true → (lg_sl vs)[i]? = some (.val v)
  | [], i, v, h, _ => by simp [slA] at h
  | w :: vs, i, v, h, ht => by
    unfold lg_sl
    rw [List.flatMap_cons]
    rw [slA] at h
    by_cases q : nl w = true
    · rw [if_pos q] at h
      rw [if_neg (nl_c1 q)]
      cases i with
      | zero => simp at h; subst h; rfl
      | succ i =>
        rw [List.getElem?_cons_succ] at h
        show (Slot.val w :: _)[i + 1]? = _
        rw [List.getElem?_cons_succ]
        exact sl_at vs i v h ht
    · rw [if_neg q] at h
      rw [if_pos (nl_c2 q)]
      cases i with
      | zero => simp at h; subst h; rfl
      | succ i =>
        rw [List.getElem?_cons_succ] at h
        cases i with
        | zero => simp at h; subst h; cases ht
        | succ i =>
          rw [List.getElem?_cons_succ] at h
          show (Slot.val w :: Slot.second :: _)[i + 1 + 1]? = _
          rw [List.getElem?_cons_succ, List.getElem?_cons_succ]
          exact sl_at vs i v h ht
theorem LR.entry {y : Nat} {vs : List Value} (h : (slA vs).length ≤ mL y) : LR (mL y) (ent y vs) ((lg_sl vs ++ List.replicate (mL y - (lg_sl vs).length) Slot.unset).toArray) := by
  have hl := sl_len vs
  obtain ⟨h1, h2, -⟩ := lv_entry vs (n := mL y) (by omega)
  refine ⟨h1, h2, by unfold ent; rw [List.length_append, List.length_replicate]; omega, fun i v hv ht => ?_⟩
  unfold ent at hv
  by_cases q : i < (slA vs).length
  · rw [List.getElem?_append_left q] at hv
    have := sl_at vs i v hv ht
    rw [List.getElem?_toArray, List.getElem?_append_left (by omega)]
    exact this
  · rw [List.getElem?_append_right (by omega), List.getElem?_replicate] at hv
    split at hv
    · cases hv; cases ht
    · cases hv
/-! a catch whose class may not be resolved yet -/
theorem go_cold {E : CtlPost} {e : Env} {d : Bool} {acts : List Action} {s : State} {f : JFrame} {a : Addr} {Q : Handler → Pre} {x : ExceptionTableEntry} {t : List ExceptionTableEntry} {c : ClassId} {cell : Cell} {vm' : Vm} (hx : covers x f.pc = true) (h0 : x.catchType ≠ 0)
    (hg : (Jvm.resolveClass f.method.cls x.catchType).Gives e.toSetting s.vm (.ok c) vm') (hsz : vm'.classes.size ≤ s.vm.classes.size) (hcell : s.heap[a]? = some cell) (hobj : ∀ k, cell.vm ≠ .statics k) (hk : ∃ k, vm'.classes[cell.cls]? = some k) (hc : ∃ k, vm'.classes[c]? = some k) (hfit : vm'.assignable cell.cls c = true) :
    wp (findHandler.go f a (x :: t)) Q E e d acts s ↔ Q (.found x.handlerPc) d acts (s.setVm vm') := by
  simp only [covers] at hx
  obtain ⟨ha, ht⟩ := hg.op (op := VmOp.resolveClass f.method.cls x.catchType) rfl
  simp [findHandler.go, hx, h0, ha, ht, hsz, hcell, hobj, hk, hc, hfit, VmOp.dirties, VmOp.acts]
def FindsW (e : Env) (s : State) (f : JFrame) (a : Addr) (h : Handler) (vm' : Vm) : Prop :=
  ∀ (Q : Handler → Pre) (E : CtlPost) (d : Bool) (acts : List Action), wp (findHandler f a) Q E e d acts s ↔ Q h d acts (s.setVm vm')
theorem step_catchW {e : Env} {s : State} {a : Addr} {f : JFrame} {r : List Frame} {pc : Nat} {vm' : Vm} (hfind : FindsW e s f a (.found pc) vm') :
    (stepThrowing e s a (.java f :: r)).Is ((s.setVm vm').setFrames (.java { f with pc := pc, stack := [.ref a] } :: r)) [] := by
  simp only [stepThrowing, searchFrame, vmDo]
  generalize hr : Sem.go _ e false [] s = res
  obtain ⟨as, rfl, ha⟩ := Sem.eq_ok_of hr (a := Handler.found pc) (s' := s.setVm vm') (acts' := []) (by simp [hfind _ _ _ _])
  exact ⟨rfl, ha⟩
theorem caughtW {tb : Tables} {e : Env} {s target : State} {g : JFrame} {c : Code} {below : List Frame} {a : Addr} {vm' : Vm} (h : At s g.method c below) {pc : Nat} (hfind : FindsW e ((s.setTop g).pushFrame (.throwing a)) g a (.found pc) vm')
    (hrest : Steps tb e below ((s.setVm vm').setTop { g with pc := pc, stack := [.ref a] }) target) :
    Steps tb e below ((s.setTop g).pushFrame (.throwing a)) target := by
  obtain ⟨hgo, hw⟩ := h.throwing a
  refine Steps.head hgo hw ?_
  rw [stepThread_throwing (frames_entered h.top _), (step_catchW (s := (s.setTop g).pushFrame (.throwing a)) hfind).1]
  obtain ⟨g₀, hg⟩ := Option.isSome_iff_exists.mp h.top
  obtain ⟨r, hr⟩ := State.topJava?_eq_some.mp hg
  have hr' : (s.setVm vm').frames = .java g₀ :: r := hr
  rw [State.setTop_of_frames _ hr'] at hrest
  rw [State.pushFrame, State.setTop_of_frames _ hr, State.setFrames_setFrames]
  rw [hr]
  show Steps tb e below (((s.setVm vm').setFrames (Frame.throwing a :: (s.setFrames (Frame.java g :: r)).frames)).setFrames _) target
  rw [State.setFrames_setFrames]
  exact hrest
