/-! NEW CELLS -/
set_option maxRecDepth 100000
section
variable {p : Program} {l : Launch} {e : Env} {R : Room} {s : State} {m : MethodId} {args : Array Value} {below : List Frame} {meth : Method} {c : Code} {H : Heap} {locs : List Loc} {cells slots : Nat} {Q : State → Prop}
variable {D : va_G} {E : Nat → Nat} {k b0 c0 s0 pc : Nat} {ls st : List Value} {h : AH} {A : Array Slot} {z : Zz}
/-- the invariant behind a new cell -/
theorem Iv.new {t n : Nat} {cl0 : Cell} (hI : Iv D E k b0 c0 s0 s h H locs cells slots ls A) (hob : ∀ q, clf t = some q → ObOk D (nCe h t n) (H.push cl0) (Nx h) q) (h45 : t ≠ 45 ∧ t ≠ 155) (har : 1000 ≤ t → t < 6000 ∧ ArOk s (nCe h t n) (H.push cl0) (Nx h)) : Iv D E k b0 c0 s0 s (nCe h t n) (H.push cl0) locs (cells + 1) (slots + n) ls A := by
  obtain ⟨g1, g2, g3, g4, g5, g6, g7, g8⟩ := hI
  refine ⟨g1.new hob h45 har, g2.kept (fun q hq => ?_), g3, ?_, ?_, g6, g7, g8⟩
  · have : q < H.size := by rw [g1.1]; show q < Bs h + Nc h; omega
    rw [Array.getElem?_push, if_neg (by omega)]
  · show Nc h + 1 = _; omega
  · show Ns h + n = _; omega
theorem sd_new {i : Nat} (hx : p.tables.exec = Jvm.exec) (hb : c.code = mC k) (hown : s.vm.findClass (onm (mO k)) = some m.cls) (hK : KW D E s) (hr : 601024 ≤ c0 + R.cells ∧ 7293034 ≤ s0 + R.slots) (hI : Iv D E k b0 c0 s0 s h H locs cells slots ls A) (hs : stp k pc ls st h (.new i) 3 = some (.inl z)) (hd : decode (mC k) pc = .ok (.new i, 3)) (kk : Gk p l e R s m args below meth c Q D E k b0 c0 s0 z) : W p l e R s m args below meth c H locs cells slots Q (F0 m pc A st) := by
  simp only [stp] at hs
  split at hs
  · rename_i cc n hn
    split at hs
    · rename_i hrm
      cases hs
      obtain ⟨q, hq, hqn, hl⟩ := nl_ok hn
      have hcl := cl_ok hq
      have hC := hI.2.2.2.1
      have hS := hI.2.2.2.2.1
      have hHs : H.size = Nx h := hI.1.1
      refine W.newc hx hb hown (hK.wd hl) (hK.wd hcl.2.2.2.1) (hK.wd hcl.2.2.2.2.1) rfl hd (by omega) (by show slots + q.1.2.2 ≤ _; rw [hqn]; omega) (fun cC kC u1 u2 u3 u4 => ?_)
      rw [hqn, hHs]
      refine kk _ locs (cells + 1) (slots + n) A (hI.new (fun q' hq' => ?_) ⟨(clf_lt hq).2.1, fun y => by have := (clf_lt hq).1; omega⟩ (fun y => by have := (clf_lt hq).1; omega))
      cases hq.symm.trans hq'
      obtain ⟨hSl, hfc, kC', hkC', hkind'⟩ := hK.2.2.1 _ q hq
      have ecc : cC = D.1 cc := Option.some.inj (u1.symm.trans hfc)
      refine ⟨fun j => defaultValue (q.2.1 j), ?_, fun j hj hth => ?_, _, by rw [← hHs, Array.getElem?_push, if_pos rfl], rfl⟩
      · rw [Tg_nCe, if_pos rfl]
        refine ⟨_, by rw [← hHs, Array.getElem?_push, if_pos rfl], ecc, rfl, fun j hj => ?_⟩
        obtain ⟨cf, kf, fi, fd, hi, hsl⟩ := hSl j hj
        have hty := (u_facts hfc hkC' (u_lays (args := args) (fun w hw => hK.wd hw) hcl.1 hj) hi).2.2
        rw [ecc] at u2
        cases hkC'.symm.trans u2
        rw [← hsl]
        show (kC.instanceTypes.map defaultValue)[fd.slot]? = _
        rw [Array.getElem?_map, hty, (State.fieldFound?_type hi (hcl.2.2.1 j hj)).2]
        rfl
      · have hk8 := (hcl.2.2.2.2.2.2.2.1 j hj).2.1
        show defaultValue (q.2.1 j) = _
        unfold rdF
        have e1 : Fi (nCe h cc n) (q.2.2.getD j 999) (Nx h) = 0 := if_pos rfl
        have e2 : Fl (nCe h cc n) (q.2.2.getD j 999) (Nx h) = 0 := if_pos rfl
        have e3 : Fr (nCe h cc n) (q.2.2.getD j 999) (Nx h) = none := if_pos rfl
        rw [e1, e2, e3]
        generalize fKd (q.2.2.getD j 999) = kd at hk8 ⊢
        generalize q.2.1 j = ty at hk8 ⊢
        unfold kdB at hk8
        split at hk8 <;> first | rfl | cases hk8
    · cases hs
  · cases hs
end
