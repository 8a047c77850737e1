/-! NEW ARRAYS, CONSTANTS, CASTS -/
set_option maxRecDepth 100000
section
variable {p : Program} {l : Launch} {e : Env} {R : Room} {s : State} {m : MethodId} {args : Array Value} {below : List Frame} {meth : Method} {c : Code} {H : Heap} {locs : List Loc} {cells slots : Nat} {Q : State → Prop}
variable {D : va_G} {E : Nat → Nat} {k b0 c0 s0 pc : Nat} {ls st : List Value} {h : AH} {A : Array Slot} {z : Zz}
/-- a new array as a cell -/
theorem new_ar {t n : Nat} {cA : ClassId} {kA : Class} {comp : ClassId} {v : Value} (hs : H.size = Nx h) (ht : 1000 ≤ t ∧ t < 6000) (h2 : s.vm.classes[cA]? = some kA) (h3 : kA.kind = .array comp (aTy t)) (hv : v = (if t < 3000 then .int 0 else if t < 4000 then .long 0 else if t < 5000 then .int 0 else .null)) (hRA : va_RA s cA (aTy t)) :
    ArOk s (nCe h t n) (H.push { cls := cA, slots := Array.replicate n v, vm := .none }) (Nx h) := by
  have hT : Tg (nCe h t n) (Nx h) = t := by rw [Tg_nCe, if_pos rfl]
  refine ⟨_, by rw [← hs, Array.getElem?_push, if_pos rfl], ⟨fun q y => by (cases y), kA, h2, comp, by rw [hT]; exact h3⟩, (fun y => by cases y), ?_, fun j hj => ?_, fun _ => by rw [hT]; exact hRA⟩
  · rw [An_nCe, if_pos rfl]; simp
  · rw [An_nCe, if_pos rfl] at hj
    have e1 : Ai (nCe h t n) (Nx h) j = 0 := by show at2 (Ai h) (Nx h) (fun _ => 0) (Nx h) j = 0; rw [at2_s]
    have e2 : Al (nCe h t n) (Nx h) j = 0 := by show at2 (Al h) (Nx h) (fun _ => 0) (Nx h) j = 0; rw [at2_s]
    have e3 : Ar (nCe h t n) (Nx h) j = none := by show at2 (Ar h) (Nx h) (fun _ => none) (Nx h) j = none; rw [at2_s]
    unfold aVl
    rw [hT, e1, e2, e3, hv]
    simp [hj, va_rf]
theorem newA_inv {len kd : Nat} (hs : newA k pc len ls st h kd = some (.inl z)) : ∃ t n st0, ares k pc = some t ∧ st = .int n :: st0 ∧ t / 1000 = kd ∧ t % 1000 < 900 ∧ ¬ n < 0 ∧ Nc h + 1 ≤ 601024 ∧ Ns h + n.toNatClampNeg ≤ 7293034 ∧ z = (pc + len, ls, .ref (Nx h) :: st0, nCe h t n.toNatClampNeg) := by
  unfold newA at hs
  split at hs
  · rename_i t n st0 ht
    split at hs
    · rename_i q
      cases hs
      exact ⟨t, n, _, ht, rfl, q.1, q.2.1, q.2.2.1, q.2.2.2.1, q.2.2.2.2, rfl⟩
    · cases hs
  · cases hs
theorem sd_newaX {at_ : ArrayType} {kd : Nat} (hkd : 1 ≤ kd ∧ kd ≤ 3) (hty : ∀ t, t / 1000 = kd → newarray.typeOf at_ = aTy t) (hdv : ∀ t, t / 1000 = kd → defaultValue (newarray.typeOf at_) = (if t < 3000 then .int 0 else if t < 4000 then .long 0 else if t < 5000 then .int 0 else .null)) (hcb : componentBytes (newarray.typeOf at_) ≤ 8) (hw : Cond.arrayClass (newarray.typeOf at_) ∈ lw_all) (hra : ∀ cA, s.vm.findClass ("[" ++ (newarray.typeOf at_).toString) = some cA → va_RA s cA (newarray.typeOf at_))
    (hx : p.tables.exec = Jvm.exec) (hb : c.code = mC k) (hK : KW D E s) (hr : 601024 ≤ c0 + R.cells ∧ 7293034 ≤ s0 + R.slots) (hI : Iv D E k b0 c0 s0 s h H locs cells slots ls A) (hs : newA k pc 2 ls st h kd = some (.inl z)) (hd : decode (mC k) pc = .ok (.newarray at_, 2)) (kk : Gk p l e R s m args below meth c Q D E k b0 c0 s0 z) : W p l e R s m args below meth c H locs cells slots Q (F0 m pc A st) := by
  obtain ⟨t, n, st0, ht, rfl, t1, t2, n0, r1, r2, rfl⟩ := newA_inv hs
  have hC := hI.2.2.2.1
  have hS := hI.2.2.2.2.1
  have hHs : H.size = Nx h := hI.1.1
  have hbt : n.toNatClampNeg * componentBytes (newarray.typeOf at_) ≤ 536870912 := Nat.le_trans (Nat.mul_le_mul_left _ hcb) (by omega)
  refine W.newa hx hb (hK.wd hw) rfl hd rfl n0 hbt (by omega) (by omega) (fun cA kA comp u1 u2 u3 => ?_)
  rw [hHs]
  refine kk _ locs (cells + 1) (slots + n.toNatClampNeg) A (hI.new (fun q hq => ?_) ⟨by omega, by omega⟩ (fun _ => ⟨by omega, ?_⟩))
  · have := (clf_lt hq).1; omega
  · exact new_ar hHs ⟨by omega, by omega⟩ u2 (by rw [← hty t t1]; exact u3) (hdv t t1) (by rw [← hty t t1]; exact hra cA u1)
theorem sd_newa {at_ : ArrayType} (hx : p.tables.exec = Jvm.exec) (hb : c.code = mC k) (hK : KW D E s) (hr : 601024 ≤ c0 + R.cells ∧ 7293034 ≤ s0 + R.slots) (hI : Iv D E k b0 c0 s0 s h H locs cells slots ls A) (hs : stp k pc ls st h (.newarray at_) 2 = some (.inl z)) (hd : decode (mC k) pc = .ok (.newarray at_, 2)) (kk : Gk p l e R s m args below meth c Q D E k b0 c0 s0 z) : W p l e R s m args below meth c H locs cells slots Q (F0 m pc A st) := by
  cases at_ with
  | int => exact sd_newaX (at_ := .int) (kd := 1) (by decide) (fun t ht => (aTy_i (by omega)).symm) (fun t ht => by rw [if_pos (by omega)]; rfl) (by decide) q266 (fun cA y => y) hx hb hK hr hI hs hd kk
  | boolean => exact sd_newaX (at_ := .boolean) (kd := 2) (by decide) (fun t ht => (aTy_z (by omega) (by omega)).symm) (fun t ht => by rw [if_pos (by omega)]; rfl) (by decide) q460 (fun cA y => y) hx hb hK hr hI hs hd kk
  | long => exact sd_newaX (at_ := .long) (kd := 3) (by decide) (fun t ht => (aTy_l (by omega) (by omega)).symm) (fun t ht => by rw [if_neg (by omega), if_pos (by omega)]; rfl) (by decide) q267 (fun cA y => y) hx hb hK hr hI hs hd kk
  | _ => simp [stp] at hs
end
