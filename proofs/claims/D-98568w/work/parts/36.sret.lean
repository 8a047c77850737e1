/-! RETURNS AND THROWS -/
set_option maxRecDepth 100000
def ocOf (r : Rs) : Outcome := match r with
  | .inl v => .returned v
  | .inr a => .threw a
/-- what a method leaves -/
def Fq (D : va_G) (E : Nat → Nat) (b0 c0 s0 : Nat) (below : List Frame) (s : State) (r : Rs) (h' : AH) : State → Prop := fun t =>
  ∃ (L : List Loc) (kc kn : Nat), t.status = .running ∧ Ended t below (ocOf r) ∧ s.WarmedH t.vm ∧ s.sameButNew ({ t with vm := s.vm } : State) L kc kn ∧ (∀ q ∈ L, b0 ≤ q.base) ∧ Rp D s h' t.heap ∧ Sx E b0 s t.heap ∧ Nc h' = c0 + kc ∧ Ns h' = s0 + kn ∧ Ev h' = E ∧ Bs h' = b0
theorem W_mono {p : Program} {l : Launch} {e : Env} {R : Room} {s : State} {m : MethodId} {args : Array Value} {below : List Frame} {meth : Method} {c : Code} {H : Heap} {locs : List Loc} {cells slots : Nat} {Q Q' : State → Prop} {g : JFrame} (w : W p l e R s m args below meth c H locs cells slots Q g) (hq : ∀ t, Q t → Q' t) : W p l e R s m args below meth c H locs cells slots Q' g := by
  intro T hT X
  obtain ⟨t, a, b⟩ := w T hT X
  exact ⟨t, a, hq t b⟩
section
variable {p : Program} {l : Launch} {e : Env} {R : Room} {s : State} {m : MethodId} {args : Array Value} {below : List Frame} {meth : Method} {c : Code} {H : Heap} {locs : List Loc} {cells slots : Nat}
variable {D : va_G} {E : Nat → Nat} {k b0 c0 s0 pc : Nat} {ls st : List Value} {h h' : AH} {A : Array Slot} {r : Rs}
theorem fq_of {v : Option Value} (hI : Iv D E k b0 c0 s0 s h H locs cells slots ls A) {t : State} (hm : MQ below (fun _ _ o t => o = .returned v ∧ t.heap = H) args s cells slots (fun q => b0 ≤ q) t) : Fq D E b0 c0 s0 below s (.inl v) h t := by
  obtain ⟨o, h1, h2, ⟨rfl, h4⟩, L, ⟨-, h6, h7⟩, h8⟩ := hm
  obtain ⟨i1, i2, i3, i4, i5, i6, i7, i8⟩ := hI
  exact ⟨L, cells, slots, h1, h2, h6, h7, h8, by rw [h4]; exact i1, by rw [h4]; exact i2, i4, i5, i7, i8⟩
theorem sd_ret {ins : Instr} {len : Nat} (hx : p.tables.exec = Jvm.exec) (hb : c.code = mC k) (hret : meth.sig.returnType = mR k) (hlocks : meth.locks = false) (hexc : mH k = [] → c.exceptionTable.isEmpty = true) (hI : Iv D E k b0 c0 s0 s h H locs cells slots ls A) (hd : decode (mC k) pc = .ok (ins, len)) (hl : lenOk ins len = true) (hs : stp k pc ls st h ins len = some (.inr (.inl (r, h')))) : W p l e R s m args below meth c H locs cells slots (Fq D E b0 c0 s0 below s r h') (F0 m pc A st) := by
  have hlo := hI.2.2.2.2.2.1
  cases ins with
  | ireturn =>
    obtain rfl : len = 1 := lenB hl
    simp only [stp] at hs
    split at hs
    · rename_i v
      split at hs
      · rename_i ho
        cases hs
        cases hr0 : mR k with
        | none => rw [hr0] at ho; cases ho
        | some ty =>
          rw [hr0] at hret ho
          cases ty with
          | int => exact W_mono (W.zret hx hb hret rfl (Qc := fun _ _ o t => o = .returned (some (.int v)) ∧ t.heap = H) (free := fun q => b0 ≤ q) (fun t ht _ => ⟨rfl, ht⟩) hlo hd hlocks) (fun t => fq_of hI)
          | boolean => exact W_mono (W.zret hx hb hret (narrow_b01 (of_decide_eq_true ho)).1 (Qc := fun _ _ o t => o = .returned (some (.int v)) ∧ t.heap = H) (free := fun q => b0 ≤ q) (fun t ht _ => ⟨rfl, ht⟩) hlo hd hlocks) (fun t => fq_of hI)
          | char => exact W_mono (W.zret hx hb hret (of_decide_eq_true ho) (Qc := fun _ _ o t => o = .returned (some (.int v)) ∧ t.heap = H) (free := fun q => b0 ≤ q) (fun t ht _ => ⟨rfl, ht⟩) hlo hd hlocks) (fun t => fq_of hI)
          | byte => exact W_mono (W.zret hx hb hret (of_decide_eq_true ho) (Qc := fun _ _ o t => o = .returned (some (.int v)) ∧ t.heap = H) (free := fun q => b0 ≤ q) (fun t ht _ => ⟨rfl, ht⟩) hlo hd hlocks) (fun t => fq_of hI)
          | _ => cases ho
      · cases hs
    · cases hs
  | lreturn =>
    obtain rfl : len = 1 := lenB hl
    simp only [stp] at hs
    split at hs
    · rename_i v
      split at hs
      · rename_i ho
        cases hs
        rw [ho] at hret
        exact W_mono (W.lret hx hb hret (Qc := fun _ _ o t => o = .returned (some (.long v)) ∧ t.heap = H) (free := fun q => b0 ≤ q) (fun t ht _ => ⟨rfl, ht⟩) hlo hd hlocks) (fun t => fq_of hI)
      · cases hs
    · cases hs
  | areturn =>
    obtain rfl : len = 1 := lenB hl
    simp only [stp] at hs
    split at hs
    · rename_i v
      split at hs
      · rename_i ho
        split at hs
        · rename_i hm
          cases hs
          rw [hm] at hret
          exact W_mono (W.aret hx hb hret (Or.inl ⟨_, rfl⟩) (isR_or ho) (Qc := fun _ _ o t => o = .returned (some v) ∧ t.heap = H) (free := fun q => b0 ≤ q) (fun t ht _ => ⟨rfl, ht⟩) hlo hd hlocks) (fun t => fq_of hI)
        · rename_i hm
          cases hs
          rw [hm] at hret
          exact W_mono (W.aret hx hb hret (Or.inr ⟨_, rfl⟩) (isR_or ho) (Qc := fun _ _ o t => o = .returned (some v) ∧ t.heap = H) (free := fun q => b0 ≤ q) (fun t ht _ => ⟨rfl, ht⟩) hlo hd hlocks) (fun t => fq_of hI)
        · cases hs
      · cases hs
    · cases hs
  | return_ =>
    obtain rfl : len = 1 := lenB hl
    simp only [stp] at hs
    split at hs
    · split at hs
      · rename_i ho
        cases hs
        rw [ho] at hret
        exact W_mono (W.vret hx hb hret (Qc := fun _ _ o t => o = .returned none ∧ t.heap = H) (free := fun q => b0 ≤ q) (fun t ht _ => ⟨rfl, ht⟩) hlo hd hlocks) (fun t => fq_of hI)
      · cases hs
    · cases hs
  | athrow =>
    obtain rfl : len = 1 := lenB hl
    simp only [stp] at hs
    split at hs
    · rename_i a st0
      split at hs
      · rename_i ho
        cases hs
        have hem := hexc ho.1
        intro T hT X
        obtain ⟨y1, y2, y3, y4, y5⟩ := X.athrowLeaves hx (g := F0 m pc A (.ref a :: st0)) rfl rfl rfl (fun x hx0 => by
          have : c.exceptionTable = #[] := by simpa using hem
          rw [this] at hx0; cases hx0) rfl (by rw [hb]; exact hd) hlocks
        refine ⟨_, y1, locs, cells, slots, y2, y3, y4, y5, hlo, ?_, ?_, hI.2.2.2.1, hI.2.2.2.2.1, hI.2.2.2.2.2.2⟩
        · show Rp D s h T.heap; rw [hT]; exact hI.1
        · show Sx E b0 s T.heap; rw [hT]; exact hI.2.1
      · cases hs
    · cases hs
  | _ => first | (simp [stp] at hs; done) | (simp only [stp, bi, bl, br, ldI, ldL, ldA, stI, stL, stA, cst, getF, putF, newA, calV, calS, calI] at hs; repeat' first | (cases hs; done) | split at hs)
end
