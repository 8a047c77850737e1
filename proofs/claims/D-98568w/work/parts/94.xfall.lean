/-! BOUGHS as objects: what falls -/
set_option maxRecDepth 100000
noncomputable def isF (O : Oc) (l w a : Nat) : Bool := if w.testBit a = true then (if O.kd a = 2 then l.testBit a else true) else l.testBit a
noncomputable def pF (O : Oc) (hang l w e a : Nat) : Bool := hang.testBit a && (w ||| e).testBit a && isF O l w a
noncomputable def nF (O : Oc) (hang l w e a : Nat) : Bool := hang.testBit a && (w ||| e).testBit a && !isF O l w a
noncomputable def t2F (O : Oc) (hang f : Nat) : Nat → Nat
  | 0 => f
  | j + 1 => if 0 < O.tw j ∧ (t2F O hang f j).testBit (O.tw j - 1) = true ∧ hang.testBit j = true then t2F O hang f j ||| 2 ^ j else t2F O hang f j
section
variable {lo hi d D o a b c f n p k t w s e lane loud S hang l : Nat} {h h' h1 h2 : AH} {A : Nat → Prop} {O : Oc} {B : Bo} {φ : Ph} {Q : Rs → AH → Prop} {day v : Int32} {F : Nat → Int32} {r : Option Nat}
theorem hang_bit (hh : hang < 2 ^ n) {i : Nat} (hi : n ≤ i) : hang.testBit i = false := Nat.testBit_lt_two_pow (Nat.lt_of_lt_of_le hh (Nat.pow_le_pow_right (by decide) hi))
theorem we_bit {i : Nat} : (weF O).testBit i = (decide (i < O.nA) && decide (O.kd i = 2)) := so_bit _ _
theorem f1_so (hh : hang < 2 ^ O.nA) : so (pF O hang l w e) O.nA = f1F O hang l w e := by
  refine set_ext (fun i => ?_)
  rw [so_bit]
  unfold f1F pF isF
  simp only [Nat.testBit_and, Nat.testBit_or, sd_bit, we_bit]
  by_cases q : i < O.nA
  · by_cases q2 : O.kd i = 2 <;> cases hang.testBit i <;> cases w.testBit i <;> cases e.testBit i <;> cases l.testBit i <;> simp [q, q2]
  · rw [hang_bit hh (by omega)]
    simp [q]
theorem t2_bit (wo : WO O) (hh : hang < 2 ^ O.nA) : ∀ j, j ≤ O.nA → ∀ i, (t2F O hang f j).testBit i = (f.testBit i || (decide (i < j) && hang.testBit i && decide (0 < O.tw i) && f.testBit (O.tw i - 1)))
  | 0, _, i => by simp [t2F]
  | j + 1, hj, i => by
    have ih := t2_bit wo hh j (by omega)
    have ti := wo.ti j (by omega)
    rw [t2F]
    by_cases q : 0 < O.tw j ∧ (t2F O hang f j).testBit (O.tw j - 1) = true ∧ hang.testBit j = true
    · obtain ⟨q1, q2, q3⟩ := q
      rw [if_pos ⟨q1, q2, q3⟩, Nat.testBit_or, Nat.testBit_two_pow, ih i]
      rw [ih (O.tw j - 1), ti q1] at q2
      by_cases z : j = i
      · subst z
        simp only [Nat.add_sub_cancel] at q2
        have : f.testBit j = true ∨ f.testBit (O.tw j - 1) = true := by
          simp at q2
          rcases q2 with q2 | q2
          · exact Or.inr q2
          · exact Or.inl q2.2
        rcases this with z | z <;> simp [q1, q3, z]
      · have : (i < j + 1) = (i < j) := by apply propext; omega
        simp [z, this]
    · rw [if_neg q, ih i]
      by_cases z : j = i
      · subst z
        have h0 : ¬ (0 < O.tw j ∧ f.testBit (O.tw j - 1) = true ∧ hang.testBit j = true) := by
          rintro ⟨a1, a2, a3⟩
          exact q ⟨a1, by rw [ih, a2]; rfl, a3⟩
        by_cases a1 : 0 < O.tw j
        · by_cases a3 : hang.testBit j = true
          · have a2 : f.testBit (O.tw j - 1) = false := by
              cases e : f.testBit (O.tw j - 1)
              · rfl
              · exact absurd ⟨a1, e, a3⟩ h0
            simp [a2]
          · simp [a3]
        · simp [a1]
      · have : (i < j + 1) = (i < j) := by apply propext; omega
        simp [this]
theorem tw_bit (wo : WO O) {i : Nat} (hi : i < O.nA) : ∀ n, n ≤ O.nA → (twA O hang f n).testBit i = (f.testBit i || (hang.testBit i && decide (0 < O.tw i ∧ O.tw i - 1 < n) && f.testBit (O.tw i - 1)))
  | 0, _ => by simp [twA]
  | n + 1, hn => by
    have ih := tw_bit wo hi n (by omega)
    have t1 := wo.ti i hi
    have t2 := wo.ti n (by omega)
    rw [twA]
    by_cases z : 0 < O.tw i ∧ O.tw i - 1 = n
    · obtain ⟨z1, z2⟩ := z
      have z3 := t1 z1
      rw [z2] at z3
      by_cases q : f.testBit n = true
      · rw [if_pos ⟨q, by omega⟩, Nat.testBit_or, Nat.testBit_and, ih, z3, Nat.testBit_two_pow]
        have : i + 1 - 1 = i := by omega
        simp [z1, z2, this, q]
      · rw [if_neg (fun k => q k.1), ih]
        have : f.testBit n = false := by simpa using q
        simp [z2, this]
    · have e1 : decide (0 < O.tw i ∧ O.tw i - 1 < n + 1) = decide (0 < O.tw i ∧ O.tw i - 1 < n) := by
        apply decide_eq_decide.mpr; omega
      rw [e1, ← ih]
      by_cases q : f.testBit n = true ∧ 0 < O.tw n
      · rw [if_pos q, Nat.testBit_or, Nat.testBit_and, Nat.testBit_two_pow]
        have z3 := t2 q.2
        have : ¬ O.tw n - 1 = i := by
          intro k
          rw [k] at z3
          exact z ⟨by omega, by omega⟩
        simp [this]
      · rw [if_neg q]
theorem twA_out {i : Nat} (hh : hang.testBit i = false) (hf : f.testBit i = false) : ∀ n, (twA O hang f n).testBit i = false
  | 0 => hf
  | n + 1 => by
    rw [twA]
    split
    · rw [Nat.testBit_or, Nat.testBit_and, twA_out hh hf n, hh]; rfl
    · exact twA_out hh hf n
theorem t2_fa (wo : WO O) (hh : hang < 2 ^ O.nA) : t2F O hang (f1F O hang l w e) O.nA = faF O hang l w e := by
  refine set_ext (fun i => ?_)
  rw [t2_bit wo hh _ (Nat.le_refl _)]
  unfold faF
  by_cases q : i < O.nA
  · rw [tw_bit wo q _ (Nat.le_refl _)]
    have := wo.tw i q
    by_cases z : 0 < O.tw i
    · have : O.tw i - 1 < O.nA := by omega
      simp [q, z, this]
    · simp [z]
  · have h0 := hang_bit hh (i := i) (by omega)
    have f0 : (f1F O hang l w e).testBit i = false := by unfold f1F; rw [Nat.testBit_and, h0]; rfl
    rw [twA_out h0 f0, f0, h0]
    simp
theorem fa_sub {i : Nat} (hi : (f1F O hang l w e).testBit i = true) : ∀ n, (twA O hang (f1F O hang l w e) n).testBit i = true
  | 0 => hi
  | n + 1 => by
    rw [twA]
    split
    · rw [Nat.testBit_or, fa_sub hi n]; rfl
    · exact fa_sub hi n
theorem lo_x (hh : hang < 2 ^ O.nA) (hl : ∀ i, l.testBit i = true → hang.testBit i = true) : sd (l ||| so (nF O hang l w e) O.nA) (faF O hang l w e) = loF O hang l w e := by
  refine set_ext (fun i => ?_)
  unfold loF
  have hs : (f1F O hang l w e).testBit i = true → (faF O hang l w e).testBit i = true := fun k => fa_sub k _
  rw [← f1_so hh, so_bit] at hs
  simp only [Nat.testBit_and, Nat.testBit_or, sd_bit, we_bit, so_bit]
  revert hs
  generalize (faF O hang l w e).testBit i = fa
  intro hs
  have h1 := hl i
  unfold pF isF at hs
  unfold nF isF
  rw [Nat.testBit_or] at hs ⊢
  by_cases q : i < O.nA
  · by_cases q2 : O.kd i = 2 <;> revert hs h1 <;> cases fa <;> cases hang.testBit i <;> cases w.testBit i <;> cases e.testBit i <;> cases l.testBit i <;> simp [q, q2]
  · have h0 := hang_bit hh (i := i) (by omega)
    rw [h0] at h1 ⊢
    have : l.testBit i = false := by
      cases z : l.testBit i
      · rfl
      · exact absurd (h1 z) (by decide)
    rw [this]
    simp [q]
end
