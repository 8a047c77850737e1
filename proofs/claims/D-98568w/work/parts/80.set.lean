/-! SETS: naturals by their bits -/
set_option maxRecDepth 100000
noncomputable def sd (a b : Nat) : Nat := a &&& (a ^^^ b)
section
variable {a b c k n : Nat}
theorem ix_bv : (ix n).toBitVec = BitVec.ofNat 32 n := rfl
theorem i_ext {x y : Int32} (h : ∀ i, i < 32 → x.toBitVec.getLsbD i = y.toBitVec.getLsbD i) : x = y := Int32.toBitVec_inj.mp (BitVec.eq_of_getLsbD_eq h)
theorem m1_bv {i : Nat} (hi : i < 32) : (-1 : Int32).toBitVec.getLsbD i = true := by
  rw [show (-1 : Int32).toBitVec = BitVec.allOnes 32 from by decide, BitVec.getLsbD_allOnes]
  simp [hi]
theorem ix_or : ix a ||| ix b = ix (a ||| b) := by
  refine i_ext (fun i hi => ?_)
  rw [Int32.toBitVec_or, ix_bv, ix_bv, ix_bv, BitVec.getLsbD_or]
  simp [BitVec.getLsbD_ofNat, hi]
theorem ix_and : ix a &&& ix b = ix (a &&& b) := by
  refine i_ext (fun i hi => ?_)
  rw [Int32.toBitVec_and, ix_bv, ix_bv, ix_bv, BitVec.getLsbD_and]
  simp [BitVec.getLsbD_ofNat, hi]
theorem ix_sd : ix a &&& (ix b ^^^ -1) = ix (sd a b) := by
  refine i_ext (fun i hi => ?_)
  rw [Int32.toBitVec_and, Int32.toBitVec_xor, BitVec.getLsbD_and, BitVec.getLsbD_xor, m1_bv hi, ix_bv, ix_bv, ix_bv]
  simp only [BitVec.getLsbD_ofNat, sd, Nat.testBit_and, Nat.testBit_xor, decide_eq_true hi, Bool.true_and]
  cases a.testBit i <;> cases b.testBit i <;> rfl
/-- the model's: heard, and not once told or loose -/
theorem ix_sdo : ix a &&& ((ix b ^^^ -1) ||| ix c) = ix (sd a b ||| (a &&& c)) := by
  refine i_ext (fun i hi => ?_)
  rw [Int32.toBitVec_and, Int32.toBitVec_or, Int32.toBitVec_xor, BitVec.getLsbD_and, BitVec.getLsbD_or, BitVec.getLsbD_xor, m1_bv hi, ix_bv, ix_bv, ix_bv, ix_bv]
  simp only [BitVec.getLsbD_ofNat, sd, Nat.testBit_and, Nat.testBit_or, Nat.testBit_xor, decide_eq_true hi, Bool.true_and]
  cases a.testBit i <;> cases b.testBit i <;> cases c.testBit i <;> rfl
theorem sd_bit {i : Nat} : (sd a b).testBit i = (a.testBit i && !b.testBit i) := by
  unfold sd
  rw [Nat.testBit_and, Nat.testBit_xor]
  cases a.testBit i <;> cases b.testBit i <;> rfl
theorem sd_le : sd a b ≤ a := Nat.and_le_left
theorem smod32 (hk : k < 32) : ((ix k &&& 31).toBitVec.smod 32).toNat = k := by
  have e : ∀ k : Fin 32, ((Int32.ofNat k &&& 31).toBitVec.smod 32).toNat = k := by decide
  exact e ⟨k, hk⟩
theorem ix_shr (hn : n < 2147483648) (hk : k < 32) : ix n >>> (ix k &&& 31) = ix (n / 2 ^ k) := pk_shrN (n := n) hn (ix k &&& 31) k (smod32 hk)
theorem ix_shl (hk : k < 32) (h : n * 2 ^ k < 4294967296) : ix n <<< (ix k &&& 31) = ix (n * 2 ^ k) := pk_shlN (n := n) (ix k &&& 31) k (smod32 hk) h
theorem p2_lt {j : Nat} (hk : k < j) (hj : j ≤ 31) : 2 ^ k < 2147483648 := Nat.lt_of_lt_of_le (Nat.pow_lt_pow_right (by decide) hk) (Nat.pow_le_pow_right (n := 2) (by decide) hj)
theorem ix_one (hk : k < 31) : (1 : Int32) <<< (ix k &&& 31) = ix (2 ^ k) := by
  have := ix_shl (n := 1) (k := k) (by omega) (by have := p2_lt hk (Nat.le_refl _); omega)
  rw [Nat.one_mul] at this
  exact this
theorem ix_and1 (hn : n < 2147483648) : ix n &&& 1 = ix (n % 2) := pk_andN (n := n) (m := 1) (by omega) 1 (by decide)
/-- a bit read -/
theorem has_b (hn : n < 2147483648) (hk : k < 32) : (ix n >>> (ix k &&& 31) &&& 1 = 1) = (n.testBit k = true) := by
  rw [ix_shr hn hk, ix_and1 (Nat.lt_of_le_of_lt (Nat.div_le_self _ _) hn), show (1 : Int32) = ix 1 from rfl, ix_eq (by omega) (by decide), Nat.testBit_eq_decide_div_mod_eq]
  simp
theorem has_i (hn : n < 2147483648) (hk : k < 32) : ix n >>> (ix k &&& 31) &&& 1 = bz (n.testBit k) := by
  rw [ix_shr hn hk, ix_and1 (Nat.lt_of_le_of_lt (Nat.div_le_self _ _) hn), Nat.testBit_eq_decide_div_mod_eq]
  unfold bz
  have : n / 2 ^ k % 2 = 0 ∨ n / 2 ^ k % 2 = 1 := by omega
  rcases this with e | e <;> rw [e] <;> rfl
theorem or_lt (ha : a < 1024) (hb : b < 1024) : a ||| b < 1024 := Nat.or_lt_two_pow (n := 10) ha hb
theorem and_lt (ha : a < 1024) : a &&& b < 1024 := Nat.lt_of_le_of_lt Nat.and_le_left ha
theorem sd_lt (ha : a < 1024) : sd a b < 1024 := Nat.lt_of_le_of_lt sd_le ha
theorem p2_10 (hk : k < 10) : 2 ^ k < 1024 := Nat.pow_lt_pow_right (a := 2) (n := 10) (by decide) hk
/-- those below n that are P -/
noncomputable def so (P : Nat → Bool) : Nat → Nat
  | 0 => 0
  | n + 1 => if P n = true then so P n ||| 2 ^ n else so P n
theorem so_bit {P : Nat → Bool} : ∀ n i, (so P n).testBit i = (decide (i < n) && P i)
  | 0, i => by simp [so]
  | n + 1, i => by
    rw [so]
    by_cases q : P n = true
    · rw [if_pos q, Nat.testBit_or, so_bit n i, Nat.testBit_two_pow]
      by_cases e : n = i
      · subst e; simp [q]
      · have : (i < n + 1) = (i < n) := by apply propext; omega
        simp [e, this]
    · rw [if_neg q, so_bit n i]
      by_cases e : n = i
      · subst e; simp [q]
      · have : (i < n + 1) = (i < n) := by apply propext; omega
        simp [this]
theorem so_lt {P : Nat → Bool} (hn : n ≤ 10) : so P n < 1024 := by
  have : so P n < 2 ^ 10 := by
    apply Nat.lt_pow_two_of_testBit
    intro i hi
    rw [so_bit]
    simp; omega
  exact this
theorem lt_bit (h : n < 1024) {i : Nat} (hi : 10 ≤ i) : n.testBit i = false := Nat.testBit_lt_two_pow (Nat.lt_of_lt_of_le h (Nat.pow_le_pow_right (n := 2) (i := 10) (by decide) hi))
theorem set_ext (h : ∀ i, a.testBit i = b.testBit i) : a = b := Nat.eq_of_testBit_eq h
/-- all below n -/
theorem ix_all (hn : n ≤ 10) : (1 : Int32) <<< (ix n &&& 31) - 1 = ix (2 ^ n - 1) := by
  rw [ix_one (by omega)]
  exact ix_subl (n := 1) Nat.one_le_two_pow
/-- a sum over those below n in a set -/
noncomputable def su (S : Nat) (V : Nat → Int32) : Nat → Int32
  | 0 => 0
  | n + 1 => su S V n + (if S.testBit n = true then V n else 0)
theorem bz_ne {p : Bool} : (bz p = 0) = (p = false) := by cases p <;> simp [bz]
theorem bz_1 {p : Bool} : (bz p = 1) = (p = true) := by cases p <;> simp [bz]
theorem bz_01 {p : Bool} : bz p = 0 ∨ bz p = 1 := by cases p <;> simp [bz]
theorem fot {p : Bool} : (p = false ∨ p = true) = True := by cases p <;> simp
theorem ite_bz {p : Prop} [Decidable p] : (if p then (1 : Int32) else 0) = bz (decide p) := by
  by_cases q : p <;> simp [bz, q]
end
