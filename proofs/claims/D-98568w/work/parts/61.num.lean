/-! NUMBERS: small naturals as ints -/
set_option maxRecDepth 100000
noncomputable def ix (n : Nat) : Int32 := Int32.ofNat n
section
variable {a b n : Nat}
theorem ix_lit : (OfNat.ofNat n : Int32) = ix n := rfl
theorem ix_0 : (0 : Int32) = ix 0 := rfl
theorem ix_1 : (1 : Int32) = ix 1 := rfl
theorem ix_add : ix a + ix b = ix (a + b) := (Int32.ofNat_add a b).symm
theorem ix_addl : ix a + no_index (OfNat.ofNat n) = ix (a + n) := (Int32.ofNat_add a n).symm
theorem ix_ladd : no_index (OfNat.ofNat n) + ix a = ix (n + a) := (Int32.ofNat_add n a).symm
theorem ix_mul : ix a * ix b = ix (a * b) := (Int32.ofNat_mul a b).symm
theorem ix_mull : ix a * no_index (OfNat.ofNat n) = ix (a * n) := (Int32.ofNat_mul a n).symm
theorem ix_lmul : no_index (OfNat.ofNat n) * ix a = ix (n * a) := (Int32.ofNat_mul n a).symm
theorem ix_sub (h : b ≤ a) : ix a - ix b = ix (a - b) := (Int32.ofNat_sub a b h).symm
theorem ix_subl (h : n ≤ a) : ix a - no_index (OfNat.ofNat n) = ix (a - n) := (Int32.ofNat_sub a n h).symm
theorem ix_lsub (h : a ≤ n) : no_index (OfNat.ofNat n) - ix a = ix (n - a) := (Int32.ofNat_sub n a h).symm
theorem ix_lt (ha : a < 2147483648) (hb : b < 2147483648) : (ix a < ix b) = (a < b) := propext (Int32.ofNat_lt_iff_lt ha hb)
theorem ix_ltl (ha : a < 2147483648) (hb : n < 2147483648) : (ix a < no_index (OfNat.ofNat n)) = (a < n) := propext (Int32.ofNat_lt_iff_lt ha hb)
theorem ix_llt (ha : n < 2147483648) (hb : b < 2147483648) : ((no_index (OfNat.ofNat n) : Int32) < ix b) = (n < b) := propext (Int32.ofNat_lt_iff_lt ha hb)
theorem ix_inj (ha : a < 2147483648) (hb : b < 2147483648) (h : ix a = ix b) : a = b := by
  have := congrArg Int32.toNatClampNeg h
  unfold ix at this
  rwa [Int32.toNatClampNeg_ofNat_of_lt ha, Int32.toNatClampNeg_ofNat_of_lt hb] at this
theorem ix_eq (ha : a < 2147483648) (hb : b < 2147483648) : (ix a = ix b) = (a = b) := propext ⟨ix_inj ha hb, fun h => by rw [h]⟩
theorem ix_eql (ha : a < 2147483648) (hb : n < 2147483648) : (ix a = no_index (OfNat.ofNat n)) = (a = n) := ix_eq ha hb
theorem ix_leq (ha : n < 2147483648) (hb : b < 2147483648) : ((no_index (OfNat.ofNat n) : Int32) = ix b) = (n = b) := ix_eq ha hb
theorem ix_tn (ha : a < 2147483648) : (ix a).toNatClampNeg = a := Int32.toNatClampNeg_ofNat_of_lt ha
theorem lt_tn (ha : n < 2147483648) : (no_index (OfNat.ofNat n) : Int32).toNatClampNeg = n := Int32.toNatClampNeg_ofNat_of_lt ha
theorem ix_nn (ha : a < 2147483648) : ¬ ix a < 0 := by
  have := ix_ltl (a := a) (n := 0) ha (by decide)
  rw [show (ix a < 0) = (a < 0) from this]
  exact Nat.not_lt_zero _
theorem lt_nn (ha : n < 2147483648) : ¬ (no_index (OfNat.ofNat n) : Int32) < 0 := ix_nn ha
theorem inA_ix (h : a < n) (hn : n ≤ 2147483648) : inA (ix a) n := by
  rintro (q | q)
  · exact ix_nn (by omega) q
  · rw [ix_tn (by omega)] at q; omega
theorem inA_li (h : b < n) (hn : n ≤ 2147483648) : inA (no_index (OfNat.ofNat b)) n := inA_ix h hn
theorem inA_x (h : a < n) (hn : n ≤ 2147483648) : inA (ix a) n = True := eq_true (inA_ix h hn)
theorem inA_l (h : b < n) (hn : n ≤ 2147483648) : inA (no_index (OfNat.ofNat b)) n = True := eq_true (inA_ix h hn)
theorem ix_m1 (ha : a < 2147483648) : (ix a = -1) = False := by
  apply propext
  refine ⟨fun h => ?_, False.elim⟩
  have h1 := ix_nn ha
  rw [h] at h1
  exact h1 (by decide)
theorem toInt_ix (ha : a < 2147483648) : (ix a).toInt = a := Int32.toInt_ofNat_of_lt ha
end
/-! a heap's maps behind a store, by tags and addresses -/
section
variable {h : AH} {f g a b : Nat} {v : Int32} {w : Int64} {r : Option Nat} {F : Nat → Int32} {F2 : Nat → Int64} {F3 : Nat → Option Nat}
theorem Fi_same : Fi (sFi h f a v) f a = v := up2_s
theorem Fi_otherf (e : g ≠ f) : Fi (sFi h f a v) g b = Fi h g b := up2_nf e
theorem Fi_othera (e : b ≠ a) : Fi (sFi h f a v) g b = Fi h g b := up2_na e
theorem Fl_same : Fl (sFl h f a w) f a = w := up2_s
theorem Fl_otherf (e : g ≠ f) : Fl (sFl h f a w) g b = Fl h g b := up2_nf e
theorem Fl_othera (e : b ≠ a) : Fl (sFl h f a w) g b = Fl h g b := up2_na e
theorem Fr_same : Fr (sFr h f a r) f a = r := up2_s
theorem Fr_otherf (e : g ≠ f) : Fr (sFr h f a r) g b = Fr h g b := up2_nf e
theorem Fr_othera (e : b ≠ a) : Fr (sFr h f a r) g b = Fr h g b := up2_na e
theorem Ai_same : Ai (sAi h a F) a = F := at2_s
theorem Ai_other (e : b ≠ a) : Ai (sAi h a F) b = Ai h b := at2_n e
theorem Al_same : Al (sAl h a F2) a = F2 := at2_s
theorem Al_other (e : b ≠ a) : Al (sAl h a F2) b = Al h b := at2_n e
theorem Ar_same : Ar (sAr h a F3) a = F3 := at2_s
theorem Ar_other (e : b ≠ a) : Ar (sAr h a F3) b = Ar h b := at2_n e
theorem sAi_sAi {G : Nat → Int32} : sAi (sAi h a F) a G = sAi h a G := by
  unfold sAi
  have : at2 (Ai (h.1, h.2.1, h.2.2.1, h.2.2.2.1, at2 (Ai h) a F, h.2.2.2.2.2)) a G = at2 (Ai h) a G := by
    funext z; show (if z = a then G else (if z = a then F else Ai h z)) = if z = a then G else Ai h z
    by_cases q : z = a
    · rw [if_pos q, if_pos q]
    · rw [if_neg q, if_neg q, if_neg q]
  rw [this]
theorem sFi_sFi {u : Int32} : sFi (sFi h f a v) f a u = sFi h f a u := by
  unfold sFi
  have : up2 (Fi (h.1, up2 (Fi h) f a v, h.2.2)) f a u = up2 (Fi h) f a u := by
    funext y z
    show (if y = f ∧ z = a then u else (if y = f ∧ z = a then v else Fi h y z)) = if y = f ∧ z = a then u else Fi h y z
    by_cases q : y = f ∧ z = a
    · rw [if_pos q, if_pos q]
    · rw [if_neg q, if_neg q, if_neg q]
  rw [this]
theorem sAi_self : sAi h a (Ai h a) = h := by
  unfold sAi
  have : at2 (Ai h) a (Ai h a) = Ai h := by
    funext z; show (if z = a then Ai h a else Ai h z) = Ai h z
    by_cases q : z = a
    · rw [if_pos q, q]
    · rw [if_neg q]
  rw [this]; rfl
theorem sFi_self : sFi h f a (Fi h f a) = h := by
  unfold sFi
  have : up2 (Fi h) f a (Fi h f a) = Fi h := by
    funext y z; show (if y = f ∧ z = a then Fi h f a else Fi h y z) = Fi h y z
    by_cases q : y = f ∧ z = a
    · rw [if_pos q, q.1, q.2]
    · rw [if_neg q]
  rw [this]; rfl
end
/-! joins -/
section
variable {d k p : Nat} {ls ls' st st' : List Value} {h h' : AH} {Q : Rs → AH → Prop}
theorem ru_join {c : Prop} [Decidable c] : (if c then Ru d k p ls st h Q else Ru d k p ls' st' h' Q) = Ru d k p (if c then ls else ls') (if c then st else st') (if c then h else h') Q := by split <;> rfl
theorem ite_cons {c : Prop} [Decidable c] {v w : Value} : (if c then v :: ls else w :: ls') = (if c then v else w) :: (if c then ls else ls') := by split <;> rfl
theorem ite_int {c : Prop} [Decidable c] {x y : Int32} : (if c then Value.int x else Value.int y) = Value.int (if c then x else y) := by split <;> rfl
theorem ite_long {c : Prop} [Decidable c] {x y : Int64} : (if c then Value.long x else Value.long y) = Value.long (if c then x else y) := by split <;> rfl
end
