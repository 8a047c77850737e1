/-! ARRAYS, NEW CELLS, CONSTANTS, CASTS -/
set_option maxRecDepth 100000
section
variable {p : Program} {l : Launch} {e : Env} {R : Room} {s : State} {m : MethodId} {args : Array Value} {below : List Frame} {meth : Method} {c : Code} {H : Heap} {locs : List Loc} {cells slots : Nat} {Q : State → Prop}
variable {D : va_G} {E : Nat → Nat} {k b0 c0 s0 pc : Nat} {ls st : List Value} {h : AH} {A : Array Slot} {z : Zz}
theorem up2_rd {f a : Nat} {v : Int32} (hk : fKd f = 0 ∨ fKd f = 1) : rdF (sFi h f a v) f a = .int v ∧ ∀ g b, ¬ (g = f ∧ b = a) → rdF (sFi h f a v) g b = rdF h g b := by
  constructor
  · unfold rdF
    rcases hk with q | q <;> rw [q] <;> (show Value.int (up2 (Fi h) f a v f a) = _) <;> rw [up2_s]
  · intro g b hne
    unfold rdF
    have : Fi (sFi h f a v) g b = Fi h g b := if_neg hne
    split
    · rfl
    · rfl
    · rw [this]
theorem up2_rdL {f a : Nat} {v : Int64} (hk : fKd f = 3) : rdF (sFl h f a v) f a = .long v ∧ ∀ g b, ¬ (g = f ∧ b = a) → rdF (sFl h f a v) g b = rdF h g b := by
  constructor
  · unfold rdF
    rw [hk]
    show Value.long (up2 (Fl h) f a v f a) = _
    rw [up2_s]
  · intro g b hne
    unfold rdF
    have : Fl (sFl h f a v) g b = Fl h g b := if_neg hne
    split
    · rw [this]
    · rfl
    · rfl
theorem up2_rdR {f a : Nat} {v : Option Nat} (hk : fKd f = 4) : rdF (sFr h f a v) f a = va_rf v ∧ ∀ g b, ¬ (g = f ∧ b = a) → rdF (sFr h f a v) g b = rdF h g b := by
  constructor
  · unfold rdF
    rw [hk]
    show va_rf (up2 (Fr h) f a v f a) = _
    rw [up2_s]
  · intro g b hne
    unfold rdF
    have : Fr (sFr h f a v) g b = Fr h g b := if_neg hne
    split
    · rfl
    · rw [this]
    · rfl
theorem rf_rOf {v : Value} (h : isR v = true) : va_rf (rOf v) = v := by rcases isR_or h with rfl | ⟨a, rfl⟩ <;> rfl
theorem sd_putF {i : Nat} (hx : p.tables.exec = Jvm.exec) (hb : c.code = mC k) (hown : s.vm.findClass (onm (mO k)) = some m.cls) (hnm : meth.name = (mN k).name) (hK : KW D E s) (hI : Iv D E k b0 c0 s0 s h H locs cells slots ls A) (hs : putF k pc ls st h i = some (.inl z)) (hd : decode (mC k) pc = .ok (.putfield i, 3)) (kk : Gk p l e R s m args below meth c Q D E k b0 c0 s0 z) : W p l e R s m args below meth c H locs cells slots Q (F0 m pc A st) := by
  unfold putF at hs
  split at hs
  · cases hs
  · rename_i f hf
    split at hs
    · cases hs
    · rename_i hc
      obtain ⟨hc1, hc2⟩ := Decidable.not_not.mp hc
      split at hs
      · rename_i v a st0 hk
        split at hs
        · rename_i ht
          cases hs
          exact sd_put (h' := sFi h f a v) hx hb hown hnm hK hI hf ⟨ht.1, ht.2, fun y => by
            have := fCl_old0
            rcases Nat.lt_or_ge f 200 with q | q
            · have h45 : ∀ f, f < 200 → 45 ∉ fCl f := by decide +kernel
              exact h45 f q (y ▸ ht.1)
            · have : fKd f ≠ 0 := by
                have hb := fCl_big ht.1
                rcases (show f = 200 ∨ f = 201 by omega) with rfl | rfl <;> decide
              exact this hk⟩ hc1 hc2 (fun ty hty => by rw [hk] at hty; cases ty <;> first | exact ⟨rfl, rfl⟩ | cases hty) hd rfl rfl rfl rfl rfl rfl rfl rfl rfl rfl (up2_rd (Or.inl hk)).1 (up2_rd (Or.inl hk)).2 kk
        · cases hs
      · rename_i v a st0 hk
        split at hs
        · rename_i ht
          cases hs
          exact sd_put (h' := sFi h f a v) hx hb hown hnm hK hI hf ⟨ht.1.1, ht.1.2, fun y => by
            rcases Nat.lt_or_ge f 200 with q | q
            · have h45 : ∀ f, f < 200 → 45 ∉ fCl f := by decide +kernel
              exact h45 f q (y ▸ ht.1.1)
            · have : fKd f ≠ 1 := by
                have hb := fCl_big ht.1.1
                rcases (show f = 200 ∨ f = 201 by omega) with rfl | rfl <;> decide
              exact this hk⟩ hc1 hc2 (fun ty hty => by rw [hk] at hty; cases ty <;> first | exact narrow_b01 ht.2 | cases hty) hd rfl rfl rfl rfl rfl rfl rfl rfl rfl rfl (up2_rd (Or.inr hk)).1 (up2_rd (Or.inr hk)).2 kk
        · cases hs
      · rename_i v a st0 hk
        split at hs
        · rename_i ht
          cases hs
          exact sd_put (h' := sFl h f a v) hx hb hown hnm hK hI hf ⟨ht.1, ht.2, fun y => by
            rcases Nat.lt_or_ge f 200 with q | q
            · have h45 : ∀ f, f < 200 → 45 ∉ fCl f := by decide +kernel
              exact h45 f q (y ▸ ht.1)
            · have : fKd f ≠ 3 := by
                have hb := fCl_big ht.1
                rcases (show f = 200 ∨ f = 201 by omega) with rfl | rfl <;> decide
              exact this hk⟩ hc1 hc2 (fun ty hty => by rw [hk] at hty; cases ty <;> first | exact ⟨rfl, rfl⟩ | cases hty) hd rfl rfl rfl rfl rfl rfl rfl rfl rfl rfl (up2_rdL hk).1 (up2_rdL hk).2 kk
        · cases hs
      · rename_i v a st0 hk
        split at hs
        · rename_i ht
          cases hs
          exact sd_put (h' := sFr h f a (rOf v)) hx hb hown hnm hK hI hf ht.1 hc1 hc2 (fun ty hty => by rw [hk] at hty; rcases isR_or ht.2 with rfl | ⟨w, rfl⟩ <;> cases ty <;> first | exact ⟨rfl, rfl⟩ | cases hty) hd rfl rfl rfl rfl rfl rfl rfl rfl rfl rfl ((up2_rdR hk).1.trans (rf_rOf ht.2)) (up2_rdR hk).2 kk
        · cases hs
      · cases hs
end
