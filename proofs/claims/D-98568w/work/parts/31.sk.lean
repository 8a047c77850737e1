/-! REFERENCE ARRAYS MADE, CONSTANTS, STATICS -/
set_option maxRecDepth 100000
section
variable {p : Program} {l : Launch} {e : Env} {R : Room} {s : State} {m : MethodId} {args : Array Value} {below : List Frame} {meth : Method} {c : Code} {H : Heap} {locs : List Loc} {cells slots : Nat} {Q : State → Prop}
variable {D : va_G} {E : Nat → Nat} {k b0 c0 s0 pc : Nat} {ls st : List Value} {h : AH} {A : Array Slot} {z : Zz}
theorem eNm_of {t en : Nat} (he : elc t = some en) (h4 : en ≤ 3) : eNm t = eNam en := by
  unfold eNm
  rw [he]
  rcases (show en = 0 ∨ en = 1 ∨ en = 2 ∨ en = 3 by omega) with rfl | rfl | rfl | rfl
  · have : t ≠ 5903 := by rintro rfl; exact absurd he (by decide +kernel)
    simp [this, eNam]
  · rfl
  · rfl
  · rfl
theorem elc_le {t en : Nat} (he : elc t = some en) : en ≤ 3 := by
  have h1 := lk_mem he
  have h2 : ∀ q ∈ elT, q.2 ≤ 3 := by decide +kernel
  exact h2 _ h1
theorem sd_newq {i : Nat} (hx : p.tables.exec = Jvm.exec) (hb : c.code = mC k) (hown : s.vm.findClass (onm (mO k)) = some m.cls) (hK : KW D E s) (hr : 601024 ≤ c0 + R.cells ∧ 7293034 ≤ s0 + R.slots) (hI : Iv D E k b0 c0 s0 s h H locs cells slots ls A) (hs : stp k pc ls st h (.anewarray i) 3 = some (.inl z)) (hd : decode (mC k) pc = .ok (.anewarray i, 3)) (kk : Gk p l e R s m args below meth c Q D E k b0 c0 s0 z) : W p l e R s m args below meth c H locs cells slots Q (F0 m pc A st) := by
  simp only [stp] at hs
  split at hs
  · rename_i t0 ht0
    split at hs
    · rename_i hee
      obtain ⟨t, n, st0, ht, rfl, t1, t2, n0, r1, r2, rfl⟩ := newA_inv hs
      have et : t0 = t := Option.some.inj (ht0.symm.trans ht)
      subst et
      have hC := hI.2.2.2.1
      have hS := hI.2.2.2.2.1
      have hHs : H.size = Nx h := hI.1.1
      have hel : ∃ en, elc t0 = some en := by
        have h0 : ∀ q ∈ aresT, q.2 / 1000 = 5 → (elc q.2).isSome = true := by decide +kernel
        exact Option.isSome_iff_exists.mp (h0 _ (lk_mem ht) t1)
      obtain ⟨en, hen⟩ := hel
      obtain ⟨w1, w2⟩ := el_ok (hee.trans hen)
      have hnm : eNm t0 = eNam en := eNm_of hen (elc_le hen)
      refine W.anew hx hb hown (hK.wd w1) (va_AO.use (hK.2.1 _ w2 rfl)) rfl hd rfl n0 (by omega) (by omega) (by omega) (fun cA kA comp u1 u2 u3 u4 => ?_)
      rw [hHs]
      refine kk _ locs (cells + 1) (slots + n.toNatClampNeg) A (hI.new (fun q hq => ?_) ⟨by omega, by omega⟩ (fun _ => ⟨by omega, ?_⟩))
      · have := (clf_lt hq).1; omega
      · refine new_ar hHs ⟨by omega, by omega⟩ u2 (by rw [aTy_r (by omega), hnm]; exact u3) (by rw [if_neg (by omega), if_neg (by omega), if_neg (by omega)]) ?_
        rw [aTy_r (by omega), hnm]
        exact ⟨kA, comp, u2, u3, u4, u1⟩
    · cases hs
  · cases hs
theorem sd_cst {len i : Nat} (hx : p.tables.exec = Jvm.exec) (hb : c.code = mC k) (hown : s.vm.findClass (onm (mO k)) = some m.cls) (hK : KW D E s) (hI : Iv D E k b0 c0 s0 s h H locs cells slots ls A) (hs : cst k pc len ls st h i = some (.inl z)) (hd : (len = 2 ∧ decode (mC k) pc = .ok (.ldc i, 2)) ∨ (len = 3 ∧ decode (mC k) pc = .ok (.ldc_w i, 3))) (kk : Gk p l e R s m args below meth c Q D E k b0 c0 s0 z) : W p l e R s m args below meth c H locs cells slots Q (F0 m pc A st) := by
  have hE := hI.2.2.2.2.2.2.1
  unfold cst at hs
  split at hs
  · rename_i v hk
    cases hs
    have w := kl_ok hk
    have kk' := kk H locs cells slots A hI
    rcases hd with ⟨rfl, hd⟩ | ⟨rfl, hd⟩
    · exact lv_ldc hx hb hown (hK.wd w) hd kk'
    · exact lv_ldcw hx hb hown (hK.wd w) hd kk'
  · rename_i n hk
    split at hs
    · rename_i e2
      cases hs
      have kk' := kk H locs cells slots A hI
      rcases hd with ⟨-, hd⟩ | ⟨e3, hd⟩
      · subst e2
        rcases kl_ok hk with ⟨tx, hm⟩ | ⟨rfl, hl⟩
        · have := hK.2.2.2.1 _ hm
          refine va_ldcS hx hb hown this hd ?_
          rw [← hE]; exact kk'
        · refine va_ldcM hx hb hown (hK.wd hl) hK.2.2.2.2.1 hd ?_
          rw [← hE]; exact kk'
      · omega
    · cases hs
  · cases hs
theorem sd_ldc2 {i : Nat} (hx : p.tables.exec = Jvm.exec) (hb : c.code = mC k) (hown : s.vm.findClass (onm (mO k)) = some m.cls) (hK : KW D E s) (hI : Iv D E k b0 c0 s0 s h H locs cells slots ls A) (hs : stp k pc ls st h (.ldc2_w i) 3 = some (.inl z)) (hd : decode (mC k) pc = .ok (.ldc2_w i, 3)) (kk : Gk p l e R s m args below meth c Q D E k b0 c0 s0 z) : W p l e R s m args below meth c H locs cells slots Q (F0 m pc A st) := by
  simp only [stp] at hs
  split at hs
  · rename_i v hk
    cases hs
    exact lv_ldc2 hx hb hown (hK.wd (ll_ok hk)) hd (kk H locs cells slots A hI)
  · cases hs
/-- a static is read -/
theorem W_st {C n d own : String} {v : Value} {i : Nat} (hx : p.tables.exec = Jvm.exec) (hb : c.code = mC k) (hown : s.vm.findClass own = some m.cls) (hl : (Cond.fieldLink own i C n d).before args s = true) (hZ : va_Z C n d v (fun q => b0 ≤ q) s H) (hd : decode (mC k) pc = .ok (.getstatic i, 3)) (kk : W p l e R s m args below meth c H locs cells slots Q (F0 m (pc + 3) A (v :: st))) : W p l e R s m args below meth c H locs cells slots Q (F0 m pc A st) := by
  obtain ⟨cf, kf, fi, f, a, cell, h1, h2, h3, h4, h5, h6, h7, h8⟩ := hZ
  exact W.gets hx hb hown hl h1 h2 h3 h4 h5 (fun y => by rw [y] at h6; cases h6) h7 rfl hd kk
theorem sd_gets {i : Nat} (hx : p.tables.exec = Jvm.exec) (hb : c.code = mC k) (hown : s.vm.findClass (onm (mO k)) = some m.cls) (hK : KW D E s) (hI : Iv D E k b0 c0 s0 s h H locs cells slots ls A) (hs : stp k pc ls st h (.getstatic i) 3 = some (.inl z)) (hd : decode (mC k) pc = .ok (.getstatic i, 3)) (kk : Gk p l e R s m args below meth c Q D E k b0 c0 s0 z) : W p l e R s m args below meth c H locs cells slots Q (F0 m pc A st) := by
  have hE := hI.2.2.2.2.2.2.1
  obtain ⟨z1, z2, z3, z4, z5, z6, z7⟩ := hI.2.1
  simp only [stp] at hs
  split at hs
  · rename_i v hk
    cases hs
    have kk' := kk H locs cells slots A hI
    rcases sl_ok hk with ⟨y, -⟩ | ⟨y, -⟩ | ⟨y, -⟩ | ⟨y, w⟩ | ⟨y, -⟩
    · cases y
    · cases y
    · cases y
    · cases y; exact W_st hx hb hown (hK.wd w) z4 hd kk'
    · cases y
  · rename_i n hk
    have key : ∀ v : Value, z = (pc + 3, ls, v :: st, h) → W p l e R s m args below meth c H locs cells slots Q (F0 m (pc + 3) A (v :: st)) := by
      rintro v rfl
      exact kk H locs cells slots A hI
    rcases sl_ok hk with ⟨y, w⟩ | ⟨y, w⟩ | ⟨y, w⟩ | ⟨y, -⟩ | ⟨y, w⟩
    · cases y; cases hs; exact W_st hx hb hown (hK.wd w) z1 hd (key _ (by rw [hE]))
    · cases y; cases hs; exact W_st hx hb hown (hK.wd w) z2 hd (key _ (by rw [hE]))
    · cases y; cases hs; exact W_st hx hb hown (hK.wd w) z3 hd (key _ (by rw [hE]))
    · cases y
    · cases y; cases hs; exact W_st hx hb hown (hK.wd w) z5 hd (key _ (by rw [hE]))
  · cases hs
end
