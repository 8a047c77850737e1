/-! NAMEORCHARD: what is kept behind -/
set_option maxRecDepth 100000
/-- kinds that nothing of it touches -/
abbrev Pt (t : Nat) : Prop := t = 10 ∨ (1500 ≤ t ∧ t < 2000) ∨ (2500 ≤ t ∧ t < 3000) ∨ t = 3001 ∨ (3500 ≤ t ∧ t < 5000) ∨ t = 45 ∨ t = 155 ∨ (5900 ≤ t) ∨ t = 3 ∨ (1006 ≤ t ∧ t ≤ 1008) ∨ t = 3002 ∨ (5002 ≤ t ∧ t ≤ 5005)
def Uq (h h' : AH) : Prop := Un (fun a => ¬ Pt (Tg h a)) h h'
section
variable {h h' h1 h2 : AH} {A : Nat → Prop} {x a b c p q l o lo hi n k t d D s j c' : Nat} {O : Oc} {S : Sg} {B : Bo} {L : Dy} {Q : Rs → AH → Prop} {u v w y : Int32} {U' : Nat → Bo}
theorem Uq.refl : Uq h h := Un.refl
theorem Uq.trans (u : Uq h h1) (t : Uq h1 h2) : Uq h h2 := Un.trans u t (fun z hz q => by
  have e := (u.2.2.2.2.1 z hz).1
  rw [e] at q
  exact q)
theorem Un.uq (u : Un A h h') (hA : ∀ a, a < Nx h → A a → ¬ Pt (Tg h a)) : Uq h h' := u.mono hA
theorem Tw.uq (u : Tw x h h') (f : XF h x) : Uq h h' := u.1.uq (fun a _ q => by have := q.tg f; omega)
theorem Tf.uq (u : Tf x h h') (f : XF h x) : Uq h h' := u.1.uq f
theorem Bx.uq (u : Bx b h h') (t4 : Tg h b = 4) (t5 : Tg h (b + 1) = 1013) : Uq h h' := u.un.uq (fun a _ q => by
  rcases q with q | q | q | q
  · rw [q, t4]; omega
  · rw [q, t5]; omega
  · omega
  · omega)
theorem Ux.uq (u : Ux h h') : Uq h h' := Un.uq u (fun a _ q => by omega)
theorem XF.un (f : XF h x) (u : Un A h h') (hA : ∀ e ∈ xfT, e.1 ≠ 37 → ¬ A (x + e.1)) : XF h' x := by
  have src : ∀ e ∈ xfR, ∃ t ∈ xfT, t.1 = e.2.1 ∧ t.2 ≠ 0 ∧ t.1 ≠ 37 := by decide +kernel
  have tn : ∀ e ∈ xfT, e.2 ≠ 0 := by decide +kernel
  have nt : ∀ e ∈ xfN, ∃ t ∈ xfT, t.1 = e.1 ∧ t.2 ≠ 0 := by decide +kernel
  refine ⟨fun e he => ?_, fun e he => ?_, fun e he => ?_, fun i hi => ?_, fun i hi => ?_⟩
  · obtain ⟨t, ht, e1, e2, e3⟩ := src e he
    have tt := f.t t ht
    have na := hA t ht e3
    rw [e1] at tt na
    rw [(u.uk (Tg_nz tt e2) na).2.2.2.2.1]
    exact f.r e he
  · exact u.tg (f.t e he) (tn e he)
  · obtain ⟨t, ht, e1, e2⟩ := nt e he
    have tt := f.t t ht
    rw [e1] at tt
    rw [u.an (by rw [tt]; exact e2)]
    exact f.n e he
  · rw [(u.uk (Tg_nz (f.t (43, 5006) (by decide)) (by decide)) (hA (43, 5006) (by decide) (by decide))).2.2.2.2.2.2.2]
    exact f.s1 i hi
  · rw [(u.uk (Tg_nz (f.t (54, 5007) (by decide)) (by decide)) (hA (54, 5007) (by decide) (by decide))).2.2.2.2.2.2.2]
    exact f.s2 i hi
theorem XF.tne (f : XF h x) {e : Nat × Nat} (he : e ∈ xfT) : Tg h (x + e.1) ≠ 1014 ∧ Tg h (x + e.1) ≠ 1015 ∧ (e.1 ≠ 37 → Tg h (x + e.1) ≠ 42) ∧ Tg h (x + e.1) ≠ 5008 ∧ Tg h (x + e.1) ≠ 5009 ∧ Tg h (x + e.1) ≠ 5010 := by
  have all : ∀ e ∈ xfT, e.2 ≠ 1014 ∧ e.2 ≠ 1015 ∧ (e.1 ≠ 37 → e.2 ≠ 42) ∧ e.2 ≠ 5008 ∧ e.2 ≠ 5009 ∧ e.2 ≠ 5010 := by decide +kernel
  rw [f.t e he]
  exact all e he
/-- scratch changed, things made -/
theorem XN.ux (X : XN h x lo hi o b O S) (u : Ux h h') : XN h' x lo hi o b O S := by
  have ax : Tg h x = 2 := X.f.tx
  refine X.un0 u (fun a _ q => by omega) sf_sc (fun f => (Un.uk u (Tg_nz ax (by decide)) (by rw [ax]; decide)).2.2.2.2.1 f) (X.f.un u (fun e he _ q => ?_)) (fun b' t4 t5 _ _ => ⟨by rw [t4]; decide, by rw [t5]; decide⟩) (u.xb X.xb)
  have := X.f.tne he
  omega
theorem edT (w : WL h l) : (5008 ≤ Tg h (ed h l) ∧ Tg h (ed h l) ≤ 5010) ∨ Tg h (ed h l) = 5902 := by
  rcases w.2.2.2.2.1 with q | q
  · exact Or.inl q
  · exact Or.inr q.1
theorem sf_beh (t37 : Tg h (x + 37) = 42) (rg : x + 12 ≤ lo ∧ (hi ≤ x + 30 ∨ x + 66 ≤ lo)) (de : (5008 ≤ Tg h (ed h (x + 37)) ∧ Tg h (ed h (x + 37)) ≤ 5010) ∨ Tg h (ed h (x + 37)) = 5902) (ou : Out lo hi (ed h (x + 37)) ∨ Tg h (ed h (x + 37)) = 5902) : Sf lo hi h (fun a => a = x + 37 ∨ (a = ed h (x + 37) ∧ Tg h a ≠ 5902)) := by
  rintro a _ (q | ⟨q, q2⟩)
  · subst q
    refine ⟨fun i => ?_, by rw [t37]; decide, by rw [t37]; decide⟩
    obtain ⟨i1, i2⟩ := i
    clear de ou t37
    omega
  · subst q
    have ou := ou.resolve_right q2
    refine ⟨fun i => ?_, by clear ou rg; omega, q2⟩
    obtain ⟨i1, i2⟩ := i
    clear de t37 rg q2
    omega
theorem nA_beh (t37 : Tg h (x + 37) = 42) (de : (5008 ≤ Tg h (ed h (x + 37)) ∧ Tg h (ed h (x + 37)) ≤ 5010) ∨ Tg h (ed h (x + 37)) = 5902) (a : Nat) (h1 : Tg h a ≠ 42) (h2 : ¬ (5008 ≤ Tg h a ∧ Tg h a ≤ 5010)) : ¬ (a = x + 37 ∨ (a = ed h (x + 37) ∧ Tg h a ≠ 5902)) := by
  rintro (q | ⟨q, q2⟩)
  · subst q; exact h1 t37
  · subst q; exact de.elim h2 q2
theorem sl_beh (t37 : Tg h (x + 37) = 42) (y : OL lo hi h l) (n1 : l ≠ x + 37) (n2 : ed h l ≠ ed h (x + 37)) (de : (5008 ≤ Tg h (ed h (x + 37)) ∧ Tg h (ed h (x + 37)) ≤ 5010) ∨ Tg h (ed h (x + 37)) = 5902) : ¬ (l = x + 37 ∨ (l = ed h (x + 37) ∧ Tg h l ≠ 5902)) ∧ ¬ (ed h l = x + 37 ∨ (ed h l = ed h (x + 37) ∧ Tg h (ed h l) ≠ 5902)) := by
  have t1 := y.wl.tg
  have t2 := edT y.wl
  have t3 := y.de
  refine ⟨?_, ?_⟩
  · rintro (q | ⟨q, q2⟩)
    · exact n1 q
    · rw [← q, t1] at de
      clear y n1 n2 t2 t3 q q2
      omega
  · rintro (q | ⟨q, _⟩)
    · rw [q, t37] at t2
      clear y n1 n2 de q t3
      omega
    · exact n2 q
/-- what is behind changed -/
theorem XN.beh (X : XN h x lo hi o b O S) (u : Un (fun a => a = x + 37 ∨ (a = ed h (x + 37) ∧ Tg h a ≠ 5902)) h h') (he : ed h' (x + 37) = ed h (x + 37) ∨ Nx h ≤ ed h' (x + 37)) (be : XU lo hi h' x o O.nA b c' U') (hnew : ∀ k, k < 4 → ∀ p, Ar h (x + 65) k = some p → ∀ j, j < c' → (∃ i, i < S.c ∧ el h' (x + 37) j = el h (x + 37) i) ∨ ol h p 175 ≠ el h' (x + 37) j) : XN h' x lo hi o b O (S.1, (c', U'), S.M) := by
  have ax : Tg h x = 2 := X.f.tx
  have t37 : Tg h (x + 37) = 42 := X.f.t (37, 42) (by decide)
  have de := edT X.be.wl
  have rg := X.rg
  have el37 := X.be.wl.elt
  have nA := nA_beh t37 de
  have nx : ∀ f, Fr h' f x = Fr h f x := (u.uk (Tg_nz ax (by decide)) (nA x (by omega) (by omega))).2.2.2.2.1
  have eo : ∀ f, ol h' x f = ol h x f := fun f => by unfold ol; rw [nx]
  have nl : ∀ a, 32 ≤ Tg h a → Tg h a ≤ 34 → ¬ (a = x + 37 ∨ (a = ed h (x + 37) ∧ Tg h a ≠ 5902)) := fun a h1 h2 => nA a (by omega) (by omega)
  have nt : ∀ a, Tg h a = 1004 → ¬ (a = x + 37 ∨ (a = ed h (x + 37) ∧ Tg h a ≠ 5902)) := fun a h1 => nA a (by omega) (by omega)
  have sl := fun l (y : OL lo hi h l) n1 n2 => sl_beh t37 y n1 n2 de
  obtain ⟨l1, l2⟩ := sl _ X.da.ol X.sd.2.2.1 X.sd.2.2.2
  obtain ⟨t1, t2⟩ := sl _ X.to.ol X.se.1 X.se.2
  obtain ⟨xl, dl⟩ := X.da.un u l1 l2 nl
  obtain ⟨xt, dt⟩ := X.to.un u t1 t2 nt
  have nk : ∀ a, (Tg h a = 1001 ∨ Tg h a = 1002 ∨ Tg h a = 1005) → ¬ (a = x + 37 ∨ (a = ed h (x + 37) ∧ Tg h a ≠ 5902)) := fun a q => nA a (by omega) (by omega)
  have nb : ∀ b', Tg h b' = 4 → Tg h (b' + 1) = 1013 → ¬ (b' = x + 37 ∨ (b' = ed h (x + 37) ∧ Tg h b' ≠ 5902)) ∧ ¬ (b' + 1 = x + 37 ∨ (b' + 1 = ed h (x + 37) ∧ Tg h (b' + 1) ≠ 5902)) := fun b' h1 h2 => ⟨nA _ (by omega) (by omega), nA _ (by omega) (by omega)⟩
  have bb := nb b X.xb.tg X.xb.ta
  have t65 : Tg h (x + 65) = 5001 := X.f.t (65, 5001) (by decide)
  have k65 := u.uk (Tg_nz t65 (by decide)) (nA _ (by omega) (by omega))
  have sep : ∀ l, OL lo hi h l → Sep h x l → ed h' l = ed h l → Sep h' x l := by
    intro l y s e
    have := y.wl.elt
    unfold Sep
    rw [eo, e, dt]
    refine ⟨s.1, s.2.1, s.2.2.1, ?_⟩
    rcases he with q | q
    · rw [q]; exact s.2.2.2
    · omega
  have sf := sf_beh t37 rg de X.be.ou
  refine ⟨X.f.un u (fun e he' ne => ?_), Nat.le_trans X.hn u.nx, X.rg, by rw [nx]; exact X.fb, X.xo.un sf u, X.xb.un u bb.1 bb.2, X.nb, ?_, ?_, ?_, ?_, ?_, ?_, ?_, ?_, be, fun k hk' => ?_, ?_⟩
  · have := X.f.tne he'
    exact nA _ (by have := this.2.2.1 ne; omega) (by omega)
  · rw [nx, eo]; exact X.fd
  · rw [eo]; exact xl
  · rw [eo]; exact sep _ X.da.ol X.sd dl
  · rw [nx, eo]; exact X.fk
  · rw [eo]; exact X.li.un u (nk _ X.li.tg)
  · rw [nx, eo]; exact X.ft
  · rw [eo]; exact xt
  · rw [eo, dt]
    refine ⟨X.se.1, ?_⟩
    have := X.to.ol.wl.elt
    rcases he with q | q
    · rw [q]; exact X.se.2
    · omega
  · have old := X.mk k hk'
    have hn := hnew k hk'
    show XM lo hi h' x o O.nA b c' k (S.M k)
    revert old
    cases S.M k with
    | none => intro old; show Ar h' (x + 65) k = none; rw [k65.2.2.2.2.2.2.2]; exact old
    | some q =>
      rintro ⟨p, e, y⟩
      refine ⟨p, by rw [k65.2.2.2.2.2.2.2]; exact e, ?_⟩
      obtain ⟨k1, k2, k3, k4, k5, -⟩ := u.uk (Tg_nz y.tg (by decide)) (nA p (by rw [y.tg]; decide) (by rw [y.tg]; decide))
      have ep : ∀ f, ol h' p f = ol h p f := fun f => by unfold ol; rw [k5]
      obtain ⟨m1, m2⟩ := sl _ y.xl.ol y.sl.2.2.1 y.sl.2.2.2
      obtain ⟨m3, m4⟩ := sl _ y.xt.ol y.st.2.2.1 y.st.2.2.2
      obtain ⟨yl, el⟩ := y.xl.un u m1 m2 nl
      obtain ⟨yt, et⟩ := y.xt.un u m3 m4 nt
      have kb := nb _ y.xb.tg y.xb.ta
      refine ⟨by rw [k1]; exact y.tg, ?_, ?_, ?_, ?_, ?_, ?_, ?_, ?_, ?_, ?_, ?_, ?_, ?_, ?_⟩ <;> rw [ep]
      · rw [k5]; exact y.f1
      · rw [k5]; exact y.f2
      · rw [k5]; exact y.f3
      · rw [k5]; exact y.f4
      · exact y.xb.un u kb.1 kb.2
      · exact y.nb
      · exact y.ne
      · intro j hj
        rcases hn p e j hj with ⟨i, hi', q⟩ | q
        · rw [q]; exact y.nu i hi'
        · exact q
      · exact yl
      · exact sep _ y.xl.ol y.sl el
      · exact y.xk.un u (nk _ y.xk.tg)
      · rw [eo]; exact y.sk
      · exact yt
      · exact sep _ y.xt.ol y.st et
  · rw [u.2.2.2.1, (u.2.2.2.2.1 _ (Tg_nz X.dv (by decide))).1]; exact X.dv
end
