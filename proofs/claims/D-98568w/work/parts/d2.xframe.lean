/-! NAMEORCHARD: frames of its state -/
set_option maxRecDepth 100000
abbrev TX (t : Nat) : Prop := t = 2 ∨ t = 4 ∨ t = 8 ∨ t = 9 ∨ (1013 ≤ t ∧ t ≤ 1019) ∨ t = 2001 ∨ t = 2002
section
variable {h h' h1 h2 : AH} {A B : Nat → Prop} {x a b c p q l o lo hi n k t : Nat} {O : Oc} {S : Sg} {L : Dy} {T : To} {M : Option Mq} {U : Nat → Bo} {qq : Mq}
theorem Sep.of (s : Sep h x l) (e1 : ol h' x 5 = ol h x 5) (e2 : ed h' l = ed h l) (e3 : ed h' (ol h x 5) = ed h (ol h x 5)) (e4 : ed h' (x + 37) = ed h (x + 37)) : Sep h' x l := by
  unfold Sep
  rw [e1, e2, e3, e4]
  exact s
theorem WL.nA (w : WL h l) (hT : ∀ a, a < Nx h → A a → TX (Tg h a)) : ¬ A l ∧ ¬ A (ed h l) := by
  refine ⟨fun q => ?_, fun q => ?_⟩
  · have := hT l w.lt q
    rw [w.tg] at this
    omega
  · have := hT _ w.elt q
    have := w.2.2.2.2.1
    omega
theorem XP.un0 (y : XP lo hi h x o n b c p qq) (u : Un A h h') (hT : ∀ a, a < Nx h → A a → TX (Tg h a)) (e4 : ol h' x 4 = ol h x 4) (e5 : ol h' x 5 = ol h x 5) (d5 : ed h' (ol h x 5) = ed h (ol h x 5)) (d7 : ed h' (x + 37) = ed h (x + 37)) (f7 : ∀ i, el h' (x + 37) i = el h (x + 37) i) (hk : ∀ b', Tg h b' = 4 → Tg h (b' + 1) = 1013 → nbx x b' → b' ≠ b → ¬ A b' ∧ ¬ A (b' + 1)) {bb : Nat} (ne' : ol h p 175 ≠ bb) : XP lo hi h' x o n bb c p qq := by
  have np : ¬ A p := fun q => by have := hT p (Tg_nz y.tg (by decide)) q; rw [y.tg] at this; omega
  obtain ⟨k1, k2, k3, k4, k5, -⟩ := u.uk (Tg_nz y.tg (by decide)) np
  have eo : ∀ f, ol h' p f = ol h p f := fun f => by unfold ol; rw [k5]
  have lw := y.xl.ol.wl.nA hT
  have tw := y.xt.ol.wl.nA hT
  have nl : ∀ a, 32 ≤ Tg h a → Tg h a ≤ 34 → ¬ A a := fun a h1 h2 q => by have := hT a (Tg_lt (by omega)) q; omega
  have nt : ∀ a, Tg h a = 1004 → ¬ A a := fun a h1 q => by have := hT a (Tg_lt (by omega)) q; omega
  have nk : ¬ A (ol h p 177) := fun q => by
    have t := y.xk.tg
    have := hT _ (Tg_lt (by omega)) q
    omega
  obtain ⟨xl, dl⟩ := y.xl.un u lw.1 lw.2 nl
  obtain ⟨xt, dt⟩ := y.xt.un u tw.1 tw.2 nt
  have kb := hk _ y.xb.tg y.xb.ta y.nb y.ne
  refine ⟨by rw [k1]; exact y.tg, ?_, ?_, ?_, ?_, ?_, ?_, ?_, ?_, ?_, ?_, ?_, ?_, ?_, ?_⟩ <;> rw [eo]
  · rw [k5]; exact y.f1
  · rw [k5]; exact y.f2
  · rw [k5]; exact y.f3
  · rw [k5]; exact y.f4
  · exact y.xb.un u kb.1 kb.2
  · exact y.nb
  · exact ne'
  · exact fun j hj => by rw [f7]; exact y.nu j hj
  · exact xl
  · exact y.sl.of e5 dl d5 d7
  · exact y.xk.un u nk
  · rw [e4]; exact y.sk
  · exact xt
  · exact y.st.of e5 dt d5 d7
theorem XN.un1 (X : XN h x lo hi o b O S) (u : Un A h h') (hT : ∀ a, a < Nx h → A a → TX (Tg h a)) (sf : Sf lo hi h A) (hx : ∀ f, f ≠ 1 → Fr h' f x = Fr h f x) (hf : XF h' x) (hk : ∀ b', Tg h b' = 4 → Tg h (b' + 1) = 1013 → nbx x b' → b' ≠ b → ¬ A b' ∧ ¬ A (b' + 1)) {bb : Nat} {B' : Bo} (fb' : Fr h' 1 x = some bb) (xb' : XB lo hi h' bb o O.nA B') (nb' : nbx x bb) (g1 : ∀ j, j < S.c → el h (x + 37) j ≠ bb) (g2 : ∀ k, k < 4 → ∀ p, Ar h (x + 65) k = some p → ol h p 175 ≠ bb) : XN h' x lo hi o bb O ((B', S.1.2), S.2) := by
  have eo : ∀ f, f ≠ 1 → ol h' x f = ol h x f := fun f hf1 => by unfold ol; rw [hx f hf1]
  have nl : ∀ a, 32 ≤ Tg h a → Tg h a ≤ 34 → ¬ A a := fun a h1 h2 q => by have := hT a (Tg_lt (by omega)) q; omega
  have nt : ∀ a, Tg h a = 1004 → ¬ A a := fun a h1 q => by have := hT a (Tg_lt (by omega)) q; omega
  have lw := X.da.ol.wl.nA hT
  have tw := X.to.ol.wl.nA hT
  have bw := X.be.wl.nA hT
  obtain ⟨xl, dl⟩ := X.da.un u lw.1 lw.2 nl
  obtain ⟨xt, dt⟩ := X.to.un u tw.1 tw.2 nt
  obtain ⟨wb, zb, db, fb⟩ := X.be.wl.un u bw.1 bw.2
  have nk : ¬ A (ol h x 4) := fun q => by
    have t := X.li.tg
    have := hT _ (Tg_lt (by omega)) q
    omega
  have t65 : Tg h (x + 65) = 5001 := X.f.t (65, 5001) (by decide)
  have n65 : ¬ A (x + 65) := fun q => by have := hT _ (Tg_nz t65 (by decide)) q; rw [t65] at this; omega
  have k65 := u.uk (Tg_nz t65 (by decide)) n65
  refine ⟨hf, Nat.le_trans X.hn u.nx, X.rg, fb', X.xo.un sf u, xb', nb', ?_, ?_, ?_, ?_, ?_, ?_, ?_, ?_, ?_, fun k hk' => ?_, ?_⟩
  · rw [hx _ (by decide), eo _ (by decide)]; exact X.fd
  · rw [eo _ (by decide)]; exact xl
  · rw [eo _ (by decide)]; exact X.sd.of (eo 5 (by decide)) dl dt db
  · rw [hx _ (by decide), eo _ (by decide)]; exact X.fk
  · rw [eo _ (by decide)]; exact X.li.un u nk
  · rw [hx _ (by decide), eo _ (by decide)]; exact X.ft
  · rw [eo _ (by decide)]; exact xt
  · rw [eo _ (by decide), dt, db]; exact X.se
  · refine ⟨wb, by rw [zb]; exact X.be.sz, ?_, fun j hj => ?_, fun i j hij hj => ?_⟩
    · rw [db, (u.2.2.2.2.1 _ X.be.wl.elt).1]; exact X.be.ou
    · obtain ⟨q1, q2, q3⟩ := X.be.at j hj
      have kb := hk _ q1.tg q1.ta q2 q3
      rw [fb]
      exact ⟨q1.un u kb.1 kb.2, q2, g1 j hj⟩
    · rw [fb, fb]; exact X.be.di i j hij hj
  · have old := X.mk k hk'
    show XM lo hi h' x o O.nA bb S.c k (S.M k)
    revert old
    cases S.M k with
    | none => intro old; show Ar h' (x + 65) k = none; rw [k65.2.2.2.2.2.2.2]; exact old
    | some q =>
      rintro ⟨p, e, y⟩
      exact ⟨p, by rw [k65.2.2.2.2.2.2.2]; exact e, y.un0 u hT (eo 4 (by decide)) (eo 5 (by decide)) dt db fb hk (g2 k hk' p e)⟩
  · rw [u.2.2.2.1, (u.2.2.2.2.1 _ (Tg_nz X.dv (by decide))).1]; exact X.dv
theorem XN.mne (X : XN h x lo hi o b O S) (hk : k < 4) (e : Ar h (x + 65) k = some p) : ol h p 175 ≠ b ∧ Tg h (ol h p 175) = 4 ∧ Tg h p = 35 ∧ ∀ j, j < S.c → ol h p 175 ≠ el h (x + 37) j := by
  have old := X.mk k hk
  revert old
  cases S.M k with
  | none => intro old; have old : Ar h (x + 65) k = none := old; rw [old] at e; cases e
  | some q =>
    rintro ⟨p', e', y⟩
    rw [e'] at e
    cases e
    exact ⟨y.ne, y.xb.tg, y.tg, y.nu⟩
theorem XN.un0 (X : XN h x lo hi o b O S) (u : Un A h h') (hT : ∀ a, a < Nx h → A a → TX (Tg h a)) (sf : Sf lo hi h A) (hx : ∀ f, Fr h' f x = Fr h f x) (hf : XF h' x) (hk : ∀ b', Tg h b' = 4 → Tg h (b' + 1) = 1013 → nbx x b' → b' ≠ b → ¬ A b' ∧ ¬ A (b' + 1)) {B' : Bo} (xb' : XB lo hi h' b o O.nA B') : XN h' x lo hi o b O ((B', S.1.2), S.2) := X.un1 u hT sf (fun f _ => hx f) hf hk (by rw [hx]; exact X.fb) xb' X.nb (fun j hj => (X.be.at j hj).2.2) (fun k hk p e => (X.mne hk e).1)
/-- other boughs at hand -/
theorem XN.newb (X : XN h x lo hi o b O S) {bb : Nat} {B' : Bo} (xb' : XB lo hi h bb o O.nA B') (nb' : nbx x bb) (g1 : ∀ j, j < S.c → el h (x + 37) j ≠ bb) (g2 : ∀ k, k < 4 → ∀ p, Ar h (x + 65) k = some p → ol h p 175 ≠ bb) : XN (sFr h 1 x (some bb)) x lo hi o bb O ((B', S.1.2), S.2) := by
  have ax : Tg h x = 2 := X.f.tx
  have rg := X.rg
  have nx : ∀ a, Tg h a = 4 ∨ Tg h a = 1013 → ¬ a = x := fun a q e => by rw [e, ax] at q; omega
  have u : Un (fun a => a = x) h (sFr h 1 x (some bb)) := un_sFr rfl
  refine X.un1 u (fun a _ q => by rw [q, ax]; exact Or.inl rfl) (fun a _ q => ?_) (fun f hf => Fr_otherf hf) ?_ (fun b' t4 t5 _ _ => ⟨nx _ (Or.inl t4), nx _ (Or.inr t5)⟩) Fr_same (xb'.un u (nx _ (Or.inl xb'.tg)) (nx _ (Or.inr xb'.ta))) nb' g1 g2
  · rw [q]
    refine ⟨fun i => ?_, by rw [ax]; decide, by rw [ax]; decide⟩
    obtain ⟨i1, i2⟩ := i
    omega
  · obtain ⟨f1, f2, f3, f4, f5⟩ := X.f
    have src : ∀ e ∈ xfR, e.1 ≠ 1 := by decide +kernel
    exact ⟨fun e he => by rw [Fr_otherf (src e he)]; exact f1 e he, f2, f3, f4, f5⟩
theorem XN.sfx (X : XN h x lo hi o b O S) : Sf lo hi h (Xs x h) := fun a _ q => by
  have t := q.tg X.f
  have rg := X.rg
  refine ⟨fun hi' => ?_, by omega, by omega⟩
  obtain ⟨i1, i2⟩ := hi'
  unfold Xs at q
  omega
/-- trials leave the state -/
theorem XN.tw (X : XN h x lo hi o b O S) (u : Tw x h h') : XN h' x lo hi o b O S := by
  have nb := X.nb
  have ax : Tg h x = 2 := X.f.tx
  have kb : ∀ b', Tg h b' = 4 → nbx x b' → ¬ Xs x h b' ∧ (Tg h (b' + 1) = 1013 → ¬ Xs x h (b' + 1)) := by
    intro b' t4 nb
    have nex : b' ≠ x := fun e => by rw [e, ax] at t4; omega
    refine ⟨fun q => ?_, fun t5 q => ?_⟩
    · unfold Xs at q; omega
    · have nex2 : b' + 1 ≠ x := fun e => by rw [e, ax] at t5; omega
      unfold Xs at q
      omega
  have k1 := kb b X.xb.tg X.nb
  exact X.un0 u.1 (fun a _ q => q.tg X.f) X.sfx (fun f => (u.2 x (Tg_nz ax (by decide))).2.2 (by rw [ax]; decide) f) (X.f.tw u) (fun b' t4 t5 nb' _ => ⟨(kb b' t4 nb').1, (kb b' t4 nb').2 t5⟩) (X.xb.un u.1 k1.1 (k1.2 X.xb.ta))
theorem XN.tf (X : XN h x lo hi o b O S) (u : Tf x h h') : XN h' x lo hi o b O S := X.tw u.1
/-- the boughs at hand changed -/
theorem XN.bx (X : XN h x lo hi o b O S) (u : Bx b h h') {B' : Bo} (xb' : XB lo hi h' b o O.nA B') : XN h' x lo hi o b O ((B', S.1.2), S.2) := by
  have ax : Tg h x = 2 := X.f.tx
  have t4 := X.xb.tg
  have t5 := X.xb.ta
  have nb := X.nb
  have ou := X.xb.ou
  have nex : x ≠ b := fun e => by rw [e, t4] at ax; omega
  have ux := u.un
  obtain ⟨u1, u2, u3, u4, u5, u6, u7, u8, u9, u10, u11, u12⟩ := u
  refine X.un0 ux (fun a _ q => ?_) (fun a _ q => ?_) (fun f => (u10 f x nex).2) ?_ (fun b' s4 s5 nb' ne => ?_) xb'
  · rcases q with q | q | q | q
    · rw [q, t4]; omega
    · rw [q, t5]; omega
    · omega
    · omega
  · rcases q with q | q | q | q
    · rw [q, t4]
      refine ⟨fun i => ?_, by decide, by decide⟩
      obtain ⟨i1, i2⟩ := i
      omega
    · rw [q, t5]
      refine ⟨fun i => ?_, by decide, by decide⟩
      obtain ⟨i1, i2⟩ := i
      omega
    · rw [q]; exact ⟨fun _ => Or.inl rfl, by decide, by decide⟩
    · rw [q]; exact ⟨fun _ => Or.inr rfl, by decide, by decide⟩
  · obtain ⟨f1, f2, f3, f4, f5⟩ := X.f
    have src : ∀ e ∈ xfR, e.2.1 < 66 ∧ (e.2.1 = 0 ∨ 30 ≤ e.2.1) := by decide +kernel
    refine ⟨fun e he => ?_, fun e he => by rw [u1]; exact f2 e he, fun e he => by rw [u2]; exact f3 e he, fun i hi => by rw [u5]; exact f4 i hi, fun i hi => by rw [u5]; exact f5 i hi⟩
    have q := src e he
    rw [(u10 e.1 (x + e.2.1) (by omega)).2]
    exact f1 e he
  · refine ⟨fun q => ?_, fun q => ?_⟩
    · rcases q with q | q | q | q
      · exact ne q
      · rw [q, t5] at s4; omega
      · omega
      · omega
    · rcases q with q | q | q | q
      · rw [q, t4] at s5; omega
      · omega
      · omega
      · omega
/-! the boughs of trials -/
theorem XN.xs (X : XN h x lo hi o b O S) (k : Nat) (e1 : (k, 4) ∈ xfT) (e2 : (k + 1, 1013) ∈ xfT) (e3 : (28, k, k + 1) ∈ xfR) (e4 : (k + 1, 10) ∈ xfN) (hk : 30 ≤ k ∧ k < 65) : XS lo hi h (x + k) := by
  have rg := X.rg
  exact ⟨X.f.t _ e1, X.f.r _ e3, X.f.t _ e2, X.f.n _ e4, by omega⟩
theorem XN.tr (X : XN h x lo hi o b O S) : XS lo hi h (x + 30) := X.xs 30 (by decide) (by decide) (by decide) (by decide) (by decide)
theorem XN.st1 (X : XN h x lo hi o b O S) {i : Nat} (hi' : i < 4) : XS lo hi h (x + (44 + 2 * i)) := by
  rcases (show i = 0 ∨ i = 1 ∨ i = 2 ∨ i = 3 by omega) with rfl | rfl | rfl | rfl
  · exact X.xs 44 (by decide) (by decide) (by decide) (by decide) (by decide)
  · exact X.xs 46 (by decide) (by decide) (by decide) (by decide) (by decide)
  · exact X.xs 48 (by decide) (by decide) (by decide) (by decide) (by decide)
  · exact X.xs 50 (by decide) (by decide) (by decide) (by decide) (by decide)
theorem XN.st2 (X : XN h x lo hi o b O S) {i : Nat} (hi' : i < 4) : XS lo hi h (x + (55 + 2 * i)) := by
  rcases (show i = 0 ∨ i = 1 ∨ i = 2 ∨ i = 3 by omega) with rfl | rfl | rfl | rfl
  · exact X.xs 55 (by decide) (by decide) (by decide) (by decide) (by decide)
  · exact X.xs 57 (by decide) (by decide) (by decide) (by decide) (by decide)
  · exact X.xs 59 (by decide) (by decide) (by decide) (by decide) (by decide)
  · exact X.xs 61 (by decide) (by decide) (by decide) (by decide) (by decide)
theorem XN.bne (X : XN h x lo hi o b O S) (hc : x + 30 ≤ c ∧ c < x + 66) : b ≠ c := by
  have := X.nb
  omega
/-- a copy of the boughs at hand -/
theorem XN.cp {D : Nat} (X : XN h x lo hi o b O S) (hc : Fb x c) (s : XS lo hi h c) : Ca (D + 1) 96 [.ref c, .ref b] h (fun r h' => r = .inl (some (.ref c)) ∧ Bx c h h' ∧ Tf x h h' ∧ XB lo hi h' c o O.nA S.B) := by
  have n1 := X.xo.wo.nA
  refine ca_mono (cx_copies s X.xb (X.bne (by omega)) n1) ?_
  rintro r h1 ⟨e, u, y⟩
  exact ⟨e, u, u.tf hc s.tg, y⟩
end
