/-! ORCHARDS as objects -/
set_option maxRecDepth 100000
/-- a cell is as it was -/
def Uk (h h' : AH) (p : Nat) : Prop := Tg h' p = Tg h p ∧ An h' p = An h p ∧ (∀ f, Fi h' f p = Fi h f p) ∧ (∀ f, Fl h' f p = Fl h f p) ∧ (∀ f, Fr h' f p = Fr h f p) ∧ Ai h' p = Ai h p ∧ Al h' p = Al h p ∧ Ar h' p = Ar h p
theorem Un.uk {A : Nat → Prop} {h h' : AH} {p : Nat} (u : Un A h h') (hp : p < Nx h) (ha : ¬ A p) : Uk h h' p := by
  obtain ⟨u1, u2, u3, u4, u5, u6⟩ := u
  obtain ⟨a1, a2, a3, a4⟩ := u6 p hp ha
  exact ⟨(u5 p hp).1, (u5 p hp).2, fun f => (a1 f).1, fun f => (a1 f).2.1, fun f => (a1 f).2.2, a2, a3, a4⟩
theorem Un.tg {A : Nat → Prop} {h h' : AH} {p t : Nat} (u : Un A h h') (e : Tg h p = t) (ht : t ≠ 0) : Tg h' p = t := ((u.2.2.2.2.1 p (Tg_nz e ht)).1).trans e
theorem Un.an {A : Nat → Prop} {h h' : AH} {p : Nat} (u : Un A h h') (ht : Tg h p ≠ 0) : An h' p = An h p := (u.2.2.2.2.1 p (Tg_nz rfl ht)).2
noncomputable def ol (h : AH) (o f : Nat) : Nat := (Fr h f o).getD 0
noncomputable def oe (h : AH) (o f i : Nat) : Nat := el h (ol h o f) i
def LL (lo : Nat) (hi : Nat) (h : AH) (o : Nat) (f : Nat) (n : Nat) : Prop := (Fr h f o = some (ol h o f)) ∧ (Inn lo hi (ol h o f)) ∧ (Inn lo hi (ed h (ol h o f)) ∨ Tg h (ed h (ol h o f)) = 5902) ∧ (WL h (ol h o f)) ∧ (sz h (ol h o f) = n)
theorem LL.fr {lo : Nat} {hi : Nat} {h : AH} {o : Nat} {f : Nat} {n : Nat} (x : LL lo hi h o f n) : Fr h f o = some (ol h o f) := x.1
theorem LL.il {lo : Nat} {hi : Nat} {h : AH} {o : Nat} {f : Nat} {n : Nat} (x : LL lo hi h o f n) : Inn lo hi (ol h o f) := x.2.1
theorem LL.ie {lo : Nat} {hi : Nat} {h : AH} {o : Nat} {f : Nat} {n : Nat} (x : LL lo hi h o f n) : Inn lo hi (ed h (ol h o f)) ∨ Tg h (ed h (ol h o f)) = 5902 := x.2.2.1
theorem LL.wl {lo : Nat} {hi : Nat} {h : AH} {o : Nat} {f : Nat} {n : Nat} (x : LL lo hi h o f n) : WL h (ol h o f) := x.2.2.2.1
theorem LL.sz {lo : Nat} {hi : Nat} {h : AH} {o : Nat} {f : Nat} {n : Nat} (x : LL lo hi h o f n) : sz h (ol h o f) = n := x.2.2.2.2
def Loc (lo hi : Nat) (φ : Ph) : Prop := ∀ v v' : Nat → Int32, (∀ f, lo ≤ f → f ≤ hi → v f = v' f) → φ v = φ v'
def XE (lo hi bs be : Nat) (h : AH) (r : Option Nat) (o : Option Ph) : Prop := match o with
  | none => r = none
  | some φ => ∃ e k, r = some e ∧ Ex lo hi bs k h e φ ∧ k ≤ 60 ∧ Loc bs be φ
noncomputable def fcA (h : AH) (o : Nat) : Nat := (Fr h 44 ((Fr h 42 o).getD 0)).getD 0
def XO (lo : Nat) (hi : Nat) (h : AH) (o : Nat) (O : Oc) : Prop := (WO O) ∧ (Tg h o = 5) ∧ (Inn lo hi o) ∧ (LL lo hi h o 32 O.nA) ∧ (LL lo hi h o 33 O.nS) ∧ (LL lo hi h o 34 O.nP) ∧ (LL lo hi h o 35 O.nP) ∧ (LL lo hi h o 36 O.nT) ∧ (LL lo hi h o 37 O.nG) ∧ (LL lo hi h o 38 O.nB) ∧ (∀ k, k < O.nA → Inn lo hi (oe h o 32 k) ∧ Tg h (oe h o 32 k) = 12 + O.kd k ∧ Fi h 154 (oe h o 32 k) = ix (O.ts k) ∧ Fi h 155 (oe h o 32 k) = ix (O.pl k) ∧ Fi h 156 (oe h o 32 k) = ix (O.rw k) ∧ Fi h 157 (oe h o 32 k) = ix (O.rp k) ∧ Fi h 158 (oe h o 32 k) = ix (O.wo k) ∧ Fi h 159 (oe h o 32 k) = ix (O.tw k) - 1) ∧ (∀ k, k < O.nS → Inn lo hi (oe h o 33 k) ∧ Inn lo hi (lta h (oe h o 33 k)) ∧ SO h (oe h o 33 k) (O.sn k)) ∧ (∀ k, k < O.nP → (Tg h (oe h o 34 k) = 155 ∨ (Inn lo hi (oe h o 34 k) ∧ Tg h (oe h o 34 k) = 55)) ∧ Fl h 182 (oe h o 34 k) = lix (O.pn k)) ∧ (∀ k, k < O.nP → Inn lo hi (oe h o 35 k) ∧ Tg h (oe h o 35 k) = 17 ∧ Fi h 163 (oe h o 35 k) = ix (O.ln k) ∧ Fi h 164 (oe h o 35 k) = ix (O.ld k) ∧ Fi h 165 (oe h o 35 k) = (if O.mu k = 0 then -1 else ix (O.mu k))) ∧ (∀ k, k < O.nT → Inn lo hi (oe h o 36 k) ∧ Tg h (oe h o 36 k) = 1009 ∧ An h (oe h o 36 k) = 2 ∧ Ai h (oe h o 36 k) 0 = ix (O.st k) ∧ Ai h (oe h o 36 k) 1 = ix (O.sb k)) ∧ (∀ k, k < O.nG → Inn lo hi (oe h o 37 k) ∧ Tg h (oe h o 37 k) = 1011 ∧ An h (oe h o 37 k) = O.pm k ∧ ∀ j, j < O.pm k → Ai h (oe h o 37 k) j = ix (O.pg k j)) ∧ (∀ k, k < O.nB → Inn lo hi (oe h o 38 k) ∧ Tg h (oe h o 38 k) = 1012 ∧ An h (oe h o 38 k) = 2 ∧ Ai h (oe h o 38 k) 0 = ix (O.ba k) ∧ Ai h (oe h o 38 k) 1 = ix (O.bb k)) ∧ (XE lo hi 1 4 h (Fr h 39 o) O.nr) ∧ (XE lo hi 5 6 h (Fr h 40 o) O.vl) ∧ (Fi h 41 o = ix (O.nS - O.nA)) ∧ (∃ f, Fr h 42 o = some f ∧ Inn lo hi f ∧ Tg h f = 6 ∧ Fr h 44 f = some (fcA h o) ∧ Inn lo hi (fcA h o) ∧ Tg h (fcA h o) = 1015 ∧ An h (fcA h o) = 4) ∧ (∃ r, Fr h 43 o = some r ∧ Tg h r = 1014 ∧ An h r = 9)
theorem XO.wo {lo : Nat} {hi : Nat} {h : AH} {o : Nat} {O : Oc} (x : XO lo hi h o O) : WO O := x.1
theorem XO.tg {lo : Nat} {hi : Nat} {h : AH} {o : Nat} {O : Oc} (x : XO lo hi h o O) : Tg h o = 5 := x.2.1
theorem XO.inn {lo : Nat} {hi : Nat} {h : AH} {o : Nat} {O : Oc} (x : XO lo hi h o O) : Inn lo hi o := x.2.2.1
theorem XO.ap {lo : Nat} {hi : Nat} {h : AH} {o : Nat} {O : Oc} (x : XO lo hi h o O) : LL lo hi h o 32 O.nA := x.2.2.2.1
theorem XO.sn {lo : Nat} {hi : Nat} {h : AH} {o : Nat} {O : Oc} (x : XO lo hi h o O) : LL lo hi h o 33 O.nS := x.2.2.2.2.1
theorem XO.pn {lo : Nat} {hi : Nat} {h : AH} {o : Nat} {O : Oc} (x : XO lo hi h o O) : LL lo hi h o 34 O.nP := x.2.2.2.2.2.1
theorem XO.pe {lo : Nat} {hi : Nat} {h : AH} {o : Nat} {O : Oc} (x : XO lo hi h o O) : LL lo hi h o 35 O.nP := x.2.2.2.2.2.2.1
theorem XO.st {lo : Nat} {hi : Nat} {h : AH} {o : Nat} {O : Oc} (x : XO lo hi h o O) : LL lo hi h o 36 O.nT := x.2.2.2.2.2.2.2.1
theorem XO.pg {lo : Nat} {hi : Nat} {h : AH} {o : Nat} {O : Oc} (x : XO lo hi h o O) : LL lo hi h o 37 O.nG := x.2.2.2.2.2.2.2.2.1
theorem XO.bn {lo : Nat} {hi : Nat} {h : AH} {o : Nat} {O : Oc} (x : XO lo hi h o O) : LL lo hi h o 38 O.nB := x.2.2.2.2.2.2.2.2.2.1
theorem XO.ap1 {lo : Nat} {hi : Nat} {h : AH} {o : Nat} {O : Oc} (x : XO lo hi h o O) : ∀ k, k < O.nA → Inn lo hi (oe h o 32 k) ∧ Tg h (oe h o 32 k) = 12 + O.kd k ∧ Fi h 154 (oe h o 32 k) = ix (O.ts k) ∧ Fi h 155 (oe h o 32 k) = ix (O.pl k) ∧ Fi h 156 (oe h o 32 k) = ix (O.rw k) ∧ Fi h 157 (oe h o 32 k) = ix (O.rp k) ∧ Fi h 158 (oe h o 32 k) = ix (O.wo k) ∧ Fi h 159 (oe h o 32 k) = ix (O.tw k) - 1 := x.2.2.2.2.2.2.2.2.2.2.1
theorem XO.sn1 {lo : Nat} {hi : Nat} {h : AH} {o : Nat} {O : Oc} (x : XO lo hi h o O) : ∀ k, k < O.nS → Inn lo hi (oe h o 33 k) ∧ Inn lo hi (lta h (oe h o 33 k)) ∧ SO h (oe h o 33 k) (O.sn k) := x.2.2.2.2.2.2.2.2.2.2.2.1
theorem XO.pn1 {lo : Nat} {hi : Nat} {h : AH} {o : Nat} {O : Oc} (x : XO lo hi h o O) : ∀ k, k < O.nP → (Tg h (oe h o 34 k) = 155 ∨ (Inn lo hi (oe h o 34 k) ∧ Tg h (oe h o 34 k) = 55)) ∧ Fl h 182 (oe h o 34 k) = lix (O.pn k) := x.2.2.2.2.2.2.2.2.2.2.2.2.1
theorem XO.pe1 {lo : Nat} {hi : Nat} {h : AH} {o : Nat} {O : Oc} (x : XO lo hi h o O) : ∀ k, k < O.nP → Inn lo hi (oe h o 35 k) ∧ Tg h (oe h o 35 k) = 17 ∧ Fi h 163 (oe h o 35 k) = ix (O.ln k) ∧ Fi h 164 (oe h o 35 k) = ix (O.ld k) ∧ Fi h 165 (oe h o 35 k) = (if O.mu k = 0 then -1 else ix (O.mu k)) := x.2.2.2.2.2.2.2.2.2.2.2.2.2.1
theorem XO.st1 {lo : Nat} {hi : Nat} {h : AH} {o : Nat} {O : Oc} (x : XO lo hi h o O) : ∀ k, k < O.nT → Inn lo hi (oe h o 36 k) ∧ Tg h (oe h o 36 k) = 1009 ∧ An h (oe h o 36 k) = 2 ∧ Ai h (oe h o 36 k) 0 = ix (O.st k) ∧ Ai h (oe h o 36 k) 1 = ix (O.sb k) := x.2.2.2.2.2.2.2.2.2.2.2.2.2.2.1
theorem XO.pg1 {lo : Nat} {hi : Nat} {h : AH} {o : Nat} {O : Oc} (x : XO lo hi h o O) : ∀ k, k < O.nG → Inn lo hi (oe h o 37 k) ∧ Tg h (oe h o 37 k) = 1011 ∧ An h (oe h o 37 k) = O.pm k ∧ ∀ j, j < O.pm k → Ai h (oe h o 37 k) j = ix (O.pg k j) := x.2.2.2.2.2.2.2.2.2.2.2.2.2.2.2.1
theorem XO.bn1 {lo : Nat} {hi : Nat} {h : AH} {o : Nat} {O : Oc} (x : XO lo hi h o O) : ∀ k, k < O.nB → Inn lo hi (oe h o 38 k) ∧ Tg h (oe h o 38 k) = 1012 ∧ An h (oe h o 38 k) = 2 ∧ Ai h (oe h o 38 k) 0 = ix (O.ba k) ∧ Ai h (oe h o 38 k) 1 = ix (O.bb k) := x.2.2.2.2.2.2.2.2.2.2.2.2.2.2.2.2.1
theorem XO.nr {lo : Nat} {hi : Nat} {h : AH} {o : Nat} {O : Oc} (x : XO lo hi h o O) : XE lo hi 1 4 h (Fr h 39 o) O.nr := x.2.2.2.2.2.2.2.2.2.2.2.2.2.2.2.2.2.1
theorem XO.vl {lo : Nat} {hi : Nat} {h : AH} {o : Nat} {O : Oc} (x : XO lo hi h o O) : XE lo hi 5 6 h (Fr h 40 o) O.vl := x.2.2.2.2.2.2.2.2.2.2.2.2.2.2.2.2.2.2.1
theorem XO.ot {lo : Nat} {hi : Nat} {h : AH} {o : Nat} {O : Oc} (x : XO lo hi h o O) : Fi h 41 o = ix (O.nS - O.nA) := x.2.2.2.2.2.2.2.2.2.2.2.2.2.2.2.2.2.2.2.1
theorem XO.fc {lo : Nat} {hi : Nat} {h : AH} {o : Nat} {O : Oc} (x : XO lo hi h o O) : ∃ f, Fr h 42 o = some f ∧ Inn lo hi f ∧ Tg h f = 6 ∧ Fr h 44 f = some (fcA h o) ∧ Inn lo hi (fcA h o) ∧ Tg h (fcA h o) = 1015 ∧ An h (fcA h o) = 4 := x.2.2.2.2.2.2.2.2.2.2.2.2.2.2.2.2.2.2.2.2.1
theorem XO.ro {lo : Nat} {hi : Nat} {h : AH} {o : Nat} {O : Oc} (x : XO lo hi h o O) : ∃ r, Fr h 43 o = some r ∧ Tg h r = 1014 ∧ An h r = 9 := x.2.2.2.2.2.2.2.2.2.2.2.2.2.2.2.2.2.2.2.2.2
/-- changes that leave an orchard as it is -/
def Sf (lo hi : Nat) (h : AH) (A : Nat → Prop) : Prop := ∀ a, a < Nx h → A a → (Inn lo hi a → Tg h a = 1014 ∨ Tg h a = 1015) ∧ Tg h a ≠ 155 ∧ Tg h a ≠ 5902
section
variable {lo hi bs be o a b f n p k t : Nat} {h h' : AH} {A : Nat → Prop} {O : Oc} {φ : Ph}
theorem Sf.uk (s : Sf lo hi h A) (u : Un A h h') (hi' : Inn lo hi p) (e : Tg h p = t) (ht : t ≠ 0) (h1 : t ≠ 1014) (h2 : t ≠ 1015) : Uk h h' p := by
  have hp := Tg_nz e ht
  refine u.uk hp (fun q => ?_)
  rcases (s p hp q).1 hi' with z | z
  · exact h1 (e.symm.trans z)
  · exact h2 (e.symm.trans z)
theorem Sf.ukl (s : Sf lo hi h A) (u : Un A h h') (e : Tg h p = 155) : Uk h h' p := u.uk (Tg_nz e (by decide)) (fun q => (s p (Tg_nz e (by decide)) q).2.1 e)
theorem wl_uk (w : WL h p) (u1 : Uk h h' p) (u2 : Uk h h' (ed h p)) (ev : Ev h' = Ev h) : WL h' p ∧ sz h' p = sz h p ∧ ed h' p = ed h p ∧ ∀ i, el h' p i = el h p i := by
  obtain ⟨a1, a2, a3, a4, a5, a6, a7, a8⟩ := u1
  obtain ⟨b1, b2, b3, b4, b5, b6, b7, b8⟩ := u2
  have e1 : sz h' p = sz h p := by unfold sz; rw [a3]
  have e2 : ed h' p = ed h p := by unfold ed; rw [a5]
  have e3 : ∀ i, el h' p i = el h p i := fun i => by unfold el; rw [e2, b8]
  obtain ⟨w1, w2, w3, w4, w5, w6, w7, w8⟩ := w
  refine ⟨⟨by rw [a1]; exact w1, by rw [a3, e1]; exact w2, by rw [e1]; exact w3, by rw [a5, e2]; exact w4, by rw [e2, b1, b2, ev]; exact w5, by rw [e1, e2, b2]; exact w6, by rw [e2, b2]; exact w7, fun i hi => ?_⟩, e1, e2, e3⟩
  rw [e2, b8, e3 i]
  exact w8 i (by rw [← e1]; exact hi)
theorem edt (w : WL h p) : Tg h (ed h p) ≠ 0 ∧ Tg h (ed h p) ≠ 1014 ∧ Tg h (ed h p) ≠ 1015 ∧ (Tg h (ed h p) = 5902 ∨ Tg h (ed h p) ≠ 5902) := by
  have := w.tn
  have h1 : 5000 ≤ Tg h (ed h p) := this.1
  refine ⟨by omega, by omega, by omega, by omega⟩
theorem Ex.un (s : Sf lo hi h A) (u : Un A h h') : ∀ k a φ, Ex lo hi bs k h a φ → Ex lo hi bs k h' a φ := by
  intro k
  induction k with
  | zero => intro a φ hx; exact hx.elim
  | succ k ih =>
    intro a φ hx
    obtain ⟨ii, hx⟩ := hx
    refine ⟨ii, ?_⟩
    rcases hx with ⟨ht, rfl⟩ | ⟨ht, w, hw, hi', rfl⟩ | ⟨ht, e, φ1, he, hx, rfl⟩ | ⟨ht, g, φ0, l, ψ, hg, hx, hl, il, ie, wl, hk, rfl⟩
    · obtain ⟨a1, a2, a3, a4, a5, a6, a7, a8⟩ := s.uk u ii ht (by decide) (by decide) (by decide)
      exact Or.inl ⟨a1.trans ht, by rw [a3]⟩
    · obtain ⟨a1, a2, a3, a4, a5, a6, a7, a8⟩ := s.uk u ii ht (by decide) (by decide) (by decide)
      exact Or.inr (Or.inl ⟨a1.trans ht, w, hw, by rw [a3]; exact hi', rfl⟩)
    · obtain ⟨a1, a2, a3, a4, a5, a6, a7, a8⟩ := s.uk u ii ht (by decide) (by decide) (by decide)
      exact Or.inr (Or.inr (Or.inl ⟨a1.trans ht, e, φ1, by rw [a5]; exact he, ih _ _ hx, rfl⟩))
    · obtain ⟨a1, a2, a3, a4, a5, a6, a7, a8⟩ := s.uk u ii ht (by decide) (by decide) (by decide)
      obtain ⟨w1, w2, w3, w4⟩ := wl_uk wl (s.uk u il wl.tg (by decide) (by decide) (by decide)) (s.uk u ie rfl (edt wl).1 (edt wl).2.1 (edt wl).2.2.1) u.2.2.2.1
      refine Or.inr (Or.inr (Or.inr ⟨a1.trans ht, g, φ0, l, ψ, by rw [a5]; exact hg, ih _ _ hx, by rw [a5]; exact hl, il, by rw [w3]; exact ie, w1, fun i hi' => ?_, ?_⟩))
      · rw [w2] at hi'
        obtain ⟨k1, k2, e, k3, k4⟩ := hk i hi'
        obtain ⟨b1, b2, b3, b4, b5, b6, b7, b8⟩ := s.uk u k1 rfl (by omega) (by omega) (by omega)
        rw [w4 i, b1, b5]
        exact ⟨k1, k2, e, k3, ih _ _ k4⟩
      · have e5 : ∀ i, i < sz h l → Tg h' (el h' l i) = Tg h (el h l i) := fun i hi' => by
          rw [w4 i]
          obtain ⟨k1, k2, -⟩ := hk i hi'
          exact (s.uk u k1 rfl (by omega) (by omega) (by omega)).1
        funext v
        rw [w2]
        have : ∀ n, n ≤ sz h l → chF (fun i => Tg h (el h l i)) ψ v (φ0 v) n = chF (fun i => Tg h' (el h' l i)) ψ v (φ0 v) n := by
          intro n
          induction n with
          | zero => intro _; rfl
          | succ n ihn =>
            intro hn
            rw [chF, chF, ihn (by omega), e5 n (by omega)]
        exact this _ (Nat.le_refl _)
end
