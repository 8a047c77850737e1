/-! ORCHARDS as objects: changes elsewhere leave them -/
set_option maxRecDepth 100000
section
variable {lo hi bs be o a b f n p k t w : Nat} {h h' : AH} {A : Nat → Prop} {O : Oc} {φ : Ph}
theorem LL.un (x : LL lo hi h o f n) (s : Sf lo hi h A) (u : Un A h h') (ho : Uk h h' o) : LL lo hi h' o f n ∧ ol h' o f = ol h o f ∧ ∀ i, oe h' o f i = oe h o f i := by
  obtain ⟨x1, x2, x3, x4, x5⟩ := x
  have e1 : ol h' o f = ol h o f := by unfold ol; rw [ho.2.2.2.2.1]
  have u2 : Uk h h' (ed h (ol h o f)) := by
    rcases x3 with q | q
    · exact s.uk u q rfl (edt x4).1 (edt x4).2.1 (edt x4).2.2.1
    · exact u.uk (Tg_nz q (by decide)) (fun z => (s _ (Tg_nz q (by decide)) z).2.2 q)
  obtain ⟨w1, w2, w3, w4⟩ := wl_uk x4 (s.uk u x2 x4.tg (by decide) (by decide) (by decide)) u2 u.2.2.2.1
  refine ⟨⟨by rw [e1, ho.2.2.2.2.1]; exact x1, by rw [e1]; exact x2, ?_, by rw [e1]; exact w1, by rw [e1, w2]; exact x5⟩, e1, fun i => by unfold oe; rw [e1, w4]⟩
  rw [e1, w3, u2.1]
  exact x3
theorem XE.un {r : Option Nat} {e : Option Ph} (x : XE lo hi bs be h r e) (s : Sf lo hi h A) (u : Un A h h') : XE lo hi bs be h' r e := by
  cases e with
  | none => exact x
  | some φ =>
    obtain ⟨a, k, x1, x2, x3, x4⟩ := x
    exact ⟨a, k, x1, Ex.un s u k a φ x2, x3, x4⟩
theorem so_uk (x : SO h p w) (u1 : Uk h h' p) (u2 : Uk h h' (lta h p)) : SO h' p w ∧ lta h' p = lta h p := by
  obtain ⟨x1, x2, x3, x4, x5, x6, x7⟩ := x
  obtain ⟨a1, a2, a3, a4, a5, a6, a7, a8⟩ := u1
  obtain ⟨b1, b2, b3, b4, b5, b6, b7, b8⟩ := u2
  have e1 : lta h' p = lta h p := by unfold lta; rw [a5]
  refine ⟨⟨by rw [a1]; exact x1, by rw [a4]; exact x2, by rw [a5, e1]; exact x3, by rw [e1, b1]; exact x4, by rw [e1, b2]; exact x5, by rw [a3]; exact x6, fun k hk => by rw [e1, b6]; exact x7 k hk⟩, e1⟩
theorem XO.un (x : XO lo hi h o O) (s : Sf lo hi h A) (u : Un A h h') : XO lo hi h' o O := by
  obtain ⟨x1, x2, x3, x4, x5, x6, x7, x8, x9, x10, y1, y2, y3, y4, y5, y6, y7, y8, y9, y10, y11, y12⟩ := x
  have ho := s.uk u x3 x2 (by decide) (by decide) (by decide)
  obtain ⟨l1, -, m1⟩ := x4.un s u ho
  obtain ⟨l2, -, m2⟩ := x5.un s u ho
  obtain ⟨l3, -, m3⟩ := x6.un s u ho
  obtain ⟨l4, -, m4⟩ := x7.un s u ho
  obtain ⟨l5, -, m5⟩ := x8.un s u ho
  obtain ⟨l6, -, m6⟩ := x9.un s u ho
  obtain ⟨l7, -, m7⟩ := x10.un s u ho
  refine ⟨x1, ho.1.trans x2, x3, l1, l2, l3, l4, l5, l6, l7, fun k hk => ?_, fun k hk => ?_, fun k hk => ?_, fun k hk => ?_, fun k hk => ?_, fun k hk => ?_, fun k hk => ?_, ?_, ?_, ?_, ?_, ?_⟩
  · obtain ⟨q1, q2, q3, q4, q5, q6, q7, q8⟩ := y1 k hk
    have b := x1.kd k hk
    obtain ⟨a1, a2, a3, a4, a5, a6, a7, a8⟩ := s.uk u q1 q2 (by omega) (by omega) (by omega)
    rw [m1 k, a1, a3, a3, a3, a3, a3, a3]
    exact ⟨q1, q2, q3, q4, q5, q6, q7, q8⟩
  · obtain ⟨q1, q2, q3⟩ := y2 k hk
    obtain ⟨r1, r2⟩ := so_uk q3 (s.uk u q1 q3.1 (by decide) (by decide) (by decide)) (s.uk u q2 q3.2.2.2.1 (by decide) (by decide) (by decide))
    rw [m2 k, r2]
    exact ⟨q1, q2, r1⟩
  · obtain ⟨q1, q2⟩ := y3 k hk
    have v : Uk h h' (oe h o 34 k) := by
      rcases q1 with q | ⟨q, q'⟩
      · exact s.ukl u q
      · exact s.uk u q q' (by decide) (by decide) (by decide)
    rw [m3 k, v.1, v.2.2.2.1]
    exact ⟨q1, q2⟩
  · obtain ⟨q1, q2, q3, q4, q5⟩ := y4 k hk
    obtain ⟨a1, a2, a3, a4, a5, a6, a7, a8⟩ := s.uk u q1 q2 (by omega) (by omega) (by omega)
    rw [m4 k, a1, a3, a3, a3]
    exact ⟨q1, q2, q3, q4, q5⟩
  · obtain ⟨q1, q2, q3, q4, q5⟩ := y5 k hk
    obtain ⟨a1, a2, a3, a4, a5, a6, a7, a8⟩ := s.uk u q1 q2 (by omega) (by omega) (by omega)
    rw [m5 k, a1, a2, a6]
    exact ⟨q1, q2, q3, q4, q5⟩
  · obtain ⟨q1, q2, q3, q4⟩ := y6 k hk
    obtain ⟨a1, a2, a3, a4, a5, a6, a7, a8⟩ := s.uk u q1 q2 (by omega) (by omega) (by omega)
    rw [m6 k, a1, a2, a6]
    exact ⟨q1, q2, q3, q4⟩
  · obtain ⟨q1, q2, q3, q4, q5⟩ := y7 k hk
    obtain ⟨a1, a2, a3, a4, a5, a6, a7, a8⟩ := s.uk u q1 q2 (by omega) (by omega) (by omega)
    rw [m7 k, a1, a2, a6]
    exact ⟨q1, q2, q3, q4, q5⟩
  · rw [ho.2.2.2.2.1]; exact y8.un s u
  · rw [ho.2.2.2.2.1]; exact y9.un s u
  · rw [ho.2.2.1]; exact y10
  · obtain ⟨f, q1, q2, q3, q4, q5, q6, q7⟩ := y11
    have v := s.uk u q2 q3 (by decide) (by decide) (by decide)
    have e : fcA h' o = fcA h o := by unfold fcA; rw [ho.2.2.2.2.1, q1]; show (Fr h' 44 f).getD 0 = (Fr h 44 f).getD 0; rw [v.2.2.2.2.1]
    exact ⟨f, by rw [ho.2.2.2.2.1]; exact q1, q2, v.1.trans q3, by rw [v.2.2.2.2.1, e]; exact q4, by rw [e]; exact q5, by rw [e]; exact u.tg q6 (by decide), by rw [e, u.an (by rw [q6]; decide)]; exact q7⟩
  · obtain ⟨r, q1, q2, q3⟩ := y12
    exact ⟨r, by rw [ho.2.2.2.2.1]; exact q1, u.tg q2 (by decide), by rw [u.an (by rw [q2]; decide)]; exact q3⟩
end
