/-! NAMEORCHARD: what lies, what is told -/
set_option maxRecDepth 100000
section
variable {h h' h1 h2 : AH} {A : Nat → Prop} {x a b c p q l o lo hi n k t d D s j i : Nat} {O : Oc} {S : Sg} {B C : Bo} {Q : Rs → AH → Prop} {u v w y : Int32} {T' : To} {qq : Mq}
theorem XP.lie (z_ : XP lo hi h x o n b c p qq) {g : Nat → Int32} (tl : Tg h (ol h x 4) = 1001 ∨ Tg h (ol h x 4) = 1002 ∨ Tg h (ol h x 4) = 1005) : XP lo hi (sAi h (ol h x 4) g) x o n b c p qq := by
  have u : Un (fun a => a = ol h x 4) h (sAi h (ol h x 4) g) := un_sAi rfl
  have ne : ∀ a t, Tg h a = t → (t ≠ 1001 ∧ t ≠ 1002 ∧ t ≠ 1005) → ¬ a = ol h x 4 := fun a t e q e2 => by rw [e2] at e; omega
  have w1 := edT z_.xl.ol.wl
  have w2 := edT z_.xt.ol.wl
  have e1 : ¬ ed h (ol h p 176) = ol h x 4 := ne _ _ rfl (by omega)
  have e2 : ¬ ed h (ol h p 178) = ol h x 4 := ne _ _ rfl (by omega)
  exact ⟨z_.tg, z_.f1, z_.f2, z_.f3, z_.f4, z_.xb.un u (ne _ _ z_.xb.tg (by decide)) (ne _ _ z_.xb.ta (by decide)), z_.nb, z_.ne, z_.nu, (z_.xl.un u (ne _ _ z_.xl.ol.wl.tg (by decide)) e1 (fun a h1 h2 => ne _ _ rfl (by omega))).1, z_.sl, z_.xk.un u z_.sk, z_.sk, (z_.xt.un u (ne _ _ z_.xt.ol.wl.tg (by decide)) e2 (fun a h1 => ne _ _ h1 (by decide))).1, z_.st⟩
theorem XN.lie (X : XN h x lo hi o b O S) {g : Nat → Int32} {K' L' : Nat} (xk : XK lo hi (sAi h (ol h x 4) g) (ol h x 4) K' L') : XN (sAi h (ol h x 4) g) x lo hi o b O ((S.B, S.L, (K', L'), S.To), S.2) := by
  have tl := X.li.tg
  have u : Un (fun a => a = ol h x 4) h (sAi h (ol h x 4) g) := un_sAi rfl
  have ne : ∀ a t, Tg h a = t → (t ≠ 1001 ∧ t ≠ 1002 ∧ t ≠ 1005) → ¬ a = ol h x 4 := fun a t e q e2 => by rw [e2] at e; omega
  have sf : Sf lo hi h (fun a => a = ol h x 4) := by
    intro a _ q
    have ou := X.li.ou
    rw [q]
    refine ⟨fun i => ?_, by omega, by omega⟩
    obtain ⟨i1, i2⟩ := i
    exfalso
    rcases ou with q1 | q1
    · exact absurd i1 (Nat.not_le.mpr q1)
    · exact absurd i2 (Nat.not_lt.mpr q1)
  have w2 := edT X.to.ol.wl
  have e2 : ¬ ed h (ol h x 5) = ol h x 4 := ne _ _ rfl (by omega)
  refine ⟨X.f, X.hn, X.rg, X.fb, X.xo.un sf u, X.xb.un u (ne _ _ X.xb.tg (by decide)) (ne _ _ X.xb.ta (by decide)), X.nb, X.fd, X.da, X.sd, X.fk, xk, X.ft, (X.to.un u (ne _ _ X.to.ol.wl.tg (by decide)) e2 (fun a h1 => ne _ _ h1 (by decide))).1, X.se, ⟨X.be.wl, X.be.sz, X.be.ou, fun j hj => ?_, X.be.di⟩, fun k hk => ?_, X.dv⟩
  · obtain ⟨q1, q2, q3⟩ := X.be.at j hj
    exact ⟨q1.un u (ne _ _ q1.tg (by decide)) (ne _ _ q1.ta (by decide)), q2, q3⟩
  · have old := X.mk k hk
    show XM lo hi (sAi h (ol h x 4) g) x o O.nA b S.c k (S.M k)
    revert old
    cases S.M k with
    | none => intro old; exact old
    | some q =>
      rintro ⟨p, e, z⟩
      exact ⟨p, e, z.lie tl⟩
theorem xlies (X : XN h x lo hi o b O S) (t : Bool) : Ca (D + 4) 29 [.ref x, .int v, .int (bz t)] h (fun r h' => r = .inl (some (.int (bz (inN v O.nA)))) ∧ XN h' x lo hi o b O ((S.B, S.L, (if inN v O.nA = true then liK S.K (tn v) else S.K, if inN v O.nA = true then liT S.T (tn v) t else S.T), S.To), S.2) ∧ Uq h h' ∧ Nc h' = Nc h ∧ Ns h' = Ns h) := by
  have n1 := X.xo.wo.nA
  have tl := X.li.tg
  have t1 : 1000 ≤ Tg h (ol h x 4) := by omega
  have t2 : Tg h (ol h x 4) < 1900 := by omega
  generalize hQ : (fun r h' => r = .inl (some (.int (bz (inN v O.nA)))) ∧ XN h' x lo hi o b O ((S.B, S.L, (if inN v O.nA = true then liK S.K (tn v) else S.K, if inN v O.nA = true then liT S.T (tn v) t else S.T), S.To), S.2) ∧ Uq h h' ∧ Nc h' = Nc h ∧ Ns h' = Ns h : Rs → AH → Prop) = Q
  rw [e_X1_lies]
  cases q1 : inN v O.nA
  · simp (disch := first | assumption | omega | decide | rfl) only [w_X1_lies_0, w_X1_lies_1, w_X1_lies_2, w_X1_lies_5, w_X1_lies_8, w_X1_lies_9, nl_int, nl_ref, nl_null, nl_un, nl_rf, nl_long, isR_ref, isR_null, isR_rf, rf_some, rf_none, rOf_ref, rOf_null, rOf_rf, kn_v, kn_0, true_and, and_true, and_self, tin, inA_x, inA_l, ix_add, ix_addl, ix_ladd, ix_mul, ix_mull, ix_lmul, ix_tn, lt_tn, Nat.reduceLeDiff, Nat.reduceLT, Nat.reduceAdd, Nat.reduceMul, true_or, or_true, ↓reduceIte, aOk, ref_null, null_null, false_or, Option.isSome_some, Option.getD_some, ite_true, ite_false, eq_self, not_false_eq_true, not_true_eq_false, bz_ne, bz_1, reduceCtorEq, Bool.not_true, Bool.not_false, X.f.tx, cx_isApple X, q1]
    rw [← hQ, q1]
    exact ⟨rfl, X, Uq.refl, rfl, rfl⟩
  · obtain ⟨a, ha, rfl⟩ := inN_ex (by omega) q1
    have st : ∀ g v', g = upd (Ai h (ol h x 4)) a v' → v' = (if t = true then 2 else 1) → Q (.inl (some (.int 1))) (sAi h (ol h x 4) g) := by
      intro g v' eg ev
      rw [← hQ, q1, tn_ix (by omega)]
      refine ⟨rfl, X.lie ⟨X.li.ou, X.li.tg, X.li.an, fun j hj => ?_⟩, Un.uq (un_sAi (A := fun z => z = ol h x 4) rfl) (fun z _ q => ?_), rfl, rfl⟩
      · rw [Ai_same, eg, if_pos rfl, if_pos rfl]
        unfold liK liT
        by_cases qj : j = a
        · rw [qj, upd_s, ev]
          cases t
          · rw [if_neg (show ¬ (false = true) by decide), if_neg (show ¬ (false = true) by decide), sd_bit, Nat.testBit_or, Nat.testBit_two_pow_self]
            simp
          · rw [if_pos rfl, if_pos rfl, Nat.testBit_or, Nat.testBit_two_pow_self]
            simp
        · have p2 : (2 ^ a).testBit j = false := by rw [Nat.testBit_two_pow]; simp; omega
          rw [upd_n qj, X.li.at j hj]
          cases t
          · rw [if_neg (show ¬ (false = true) by decide), sd_bit, Nat.testBit_or, p2]
            simp
          · rw [if_pos rfl, Nat.testBit_or, Nat.testBit_or, p2]
            simp
      · rw [q]; omega
    cases t
    · simp (disch := first | assumption | omega | decide | rfl) only [w_X1_lies_0, w_X1_lies_1, w_X1_lies_2, w_X1_lies_5, w_X1_lies_10, w_X1_lies_11, w_X1_lies_14, w_X1_lies_15, w_X1_lies_16, w_X1_lies_23, w_X1_lies_24, w_X1_lies_25, w_X1_lies_26, nl_int, nl_ref, nl_null, nl_un, nl_rf, nl_long, isR_ref, isR_null, isR_rf, rf_some, rf_none, rOf_ref, rOf_null, rOf_rf, kn_v, kn_0, true_and, and_true, and_self, tin, inA_x, inA_l, ix_add, ix_addl, ix_ladd, ix_mul, ix_mull, ix_lmul, ix_tn, lt_tn, Nat.reduceLeDiff, Nat.reduceLT, Nat.reduceAdd, Nat.reduceMul, true_or, or_true, ↓reduceIte, aOk, ref_null, null_null, false_or, Option.isSome_some, Option.getD_some, ite_true, ite_false, eq_self, not_false_eq_true, not_true_eq_false, bz_ne, bz_1, reduceCtorEq, Bool.not_true, Bool.not_false, X.f.tx, cx_isApple X, q1, X.fk, t1, t2, X.li.an]
      exact st _ _ rfl rfl
    · simp (disch := first | assumption | omega | decide | rfl) only [w_X1_lies_0, w_X1_lies_1, w_X1_lies_2, w_X1_lies_5, w_X1_lies_10, w_X1_lies_11, w_X1_lies_14, w_X1_lies_15, w_X1_lies_16, w_X1_lies_19, w_X1_lies_20, w_X1_lies_23, w_X1_lies_24, w_X1_lies_25, w_X1_lies_26, nl_int, nl_ref, nl_null, nl_un, nl_rf, nl_long, isR_ref, isR_null, isR_rf, rf_some, rf_none, rOf_ref, rOf_null, rOf_rf, kn_v, kn_0, true_and, and_true, and_self, tin, inA_x, inA_l, ix_add, ix_addl, ix_ladd, ix_mul, ix_mull, ix_lmul, ix_tn, lt_tn, Nat.reduceLeDiff, Nat.reduceLT, Nat.reduceAdd, Nat.reduceMul, true_or, or_true, ↓reduceIte, aOk, ref_null, null_null, false_or, Option.isSome_some, Option.getD_some, ite_true, ite_false, eq_self, not_false_eq_true, not_true_eq_false, bz_ne, bz_1, reduceCtorEq, Bool.not_true, Bool.not_false, X.f.tx, cx_isApple X, q1, X.fk, t1, t2, X.li.an]
      exact st _ _ rfl rfl
theorem nA_tol (w : WL h l) (nd : Tg h (ed h l) ≠ 5902) (a : Nat) (h1 : Tg h a ≠ 42) (h2 : ¬ (5008 ≤ Tg h a ∧ Tg h a ≤ 5010)) : ¬ (a = l ∨ a = ed h l) := by
  have := edT w
  rintro (q | q)
  · rw [q] at h1; exact h1 w.tg
  · rw [q] at h2
    exact this.elim h2 nd
theorem sl_tol (w : WL h l) (nd : Tg h (ed h l) ≠ 5902) (y : WL h k) (n1 : k ≠ l) (n2 : ed h k ≠ ed h l) : ¬ (k = l ∨ k = ed h l) ∧ ¬ (ed h k = l ∨ ed h k = ed h l) := by
  have t1 := y.tg
  have t2 := edT y
  have t3 := w.tg
  have t4 := edT w
  refine ⟨?_, ?_⟩
  · rintro (q | q)
    · exact n1 q
    · rw [← q, t1] at t4
      clear t2 n1 n2 nd
      omega
  · rintro (q | q)
    · rw [q, t3] at t2
      clear t4 n1 n2 nd
      omega
    · exact n2 q
theorem sf_tol (y : OL lo hi h l) : Sf lo hi h (fun a => a = l ∨ a = ed h l) := by
  have ou := y.ou
  have t1 := y.wl.tg
  have t2 := edT y.wl
  have t3 := y.de
  rintro a _ (q | q)
  · subst q
    refine ⟨fun i => ?_, by rw [t1]; decide, by rw [t1]; decide⟩
    obtain ⟨i1, i2⟩ := i
    have := ou.1
    exfalso
    rcases this with q1 | q1
    · exact absurd i1 (Nat.not_le.mpr q1)
    · exact absurd i2 (Nat.not_lt.mpr q1)
  · subst q
    refine ⟨fun i => ?_, by omega, t3⟩
    obtain ⟨i1, i2⟩ := i
    have := ou.2
    exfalso
    rcases this with q1 | q1
    · exact absurd i1 (Nat.not_le.mpr q1)
    · exact absurd i2 (Nat.not_lt.mpr q1)
/-- what is told changed -/
theorem XN.tol (X : XN h x lo hi o b O S) (u : Un (fun a => a = ol h x 5 ∨ a = ed h (ol h x 5)) h h') (he : ed h' (ol h x 5) = ed h (ol h x 5) ∨ Nx h ≤ ed h' (ol h x 5)) (xt' : XT lo hi h' (ol h x 5) T') : XN h' x lo hi o b O ((S.B, S.L, (S.K, S.T), T'), S.2) := by
  have ax : Tg h x = 2 := X.f.tx
  have nA := nA_tol X.to.ol.wl X.to.ol.de
  have nx : ∀ f, Fr h' f x = Fr h f x := (u.uk (Tg_nz ax (by decide)) (nA x (by omega) (by omega))).2.2.2.2.1
  have eo : ∀ f, ol h' x f = ol h x f := fun f => by unfold ol; rw [nx]
  have nl : ∀ a, 32 ≤ Tg h a → Tg h a ≤ 34 → ¬ (a = ol h x 5 ∨ a = ed h (ol h x 5)) := fun a h1 h2 => nA a (by omega) (by omega)
  have nt : ∀ a, Tg h a = 1004 → ¬ (a = ol h x 5 ∨ a = ed h (ol h x 5)) := fun a h1 => nA a (by omega) (by omega)
  have sl := fun k (y : WL h k) n1 n2 => sl_tol X.to.ol.wl X.to.ol.de y n1 n2
  obtain ⟨l1, l2⟩ := sl _ X.da.ol.wl X.sd.1 X.sd.2.1
  obtain ⟨b1, b2⟩ := sl _ X.be.wl (fun e => X.se.1 e.symm) (fun e => X.se.2 e.symm)
  obtain ⟨xl, dl⟩ := X.da.un u l1 l2 nl
  obtain ⟨wb, zb, db, fb⟩ := X.be.wl.un u b1 b2
  have nk : ∀ a, (Tg h a = 1001 ∨ Tg h a = 1002 ∨ Tg h a = 1005) → ¬ (a = ol h x 5 ∨ a = ed h (ol h x 5)) := fun a q => nA a (by omega) (by omega)
  have nb : ∀ b', Tg h b' = 4 → Tg h (b' + 1) = 1013 → ¬ (b' = ol h x 5 ∨ b' = ed h (ol h x 5)) ∧ ¬ (b' + 1 = ol h x 5 ∨ b' + 1 = ed h (ol h x 5)) := fun b' h1 h2 => ⟨nA _ (by omega) (by omega), nA _ (by omega) (by omega)⟩
  have bb := nb b X.xb.tg X.xb.ta
  have t65 : Tg h (x + 65) = 5001 := X.f.t65
  have k65 := u.uk (Tg_nz t65 (by decide)) (nA _ (by omega) (by omega))
  have sep : ∀ l, WL h l → Sep h x l → ed h' l = ed h l → Sep h' x l := by
    intro l y s e
    have := y.elt
    unfold Sep
    rw [eo, e, db]
    refine ⟨s.1, ?_, s.2.2.1, s.2.2.2⟩
    rcases he with q | q
    · rw [q]; exact s.2.1
    · omega
  refine ⟨X.f.un u (fun e he' ne => ?_), Nat.le_trans X.hn u.nx, X.rg, by rw [nx]; exact X.fb, X.xo.un (sf_tol X.to.ol) u, X.xb.un u bb.1 bb.2, X.nb, ?_, ?_, ?_, ?_, ?_, ?_, ?_, ?_, ⟨wb, by rw [zb]; exact X.be.sz, ?_, fun j hj => ?_, fun i j hij hj => ?_⟩, fun k hk' => ?_, ?_⟩
  · have := X.f.tne he'
    exact nA _ (by have := this.2.2.1 ne; omega) (by omega)
  · rw [nx, eo]; exact X.fd
  · rw [eo]; exact xl
  · rw [eo]; exact sep _ X.da.ol.wl X.sd dl
  · rw [nx, eo]; exact X.fk
  · rw [eo]; exact X.li.un u (nk _ X.li.tg)
  · rw [nx, eo]; exact X.ft
  · rw [eo]; exact xt'
  · rw [eo, db]
    refine ⟨X.se.1, ?_⟩
    have := X.be.wl.elt
    rcases he with q | q
    · rw [q]; exact X.se.2
    · omega
  · rw [db, (u.2.2.2.2.1 _ X.be.wl.elt).1]; exact X.be.ou
  · obtain ⟨q1, q2, q3⟩ := X.be.at j hj
    have kb := nb _ q1.tg q1.ta
    rw [fb]
    exact ⟨q1.un u kb.1 kb.2, q2, q3⟩
  · rw [fb, fb]; exact X.be.di i j hij hj
  · have old := X.mk k hk'
    show XM lo hi h' x o O.nA b S.c k (S.M k)
    revert old
    cases S.M k with
    | none => intro old; show Ar h' (x + 65) k = none; rw [k65.2.2.2.2.2.2.2]; exact old
    | some q =>
      rintro ⟨p, e, y⟩
      refine ⟨p, by rw [k65.2.2.2.2.2.2.2]; exact e, ?_⟩
      obtain ⟨k1, k2, k3, k4, k5, -⟩ := u.uk (Tg_nz y.tg (by decide)) (nA p (by rw [y.tg]; decide) (by rw [y.tg]; decide))
      have ep : ∀ f, ol h' p f = ol h p f := fun f => by unfold ol; rw [k5]
      obtain ⟨m1, m2⟩ := sl _ y.xl.ol.wl y.sl.1 y.sl.2.1
      obtain ⟨m3, m4⟩ := sl _ y.xt.ol.wl y.st.1 y.st.2.1
      obtain ⟨yl, el⟩ := y.xl.un u m1 m2 nl
      obtain ⟨yt, et⟩ := y.xt.un u m3 m4 nt
      have kb := nb _ y.xb.tg y.xb.ta
      refine ⟨by rw [k1]; exact y.tg, ?_, ?_, ?_, ?_, ?_, ?_, ?_, ?_, ?_, ?_, ?_, ?_, ?_, ?_⟩ <;> rw [ep]
      · rw [k5]; exact y.f1
      · rw [k5]; exact y.f2
      · rw [k5]; exact y.f3
      · rw [k5]; exact y.f4
      · exact y.xb.un u kb.1 kb.2
      · exact y.nb
      · exact y.ne
      · exact fun j hj => by rw [fb]; exact y.nu j hj
      · exact yl
      · exact sep _ y.xl.ol.wl y.sl el
      · exact y.xk.un u (nk _ y.xk.tg)
      · rw [eo]; exact y.sk
      · exact yt
      · exact sep _ y.xt.ol.wl y.st et
  · rw [u.2.2.2.1, (u.2.2.2.2.1 _ (Tg_nz X.dv (by decide))).1]; exact X.dv
end
