/-! FRAMES: what a change of the heap leaves -/
set_option maxRecDepth 100000
/-- all old cells but those in A are as they were -/
def Un (A : Nat → Prop) (h h' : AH) : Prop := Nc h ≤ Nc h' ∧ Ns h ≤ Ns h' ∧ Bs h' = Bs h ∧ Ev h' = Ev h ∧ (∀ a, a < Nx h → Tg h' a = Tg h a ∧ An h' a = An h a) ∧ ∀ a, a < Nx h → ¬ A a → (∀ f, Fi h' f a = Fi h f a ∧ Fl h' f a = Fl h f a ∧ Fr h' f a = Fr h f a) ∧ Ai h' a = Ai h a ∧ Al h' a = Al h a ∧ Ar h' a = Ar h a
section
variable {h h1 h2 : AH} {A B : Nat → Prop} {a b f t n : Nat} {v : Int32} {w : Int64} {r : Option Nat} {F : Nat → Int32} {F2 : Nat → Int64} {F3 : Nat → Option Nat}
theorem Un.nx (u : Un A h h1) : Nx h ≤ Nx h1 := by
  obtain ⟨u1, u2, u3, -⟩ := u
  unfold Nx
  rw [u3]
  omega
theorem Un.refl : Un A h h := ⟨Nat.le_refl _, Nat.le_refl _, rfl, rfl, fun _ _ => ⟨rfl, rfl⟩, fun _ _ _ => ⟨fun _ => ⟨rfl, rfl, rfl⟩, rfl, rfl, rfl⟩⟩
theorem Un.mono (u : Un A h h1) (hab : ∀ z, z < Nx h → A z → B z) : Un B h h1 := by
  obtain ⟨u1, u2, u3, u4, u5, u6⟩ := u
  exact ⟨u1, u2, u3, u4, u5, fun z hz hB => u6 z hz (fun hA => hB (hab z hz hA))⟩
theorem Un.trans (u : Un A h h1) (w : Un B h1 h2) (hb : ∀ z, z < Nx h → B z → A z) : Un A h h2 := by
  have hn := u.nx
  obtain ⟨u1, u2, u3, u4, u5, u6⟩ := u
  obtain ⟨w1, w2, w3, w4, w5, w6⟩ := w
  refine ⟨Nat.le_trans u1 w1, Nat.le_trans u2 w2, w3.trans u3, w4.trans u4, fun z hz => ⟨(w5 z (by omega)).1.trans (u5 z hz).1, (w5 z (by omega)).2.trans (u5 z hz).2⟩, fun z hz hA => ?_⟩
  obtain ⟨p1, p2, p3, p4⟩ := u6 z hz hA
  obtain ⟨q1, q2, q3, q4⟩ := w6 z (by omega) (fun hB => hA (hb z hz hB))
  exact ⟨fun g => ⟨(q1 g).1.trans (p1 g).1, (q1 g).2.1.trans (p1 g).2.1, (q1 g).2.2.trans (p1 g).2.2⟩, q2.trans p2, q3.trans p3, q4.trans p4⟩
theorem un_sFi (ha : A a) : Un A h (sFi h f a v) := ⟨Nat.le_refl _, Nat.le_refl _, rfl, rfl, fun _ _ => ⟨rfl, rfl⟩, fun z _ hA => ⟨fun g => ⟨up2_na (fun e => hA (e ▸ ha)), rfl, rfl⟩, rfl, rfl, rfl⟩⟩
theorem un_sFl (ha : A a) : Un A h (sFl h f a w) := ⟨Nat.le_refl _, Nat.le_refl _, rfl, rfl, fun _ _ => ⟨rfl, rfl⟩, fun z _ hA => ⟨fun g => ⟨rfl, up2_na (fun e => hA (e ▸ ha)), rfl⟩, rfl, rfl, rfl⟩⟩
theorem un_sFr (ha : A a) : Un A h (sFr h f a r) := ⟨Nat.le_refl _, Nat.le_refl _, rfl, rfl, fun _ _ => ⟨rfl, rfl⟩, fun z _ hA => ⟨fun g => ⟨rfl, rfl, up2_na (fun e => hA (e ▸ ha))⟩, rfl, rfl, rfl⟩⟩
theorem un_sAi (ha : A a) : Un A h (sAi h a F) := ⟨Nat.le_refl _, Nat.le_refl _, rfl, rfl, fun _ _ => ⟨rfl, rfl⟩, fun z _ hA => ⟨fun g => ⟨rfl, rfl, rfl⟩, at2_n (fun e => hA (e ▸ ha)), rfl, rfl⟩⟩
theorem un_sAl (ha : A a) : Un A h (sAl h a F2) := ⟨Nat.le_refl _, Nat.le_refl _, rfl, rfl, fun _ _ => ⟨rfl, rfl⟩, fun z _ hA => ⟨fun g => ⟨rfl, rfl, rfl⟩, rfl, at2_n (fun e => hA (e ▸ ha)), rfl⟩⟩
theorem un_sAr (ha : A a) : Un A h (sAr h a F3) := ⟨Nat.le_refl _, Nat.le_refl _, rfl, rfl, fun _ _ => ⟨rfl, rfl⟩, fun z _ hA => ⟨fun g => ⟨rfl, rfl, rfl⟩, rfl, rfl, at2_n (fun e => hA (e ▸ ha))⟩⟩
theorem un_nCe : Un A h (nCe h t n) := by
  refine ⟨Nat.le_succ _, Nat.le_add_right _ _, rfl, rfl, fun z hz => ⟨?_, ?_⟩, fun z hz _ => ⟨fun g => ⟨?_, ?_, ?_⟩, ?_, ?_, ?_⟩⟩
  · rw [Tg_nCe, if_neg (by omega)]
  · rw [An_nCe, if_neg (by omega)]
  · exact if_neg (by omega)
  · exact if_neg (by omega)
  · exact if_neg (by omega)
  · exact at2_n (by omega)
  · exact at2_n (by omega)
  · exact at2_n (by omega)
/-! a new cell read -/
theorem Tg_new : Tg (nCe h t n) (Nx h) = t := by rw [Tg_nCe, if_pos rfl]
theorem An_new : An (nCe h t n) (Nx h) = n := by rw [An_nCe, if_pos rfl]
theorem Fi_new : Fi (nCe h t n) f (Nx h) = 0 := if_pos rfl
theorem Fl_new : Fl (nCe h t n) f (Nx h) = 0 := if_pos rfl
theorem Fr_new : Fr (nCe h t n) f (Nx h) = none := if_pos rfl
theorem Ai_new : Ai (nCe h t n) (Nx h) = fun _ => 0 := at2_s
theorem Al_new : Al (nCe h t n) (Nx h) = fun _ => 0 := at2_s
theorem Ar_new : Ar (nCe h t n) (Nx h) = fun _ => none := at2_s
theorem Tg_old (e : b ≠ Nx h) : Tg (nCe h t n) b = Tg h b := by rw [Tg_nCe, if_neg e]
theorem An_old (e : b ≠ Nx h) : An (nCe h t n) b = An h b := by rw [An_nCe, if_neg e]
theorem Fi_old (e : b ≠ Nx h) : Fi (nCe h t n) f b = Fi h f b := if_neg e
theorem Fl_old (e : b ≠ Nx h) : Fl (nCe h t n) f b = Fl h f b := if_neg e
theorem Fr_old (e : b ≠ Nx h) : Fr (nCe h t n) f b = Fr h f b := if_neg e
theorem Ai_old (e : b ≠ Nx h) : Ai (nCe h t n) b = Ai h b := at2_n e
theorem Al_old (e : b ≠ Nx h) : Al (nCe h t n) b = Al h b := at2_n e
theorem Ar_old (e : b ≠ Nx h) : Ar (nCe h t n) b = Ar h b := at2_n e
theorem Nx_sFi : Nx (sFi h f a v) = Nx h := rfl
theorem Nx_sFl : Nx (sFl h f a w) = Nx h := rfl
theorem Nx_sFr : Nx (sFr h f a r) = Nx h := rfl
theorem Nx_sAi : Nx (sAi h a F) = Nx h := rfl
theorem Nx_sAl : Nx (sAl h a F2) = Nx h := rfl
theorem Nx_sAr : Nx (sAr h a F3) = Nx h := rfl
theorem Nc_sFi : Nc (sFi h f a v) = Nc h := rfl
theorem Nc_sFl : Nc (sFl h f a w) = Nc h := rfl
theorem Nc_sFr : Nc (sFr h f a r) = Nc h := rfl
theorem Nc_sAi : Nc (sAi h a F) = Nc h := rfl
theorem Nc_sAl : Nc (sAl h a F2) = Nc h := rfl
theorem Nc_sAr : Nc (sAr h a F3) = Nc h := rfl
theorem Nc_nCe : Nc (nCe h t n) = Nc h + 1 := rfl
theorem Ns_sFi : Ns (sFi h f a v) = Ns h := rfl
theorem Ns_sFl : Ns (sFl h f a w) = Ns h := rfl
theorem Ns_sFr : Ns (sFr h f a r) = Ns h := rfl
theorem Ns_sAi : Ns (sAi h a F) = Ns h := rfl
theorem Ns_sAl : Ns (sAl h a F2) = Ns h := rfl
theorem Ns_sAr : Ns (sAr h a F3) = Ns h := rfl
theorem Ns_nCe : Ns (nCe h t n) = Ns h + n := rfl
theorem Ev_sFi : Ev (sFi h f a v) = Ev h := rfl
theorem Ev_sFl : Ev (sFl h f a w) = Ev h := rfl
theorem Ev_sFr : Ev (sFr h f a r) = Ev h := rfl
theorem Ev_sAi : Ev (sAi h a F) = Ev h := rfl
theorem Ev_sAl : Ev (sAl h a F2) = Ev h := rfl
theorem Ev_sAr : Ev (sAr h a F3) = Ev h := rfl
theorem Ev_nCe : Ev (nCe h t n) = Ev h := rfl
theorem Tg_nz (e : Tg h a = t) (ht : t ≠ 0) : a < Nx h := Tg_lt (by rw [e]; exact ht)
theorem tg_ne (e1 : Tg h a = t) (e2 : Tg h b = n) (e : t ≠ n) : a ≠ b := by
  rintro rfl
  exact e (e1.symm.trans e2)
theorem ca_post {d y : Nat} {as : List Value} {P Q : Rs → AH → Prop} (hx : Ca d y as h P) (hq : ∀ r t, P r t → Q r t) : Ca d y as h Q := ca_mono hx hq
end
theorem ix_shr1 {a : Nat} (h : a < 2147483648) : ix a >>> ((1 : Int32) &&& 31) = ix (a / 2) := pk_shrN (n := a) h ((1 : Int32) &&& 31) 1 (by decide)
