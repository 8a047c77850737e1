/-! NAMEORCHARD: its state in the heap -/
set_option maxRecDepth 100000
noncomputable def xfR : List (Nat × Nat × Nat) := [(0, 0, 1), (2, 0, 30), (6, 0, 37), (7, 0, 38), (8, 0, 42), (9, 0, 53), (11, 0, 65), (45, 38, 39), (46, 38, 40), (47, 38, 41), (48, 38, 0), (49, 42, 43), (50, 42, 52), (52, 42, 0), (53, 53, 54), (54, 53, 63), (55, 53, 64), (59, 53, 0), (28, 30, 31), (28, 44, 45), (28, 46, 47), (28, 48, 49), (28, 50, 51), (28, 55, 56), (28, 57, 58), (28, 59, 60), (28, 61, 62)]
noncomputable def xfT : List (Nat × Nat) := [(0, 2), (1, 3), (30, 4), (31, 1013), (37, 42), (38, 7), (39, 1016), (40, 1017), (41, 2001), (42, 8), (43, 5006), (44, 4), (45, 1013), (46, 4), (47, 1013), (48, 4), (49, 1013), (50, 4), (51, 1013), (52, 2002), (53, 9), (54, 5007), (55, 4), (56, 1013), (57, 4), (58, 1013), (59, 4), (60, 1013), (61, 4), (62, 1013), (63, 1018), (64, 1019), (65, 5001)]
noncomputable def xfN : List (Nat × Nat) := [(31, 10), (39, 80), (40, 80), (41, 80), (43, 4), (45, 10), (47, 10), (49, 10), (51, 10), (52, 80), (54, 4), (56, 10), (58, 10), (60, 10), (62, 10), (63, 4), (64, 4), (65, 4)]
def XF (h : AH) (x : Nat) : Prop := (∀ e ∈ xfR, Fr h e.1 (x + e.2.1) = some (x + e.2.2)) ∧ (∀ e ∈ xfT, Tg h (x + e.1) = e.2) ∧ (∀ e ∈ xfN, An h (x + e.1) = e.2) ∧ (∀ i, i < 4 → Ar h (x + 43) i = some (x + 44 + 2 * i)) ∧ (∀ i, i < 4 → Ar h (x + 54) i = some (x + 55 + 2 * i))
theorem XF.r {h : AH} {x : Nat} (z_ : XF h x) : ∀ e ∈ xfR, Fr h e.1 (x + e.2.1) = some (x + e.2.2) := z_.1
theorem XF.t {h : AH} {x : Nat} (z_ : XF h x) : ∀ e ∈ xfT, Tg h (x + e.1) = e.2 := z_.2.1
theorem XF.n {h : AH} {x : Nat} (z_ : XF h x) : ∀ e ∈ xfN, An h (x + e.1) = e.2 := z_.2.2.1
theorem XF.s1 {h : AH} {x : Nat} (z_ : XF h x) : ∀ i, i < 4 → Ar h (x + 43) i = some (x + 44 + 2 * i) := z_.2.2.2.1
theorem XF.s2 {h : AH} {x : Nat} (z_ : XF h x) : ∀ i, i < 4 → Ar h (x + 54) i = some (x + 55 + 2 * i) := z_.2.2.2.2
/-- what trials may change -/
def Xs (x : Nat) (h : AH) (a : Nat) : Prop := Tg h a = 1014 ∨ Tg h a = 1015 ∨ a = x ∨ a = x + 30 ∨ a = x + 31 ∨ (x + 39 ≤ a ∧ a ≤ x + 42) ∨ (x + 44 ≤ a ∧ a ≤ x + 53) ∨ (x + 55 ≤ a ∧ a ≤ x + 64)
def Tw (x : Nat) (h h' : AH) : Prop := Un (Xs x h) h h' ∧ ∀ a, a < Nx h → Ar h' a = Ar h a ∧ Fr h' 28 a = Fr h 28 a ∧ (Tg h a ≠ 4 → ∀ f, Fr h' f a = Fr h f a)
/-- and nothing is made -/
def Tf (x : Nat) (h h' : AH) : Prop := Tw x h h' ∧ Nc h' = Nc h ∧ Ns h' = Ns h
abbrev nbx (x b : Nat) : Prop := b + 1 < x + 30 ∨ x + 66 ≤ b
abbrev Out (lo hi a : Nat) : Prop := a < lo ∨ hi ≤ a
/-- a line of days -/
def XLn (h : AH) (p a b c : Nat) : Prop := (a = 0 ∧ Tg h p = 32 ∧ Fi h 172 p = ix b ∧ Fi h 173 p = ix c) ∨ (a = 1 ∧ Tg h p = 33 ∧ Fi h 174 p = ix c) ∨ (a = 2 ∧ Tg h p = 34)
/-- a list of its own array, outside the orchard -/
def OL (lo : Nat) (hi : Nat) (h : AH) (l : Nat) : Prop := (WL h l) ∧ (Tg h (ed h l) ≠ 5902) ∧ (Out lo hi l ∧ Out lo hi (ed h l))
theorem OL.wl {lo : Nat} {hi : Nat} {h : AH} {l : Nat} (z_ : OL lo hi h l) : WL h l := z_.1
theorem OL.de {lo : Nat} {hi : Nat} {h : AH} {l : Nat} (z_ : OL lo hi h l) : Tg h (ed h l) ≠ 5902 := z_.2.1
theorem OL.ou {lo : Nat} {hi : Nat} {h : AH} {l : Nat} (z_ : OL lo hi h l) : Out lo hi l ∧ Out lo hi (ed h l) := z_.2.2
def XL (lo : Nat) (hi : Nat) (h : AH) (l : Nat) (L : Dy) : Prop := (OL lo hi h l) ∧ (sz h l = L.1) ∧ (∀ j, j < L.1 → XLn h (el h l j) (L.2 0 j) (L.2 1 j) (L.2 2 j))
theorem XL.ol {lo : Nat} {hi : Nat} {h : AH} {l : Nat} {L : Dy} (z_ : XL lo hi h l L) : OL lo hi h l := z_.1
theorem XL.sz {lo : Nat} {hi : Nat} {h : AH} {l : Nat} {L : Dy} (z_ : XL lo hi h l L) : sz h l = L.1 := z_.2.1
theorem XL.ln {lo : Nat} {hi : Nat} {h : AH} {l : Nat} {L : Dy} (z_ : XL lo hi h l L) : ∀ j, j < L.1 → XLn h (el h l j) (L.2 0 j) (L.2 1 j) (L.2 2 j) := z_.2.2
def XK (lo : Nat) (hi : Nat) (h : AH) (a : Nat) (K : Nat) (T : Nat) : Prop := (Out lo hi a) ∧ (Tg h a = 1001 ∨ Tg h a = 1002 ∨ Tg h a = 1005) ∧ (An h a = 10) ∧ (∀ j, j < 10 → Ai h a j = if T.testBit j = true then 2 else if K.testBit j = true then 1 else 0)
theorem XK.ou {lo : Nat} {hi : Nat} {h : AH} {a : Nat} {K : Nat} {T : Nat} (z_ : XK lo hi h a K T) : Out lo hi a := z_.1
theorem XK.tg {lo : Nat} {hi : Nat} {h : AH} {a : Nat} {K : Nat} {T : Nat} (z_ : XK lo hi h a K T) : Tg h a = 1001 ∨ Tg h a = 1002 ∨ Tg h a = 1005 := z_.2.1
theorem XK.an {lo : Nat} {hi : Nat} {h : AH} {a : Nat} {K : Nat} {T : Nat} (z_ : XK lo hi h a K T) : An h a = 10 := z_.2.2.1
theorem XK.at {lo : Nat} {hi : Nat} {h : AH} {a : Nat} {K : Nat} {T : Nat} (z_ : XK lo hi h a K T) : ∀ j, j < 10 → Ai h a j = if T.testBit j = true then 2 else if K.testBit j = true then 1 else 0 := z_.2.2.2
def XT (lo : Nat) (hi : Nat) (h : AH) (l : Nat) (T : To) : Prop := (OL lo hi h l) ∧ (sz h l = T.1) ∧ (∀ j, j < T.1 → Tg h (el h l j) = 1004 ∧ An h (el h l j) = 3 ∧ Ai h (el h l j) 0 = ix (T.2 0 j) ∧ Ai h (el h l j) 1 = ix (T.2 1 j) ∧ Ai h (el h l j) 2 = ix (T.2 2 j))
theorem XT.ol {lo : Nat} {hi : Nat} {h : AH} {l : Nat} {T : To} (z_ : XT lo hi h l T) : OL lo hi h l := z_.1
theorem XT.sz {lo : Nat} {hi : Nat} {h : AH} {l : Nat} {T : To} (z_ : XT lo hi h l T) : sz h l = T.1 := z_.2.1
theorem XT.ln {lo : Nat} {hi : Nat} {h : AH} {l : Nat} {T : To} (z_ : XT lo hi h l T) : ∀ j, j < T.1 → Tg h (el h l j) = 1004 ∧ An h (el h l j) = 3 ∧ Ai h (el h l j) 0 = ix (T.2 0 j) ∧ Ai h (el h l j) 1 = ix (T.2 1 j) ∧ Ai h (el h l j) 2 = ix (T.2 2 j) := z_.2.2
/-- a list apart from what is told, what is behind -/
def Sep (h : AH) (x l : Nat) : Prop := l ≠ ol h x 5 ∧ ed h l ≠ ed h (ol h x 5) ∧ l ≠ x + 37 ∧ ed h l ≠ ed h (x + 37)
def XU (lo : Nat) (hi : Nat) (h : AH) (x : Nat) (o : Nat) (n : Nat) (b : Nat) (c : Nat) (U : Nat → Bo) : Prop := (WL h (x + 37)) ∧ (sz h (x + 37) = c) ∧ (Out lo hi (ed h (x + 37)) ∨ Tg h (ed h (x + 37)) = 5902) ∧ (∀ j, j < c → XB lo hi h (el h (x + 37) j) o n (U j) ∧ nbx x (el h (x + 37) j) ∧ el h (x + 37) j ≠ b) ∧ (∀ i j, i < j → j < c → el h (x + 37) i ≠ el h (x + 37) j)
theorem XU.wl {lo : Nat} {hi : Nat} {h : AH} {x : Nat} {o : Nat} {n : Nat} {b : Nat} {c : Nat} {U : Nat → Bo} (z_ : XU lo hi h x o n b c U) : WL h (x + 37) := z_.1
theorem XU.sz {lo : Nat} {hi : Nat} {h : AH} {x : Nat} {o : Nat} {n : Nat} {b : Nat} {c : Nat} {U : Nat → Bo} (z_ : XU lo hi h x o n b c U) : sz h (x + 37) = c := z_.2.1
theorem XU.ou {lo : Nat} {hi : Nat} {h : AH} {x : Nat} {o : Nat} {n : Nat} {b : Nat} {c : Nat} {U : Nat → Bo} (z_ : XU lo hi h x o n b c U) : Out lo hi (ed h (x + 37)) ∨ Tg h (ed h (x + 37)) = 5902 := z_.2.2.1
theorem XU.at {lo : Nat} {hi : Nat} {h : AH} {x : Nat} {o : Nat} {n : Nat} {b : Nat} {c : Nat} {U : Nat → Bo} (z_ : XU lo hi h x o n b c U) : ∀ j, j < c → XB lo hi h (el h (x + 37) j) o n (U j) ∧ nbx x (el h (x + 37) j) ∧ el h (x + 37) j ≠ b := z_.2.2.2.1
theorem XU.di {lo : Nat} {hi : Nat} {h : AH} {x : Nat} {o : Nat} {n : Nat} {b : Nat} {c : Nat} {U : Nat → Bo} (z_ : XU lo hi h x o n b c U) : ∀ i j, i < j → j < c → el h (x + 37) i ≠ el h (x + 37) j := z_.2.2.2.2
def XP (lo : Nat) (hi : Nat) (h : AH) (x : Nat) (o : Nat) (n : Nat) (b : Nat) (c : Nat) (p : Nat) (q : Mq) : Prop := (Tg h p = 35) ∧ (Fr h 175 p = some (ol h p 175)) ∧ (Fr h 176 p = some (ol h p 176)) ∧ (Fr h 177 p = some (ol h p 177)) ∧ (Fr h 178 p = some (ol h p 178)) ∧ (XB lo hi h (ol h p 175) o n q.1) ∧ (nbx x (ol h p 175)) ∧ (ol h p 175 ≠ b) ∧ (∀ j, j < c → ol h p 175 ≠ el h (x + 37) j) ∧ (XL lo hi h (ol h p 176) q.2.1) ∧ (Sep h x (ol h p 176)) ∧ (XK lo hi h (ol h p 177) q.2.2.1.1 q.2.2.1.2) ∧ (ol h p 177 ≠ ol h x 4) ∧ (XT lo hi h (ol h p 178) q.2.2.2) ∧ (Sep h x (ol h p 178))
theorem XP.tg {lo : Nat} {hi : Nat} {h : AH} {x : Nat} {o : Nat} {n : Nat} {b : Nat} {c : Nat} {p : Nat} {q : Mq} (z_ : XP lo hi h x o n b c p q) : Tg h p = 35 := z_.1
theorem XP.f1 {lo : Nat} {hi : Nat} {h : AH} {x : Nat} {o : Nat} {n : Nat} {b : Nat} {c : Nat} {p : Nat} {q : Mq} (z_ : XP lo hi h x o n b c p q) : Fr h 175 p = some (ol h p 175) := z_.2.1
theorem XP.f2 {lo : Nat} {hi : Nat} {h : AH} {x : Nat} {o : Nat} {n : Nat} {b : Nat} {c : Nat} {p : Nat} {q : Mq} (z_ : XP lo hi h x o n b c p q) : Fr h 176 p = some (ol h p 176) := z_.2.2.1
theorem XP.f3 {lo : Nat} {hi : Nat} {h : AH} {x : Nat} {o : Nat} {n : Nat} {b : Nat} {c : Nat} {p : Nat} {q : Mq} (z_ : XP lo hi h x o n b c p q) : Fr h 177 p = some (ol h p 177) := z_.2.2.2.1
theorem XP.f4 {lo : Nat} {hi : Nat} {h : AH} {x : Nat} {o : Nat} {n : Nat} {b : Nat} {c : Nat} {p : Nat} {q : Mq} (z_ : XP lo hi h x o n b c p q) : Fr h 178 p = some (ol h p 178) := z_.2.2.2.2.1
theorem XP.xb {lo : Nat} {hi : Nat} {h : AH} {x : Nat} {o : Nat} {n : Nat} {b : Nat} {c : Nat} {p : Nat} {q : Mq} (z_ : XP lo hi h x o n b c p q) : XB lo hi h (ol h p 175) o n q.1 := z_.2.2.2.2.2.1
theorem XP.nb {lo : Nat} {hi : Nat} {h : AH} {x : Nat} {o : Nat} {n : Nat} {b : Nat} {c : Nat} {p : Nat} {q : Mq} (z_ : XP lo hi h x o n b c p q) : nbx x (ol h p 175) := z_.2.2.2.2.2.2.1
theorem XP.ne {lo : Nat} {hi : Nat} {h : AH} {x : Nat} {o : Nat} {n : Nat} {b : Nat} {c : Nat} {p : Nat} {q : Mq} (z_ : XP lo hi h x o n b c p q) : ol h p 175 ≠ b := z_.2.2.2.2.2.2.2.1
theorem XP.nu {lo : Nat} {hi : Nat} {h : AH} {x : Nat} {o : Nat} {n : Nat} {b : Nat} {c : Nat} {p : Nat} {q : Mq} (z_ : XP lo hi h x o n b c p q) : ∀ j, j < c → ol h p 175 ≠ el h (x + 37) j := z_.2.2.2.2.2.2.2.2.1
theorem XP.xl {lo : Nat} {hi : Nat} {h : AH} {x : Nat} {o : Nat} {n : Nat} {b : Nat} {c : Nat} {p : Nat} {q : Mq} (z_ : XP lo hi h x o n b c p q) : XL lo hi h (ol h p 176) q.2.1 := z_.2.2.2.2.2.2.2.2.2.1
theorem XP.sl {lo : Nat} {hi : Nat} {h : AH} {x : Nat} {o : Nat} {n : Nat} {b : Nat} {c : Nat} {p : Nat} {q : Mq} (z_ : XP lo hi h x o n b c p q) : Sep h x (ol h p 176) := z_.2.2.2.2.2.2.2.2.2.2.1
theorem XP.xk {lo : Nat} {hi : Nat} {h : AH} {x : Nat} {o : Nat} {n : Nat} {b : Nat} {c : Nat} {p : Nat} {q : Mq} (z_ : XP lo hi h x o n b c p q) : XK lo hi h (ol h p 177) q.2.2.1.1 q.2.2.1.2 := z_.2.2.2.2.2.2.2.2.2.2.2.1
theorem XP.sk {lo : Nat} {hi : Nat} {h : AH} {x : Nat} {o : Nat} {n : Nat} {b : Nat} {c : Nat} {p : Nat} {q : Mq} (z_ : XP lo hi h x o n b c p q) : ol h p 177 ≠ ol h x 4 := z_.2.2.2.2.2.2.2.2.2.2.2.2.1
theorem XP.xt {lo : Nat} {hi : Nat} {h : AH} {x : Nat} {o : Nat} {n : Nat} {b : Nat} {c : Nat} {p : Nat} {q : Mq} (z_ : XP lo hi h x o n b c p q) : XT lo hi h (ol h p 178) q.2.2.2 := z_.2.2.2.2.2.2.2.2.2.2.2.2.2.1
theorem XP.st {lo : Nat} {hi : Nat} {h : AH} {x : Nat} {o : Nat} {n : Nat} {b : Nat} {c : Nat} {p : Nat} {q : Mq} (z_ : XP lo hi h x o n b c p q) : Sep h x (ol h p 178) := z_.2.2.2.2.2.2.2.2.2.2.2.2.2.2
def XM (lo hi : Nat) (h : AH) (x o n b c k : Nat) (M : Option Mq) : Prop := match M with
  | none => Ar h (x + 65) k = none
  | some q => ∃ p, Ar h (x + 65) k = some p ∧ XP lo hi h x o n b c p q
def XN (h : AH) (x : Nat) (lo : Nat) (hi : Nat) (o : Nat) (b : Nat) (O : Oc) (S : Sg) : Prop := (XF h x) ∧ (hi ≤ Nx h) ∧ (x + 12 ≤ lo ∧ (hi ≤ x + 30 ∨ x + 66 ≤ lo)) ∧ (Fr h 1 x = some b) ∧ (XO lo hi h o O) ∧ (XB lo hi h b o O.nA S.B) ∧ (nbx x b) ∧ (Fr h 3 x = some (ol h x 3)) ∧ (XL lo hi h (ol h x 3) S.L) ∧ (Sep h x (ol h x 3)) ∧ (Fr h 4 x = some (ol h x 4)) ∧ (XK lo hi h (ol h x 4) S.K S.T) ∧ (Fr h 5 x = some (ol h x 5)) ∧ (XT lo hi h (ol h x 5) S.To) ∧ (ol h x 5 ≠ x + 37 ∧ ed h (ol h x 5) ≠ ed h (x + 37)) ∧ (XU lo hi h x o O.nA b S.c S.U) ∧ (∀ k, k < 4 → XM lo hi h x o O.nA b S.c k (S.M k)) ∧ (Tg h (Ev h 51) = 5902)
theorem XN.f {h : AH} {x : Nat} {lo : Nat} {hi : Nat} {o : Nat} {b : Nat} {O : Oc} {S : Sg} (z_ : XN h x lo hi o b O S) : XF h x := z_.1
theorem XN.hn {h : AH} {x : Nat} {lo : Nat} {hi : Nat} {o : Nat} {b : Nat} {O : Oc} {S : Sg} (z_ : XN h x lo hi o b O S) : hi ≤ Nx h := z_.2.1
theorem XN.rg {h : AH} {x : Nat} {lo : Nat} {hi : Nat} {o : Nat} {b : Nat} {O : Oc} {S : Sg} (z_ : XN h x lo hi o b O S) : x + 12 ≤ lo ∧ (hi ≤ x + 30 ∨ x + 66 ≤ lo) := z_.2.2.1
theorem XN.fb {h : AH} {x : Nat} {lo : Nat} {hi : Nat} {o : Nat} {b : Nat} {O : Oc} {S : Sg} (z_ : XN h x lo hi o b O S) : Fr h 1 x = some b := z_.2.2.2.1
theorem XN.xo {h : AH} {x : Nat} {lo : Nat} {hi : Nat} {o : Nat} {b : Nat} {O : Oc} {S : Sg} (z_ : XN h x lo hi o b O S) : XO lo hi h o O := z_.2.2.2.2.1
theorem XN.xb {h : AH} {x : Nat} {lo : Nat} {hi : Nat} {o : Nat} {b : Nat} {O : Oc} {S : Sg} (z_ : XN h x lo hi o b O S) : XB lo hi h b o O.nA S.B := z_.2.2.2.2.2.1
theorem XN.nb {h : AH} {x : Nat} {lo : Nat} {hi : Nat} {o : Nat} {b : Nat} {O : Oc} {S : Sg} (z_ : XN h x lo hi o b O S) : nbx x b := z_.2.2.2.2.2.2.1
theorem XN.fd {h : AH} {x : Nat} {lo : Nat} {hi : Nat} {o : Nat} {b : Nat} {O : Oc} {S : Sg} (z_ : XN h x lo hi o b O S) : Fr h 3 x = some (ol h x 3) := z_.2.2.2.2.2.2.2.1
theorem XN.da {h : AH} {x : Nat} {lo : Nat} {hi : Nat} {o : Nat} {b : Nat} {O : Oc} {S : Sg} (z_ : XN h x lo hi o b O S) : XL lo hi h (ol h x 3) S.L := z_.2.2.2.2.2.2.2.2.1
theorem XN.sd {h : AH} {x : Nat} {lo : Nat} {hi : Nat} {o : Nat} {b : Nat} {O : Oc} {S : Sg} (z_ : XN h x lo hi o b O S) : Sep h x (ol h x 3) := z_.2.2.2.2.2.2.2.2.2.1
theorem XN.fk {h : AH} {x : Nat} {lo : Nat} {hi : Nat} {o : Nat} {b : Nat} {O : Oc} {S : Sg} (z_ : XN h x lo hi o b O S) : Fr h 4 x = some (ol h x 4) := z_.2.2.2.2.2.2.2.2.2.2.1
theorem XN.li {h : AH} {x : Nat} {lo : Nat} {hi : Nat} {o : Nat} {b : Nat} {O : Oc} {S : Sg} (z_ : XN h x lo hi o b O S) : XK lo hi h (ol h x 4) S.K S.T := z_.2.2.2.2.2.2.2.2.2.2.2.1
theorem XN.ft {h : AH} {x : Nat} {lo : Nat} {hi : Nat} {o : Nat} {b : Nat} {O : Oc} {S : Sg} (z_ : XN h x lo hi o b O S) : Fr h 5 x = some (ol h x 5) := z_.2.2.2.2.2.2.2.2.2.2.2.2.1
theorem XN.to {h : AH} {x : Nat} {lo : Nat} {hi : Nat} {o : Nat} {b : Nat} {O : Oc} {S : Sg} (z_ : XN h x lo hi o b O S) : XT lo hi h (ol h x 5) S.To := z_.2.2.2.2.2.2.2.2.2.2.2.2.2.1
theorem XN.se {h : AH} {x : Nat} {lo : Nat} {hi : Nat} {o : Nat} {b : Nat} {O : Oc} {S : Sg} (z_ : XN h x lo hi o b O S) : ol h x 5 ≠ x + 37 ∧ ed h (ol h x 5) ≠ ed h (x + 37) := z_.2.2.2.2.2.2.2.2.2.2.2.2.2.2.1
theorem XN.be {h : AH} {x : Nat} {lo : Nat} {hi : Nat} {o : Nat} {b : Nat} {O : Oc} {S : Sg} (z_ : XN h x lo hi o b O S) : XU lo hi h x o O.nA b S.c S.U := z_.2.2.2.2.2.2.2.2.2.2.2.2.2.2.2.1
theorem XN.mk {h : AH} {x : Nat} {lo : Nat} {hi : Nat} {o : Nat} {b : Nat} {O : Oc} {S : Sg} (z_ : XN h x lo hi o b O S) : ∀ k, k < 4 → XM lo hi h x o O.nA b S.c k (S.M k) := z_.2.2.2.2.2.2.2.2.2.2.2.2.2.2.2.2.1
theorem XN.dv {h : AH} {x : Nat} {lo : Nat} {hi : Nat} {o : Nat} {b : Nat} {O : Oc} {S : Sg} (z_ : XN h x lo hi o b O S) : Tg h (Ev h 51) = 5902 := z_.2.2.2.2.2.2.2.2.2.2.2.2.2.2.2.2.2
section
variable {h h' h1 h2 : AH} {A B : Nat → Prop} {x a b c p q l o lo hi n k t : Nat} {O : Oc} {S : Sg} {L : Dy} {T : To} {M : Option Mq} {U : Nat → Bo} {qq : Mq}
theorem XF.tx (f : XF h x) : Tg h x = 2 := f.t (0, 2) (by decide)
theorem XF.lt (f : XF h x) : x + 66 ≤ Nx h := by
  have := Tg_nz (f.t (65, 5001) (by decide)) (by decide)
  show x + 65 + 1 ≤ _
  exact this
theorem Xs.tg (f : XF h x) (s : Xs x h a) : Tg h a = 2 ∨ Tg h a = 4 ∨ Tg h a = 8 ∨ Tg h a = 9 ∨ (1013 ≤ Tg h a ∧ Tg h a ≤ 1019) ∨ Tg h a = 2001 ∨ Tg h a = 2002 := by
  have key : ∀ k t, (k, t) ∈ xfT → a = x + k → Tg h a = t := fun k t hk e => by rw [e]; exact f.t (k, t) hk
  have big : ∀ k, k ≤ 64 → a = x + k → (k = 0 ∨ k = 30 ∨ k = 31 ∨ (39 ≤ k ∧ k ≤ 42) ∨ (44 ≤ k ∧ k ≤ 53) ∨ (55 ≤ k ∧ k ≤ 64)) → Tg h a = 2 ∨ Tg h a = 4 ∨ Tg h a = 8 ∨ Tg h a = 9 ∨ (1013 ≤ Tg h a ∧ Tg h a ≤ 1019) ∨ Tg h a = 2001 ∨ Tg h a = 2002 := by
    intro k hk e hh
    have : ∃ t, (k, t) ∈ xfT ∧ (t = 2 ∨ t = 4 ∨ t = 8 ∨ t = 9 ∨ (1013 ≤ t ∧ t ≤ 1019) ∨ t = 2001 ∨ t = 2002) := by
      have all : ∀ k : Fin 65, (k.1 = 0 ∨ k.1 = 30 ∨ k.1 = 31 ∨ (39 ≤ k.1 ∧ k.1 ≤ 42) ∨ (44 ≤ k.1 ∧ k.1 ≤ 53) ∨ (55 ≤ k.1 ∧ k.1 ≤ 64)) → ∃ e ∈ xfT, e.1 = k.1 ∧ (e.2 = 2 ∨ e.2 = 4 ∨ e.2 = 8 ∨ e.2 = 9 ∨ (1013 ≤ e.2 ∧ e.2 ≤ 1019) ∨ e.2 = 2001 ∨ e.2 = 2002) := by decide +kernel
      obtain ⟨e, he, e1, e2⟩ := all ⟨k, by omega⟩ hh
      refine ⟨e.2, ?_, e2⟩
      have e1 : e.1 = k := e1
      rw [← e1]
      exact he
    obtain ⟨t, ht, q⟩ := this
    rw [key k t ht e]
    exact q
  rcases s with q | q | q | q | q | q | q | q
  · omega
  · omega
  · exact big 0 (by omega) q (by omega)
  · exact big 30 (by omega) q (by omega)
  · exact big 31 (by omega) q (by omega)
  · exact big (a - x) (by omega) (by omega) (by omega)
  · exact big (a - x) (by omega) (by omega) (by omega)
  · exact big (a - x) (by omega) (by omega) (by omega)
theorem Tw.refl : Tw x h h := ⟨Un.refl, fun _ _ => ⟨rfl, rfl, fun _ _ => rfl⟩⟩
theorem Tf.refl : Tf x h h := ⟨Tw.refl, rfl, rfl⟩
theorem Tf.w (u : Tf x h h') : Tw x h h' := u.1
theorem Xs.old (u : Un A h h') (ha : a < Nx h) : Xs x h' a = Xs x h a := by
  unfold Xs
  rw [(u.2.2.2.2.1 a ha).1]
theorem Tw.trans (u : Tw x h h1) (t : Tw x h1 h2) : Tw x h h2 := by
  have hn := u.1.nx
  refine ⟨u.1.trans t.1 (fun z hz q => by rw [Xs.old u.1 hz] at q; exact q), fun a ha => ?_⟩
  obtain ⟨p1, p2, p3⟩ := u.2 a ha
  obtain ⟨q1, q2, q3⟩ := t.2 a (by omega)
  refine ⟨q1.trans p1, q2.trans p2, fun h4 f => (q3 ?_ f).trans (p3 h4 f)⟩
  rw [(u.1.2.2.2.2.1 a ha).1]
  exact h4
theorem Tf.trans (u : Tf x h h1) (t : Tf x h1 h2) : Tf x h h2 := ⟨u.1.trans t.1, t.2.1.trans u.2.1, t.2.2.trans u.2.2⟩
theorem Sc.tf (u : Sc h h') : Tf x h h' := by
  have uu := u.un
  obtain ⟨u1, u2, u3, u4, u5, u6, u7, u8, u9, -⟩ := u
  refine ⟨⟨uu.mono (fun z _ q => q.elim Or.inl (fun q => Or.inr (Or.inl q))), fun a _ => ?_⟩, u8, u9⟩
  rw [u5, u7]
  exact ⟨rfl, rfl, fun _ _ => rfl⟩
/-- the boughs of trials -/
abbrev Fb (x b : Nat) : Prop := b = x + 30 ∨ (x + 44 ≤ b ∧ b + 1 ≤ x + 51) ∨ (x + 55 ≤ b ∧ b + 1 ≤ x + 62)
theorem Bx.tf (u : Bx b h h') (hb : Fb x b) (t4 : Tg h b = 4) : Tf x h h' := by
  have uu := u.un
  obtain ⟨u1, u2, u3, u4, u5, u6, u7, u8, u9, u10, u11, u12⟩ := u
  refine ⟨⟨uu.mono (fun z _ q => ?_), fun a _ => ?_⟩, u6, u7⟩
  · unfold Xs
    omega
  · refine ⟨by rw [u5], ?_, fun q f => (u10 f a (fun e => q (by rw [e]; exact t4))).2⟩
    by_cases q : a = b
    · rw [q]; exact u12
    · exact (u10 28 a q).2
theorem tf_ai {F : Nat → Int32} (ha : Xs x h a) : Tf x h (sAi h a F) := ⟨⟨un_sAi ha, fun _ _ => ⟨rfl, rfl, fun _ _ => rfl⟩⟩, rfl, rfl⟩
theorem tf_fi {f : Nat} {v : Int32} (ha : Xs x h a) : Tf x h (sFi h f a v) := ⟨⟨un_sFi ha, fun _ _ => ⟨rfl, rfl, fun _ _ => rfl⟩⟩, rfl, rfl⟩
theorem tf_fl {f : Nat} {v : Int64} (ha : Xs x h a) : Tf x h (sFl h f a v) := ⟨⟨un_sFl ha, fun _ _ => ⟨rfl, rfl, fun _ _ => rfl⟩⟩, rfl, rfl⟩
theorem tw_new : Tw x h (nCe h t n) := ⟨un_nCe, fun a ha => ⟨Ar_old (by omega), Fr_old (by omega), fun _ _ => Fr_old (by omega)⟩⟩
theorem XF.tw (f : XF h x) (u : Tw x h h') : XF h' x := by
  have src : ∀ e ∈ xfR, ∃ t ∈ xfT, t.1 = e.2.1 ∧ t.2 ≠ 0 ∧ (t.2 = 4 → e.1 = 28) := by decide +kernel
  have tn : ∀ e ∈ xfT, e.2 ≠ 0 := by decide +kernel
  have nt : ∀ e ∈ xfN, ∃ t ∈ xfT, t.1 = e.1 ∧ t.2 ≠ 0 := by decide +kernel
  refine ⟨fun e he => ?_, fun e he => ?_, fun e he => ?_, fun i hi => ?_, fun i hi => ?_⟩
  · obtain ⟨t, ht, e1, e2, e3⟩ := src e he
    have tt := f.t t ht
    rw [e1] at tt
    obtain ⟨p1, p2, p3⟩ := u.2 (x + e.2.1) (Tg_nz tt e2)
    by_cases q : t.2 = 4
    · have := f.r e he
      rw [e3 q] at this ⊢
      rw [p2]
      exact this
    · rw [p3 (by rw [tt]; exact q)]
      exact f.r e he
  · exact u.1.tg (f.t e he) (tn e he)
  · obtain ⟨t, ht, e1, e2⟩ := nt e he
    have tt := f.t t ht
    rw [e1] at tt
    rw [u.1.an (by rw [tt]; exact e2)]
    exact f.n e he
  · rw [(u.2 (x + 43) (Tg_nz (f.t (43, 5006) (by decide)) (by decide))).1]
    exact f.s1 i hi
  · rw [(u.2 (x + 54) (Tg_nz (f.t (54, 5007) (by decide)) (by decide))).1]
    exact f.s2 i hi
/-! lists kept -/
theorem OL.un (y : OL lo hi h l) (u : Un A h h') (h1 : ¬ A l) (h2 : ¬ A (ed h l)) : OL lo hi h' l ∧ sz h' l = sz h l ∧ ed h' l = ed h l ∧ ∀ i, el h' l i = el h l i := by
  obtain ⟨w, e1, e2, e3⟩ := y.wl.un u h1 h2
  have l2 := y.wl.elt
  refine ⟨⟨w, ?_, ?_⟩, e1, e2, e3⟩
  · rw [e2, (u.2.2.2.2.1 _ l2).1]; exact y.de
  · rw [e2]; exact y.ou
theorem XLn.uk {a b c : Nat} (y : XLn h p a b c) (u : Uk h h' p) : XLn h' p a b c := by
  obtain ⟨u1, u2, u3, -⟩ := u
  unfold XLn
  rw [u1, u3, u3, u3]
  exact y
theorem XLn.tg {a b c : Nat} (y : XLn h p a b c) : 32 ≤ Tg h p ∧ Tg h p ≤ 34 := by
  rcases y with ⟨_, q, _⟩ | ⟨_, q, _⟩ | ⟨_, q⟩ <;> omega
theorem XL.un (y : XL lo hi h l L) (u : Un A h h') (h1 : ¬ A l) (h2 : ¬ A (ed h l)) (h3 : ∀ a, 32 ≤ Tg h a → Tg h a ≤ 34 → ¬ A a) : XL lo hi h' l L ∧ ed h' l = ed h l := by
  obtain ⟨w, e1, e2, e3⟩ := y.ol.un u h1 h2
  refine ⟨⟨w, by rw [e1]; exact y.sz, fun j hj => ?_⟩, e2⟩
  rw [e3]
  have t := (y.ln j hj).tg
  exact (y.ln j hj).uk (u.uk (Tg_lt (by omega)) (h3 _ t.1 t.2))
theorem XT.un (y : XT lo hi h l T) (u : Un A h h') (h1 : ¬ A l) (h2 : ¬ A (ed h l)) (h3 : ∀ a, Tg h a = 1004 → ¬ A a) : XT lo hi h' l T ∧ ed h' l = ed h l := by
  obtain ⟨w, e1, e2, e3⟩ := y.ol.un u h1 h2
  refine ⟨⟨w, by rw [e1]; exact y.sz, fun j hj => ?_⟩, e2⟩
  rw [e3]
  obtain ⟨t1, t2, t3, t4, t5⟩ := y.ln j hj
  obtain ⟨k1, k2, _, _, _, k6, _⟩ := u.uk (Tg_nz t1 (by decide)) (h3 _ t1)
  rw [k1, k2, k6]
  exact ⟨t1, t2, t3, t4, t5⟩
theorem XK.un {K T : Nat} (y : XK lo hi h a K T) (u : Un A h h') (h1 : ¬ A a) : XK lo hi h' a K T := by
  have t : Tg h a ≠ 0 := by rcases y.tg with q | q | q <;> omega
  obtain ⟨k1, k2, _, _, _, k6, _⟩ := u.uk (Tg_lt t) h1
  unfold XK
  rw [k1, k2, k6]
  exact y
end
