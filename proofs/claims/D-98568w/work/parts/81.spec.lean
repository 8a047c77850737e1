/-! WHAT IS MEANT: orchards and boughs, and the model's rows of them -/
set_option maxRecDepth 100000
/-- orchards: rows of numbers (row 0: how many), the law of nearness, the law of value -/
abbrev Oc : Type := (Nat → Nat → Nat) × Option Ph × Option Ph
noncomputable def Oc.nA (O : Oc) : Nat := O.1 0 0
noncomputable def Oc.nS (O : Oc) : Nat := O.1 0 1
noncomputable def Oc.nP (O : Oc) : Nat := O.1 0 2
noncomputable def Oc.nT (O : Oc) : Nat := O.1 0 3
noncomputable def Oc.nG (O : Oc) : Nat := O.1 0 4
noncomputable def Oc.nB (O : Oc) : Nat := O.1 0 5
noncomputable def Oc.sn (O : Oc) : Nat → Nat := O.1 1
noncomputable def Oc.pn (O : Oc) : Nat → Nat := O.1 2
noncomputable def Oc.ts (O : Oc) : Nat → Nat := O.1 3
noncomputable def Oc.kd (O : Oc) : Nat → Nat := O.1 4
noncomputable def Oc.pl (O : Oc) : Nat → Nat := O.1 5
noncomputable def Oc.rw (O : Oc) : Nat → Nat := O.1 6
noncomputable def Oc.rp (O : Oc) : Nat → Nat := O.1 7
noncomputable def Oc.wo (O : Oc) : Nat → Nat := O.1 8
noncomputable def Oc.tw (O : Oc) : Nat → Nat := O.1 9
noncomputable def Oc.ln (O : Oc) : Nat → Nat := O.1 10
noncomputable def Oc.ld (O : Oc) : Nat → Nat := O.1 11
noncomputable def Oc.mu (O : Oc) : Nat → Nat := O.1 12
noncomputable def Oc.st (O : Oc) : Nat → Nat := O.1 13
noncomputable def Oc.sb (O : Oc) : Nat → Nat := O.1 14
noncomputable def Oc.pm (O : Oc) : Nat → Nat := O.1 15
noncomputable def Oc.ba (O : Oc) : Nat → Nat := O.1 16
noncomputable def Oc.bb (O : Oc) : Nat → Nat := O.1 17
noncomputable def Oc.pg (O : Oc) (k : Nat) : Nat → Nat := O.1 (30 + k)
noncomputable def Oc.nr (O : Oc) : Option Ph := O.2.1
noncomputable def Oc.vl (O : Oc) : Option Ph := O.2.2
def WO (O : Oc) : Prop := (O.nA ≤ 10) ∧ (O.nS ≤ 16) ∧ (O.nP ≤ 5) ∧ (O.nT ≤ 6) ∧ (O.nG ≤ 4) ∧ (O.nB ≤ 4) ∧ (∀ k, k < O.nS → O.sn k < wMax) ∧ (∀ k, k < O.nS → 0 < wl (O.sn k)) ∧ (∀ k, k < O.nP → O.pn k < wMax) ∧ (∀ k, k < O.nA → O.ts k < O.nS) ∧ (∀ k, k < O.nA → O.kd k < 4) ∧ (∀ k, k < O.nA → O.pl k < 12) ∧ (∀ k, k < O.nA → O.rw k < 12) ∧ (∀ k, k < O.nA → O.rp k < 61) ∧ (∀ k, k < O.nA → O.wo k < 100) ∧ (∀ k, k < O.nA → O.tw k ≤ O.nA) ∧ (∀ k, k < O.nA → 0 < O.tw k → O.tw (O.tw k - 1) = k + 1) ∧ (∀ k, k < O.nP → O.ln k < 12) ∧ (∀ k, k < O.nP → O.ld k < 7) ∧ (∀ k, k < O.nP → O.mu k < 27) ∧ (∀ k, k < O.nT → O.st k < O.nS) ∧ (∀ k, k < O.nT → O.sb k < 11) ∧ (∀ k, k < O.nG → O.pm k ≤ 10) ∧ (∀ k, k < O.nG → ∀ j, j < O.pm k → O.pg k j < O.nA) ∧ (∀ k, k < O.nB → O.ba k < O.nS) ∧ (∀ k, k < O.nB → O.bb k < O.nS)
theorem WO.nA {O : Oc} (x : WO O) : O.nA ≤ 10 := x.1
theorem WO.nS {O : Oc} (x : WO O) : O.nS ≤ 16 := x.2.1
theorem WO.nP {O : Oc} (x : WO O) : O.nP ≤ 5 := x.2.2.1
theorem WO.nT {O : Oc} (x : WO O) : O.nT ≤ 6 := x.2.2.2.1
theorem WO.nG {O : Oc} (x : WO O) : O.nG ≤ 4 := x.2.2.2.2.1
theorem WO.nB {O : Oc} (x : WO O) : O.nB ≤ 4 := x.2.2.2.2.2.1
theorem WO.sn {O : Oc} (x : WO O) : ∀ k, k < O.nS → O.sn k < wMax := x.2.2.2.2.2.2.1
theorem WO.sl {O : Oc} (x : WO O) : ∀ k, k < O.nS → 0 < wl (O.sn k) := x.2.2.2.2.2.2.2.1
theorem WO.pn {O : Oc} (x : WO O) : ∀ k, k < O.nP → O.pn k < wMax := x.2.2.2.2.2.2.2.2.1
theorem WO.ts {O : Oc} (x : WO O) : ∀ k, k < O.nA → O.ts k < O.nS := x.2.2.2.2.2.2.2.2.2.1
theorem WO.kd {O : Oc} (x : WO O) : ∀ k, k < O.nA → O.kd k < 4 := x.2.2.2.2.2.2.2.2.2.2.1
theorem WO.pl {O : Oc} (x : WO O) : ∀ k, k < O.nA → O.pl k < 12 := x.2.2.2.2.2.2.2.2.2.2.2.1
theorem WO.rw {O : Oc} (x : WO O) : ∀ k, k < O.nA → O.rw k < 12 := x.2.2.2.2.2.2.2.2.2.2.2.2.1
theorem WO.rp {O : Oc} (x : WO O) : ∀ k, k < O.nA → O.rp k < 61 := x.2.2.2.2.2.2.2.2.2.2.2.2.2.1
theorem WO.wo {O : Oc} (x : WO O) : ∀ k, k < O.nA → O.wo k < 100 := x.2.2.2.2.2.2.2.2.2.2.2.2.2.2.1
theorem WO.tw {O : Oc} (x : WO O) : ∀ k, k < O.nA → O.tw k ≤ O.nA := x.2.2.2.2.2.2.2.2.2.2.2.2.2.2.2.1
theorem WO.ti {O : Oc} (x : WO O) : ∀ k, k < O.nA → 0 < O.tw k → O.tw (O.tw k - 1) = k + 1 := x.2.2.2.2.2.2.2.2.2.2.2.2.2.2.2.2.1
theorem WO.ln {O : Oc} (x : WO O) : ∀ k, k < O.nP → O.ln k < 12 := x.2.2.2.2.2.2.2.2.2.2.2.2.2.2.2.2.2.1
theorem WO.ld {O : Oc} (x : WO O) : ∀ k, k < O.nP → O.ld k < 7 := x.2.2.2.2.2.2.2.2.2.2.2.2.2.2.2.2.2.2.1
theorem WO.mu {O : Oc} (x : WO O) : ∀ k, k < O.nP → O.mu k < 27 := x.2.2.2.2.2.2.2.2.2.2.2.2.2.2.2.2.2.2.2.1
theorem WO.st {O : Oc} (x : WO O) : ∀ k, k < O.nT → O.st k < O.nS := x.2.2.2.2.2.2.2.2.2.2.2.2.2.2.2.2.2.2.2.2.1
theorem WO.sb {O : Oc} (x : WO O) : ∀ k, k < O.nT → O.sb k < 11 := x.2.2.2.2.2.2.2.2.2.2.2.2.2.2.2.2.2.2.2.2.2.1
theorem WO.pm {O : Oc} (x : WO O) : ∀ k, k < O.nG → O.pm k ≤ 10 := x.2.2.2.2.2.2.2.2.2.2.2.2.2.2.2.2.2.2.2.2.2.2.1
theorem WO.pg {O : Oc} (x : WO O) : ∀ k, k < O.nG → ∀ j, j < O.pm k → O.pg k j < O.nA := x.2.2.2.2.2.2.2.2.2.2.2.2.2.2.2.2.2.2.2.2.2.2.2.1
theorem WO.ba {O : Oc} (x : WO O) : ∀ k, k < O.nB → O.ba k < O.nS := x.2.2.2.2.2.2.2.2.2.2.2.2.2.2.2.2.2.2.2.2.2.2.2.2.1
theorem WO.bb {O : Oc} (x : WO O) : ∀ k, k < O.nB → O.bb k < O.nS := x.2.2.2.2.2.2.2.2.2.2.2.2.2.2.2.2.2.2.2.2.2.2.2.2.2
/-- the model's row r of an orchard -/
def MR (r : Nat) (h : AH) (m : Nat) (O : Oc) : Prop := (Ai h (m + 2) (6 * r) = ix O.nA) ∧ (Ai h (m + 2) (6 * r + 1) = ix O.nS) ∧ (Ai h (m + 2) (6 * r + 2) = ix O.nP) ∧ (Ai h (m + 2) (6 * r + 3) = ix O.nT) ∧ (Ai h (m + 2) (6 * r + 4) = ix O.nG) ∧ (Ai h (m + 2) (6 * r + 5) = ix O.nB) ∧ (∀ k, k < O.nS → Al h (m + 3) (16 * r + k) = lix (O.sn k)) ∧ (∀ k, k < O.nP → Al h (m + 4) (5 * r + k) = lix (O.pn k)) ∧ (∀ k, k < O.nA → Ai h (m + 5) (10 * r + k) = ix (O.ts k)) ∧ (∀ k, k < O.nA → Ai h (m + 6) (10 * r + k) = ix (O.kd k)) ∧ (∀ k, k < O.nA → Ai h (m + 7) (10 * r + k) = ix (O.pl k)) ∧ (∀ k, k < O.nA → Ai h (m + 8) (10 * r + k) = ix (O.rw k)) ∧ (∀ k, k < O.nA → Ai h (m + 9) (10 * r + k) = ix (O.rp k)) ∧ (∀ k, k < O.nA → Ai h (m + 10) (10 * r + k) = ix (O.wo k)) ∧ (∀ k, k < O.nA → Ai h (m + 11) (10 * r + k) = ix (O.tw k) - 1) ∧ (∀ k, k < O.nP → Ai h (m + 12) (5 * r + k) = ix (O.ln k)) ∧ (∀ k, k < O.nP → Ai h (m + 13) (5 * r + k) = ix (O.ld k)) ∧ (∀ k, k < O.nP → Ai h (m + 14) (5 * r + k) = ix (O.mu k)) ∧ (∀ k, k < O.nT → Ai h (m + 15) (6 * r + k) = ix (O.st k)) ∧ (∀ k, k < O.nT → Ai h (m + 16) (6 * r + k) = ix (O.sb k)) ∧ (∀ k, k < O.nG → ∀ j, j < O.pm k → Ai h (m + 17) (40 * r + 10 * k + j) = ix (O.pg k j)) ∧ (∀ k, k < O.nG → Ai h (m + 18) (4 * r + k) = ix (O.pm k)) ∧ (∀ k, k < O.nB → Ai h (m + 19) (4 * r + k) = ix (O.ba k)) ∧ (∀ k, k < O.nB → Ai h (m + 20) (4 * r + k) = ix (O.bb k)) ∧ (LnO h m (2 * r) 1 4 O.nr) ∧ (LnO h m (2 * r + 1) 5 6 O.vl)
theorem MR.nA {r : Nat} {h : AH} {m : Nat} {O : Oc} (x : MR r h m O) : Ai h (m + 2) (6 * r) = ix O.nA := x.1
theorem MR.nS {r : Nat} {h : AH} {m : Nat} {O : Oc} (x : MR r h m O) : Ai h (m + 2) (6 * r + 1) = ix O.nS := x.2.1
theorem MR.nP {r : Nat} {h : AH} {m : Nat} {O : Oc} (x : MR r h m O) : Ai h (m + 2) (6 * r + 2) = ix O.nP := x.2.2.1
theorem MR.nT {r : Nat} {h : AH} {m : Nat} {O : Oc} (x : MR r h m O) : Ai h (m + 2) (6 * r + 3) = ix O.nT := x.2.2.2.1
theorem MR.nG {r : Nat} {h : AH} {m : Nat} {O : Oc} (x : MR r h m O) : Ai h (m + 2) (6 * r + 4) = ix O.nG := x.2.2.2.2.1
theorem MR.nB {r : Nat} {h : AH} {m : Nat} {O : Oc} (x : MR r h m O) : Ai h (m + 2) (6 * r + 5) = ix O.nB := x.2.2.2.2.2.1
theorem MR.sn {r : Nat} {h : AH} {m : Nat} {O : Oc} (x : MR r h m O) : ∀ k, k < O.nS → Al h (m + 3) (16 * r + k) = lix (O.sn k) := x.2.2.2.2.2.2.1
theorem MR.pn {r : Nat} {h : AH} {m : Nat} {O : Oc} (x : MR r h m O) : ∀ k, k < O.nP → Al h (m + 4) (5 * r + k) = lix (O.pn k) := x.2.2.2.2.2.2.2.1
theorem MR.ts {r : Nat} {h : AH} {m : Nat} {O : Oc} (x : MR r h m O) : ∀ k, k < O.nA → Ai h (m + 5) (10 * r + k) = ix (O.ts k) := x.2.2.2.2.2.2.2.2.1
theorem MR.kd {r : Nat} {h : AH} {m : Nat} {O : Oc} (x : MR r h m O) : ∀ k, k < O.nA → Ai h (m + 6) (10 * r + k) = ix (O.kd k) := x.2.2.2.2.2.2.2.2.2.1
theorem MR.pl {r : Nat} {h : AH} {m : Nat} {O : Oc} (x : MR r h m O) : ∀ k, k < O.nA → Ai h (m + 7) (10 * r + k) = ix (O.pl k) := x.2.2.2.2.2.2.2.2.2.2.1
theorem MR.rw {r : Nat} {h : AH} {m : Nat} {O : Oc} (x : MR r h m O) : ∀ k, k < O.nA → Ai h (m + 8) (10 * r + k) = ix (O.rw k) := x.2.2.2.2.2.2.2.2.2.2.2.1
theorem MR.rp {r : Nat} {h : AH} {m : Nat} {O : Oc} (x : MR r h m O) : ∀ k, k < O.nA → Ai h (m + 9) (10 * r + k) = ix (O.rp k) := x.2.2.2.2.2.2.2.2.2.2.2.2.1
theorem MR.wo {r : Nat} {h : AH} {m : Nat} {O : Oc} (x : MR r h m O) : ∀ k, k < O.nA → Ai h (m + 10) (10 * r + k) = ix (O.wo k) := x.2.2.2.2.2.2.2.2.2.2.2.2.2.1
theorem MR.tw {r : Nat} {h : AH} {m : Nat} {O : Oc} (x : MR r h m O) : ∀ k, k < O.nA → Ai h (m + 11) (10 * r + k) = ix (O.tw k) - 1 := x.2.2.2.2.2.2.2.2.2.2.2.2.2.2.1
theorem MR.ln {r : Nat} {h : AH} {m : Nat} {O : Oc} (x : MR r h m O) : ∀ k, k < O.nP → Ai h (m + 12) (5 * r + k) = ix (O.ln k) := x.2.2.2.2.2.2.2.2.2.2.2.2.2.2.2.1
theorem MR.ld {r : Nat} {h : AH} {m : Nat} {O : Oc} (x : MR r h m O) : ∀ k, k < O.nP → Ai h (m + 13) (5 * r + k) = ix (O.ld k) := x.2.2.2.2.2.2.2.2.2.2.2.2.2.2.2.2.1
theorem MR.mu {r : Nat} {h : AH} {m : Nat} {O : Oc} (x : MR r h m O) : ∀ k, k < O.nP → Ai h (m + 14) (5 * r + k) = ix (O.mu k) := x.2.2.2.2.2.2.2.2.2.2.2.2.2.2.2.2.2.1
theorem MR.st {r : Nat} {h : AH} {m : Nat} {O : Oc} (x : MR r h m O) : ∀ k, k < O.nT → Ai h (m + 15) (6 * r + k) = ix (O.st k) := x.2.2.2.2.2.2.2.2.2.2.2.2.2.2.2.2.2.2.1
theorem MR.sb {r : Nat} {h : AH} {m : Nat} {O : Oc} (x : MR r h m O) : ∀ k, k < O.nT → Ai h (m + 16) (6 * r + k) = ix (O.sb k) := x.2.2.2.2.2.2.2.2.2.2.2.2.2.2.2.2.2.2.2.1
theorem MR.pg {r : Nat} {h : AH} {m : Nat} {O : Oc} (x : MR r h m O) : ∀ k, k < O.nG → ∀ j, j < O.pm k → Ai h (m + 17) (40 * r + 10 * k + j) = ix (O.pg k j) := x.2.2.2.2.2.2.2.2.2.2.2.2.2.2.2.2.2.2.2.2.1
theorem MR.pm {r : Nat} {h : AH} {m : Nat} {O : Oc} (x : MR r h m O) : ∀ k, k < O.nG → Ai h (m + 18) (4 * r + k) = ix (O.pm k) := x.2.2.2.2.2.2.2.2.2.2.2.2.2.2.2.2.2.2.2.2.2.1
theorem MR.ba {r : Nat} {h : AH} {m : Nat} {O : Oc} (x : MR r h m O) : ∀ k, k < O.nB → Ai h (m + 19) (4 * r + k) = ix (O.ba k) := x.2.2.2.2.2.2.2.2.2.2.2.2.2.2.2.2.2.2.2.2.2.2.1
theorem MR.bb {r : Nat} {h : AH} {m : Nat} {O : Oc} (x : MR r h m O) : ∀ k, k < O.nB → Ai h (m + 20) (4 * r + k) = ix (O.bb k) := x.2.2.2.2.2.2.2.2.2.2.2.2.2.2.2.2.2.2.2.2.2.2.2.1
theorem MR.nr {r : Nat} {h : AH} {m : Nat} {O : Oc} (x : MR r h m O) : LnO h m (2 * r) 1 4 O.nr := x.2.2.2.2.2.2.2.2.2.2.2.2.2.2.2.2.2.2.2.2.2.2.2.2.1
theorem MR.vl {r : Nat} {h : AH} {m : Nat} {O : Oc} (x : MR r h m O) : LnO h m (2 * r + 1) 5 6 O.vl := x.2.2.2.2.2.2.2.2.2.2.2.2.2.2.2.2.2.2.2.2.2.2.2.2.2
/-- its tables of nearness -/
def NT (h : AH) (m : Nat) (O : Oc) : Prop := (∀ a b, a < O.nS → b < O.nS → Ai h (m + 36) (16 * a + b) = ix (edF (O.sn a) (O.sn b))) ∧ (∀ a b, a < O.nS → b < O.nS → Ai h (m + 37) (16 * a + b) = ix (stF (O.sn a) (O.sn b))) ∧ (∀ a b, a < O.nS → b < O.nS → Ai h (m + 38) (16 * a + b) = ix (rhF (O.sn a) (O.sn b))) ∧ (∀ a b, a < O.nS → b < O.nS → Ai h (m + 39) (16 * a + b) = bz (nrF O.nr (O.sn a) (O.sn b)))
theorem NT.ed {h : AH} {m : Nat} {O : Oc} (x : NT h m O) : ∀ a b, a < O.nS → b < O.nS → Ai h (m + 36) (16 * a + b) = ix (edF (O.sn a) (O.sn b)) := x.1
theorem NT.st {h : AH} {m : Nat} {O : Oc} (x : NT h m O) : ∀ a b, a < O.nS → b < O.nS → Ai h (m + 37) (16 * a + b) = ix (stF (O.sn a) (O.sn b)) := x.2.1
theorem NT.rh {h : AH} {m : Nat} {O : Oc} (x : NT h m O) : ∀ a b, a < O.nS → b < O.nS → Ai h (m + 38) (16 * a + b) = ix (rhF (O.sn a) (O.sn b)) := x.2.2.1
theorem NT.nr {h : AH} {m : Nat} {O : Oc} (x : NT h m O) : ∀ a b, a < O.nS → b < O.nS → Ai h (m + 39) (16 * a + b) = bz (nrF O.nr (O.sn a) (O.sn b)) := x.2.2.2
def M0 (h : AH) (m : Nat) (O : Oc) : Prop := (MO h m) ∧ (WO O) ∧ (MR 0 h m O) ∧ (NT h m O)
theorem M0.mo {h : AH} {m : Nat} {O : Oc} (x : M0 h m O) : MO h m := x.1
theorem M0.wo {h : AH} {m : Nat} {O : Oc} (x : M0 h m O) : WO O := x.2.1
theorem M0.mr {h : AH} {m : Nat} {O : Oc} (x : M0 h m O) : MR 0 h m O := x.2.2.1
theorem M0.nt {h : AH} {m : Nat} {O : Oc} (x : M0 h m O) : NT h m O := x.2.2.2
/-- what a row's places are -/
abbrev rA : List Nat := [2, 3, 4, 5, 6, 7, 8, 9, 10, 11, 12, 13, 14, 15, 16, 17, 18, 19, 20, 21, 22, 23]
section
variable {m r : Nat} {h h' : AH} {A F : List Nat} {O : Oc}
theorem MR.md (x : MR r h m O) (u : Md m A F h h') (hA : ∀ k ∈ rA, k ∉ A) : MR r h' m O := by
  obtain ⟨x1, x2, x3, x4, x5, x6, x7, x8, x9, x10, x11, x12, x13, x14, x15, x16, x17, x18, x19, x20, x21, x22, x23, x24, x25, x26⟩ := x
  have g : ∀ k, k ∈ rA → Ai h' (m + k) = Ai h (m + k) := fun k hk => u.ai (hA k hk)
  have g2 : ∀ k, k ∈ rA → Al h' (m + k) = Al h (m + k) := fun k hk => u.al (hA k hk)
  refine ⟨?_, ?_, ?_, ?_, ?_, ?_, ?_, ?_, ?_, ?_, ?_, ?_, ?_, ?_, ?_, ?_, ?_, ?_, ?_, ?_, ?_, ?_, ?_, ?_, x25.md u (hA _ (by decide)) (hA _ (by decide)) (hA _ (by decide)), x26.md u (hA _ (by decide)) (hA _ (by decide)) (hA _ (by decide))⟩ <;> first | rw [g _ (by decide)]; assumption | rw [g2 _ (by decide)]; assumption
theorem NT.md (x : NT h m O) (u : Md m A F h h') (hA : ∀ k ∈ [36, 37, 38, 39], k ∉ A) : NT h' m O := by
  obtain ⟨x1, x2, x3, x4⟩ := x
  refine ⟨?_, ?_, ?_, ?_⟩ <;> (rw [u.ai (hA _ (by decide))]; assumption)
theorem M0.md (x : M0 h m O) (u : Md m A F h h') (hA : ∀ k ∈ rA ++ [36, 37, 38, 39], k ∉ A := by decide) : M0 h' m O := ⟨u.mo x.mo, x.wo, x.mr.md u (fun k hk => hA k (List.mem_append_left _ hk)), x.nt.md u (fun k hk => hA k (List.mem_append_right _ hk))⟩
end
/-! what is meant by calls -/
noncomputable def clF (v : Int32) : Int32 := if v < 0 then 0 else if 999 < v then 999 else v
noncomputable def vaF (O : Oc) (a : Nat) (day : Int32) : Int32 := match O.vl with
  | none => if day - ix (O.rp a) < 0 then 0 else ix (O.wo a)
  | some φ => clF (φ (fun k => if k = 5 then ix (O.wo a) else day - ix (O.rp a)))
noncomputable def saF (O : Oc) (p s : Nat) : Bool := decide (O.mu p = 0) || !hoF (O.sn s) (O.mu p)
noncomputable def liF (O : Oc) (snd : Nat → Nat) (c a : Nat) : Bool := if O.kd a = 1 then decide (c = snd a) else nrF O.nr (O.sn c) (O.sn (snd a))
noncomputable def awF (a b : Nat) : Nat := if a < b then b - a else a - b
noncomputable def hwF (O : Oc) (snd : Nat → Nat) (c lane loud : Nat) (a : Nat) : Bool := !decide (O.kd a = 3) && liF O snd c a && decide (awF (O.rw a) lane ≤ loud)
noncomputable def heF (O : Oc) (snd : Nat → Nat) (c lane loud : Nat) (a : Nat) : Bool := !decide (O.kd a = 3) && liF O snd c a && decide (loud < awF (O.rw a) lane ∧ awF (O.rw a) lane ≤ 2 * loud)
noncomputable def weF (O : Oc) : Nat := so (fun a => decide (O.kd a = 2)) O.nA
noncomputable def f1F (O : Oc) (hang loose w e : Nat) : Nat := hang &&& ((sd w (weF O) ||| (w &&& loose)) ||| (e &&& loose))
noncomputable def twA (O : Oc) (hang f : Nat) : Nat → Nat
  | 0 => f
  | n + 1 => if f.testBit n = true ∧ 0 < O.tw n then twA O hang f n ||| (hang &&& 2 ^ (O.tw n - 1)) else twA O hang f n
noncomputable def faF (O : Oc) (hang loose w e : Nat) : Nat := twA O hang (f1F O hang loose w e) O.nA
noncomputable def loF (O : Oc) (hang loose w e : Nat) : Nat := (loose ||| (hang &&& ((w &&& weF O) ||| e))) &&& sd hang (faF O hang loose w e)
/-- boughs: what hangs, what is loose, sounds, the day, what was had, whether one was picked -/
abbrev Bo : Type := Nat × Nat × (Nat → Nat) × Int32 × Int32 × Bool
noncomputable def Bo.hang (B : Bo) : Nat := B.1
noncomputable def Bo.loose (B : Bo) : Nat := B.2.1
noncomputable def Bo.snd (B : Bo) : Nat → Nat := B.2.2.1
noncomputable def Bo.day (B : Bo) : Int32 := B.2.2.2.1
noncomputable def Bo.had (B : Bo) : Int32 := B.2.2.2.2.1
noncomputable def Bo.pk (B : Bo) : Bool := B.2.2.2.2.2
def WB (O : Oc) (B : Bo) : Prop := (B.hang < 2 ^ O.nA) ∧ (∀ i, B.loose.testBit i = true → B.hang.testBit i = true) ∧ (∀ a, a < O.nA → B.snd a < O.nS)
theorem WB.hang {O : Oc} {B : Bo} (x : WB O B) : B.hang < 2 ^ O.nA := x.1
theorem WB.loose {O : Oc} {B : Bo} (x : WB O B) : ∀ i, B.loose.testBit i = true → B.hang.testBit i = true := x.2.1
theorem WB.snd {O : Oc} {B : Bo} (x : WB O B) : ∀ a, a < O.nA → B.snd a < O.nS := x.2.2
/-- the model's row of boughs, in the array k at i -/
def MB (h : AH) (k i n : Nat) (B : Bo) : Prop := (Ai h k i = ix B.hang) ∧ (Ai h k (i + 1) = ix B.loose) ∧ (Ai h k (i + 2) = B.day) ∧ (Ai h k (i + 3) = bz B.pk) ∧ (Ai h k (i + 4) = B.had) ∧ (∀ a, a < n → Ai h k (i + 5 + a) = ix (B.snd a))
theorem MB.hang {h : AH} {k i n : Nat} {B : Bo} (x : MB h k i n B) : Ai h k i = ix B.hang := x.1
theorem MB.loose {h : AH} {k i n : Nat} {B : Bo} (x : MB h k i n B) : Ai h k (i + 1) = ix B.loose := x.2.1
theorem MB.day {h : AH} {k i n : Nat} {B : Bo} (x : MB h k i n B) : Ai h k (i + 2) = B.day := x.2.2.1
theorem MB.pk {h : AH} {k i n : Nat} {B : Bo} (x : MB h k i n B) : Ai h k (i + 3) = bz B.pk := x.2.2.2.1
theorem MB.had {h : AH} {k i n : Nat} {B : Bo} (x : MB h k i n B) : Ai h k (i + 4) = B.had := x.2.2.2.2.1
theorem MB.snd {h : AH} {k i n : Nat} {B : Bo} (x : MB h k i n B) : ∀ a, a < n → Ai h k (i + 5 + a) = ix (B.snd a) := x.2.2.2.2.2
