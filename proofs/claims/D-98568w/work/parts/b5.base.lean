/-! HELPERS: loops, frames chained, row 0 read -/
set_option maxRecDepth 100000
theorem lp {P : Nat → Prop} {N : Nat} (b : P N) (s : ∀ j, j < N → P (j + 1) → P j) : P 0 := by
  have key : ∀ n j, j + n = N → P j := by
    intro n
    induction n with
    | zero => intro j hj; have e : j = N := by omega
              subst e; exact b
    | succ n ih => intro j hj; exact s j (by omega) (ih (j + 1) (by omega))
  exact key N 0 (by omega)
section
variable {h h1 h2 : AH} {m k f a d j n : Nat} {O : Oc} {A F B G : List Nat} {g : Nat → Int32} {g2 : Nat → Int64} {v : Int32} {w : Int64}
theorem Md.sAi (u : Md m A F h h1) (hk : k ∈ A) : Md m A F h (sAi h1 (m + k) g) := u.trans (md_sAi hk) (fun _ q => q) (fun _ q => q)
theorem Md.sAl (u : Md m A F h h1) (hk : k ∈ A) : Md m A F h (sAl h1 (m + k) g2) := u.trans (md_sAl hk) (fun _ q => q) (fun _ q => q)
theorem Md.sFi (u : Md m A F h h1) (hf : f ∈ F) : Md m A F h (sFi h1 f m v) := u.trans (md_sFi hf) (fun _ q => q) (fun _ q => q)
theorem Md.sFl (u : Md m A F h h1) (hf : f ∈ F) : Md m A F h (sFl h1 f m w) := u.trans (md_sFl hf) (fun _ q => q) (fun _ q => q)
theorem Md.t (u : Md m A F h h1) (t : Md m B G h1 h2) (hA : ∀ k ∈ B, k ∈ A := by decide) (hF : ∀ k ∈ G, k ∈ F := by decide) : Md m A F h h2 := u.trans t hA hF
theorem M0.aA (x : M0 h m O) : Ai h (m + 2) 0 = ix O.nA := x.mr.nA
theorem M0.aS (x : M0 h m O) : Ai h (m + 2) 1 = ix O.nS := x.mr.nS
theorem M0.aP (x : M0 h m O) : Ai h (m + 2) 2 = ix O.nP := x.mr.nP
theorem M0.aT (x : M0 h m O) : Ai h (m + 2) 3 = ix O.nT := x.mr.nT
theorem M0.aG (x : M0 h m O) : Ai h (m + 2) 4 = ix O.nG := x.mr.nG
theorem M0.aB (x : M0 h m O) : Ai h (m + 2) 5 = ix O.nB := x.mr.nB
theorem M0.ts (x : M0 h m O) (hk : k < O.nA) : Ai h (m + 5) k = ix (O.ts k) := by have := x.mr.ts k hk; rwa [Nat.mul_zero, Nat.zero_add] at this
theorem M0.kd (x : M0 h m O) (hk : k < O.nA) : Ai h (m + 6) k = ix (O.kd k) := by have := x.mr.kd k hk; rwa [Nat.mul_zero, Nat.zero_add] at this
theorem M0.rp (x : M0 h m O) (hk : k < O.nA) : Ai h (m + 9) k = ix (O.rp k) := by have := x.mr.rp k hk; rwa [Nat.mul_zero, Nat.zero_add] at this
theorem M0.wt (x : M0 h m O) (hk : k < O.nA) : Ai h (m + 10) k = ix (O.wo k) := by have := x.mr.wo k hk; rwa [Nat.mul_zero, Nat.zero_add] at this
theorem M0.ln (x : M0 h m O) (hk : k < O.nP) : Ai h (m + 12) k = ix (O.ln k) := by have := x.mr.ln k hk; rwa [Nat.mul_zero, Nat.zero_add] at this
theorem M0.ld (x : M0 h m O) (hk : k < O.nP) : Ai h (m + 13) k = ix (O.ld k) := by have := x.mr.ld k hk; rwa [Nat.mul_zero, Nat.zero_add] at this
theorem M0.st (x : M0 h m O) (hk : k < O.nT) : Ai h (m + 15) k = ix (O.st k) := by have := x.mr.st k hk; rwa [Nat.mul_zero, Nat.zero_add] at this
theorem M0.sb (x : M0 h m O) (hk : k < O.nT) : Ai h (m + 16) k = ix (O.sb k) := by have := x.mr.sb k hk; rwa [Nat.mul_zero, Nat.zero_add] at this
theorem M0.pg (x : M0 h m O) (hk : k < O.nG) (hj : j < O.pm k) : Ai h (m + 17) (10 * k + j) = ix (O.pg k j) := by have := x.mr.pg k hk j hj; rwa [Nat.mul_zero, Nat.zero_add] at this
theorem M0.pm (x : M0 h m O) (hk : k < O.nG) : Ai h (m + 18) k = ix (O.pm k) := by have := x.mr.pm k hk; rwa [Nat.mul_zero, Nat.zero_add] at this
theorem M0.ba (x : M0 h m O) (hk : k < O.nB) : Ai h (m + 19) k = ix (O.ba k) := by have := x.mr.ba k hk; rwa [Nat.mul_zero, Nat.zero_add] at this
theorem M0.bb (x : M0 h m O) (hk : k < O.nB) : Ai h (m + 20) k = ix (O.bb k) := by have := x.mr.bb k hk; rwa [Nat.mul_zero, Nat.zero_add] at this
theorem MB.h0 {B : Bo} (y : MB h k 0 n B) : Ai h k 0 = ix B.hang := y.hang
theorem MB.l0 {B : Bo} (y : MB h k 0 n B) : Ai h k 1 = ix B.loose := y.loose
theorem MB.d0 {B : Bo} (y : MB h k 0 n B) : Ai h k 2 = B.day := y.day
theorem MB.p0 {B : Bo} (y : MB h k 0 n B) : Ai h k 3 = bz B.pk := y.pk
theorem MB.a0 {B : Bo} (y : MB h k 0 n B) : Ai h k 4 = B.had := y.had
theorem MB.s0 {B : Bo} (y : MB h k 0 n B) : ∀ a, a < n → Ai h k (5 + a) = ix (B.snd a) := y.snd
theorem ix_rem2 {a d : Nat} : ix a - ix (a / d * d) = ix (a % d) := by
  rw [ix_sub (Nat.div_mul_le_self _ _)]
  congr 1
  have := Nat.div_add_mod a d
  rw [Nat.mul_comm] at this
  omega
theorem ix_dv {a d : Nat} (ha : a < 2147483648) (hd : d < 2147483648) (h0 : 0 < d) : ix a / ix d = ix (a / d) := pk_div (a := a) (d := d) ha h0 hd
theorem ix_dvl {a n : Nat} (ha : a < 2147483648) (hd : n < 2147483648) (h0 : 0 < n) : ix a / no_index (OfNat.ofNat n) = ix (a / n) := pk_div (a := a) (d := n) ha h0 hd
theorem ltT {a n : Nat} (h1 : a < n) (h2 : n < 2147483648) : (ix a < no_index (OfNat.ofNat n)) = True := by rw [ix_ltl (by omega) h2]; exact eq_true h1
theorem take_s {l : List Nat} {i : Nat} (hi : i < l.length) : l.take (i + 1) = l.take i ++ [l.getD i 0] := by
  rw [List.take_add_one]
  simp [List.getD, List.getElem?_eq_getElem hi]
theorem i32_0 (x : Int32) : x + 0 = x := Int32.add_zero x
theorem ix_bzn {a : Nat} {b : Bool} : ix a + bz b = ix (a + b.toNat) := by cases b <;> simp [bz, ix_0, ix_1, ix_add]
end
