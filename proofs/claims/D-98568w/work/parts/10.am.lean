/-! THE ABSTRACT MACHINE: a typed heap by maps, an interpreter over the real decoder, its judgement R -/
set_option maxRecDepth 100000
/-- the heap: kinds, fields (int, long, reference) by number and address, arrays (int, long, reference), lengths, base, cells, slots, constants -/
abbrev AH : Type := (Nat → Nat) × (Nat → Nat → Int32) × (Nat → Nat → Int64) × (Nat → Nat → Option Nat) × (Nat → Nat → Int32) × (Nat → Nat → Int64) × (Nat → Nat → Option Nat) × (Nat → Nat) × Nat × Nat × Nat × (Nat → Nat)
noncomputable def Fi (h : AH) : Nat → Nat → Int32 := h.2.1
noncomputable def Fl (h : AH) : Nat → Nat → Int64 := h.2.2.1
noncomputable def Fr (h : AH) : Nat → Nat → Option Nat := h.2.2.2.1
noncomputable def Ai (h : AH) : Nat → Nat → Int32 := h.2.2.2.2.1
noncomputable def Al (h : AH) : Nat → Nat → Int64 := h.2.2.2.2.2.1
noncomputable def Ar (h : AH) : Nat → Nat → Option Nat := h.2.2.2.2.2.2.1
noncomputable def An (h : AH) : Nat → Nat := h.2.2.2.2.2.2.2.1
noncomputable def Bs (h : AH) : Nat := h.2.2.2.2.2.2.2.2.1
noncomputable def Nc (h : AH) : Nat := h.2.2.2.2.2.2.2.2.2.1
noncomputable def Ns (h : AH) : Nat := h.2.2.2.2.2.2.2.2.2.2.1
noncomputable def Ev (h : AH) : Nat → Nat := h.2.2.2.2.2.2.2.2.2.2.2
noncomputable def Nx (h : AH) : Nat := Bs h + Nc h
noncomputable def Tg (h : AH) (a : Nat) : Nat := if a < Nx h then h.1 a else 0
/-- a map at one place of two numbers -/
noncomputable def up2 {α : Type} (f : Nat → Nat → α) (i a : Nat) (v : α) : Nat → Nat → α := fun j b => if j = i ∧ b = a then v else f j b
noncomputable def at2 {α : Type} (f : Nat → Nat → α) (a : Nat) (g : Nat → α) : Nat → Nat → α := fun b => if b = a then g else f b
noncomputable def sFi (h : AH) (f a : Nat) (v : Int32) : AH := (h.1, up2 (Fi h) f a v, h.2.2)
noncomputable def sFl (h : AH) (f a : Nat) (v : Int64) : AH := (h.1, h.2.1, up2 (Fl h) f a v, h.2.2.2)
noncomputable def sFr (h : AH) (f a : Nat) (v : Option Nat) : AH := (h.1, h.2.1, h.2.2.1, up2 (Fr h) f a v, h.2.2.2.2)
noncomputable def sAi (h : AH) (a : Nat) (g : Nat → Int32) : AH := (h.1, h.2.1, h.2.2.1, h.2.2.2.1, at2 (Ai h) a g, h.2.2.2.2.2)
noncomputable def sAl (h : AH) (a : Nat) (g : Nat → Int64) : AH := (h.1, h.2.1, h.2.2.1, h.2.2.2.1, h.2.2.2.2.1, at2 (Al h) a g, h.2.2.2.2.2.2)
noncomputable def sAr (h : AH) (a : Nat) (g : Nat → Option Nat) : AH := (h.1, h.2.1, h.2.2.1, h.2.2.2.1, h.2.2.2.2.1, h.2.2.2.2.2.1, at2 (Ar h) a g, h.2.2.2.2.2.2.2)
/-- a new cell of kind t, n slots, of length n if an array -/
noncomputable def nCe (h : AH) (t n : Nat) : AH :=
  (fun a => if a = Nx h then t else h.1 a, fun f a => if a = Nx h then 0 else Fi h f a, fun f a => if a = Nx h then 0 else Fl h f a, fun f a => if a = Nx h then none else Fr h f a,
   at2 (Ai h) (Nx h) (fun _ => 0), at2 (Al h) (Nx h) (fun _ => 0), at2 (Ar h) (Nx h) (fun _ => none), fun a => if a = Nx h then n else An h a, Bs h, Nc h + 1, Ns h + n, Ev h)
/-- room for a cell of n slots -/
abbrev Rm (h : AH) (n : Nat) : Prop := Nc h + 1 ≤ 601024 ∧ Ns h + n ≤ 7293034
abbrev Rs : Type := Option Value ⊕ Nat
abbrev Ou : Type := (Nat × List Value × List Value × AH) ⊕ (Rs × AH) ⊕ (Nat × List Value × List Value × AH)
/-- a local that isn't followed -/
noncomputable def un : Value := .float 0
noncomputable def nl (v : Value) : Bool := match v with
  | .long _ => false
  | .double _ => false
  | _ => true
noncomputable def isR (v : Value) : Bool := match v with
  | .ref _ => true
  | .null => true
  | _ => false
noncomputable def rOf (v : Value) : Option Nat := match v with
  | .ref a => some a
  | _ => none
noncomputable def pvl (ls : List Value) (i : Nat) : Bool := match i with
  | 0 => true
  | j + 1 => nl (ls.getD j un)
noncomputable def takeA : Nat → List Value → List Value → Option (List Value × List Value)
  | 0, st, acc => some (acc, st)
  | n + 1, v :: st, acc => takeA n st (v :: acc)
  | _ + 1, [], _ => none
/-- the locals at a method's entry -/
noncomputable def slA : List Value → List Value
  | [] => []
  | v :: vs => if nl v then v :: slA vs else v :: un :: slA vs
noncomputable def ent (k : Nat) (args : List Value) : List Value := slA args ++ List.replicate (mL k - (slA args).length) un
noncomputable def jp (pc : Nat) (off : Int) : Option Nat := match (pc : Int) + off with
  | .ofNat n => some n
  | .negSucc _ => none
noncomputable def cmpI (c : ClassFile.Cond) (x y : Int32) : Prop := match c with
  | .eq => x = y
  | .ne => x ≠ y
  | .lt => x < y
  | .ge => y ≤ x
  | .gt => y < x
  | .le => x ≤ y
noncomputable def cmpB (c : ClassFile.Cond) (x y : Int32) : Bool := match c with
  | .eq => decide (x = y)
  | .ne => decide (x ≠ y)
  | .lt => decide (x < y)
  | .ge => decide (y ≤ x)
  | .gt => decide (y < x)
  | .le => decide (x ≤ y)
/-- a value of kind t may stand in an array of element class e -/
noncomputable def aAs (e t : Nat) : Prop := match e with
  | 0 => (2 ≤ t ∧ t ≤ 57 ∧ t ≠ 18 ∧ t ≠ 23 ∧ t ≠ 31 ∧ (t ≤ 35 ∨ t = 42 ∨ t = 55)) ∨ t = 155 ∨ (1000 ≤ t ∧ t < 1900)
  | 1 => t = 45
  | 2 => t = 4
  | 3 => t = 35
  | _ => False
noncomputable def aAsB (e t : Nat) : Bool := match e with
  | 0 => decide ((2 ≤ t ∧ t ≤ 57 ∧ t ≠ 18 ∧ t ≠ 23 ∧ t ≠ 31 ∧ (t ≤ 35 ∨ t = 42 ∨ t = 55)) ∨ t = 155 ∨ (1000 ≤ t ∧ t < 1900))
  | 1 => decide (t = 45)
  | 2 => decide (t = 4)
  | 3 => decide (t = 35)
  | _ => false
noncomputable def rdF (h : AH) (f a : Nat) : Value := match fKd f with
  | 3 => .long (Fl h f a)
  | 4 => va_rf (Fr h f a)
  | _ => .int (Fi h f a)
abbrev rOk (r : Option FieldType) (v : Int32) : Bool := match r with
  | some .int => true
  | some .boolean => decide (v = 0 ∨ v = 1)
  | some .char => decide (narrow .char (.int v) = .int v)
  | some .byte => decide (narrow .byte (.int v) = .int v)
  | _ => false
abbrev nxt (pc : Nat) (ls st : List Value) (h : AH) : Option Ou := some (.inl (pc, ls, st, h))
abbrev fin (r : Rs) (h : AH) : Option Ou := some (.inr (.inl (r, h)))
noncomputable def ldI (pc len : Nat) (ls st : List Value) (h : AH) (i : Nat) : Option Ou := match ls[i]? with
  | some (.int x) => nxt (pc + len) ls (.int x :: st) h
  | _ => none
noncomputable def ldL (pc len : Nat) (ls st : List Value) (h : AH) (i : Nat) : Option Ou := match ls[i]? with
  | some (.long x) => nxt (pc + len) ls (.long x :: st) h
  | _ => none
noncomputable def ldA (pc len : Nat) (ls st : List Value) (h : AH) (i : Nat) : Option Ou := match ls[i]? with
  | some v => if isR v = true then nxt (pc + len) ls (v :: st) h else none
  | _ => none
noncomputable def stI (pc len : Nat) (ls st : List Value) (h : AH) (i : Nat) : Option Ou := match st with
  | .int x :: st => if i < ls.length ∧ pvl ls i = true then nxt (pc + len) (ls.set i (.int x)) st h else none
  | _ => none
noncomputable def stA (pc len : Nat) (ls st : List Value) (h : AH) (i : Nat) : Option Ou := match st with
  | v :: st => if isR v = true ∧ i < ls.length ∧ pvl ls i = true then nxt (pc + len) (ls.set i v) st h else none
  | _ => none
noncomputable def stL (pc len : Nat) (ls st : List Value) (h : AH) (i : Nat) : Option Ou := match st with
  | .long x :: st => if i + 1 < ls.length ∧ pvl ls i = true then nxt (pc + len) ((ls.set i (.long x)).set (i + 1) un) st h else none
  | _ => none
noncomputable def bi (pc : Nat) (ls st : List Value) (h : AH) (f : Int32 → Int32 → Int32) : Option Ou := match st with
  | .int y :: .int x :: st => nxt (pc + 1) ls (.int (f x y) :: st) h
  | _ => none
noncomputable def bl (pc : Nat) (ls st : List Value) (h : AH) (f : Int64 → Int64 → Int64) : Option Ou := match st with
  | .long y :: .long x :: st => nxt (pc + 1) ls (.long (f x y) :: st) h
  | _ => none
noncomputable def br (pc : Nat) (ls st : List Value) (h : AH) (off : Int) (c : Bool) : Option Ou := match jp pc off with
  | some t => nxt (if c then t else pc + 3) ls st h
  | none => none
noncomputable def cst (k pc len : Nat) (ls st : List Value) (h : AH) (i : Nat) : Option Ou := match kres (mO k) i with
  | some (.inl v) => nxt (pc + len) ls (.int v :: st) h
  | some (.inr n) => if len = 2 then nxt (pc + len) ls (.ref (Ev h n) :: st) h else none
  | none => none
noncomputable def getF (k pc : Nat) (ls st : List Value) (h : AH) (i : Nat) : Option Ou := match fres (mO k) i, st with
  | some f, .ref a :: st => if Tg h a ∈ fCl f ∧ fTh f = false then nxt (pc + 3) ls (rdF h f a :: st) h else none
  | _, _ => none
noncomputable def putF (k pc : Nat) (ls st : List Value) (h : AH) (i : Nat) : Option Ou := match fres (mO k) i with
  | none => none
  | some f => if ¬ (fTh f = false ∧ (fFn f = 0 ∨ (fFn f = mO k ∧ mI k = true))) then none else match fKd f, st with
    | 0, .int v :: .ref a :: st => if Tg h a ∈ fCl f ∧ Tg h a < 100 then nxt (pc + 3) ls st (sFi h f a v) else none
    | 1, .int v :: .ref a :: st => if (Tg h a ∈ fCl f ∧ Tg h a < 100) ∧ (v = 0 ∨ v = 1) then nxt (pc + 3) ls st (sFi h f a v) else none
    | 3, .long v :: .ref a :: st => if Tg h a ∈ fCl f ∧ Tg h a < 100 then nxt (pc + 3) ls st (sFl h f a v) else none
    | 4, v :: .ref a :: st => if (Tg h a ∈ fCl f ∧ Tg h a < 100 ∧ Tg h a ≠ 45) ∧ isR v = true then nxt (pc + 3) ls st (sFr h f a (rOf v)) else none
    | _, _ => none
abbrev inA (i : Int32) (n : Nat) : Prop := ¬ (i < 0 ∨ n ≤ i.toNatClampNeg)
abbrev tin (h : AH) (a lo hi : Nat) : Prop := lo ≤ Tg h a ∧ Tg h a < hi
noncomputable def newA (k pc len : Nat) (ls st : List Value) (h : AH) (kd : Nat) : Option Ou := match ares k pc, st with
  | some t, .int n :: st => if t / 1000 = kd ∧ t % 1000 < 900 ∧ ¬ n < 0 ∧ Nc h + 1 ≤ 601024 ∧ Ns h + n.toNatClampNeg ≤ 7293034 then nxt (pc + len) ls (.ref (Nx h) :: st) (nCe h t n.toNatClampNeg) else none
  | _, _ => none
noncomputable def calV (k : Nat) (st : List Value) (h : AH) (i : Nat) : Option Ou := match vres (mO k) i with
  | some (n, tb) => match takeA n st [] with
    | some (as, .ref a :: rest) => match lk tb (Tg h a) with
      | some y => if rest.length ≤ 8 then some (.inr (.inr (y, .ref a :: as, rest, h))) else none
      | none => none
    | _ => none
  | none => none
noncomputable def calS (k : Nat) (st : List Value) (h : AH) (i : Nat) : Option Ou := match cres (mO k) i with
  | some (n, y) => match takeA n st [] with
    | some (as, rest) => if rest.length ≤ 8 then some (.inr (.inr (y, as, rest, h))) else none
    | none => none
  | none => none
noncomputable def calI (k : Nat) (st : List Value) (h : AH) (i : Nat) : Option Ou := match ires (mO k) i with
  | some (n, y) => match takeA n st [] with
    | some (as, .ref a :: rest) => if rest.length ≤ 8 then some (.inr (.inr (y, .ref a :: as, rest, h))) else none
    | _ => none
  | none => none
/-- a static that is a reference or null, by its number -/
noncomputable def pdO (n : Nat) : Option Nat := match n with
  | 0 => none
  | n + 1 => some n
/-- one instruction -/
noncomputable def stp (k pc : Nat) (ls st : List Value) (h : AH) (ins : Instr) (len : Nat) : Option Ou := match ins with
  | .iconst i => nxt (pc + 1) ls (.int (Int32.ofInt i) :: st) h
  | .bipush i => nxt (pc + 2) ls (.int (Int8.ofInt i).toInt32 :: st) h
  | .sipush i => nxt (pc + 3) ls (.int (Int16.ofInt i).toInt32 :: st) h
  | .lconst i => nxt (pc + 1) ls (.long (Int64.ofNat i) :: st) h
  | .aconst_null => nxt (pc + 1) ls (.null :: st) h
  | .iload_n n => ldI pc 1 ls st h n
  | .iload n => if len = 2 then ldI pc 2 ls st h n else none
  | .lload_n n => ldL pc 1 ls st h n
  | .lload n => if len = 2 then ldL pc 2 ls st h n else none
  | .aload_n n => ldA pc 1 ls st h n
  | .aload n => if len = 2 then ldA pc 2 ls st h n else none
  | .istore_n n => stI pc 1 ls st h n
  | .istore n => if len = 2 then stI pc 2 ls st h n else none
  | .lstore_n n => stL pc 1 ls st h n
  | .lstore n => if len = 2 then stL pc 2 ls st h n else none
  | .astore_n n => stA pc 1 ls st h n
  | .astore n => if len = 2 then stA pc 2 ls st h n else none
  | .iinc i c => match ls[i]? with
    | some (.int x) => if len = 3 ∧ pvl ls i = true then nxt (pc + 3) (ls.set i (.int (x + Int32.ofInt c))) st h else none
    | _ => none
  | .iadd => bi pc ls st h (fun x y => x + y)
  | .isub => bi pc ls st h (fun x y => x - y)
  | .imul => bi pc ls st h (fun x y => x * y)
  | .iand => bi pc ls st h (fun x y => x &&& y)
  | .ior => bi pc ls st h (fun x y => x ||| y)
  | .ixor => bi pc ls st h (fun x y => x ^^^ y)
  | .ishl => bi pc ls st h (fun x y => x <<< (y &&& 31))
  | .ishr => bi pc ls st h (fun x y => x >>> (y &&& 31))
  | .iushr => bi pc ls st h (fun x y => (x.toUInt32 >>> (y.toUInt32 &&& Int32.toUInt32 31)).toInt32)
  | .idiv => match st with
    | .int y :: .int x :: st => if y = 0 then none else nxt (pc + 1) ls (.int (x / y) :: st) h
    | _ => none
  | .irem => match st with
    | .int y :: .int x :: st => if y = 0 then none else nxt (pc + 1) ls (.int (x - x / y * y) :: st) h
    | _ => none
  | .ineg => match st with
    | .int x :: st => nxt (pc + 1) ls (.int (-x) :: st) h
    | _ => none
  | .ladd => bl pc ls st h (fun x y => x + y)
  | .lsub => bl pc ls st h (fun x y => x - y)
  | .lmul => bl pc ls st h (fun x y => x * y)
  | .land => bl pc ls st h (fun x y => x &&& y)
  | .lor => bl pc ls st h (fun x y => x ||| y)
  | .ldiv => match st with
    | .long y :: .long x :: st => if y = 0 then none else nxt (pc + 1) ls (.long (x / y) :: st) h
    | _ => none
  | .lrem => match st with
    | .long y :: .long x :: st => if y = 0 then none else nxt (pc + 1) ls (.long (x - x / y * y) :: st) h
    | _ => none
  | .lshl => match st with
    | .int y :: .long x :: st => nxt (pc + 1) ls (.long (x <<< (y.toInt64 &&& 63)) :: st) h
    | _ => none
  | .lushr => match st with
    | .int y :: .long x :: st => nxt (pc + 1) ls (.long (x.toUInt64 >>> (y.toInt64.toUInt64 &&& Int64.toUInt64 63)).toInt64 :: st) h
    | _ => none
  | .lcmp => match st with
    | .long y :: .long x :: st => nxt (pc + 1) ls (.int (lg_cmp x y) :: st) h
    | _ => none
  | .i2l => match st with
    | .int x :: st => nxt (pc + 1) ls (.long x.toInt64 :: st) h
    | _ => none
  | .l2i => match st with
    | .long x :: st => nxt (pc + 1) ls (.int x.toInt32 :: st) h
    | _ => none
  | .i2c => match st with
    | .int x :: st => nxt (pc + 1) ls (.int (x.toUInt32 % 65536).toInt32 :: st) h
    | _ => none
  | .i2b => match st with
    | .int x :: st => nxt (pc + 1) ls (.int x.toInt8.toInt32 :: st) h
    | _ => none
  | .dup => match st with
    | v :: st => if nl v = true then nxt (pc + 1) ls (v :: v :: st) h else none
    | _ => none
  | .pop => match st with
    | v :: st => if nl v = true then nxt (pc + 1) ls st h else none
    | _ => none
  | .dup_x1 => match st with
    | v :: w :: st => if nl v = true ∧ nl w = true then nxt (pc + 1) ls (v :: w :: v :: st) h else none
    | _ => none
  | .dup2 => match st with
    | v :: w :: st => if nl v = true ∧ nl w = true then nxt (pc + 1) ls (v :: w :: v :: w :: st) h else none
    | _ => none
  | .ifCond c off => match st with
    | .int x :: st => if len = 3 then br pc ls st h off (cmpB c x 0) else none
    | _ => none
  | .if_icmp c off => match st with
    | .int y :: .int x :: st => if len = 3 then br pc ls st h off (cmpB c x y) else none
    | _ => none
  | .ifnull off => match st with
    | v :: st => if isR v = true then br pc ls st h off (decide (v = .null)) else none
    | _ => none
  | .ifnonnull off => match st with
    | v :: st => if isR v = true then br pc ls st h off (decide (v ≠ .null)) else none
    | _ => none
  | .if_acmp c off => match st with
    | w :: v :: st => if isR v = true ∧ isR w = true then br pc ls st h off (match c with | .eq => decide (v = w) | .ne => decide (v ≠ w)) else none
    | _ => none
  | .goto off => if len = 3 then br pc ls st h off true else none
  | .tableswitch dflt lo hi offs => match st with
    | .int x :: st => match (if x.toInt < lo ∨ hi < x.toInt then some dflt else offs[(x.toInt - lo).toNat]?) with
      | some off => match jp pc off with
        | some t => nxt t ls st h
        | none => none
      | none => none
    | _ => none
  | .ldc i => cst k pc 2 ls st h i
  | .ldc_w i => cst k pc 3 ls st h i
  | .ldc2_w i => match lres (mO k) i with
    | some v => nxt (pc + 3) ls (.long v :: st) h
    | none => none
  | .getstatic i => match sres (mO k) i with
    | some (.inl v) => nxt (pc + 3) ls (.int v :: st) h
    | some (.inr n) => if n = 53 then nxt (pc + 3) ls (va_rf (pdO (Ev h n)) :: st) h else nxt (pc + 3) ls (.ref (Ev h n) :: st) h
    | none => none
  | .getfield i => getF k pc ls st h i
  | .putfield i => putF k pc ls st h i
  | .iaload => match st with
    | .int i :: .ref a :: st => if tin h a 1000 2000 ∧ inA i (An h a) then nxt (pc + 1) ls (.int (Ai h a i.toNatClampNeg) :: st) h else none
    | _ => none
  | .baload => match st with
    | .int i :: .ref a :: st => if (tin h a 2000 3000 ∨ tin h a 4000 5000) ∧ inA i (An h a) then nxt (pc + 1) ls (.int (Ai h a i.toNatClampNeg) :: st) h else none
    | _ => none
  | .laload => match st with
    | .int i :: .ref a :: st => if tin h a 3000 4000 ∧ inA i (An h a) then nxt (pc + 1) ls (.long (Al h a i.toNatClampNeg) :: st) h else none
    | _ => none
  | .aaload => match st with
    | .int i :: .ref a :: st => if tin h a 5000 6000 ∧ inA i (An h a) then nxt (pc + 1) ls (va_rf (Ar h a i.toNatClampNeg) :: st) h else none
    | _ => none
  | .iastore => match st with
    | .int x :: .int i :: .ref a :: st => if tin h a 1000 1900 ∧ inA i (An h a) then nxt (pc + 1) ls st (sAi h a (upd (Ai h a) i.toNatClampNeg x)) else none
    | _ => none
  | .bastore => match st with
    | .int x :: .int i :: .ref a :: st => if tin h a 2000 2900 ∧ inA i (An h a) ∧ (x = 0 ∨ x = 1) then nxt (pc + 1) ls st (sAi h a (upd (Ai h a) i.toNatClampNeg x)) else none
    | _ => none
  | .lastore => match st with
    | .long x :: .int i :: .ref a :: st => if tin h a 3000 3900 ∧ inA i (An h a) then nxt (pc + 1) ls st (sAl h a (vp_updL (Al h a) i.toNatClampNeg x)) else none
    | _ => none
  | .aastore => match st with
    | v :: .int i :: .ref a :: st => match elc (Tg h a) with
      | some e => if (tin h a 5000 5900 ∧ inA i (An h a)) ∧ (v = .null ∨ (isR v = true ∧ aAsB e (Tg h ((rOf v).getD 0)) = true)) then nxt (pc + 1) ls st (sAr h a (va_up (Ar h a) i.toNatClampNeg (rOf v))) else none
      | none => none
    | _ => none
  | .arraylength => match st with
    | .ref a :: st => if tin h a 1000 6000 then nxt (pc + 1) ls (.int (Int32.ofNat (An h a)) :: st) h else none
    | _ => none
  | .newarray at_ => match at_ with
    | .int => newA k pc 2 ls st h 1
    | .boolean => newA k pc 2 ls st h 2
    | .long => newA k pc 2 ls st h 3
    | _ => none
  | .anewarray i => match ares k pc with
    | some t => if eres (mO k) i = elc t then newA k pc 3 ls st h 5 else none
    | none => none
  | .new i => match nres (mO k) i with
    | some (c, n) => if Nc h + 1 ≤ 601024 ∧ Ns h + n ≤ 7293034 then nxt (pc + 3) ls (.ref (Nx h) :: st) (nCe h c n) else none
    | none => none
  | .checkcast i => match st with
    | .null :: st => nxt (pc + 3) ls (.null :: st) h
    | .ref a :: st => match xres (mO k) i with
      | some l => if Tg h a ∈ l then nxt (pc + 3) ls (.ref a :: st) h else none
      | none => none
    | _ => none
  | .instanceof i => match st with
    | .ref a :: st => match tres (mO k) i with
      | some l => match lk l (Tg h a) with
        | some b => nxt (pc + 3) ls (.int (if b then 1 else 0) :: st) h
        | none => none
      | none => none
    | _ => none
  | .ireturn => match st with
    | [.int v] => if rOk (mR k) v = true then fin (.inl (some (.int v))) h else none
    | _ => none
  | .lreturn => match st with
    | [.long v] => if mR k = some .long then fin (.inl (some (.long v))) h else none
    | _ => none
  | .areturn => match st with
    | [v] => if isR v = true then match mR k with
      | some (.object _) => fin (.inl (some v)) h
      | some (.array _) => fin (.inl (some v)) h
      | _ => none else none
    | _ => none
  | .return_ => match st with
    | [] => if mR k = none then fin (.inl none) h else none
    | _ => none
  | .athrow => match st with
    | .ref a :: _ => if mH k = [] ∧ (Tg h a = 11 ∨ Tg h a = 57) then fin (.inr a) h else none
    | _ => none
  | .invokevirtual i => calV k st h i
  | .invokestatic i => calS k st h i
  | .invokespecial i => calI k st h i
  | _ => none
noncomputable def lenOk (ins : Instr) (len : Nat) : Bool := match ins with
  | .bipush _ => Nat.beq len 2
  | .iload _ => Nat.beq len 2
  | .lload _ => Nat.beq len 2
  | .aload _ => Nat.beq len 2
  | .istore _ => Nat.beq len 2
  | .lstore _ => Nat.beq len 2
  | .astore _ => Nat.beq len 2
  | .ldc _ => Nat.beq len 2
  | .newarray _ => Nat.beq len 2
  | .sipush _ => Nat.beq len 3
  | .iinc _ _ => Nat.beq len 3
  | .ifCond _ _ => Nat.beq len 3
  | .if_icmp _ _ => Nat.beq len 3
  | .if_acmp _ _ => Nat.beq len 3
  | .ifnull _ => Nat.beq len 3
  | .ifnonnull _ => Nat.beq len 3
  | .goto _ => Nat.beq len 3
  | .ldc_w _ => Nat.beq len 3
  | .ldc2_w _ => Nat.beq len 3
  | .getstatic _ => Nat.beq len 3
  | .getfield _ => Nat.beq len 3
  | .putfield _ => Nat.beq len 3
  | .anewarray _ => Nat.beq len 3
  | .new _ => Nat.beq len 3
  | .checkcast _ => Nat.beq len 3
  | .instanceof _ => Nat.beq len 3
  | .invokevirtual _ => Nat.beq len 3
  | .invokestatic _ => Nat.beq len 3
  | .invokespecial _ => Nat.beq len 3
  | .tableswitch _ _ _ _ => true
  | _ => Nat.beq len 1
/-- natives and Throwable's constructor -/
noncomputable def prim (y : Nat) (args : List Value) (h : AH) : Option (Rs × AH) := if y = 900 then match args with
    | [.ref a, .int sp, .ref b, .int dp, .int n] => if ¬ sp < 0 ∧ ¬ dp < 0 ∧ ¬ n < 0 ∧ sp.toNatClampNeg + n.toNatClampNeg ≤ An h a ∧ dp.toNatClampNeg + n.toNatClampNeg ≤ An h b then
        (if tin h a 1000 1900 ∧ tin h b 1000 1900 then some (.inl none, sAi h b (va_cpy (Ai h a) (Ai h b) sp.toNatClampNeg dp.toNatClampNeg n.toNatClampNeg))
        else if elc (Tg h a) = some 0 ∧ elc (Tg h b) = some 0 then some (.inl none, sAr h b (va_cpy (Ar h a) (Ar h b) sp.toNatClampNeg dp.toNatClampNeg n.toNatClampNeg)) else none) else none
    | _ => none
  else if y = 901 then match args with
    | [.ref _] => some (.inl (some (.ref (Ev h 60))), h)
    | _ => none
  else if y = 902 then match args with
    | [.ref a] => if (Tg h a = 11 ∨ Tg h a = 57) ∧ Fr h fBk a = none then some (.inl none, h) else none
    | _ => none
  else if y = 903 then match args with
    | [.ref _] => some (.inl none, h)
    | _ => none
  else none
/-- what becomes of a call's outcome: go on, leave, stick -/
noncomputable def hnd (k pc t : Nat) : Option Nat := match (mH k).find? (fun e => decide (e.1 ≤ pc) && decide (pc < e.2.1)) with
  | some e => if e.2.2.2 = t then some e.2.2.1 else none
  | none => none
noncomputable def exec : Nat → Nat → Nat → Nat → List Value → List Value → AH → Option (Rs × AH)
  | 0, _, _, _, _, _, _ => none
  | n + 1, d, k, pc, ls, st, h => match decode (mC k) pc with
    | .error _ => none
    | .ok (ins, len) => match (if lenOk ins len = true then stp k pc ls st h ins len else none) with
      | none => none
      | some (.inl (pc', ls', st', h')) => exec n d k pc' ls' st' h'
      | some (.inr (.inl r)) => some r
      | some (.inr (.inr (y, as, rest, h'))) => match (if 900 ≤ y then prim y as h' else if d = 0 ∨ mL y < (slA as).length then none else exec n (d - 1) y 0 (ent y as) [] h') with
        | none => none
        | some (.inl v, h1) => exec n d k (pc + 3) ls (v.toList ++ rest) h1
        | some (.inr a, h1) => if mH k = [] then some (.inr a, h1) else match hnd k pc (Tg h1 a) with
          | some q => exec n d k q ls [.ref a] h1
          | none => none
