/-! EQUATIONS BY OPCODE -/
set_option maxRecDepth 100000
section
variable {d k pc pc' t o : Nat} {ls ls' st rest as : List Value} {h h' : AH} {Q : Rs → AH → Prop} {cc : ByteArray} {x y v : Int32} {X Y : Int64} {u w : Value} {a f : Nat} {off : Int}
theorem r_iconst (hc : mC k = cc) {n : Int} (hv : Int32.ofInt n = v) (hd : decode cc pc = .ok (.iconst n, 1)) : Ru d k pc ls st h Q = Ru d k (pc + 1) ls (.int v :: st) h Q := by subst hv; exact ru_nx hc hd rfl
theorem r_bipush (hc : mC k = cc) {n : Int} (hv : (Int8.ofInt n).toInt32 = v) (hd : decode cc pc = .ok (.bipush n, 2)) : Ru d k pc ls st h Q = Ru d k (pc + 2) ls (.int v :: st) h Q := by subst hv; exact ru_nx hc hd rfl
theorem r_sipush (hc : mC k = cc) {n : Int} (hv : (Int16.ofInt n).toInt32 = v) (hd : decode cc pc = .ok (.sipush n, 3)) : Ru d k pc ls st h Q = Ru d k (pc + 3) ls (.int v :: st) h Q := by subst hv; exact ru_nx hc hd rfl
theorem r_lconst (hc : mC k = cc) {n : Fin 2} (hv : Int64.ofNat n = X) (hd : decode cc pc = .ok (.lconst n, 1)) : Ru d k pc ls st h Q = Ru d k (pc + 1) ls (.long X :: st) h Q := by subst hv; exact ru_nx hc hd rfl
theorem r_null (hc : mC k = cc) (hd : decode cc pc = .ok (.aconst_null, 1)) : Ru d k pc ls st h Q = Ru d k (pc + 1) ls (.null :: st) h Q := ru_nx hc hd rfl
theorem r_iload_n (hc : mC k = cc) {i : Fin 4} (hi : ls[(i : Nat)]? = some (.int x)) (hd : decode cc pc = .ok (.iload_n i, 1)) : Ru d k pc ls st h Q = Ru d k (pc + 1) ls (.int x :: st) h Q := ru_nx hc hd (by show ldI _ _ _ _ _ _ = _; rw [ldI, hi])
theorem r_iload (hc : mC k = cc) {i : Nat} (hi : ls[i]? = some (.int x)) (hd : decode cc pc = .ok (.iload i, 2)) : Ru d k pc ls st h Q = Ru d k (pc + 2) ls (.int x :: st) h Q := ru_nx hc hd (by show ldI _ _ _ _ _ _ = _; rw [ldI, hi])
theorem r_lload_n (hc : mC k = cc) {i : Fin 4} (hi : ls[(i : Nat)]? = some (.long X)) (hd : decode cc pc = .ok (.lload_n i, 1)) : Ru d k pc ls st h Q = Ru d k (pc + 1) ls (.long X :: st) h Q := ru_nx hc hd (by show ldL _ _ _ _ _ _ = _; rw [ldL, hi])
theorem r_lload (hc : mC k = cc) {i : Nat} (hi : ls[i]? = some (.long X)) (hd : decode cc pc = .ok (.lload i, 2)) : Ru d k pc ls st h Q = Ru d k (pc + 2) ls (.long X :: st) h Q := ru_nx hc hd (by show ldL _ _ _ _ _ _ = _; rw [ldL, hi])
theorem r_aload_n (hc : mC k = cc) {i : Fin 4} (hi : ls[(i : Nat)]? = some u) (hd : decode cc pc = .ok (.aload_n i, 1)) : Ru d k pc ls st h Q = (isR u = true ∧ Ru d k (pc + 1) ls (u :: st) h Q) := ru_if hc hd (by show ldA _ _ _ _ _ _ = _; rw [ldA, hi])
theorem r_aload (hc : mC k = cc) {i : Nat} (hi : ls[i]? = some u) (hd : decode cc pc = .ok (.aload i, 2)) : Ru d k pc ls st h Q = (isR u = true ∧ Ru d k (pc + 2) ls (u :: st) h Q) := ru_if hc hd (by show ldA _ _ _ _ _ _ = _; rw [ldA, hi])
theorem r_istore_n (hc : mC k = cc) {i : Fin 4} (hi : (i : Nat) < ls.length) (hp : pvl ls (i : Nat) = nl w) (hs : ls.set (i : Nat) (.int x) = ls') (hd : decode cc pc = .ok (.istore_n i, 1)) : Ru d k pc ls (.int x :: st) h Q = (nl w = true ∧ Ru d k (pc + 1) ls' st h Q) := by subst hs; exact ru_if' hc hd rfl ⟨fun q => hp ▸ q.2, fun q => ⟨hi, hp.trans q⟩⟩
theorem r_lstore_n (hc : mC k = cc) {i : Fin 4} (hi : (i : Nat) + 1 < ls.length) (hp : pvl ls (i : Nat) = nl w) (hs : (ls.set (i : Nat) (.long X)).set ((i : Nat) + 1) un = ls') (hd : decode cc pc = .ok (.lstore_n i, 1)) : Ru d k pc ls (.long X :: st) h Q = (nl w = true ∧ Ru d k (pc + 1) ls' st h Q) := by subst hs; exact ru_if' hc hd rfl ⟨fun q => hp ▸ q.2, fun q => ⟨hi, hp.trans q⟩⟩
theorem r_astore_n (hc : mC k = cc) {i : Fin 4} (hi : (i : Nat) < ls.length) (hp : pvl ls (i : Nat) = nl w) (hs : ls.set (i : Nat) u = ls') (hd : decode cc pc = .ok (.astore_n i, 1)) : Ru d k pc ls (u :: st) h Q = (isR u = true ∧ nl w = true ∧ Ru d k (pc + 1) ls' st h Q) := by subst hs; rw [ru_if' hc hd rfl (c' := isR u = true ∧ nl w = true) ⟨fun q => ⟨q.1, hp ▸ q.2.2⟩, fun q => ⟨q.1, hi, hp.trans q.2⟩⟩, and_assoc]
theorem r_istore (hc : mC k = cc) {i : Nat} (hi : i < ls.length) (hp : pvl ls i = nl w) (hs : ls.set i (.int x) = ls') (hd : decode cc pc = .ok (.istore i, 2)) : Ru d k pc ls (.int x :: st) h Q = (nl w = true ∧ Ru d k (pc + 2) ls' st h Q) := by subst hs; exact ru_if' hc hd rfl ⟨fun q => hp ▸ q.2, fun q => ⟨hi, hp.trans q⟩⟩
theorem r_lstore (hc : mC k = cc) {i : Nat} (hi : i + 1 < ls.length) (hp : pvl ls i = nl w) (hs : (ls.set i (.long X)).set (i + 1) un = ls') (hd : decode cc pc = .ok (.lstore i, 2)) : Ru d k pc ls (.long X :: st) h Q = (nl w = true ∧ Ru d k (pc + 2) ls' st h Q) := by subst hs; exact ru_if' hc hd rfl ⟨fun q => hp ▸ q.2, fun q => ⟨hi, hp.trans q⟩⟩
theorem r_astore (hc : mC k = cc) {i : Nat} (hi : i < ls.length) (hp : pvl ls i = nl w) (hs : ls.set i u = ls') (hd : decode cc pc = .ok (.astore i, 2)) : Ru d k pc ls (u :: st) h Q = (isR u = true ∧ nl w = true ∧ Ru d k (pc + 2) ls' st h Q) := by subst hs; rw [ru_if' hc hd rfl (c' := isR u = true ∧ nl w = true) ⟨fun q => ⟨q.1, hp ▸ q.2.2⟩, fun q => ⟨q.1, hi, hp.trans q.2⟩⟩, and_assoc]
theorem r_iinc (hc : mC k = cc) {i : Nat} {n : Int} (hi : ls[i]? = some (.int x)) (hp : pvl ls i = nl w) (hv : Int32.ofInt n = v) (hs : ls.set i (.int (x + v)) = ls') (hd : decode cc pc = .ok (.iinc i n, 3)) : Ru d k pc ls st h Q = (nl w = true ∧ Ru d k (pc + 3) ls' st h Q) := by subst hv; subst hs; exact ru_if' hc hd (show stp k pc ls st h (.iinc i n) 3 = if 3 = 3 ∧ pvl ls i = true then _ else none by rw [stp]; simp only [hi]) ⟨fun q => hp ▸ q.2, fun q => ⟨rfl, hp.trans q⟩⟩
theorem r_iadd (hc : mC k = cc) (hd : decode cc pc = .ok (.iadd, 1)) : Ru d k pc ls (.int y :: .int x :: st) h Q = Ru d k (pc + 1) ls (.int (x + y) :: st) h Q := ru_nx hc hd rfl
theorem r_isub (hc : mC k = cc) (hd : decode cc pc = .ok (.isub, 1)) : Ru d k pc ls (.int y :: .int x :: st) h Q = Ru d k (pc + 1) ls (.int (x - y) :: st) h Q := ru_nx hc hd rfl
theorem r_imul (hc : mC k = cc) (hd : decode cc pc = .ok (.imul, 1)) : Ru d k pc ls (.int y :: .int x :: st) h Q = Ru d k (pc + 1) ls (.int (x * y) :: st) h Q := ru_nx hc hd rfl
theorem r_iand (hc : mC k = cc) (hd : decode cc pc = .ok (.iand, 1)) : Ru d k pc ls (.int y :: .int x :: st) h Q = Ru d k (pc + 1) ls (.int (x &&& y) :: st) h Q := ru_nx hc hd rfl
theorem r_ior (hc : mC k = cc) (hd : decode cc pc = .ok (.ior, 1)) : Ru d k pc ls (.int y :: .int x :: st) h Q = Ru d k (pc + 1) ls (.int (x ||| y) :: st) h Q := ru_nx hc hd rfl
theorem r_ixor (hc : mC k = cc) (hd : decode cc pc = .ok (.ixor, 1)) : Ru d k pc ls (.int y :: .int x :: st) h Q = Ru d k (pc + 1) ls (.int (x ^^^ y) :: st) h Q := ru_nx hc hd rfl
theorem r_ishl (hc : mC k = cc) (hd : decode cc pc = .ok (.ishl, 1)) : Ru d k pc ls (.int y :: .int x :: st) h Q = Ru d k (pc + 1) ls (.int (x <<< (y &&& 31)) :: st) h Q := ru_nx hc hd rfl
theorem r_ishr (hc : mC k = cc) (hd : decode cc pc = .ok (.ishr, 1)) : Ru d k pc ls (.int y :: .int x :: st) h Q = Ru d k (pc + 1) ls (.int (x >>> (y &&& 31)) :: st) h Q := ru_nx hc hd rfl
theorem r_iushr (hc : mC k = cc) (hd : decode cc pc = .ok (.iushr, 1)) : Ru d k pc ls (.int y :: .int x :: st) h Q = Ru d k (pc + 1) ls (.int ((x.toUInt32 >>> (y.toUInt32 &&& Int32.toUInt32 31)).toInt32) :: st) h Q := ru_nx hc hd rfl
theorem r_idiv (hc : mC k = cc) (hy : ¬ y = 0) (hd : decode cc pc = .ok (.idiv, 1)) : Ru d k pc ls (.int y :: .int x :: st) h Q = Ru d k (pc + 1) ls (.int (x / y) :: st) h Q := ru_nx hc hd (by rw [stp]; simp only [hy, if_false])
theorem r_irem (hc : mC k = cc) (hy : ¬ y = 0) (hd : decode cc pc = .ok (.irem, 1)) : Ru d k pc ls (.int y :: .int x :: st) h Q = Ru d k (pc + 1) ls (.int (x - x / y * y) :: st) h Q := ru_nx hc hd (by rw [stp]; simp only [hy, if_false])
theorem r_ineg (hc : mC k = cc) (hd : decode cc pc = .ok (.ineg, 1)) : Ru d k pc ls (.int x :: st) h Q = Ru d k (pc + 1) ls (.int (-x) :: st) h Q := ru_nx hc hd rfl
theorem r_ladd (hc : mC k = cc) (hd : decode cc pc = .ok (.ladd, 1)) : Ru d k pc ls (.long Y :: .long X :: st) h Q = Ru d k (pc + 1) ls (.long (X + Y) :: st) h Q := ru_nx hc hd rfl
theorem r_lsub (hc : mC k = cc) (hd : decode cc pc = .ok (.lsub, 1)) : Ru d k pc ls (.long Y :: .long X :: st) h Q = Ru d k (pc + 1) ls (.long (X - Y) :: st) h Q := ru_nx hc hd rfl
theorem r_lmul (hc : mC k = cc) (hd : decode cc pc = .ok (.lmul, 1)) : Ru d k pc ls (.long Y :: .long X :: st) h Q = Ru d k (pc + 1) ls (.long (X * Y) :: st) h Q := ru_nx hc hd rfl
theorem r_land (hc : mC k = cc) (hd : decode cc pc = .ok (.land, 1)) : Ru d k pc ls (.long Y :: .long X :: st) h Q = Ru d k (pc + 1) ls (.long (X &&& Y) :: st) h Q := ru_nx hc hd rfl
theorem r_lor (hc : mC k = cc) (hd : decode cc pc = .ok (.lor, 1)) : Ru d k pc ls (.long Y :: .long X :: st) h Q = Ru d k (pc + 1) ls (.long (X ||| Y) :: st) h Q := ru_nx hc hd rfl
theorem r_ldiv (hc : mC k = cc) (hy : ¬ Y = 0) (hd : decode cc pc = .ok (.ldiv, 1)) : Ru d k pc ls (.long Y :: .long X :: st) h Q = Ru d k (pc + 1) ls (.long (X / Y) :: st) h Q := ru_nx hc hd (by rw [stp]; simp only [hy, if_false])
theorem r_lrem (hc : mC k = cc) (hy : ¬ Y = 0) (hd : decode cc pc = .ok (.lrem, 1)) : Ru d k pc ls (.long Y :: .long X :: st) h Q = Ru d k (pc + 1) ls (.long (X - X / Y * Y) :: st) h Q := ru_nx hc hd (by rw [stp]; simp only [hy, if_false])
theorem r_lshl (hc : mC k = cc) (hd : decode cc pc = .ok (.lshl, 1)) : Ru d k pc ls (.int y :: .long X :: st) h Q = Ru d k (pc + 1) ls (.long (X <<< (y.toInt64 &&& 63)) :: st) h Q := ru_nx hc hd rfl
theorem r_lushr (hc : mC k = cc) (hd : decode cc pc = .ok (.lushr, 1)) : Ru d k pc ls (.int y :: .long X :: st) h Q = Ru d k (pc + 1) ls (.long (X.toUInt64 >>> (y.toInt64.toUInt64 &&& Int64.toUInt64 63)).toInt64 :: st) h Q := ru_nx hc hd rfl
theorem r_lcmp (hc : mC k = cc) (hd : decode cc pc = .ok (.lcmp, 1)) : Ru d k pc ls (.long Y :: .long X :: st) h Q = Ru d k (pc + 1) ls (.int (lg_cmp X Y) :: st) h Q := ru_nx hc hd rfl
theorem r_i2l (hc : mC k = cc) (hd : decode cc pc = .ok (.i2l, 1)) : Ru d k pc ls (.int x :: st) h Q = Ru d k (pc + 1) ls (.long x.toInt64 :: st) h Q := ru_nx hc hd rfl
theorem r_l2i (hc : mC k = cc) (hd : decode cc pc = .ok (.l2i, 1)) : Ru d k pc ls (.long X :: st) h Q = Ru d k (pc + 1) ls (.int X.toInt32 :: st) h Q := ru_nx hc hd rfl
theorem r_i2c (hc : mC k = cc) (hd : decode cc pc = .ok (.i2c, 1)) : Ru d k pc ls (.int x :: st) h Q = Ru d k (pc + 1) ls (.int (x.toUInt32 % 65536).toInt32 :: st) h Q := ru_nx hc hd rfl
theorem r_i2b (hc : mC k = cc) (hd : decode cc pc = .ok (.i2b, 1)) : Ru d k pc ls (.int x :: st) h Q = Ru d k (pc + 1) ls (.int x.toInt8.toInt32 :: st) h Q := ru_nx hc hd rfl
theorem r_dup (hc : mC k = cc) (hd : decode cc pc = .ok (.dup, 1)) : Ru d k pc ls (u :: st) h Q = (nl u = true ∧ Ru d k (pc + 1) ls (u :: u :: st) h Q) := ru_if hc hd rfl
theorem r_pop (hc : mC k = cc) (hd : decode cc pc = .ok (.pop, 1)) : Ru d k pc ls (u :: st) h Q = (nl u = true ∧ Ru d k (pc + 1) ls st h Q) := ru_if hc hd rfl
theorem r_dup_x1 (hc : mC k = cc) (hd : decode cc pc = .ok (.dup_x1, 1)) : Ru d k pc ls (u :: w :: st) h Q = ((nl u = true ∧ nl w = true) ∧ Ru d k (pc + 1) ls (u :: w :: u :: st) h Q) := ru_if hc hd rfl
theorem r_dup2 (hc : mC k = cc) (hd : decode cc pc = .ok (.dup2, 1)) : Ru d k pc ls (u :: w :: st) h Q = ((nl u = true ∧ nl w = true) ∧ Ru d k (pc + 1) ls (u :: w :: u :: w :: st) h Q) := ru_if hc hd rfl
theorem ru_ite {b : Bool} {t f : Nat} {st : List Value} : Ru d k (if b then t else f) ls st h Q = if b = true then Ru d k t ls st h Q else Ru d k f ls st h Q := by cases b <;> rfl
theorem ru_br {c : Prop} [Decidable c] {ins : Instr} {len : Nat} {b : Bool} (hc : mC k = cc) (hd : decode cc pc = .ok (ins, len)) (ht : jp pc off = some t) {st' : List Value} (hs : stp k pc ls st' h ins len = br pc ls st h off b) (hb : b = true ↔ c) (hl : lenOk ins len = true := by rfl) : Ru d k pc ls st' h Q = if c then Ru d k t ls st h Q else Ru d k (pc + 3) ls st h Q := by
  rw [ru_nx hc hd (hs.trans (by rw [br, ht])) hl, ru_ite]
  by_cases hh : c
  · rw [if_pos hh, if_pos (hb.mpr hh)]
  · rw [if_neg hh, if_neg (fun q => hh (hb.mp q))]
theorem ru_brN {c : Prop} [Decidable c] {ins : Instr} {len : Nat} {b : Bool} (hc : mC k = cc) (hd : decode cc pc = .ok (ins, len)) (ht : jp pc off = some t) {st' : List Value} (hs : stp k pc ls st' h ins len = br pc ls st h off b) (hb : b = true ↔ ¬ c) (hl : lenOk ins len = true := by rfl) : Ru d k pc ls st' h Q = if c then Ru d k (pc + 3) ls st h Q else Ru d k t ls st h Q := by
  rw [ru_nx hc hd (hs.trans (by rw [br, ht])) hl, ru_ite]
  by_cases hh : c
  · rw [if_pos hh, if_neg (fun q => hb.mp q hh)]
  · rw [if_neg hh, if_pos (hb.mpr hh)]
theorem i32_nle {x y : Int32} : y ≤ x ↔ ¬ x < y := by rw [Int32.le_iff_toInt_le, Int32.lt_iff_toInt_lt]; omega
theorem r_icmp_eq (hc : mC k = cc) (hd : decode cc pc = .ok (.if_icmp .eq off, 3)) (ht : jp pc off = some t) : Ru d k pc ls (.int y :: .int x :: st) h Q = if x = y then Ru d k t ls st h Q else Ru d k (pc + 3) ls st h Q := ru_br hc hd ht rfl (decide_eq_true_iff)
theorem r_if_eq (hc : mC k = cc) (hd : decode cc pc = .ok (.ifCond .eq off, 3)) (ht : jp pc off = some t) : Ru d k pc ls (.int x :: st) h Q = if x = 0 then Ru d k t ls st h Q else Ru d k (pc + 3) ls st h Q := ru_br hc hd ht rfl (decide_eq_true_iff)
theorem r_icmp_ne (hc : mC k = cc) (hd : decode cc pc = .ok (.if_icmp .ne off, 3)) (ht : jp pc off = some t) : Ru d k pc ls (.int y :: .int x :: st) h Q = if x = y then Ru d k (pc + 3) ls st h Q else Ru d k t ls st h Q := ru_brN hc hd ht rfl (decide_eq_true_iff)
theorem r_if_ne (hc : mC k = cc) (hd : decode cc pc = .ok (.ifCond .ne off, 3)) (ht : jp pc off = some t) : Ru d k pc ls (.int x :: st) h Q = if x = 0 then Ru d k (pc + 3) ls st h Q else Ru d k t ls st h Q := ru_brN hc hd ht rfl (decide_eq_true_iff)
theorem r_icmp_lt (hc : mC k = cc) (hd : decode cc pc = .ok (.if_icmp .lt off, 3)) (ht : jp pc off = some t) : Ru d k pc ls (.int y :: .int x :: st) h Q = if x < y then Ru d k t ls st h Q else Ru d k (pc + 3) ls st h Q := ru_br hc hd ht rfl (decide_eq_true_iff)
theorem r_if_lt (hc : mC k = cc) (hd : decode cc pc = .ok (.ifCond .lt off, 3)) (ht : jp pc off = some t) : Ru d k pc ls (.int x :: st) h Q = if x < 0 then Ru d k t ls st h Q else Ru d k (pc + 3) ls st h Q := ru_br hc hd ht rfl (decide_eq_true_iff)
theorem r_icmp_ge (hc : mC k = cc) (hd : decode cc pc = .ok (.if_icmp .ge off, 3)) (ht : jp pc off = some t) : Ru d k pc ls (.int y :: .int x :: st) h Q = if x < y then Ru d k (pc + 3) ls st h Q else Ru d k t ls st h Q := ru_brN hc hd ht rfl (decide_eq_true_iff.trans i32_nle)
theorem r_if_ge (hc : mC k = cc) (hd : decode cc pc = .ok (.ifCond .ge off, 3)) (ht : jp pc off = some t) : Ru d k pc ls (.int x :: st) h Q = if x < 0 then Ru d k (pc + 3) ls st h Q else Ru d k t ls st h Q := ru_brN hc hd ht rfl (decide_eq_true_iff.trans i32_nle)
theorem r_icmp_gt (hc : mC k = cc) (hd : decode cc pc = .ok (.if_icmp .gt off, 3)) (ht : jp pc off = some t) : Ru d k pc ls (.int y :: .int x :: st) h Q = if y < x then Ru d k t ls st h Q else Ru d k (pc + 3) ls st h Q := ru_br hc hd ht rfl (decide_eq_true_iff)
theorem r_if_gt (hc : mC k = cc) (hd : decode cc pc = .ok (.ifCond .gt off, 3)) (ht : jp pc off = some t) : Ru d k pc ls (.int x :: st) h Q = if 0 < x then Ru d k t ls st h Q else Ru d k (pc + 3) ls st h Q := ru_br hc hd ht rfl (decide_eq_true_iff)
theorem r_icmp_le (hc : mC k = cc) (hd : decode cc pc = .ok (.if_icmp .le off, 3)) (ht : jp pc off = some t) : Ru d k pc ls (.int y :: .int x :: st) h Q = if y < x then Ru d k (pc + 3) ls st h Q else Ru d k t ls st h Q := ru_brN hc hd ht rfl (decide_eq_true_iff.trans i32_nle)
theorem r_if_le (hc : mC k = cc) (hd : decode cc pc = .ok (.ifCond .le off, 3)) (ht : jp pc off = some t) : Ru d k pc ls (.int x :: st) h Q = if 0 < x then Ru d k (pc + 3) ls st h Q else Ru d k t ls st h Q := ru_brN hc hd ht rfl (decide_eq_true_iff.trans i32_nle)
theorem r_goto (hc : mC k = cc) (hd : decode cc pc = .ok (.goto off, 3)) (ht : jp pc off = some t) : Ru d k pc ls st h Q = Ru d k t ls st h Q := ru_nx hc hd (by show br pc ls st h off true = _; rw [br, ht]; rfl)
theorem and_ite_eq {c : Prop} {A B C : Prop} (hA : c → A = B) (hB : ¬ c → A = False) : A = (c ∧ B) := by
  by_cases hh : c
  · rw [hA hh]; exact propext ⟨fun q => ⟨hh, q⟩, fun q => q.2⟩
  · rw [hB hh]; exact propext ⟨fun q => q.elim, fun q => hh q.1⟩
theorem r_ifnull (hc : mC k = cc) (hd : decode cc pc = .ok (.ifnull off, 3)) (ht : jp pc off = some t) : Ru d k pc ls (u :: st) h Q = (isR u = true ∧ if u = .null then Ru d k t ls st h Q else Ru d k (pc + 3) ls st h Q) := by
  refine and_ite_eq (C := True) (fun hu => ?_) (fun hu => ?_)
  · exact ru_br hc hd ht (by rw [stp]; exact if_pos hu) decide_eq_true_iff
  · exact ru_no hc hd (by rw [stp]; exact if_neg hu)
theorem r_ifnonnull (hc : mC k = cc) (hd : decode cc pc = .ok (.ifnonnull off, 3)) (ht : jp pc off = some t) : Ru d k pc ls (u :: st) h Q = (isR u = true ∧ if u = .null then Ru d k (pc + 3) ls st h Q else Ru d k t ls st h Q) := by
  refine and_ite_eq (C := True) (fun hu => ?_) (fun hu => ?_)
  · exact ru_brN hc hd ht (by rw [stp]; exact if_pos hu) decide_eq_true_iff
  · exact ru_no hc hd (by rw [stp]; exact if_neg hu)
theorem r_acmp_eq (hc : mC k = cc) (hd : decode cc pc = .ok (.if_acmp .eq off, 3)) (ht : jp pc off = some t) : Ru d k pc ls (w :: u :: st) h Q = ((isR u = true ∧ isR w = true) ∧ if u = w then Ru d k t ls st h Q else Ru d k (pc + 3) ls st h Q) := by
  refine and_ite_eq (C := True) (fun hu => ?_) (fun hu => ?_)
  · exact ru_br hc hd ht (by rw [stp]; exact if_pos hu) decide_eq_true_iff
  · exact ru_no hc hd (by rw [stp]; exact if_neg hu)
theorem r_acmp_ne (hc : mC k = cc) (hd : decode cc pc = .ok (.if_acmp .ne off, 3)) (ht : jp pc off = some t) : Ru d k pc ls (w :: u :: st) h Q = ((isR u = true ∧ isR w = true) ∧ if u = w then Ru d k (pc + 3) ls st h Q else Ru d k t ls st h Q) := by
  refine and_ite_eq (C := True) (fun hu => ?_) (fun hu => ?_)
  · exact ru_brN hc hd ht (by rw [stp]; exact if_pos hu) decide_eq_true_iff
  · exact ru_no hc hd (by rw [stp]; exact if_neg hu)
theorem r_ldcI {i : Nat} (hc : mC k = cc) (ho : mO k = o) (hk : kres o i = some (.inl v)) (hd : decode cc pc = .ok (.ldc i, 2)) : Ru d k pc ls st h Q = Ru d k (pc + 2) ls (.int v :: st) h Q := ru_nx hc hd (by show cst k pc 2 ls st h i = _; rw [cst, ho, hk])
theorem r_ldcR {i n : Nat} (hc : mC k = cc) (ho : mO k = o) (hk : kres o i = some (.inr n)) (hd : decode cc pc = .ok (.ldc i, 2)) : Ru d k pc ls st h Q = Ru d k (pc + 2) ls (.ref (Ev h n) :: st) h Q := ru_nx hc hd (by show cst k pc 2 ls st h i = _; rw [cst, ho, hk]; rfl)
theorem r_ldcW {i : Nat} (hc : mC k = cc) (ho : mO k = o) (hk : kres o i = some (.inl v)) (hd : decode cc pc = .ok (.ldc_w i, 3)) : Ru d k pc ls st h Q = Ru d k (pc + 3) ls (.int v :: st) h Q := ru_nx hc hd (by show cst k pc 3 ls st h i = _; rw [cst, ho, hk])
theorem r_ldc2 {i : Nat} (hc : mC k = cc) (ho : mO k = o) (hk : lres o i = some X) (hd : decode cc pc = .ok (.ldc2_w i, 3)) : Ru d k pc ls st h Q = Ru d k (pc + 3) ls (.long X :: st) h Q := ru_nx hc hd (by rw [stp, ho]; simp only [hk])
theorem r_getsI {i : Nat} (hc : mC k = cc) (ho : mO k = o) (hk : sres o i = some (.inl v)) (hd : decode cc pc = .ok (.getstatic i, 3)) : Ru d k pc ls st h Q = Ru d k (pc + 3) ls (.int v :: st) h Q := ru_nx hc hd (by rw [stp, ho]; simp only [hk])
theorem r_getsR {i n : Nat} (hc : mC k = cc) (ho : mO k = o) (hk : sres o i = some (.inr n)) (hn : n ≠ 53) (hd : decode cc pc = .ok (.getstatic i, 3)) : Ru d k pc ls st h Q = Ru d k (pc + 3) ls (.ref (Ev h n) :: st) h Q := ru_nx hc hd (by rw [stp, ho]; simp only [hk]; exact if_neg hn)
theorem r_getsN {i : Nat} (hc : mC k = cc) (ho : mO k = o) (hk : sres o i = some (.inr 53)) (hd : decode cc pc = .ok (.getstatic i, 3)) : Ru d k pc ls st h Q = Ru d k (pc + 3) ls (va_rf (pdO (Ev h 53)) :: st) h Q := ru_nx hc hd (by rw [stp, ho]; simp only [hk]; rfl)
theorem r_getI {i : Nat} {L : List Nat} (hc : mC k = cc) (ho : mO k = o) (hf : fres o i = some f) (hv : rdF h f a = .int (Fi h f a)) (hl : fCl f = L) (ht : fTh f = false) (hd : decode cc pc = .ok (.getfield i, 3)) : Ru d k pc ls (.ref a :: st) h Q = (Tg h a ∈ L ∧ Ru d k (pc + 3) ls (.int (Fi h f a) :: st) h Q) := by
  subst hl
  rw [← hv]
  have hs : stp k pc ls (.ref a :: st) h (.getfield i) 3 = if (Tg h a ∈ fCl f ∧ fTh f = false) then some (.inl (pc + 3, ls, rdF h f a :: st, h)) else none := by
    show getF k pc ls (.ref a :: st) h i = _
    simp only [getF, ho, hf]
  exact ru_if' hc hd hs ⟨fun q => q.1, fun q => ⟨q, ht⟩⟩
theorem r_getL {i : Nat} {L : List Nat} (hc : mC k = cc) (ho : mO k = o) (hf : fres o i = some f) (hv : rdF h f a = .long (Fl h f a)) (hl : fCl f = L) (ht : fTh f = false) (hd : decode cc pc = .ok (.getfield i, 3)) : Ru d k pc ls (.ref a :: st) h Q = (Tg h a ∈ L ∧ Ru d k (pc + 3) ls (.long (Fl h f a) :: st) h Q) := by
  subst hl
  rw [← hv]
  have hs : stp k pc ls (.ref a :: st) h (.getfield i) 3 = if (Tg h a ∈ fCl f ∧ fTh f = false) then some (.inl (pc + 3, ls, rdF h f a :: st, h)) else none := by
    show getF k pc ls (.ref a :: st) h i = _
    simp only [getF, ho, hf]
  exact ru_if' hc hd hs ⟨fun q => q.1, fun q => ⟨q, ht⟩⟩
theorem r_getR {i : Nat} {L : List Nat} (hc : mC k = cc) (ho : mO k = o) (hf : fres o i = some f) (hv : rdF h f a = va_rf (Fr h f a)) (hl : fCl f = L) (ht : fTh f = false) (hd : decode cc pc = .ok (.getfield i, 3)) : Ru d k pc ls (.ref a :: st) h Q = (Tg h a ∈ L ∧ Ru d k (pc + 3) ls (va_rf (Fr h f a) :: st) h Q) := by
  subst hl
  rw [← hv]
  have hs : stp k pc ls (.ref a :: st) h (.getfield i) 3 = if (Tg h a ∈ fCl f ∧ fTh f = false) then some (.inl (pc + 3, ls, rdF h f a :: st, h)) else none := by
    show getF k pc ls (.ref a :: st) h i = _
    simp only [getF, ho, hf]
  exact ru_if' hc hd hs ⟨fun q => q.1, fun q => ⟨q, ht⟩⟩
theorem r_get1 {i c : Nat} {V : Value} {A : Prop} (e : A = (Tg h a ∈ [c] ∧ Ru d k pc ls (V :: st) h Q)) : A = (Tg h a = c ∧ Ru d k pc ls (V :: st) h Q) := by rw [e, List.mem_singleton]
theorem r_put1 {c : Nat} {A B : Prop} (e : A = (Tg h a ∈ [c] ∧ B)) : A = (Tg h a = c ∧ B) := by rw [e, List.mem_singleton]
theorem r_putI {i : Nat} {L : List Nat} (hc : mC k = cc) (ho : mO k = o) (hf : fres o i = some f) (hk : fKd f = 0) (hl : fCl f = L) (ht : fTh f = false) (hw : fFn f = 0 ∨ (fFn f = o ∧ mI k = true)) (hm : ∀ t ∈ fCl f, t < 100 ∧ t ≠ 45) (hd : decode cc pc = .ok (.putfield i, 3)) : Ru d k pc ls (.int v :: .ref a :: st) h Q = (Tg h a ∈ L ∧ Ru d k (pc + 3) ls st (sFi h f a v) Q) := by
  subst hl
  have hs : stp k pc ls (.int v :: .ref a :: st) h (.putfield i) 3 = if Tg h a ∈ fCl f ∧ Tg h a < 100 then some (.inl (pc + 3, ls, st, (sFi h f a v))) else none := by
    show putF k pc ls _ h i = _
    rw [putF, ho, hf]
    simp only [ht, hw, true_and, not_true, if_false, hk]
  rw [ru_if' hc hd hs (c' := Tg h a ∈ fCl f) ?_]
  constructor
  · intro q; exact q.1
  · intro q; exact ⟨q, (hm _ q).1⟩
theorem r_putZ {i : Nat} {L : List Nat} (hc : mC k = cc) (ho : mO k = o) (hf : fres o i = some f) (hk : fKd f = 1) (hl : fCl f = L) (ht : fTh f = false) (hw : fFn f = 0 ∨ (fFn f = o ∧ mI k = true)) (hm : ∀ t ∈ fCl f, t < 100 ∧ t ≠ 45) (hd : decode cc pc = .ok (.putfield i, 3)) : Ru d k pc ls (.int v :: .ref a :: st) h Q = (Tg h a ∈ L ∧ (v = 0 ∨ v = 1) ∧ Ru d k (pc + 3) ls st (sFi h f a v) Q) := by
  subst hl
  have hs : stp k pc ls (.int v :: .ref a :: st) h (.putfield i) 3 = if (Tg h a ∈ fCl f ∧ Tg h a < 100) ∧ (v = 0 ∨ v = 1) then some (.inl (pc + 3, ls, st, (sFi h f a v))) else none := by
    show putF k pc ls _ h i = _
    rw [putF, ho, hf]
    simp only [ht, hw, true_and, not_true, if_false, hk]
  rw [ru_if' hc hd hs (c' := Tg h a ∈ fCl f ∧ (v = 0 ∨ v = 1)) ?_, and_assoc]
  constructor
  · intro q; exact ⟨q.1.1, q.2⟩
  · intro q; exact ⟨⟨q.1, (hm _ q.1).1⟩, q.2⟩
theorem r_putL {i : Nat} {L : List Nat} (hc : mC k = cc) (ho : mO k = o) (hf : fres o i = some f) (hk : fKd f = 3) (hl : fCl f = L) (ht : fTh f = false) (hw : fFn f = 0 ∨ (fFn f = o ∧ mI k = true)) (hm : ∀ t ∈ fCl f, t < 100 ∧ t ≠ 45) (hd : decode cc pc = .ok (.putfield i, 3)) : Ru d k pc ls (.long X :: .ref a :: st) h Q = (Tg h a ∈ L ∧ Ru d k (pc + 3) ls st (sFl h f a X) Q) := by
  subst hl
  have hs : stp k pc ls (.long X :: .ref a :: st) h (.putfield i) 3 = if Tg h a ∈ fCl f ∧ Tg h a < 100 then some (.inl (pc + 3, ls, st, (sFl h f a X))) else none := by
    show putF k pc ls _ h i = _
    rw [putF, ho, hf]
    simp only [ht, hw, true_and, not_true, if_false, hk]
  rw [ru_if' hc hd hs (c' := Tg h a ∈ fCl f) ?_]
  constructor
  · intro q; exact q.1
  · intro q; exact ⟨q, (hm _ q).1⟩
theorem r_putR {i : Nat} {L : List Nat} (hc : mC k = cc) (ho : mO k = o) (hf : fres o i = some f) (hk : fKd f = 4) (hl : fCl f = L) (ht : fTh f = false) (hw : fFn f = 0 ∨ (fFn f = o ∧ mI k = true)) (hm : ∀ t ∈ fCl f, t < 100 ∧ t ≠ 45) (hd : decode cc pc = .ok (.putfield i, 3)) : Ru d k pc ls (u :: .ref a :: st) h Q = (Tg h a ∈ L ∧ isR u = true ∧ Ru d k (pc + 3) ls st (sFr h f a (rOf u)) Q) := by
  subst hl
  have hs : stp k pc ls (u :: .ref a :: st) h (.putfield i) 3 = if (Tg h a ∈ fCl f ∧ Tg h a < 100 ∧ Tg h a ≠ 45) ∧ isR u = true then some (.inl (pc + 3, ls, st, (sFr h f a (rOf u)))) else none := by
    show putF k pc ls _ h i = _
    rw [putF, ho, hf]
    simp only [ht, hw, true_and, not_true, if_false, hk]
  rw [ru_if' hc hd hs (c' := Tg h a ∈ fCl f ∧ isR u = true) ?_, and_assoc]
  constructor
  · intro q; exact ⟨q.1.1, q.2⟩
  · intro q; exact ⟨⟨q.1, hm _ q.1⟩, q.2⟩
theorem r_putLc {i : Nat} (hc : mC k = cc) (ho : mO k = o) (hf : fres o i = some f) (hk : fKd f = 3) (ht : fTh f = false) (hw : fFn f = 0 ∨ (fFn f = o ∧ mI k = true)) (hm : Tg h a ∈ fCl f ∧ Tg h a < 100) (hd : decode cc pc = .ok (.putfield i, 3)) : Ru d k pc ls (.long X :: .ref a :: st) h Q = Ru d k (pc + 3) ls st (sFl h f a X) Q := by
  refine ru_nx hc hd ?_
  show putF k pc ls _ h i = _
  rw [putF, ho, hf]
  simp only [ht, hw, true_and, not_true, if_false, hk]
  exact if_pos hm
theorem r_iaload (hc : mC k = cc) (hd : decode cc pc = .ok (.iaload, 1)) : Ru d k pc ls (.int x :: .ref a :: st) h Q = ((tin h a 1000 2000 ∧ inA x (An h a)) ∧ Ru d k (pc + 1) ls (.int (Ai h a x.toNatClampNeg) :: st) h Q) := ru_if hc hd rfl
theorem r_laload (hc : mC k = cc) (hd : decode cc pc = .ok (.laload, 1)) : Ru d k pc ls (.int x :: .ref a :: st) h Q = ((tin h a 3000 4000 ∧ inA x (An h a)) ∧ Ru d k (pc + 1) ls (.long (Al h a x.toNatClampNeg) :: st) h Q) := ru_if hc hd rfl
theorem r_aaload (hc : mC k = cc) (hd : decode cc pc = .ok (.aaload, 1)) : Ru d k pc ls (.int x :: .ref a :: st) h Q = ((tin h a 5000 6000 ∧ inA x (An h a)) ∧ Ru d k (pc + 1) ls (va_rf (Ar h a x.toNatClampNeg) :: st) h Q) := ru_if hc hd rfl
theorem r_baload (hc : mC k = cc) (hd : decode cc pc = .ok (.baload, 1)) : Ru d k pc ls (.int x :: .ref a :: st) h Q = (((tin h a 2000 3000 ∨ tin h a 4000 5000) ∧ inA x (An h a)) ∧ Ru d k (pc + 1) ls (.int (Ai h a x.toNatClampNeg) :: st) h Q) := ru_if hc hd rfl
theorem r_iastore (hc : mC k = cc) (hd : decode cc pc = .ok (.iastore, 1)) : Ru d k pc ls (.int y :: .int x :: .ref a :: st) h Q = ((tin h a 1000 1900 ∧ inA x (An h a)) ∧ Ru d k (pc + 1) ls st (sAi h a (upd (Ai h a) x.toNatClampNeg y)) Q) := ru_if hc hd rfl
theorem r_bastore (hc : mC k = cc) (hd : decode cc pc = .ok (.bastore, 1)) : Ru d k pc ls (.int y :: .int x :: .ref a :: st) h Q = ((tin h a 2000 2900 ∧ inA x (An h a) ∧ (y = 0 ∨ y = 1)) ∧ Ru d k (pc + 1) ls st (sAi h a (upd (Ai h a) x.toNatClampNeg y)) Q) := ru_if hc hd rfl
theorem r_lastore (hc : mC k = cc) (hd : decode cc pc = .ok (.lastore, 1)) : Ru d k pc ls (.long Y :: .int x :: .ref a :: st) h Q = ((tin h a 3000 3900 ∧ inA x (An h a)) ∧ Ru d k (pc + 1) ls st (sAl h a (vp_updL (Al h a) x.toNatClampNeg Y)) Q) := ru_if hc hd rfl
theorem r_aastore {e : Nat} (hc : mC k = cc) (he : elc (Tg h a) = some e) (hd : decode cc pc = .ok (.aastore, 1)) : Ru d k pc ls (u :: .int x :: .ref a :: st) h Q = (((tin h a 5000 5900 ∧ inA x (An h a)) ∧ (u = .null ∨ (isR u = true ∧ aAsB e (Tg h ((rOf u).getD 0)) = true))) ∧ Ru d k (pc + 1) ls st (sAr h a (va_up (Ar h a) x.toNatClampNeg (rOf u))) Q) := ru_if hc hd (by rw [stp]; simp only [he])
theorem r_alen (hc : mC k = cc) (hd : decode cc pc = .ok (.arraylength, 1)) : Ru d k pc ls (.ref a :: st) h Q = (tin h a 1000 6000 ∧ Ru d k (pc + 1) ls (.int (Int32.ofNat (An h a)) :: st) h Q) := ru_if hc hd rfl
theorem r_newa {at_ : ArrayType} {kd : Nat} (hc : mC k = cc) (hk : stp k pc ls (.int x :: st) h (.newarray at_) 2 = newA k pc 2 ls (.int x :: st) h kd) (ha : ares k pc = some t) (ht : t / 1000 = kd ∧ t % 1000 < 900) (hd : decode cc pc = .ok (.newarray at_, 2)) : Ru d k pc ls (.int x :: st) h Q = ((¬ x < 0 ∧ Rm h x.toNatClampNeg) ∧ Ru d k (pc + 2) ls (.ref (Nx h) :: st) (nCe h t x.toNatClampNeg) Q) := by
  have hs : stp k pc ls (.int x :: st) h (.newarray at_) 2 = if t / 1000 = kd ∧ t % 1000 < 900 ∧ ¬ x < 0 ∧ Nc h + 1 ≤ 601024 ∧ Ns h + x.toNatClampNeg ≤ 7293034 then some (.inl (pc + 2, ls, .ref (Nx h) :: st, nCe h t x.toNatClampNeg)) else none := by
    rw [hk]; simp only [newA, ha]
  exact ru_if' hc hd hs ⟨fun q => ⟨q.2.2.1, q.2.2.2⟩, fun q => ⟨ht.1, ht.2, q.1, q.2⟩⟩
theorem r_newq {i e : Nat} (hc : mC k = cc) (ho : mO k = o) (he : eres o i = some e) (ha : ares k pc = some t) (het : elc t = some e) (ht : t / 1000 = 5 ∧ t % 1000 < 900) (hd : decode cc pc = .ok (.anewarray i, 3)) : Ru d k pc ls (.int x :: st) h Q = ((¬ x < 0 ∧ Rm h x.toNatClampNeg) ∧ Ru d k (pc + 3) ls (.ref (Nx h) :: st) (nCe h t x.toNatClampNeg) Q) := by
  have hs : stp k pc ls (.int x :: st) h (.anewarray i) 3 = if t / 1000 = 5 ∧ t % 1000 < 900 ∧ ¬ x < 0 ∧ Nc h + 1 ≤ 601024 ∧ Ns h + x.toNatClampNeg ≤ 7293034 then some (.inl (pc + 3, ls, .ref (Nx h) :: st, nCe h t x.toNatClampNeg)) else none := by
    rw [stp]
    simp only [ha, ho]
    rw [if_pos (he.trans het.symm)]; simp only [newA, ha]
  exact ru_if' hc hd hs ⟨fun q => ⟨q.2.2.1, q.2.2.2⟩, fun q => ⟨ht.1, ht.2, q.1, q.2⟩⟩
theorem r_new {i c n : Nat} (hc : mC k = cc) (ho : mO k = o) (hn : nres o i = some (c, n)) (hd : decode cc pc = .ok (.new i, 3)) : Ru d k pc ls st h Q = (Rm h n ∧ Ru d k (pc + 3) ls (.ref (Nx h) :: st) (nCe h c n) Q) := ru_if hc hd (show stp k pc ls st h (.new i) 3 = if Nc h + 1 ≤ 601024 ∧ Ns h + n ≤ 7293034 then some (.inl (pc + 3, ls, .ref (Nx h) :: st, nCe h c n)) else none by rw [stp, ho]; simp only [hn])
theorem r_castR {i : Nat} {L : List Nat} (hc : mC k = cc) (ho : mO k = o) (hx : xres o i = some L) (hd : decode cc pc = .ok (.checkcast i, 3)) : Ru d k pc ls (.ref a :: st) h Q = (Tg h a ∈ L ∧ Ru d k (pc + 3) ls (.ref a :: st) h Q) := ru_if hc hd (by rw [stp, ho]; simp only [hx])
theorem r_inst {i : Nat} {L : List (Nat × Bool)} {b : Bool} (hc : mC k = cc) (ho : mO k = o) (hx : tres o i = some L) (hb : lk L (Tg h a) = some b) (hd : decode cc pc = .ok (.instanceof i, 3)) : Ru d k pc ls (.ref a :: st) h Q = Ru d k (pc + 3) ls (.int (if b then 1 else 0) :: st) h Q := ru_nx hc hd (by rw [stp, ho]; simp only [hx, hb])
theorem r_ireti (hc : mC k = cc) (hr : mR k = some .int) (hd : decode cc pc = .ok (.ireturn, 1)) : Ru d k pc ls [.int v] h Q = Q (.inl (some (.int v))) h := ru_fin hc hd (by rw [stp, hr]; rfl)
theorem r_iretz (hc : mC k = cc) (hr : mR k = some .boolean) (hd : decode cc pc = .ok (.ireturn, 1)) : Ru d k pc ls [.int v] h Q = ((v = 0 ∨ v = 1) ∧ Q (.inl (some (.int v))) h) := by
  refine and_ite_eq (C := True) (fun hu => ?_) (fun hu => ?_)
  · exact ru_fin hc hd (by rw [stp, hr]; exact if_pos (decide_eq_true hu))
  · exact ru_no hc hd (by rw [stp, hr]; exact if_neg (fun q => hu (of_decide_eq_true q)))
theorem r_iretx {ty : FieldType} (hc : mC k = cc) (hr : mR k = some ty) (hty : ty = .char ∨ ty = .byte) (hv : narrow ty (.int v) = .int v) (hd : decode cc pc = .ok (.ireturn, 1)) : Ru d k pc ls [.int v] h Q = Q (.inl (some (.int v))) h := by
  rcases hty with rfl | rfl
  · exact ru_fin hc hd (by rw [stp, hr]; exact if_pos (decide_eq_true hv))
  · exact ru_fin hc hd (by rw [stp, hr]; exact if_pos (decide_eq_true hv))
theorem r_lret (hc : mC k = cc) (hr : mR k = some .long) (hd : decode cc pc = .ok (.lreturn, 1)) : Ru d k pc ls [.long X] h Q = Q (.inl (some (.long X))) h := ru_fin hc hd (by rw [stp, hr]; rfl)
theorem r_areto {s : String} (hc : mC k = cc) (hr : mR k = some (.object s)) (hd : decode cc pc = .ok (.areturn, 1)) : Ru d k pc ls [u] h Q = (isR u = true ∧ Q (.inl (some u)) h) := by
  refine and_ite_eq (C := True) (fun hu => ?_) (fun hu => ?_)
  · exact ru_fin hc hd (by rw [stp]; simp only [hr]; exact if_pos hu)
  · exact ru_no hc hd (by rw [stp]; exact if_neg hu)
theorem r_areta {s : FieldType} (hc : mC k = cc) (hr : mR k = some (.array s)) (hd : decode cc pc = .ok (.areturn, 1)) : Ru d k pc ls [u] h Q = (isR u = true ∧ Q (.inl (some u)) h) := by
  refine and_ite_eq (C := True) (fun hu => ?_) (fun hu => ?_)
  · exact ru_fin hc hd (by rw [stp]; simp only [hr]; exact if_pos hu)
  · exact ru_no hc hd (by rw [stp]; exact if_neg hu)
theorem r_vret (hc : mC k = cc) (hr : mR k = none) (hd : decode cc pc = .ok (.return_, 1)) : Ru d k pc ls [] h Q = Q (.inl none) h := ru_fin hc hd (by rw [stp]; simp only [hr]; rfl)
theorem r_throw (hc : mC k = cc) (hh : mH k = []) (hd : decode cc pc = .ok (.athrow, 1)) : Ru d k pc ls (.ref a :: st) h Q = ((Tg h a = 11 ∨ Tg h a = 57) ∧ Q (.inr a) h) := by
  refine and_ite_eq (C := True) (fun hu => ?_) (fun hu => ?_)
  · exact ru_fin hc hd (by rw [stp]; exact if_pos ⟨hh, hu⟩)
  · exact ru_no hc hd (by rw [stp]; exact if_neg (fun q => hu q.2))
theorem r_calS {i n y : Nat} (hc : mC k = cc) (ho : mO k = o) (hr : cres o i = some (n, y)) (hp : pc + 3 = pc') (hd : decode cc pc = .ok (.invokestatic i, 3)) (ht : takeA n st [] = some (as, rest)) (hl : rest.length ≤ 8) : Ru d k pc ls st h Q = Ca d y as h (Kn d k pc pc' ls rest Q) := ru_call hc hd hp (by show calS k st h i = _; rw [calS, ho, hr]; simp only [ht]; exact if_pos hl)
theorem r_calI {i n y : Nat} (hc : mC k = cc) (ho : mO k = o) (hr : ires o i = some (n, y)) (hp : pc + 3 = pc') (hd : decode cc pc = .ok (.invokespecial i, 3)) (ht : takeA n st [] = some (as, .ref a :: rest)) (hl : rest.length ≤ 8) : Ru d k pc ls st h Q = Ca d y (.ref a :: as) h (Kn d k pc pc' ls rest Q) := ru_call hc hd hp (by show calI k st h i = _; rw [calI, ho, hr]; simp only [ht]; exact if_pos hl)
theorem r_calV {i n y : Nat} {tb : List (Nat × Nat)} (hc : mC k = cc) (ho : mO k = o) (hr : vres o i = some (n, tb)) (hp : pc + 3 = pc') (hd : decode cc pc = .ok (.invokevirtual i, 3)) (ht : takeA n st [] = some (as, .ref a :: rest)) (hl : rest.length ≤ 8) (hy : lk tb (Tg h a) = some y) : Ru d k pc ls st h Q = Ca d y (.ref a :: as) h (Kn d k pc pc' ls rest Q) := ru_call hc hd hp (by show calV k st h i = _; rw [calV, ho, hr]; simp only [ht, hy]; exact if_pos hl)
theorem r_calV0 {i n : Nat} {tb : List (Nat × Nat)} (hc : mC k = cc) (ho : mO k = o) (hr : vres o i = some (n, tb)) (hd : decode cc pc = .ok (.invokevirtual i, 3)) (ht : takeA n st [] = some (as, .ref a :: rest)) (hy : lk tb (Tg h a) = none) : Ru d k pc ls st h Q = False := ru_no hc hd (by show calV k st h i = _; rw [calV, ho, hr]; simp only [ht, hy])
theorem lk_one {t y z : Nat} : lk [(t, y)] z = if z = t then some y else none := by
  by_cases e : z = t
  · subst e; simp [lk]
  · have e2 : Nat.beq t z = false := by cases q : Nat.beq t z with | true => exact absurd (Nat.eq_of_beq_eq_true q).symm e | false => rfl
    rw [if_neg e]; simp [lk, e2]
theorem r_calV1 {i n y : Nat} (hc : mC k = cc) (ho : mO k = o) (hr : vres o i = some (n, [(t, y)])) (hp : pc + 3 = pc') (hd : decode cc pc = .ok (.invokevirtual i, 3)) (ht : takeA n st [] = some (as, .ref a :: rest)) (hl : rest.length ≤ 8) : Ru d k pc ls st h Q = (Tg h a = t ∧ Ca d y (.ref a :: as) h (Kn d k pc pc' ls rest Q)) := by
  refine and_ite_eq (C := True) (fun hu => ?_) (fun hu => ?_)
  · exact r_calV hc ho hr hp hd ht hl (by rw [lk_one, if_pos hu])
  · exact r_calV0 hc ho hr hd ht (by rw [lk_one, if_neg hu])
theorem nl_int : nl (.int x) = true := rfl
theorem nl_ref : nl (.ref a) = true := rfl
theorem nl_long : nl (.long X) = false := rfl
theorem nl_null : nl .null = true := rfl
theorem nl_un : nl un = true := rfl
theorem nl_rf {r : Option Nat} : nl (va_rf r) = true := by cases r <;> rfl
theorem isR_ref : isR (.ref a) = true := rfl
theorem isR_null : isR .null = true := rfl
theorem isR_rf {r : Option Nat} : isR (va_rf r) = true := by cases r <;> rfl
theorem rOf_ref : rOf (.ref a) = some a := rfl
theorem rOf_null : rOf .null = none := rfl
theorem rOf_rf {r : Option Nat} : rOf (va_rf r) = r := by cases r <;> rfl
theorem rf_null {r : Option Nat} : (va_rf r = .null) = (r = none) := by cases r <;> simp [va_rf]
theorem rf_some : va_rf (some a) = .ref a := rfl
theorem rf_none : va_rf none = .null := rfl
end
