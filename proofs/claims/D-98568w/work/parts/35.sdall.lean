/-! ONE INSTRUCTION, ANY: sd_all -/
set_option maxRecDepth 100000
section
variable {p : Program} {l : Launch} {e : Env} {R : Room} {s : State} {m : MethodId} {args : Array Value} {below : List Frame} {meth : Method} {c : Code} {H : Heap} {locs : List Loc} {cells slots : Nat} {Q : State → Prop}
variable {D : va_G} {E : Nat → Nat} {k b0 c0 s0 pc : Nat} {ls st : List Value} {h : AH} {A : Array Slot} {z : Zz}
theorem sd_all {ins : Instr} {len : Nat} (hx : p.tables.exec = Jvm.exec) (hb : c.code = mC k) (hown : s.vm.findClass (onm (mO k)) = some m.cls) (hnm : meth.name = (mN k).name) (hK : KW D E s) (hr : 601024 ≤ c0 + R.cells ∧ 7293034 ≤ s0 + R.slots) (hI : Iv D E k b0 c0 s0 s h H locs cells slots ls A) (hd : decode (mC k) pc = .ok (ins, len)) (hl : lenOk ins len = true) (hs : stp k pc ls st h ins len = some (.inl z)) (kk : Gk p l e R s m args below meth c Q D E k b0 c0 s0 z) : W p l e R s m args below meth c H locs cells slots Q (F0 m pc A st) := by
  cases ins with
  | iconst n =>
    obtain rfl : len = 1 := lenB hl
    cases hs
    exact lv_iconst hx hb hd rfl (kk H locs cells slots A hI)
  | bipush n =>
    obtain rfl : len = 2 := lenB hl
    cases hs
    exact lv_bipush hx hb hd rfl (kk H locs cells slots A hI)
  | sipush n =>
    obtain rfl : len = 3 := lenB hl
    cases hs
    exact lv_sipush hx hb hd rfl (kk H locs cells slots A hI)
  | lconst n =>
    obtain rfl : len = 1 := lenB hl
    cases hs
    exact lv_lconst hx hb hd rfl (kk H locs cells slots A hI)
  | aconst_null =>
    obtain rfl : len = 1 := lenB hl
    cases hs
    exact lv_null hx hb hd (kk H locs cells slots A hI)
  | iload_n n =>
    obtain rfl : len = 1 := lenB hl
    exact sd_ldI (i := n) hI hs kk (fun x hx0 q => lv_iload_n hx hb hd rfl hx0 q)
  | iload n =>
    obtain rfl : len = 2 := lenB hl
    exact sd_ldI (i := n) hI hs kk (fun x hx0 q => lv_iload hx hb hd hx0 q)
  | lload_n n =>
    obtain rfl : len = 1 := lenB hl
    exact sd_ldL (i := n) hI hs kk (fun x hx0 q => lv_lload_n hx hb hd rfl hx0 q)
  | lload n =>
    obtain rfl : len = 2 := lenB hl
    exact sd_ldL (i := n) hI hs kk (fun x hx0 q => lv_lload hx hb hd hx0 q)
  | aload_n n =>
    obtain rfl : len = 1 := lenB hl
    exact sd_ldA (i := n) hI hs kk (fun x hx0 q => lv_aload_n hx hb hd rfl hx0 q) (fun hx0 q => lv_aload_nN hx hb hd rfl hx0 q)
  | aload n =>
    obtain rfl : len = 2 := lenB hl
    exact sd_ldA (i := n) hI hs kk (fun x hx0 q => lv_aload hx hb hd hx0 q) (fun hx0 q => lv_aloadN hx hb hd hx0 q)
  | istore_n n =>
    obtain rfl : len = 1 := lenB hl
    exact sd_stI (i := n) hI hs kk (fun x rest hi q => lv_istore_n hx hb hd rfl hI.2.2.1.has hi rfl q)
  | istore n =>
    obtain rfl : len = 2 := lenB hl
    exact sd_stI (i := n) hI hs kk (fun x rest hi q => lv_istore hx hb hd hI.2.2.1.has hi rfl q)
  | lstore_n n =>
    obtain rfl : len = 1 := lenB hl
    exact sd_stL (i := n) hI hs kk (fun x rest hi q => lv_lstore_n hx hb hd rfl hI.2.2.1.has hi rfl q)
  | lstore n =>
    obtain rfl : len = 2 := lenB hl
    exact sd_stL (i := n) hI hs kk (fun x rest hi q => lv_lstore hx hb hd hI.2.2.1.has hi rfl q)
  | astore_n n =>
    obtain rfl : len = 1 := lenB hl
    exact sd_stA (i := n) hI hs kk (fun x rest hi q => lv_astore_n hx hb hd rfl hI.2.2.1.has hi rfl q) (fun rest hi q => lv_astore_nN hx hb hd rfl hI.2.2.1.has hi rfl q)
  | astore n =>
    obtain rfl : len = 2 := lenB hl
    exact sd_stA (i := n) hI hs kk (fun x rest hi q => lv_astore hx hb hd hI.2.2.1.has hi rfl q) (fun rest hi q => lv_astoreN hx hb hd hI.2.2.1.has hi rfl q)
  | iinc i n =>
    obtain rfl : len = 3 := lenB hl
    simp only [stp] at hs
    split at hs
    · rename_i x hxx
      split at hs
      · rename_i q
        cases hs
        have hi : i < ls.length := (List.getElem?_eq_some_iff.mp hxx).1
        have hm : (i, Value.int x) ∈ lrl 0 ls := by simpa using mem_lrl (i := 0) hxx rfl
        obtain ⟨j, hj, hjj⟩ := List.mem_iff_getElem.mp hm
        obtain ⟨i1, i2, i3, i4⟩ := hI
        exact lv_iinc (k := j) hx hb hd i3.has (by rw [List.getElem?_eq_getElem hj, hjj]) rfl (by rw [← i3.2.2.1]; exact hi) rfl (fun A' hA => kk H locs cells slots A' ⟨i1, i2, i3.st1 hi q.2 hA, i4⟩)
      · cases hs
    · cases hs
  | iadd =>
    obtain rfl : len = 1 := lenB hl
    exact sd_bi hI hs kk (fun x y rest q => lv_iadd hx hb hd q)
  | isub =>
    obtain rfl : len = 1 := lenB hl
    exact sd_bi hI hs kk (fun x y rest q => lv_isub hx hb hd q)
  | imul =>
    obtain rfl : len = 1 := lenB hl
    exact sd_bi hI hs kk (fun x y rest q => lv_imul hx hb hd q)
  | iand =>
    obtain rfl : len = 1 := lenB hl
    exact sd_bi hI hs kk (fun x y rest q => lv_iand hx hb hd q)
  | ior =>
    obtain rfl : len = 1 := lenB hl
    exact sd_bi hI hs kk (fun x y rest q => lv_ior hx hb hd q)
  | ixor =>
    obtain rfl : len = 1 := lenB hl
    exact sd_bi hI hs kk (fun x y rest q => lv_ixor hx hb hd q)
  | ishl =>
    obtain rfl : len = 1 := lenB hl
    exact sd_bi hI hs kk (fun x y rest q => lv_ishl hx hb hd q)
  | ishr =>
    obtain rfl : len = 1 := lenB hl
    exact sd_bi hI hs kk (fun x y rest q => lv_ishr hx hb hd q)
  | iushr =>
    obtain rfl : len = 1 := lenB hl
    exact sd_bi hI hs kk (fun x y rest q => lv_iushr hx hb hd rfl q)
  | ladd =>
    obtain rfl : len = 1 := lenB hl
    exact sd_bl hI hs kk (fun x y rest q => lv_ladd hx hb hd q)
  | lsub =>
    obtain rfl : len = 1 := lenB hl
    exact sd_bl hI hs kk (fun x y rest q => lv_lsub hx hb hd q)
  | lmul =>
    obtain rfl : len = 1 := lenB hl
    exact sd_bl hI hs kk (fun x y rest q => lv_lmul hx hb hd q)
  | land =>
    obtain rfl : len = 1 := lenB hl
    exact sd_bl hI hs kk (fun x y rest q => lv_land hx hb hd q)
  | lor =>
    obtain rfl : len = 1 := lenB hl
    exact sd_bl hI hs kk (fun x y rest q => lv_lor hx hb hd q)
  | idiv =>
    obtain rfl : len = 1 := lenB hl
    simp only [stp] at hs
    split at hs
    · split at hs
      · cases hs
      · rename_i hy
        cases hs
        exact lv_idiv hx hb hd hy (kk H locs cells slots A hI)
    · cases hs
  | irem =>
    obtain rfl : len = 1 := lenB hl
    simp only [stp] at hs
    split at hs
    · split at hs
      · cases hs
      · rename_i hy
        cases hs
        exact lv_irem hx hb hd hy (kk H locs cells slots A hI)
    · cases hs
  | ldiv =>
    obtain rfl : len = 1 := lenB hl
    simp only [stp] at hs
    split at hs
    · split at hs
      · cases hs
      · rename_i hy
        cases hs
        exact lv_ldiv hx hb hd hy (kk H locs cells slots A hI)
    · cases hs
  | lrem =>
    obtain rfl : len = 1 := lenB hl
    simp only [stp] at hs
    split at hs
    · split at hs
      · cases hs
      · rename_i hy
        cases hs
        exact lv_lrem hx hb hd hy (kk H locs cells slots A hI)
    · cases hs
  | ineg =>
    obtain rfl : len = 1 := lenB hl
    simp only [stp] at hs
    split at hs
    · cases hs
      exact lv_ineg hx hb hd (kk H locs cells slots A hI)
    · cases hs
  | lshl =>
    obtain rfl : len = 1 := lenB hl
    simp only [stp] at hs
    split at hs
    · cases hs
      exact lv_lshl hx hb hd rfl (kk H locs cells slots A hI)
    · cases hs
  | lushr =>
    obtain rfl : len = 1 := lenB hl
    simp only [stp] at hs
    split at hs
    · cases hs
      exact lv_lushr hx hb hd rfl (kk H locs cells slots A hI)
    · cases hs
  | lcmp =>
    obtain rfl : len = 1 := lenB hl
    simp only [stp] at hs
    split at hs
    · cases hs
      exact W.lcmp hx hb hd (kk H locs cells slots A hI)
    · cases hs
  | i2l =>
    obtain rfl : len = 1 := lenB hl
    simp only [stp] at hs
    split at hs
    · cases hs
      exact lv_i2l hx hb hd rfl (kk H locs cells slots A hI)
    · cases hs
  | l2i =>
    obtain rfl : len = 1 := lenB hl
    simp only [stp] at hs
    split at hs
    · cases hs
      exact lv_l2i hx hb hd rfl (kk H locs cells slots A hI)
    · cases hs
  | i2c =>
    obtain rfl : len = 1 := lenB hl
    simp only [stp] at hs
    split at hs
    · cases hs
      exact lv_i2c hx hb hd rfl (kk H locs cells slots A hI)
    · cases hs
  | i2b =>
    obtain rfl : len = 1 := lenB hl
    simp only [stp] at hs
    split at hs
    · cases hs
      exact lv_i2b hx hb hd rfl (kk H locs cells slots A hI)
    · cases hs
  | dup =>
    obtain rfl : len = 1 := lenB hl
    simp only [stp] at hs
    split at hs
    · split at hs
      · rename_i q
        cases hs
        exact lv_dup hx hb hd (nl_cat q) (kk H locs cells slots A hI)
      · cases hs
    · cases hs
  | pop =>
    obtain rfl : len = 1 := lenB hl
    simp only [stp] at hs
    split at hs
    · split at hs
      · rename_i q
        cases hs
        exact lv_pop hx hb hd (nl_cat q) (kk H locs cells slots A hI)
      · cases hs
    · cases hs
  | dup_x1 =>
    obtain rfl : len = 1 := lenB hl
    simp only [stp] at hs
    split at hs
    · split at hs
      · rename_i q
        cases hs
        exact lv_dup_x1 hx hb hd (nl_cat q.1) (nl_cat q.2) (kk H locs cells slots A hI)
      · cases hs
    · cases hs
  | dup2 =>
    obtain rfl : len = 1 := lenB hl
    simp only [stp] at hs
    split at hs
    · split at hs
      · rename_i q
        cases hs
        exact lv_dup2_11 hx hb hd (nl_cat q.1) (nl_cat q.2) (kk H locs cells slots A hI)
      · cases hs
    · cases hs
  | ifCond cc off =>
    obtain rfl : len = 3 := lenB hl
    simp only [stp] at hs
    split at hs
    · cases cc with
      | eq => exact sd_br hI hs decide_eq_true_iff kk (fun t ht k1 k2 => lv_if_eq hx hb hd ht k1 k2)
      | ne => exact sd_br hI hs decide_eq_true_iff kk (fun t ht k1 k2 => lv_if_ne hx hb hd ht k1 (fun y => k2 (fun y2 => y2 y)))
      | lt => exact sd_br hI hs decide_eq_true_iff kk (fun t ht k1 k2 => lv_if_lt hx hb hd ht k1 k2)
      | ge => exact sd_br hI hs decide_eq_true_iff kk (fun t ht k1 k2 => lv_if_ge hx hb hd ht k1 k2)
      | gt => exact sd_br hI hs decide_eq_true_iff kk (fun t ht k1 k2 => lv_if_gt hx hb hd ht k1 k2)
      | le => exact sd_br hI hs decide_eq_true_iff kk (fun t ht k1 k2 => lv_if_le hx hb hd ht k1 k2)
    · cases hs
  | if_icmp cc off =>
    obtain rfl : len = 3 := lenB hl
    simp only [stp] at hs
    split at hs
    · cases cc with
      | eq => exact sd_br hI hs decide_eq_true_iff kk (fun t ht k1 k2 => lv_icmp_eq hx hb hd ht k1 k2)
      | ne => exact sd_br hI hs decide_eq_true_iff kk (fun t ht k1 k2 => lv_icmp_ne hx hb hd ht k1 (fun y => k2 (fun y2 => y2 y)))
      | lt => exact sd_br hI hs decide_eq_true_iff kk (fun t ht k1 k2 => lv_icmp_lt hx hb hd ht k1 k2)
      | ge => exact sd_br hI hs decide_eq_true_iff kk (fun t ht k1 k2 => lv_icmp_ge hx hb hd ht k1 k2)
      | gt => exact sd_br hI hs decide_eq_true_iff kk (fun t ht k1 k2 => lv_icmp_gt hx hb hd ht k1 k2)
      | le => exact sd_br hI hs decide_eq_true_iff kk (fun t ht k1 k2 => lv_icmp_le hx hb hd ht k1 k2)
    · cases hs
  | goto off =>
    obtain rfl : len = 3 := lenB hl
    obtain ⟨t, e1, rfl⟩ := br_inv (b := true) hs
    exact lv_goto hx hb hd e1 (kk H locs cells slots A hI)
  | ldc i =>
    obtain rfl : len = 2 := lenB hl
    exact sd_cst hx hb hown hK hI hs (Or.inl ⟨rfl, hd⟩) kk
  | ldc_w i =>
    obtain rfl : len = 3 := lenB hl
    exact sd_cst hx hb hown hK hI hs (Or.inr ⟨rfl, hd⟩) kk
  | ldc2_w i =>
    obtain rfl : len = 3 := lenB hl
    exact sd_ldc2 hx hb hown hK hI hs hd kk
  | getstatic i =>
    obtain rfl : len = 3 := lenB hl
    exact sd_gets hx hb hown hK hI hs hd kk
  | getfield i =>
    obtain rfl : len = 3 := lenB hl
    exact sd_getF hx hb hown hK hI hs hd kk
  | putfield i =>
    obtain rfl : len = 3 := lenB hl
    exact sd_putF hx hb hown hnm hK hI hs hd kk
  | iaload =>
    obtain rfl : len = 1 := lenB hl
    exact sd_iald hx hb hI hs hd kk
  | laload =>
    obtain rfl : len = 1 := lenB hl
    exact sd_lald hx hb hI hs hd kk
  | aaload =>
    obtain rfl : len = 1 := lenB hl
    exact sd_aald hx hb hI hs hd kk
  | baload =>
    obtain rfl : len = 1 := lenB hl
    exact sd_bald hx hb hI hs hd kk
  | iastore =>
    obtain rfl : len = 1 := lenB hl
    exact sd_iast hx hb hI hs hd kk
  | bastore =>
    obtain rfl : len = 1 := lenB hl
    exact sd_bast hx hb hI hs hd kk
  | lastore =>
    obtain rfl : len = 1 := lenB hl
    exact sd_last hx hb hI hs hd kk
  | arraylength =>
    obtain rfl : len = 1 := lenB hl
    exact sd_alen hx hb hI hs hd kk
  | aastore =>
    obtain rfl : len = 1 := lenB hl
    exact sd_aast hx hb hK hI hs hd kk
  | newarray a =>
    obtain rfl : len = 2 := lenB hl
    exact sd_newa hx hb hK hr hI hs hd kk
  | anewarray i =>
    obtain rfl : len = 3 := lenB hl
    exact sd_newq hx hb hown hK hr hI hs hd kk
  | new i =>
    obtain rfl : len = 3 := lenB hl
    exact sd_new hx hb hown hK hr hI hs hd kk
  | checkcast i =>
    obtain rfl : len = 3 := lenB hl
    exact sd_cast hx hb hown hK hI hs hd kk
  | instanceof i =>
    obtain rfl : len = 3 := lenB hl
    exact sd_inst hx hb hown hK hI hs hd kk
  | ifnull off =>
    obtain rfl : len = 3 := lenB hl
    simp only [stp] at hs
    split at hs
    · rename_i v st0
      split at hs
      · rename_i q
        refine sd_br hI hs decide_eq_true_iff kk (fun t ht k1 k2 => ?_)
        rcases isR_or q with rfl | ⟨w, rfl⟩
        · exact lv_ifnullN hx hb hd ht (k1 rfl)
        · exact lv_ifnull hx hb hd (k2 (fun y => by cases y))
      · cases hs
    · cases hs
  | ifnonnull off =>
    obtain rfl : len = 3 := lenB hl
    simp only [stp] at hs
    split at hs
    · rename_i v st0
      split at hs
      · rename_i q
        refine sd_br hI hs decide_eq_true_iff kk (fun t ht k1 k2 => ?_)
        rcases isR_or q with rfl | ⟨w, rfl⟩
        · exact lv_ifnonnullN hx hb hd (k2 (fun y => y rfl))
        · exact lv_ifnonnull hx hb hd ht (k1 (fun y => by cases y))
      · cases hs
    · cases hs
  | if_acmp cc off =>
    obtain rfl : len = 3 := lenB hl
    simp only [stp] at hs
    split at hs
    · rename_i w v st0
      split at hs
      · rename_i q
        have e1 := rf_rOf q.1
        have e2 := rf_rOf q.2
        have inj : rOf v = rOf w ↔ v = w := ⟨fun y => by rw [← e1, ← e2, y], fun y => by rw [y]⟩
        cases cc with
        | eq => exact sd_br hI hs decide_eq_true_iff kk (fun t ht k1 k2 => by rw [← e1, ← e2]; exact lv_acmp_eq hx hb hd ht (fun y => k1 (inj.mp y)) (fun y => k2 (fun y2 => y (inj.mpr y2))))
        | ne => exact sd_br hI hs decide_eq_true_iff kk (fun t ht k1 k2 => by rw [← e1, ← e2]; exact lv_acmp_ne hx hb hd ht (fun y => k1 (fun y2 => y (inj.mpr y2))) (fun y => k2 (fun y2 => y2 (inj.mp y))))
      · cases hs
    · cases hs
  | tableswitch dflt lo hi offs =>
    simp only [stp] at hs
    split at hs
    · rename_i x st0
      split at hs
      · rename_i off ho
        split at hs
        · rename_i t ht
          cases hs
          have kk' := kk H locs cells slots A hI
          by_cases q : x.toInt < lo ∨ hi < x.toInt
          · rw [if_pos q] at ho
            cases ho
            exact lv_tableOut hx hb hd q (jp_eq ht) kk'
          · rw [if_neg q] at ho
            exact lv_tableIn hx hb hd (fun y => q (Or.inl y)) (fun y => q (Or.inr y)) ho (jp_eq ht) kk'
        · cases hs
      · cases hs
    · cases hs
  | ireturn =>
    simp only [stp] at hs
    repeat' first | (cases hs; done) | split at hs
  | lreturn =>
    simp only [stp] at hs
    repeat' first | (cases hs; done) | split at hs
  | areturn =>
    simp only [stp] at hs
    repeat' first | (cases hs; done) | split at hs
  | return_ =>
    simp only [stp] at hs
    repeat' first | (cases hs; done) | split at hs
  | athrow =>
    simp only [stp] at hs
    repeat' first | (cases hs; done) | split at hs
  | invokevirtual i =>
    simp only [stp, calV] at hs
    repeat' first | (cases hs; done) | split at hs
  | invokestatic i =>
    simp only [stp, calS] at hs
    repeat' first | (cases hs; done) | split at hs
  | invokespecial i =>
    simp only [stp, calI] at hs
    repeat' first | (cases hs; done) | split at hs
  | _ => simp [stp] at hs
end
