/-! THE STATE OF A WALK: what is known all through; the locals; the invariant -/
set_option maxRecDepth 100000
noncomputable def onL : List (Nat × String) := [(1, "NameOrchardLaw"), (2, "NameOrchard"), (3, "NameOrchard$Reader"), (4, "NameOrchard$Boughs"), (5, "NameOrchard$Orchard"), (6, "NameOrchard$Facts"), (7, "NameOrchard$Reach"), (8, "NameOrchard$Crops"), (9, "NameOrchard$Weeks"), (10, "NameOrchardModel"), (11, "NameOrchard$Wrong"), (12, "NameOrchard$Apple"), (13, "NameOrchard$Alias"), (14, "NameOrchard$Welsh"), (15, "NameOrchard$Deaf"), (16, "NameOrchard$Sound"), (17, "NameOrchard$Person"), (18, "NameOrchard$Expression"), (19, "NameOrchard$Fact"), (20, "NameOrchard$Plain"), (21, "NameOrchard$Not"), (22, "NameOrchard$Chain"), (23, "NameOrchard$Link"), (24, "NameOrchard$Times"), (25, "NameOrchard$Plus"), (26, "NameOrchard$Minus"), (27, "NameOrchard$Less"), (28, "NameOrchard$Same"), (29, "NameOrchard$And"), (30, "NameOrchard$Or"), (31, "NameOrchard$Line"), (32, "NameOrchard$Calls"), (33, "NameOrchard$Picks"), (34, "NameOrchard$Passes"), (35, "NameOrchard$Mark"), (40, "java/util/AbstractCollection"), (41, "java/util/AbstractList"), (42, "java/util/ArrayList"), (43, "java/util/Objects"), (44, "jdk/internal/util/Preconditions"), (45, "java/lang/String"), (46, "java/lang/StringLatin1"), (47, "java/lang/Math"), (48, "java/lang/StringUTF16"), (49, "java/lang/Character"), (50, "java/lang/Throwable"), (51, "java/lang/Exception"), (52, "jdk/internal/util/ArraysSupport"), (53, "java/util/Arrays"), (54, "java/lang/Number"), (55, "java/lang/Long"), (56, "java/lang/RuntimeException"), (57, "java/util/NoSuchElementException"), (58, "java/lang/Object")]
noncomputable def onm (o : Nat) : String := (lk onL o).getD ""
def nwk (w : Cond) : Bool := match w with
  | .fieldLinkNest _ _ _ _ _ _ => true
  | .methodLinkNest _ _ _ _ => true
  | .castable _ _ => true
  | .declares _ => true
  | .arrayOver (.object _) => true
  | _ => false
noncomputable def strL : List (Nat × Nat × String × Nat) := [(3, 11, "edits", 0), (3, 13, "start", 1), (3, 15, "rhyme", 2), (3, 17, "size", 3), (3, 25, "base", 4), (3, 27, "age", 5), (3, 32, "plain", 6), (3, 34, "alias", 7), (3, 36, "welsh", 8), (3, 38, "deaf", 9), (3, 43, "apple", 10), (3, 45, "at", 11), (3, 47, "ripe", 12), (3, 49, "worth", 13), (3, 51, "twin", 14), (3, 53, "other", 15), (3, 55, "person", 16), (3, 57, "lane", 17), (3, 59, "loud", 18), (3, 61, "stranger", 19), (3, 63, "page", 20), (3, 65, "bann", 21), (3, 67, "near", 22), (3, 69, "value", 23), (3, 71, "call", 24), (3, 73, "pick", 25), (3, 75, "day", 26), (3, 77, "not", 27), (3, 79, "and", 28), (3, 81, "or", 29), (3, 135, "()<=+-*;", 30)]
def KW (D : va_G) (E : Nat → Nat) (U : State) : Prop :=
  (∀ w ∈ lw_all, w.before #[] U = true) ∧ (∀ w ∈ lw_tbl, nwk w = true → va_Nw w U) ∧ (∀ t q, clf t = some q → u_Kn U q.1.1 q.1.2.1 q.1.2.2 (D.1 t) (D.2 t)) ∧
  (∀ r ∈ strL, vk_R (onm r.1) r.2.1 r.2.2.1 (E r.2.2.2) U) ∧ va_Mi "[Ljava/lang/Object;" (E 60) U ∧ va_Nc "NameOrchard$Calls" "NameOrchard$Picks" U ∧ va_Nc "NameOrchard$Passes" "NameOrchard$Picks" U
theorem KW.moved {D : va_G} {E : Nat → Nat} {u U : State} (hW : u.WarmedH U.vm) (k : KW D E u) : KW D E U := by
  obtain ⟨k1, k2, k3, k4, k5, k6, k7⟩ := k
  refine ⟨fun w h => word_at hW (good_of_word (List.mem_filter.mp h).2) (k1 w h), fun w h hw => ?_, fun t q h => u_Kn_moved hW.alike (k3 t q h), fun r h => (k4 r h).warm hW, k5.moved hW.alike, k6.moved hW.alike, k7.moved hW.alike⟩
  have h1 := k2 w h hw
  unfold nwk at hw
  split at hw
  · exact va_Nw.warmF hW h1
  · exact va_Nw.warmM hW h1
  · exact va_Nw.warmC hW h1
  · exact va_Nw.warmD hW h1
  · exact (va_AO.moved (u := u) (U := U) hW.alike h1)
  · cases hw
/-- any argument list will do for a word of the tables -/
theorem KW.wd {D : va_G} {E : Nat → Nat} {U : State} (k : KW D E U) {w : Cond} (h : w ∈ lw_all) {args : Array Value} : w.before args U = true := word_at (State.WarmedH.refl U) (good_of_word (List.mem_filter.mp h).2) (k.1 w h)
/-- a static of Throwable: laid, its value -/
def Zl (C n d : String) (v : Value) (b0 : Nat) (U : State) (H : Heap) : Prop := ∃ (c : ClassId) (k : Class) (i : Nat) (f : Field) (a : Nat) (cell : Cell), U.vm.findClass C = some c ∧ U.fieldFound? C n d = some (c, k, i, f) ∧ f.isStatic = true ∧ k.statics = some a ∧ H[a]? = some cell ∧ cell.vm.isStatics = true ∧ cell.cls = c ∧ f.slot < cell.slots.size ∧ k.staticTypes[f.slot]? = some f.type ∧ cell.slots[f.slot]? = some v ∧ a < b0
theorem Zl.moved {C n d : String} {v : Value} {b0 : Nat} {u U : State} {H : Heap} (hvm : u.vm.Alike U.vm) (h : Zl C n d v b0 u H) : Zl C n d v b0 U H := by
  obtain ⟨c, k, i, f, a, cell, h1, h2, h3, h4, h5, h6, h7, h8, h9, h10, h11⟩ := h
  obtain ⟨k', hi', he⟩ := State.fieldFound?_setVm hvm h2
  exact ⟨c, k', i, f, a, cell, by rw [hvm.findClass]; exact h1, hi', h3, by rw [he]; exact h4, h5, h6, h7, h8, by rw [he]; exact h9, h10, h11⟩
theorem Zl.kept {C n d : String} {v : Value} {b0 : Nat} {U : State} {H H' : Heap} (k : Zl C n d v b0 U H) (e : ∀ q, q < b0 → H'[q]? = H[q]?) : Zl C n d v b0 U H' := by
  obtain ⟨c, k, i, f, a, cell, h1, h2, h3, h4, h5, h6, h7, h8, h9, h10, h11⟩ := k
  exact ⟨c, k, i, f, a, cell, h1, h2, h3, h4, by rw [e a h11]; exact h5, h6, h7, h8, h9, h10, h11⟩
theorem Zl.lays {C n d : String} {v : Value} {b0 : Nat} {U : State} {args : Array Value} (k : Zl C n d v b0 U U.heap) : (Cond.laysStatic C n d).before args U = true := by
  obtain ⟨c, k, i, f, a, cell, h1, h2, h3, h4, h5, h6, h7, h8, h9, h10, h11⟩ := k
  exact Cond.laysStatic_of h1 h2 h3 h4 h5 h6 h7 h8 h9
/-- statics that are read -/
def Sx (E : Nat → Nat) (b0 : Nat) (U : State) (H : Heap) : Prop :=
  va_Z "java/util/ArrayList" "EMPTY_ELEMENTDATA" "[Ljava/lang/Object;" (.ref (E 50)) (fun q => b0 ≤ q) U H ∧ va_Z "java/util/ArrayList" "DEFAULTCAPACITY_EMPTY_ELEMENTDATA" "[Ljava/lang/Object;" (.ref (E 51)) (fun q => b0 ≤ q) U H ∧
  va_Z "java/lang/Long$LongCache" "cache" "[Ljava/lang/Long;" (.ref (E 52)) (fun q => b0 ≤ q) U H ∧ va_Z "java/lang/String" "COMPACT_STRINGS" "Z" (.int 1) (fun q => b0 ≤ q) U H ∧ va_Z "jdk/internal/util/Preconditions" "SIOOBE_FORMATTER" "Ljava/util/function/BiFunction;" (va_rf (pdO (E 53))) (fun q => b0 ≤ q) U H ∧ Zl "java/lang/Throwable" "UNASSIGNED_STACK" "[Ljava/lang/StackTraceElement;" (va_rf (pdO (E 54))) b0 U H ∧ Zl "java/lang/Throwable" "SUPPRESSED_SENTINEL" "Ljava/util/List;" (va_rf (pdO (E 55))) b0 U H
theorem Sx.moved {E : Nat → Nat} {b0 : Nat} {u U : State} {H : Heap} (hvm : u.vm.Alike U.vm) (k : Sx E b0 u H) : Sx E b0 U H := ⟨k.1.moved hvm, k.2.1.moved hvm, k.2.2.1.moved hvm, k.2.2.2.1.moved hvm, k.2.2.2.2.1.moved hvm, k.2.2.2.2.2.1.moved hvm, k.2.2.2.2.2.2.moved hvm⟩
theorem vaZ_kept {C n d : String} {v : Value} {b0 : Nat} {U : State} {H H' : Heap} (k : va_Z C n d v (fun q => b0 ≤ q) U H) (e : ∀ q, q < b0 → H'[q]? = H[q]?) : va_Z C n d v (fun q => b0 ≤ q) U H' := by
  obtain ⟨cf, kf, fi, f, a, cell, h1, h2, h3, h4, h5, h6, h7, h8⟩ := k
  exact ⟨cf, kf, fi, f, a, cell, h1, h2, h3, h4, by rw [e a (Nat.not_le.mp h8)]; exact h5, h6, h7, h8⟩
theorem Sx.kept {E : Nat → Nat} {b0 : Nat} {U : State} {H H' : Heap} (k : Sx E b0 U H) (e : ∀ q, q < b0 → H'[q]? = H[q]?) : Sx E b0 U H' := ⟨vaZ_kept k.1 e, vaZ_kept k.2.1 e, vaZ_kept k.2.2.1 e, vaZ_kept k.2.2.2.1 e, vaZ_kept k.2.2.2.2.1 e, k.2.2.2.2.2.1.kept e, k.2.2.2.2.2.2.kept e⟩
def trk (v : Value) : Bool := match v with
  | .int _ => true
  | .long _ => true
  | .ref _ => true
  | .null => true
  | _ => false
/-- the locals -/
def LR (n : Nat) (ls : List Value) (A : Array Slot) : Prop := A.size = n ∧ lv_wf A ∧ ls.length = n ∧ ∀ (i : Nat) (v : Value), ls[i]? = some v → trk v = true → A[i]? = some (.val v)
noncomputable def lrl : Nat → List Value → List (Nat × Value)
  | _, [] => []
  | i, v :: vs => if trk v = true then (i, v) :: lrl (i + 1) vs else lrl (i + 1) vs
theorem lrl_mem {v : Value} : ∀ {vs : List Value} {i j : Nat}, (j, v) ∈ lrl i vs → i ≤ j ∧ vs[j - i]? = some v ∧ trk v = true := by
  intro vs
  induction vs with
  | nil => intro i j h; simp [lrl] at h
  | cons w ws ih =>
    intro i j h
    rw [lrl] at h
    by_cases e : trk w = true
    · rw [if_pos e] at h
      rcases List.mem_cons.mp h with q | q
      · cases q
        exact ⟨Nat.le_refl _, by simp, e⟩
      · obtain ⟨h1, h2, h3⟩ := ih q
        refine ⟨by omega, ?_, h3⟩
        rw [show j - i = (j - (i + 1)) + 1 by omega]
        simpa using h2
    · rw [if_neg e] at h
      obtain ⟨h1, h2, h3⟩ := ih h
      refine ⟨by omega, ?_, h3⟩
      rw [show j - i = (j - (i + 1)) + 1 by omega]
      simpa using h2
theorem mem_lrl {v : Value} : ∀ {vs : List Value} {i j : Nat}, vs[j]? = some v → trk v = true → (i + j, v) ∈ lrl i vs := by
  intro vs
  induction vs with
  | nil => intro i j h; simp at h
  | cons w ws ih =>
    intro i j h ht
    rw [lrl]
    cases j with
    | zero =>
      simp at h
      subst h
      rw [if_pos ht]
      exact List.mem_cons_self
    | succ j =>
      have h1 : (i + 1 + j, v) ∈ lrl (i + 1) ws := ih (by simpa using h) ht
      rw [show i + (j + 1) = i + 1 + j by omega]
      by_cases e : trk w = true
      · rw [if_pos e]; exact List.mem_cons_of_mem _ h1
      · rw [if_neg e]; exact h1
theorem LR.has {n : Nat} {ls : List Value} {A : Array Slot} (h : LR n ls A) : lv_has A n (lrl 0 ls) := by
  refine ⟨h.1, h.2.1, fun q hq => ?_⟩
  obtain ⟨-, h2, h3⟩ := lrl_mem (v := q.2) (j := q.1) hq
  exact h.2.2.2 q.1 q.2 (by simpa using h2) h3
/-- behind a store of one slot -/
theorem LR.st1 {n i : Nat} {ls : List Value} {A A' : Array Slot} {v : Value} (h : LR n ls A) (hi : i < ls.length) (hp : pvl ls i = true) (h' : lv_has A' n ((i, v) :: (lrl 0 ls).filter (fun q => !(q.1 == i) && !(q.1 + 1 == i && q.2.category == 2)))) : LR n (ls.set i v) A' := by
  refine ⟨h'.1, h'.2.1, by rw [List.length_set]; exact h.2.2.1, fun j w hw ht => ?_⟩
  by_cases e : j = i
  · subst e
    rw [List.getElem?_set_self hi] at hw
    cases hw
    exact h'.2.2 (j, v) List.mem_cons_self
  · rw [List.getElem?_set_ne (Ne.symm e)] at hw
    refine h'.2.2 (j, w) (List.mem_cons_of_mem _ (List.mem_filter.mpr ⟨by simpa using mem_lrl (i := 0) hw ht, ?_⟩))
    by_cases e2 : j + 1 = i
    · subst e2
      have hp : nl (ls.getD j un) = true := hp
      have : ls.getD j un = w := by simp [List.getD, hw]
      rw [this] at hp
      have hc : w.category = 1 := by cases w <;> first | rfl | cases hp
      simp [e, hc]
    · simp [e, e2]
theorem LR.st2 {n i : Nat} {ls : List Value} {A A' : Array Slot} {v : Value} (h : LR n ls A) (hi : i + 1 < ls.length) (hp : pvl ls i = true) (h' : lv_has A' n ((i, v) :: (lrl 0 ls).filter (fun q => !(q.1 == i) && (!(q.1 == i + 1) && !(q.1 + 1 == i && q.2.category == 2))))) : LR n ((ls.set i v).set (i + 1) un) A' := by
  refine ⟨h'.1, h'.2.1, by rw [List.length_set, List.length_set]; exact h.2.2.1, fun j w hw ht => ?_⟩
  by_cases e1 : j = i + 1
  · subst e1
    rw [List.getElem?_set_self (by rw [List.length_set]; exact hi)] at hw
    cases hw
    cases ht
  rw [List.getElem?_set_ne (Ne.symm e1)] at hw
  by_cases e : j = i
  · subst e
    rw [List.getElem?_set_self (by omega)] at hw
    cases hw
    exact h'.2.2 (j, v) List.mem_cons_self
  · rw [List.getElem?_set_ne (Ne.symm e)] at hw
    refine h'.2.2 (j, w) (List.mem_cons_of_mem _ (List.mem_filter.mpr ⟨by simpa using mem_lrl (i := 0) hw ht, ?_⟩))
    by_cases e2 : j + 1 = i
    · subst e2
      have hp : nl (ls.getD j un) = true := hp
      have : ls.getD j un = w := by simp [List.getD, hw]
      rw [this] at hp
      have hc : w.category = 1 := by cases w <;> first | rfl | cases hp
      simp [e, e1, hc]
    · simp [e, e1, e2]
/-- the invariant of a walk -/
def Iv (D : va_G) (E : Nat → Nat) (k b0 c0 s0 : Nat) (s : State) (h : AH) (H : Heap) (locs : List Loc) (cells slots : Nat) (ls : List Value) (A : Array Slot) : Prop :=
  Rp D s h H ∧ Sx E b0 s H ∧ LR (mL k) ls A ∧ Nc h = c0 + cells ∧ Ns h = s0 + slots ∧ (∀ q ∈ locs, b0 ≤ q.base) ∧ Ev h = E ∧ Bs h = b0
