/-! THE HEAP OF THE ABSTRACT MACHINE IN THE REAL ONE -/
set_option maxRecDepth 100000
noncomputable def eNm (t : Nat) : String := match elc t with
  | some 1 => "java/lang/String"
  | some 2 => "NameOrchard$Boughs"
  | some 3 => "NameOrchard$Mark"
  | _ => if t = 5903 then "java/lang/Long" else "java/lang/Object"
noncomputable def aTy (t : Nat) : FieldType := if t < 2000 then .int else if t < 3000 then .boolean else if t < 4000 then .long else if t < 5000 then .byte else .object (eNm t)
noncomputable def aVl (h : AH) (a j : Nat) : Value := if Tg h a < 3000 then .int (Ai h a j) else if Tg h a < 4000 then .long (Al h a j) else if Tg h a < 5000 then .int (Ai h a j) else va_rf (Ar h a j)
/-- an object of our own -/
def ObOk (D : va_G) (h : AH) (H : Heap) (a : Nat) (q : vw_C × (Nat → FieldType) × List Nat) : Prop := ∃ V : Nat → Value, t_OB a (D.1 (Tg h a)) q.1.2.2 (D.2 (Tg h a)) H V ∧ (∀ k, k < q.1.2.2 → fTh (q.2.2.getD k 999) = false → V k = rdF h (q.2.2.getD k 999) a) ∧ ∃ cell : Cell, H[a]? = some cell ∧ cell.monitor = {}
/-- an object that was there before: its class, one field -/
def OlOk (U : State) (h : AH) (H : Heap) (a : Nat) (C : String) (fs : List (String × String × Nat)) : Prop := ∃ cell : Cell, H[a]? = some cell ∧ cell.vm.isStatics = false ∧ cell.vm ≠ .unknown ∧ U.vm.findClass C = some cell.cls ∧ ∀ q ∈ fs, ∃ (cf : ClassId) (k : Class) (i : Nat) (f : Field), U.fieldFound? C q.1 q.2.1 = some (cf, k, i, f) ∧ f.isStatic = false ∧ cell.slots[f.slot]? = some (rdF h q.2.2 a)
def ArOk (U : State) (h : AH) (H : Heap) (a : Nat) : Prop := ∃ cell : Cell, H[a]? = some cell ∧ U.isArrayOf cell (aTy (Tg h a)) ∧ cell.vm ≠ .unknown ∧ cell.slots.size = An h a ∧ (∀ j, j < An h a → cell.slots[j]? = some (aVl h a j)) ∧ (Tg h a % 1000 < 900 → va_RA U cell.cls (aTy (Tg h a)))
noncomputable def strF : List (String × String × Nat) := [("value", "[B", 200), ("coder", "B", 201)]
noncomputable def lngF : List (String × String × Nat) := [("value", "J", 182)]
def Rp (D : va_G) (U : State) (h : AH) (H : Heap) : Prop :=
  H.size = Nx h ∧ (∀ a q, clf (Tg h a) = some q → ObOk D h H a q) ∧ (∀ a, Tg h a = 45 → OlOk U h H a "java/lang/String" strF) ∧ (∀ a, Tg h a = 155 → OlOk U h H a "java/lang/Long" lngF) ∧ (∀ a, 1000 ≤ Tg h a → Tg h a < 6000 ∧ ArOk U h H a) ∧
  (∀ a, (clf (Tg h a)).isSome = true → Bs h ≤ a) ∧ (∀ a, 1000 ≤ Tg h a → Tg h a % 1000 < 900 → Bs h ≤ a) ∧ (∀ a i y, elc (Tg h a) = some 0 → i < An h a → Ar h a i = some y → aAsB 0 (Tg h y) = true)
/-! reading the heap's maps behind a change -/
section
variable {h : AH} {f a b j t n : Nat} {v : Int32} {w : Int64} {r : Option Nat} {g : Nat → Int32} {g2 : Nat → Int64} {g3 : Nat → Option Nat}
theorem Tg_sFi : Tg (sFi h f a v) = Tg h := rfl
theorem Tg_sFl : Tg (sFl h f a w) = Tg h := rfl
theorem Tg_sFr : Tg (sFr h f a r) = Tg h := rfl
theorem Tg_sAi : Tg (sAi h a g) = Tg h := rfl
theorem Tg_sAl : Tg (sAl h a g2) = Tg h := rfl
theorem Tg_sAr : Tg (sAr h a g3) = Tg h := rfl
theorem An_sFi : An (sFi h f a v) = An h := rfl
theorem An_sFl : An (sFl h f a w) = An h := rfl
theorem An_sFr : An (sFr h f a r) = An h := rfl
theorem An_sAi : An (sAi h a g) = An h := rfl
theorem An_sAl : An (sAl h a g2) = An h := rfl
theorem An_sAr : An (sAr h a g3) = An h := rfl
theorem Fi_sFi : Fi (sFi h f a v) = up2 (Fi h) f a v := rfl
theorem Fi_sFl : Fi (sFl h f a w) = Fi h := rfl
theorem Fi_sFr : Fi (sFr h f a r) = Fi h := rfl
theorem Fi_sAi : Fi (sAi h a g) = Fi h := rfl
theorem Fi_sAl : Fi (sAl h a g2) = Fi h := rfl
theorem Fi_sAr : Fi (sAr h a g3) = Fi h := rfl
theorem Fl_sFi : Fl (sFi h f a v) = Fl h := rfl
theorem Fl_sFl : Fl (sFl h f a w) = up2 (Fl h) f a w := rfl
theorem Fl_sFr : Fl (sFr h f a r) = Fl h := rfl
theorem Fl_sAi : Fl (sAi h a g) = Fl h := rfl
theorem Fl_sAl : Fl (sAl h a g2) = Fl h := rfl
theorem Fl_sAr : Fl (sAr h a g3) = Fl h := rfl
theorem Fr_sFi : Fr (sFi h f a v) = Fr h := rfl
theorem Fr_sFl : Fr (sFl h f a w) = Fr h := rfl
theorem Fr_sFr : Fr (sFr h f a r) = up2 (Fr h) f a r := rfl
theorem Fr_sAi : Fr (sAi h a g) = Fr h := rfl
theorem Fr_sAl : Fr (sAl h a g2) = Fr h := rfl
theorem Fr_sAr : Fr (sAr h a g3) = Fr h := rfl
theorem Ai_sFi : Ai (sFi h f a v) = Ai h := rfl
theorem Ai_sFl : Ai (sFl h f a w) = Ai h := rfl
theorem Ai_sFr : Ai (sFr h f a r) = Ai h := rfl
theorem Ai_sAi : Ai (sAi h a g) = at2 (Ai h) a g := rfl
theorem Ai_sAl : Ai (sAl h a g2) = Ai h := rfl
theorem Ai_sAr : Ai (sAr h a g3) = Ai h := rfl
theorem Al_sFi : Al (sFi h f a v) = Al h := rfl
theorem Al_sFl : Al (sFl h f a w) = Al h := rfl
theorem Al_sFr : Al (sFr h f a r) = Al h := rfl
theorem Al_sAi : Al (sAi h a g) = Al h := rfl
theorem Al_sAl : Al (sAl h a g2) = at2 (Al h) a g2 := rfl
theorem Al_sAr : Al (sAr h a g3) = Al h := rfl
theorem Ar_sFi : Ar (sFi h f a v) = Ar h := rfl
theorem Ar_sFl : Ar (sFl h f a w) = Ar h := rfl
theorem Ar_sFr : Ar (sFr h f a r) = Ar h := rfl
theorem Ar_sAi : Ar (sAi h a g) = Ar h := rfl
theorem Ar_sAl : Ar (sAl h a g2) = Ar h := rfl
theorem Ar_sAr : Ar (sAr h a g3) = at2 (Ar h) a g3 := rfl
theorem at2_s {α : Type} {F : Nat → Nat → α} {G : Nat → α} : at2 F a G a = G := if_pos rfl
theorem at2_n {α : Type} {F : Nat → Nat → α} {G : Nat → α} (e : b ≠ a) : at2 F a G b = F b := if_neg e
theorem up2_s {α : Type} {F : Nat → Nat → α} {x : α} : up2 F f a x f a = x := if_pos ⟨rfl, rfl⟩
theorem up2_nf {α : Type} {F : Nat → Nat → α} {x : α} (e : j ≠ f) : up2 F f a x j b = F j b := if_neg fun q => e q.1
theorem up2_na {α : Type} {F : Nat → Nat → α} {x : α} (e : b ≠ a) : up2 F f a x j b = F j b := if_neg fun q => e q.2
theorem Nx_nCe : Nx (nCe h t n) = Nx h + 1 := rfl
theorem Tg_nCe : Tg (nCe h t n) b = if b = Nx h then t else Tg h b := by
  show (if b < Nx h + 1 then (if b = Nx h then t else h.1 b) else 0) = if b = Nx h then t else (if b < Nx h then h.1 b else 0)
  by_cases e : b = Nx h
  · subst e; simp
  · rw [if_neg e, if_neg e]
    by_cases e2 : b < Nx h
    · rw [if_pos e2, if_pos (Nat.lt_succ_of_lt e2)]
    · rw [if_neg e2, if_neg (by omega)]
theorem Tg_lt (e : Tg h a ≠ 0) : a < Nx h := by
  by_cases q : a < Nx h
  · exact q
  · exact absurd (if_neg q) e
theorem Tg_nCe_o (e : Tg h a ≠ 0) : Tg (nCe h t n) a = Tg h a := by rw [Tg_nCe, if_neg (by have := Tg_lt e; omega)]
end
/-! under other tables -/
theorem ArOk.moved {u U : State} {h : AH} {H : Heap} {a : Nat} (hvm : u.vm.Alike U.vm) (k : ArOk u h H a) : ArOk U h H a := by
  obtain ⟨cell, h1, h2, h3, h4, h5, h6⟩ := k
  exact ⟨cell, h1, State.isArrayOf_alike hvm h2, h3, h4, h5, fun q => (h6 q).moved hvm⟩
theorem OlOk.moved {u U : State} {h : AH} {H : Heap} {a : Nat} {C : String} {fs : List (String × String × Nat)} (hvm : u.vm.Alike U.vm) (k : OlOk u h H a C fs) : OlOk U h H a C fs := by
  obtain ⟨cell, h1, h2, h3, h4, h5⟩ := k
  refine ⟨cell, h1, h2, h3, by rw [hvm.findClass]; exact h4, fun q hq => ?_⟩
  obtain ⟨cf, k, i, f, g1, g2, g3⟩ := h5 q hq
  obtain ⟨k', hi', -⟩ := State.fieldFound?_setVm hvm g1
  exact ⟨cf, k', i, f, hi', g2, g3⟩
theorem Rp.moved {D : va_G} {u U : State} {h : AH} {H : Heap} (hvm : u.vm.Alike U.vm) (k : Rp D u h H) : Rp D U h H := by
  obtain ⟨h1, h2, h3, h4, h5, h6, h7, h8⟩ := k
  exact ⟨h1, h2, fun a e => (h3 a e).moved hvm, fun a e => (h4 a e).moved hvm, fun a e => ⟨(h5 a e).1, (h5 a e).2.moved hvm⟩, h6, h7, h8⟩
/-! cells that stay -/
theorem ObOk.kept {D : va_G} {h h' : AH} {H H' : Heap} {a : Nat} {q : vw_C × (Nat → FieldType) × List Nat} (k : ObOk D h H a q) (e : H'[a]? = H[a]?) (et : Tg h' a = Tg h a) (er : ∀ f, rdF h' f a = rdF h f a) : ObOk D h' H' a q := by
  obtain ⟨V, k1, k2, k3⟩ := k
  exact ⟨V, by rw [et]; exact k1.kept e, fun j hj ht => by rw [er]; exact k2 j hj ht, by rw [e]; exact k3⟩
theorem OlOk.kept {U : State} {h h' : AH} {H H' : Heap} {a : Nat} {C : String} {fs : List (String × String × Nat)} (k : OlOk U h H a C fs) (e : H'[a]? = H[a]?) (er : ∀ f, rdF h' f a = rdF h f a) : OlOk U h' H' a C fs := by
  obtain ⟨cell, h1, h2, h3, h4, h5⟩ := k
  exact ⟨cell, by rw [e]; exact h1, h2, h3, h4, fun q hq => by rw [er]; exact h5 q hq⟩
theorem ArOk.kept {U : State} {h h' : AH} {H H' : Heap} {a : Nat} (k : ArOk U h H a) (e : H'[a]? = H[a]?) (et : Tg h' a = Tg h a) (en : An h' a = An h a) (ev : ∀ j, aVl h' a j = aVl h a j) : ArOk U h' H' a := by
  obtain ⟨cell, h1, h2, h3, h4, h5, h6⟩ := k
  refine ⟨cell, by rw [e]; exact h1, by rw [et]; exact h2, h3, by rw [en]; exact h4, fun j hj => ?_, fun q => ?_⟩
  · rw [ev]; exact h5 j (by rw [en] at hj; exact hj)
  · rw [et] at q ⊢; exact h6 q
