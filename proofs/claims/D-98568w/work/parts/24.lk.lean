/-! THE TABLES' ENTRIES AND THEIR WORDS (printed by gen_lk.py) -/
set_option maxRecDepth 100000
theorem tab_at {α : Type} {T : List (Nat × α)} {P : Nat → Nat → α → Prop} (h : ∀ e ∈ T, P (e.1 / 10000) (e.1 % 10000) e.2) {o i : Nat} {v : α} (hv : (if i < 10000 then lk T (o * 10000 + i) else none) = some v) : P o i v := by
  by_cases hi : i < 10000
  · rw [if_pos hi] at hv
    have := h _ (lk_mem hv)
    rw [show (o * 10000 + i) / 10000 = o by omega, show (o * 10000 + i) % 10000 = i by omega] at this
    exact this
  · rw [if_neg hi] at hv
    cases hv
def FFd (f : Nat) (ref nm ds : String) : Prop := ∀ t q, clf t = some q → t ∈ fCl f → ∃ k, k < q.1.2.2 ∧ q.2.2.getD k 999 = f ∧ (q.1.2.1 k).2.1 = nm ∧ (q.1.2.1 k).2.2.1 = ds ∧ ((q.1.2.1 k).1 = ref ∨ (fFn f = 0 ∧ Cond.sameField ref (q.1.2.1 k).1 nm ds ∈ lw_all))
def FLk (o i f : Nat) : Prop := ∃ ref nm ds, (Cond.fieldLink (onm o) i ref nm ds ∈ lw_all ∨ ∃ host, Cond.fieldLinkNest (onm o) i ref nm ds host ∈ lw_tbl) ∧ FFd f ref nm ds ∧ (fFn f ≠ 0 → fFn f ≠ 99 → ref = onm (fFn f)) ∧ (f = 200 → ref = "java/lang/String" ∧ nm = "value" ∧ ds = "[B") ∧ (f = 201 → ref = "java/lang/String" ∧ nm = "coder" ∧ ds = "B") ∧ (f = 182 → ref = "java/lang/Long" ∧ nm = "value" ∧ ds = "J")
theorem ff_0_0 : FFd 0 "NameOrchard" "reader" "LNameOrchard$Reader;" := by
  intro t q hq ht
  rw [show fCl 0 = [2] from rfl] at ht
  simp only [List.mem_cons, List.not_mem_nil, or_false] at ht
  rcases ht with rfl
  · rw [show clf 2 = some ((RX1, TX1, 12), tyX1, [0, 1, 2, 3, 4, 5, 6, 7, 8, 9, 10, 11]) from rfl] at hq; cases hq; exact ⟨0, by decide, rfl, rfl, rfl, Or.inl rfl⟩
theorem ff_1_1 : FFd 1 "NameOrchard" "boughs" "LNameOrchard$Boughs;" := by
  intro t q hq ht
  rw [show fCl 1 = [2] from rfl] at ht
  simp only [List.mem_cons, List.not_mem_nil, or_false] at ht
  rcases ht with rfl
  · rw [show clf 2 = some ((RX1, TX1, 12), tyX1, [0, 1, 2, 3, 4, 5, 6, 7, 8, 9, 10, 11]) from rfl] at hq; cases hq; exact ⟨1, by decide, rfl, rfl, rfl, Or.inl rfl⟩
theorem ff_2_2 : FFd 2 "NameOrchard" "trial" "LNameOrchard$Boughs;" := by
  intro t q hq ht
  rw [show fCl 2 = [2] from rfl] at ht
  simp only [List.mem_cons, List.not_mem_nil, or_false] at ht
  rcases ht with rfl
  · rw [show clf 2 = some ((RX1, TX1, 12), tyX1, [0, 1, 2, 3, 4, 5, 6, 7, 8, 9, 10, 11]) from rfl] at hq; cases hq; exact ⟨2, by decide, rfl, rfl, rfl, Or.inl rfl⟩
theorem ff_3_3 : FFd 3 "NameOrchard" "days" "Ljava/util/ArrayList;" := by
  intro t q hq ht
  rw [show fCl 3 = [2] from rfl] at ht
  simp only [List.mem_cons, List.not_mem_nil, or_false] at ht
  rcases ht with rfl
  · rw [show clf 2 = some ((RX1, TX1, 12), tyX1, [0, 1, 2, 3, 4, 5, 6, 7, 8, 9, 10, 11]) from rfl] at hq; cases hq; exact ⟨3, by decide, rfl, rfl, rfl, Or.inl rfl⟩
theorem ff_4_4 : FFd 4 "NameOrchard" "lies" "[I" := by
  intro t q hq ht
  rw [show fCl 4 = [2] from rfl] at ht
  simp only [List.mem_cons, List.not_mem_nil, or_false] at ht
  rcases ht with rfl
  · rw [show clf 2 = some ((RX1, TX1, 12), tyX1, [0, 1, 2, 3, 4, 5, 6, 7, 8, 9, 10, 11]) from rfl] at hq; cases hq; exact ⟨4, by decide, rfl, rfl, rfl, Or.inl rfl⟩
theorem ff_5_5 : FFd 5 "NameOrchard" "told" "Ljava/util/ArrayList;" := by
  intro t q hq ht
  rw [show fCl 5 = [2] from rfl] at ht
  simp only [List.mem_cons, List.not_mem_nil, or_false] at ht
  rcases ht with rfl
  · rw [show clf 2 = some ((RX1, TX1, 12), tyX1, [0, 1, 2, 3, 4, 5, 6, 7, 8, 9, 10, 11]) from rfl] at hq; cases hq; exact ⟨5, by decide, rfl, rfl, rfl, Or.inl rfl⟩
theorem ff_6_6 : FFd 6 "NameOrchard" "behind" "Ljava/util/ArrayList;" := by
  intro t q hq ht
  rw [show fCl 6 = [2] from rfl] at ht
  simp only [List.mem_cons, List.not_mem_nil, or_false] at ht
  rcases ht with rfl
  · rw [show clf 2 = some ((RX1, TX1, 12), tyX1, [0, 1, 2, 3, 4, 5, 6, 7, 8, 9, 10, 11]) from rfl] at hq; cases hq; exact ⟨6, by decide, rfl, rfl, rfl, Or.inl rfl⟩
theorem ff_7_7 : FFd 7 "NameOrchard" "reach" "LNameOrchard$Reach;" := by
  intro t q hq ht
  rw [show fCl 7 = [2] from rfl] at ht
  simp only [List.mem_cons, List.not_mem_nil, or_false] at ht
  rcases ht with rfl
  · rw [show clf 2 = some ((RX1, TX1, 12), tyX1, [0, 1, 2, 3, 4, 5, 6, 7, 8, 9, 10, 11]) from rfl] at hq; cases hq; exact ⟨7, by decide, rfl, rfl, rfl, Or.inl rfl⟩
theorem ff_8_8 : FFd 8 "NameOrchard" "crops" "LNameOrchard$Crops;" := by
  intro t q hq ht
  rw [show fCl 8 = [2] from rfl] at ht
  simp only [List.mem_cons, List.not_mem_nil, or_false] at ht
  rcases ht with rfl
  · rw [show clf 2 = some ((RX1, TX1, 12), tyX1, [0, 1, 2, 3, 4, 5, 6, 7, 8, 9, 10, 11]) from rfl] at hq; cases hq; exact ⟨8, by decide, rfl, rfl, rfl, Or.inl rfl⟩
theorem ff_9_9 : FFd 9 "NameOrchard" "weeks" "LNameOrchard$Weeks;" := by
  intro t q hq ht
  rw [show fCl 9 = [2] from rfl] at ht
  simp only [List.mem_cons, List.not_mem_nil, or_false] at ht
  rcases ht with rfl
  · rw [show clf 2 = some ((RX1, TX1, 12), tyX1, [0, 1, 2, 3, 4, 5, 6, 7, 8, 9, 10, 11]) from rfl] at hq; cases hq; exact ⟨9, by decide, rfl, rfl, rfl, Or.inl rfl⟩
theorem ff_10_10 : FFd 10 "NameOrchard" "g" "J" := by
  intro t q hq ht
  rw [show fCl 10 = [2] from rfl] at ht
  simp only [List.mem_cons, List.not_mem_nil, or_false] at ht
  rcases ht with rfl
  · rw [show clf 2 = some ((RX1, TX1, 12), tyX1, [0, 1, 2, 3, 4, 5, 6, 7, 8, 9, 10, 11]) from rfl] at hq; cases hq; exact ⟨10, by decide, rfl, rfl, rfl, Or.inl rfl⟩
theorem ff_11_11 : FFd 11 "NameOrchard" "marks" "[LNameOrchard$Mark;" := by
  intro t q hq ht
  rw [show fCl 11 = [2] from rfl] at ht
  simp only [List.mem_cons, List.not_mem_nil, or_false] at ht
  rcases ht with rfl
  · rw [show clf 2 = some ((RX1, TX1, 12), tyX1, [0, 1, 2, 3, 4, 5, 6, 7, 8, 9, 10, 11]) from rfl] at hq; cases hq; exact ⟨11, by decide, rfl, rfl, rfl, Or.inl rfl⟩
theorem ff_12_12 : FFd 12 "NameOrchard$Reader" "nearFacts" "[Ljava/lang/String;" := by
  intro t q hq ht
  rw [show fCl 12 = [3] from rfl] at ht
  simp only [List.mem_cons, List.not_mem_nil, or_false] at ht
  rcases ht with rfl
  · rw [show clf 3 = some ((RX2, TX2, 13), tyX2, [12, 13, 14, 15, 16, 17, 18, 19, 20, 21, 22, 23, 24]) from rfl] at hq; cases hq; exact ⟨0, by decide, rfl, rfl, rfl, Or.inl rfl⟩
theorem ff_13_13 : FFd 13 "NameOrchard$Reader" "valueFacts" "[Ljava/lang/String;" := by
  intro t q hq ht
  rw [show fCl 13 = [3] from rfl] at ht
  simp only [List.mem_cons, List.not_mem_nil, or_false] at ht
  rcases ht with rfl
  · rw [show clf 3 = some ((RX2, TX2, 13), tyX2, [12, 13, 14, 15, 16, 17, 18, 19, 20, 21, 22, 23, 24]) from rfl] at hq; cases hq; exact ⟨1, by decide, rfl, rfl, rfl, Or.inl rfl⟩
theorem ff_14_14 : FFd 14 "NameOrchard$Reader" "kinds" "[Ljava/lang/String;" := by
  intro t q hq ht
  rw [show fCl 14 = [3] from rfl] at ht
  simp only [List.mem_cons, List.not_mem_nil, or_false] at ht
  rcases ht with rfl
  · rw [show clf 3 = some ((RX2, TX2, 13), tyX2, [12, 13, 14, 15, 16, 17, 18, 19, 20, 21, 22, 23, 24]) from rfl] at hq; cases hq; exact ⟨2, by decide, rfl, rfl, rfl, Or.inl rfl⟩
theorem ff_15_15 : FFd 15 "NameOrchard$Reader" "kept" "[Ljava/lang/String;" := by
  intro t q hq ht
  rw [show fCl 15 = [3] from rfl] at ht
  simp only [List.mem_cons, List.not_mem_nil, or_false] at ht
  rcases ht with rfl
  · rw [show clf 3 = some ((RX2, TX2, 13), tyX2, [12, 13, 14, 15, 16, 17, 18, 19, 20, 21, 22, 23, 24]) from rfl] at hq; cases hq; exact ⟨3, by decide, rfl, rfl, rfl, Or.inl rfl⟩
theorem ff_16_16 : FFd 16 "NameOrchard$Reader" "draft" "LNameOrchard$Orchard;" := by
  intro t q hq ht
  rw [show fCl 16 = [3] from rfl] at ht
  simp only [List.mem_cons, List.not_mem_nil, or_false] at ht
  rcases ht with rfl
  · rw [show clf 3 = some ((RX2, TX2, 13), tyX2, [12, 13, 14, 15, 16, 17, 18, 19, 20, 21, 22, 23, 24]) from rfl] at hq; cases hq; exact ⟨4, by decide, rfl, rfl, rfl, Or.inl rfl⟩
theorem ff_17_17 : FFd 17 "NameOrchard$Reader" "facts" "[Ljava/lang/String;" := by
  intro t q hq ht
  rw [show fCl 17 = [3] from rfl] at ht
  simp only [List.mem_cons, List.not_mem_nil, or_false] at ht
  rcases ht with rfl
  · rw [show clf 3 = some ((RX2, TX2, 13), tyX2, [12, 13, 14, 15, 16, 17, 18, 19, 20, 21, 22, 23, 24]) from rfl] at hq; cases hq; exact ⟨5, by decide, rfl, rfl, rfl, Or.inl rfl⟩
theorem ff_18_18 : FFd 18 "NameOrchard$Reader" "tape" "[I" := by
  intro t q hq ht
  rw [show fCl 18 = [3] from rfl] at ht
  simp only [List.mem_cons, List.not_mem_nil, or_false] at ht
  rcases ht with rfl
  · rw [show clf 3 = some ((RX2, TX2, 13), tyX2, [12, 13, 14, 15, 16, 17, 18, 19, 20, 21, 22, 23, 24]) from rfl] at hq; cases hq; exact ⟨6, by decide, rfl, rfl, rfl, Or.inl rfl⟩
theorem ff_19_19 : FFd 19 "NameOrchard$Reader" "taped" "I" := by
  intro t q hq ht
  rw [show fCl 19 = [3] from rfl] at ht
  simp only [List.mem_cons, List.not_mem_nil, or_false] at ht
  rcases ht with rfl
  · rw [show clf 3 = some ((RX2, TX2, 13), tyX2, [12, 13, 14, 15, 16, 17, 18, 19, 20, 21, 22, 23, 24]) from rfl] at hq; cases hq; exact ⟨7, by decide, rfl, rfl, rfl, Or.inl rfl⟩
theorem ff_20_20 : FFd 20 "NameOrchard$Reader" "sort" "[I" := by
  intro t q hq ht
  rw [show fCl 20 = [3] from rfl] at ht
  simp only [List.mem_cons, List.not_mem_nil, or_false] at ht
  rcases ht with rfl
  · rw [show clf 3 = some ((RX2, TX2, 13), tyX2, [12, 13, 14, 15, 16, 17, 18, 19, 20, 21, 22, 23, 24]) from rfl] at hq; cases hq; exact ⟨8, by decide, rfl, rfl, rfl, Or.inl rfl⟩
theorem ff_21_21 : FFd 21 "NameOrchard$Reader" "value" "[J" := by
  intro t q hq ht
  rw [show fCl 21 = [3] from rfl] at ht
  simp only [List.mem_cons, List.not_mem_nil, or_false] at ht
  rcases ht with rfl
  · rw [show clf 3 = some ((RX2, TX2, 13), tyX2, [12, 13, 14, 15, 16, 17, 18, 19, 20, 21, 22, 23, 24]) from rfl] at hq; cases hq; exact ⟨9, by decide, rfl, rfl, rfl, Or.inl rfl⟩
theorem ff_22_22 : FFd 22 "NameOrchard$Reader" "place" "[I" := by
  intro t q hq ht
  rw [show fCl 22 = [3] from rfl] at ht
  simp only [List.mem_cons, List.not_mem_nil, or_false] at ht
  rcases ht with rfl
  · rw [show clf 3 = some ((RX2, TX2, 13), tyX2, [12, 13, 14, 15, 16, 17, 18, 19, 20, 21, 22, 23, 24]) from rfl] at hq; cases hq; exact ⟨10, by decide, rfl, rfl, rfl, Or.inl rfl⟩
theorem ff_23_23 : FFd 23 "NameOrchard$Reader" "at" "I" := by
  intro t q hq ht
  rw [show fCl 23 = [3] from rfl] at ht
  simp only [List.mem_cons, List.not_mem_nil, or_false] at ht
  rcases ht with rfl
  · rw [show clf 3 = some ((RX2, TX2, 13), tyX2, [12, 13, 14, 15, 16, 17, 18, 19, 20, 21, 22, 23, 24]) from rfl] at hq; cases hq; exact ⟨11, by decide, rfl, rfl, rfl, Or.inl rfl⟩
theorem ff_24_24 : FFd 24 "NameOrchard$Reader" "deep" "I" := by
  intro t q hq ht
  rw [show fCl 24 = [3] from rfl] at ht
  simp only [List.mem_cons, List.not_mem_nil, or_false] at ht
  rcases ht with rfl
  · rw [show clf 3 = some ((RX2, TX2, 13), tyX2, [12, 13, 14, 15, 16, 17, 18, 19, 20, 21, 22, 23, 24]) from rfl] at hq; cases hq; exact ⟨12, by decide, rfl, rfl, rfl, Or.inl rfl⟩
theorem ff_25_25 : FFd 25 "NameOrchard$Boughs" "orchard" "LNameOrchard$Orchard;" := by
  intro t q hq ht
  rw [show fCl 25 = [4] from rfl] at ht
  simp only [List.mem_cons, List.not_mem_nil, or_false] at ht
  rcases ht with rfl
  · rw [show clf 4 = some ((RX3, TX3, 7), tyX3, [25, 26, 27, 28, 29, 30, 31]) from rfl] at hq; cases hq; exact ⟨0, by decide, rfl, rfl, rfl, Or.inl rfl⟩
theorem ff_26_26 : FFd 26 "NameOrchard$Boughs" "hang" "I" := by
  intro t q hq ht
  rw [show fCl 26 = [4] from rfl] at ht
  simp only [List.mem_cons, List.not_mem_nil, or_false] at ht
  rcases ht with rfl
  · rw [show clf 4 = some ((RX3, TX3, 7), tyX3, [25, 26, 27, 28, 29, 30, 31]) from rfl] at hq; cases hq; exact ⟨1, by decide, rfl, rfl, rfl, Or.inl rfl⟩
theorem ff_27_27 : FFd 27 "NameOrchard$Boughs" "loose" "I" := by
  intro t q hq ht
  rw [show fCl 27 = [4] from rfl] at ht
  simp only [List.mem_cons, List.not_mem_nil, or_false] at ht
  rcases ht with rfl
  · rw [show clf 4 = some ((RX3, TX3, 7), tyX3, [25, 26, 27, 28, 29, 30, 31]) from rfl] at hq; cases hq; exact ⟨2, by decide, rfl, rfl, rfl, Or.inl rfl⟩
theorem ff_28_28 : FFd 28 "NameOrchard$Boughs" "sounds" "[I" := by
  intro t q hq ht
  rw [show fCl 28 = [4] from rfl] at ht
  simp only [List.mem_cons, List.not_mem_nil, or_false] at ht
  rcases ht with rfl
  · rw [show clf 4 = some ((RX3, TX3, 7), tyX3, [25, 26, 27, 28, 29, 30, 31]) from rfl] at hq; cases hq; exact ⟨3, by decide, rfl, rfl, rfl, Or.inl rfl⟩
theorem ff_29_29 : FFd 29 "NameOrchard$Boughs" "day" "I" := by
  intro t q hq ht
  rw [show fCl 29 = [4] from rfl] at ht
  simp only [List.mem_cons, List.not_mem_nil, or_false] at ht
  rcases ht with rfl
  · rw [show clf 4 = some ((RX3, TX3, 7), tyX3, [25, 26, 27, 28, 29, 30, 31]) from rfl] at hq; cases hq; exact ⟨4, by decide, rfl, rfl, rfl, Or.inl rfl⟩
theorem ff_30_30 : FFd 30 "NameOrchard$Boughs" "had" "I" := by
  intro t q hq ht
  rw [show fCl 30 = [4] from rfl] at ht
  simp only [List.mem_cons, List.not_mem_nil, or_false] at ht
  rcases ht with rfl
  · rw [show clf 4 = some ((RX3, TX3, 7), tyX3, [25, 26, 27, 28, 29, 30, 31]) from rfl] at hq; cases hq; exact ⟨5, by decide, rfl, rfl, rfl, Or.inl rfl⟩
theorem ff_31_31 : FFd 31 "NameOrchard$Boughs" "isPicked" "Z" := by
  intro t q hq ht
  rw [show fCl 31 = [4] from rfl] at ht
  simp only [List.mem_cons, List.not_mem_nil, or_false] at ht
  rcases ht with rfl
  · rw [show clf 4 = some ((RX3, TX3, 7), tyX3, [25, 26, 27, 28, 29, 30, 31]) from rfl] at hq; cases hq; exact ⟨6, by decide, rfl, rfl, rfl, Or.inl rfl⟩
theorem ff_32_32 : FFd 32 "NameOrchard$Orchard" "apples" "Ljava/util/ArrayList;" := by
  intro t q hq ht
  rw [show fCl 32 = [5] from rfl] at ht
  simp only [List.mem_cons, List.not_mem_nil, or_false] at ht
  rcases ht with rfl
  · rw [show clf 5 = some ((RX4, TX4, 12), tyX4, [32, 33, 34, 35, 36, 37, 38, 39, 40, 41, 42, 43]) from rfl] at hq; cases hq; exact ⟨0, by decide, rfl, rfl, rfl, Or.inl rfl⟩
theorem ff_33_33 : FFd 33 "NameOrchard$Orchard" "sounds" "Ljava/util/ArrayList;" := by
  intro t q hq ht
  rw [show fCl 33 = [5] from rfl] at ht
  simp only [List.mem_cons, List.not_mem_nil, or_false] at ht
  rcases ht with rfl
  · rw [show clf 5 = some ((RX4, TX4, 12), tyX4, [32, 33, 34, 35, 36, 37, 38, 39, 40, 41, 42, 43]) from rfl] at hq; cases hq; exact ⟨1, by decide, rfl, rfl, rfl, Or.inl rfl⟩
theorem ff_34_34 : FFd 34 "NameOrchard$Orchard" "peopleNames" "Ljava/util/ArrayList;" := by
  intro t q hq ht
  rw [show fCl 34 = [5] from rfl] at ht
  simp only [List.mem_cons, List.not_mem_nil, or_false] at ht
  rcases ht with rfl
  · rw [show clf 5 = some ((RX4, TX4, 12), tyX4, [32, 33, 34, 35, 36, 37, 38, 39, 40, 41, 42, 43]) from rfl] at hq; cases hq; exact ⟨2, by decide, rfl, rfl, rfl, Or.inl rfl⟩
theorem ff_35_35 : FFd 35 "NameOrchard$Orchard" "people" "Ljava/util/ArrayList;" := by
  intro t q hq ht
  rw [show fCl 35 = [5] from rfl] at ht
  simp only [List.mem_cons, List.not_mem_nil, or_false] at ht
  rcases ht with rfl
  · rw [show clf 5 = some ((RX4, TX4, 12), tyX4, [32, 33, 34, 35, 36, 37, 38, 39, 40, 41, 42, 43]) from rfl] at hq; cases hq; exact ⟨3, by decide, rfl, rfl, rfl, Or.inl rfl⟩
theorem ff_36_36 : FFd 36 "NameOrchard$Orchard" "strangers" "Ljava/util/ArrayList;" := by
  intro t q hq ht
  rw [show fCl 36 = [5] from rfl] at ht
  simp only [List.mem_cons, List.not_mem_nil, or_false] at ht
  rcases ht with rfl
  · rw [show clf 5 = some ((RX4, TX4, 12), tyX4, [32, 33, 34, 35, 36, 37, 38, 39, 40, 41, 42, 43]) from rfl] at hq; cases hq; exact ⟨4, by decide, rfl, rfl, rfl, Or.inl rfl⟩
theorem ff_37_37 : FFd 37 "NameOrchard$Orchard" "pages" "Ljava/util/ArrayList;" := by
  intro t q hq ht
  rw [show fCl 37 = [5] from rfl] at ht
  simp only [List.mem_cons, List.not_mem_nil, or_false] at ht
  rcases ht with rfl
  · rw [show clf 5 = some ((RX4, TX4, 12), tyX4, [32, 33, 34, 35, 36, 37, 38, 39, 40, 41, 42, 43]) from rfl] at hq; cases hq; exact ⟨5, by decide, rfl, rfl, rfl, Or.inl rfl⟩
theorem ff_38_38 : FFd 38 "NameOrchard$Orchard" "banns" "Ljava/util/ArrayList;" := by
  intro t q hq ht
  rw [show fCl 38 = [5] from rfl] at ht
  simp only [List.mem_cons, List.not_mem_nil, or_false] at ht
  rcases ht with rfl
  · rw [show clf 5 = some ((RX4, TX4, 12), tyX4, [32, 33, 34, 35, 36, 37, 38, 39, 40, 41, 42, 43]) from rfl] at hq; cases hq; exact ⟨6, by decide, rfl, rfl, rfl, Or.inl rfl⟩
theorem ff_39_39 : FFd 39 "NameOrchard$Orchard" "near" "LNameOrchard$Expression;" := by
  intro t q hq ht
  rw [show fCl 39 = [5] from rfl] at ht
  simp only [List.mem_cons, List.not_mem_nil, or_false] at ht
  rcases ht with rfl
  · rw [show clf 5 = some ((RX4, TX4, 12), tyX4, [32, 33, 34, 35, 36, 37, 38, 39, 40, 41, 42, 43]) from rfl] at hq; cases hq; exact ⟨7, by decide, rfl, rfl, rfl, Or.inl rfl⟩
theorem ff_40_40 : FFd 40 "NameOrchard$Orchard" "value" "LNameOrchard$Expression;" := by
  intro t q hq ht
  rw [show fCl 40 = [5] from rfl] at ht
  simp only [List.mem_cons, List.not_mem_nil, or_false] at ht
  rcases ht with rfl
  · rw [show clf 5 = some ((RX4, TX4, 12), tyX4, [32, 33, 34, 35, 36, 37, 38, 39, 40, 41, 42, 43]) from rfl] at hq; cases hq; exact ⟨8, by decide, rfl, rfl, rfl, Or.inl rfl⟩
theorem ff_41_41 : FFd 41 "NameOrchard$Orchard" "others" "I" := by
  intro t q hq ht
  rw [show fCl 41 = [5] from rfl] at ht
  simp only [List.mem_cons, List.not_mem_nil, or_false] at ht
  rcases ht with rfl
  · rw [show clf 5 = some ((RX4, TX4, 12), tyX4, [32, 33, 34, 35, 36, 37, 38, 39, 40, 41, 42, 43]) from rfl] at hq; cases hq; exact ⟨9, by decide, rfl, rfl, rfl, Or.inl rfl⟩
theorem ff_42_42 : FFd 42 "NameOrchard$Orchard" "facts" "LNameOrchard$Facts;" := by
  intro t q hq ht
  rw [show fCl 42 = [5] from rfl] at ht
  simp only [List.mem_cons, List.not_mem_nil, or_false] at ht
  rcases ht with rfl
  · rw [show clf 5 = some ((RX4, TX4, 12), tyX4, [32, 33, 34, 35, 36, 37, 38, 39, 40, 41, 42, 43]) from rfl] at hq; cases hq; exact ⟨10, by decide, rfl, rfl, rfl, Or.inl rfl⟩
theorem ff_43_43 : FFd 43 "NameOrchard$Orchard" "row" "[I" := by
  intro t q hq ht
  rw [show fCl 43 = [5] from rfl] at ht
  simp only [List.mem_cons, List.not_mem_nil, or_false] at ht
  rcases ht with rfl
  · rw [show clf 5 = some ((RX4, TX4, 12), tyX4, [32, 33, 34, 35, 36, 37, 38, 39, 40, 41, 42, 43]) from rfl] at hq; cases hq; exact ⟨11, by decide, rfl, rfl, rfl, Or.inl rfl⟩
theorem ff_44_44 : FFd 44 "NameOrchard$Facts" "of" "[I" := by
  intro t q hq ht
  rw [show fCl 44 = [6] from rfl] at ht
  simp only [List.mem_cons, List.not_mem_nil, or_false] at ht
  rcases ht with rfl
  · rw [show clf 6 = some ((RX5, TX5, 1), tyX5, [44]) from rfl] at hq; cases hq; exact ⟨0, by decide, rfl, rfl, rfl, Or.inl rfl⟩
theorem ff_45_45 : FFd 45 "NameOrchard$Reach" "wholly" "[I" := by
  intro t q hq ht
  rw [show fCl 45 = [7] from rfl] at ht
  simp only [List.mem_cons, List.not_mem_nil, or_false] at ht
  rcases ht with rfl
  · rw [show clf 7 = some ((RX6, TX6, 4), tyX6, [45, 46, 47, 48]) from rfl] at hq; cases hq; exact ⟨0, by decide, rfl, rfl, rfl, Or.inl rfl⟩
theorem ff_46_46 : FFd 46 "NameOrchard$Reach" "echo" "[I" := by
  intro t q hq ht
  rw [show fCl 46 = [7] from rfl] at ht
  simp only [List.mem_cons, List.not_mem_nil, or_false] at ht
  rcases ht with rfl
  · rw [show clf 7 = some ((RX6, TX6, 4), tyX6, [45, 46, 47, 48]) from rfl] at hq; cases hq; exact ⟨1, by decide, rfl, rfl, rfl, Or.inl rfl⟩
theorem ff_47_47 : FFd 47 "NameOrchard$Reach" "may" "[Z" := by
  intro t q hq ht
  rw [show fCl 47 = [7] from rfl] at ht
  simp only [List.mem_cons, List.not_mem_nil, or_false] at ht
  rcases ht with rfl
  · rw [show clf 7 = some ((RX6, TX6, 4), tyX6, [45, 46, 47, 48]) from rfl] at hq; cases hq; exact ⟨2, by decide, rfl, rfl, rfl, Or.inl rfl⟩
theorem ff_48_48 : FFd 48 "NameOrchard$Reach" "this$0" "LNameOrchard;" := by
  intro t q hq ht
  rw [show fCl 48 = [7] from rfl] at ht
  simp only [List.mem_cons, List.not_mem_nil, or_false] at ht
  rcases ht with rfl
  · rw [show clf 7 = some ((RX6, TX6, 4), tyX6, [45, 46, 47, 48]) from rfl] at hq; cases hq; exact ⟨3, by decide, rfl, rfl, rfl, Or.inl rfl⟩
theorem ff_49_49 : FFd 49 "NameOrchard$Crops" "steps" "[LNameOrchard$Boughs;" := by
  intro t q hq ht
  rw [show fCl 49 = [8] from rfl] at ht
  simp only [List.mem_cons, List.not_mem_nil, or_false] at ht
  rcases ht with rfl
  · rw [show clf 8 = some ((RX7, TX7, 4), tyX7, [49, 50, 51, 52]) from rfl] at hq; cases hq; exact ⟨0, by decide, rfl, rfl, rfl, Or.inl rfl⟩
theorem ff_50_50 : FFd 50 "NameOrchard$Crops" "isNew" "[Z" := by
  intro t q hq ht
  rw [show fCl 50 = [8] from rfl] at ht
  simp only [List.mem_cons, List.not_mem_nil, or_false] at ht
  rcases ht with rfl
  · rw [show clf 8 = some ((RX7, TX7, 4), tyX7, [49, 50, 51, 52]) from rfl] at hq; cases hq; exact ⟨1, by decide, rfl, rfl, rfl, Or.inl rfl⟩
theorem ff_51_51 : FFd 51 "NameOrchard$Crops" "first" "I" := by
  intro t q hq ht
  rw [show fCl 51 = [8] from rfl] at ht
  simp only [List.mem_cons, List.not_mem_nil, or_false] at ht
  rcases ht with rfl
  · rw [show clf 8 = some ((RX7, TX7, 4), tyX7, [49, 50, 51, 52]) from rfl] at hq; cases hq; exact ⟨2, by decide, rfl, rfl, rfl, Or.inl rfl⟩
theorem ff_52_52 : FFd 52 "NameOrchard$Crops" "this$0" "LNameOrchard;" := by
  intro t q hq ht
  rw [show fCl 52 = [8] from rfl] at ht
  simp only [List.mem_cons, List.not_mem_nil, or_false] at ht
  rcases ht with rfl
  · rw [show clf 8 = some ((RX7, TX7, 4), tyX7, [49, 50, 51, 52]) from rfl] at hq; cases hq; exact ⟨3, by decide, rfl, rfl, rfl, Or.inl rfl⟩
theorem ff_53_53 : FFd 53 "NameOrchard$Weeks" "steps" "[LNameOrchard$Boughs;" := by
  intro t q hq ht
  rw [show fCl 53 = [9] from rfl] at ht
  simp only [List.mem_cons, List.not_mem_nil, or_false] at ht
  rcases ht with rfl
  · rw [show clf 9 = some ((RX8, TX8, 7), tyX8, [53, 54, 55, 56, 57, 58, 59]) from rfl] at hq; cases hq; exact ⟨0, by decide, rfl, rfl, rfl, Or.inl rfl⟩
theorem ff_54_54 : FFd 54 "NameOrchard$Weeks" "row" "[I" := by
  intro t q hq ht
  rw [show fCl 54 = [9] from rfl] at ht
  simp only [List.mem_cons, List.not_mem_nil, or_false] at ht
  rcases ht with rfl
  · rw [show clf 9 = some ((RX8, TX8, 7), tyX8, [53, 54, 55, 56, 57, 58, 59]) from rfl] at hq; cases hq; exact ⟨1, by decide, rfl, rfl, rfl, Or.inl rfl⟩
theorem ff_55_55 : FFd 55 "NameOrchard$Weeks" "best" "[I" := by
  intro t q hq ht
  rw [show fCl 55 = [9] from rfl] at ht
  simp only [List.mem_cons, List.not_mem_nil, or_false] at ht
  rcases ht with rfl
  · rw [show clf 9 = some ((RX8, TX8, 7), tyX8, [53, 54, 55, 56, 57, 58, 59]) from rfl] at hq; cases hq; exact ⟨2, by decide, rfl, rfl, rfl, Or.inl rfl⟩
theorem ff_56_56 : FFd 56 "NameOrchard$Weeks" "least" "I" := by
  intro t q hq ht
  rw [show fCl 56 = [9] from rfl] at ht
  simp only [List.mem_cons, List.not_mem_nil, or_false] at ht
  rcases ht with rfl
  · rw [show clf 9 = some ((RX8, TX8, 7), tyX8, [53, 54, 55, 56, 57, 58, 59]) from rfl] at hq; cases hq; exact ⟨3, by decide, rfl, rfl, rfl, Or.inl rfl⟩
theorem ff_57_57 : FFd 57 "NameOrchard$Weeks" "lane" "I" := by
  intro t q hq ht
  rw [show fCl 57 = [9] from rfl] at ht
  simp only [List.mem_cons, List.not_mem_nil, or_false] at ht
  rcases ht with rfl
  · rw [show clf 9 = some ((RX8, TX8, 7), tyX8, [53, 54, 55, 56, 57, 58, 59]) from rfl] at hq; cases hq; exact ⟨4, by decide, rfl, rfl, rfl, Or.inl rfl⟩
theorem ff_58_58 : FFd 58 "NameOrchard$Weeks" "loud" "I" := by
  intro t q hq ht
  rw [show fCl 58 = [9] from rfl] at ht
  simp only [List.mem_cons, List.not_mem_nil, or_false] at ht
  rcases ht with rfl
  · rw [show clf 9 = some ((RX8, TX8, 7), tyX8, [53, 54, 55, 56, 57, 58, 59]) from rfl] at hq; cases hq; exact ⟨5, by decide, rfl, rfl, rfl, Or.inl rfl⟩
theorem ff_59_59 : FFd 59 "NameOrchard$Weeks" "this$0" "LNameOrchard;" := by
  intro t q hq ht
  rw [show fCl 59 = [9] from rfl] at ht
  simp only [List.mem_cons, List.not_mem_nil, or_false] at ht
  rcases ht with rfl
  · rw [show clf 9 = some ((RX8, TX8, 7), tyX8, [53, 54, 55, 56, 57, 58, 59]) from rfl] at hq; cases hq; exact ⟨6, by decide, rfl, rfl, rfl, Or.inl rfl⟩
theorem ff_60_60 : FFd 60 "NameOrchardModel" "thrown" "I" := by
  intro t q hq ht
  rw [show fCl 60 = [10] from rfl] at ht
  simp only [List.mem_cons, List.not_mem_nil, or_false] at ht
  rcases ht with rfl
  · rw [show clf 10 = some ((RX9, TX9, 87), tyX9, [60, 61, 62, 63, 64, 65, 66, 67, 68, 69, 70, 71, 72, 73, 74, 75, 76, 77, 78, 79, 80, 81, 82, 83, 84, 85, 86, 87, 88, 89, 90, 91, 92, 93, 94, 95, 96, 97, 98, 99, 100, 101, 102, 103, 104, 105, 106, 107, 108, 109, 110, 111, 112, 113, 114, 115, 116, 117, 118, 119, 120, 121, 122, 123, 124, 125, 126, 127, 128, 129, 130, 131, 132, 133, 134, 135, 136, 137, 138, 139, 140, 141, 142, 143, 144, 145, 146]) from rfl] at hq; cases hq; exact ⟨0, by decide, rfl, rfl, rfl, Or.inl rfl⟩
theorem ff_61_61 : FFd 61 "NameOrchardModel" "taped" "I" := by
  intro t q hq ht
  rw [show fCl 61 = [10] from rfl] at ht
  simp only [List.mem_cons, List.not_mem_nil, or_false] at ht
  rcases ht with rfl
  · rw [show clf 10 = some ((RX9, TX9, 87), tyX9, [60, 61, 62, 63, 64, 65, 66, 67, 68, 69, 70, 71, 72, 73, 74, 75, 76, 77, 78, 79, 80, 81, 82, 83, 84, 85, 86, 87, 88, 89, 90, 91, 92, 93, 94, 95, 96, 97, 98, 99, 100, 101, 102, 103, 104, 105, 106, 107, 108, 109, 110, 111, 112, 113, 114, 115, 116, 117, 118, 119, 120, 121, 122, 123, 124, 125, 126, 127, 128, 129, 130, 131, 132, 133, 134, 135, 136, 137, 138, 139, 140, 141, 142, 143, 144, 145, 146]) from rfl] at hq; cases hq; exact ⟨1, by decide, rfl, rfl, rfl, Or.inl rfl⟩
theorem ff_62_62 : FFd 62 "NameOrchardModel" "tape" "[I" := by
  intro t q hq ht
  rw [show fCl 62 = [10] from rfl] at ht
  simp only [List.mem_cons, List.not_mem_nil, or_false] at ht
  rcases ht with rfl
  · rw [show clf 10 = some ((RX9, TX9, 87), tyX9, [60, 61, 62, 63, 64, 65, 66, 67, 68, 69, 70, 71, 72, 73, 74, 75, 76, 77, 78, 79, 80, 81, 82, 83, 84, 85, 86, 87, 88, 89, 90, 91, 92, 93, 94, 95, 96, 97, 98, 99, 100, 101, 102, 103, 104, 105, 106, 107, 108, 109, 110, 111, 112, 113, 114, 115, 116, 117, 118, 119, 120, 121, 122, 123, 124, 125, 126, 127, 128, 129, 130, 131, 132, 133, 134, 135, 136, 137, 138, 139, 140, 141, 142, 143, 144, 145, 146]) from rfl] at hq; cases hq; exact ⟨2, by decide, rfl, rfl, rfl, Or.inl rfl⟩
theorem ff_63_63 : FFd 63 "NameOrchardModel" "size" "I" := by
  intro t q hq ht
  rw [show fCl 63 = [10] from rfl] at ht
  simp only [List.mem_cons, List.not_mem_nil, or_false] at ht
  rcases ht with rfl
  · rw [show clf 10 = some ((RX9, TX9, 87), tyX9, [60, 61, 62, 63, 64, 65, 66, 67, 68, 69, 70, 71, 72, 73, 74, 75, 76, 77, 78, 79, 80, 81, 82, 83, 84, 85, 86, 87, 88, 89, 90, 91, 92, 93, 94, 95, 96, 97, 98, 99, 100, 101, 102, 103, 104, 105, 106, 107, 108, 109, 110, 111, 112, 113, 114, 115, 116, 117, 118, 119, 120, 121, 122, 123, 124, 125, 126, 127, 128, 129, 130, 131, 132, 133, 134, 135, 136, 137, 138, 139, 140, 141, 142, 143, 144, 145, 146]) from rfl] at hq; cases hq; exact ⟨3, by decide, rfl, rfl, rfl, Or.inl rfl⟩
theorem ff_64_64 : FFd 64 "NameOrchardModel" "place" "I" := by
  intro t q hq ht
  rw [show fCl 64 = [10] from rfl] at ht
  simp only [List.mem_cons, List.not_mem_nil, or_false] at ht
  rcases ht with rfl
  · rw [show clf 10 = some ((RX9, TX9, 87), tyX9, [60, 61, 62, 63, 64, 65, 66, 67, 68, 69, 70, 71, 72, 73, 74, 75, 76, 77, 78, 79, 80, 81, 82, 83, 84, 85, 86, 87, 88, 89, 90, 91, 92, 93, 94, 95, 96, 97, 98, 99, 100, 101, 102, 103, 104, 105, 106, 107, 108, 109, 110, 111, 112, 113, 114, 115, 116, 117, 118, 119, 120, 121, 122, 123, 124, 125, 126, 127, 128, 129, 130, 131, 132, 133, 134, 135, 136, 137, 138, 139, 140, 141, 142, 143, 144, 145, 146]) from rfl] at hq; cases hq; exact ⟨4, by decide, rfl, rfl, rfl, Or.inl rfl⟩
theorem ff_65_65 : FFd 65 "NameOrchardModel" "begin" "I" := by
  intro t q hq ht
  rw [show fCl 65 = [10] from rfl] at ht
  simp only [List.mem_cons, List.not_mem_nil, or_false] at ht
  rcases ht with rfl
  · rw [show clf 10 = some ((RX9, TX9, 87), tyX9, [60, 61, 62, 63, 64, 65, 66, 67, 68, 69, 70, 71, 72, 73, 74, 75, 76, 77, 78, 79, 80, 81, 82, 83, 84, 85, 86, 87, 88, 89, 90, 91, 92, 93, 94, 95, 96, 97, 98, 99, 100, 101, 102, 103, 104, 105, 106, 107, 108, 109, 110, 111, 112, 113, 114, 115, 116, 117, 118, 119, 120, 121, 122, 123, 124, 125, 126, 127, 128, 129, 130, 131, 132, 133, 134, 135, 136, 137, 138, 139, 140, 141, 142, 143, 144, 145, 146]) from rfl] at hq; cases hq; exact ⟨5, by decide, rfl, rfl, rfl, Or.inl rfl⟩
theorem ff_66_66 : FFd 66 "NameOrchardModel" "token" "I" := by
  intro t q hq ht
  rw [show fCl 66 = [10] from rfl] at ht
  simp only [List.mem_cons, List.not_mem_nil, or_false] at ht
  rcases ht with rfl
  · rw [show clf 10 = some ((RX9, TX9, 87), tyX9, [60, 61, 62, 63, 64, 65, 66, 67, 68, 69, 70, 71, 72, 73, 74, 75, 76, 77, 78, 79, 80, 81, 82, 83, 84, 85, 86, 87, 88, 89, 90, 91, 92, 93, 94, 95, 96, 97, 98, 99, 100, 101, 102, 103, 104, 105, 106, 107, 108, 109, 110, 111, 112, 113, 114, 115, 116, 117, 118, 119, 120, 121, 122, 123, 124, 125, 126, 127, 128, 129, 130, 131, 132, 133, 134, 135, 136, 137, 138, 139, 140, 141, 142, 143, 144, 145, 146]) from rfl] at hq; cases hq; exact ⟨6, by decide, rfl, rfl, rfl, Or.inl rfl⟩
theorem ff_67_67 : FFd 67 "NameOrchardModel" "word" "J" := by
  intro t q hq ht
  rw [show fCl 67 = [10] from rfl] at ht
  simp only [List.mem_cons, List.not_mem_nil, or_false] at ht
  rcases ht with rfl
  · rw [show clf 10 = some ((RX9, TX9, 87), tyX9, [60, 61, 62, 63, 64, 65, 66, 67, 68, 69, 70, 71, 72, 73, 74, 75, 76, 77, 78, 79, 80, 81, 82, 83, 84, 85, 86, 87, 88, 89, 90, 91, 92, 93, 94, 95, 96, 97, 98, 99, 100, 101, 102, 103, 104, 105, 106, 107, 108, 109, 110, 111, 112, 113, 114, 115, 116, 117, 118, 119, 120, 121, 122, 123, 124, 125, 126, 127, 128, 129, 130, 131, 132, 133, 134, 135, 136, 137, 138, 139, 140, 141, 142, 143, 144, 145, 146]) from rfl] at hq; cases hq; exact ⟨7, by decide, rfl, rfl, rfl, Or.inl rfl⟩
theorem ff_68_68 : FFd 68 "NameOrchardModel" "told" "I" := by
  intro t q hq ht
  rw [show fCl 68 = [10] from rfl] at ht
  simp only [List.mem_cons, List.not_mem_nil, or_false] at ht
  rcases ht with rfl
  · rw [show clf 10 = some ((RX9, TX9, 87), tyX9, [60, 61, 62, 63, 64, 65, 66, 67, 68, 69, 70, 71, 72, 73, 74, 75, 76, 77, 78, 79, 80, 81, 82, 83, 84, 85, 86, 87, 88, 89, 90, 91, 92, 93, 94, 95, 96, 97, 98, 99, 100, 101, 102, 103, 104, 105, 106, 107, 108, 109, 110, 111, 112, 113, 114, 115, 116, 117, 118, 119, 120, 121, 122, 123, 124, 125, 126, 127, 128, 129, 130, 131, 132, 133, 134, 135, 136, 137, 138, 139, 140, 141, 142, 143, 144, 145, 146]) from rfl] at hq; cases hq; exact ⟨8, by decide, rfl, rfl, rfl, Or.inl rfl⟩
theorem ff_69_69 : FFd 69 "NameOrchardModel" "wrong" "I" := by
  intro t q hq ht
  rw [show fCl 69 = [10] from rfl] at ht
  simp only [List.mem_cons, List.not_mem_nil, or_false] at ht
  rcases ht with rfl
  · rw [show clf 10 = some ((RX9, TX9, 87), tyX9, [60, 61, 62, 63, 64, 65, 66, 67, 68, 69, 70, 71, 72, 73, 74, 75, 76, 77, 78, 79, 80, 81, 82, 83, 84, 85, 86, 87, 88, 89, 90, 91, 92, 93, 94, 95, 96, 97, 98, 99, 100, 101, 102, 103, 104, 105, 106, 107, 108, 109, 110, 111, 112, 113, 114, 115, 116, 117, 118, 119, 120, 121, 122, 123, 124, 125, 126, 127, 128, 129, 130, 131, 132, 133, 134, 135, 136, 137, 138, 139, 140, 141, 142, 143, 144, 145, 146]) from rfl] at hq; cases hq; exact ⟨9, by decide, rfl, rfl, rfl, Or.inl rfl⟩
theorem ff_70_70 : FFd 70 "NameOrchardModel" "orchard" "[I" := by
  intro t q hq ht
  rw [show fCl 70 = [10] from rfl] at ht
  simp only [List.mem_cons, List.not_mem_nil, or_false] at ht
  rcases ht with rfl
  · rw [show clf 10 = some ((RX9, TX9, 87), tyX9, [60, 61, 62, 63, 64, 65, 66, 67, 68, 69, 70, 71, 72, 73, 74, 75, 76, 77, 78, 79, 80, 81, 82, 83, 84, 85, 86, 87, 88, 89, 90, 91, 92, 93, 94, 95, 96, 97, 98, 99, 100, 101, 102, 103, 104, 105, 106, 107, 108, 109, 110, 111, 112, 113, 114, 115, 116, 117, 118, 119, 120, 121, 122, 123, 124, 125, 126, 127, 128, 129, 130, 131, 132, 133, 134, 135, 136, 137, 138, 139, 140, 141, 142, 143, 144, 145, 146]) from rfl] at hq; cases hq; exact ⟨10, by decide, rfl, rfl, rfl, Or.inl rfl⟩
theorem ff_71_71 : FFd 71 "NameOrchardModel" "soundName" "[J" := by
  intro t q hq ht
  rw [show fCl 71 = [10] from rfl] at ht
  simp only [List.mem_cons, List.not_mem_nil, or_false] at ht
  rcases ht with rfl
  · rw [show clf 10 = some ((RX9, TX9, 87), tyX9, [60, 61, 62, 63, 64, 65, 66, 67, 68, 69, 70, 71, 72, 73, 74, 75, 76, 77, 78, 79, 80, 81, 82, 83, 84, 85, 86, 87, 88, 89, 90, 91, 92, 93, 94, 95, 96, 97, 98, 99, 100, 101, 102, 103, 104, 105, 106, 107, 108, 109, 110, 111, 112, 113, 114, 115, 116, 117, 118, 119, 120, 121, 122, 123, 124, 125, 126, 127, 128, 129, 130, 131, 132, 133, 134, 135, 136, 137, 138, 139, 140, 141, 142, 143, 144, 145, 146]) from rfl] at hq; cases hq; exact ⟨11, by decide, rfl, rfl, rfl, Or.inl rfl⟩
theorem ff_72_72 : FFd 72 "NameOrchardModel" "personName" "[J" := by
  intro t q hq ht
  rw [show fCl 72 = [10] from rfl] at ht
  simp only [List.mem_cons, List.not_mem_nil, or_false] at ht
  rcases ht with rfl
  · rw [show clf 10 = some ((RX9, TX9, 87), tyX9, [60, 61, 62, 63, 64, 65, 66, 67, 68, 69, 70, 71, 72, 73, 74, 75, 76, 77, 78, 79, 80, 81, 82, 83, 84, 85, 86, 87, 88, 89, 90, 91, 92, 93, 94, 95, 96, 97, 98, 99, 100, 101, 102, 103, 104, 105, 106, 107, 108, 109, 110, 111, 112, 113, 114, 115, 116, 117, 118, 119, 120, 121, 122, 123, 124, 125, 126, 127, 128, 129, 130, 131, 132, 133, 134, 135, 136, 137, 138, 139, 140, 141, 142, 143, 144, 145, 146]) from rfl] at hq; cases hq; exact ⟨12, by decide, rfl, rfl, rfl, Or.inl rfl⟩
theorem ff_73_73 : FFd 73 "NameOrchardModel" "soundTold" "[I" := by
  intro t q hq ht
  rw [show fCl 73 = [10] from rfl] at ht
  simp only [List.mem_cons, List.not_mem_nil, or_false] at ht
  rcases ht with rfl
  · rw [show clf 10 = some ((RX9, TX9, 87), tyX9, [60, 61, 62, 63, 64, 65, 66, 67, 68, 69, 70, 71, 72, 73, 74, 75, 76, 77, 78, 79, 80, 81, 82, 83, 84, 85, 86, 87, 88, 89, 90, 91, 92, 93, 94, 95, 96, 97, 98, 99, 100, 101, 102, 103, 104, 105, 106, 107, 108, 109, 110, 111, 112, 113, 114, 115, 116, 117, 118, 119, 120, 121, 122, 123, 124, 125, 126, 127, 128, 129, 130, 131, 132, 133, 134, 135, 136, 137, 138, 139, 140, 141, 142, 143, 144, 145, 146]) from rfl] at hq; cases hq; exact ⟨13, by decide, rfl, rfl, rfl, Or.inl rfl⟩
theorem ff_74_74 : FFd 74 "NameOrchardModel" "sort" "[I" := by
  intro t q hq ht
  rw [show fCl 74 = [10] from rfl] at ht
  simp only [List.mem_cons, List.not_mem_nil, or_false] at ht
  rcases ht with rfl
  · rw [show clf 10 = some ((RX9, TX9, 87), tyX9, [60, 61, 62, 63, 64, 65, 66, 67, 68, 69, 70, 71, 72, 73, 74, 75, 76, 77, 78, 79, 80, 81, 82, 83, 84, 85, 86, 87, 88, 89, 90, 91, 92, 93, 94, 95, 96, 97, 98, 99, 100, 101, 102, 103, 104, 105, 106, 107, 108, 109, 110, 111, 112, 113, 114, 115, 116, 117, 118, 119, 120, 121, 122, 123, 124, 125, 126, 127, 128, 129, 130, 131, 132, 133, 134, 135, 136, 137, 138, 139, 140, 141, 142, 143, 144, 145, 146]) from rfl] at hq; cases hq; exact ⟨14, by decide, rfl, rfl, rfl, Or.inl rfl⟩
theorem ff_75_75 : FFd 75 "NameOrchardModel" "place0" "[I" := by
  intro t q hq ht
  rw [show fCl 75 = [10] from rfl] at ht
  simp only [List.mem_cons, List.not_mem_nil, or_false] at ht
  rcases ht with rfl
  · rw [show clf 10 = some ((RX9, TX9, 87), tyX9, [60, 61, 62, 63, 64, 65, 66, 67, 68, 69, 70, 71, 72, 73, 74, 75, 76, 77, 78, 79, 80, 81, 82, 83, 84, 85, 86, 87, 88, 89, 90, 91, 92, 93, 94, 95, 96, 97, 98, 99, 100, 101, 102, 103, 104, 105, 106, 107, 108, 109, 110, 111, 112, 113, 114, 115, 116, 117, 118, 119, 120, 121, 122, 123, 124, 125, 126, 127, 128, 129, 130, 131, 132, 133, 134, 135, 136, 137, 138, 139, 140, 141, 142, 143, 144, 145, 146]) from rfl] at hq; cases hq; exact ⟨15, by decide, rfl, rfl, rfl, Or.inl rfl⟩
theorem ff_76_76 : FFd 76 "NameOrchardModel" "rowAt" "[I" := by
  intro t q hq ht
  rw [show fCl 76 = [10] from rfl] at ht
  simp only [List.mem_cons, List.not_mem_nil, or_false] at ht
  rcases ht with rfl
  · rw [show clf 10 = some ((RX9, TX9, 87), tyX9, [60, 61, 62, 63, 64, 65, 66, 67, 68, 69, 70, 71, 72, 73, 74, 75, 76, 77, 78, 79, 80, 81, 82, 83, 84, 85, 86, 87, 88, 89, 90, 91, 92, 93, 94, 95, 96, 97, 98, 99, 100, 101, 102, 103, 104, 105, 106, 107, 108, 109, 110, 111, 112, 113, 114, 115, 116, 117, 118, 119, 120, 121, 122, 123, 124, 125, 126, 127, 128, 129, 130, 131, 132, 133, 134, 135, 136, 137, 138, 139, 140, 141, 142, 143, 144, 145, 146]) from rfl] at hq; cases hq; exact ⟨16, by decide, rfl, rfl, rfl, Or.inl rfl⟩
theorem ff_77_77 : FFd 77 "NameOrchardModel" "ripe" "[I" := by
  intro t q hq ht
  rw [show fCl 77 = [10] from rfl] at ht
  simp only [List.mem_cons, List.not_mem_nil, or_false] at ht
  rcases ht with rfl
  · rw [show clf 10 = some ((RX9, TX9, 87), tyX9, [60, 61, 62, 63, 64, 65, 66, 67, 68, 69, 70, 71, 72, 73, 74, 75, 76, 77, 78, 79, 80, 81, 82, 83, 84, 85, 86, 87, 88, 89, 90, 91, 92, 93, 94, 95, 96, 97, 98, 99, 100, 101, 102, 103, 104, 105, 106, 107, 108, 109, 110, 111, 112, 113, 114, 115, 116, 117, 118, 119, 120, 121, 122, 123, 124, 125, 126, 127, 128, 129, 130, 131, 132, 133, 134, 135, 136, 137, 138, 139, 140, 141, 142, 143, 144, 145, 146]) from rfl] at hq; cases hq; exact ⟨17, by decide, rfl, rfl, rfl, Or.inl rfl⟩
theorem ff_78_78 : FFd 78 "NameOrchardModel" "worthTold" "[I" := by
  intro t q hq ht
  rw [show fCl 78 = [10] from rfl] at ht
  simp only [List.mem_cons, List.not_mem_nil, or_false] at ht
  rcases ht with rfl
  · rw [show clf 10 = some ((RX9, TX9, 87), tyX9, [60, 61, 62, 63, 64, 65, 66, 67, 68, 69, 70, 71, 72, 73, 74, 75, 76, 77, 78, 79, 80, 81, 82, 83, 84, 85, 86, 87, 88, 89, 90, 91, 92, 93, 94, 95, 96, 97, 98, 99, 100, 101, 102, 103, 104, 105, 106, 107, 108, 109, 110, 111, 112, 113, 114, 115, 116, 117, 118, 119, 120, 121, 122, 123, 124, 125, 126, 127, 128, 129, 130, 131, 132, 133, 134, 135, 136, 137, 138, 139, 140, 141, 142, 143, 144, 145, 146]) from rfl] at hq; cases hq; exact ⟨18, by decide, rfl, rfl, rfl, Or.inl rfl⟩
theorem ff_79_79 : FFd 79 "NameOrchardModel" "twin" "[I" := by
  intro t q hq ht
  rw [show fCl 79 = [10] from rfl] at ht
  simp only [List.mem_cons, List.not_mem_nil, or_false] at ht
  rcases ht with rfl
  · rw [show clf 10 = some ((RX9, TX9, 87), tyX9, [60, 61, 62, 63, 64, 65, 66, 67, 68, 69, 70, 71, 72, 73, 74, 75, 76, 77, 78, 79, 80, 81, 82, 83, 84, 85, 86, 87, 88, 89, 90, 91, 92, 93, 94, 95, 96, 97, 98, 99, 100, 101, 102, 103, 104, 105, 106, 107, 108, 109, 110, 111, 112, 113, 114, 115, 116, 117, 118, 119, 120, 121, 122, 123, 124, 125, 126, 127, 128, 129, 130, 131, 132, 133, 134, 135, 136, 137, 138, 139, 140, 141, 142, 143, 144, 145, 146]) from rfl] at hq; cases hq; exact ⟨19, by decide, rfl, rfl, rfl, Or.inl rfl⟩
theorem ff_80_80 : FFd 80 "NameOrchardModel" "lane" "[I" := by
  intro t q hq ht
  rw [show fCl 80 = [10] from rfl] at ht
  simp only [List.mem_cons, List.not_mem_nil, or_false] at ht
  rcases ht with rfl
  · rw [show clf 10 = some ((RX9, TX9, 87), tyX9, [60, 61, 62, 63, 64, 65, 66, 67, 68, 69, 70, 71, 72, 73, 74, 75, 76, 77, 78, 79, 80, 81, 82, 83, 84, 85, 86, 87, 88, 89, 90, 91, 92, 93, 94, 95, 96, 97, 98, 99, 100, 101, 102, 103, 104, 105, 106, 107, 108, 109, 110, 111, 112, 113, 114, 115, 116, 117, 118, 119, 120, 121, 122, 123, 124, 125, 126, 127, 128, 129, 130, 131, 132, 133, 134, 135, 136, 137, 138, 139, 140, 141, 142, 143, 144, 145, 146]) from rfl] at hq; cases hq; exact ⟨20, by decide, rfl, rfl, rfl, Or.inl rfl⟩
theorem ff_81_81 : FFd 81 "NameOrchardModel" "loud" "[I" := by
  intro t q hq ht
  rw [show fCl 81 = [10] from rfl] at ht
  simp only [List.mem_cons, List.not_mem_nil, or_false] at ht
  rcases ht with rfl
  · rw [show clf 10 = some ((RX9, TX9, 87), tyX9, [60, 61, 62, 63, 64, 65, 66, 67, 68, 69, 70, 71, 72, 73, 74, 75, 76, 77, 78, 79, 80, 81, 82, 83, 84, 85, 86, 87, 88, 89, 90, 91, 92, 93, 94, 95, 96, 97, 98, 99, 100, 101, 102, 103, 104, 105, 106, 107, 108, 109, 110, 111, 112, 113, 114, 115, 116, 117, 118, 119, 120, 121, 122, 123, 124, 125, 126, 127, 128, 129, 130, 131, 132, 133, 134, 135, 136, 137, 138, 139, 140, 141, 142, 143, 144, 145, 146]) from rfl] at hq; cases hq; exact ⟨21, by decide, rfl, rfl, rfl, Or.inl rfl⟩
theorem ff_82_82 : FFd 82 "NameOrchardModel" "mute" "[I" := by
  intro t q hq ht
  rw [show fCl 82 = [10] from rfl] at ht
  simp only [List.mem_cons, List.not_mem_nil, or_false] at ht
  rcases ht with rfl
  · rw [show clf 10 = some ((RX9, TX9, 87), tyX9, [60, 61, 62, 63, 64, 65, 66, 67, 68, 69, 70, 71, 72, 73, 74, 75, 76, 77, 78, 79, 80, 81, 82, 83, 84, 85, 86, 87, 88, 89, 90, 91, 92, 93, 94, 95, 96, 97, 98, 99, 100, 101, 102, 103, 104, 105, 106, 107, 108, 109, 110, 111, 112, 113, 114, 115, 116, 117, 118, 119, 120, 121, 122, 123, 124, 125, 126, 127, 128, 129, 130, 131, 132, 133, 134, 135, 136, 137, 138, 139, 140, 141, 142, 143, 144, 145, 146]) from rfl] at hq; cases hq; exact ⟨22, by decide, rfl, rfl, rfl, Or.inl rfl⟩
theorem ff_83_83 : FFd 83 "NameOrchardModel" "strangerOf" "[I" := by
  intro t q hq ht
  rw [show fCl 83 = [10] from rfl] at ht
  simp only [List.mem_cons, List.not_mem_nil, or_false] at ht
  rcases ht with rfl
  · rw [show clf 10 = some ((RX9, TX9, 87), tyX9, [60, 61, 62, 63, 64, 65, 66, 67, 68, 69, 70, 71, 72, 73, 74, 75, 76, 77, 78, 79, 80, 81, 82, 83, 84, 85, 86, 87, 88, 89, 90, 91, 92, 93, 94, 95, 96, 97, 98, 99, 100, 101, 102, 103, 104, 105, 106, 107, 108, 109, 110, 111, 112, 113, 114, 115, 116, 117, 118, 119, 120, 121, 122, 123, 124, 125, 126, 127, 128, 129, 130, 131, 132, 133, 134, 135, 136, 137, 138, 139, 140, 141, 142, 143, 144, 145, 146]) from rfl] at hq; cases hq; exact ⟨23, by decide, rfl, rfl, rfl, Or.inl rfl⟩
theorem ff_84_84 : FFd 84 "NameOrchardModel" "strangerBy" "[I" := by
  intro t q hq ht
  rw [show fCl 84 = [10] from rfl] at ht
  simp only [List.mem_cons, List.not_mem_nil, or_false] at ht
  rcases ht with rfl
  · rw [show clf 10 = some ((RX9, TX9, 87), tyX9, [60, 61, 62, 63, 64, 65, 66, 67, 68, 69, 70, 71, 72, 73, 74, 75, 76, 77, 78, 79, 80, 81, 82, 83, 84, 85, 86, 87, 88, 89, 90, 91, 92, 93, 94, 95, 96, 97, 98, 99, 100, 101, 102, 103, 104, 105, 106, 107, 108, 109, 110, 111, 112, 113, 114, 115, 116, 117, 118, 119, 120, 121, 122, 123, 124, 125, 126, 127, 128, 129, 130, 131, 132, 133, 134, 135, 136, 137, 138, 139, 140, 141, 142, 143, 144, 145, 146]) from rfl] at hq; cases hq; exact ⟨24, by decide, rfl, rfl, rfl, Or.inl rfl⟩
theorem ff_85_85 : FFd 85 "NameOrchardModel" "pageOf" "[I" := by
  intro t q hq ht
  rw [show fCl 85 = [10] from rfl] at ht
  simp only [List.mem_cons, List.not_mem_nil, or_false] at ht
  rcases ht with rfl
  · rw [show clf 10 = some ((RX9, TX9, 87), tyX9, [60, 61, 62, 63, 64, 65, 66, 67, 68, 69, 70, 71, 72, 73, 74, 75, 76, 77, 78, 79, 80, 81, 82, 83, 84, 85, 86, 87, 88, 89, 90, 91, 92, 93, 94, 95, 96, 97, 98, 99, 100, 101, 102, 103, 104, 105, 106, 107, 108, 109, 110, 111, 112, 113, 114, 115, 116, 117, 118, 119, 120, 121, 122, 123, 124, 125, 126, 127, 128, 129, 130, 131, 132, 133, 134, 135, 136, 137, 138, 139, 140, 141, 142, 143, 144, 145, 146]) from rfl] at hq; cases hq; exact ⟨25, by decide, rfl, rfl, rfl, Or.inl rfl⟩
theorem ff_86_86 : FFd 86 "NameOrchardModel" "pageMany" "[I" := by
  intro t q hq ht
  rw [show fCl 86 = [10] from rfl] at ht
  simp only [List.mem_cons, List.not_mem_nil, or_false] at ht
  rcases ht with rfl
  · rw [show clf 10 = some ((RX9, TX9, 87), tyX9, [60, 61, 62, 63, 64, 65, 66, 67, 68, 69, 70, 71, 72, 73, 74, 75, 76, 77, 78, 79, 80, 81, 82, 83, 84, 85, 86, 87, 88, 89, 90, 91, 92, 93, 94, 95, 96, 97, 98, 99, 100, 101, 102, 103, 104, 105, 106, 107, 108, 109, 110, 111, 112, 113, 114, 115, 116, 117, 118, 119, 120, 121, 122, 123, 124, 125, 126, 127, 128, 129, 130, 131, 132, 133, 134, 135, 136, 137, 138, 139, 140, 141, 142, 143, 144, 145, 146]) from rfl] at hq; cases hq; exact ⟨26, by decide, rfl, rfl, rfl, Or.inl rfl⟩
theorem ff_87_87 : FFd 87 "NameOrchardModel" "bannA" "[I" := by
  intro t q hq ht
  rw [show fCl 87 = [10] from rfl] at ht
  simp only [List.mem_cons, List.not_mem_nil, or_false] at ht
  rcases ht with rfl
  · rw [show clf 10 = some ((RX9, TX9, 87), tyX9, [60, 61, 62, 63, 64, 65, 66, 67, 68, 69, 70, 71, 72, 73, 74, 75, 76, 77, 78, 79, 80, 81, 82, 83, 84, 85, 86, 87, 88, 89, 90, 91, 92, 93, 94, 95, 96, 97, 98, 99, 100, 101, 102, 103, 104, 105, 106, 107, 108, 109, 110, 111, 112, 113, 114, 115, 116, 117, 118, 119, 120, 121, 122, 123, 124, 125, 126, 127, 128, 129, 130, 131, 132, 133, 134, 135, 136, 137, 138, 139, 140, 141, 142, 143, 144, 145, 146]) from rfl] at hq; cases hq; exact ⟨27, by decide, rfl, rfl, rfl, Or.inl rfl⟩
theorem ff_88_88 : FFd 88 "NameOrchardModel" "bannB" "[I" := by
  intro t q hq ht
  rw [show fCl 88 = [10] from rfl] at ht
  simp only [List.mem_cons, List.not_mem_nil, or_false] at ht
  rcases ht with rfl
  · rw [show clf 10 = some ((RX9, TX9, 87), tyX9, [60, 61, 62, 63, 64, 65, 66, 67, 68, 69, 70, 71, 72, 73, 74, 75, 76, 77, 78, 79, 80, 81, 82, 83, 84, 85, 86, 87, 88, 89, 90, 91, 92, 93, 94, 95, 96, 97, 98, 99, 100, 101, 102, 103, 104, 105, 106, 107, 108, 109, 110, 111, 112, 113, 114, 115, 116, 117, 118, 119, 120, 121, 122, 123, 124, 125, 126, 127, 128, 129, 130, 131, 132, 133, 134, 135, 136, 137, 138, 139, 140, 141, 142, 143, 144, 145, 146]) from rfl] at hq; cases hq; exact ⟨28, by decide, rfl, rfl, rfl, Or.inl rfl⟩
theorem ff_89_89 : FFd 89 "NameOrchardModel" "lineFrom" "[I" := by
  intro t q hq ht
  rw [show fCl 89 = [10] from rfl] at ht
  simp only [List.mem_cons, List.not_mem_nil, or_false] at ht
  rcases ht with rfl
  · rw [show clf 10 = some ((RX9, TX9, 87), tyX9, [60, 61, 62, 63, 64, 65, 66, 67, 68, 69, 70, 71, 72, 73, 74, 75, 76, 77, 78, 79, 80, 81, 82, 83, 84, 85, 86, 87, 88, 89, 90, 91, 92, 93, 94, 95, 96, 97, 98, 99, 100, 101, 102, 103, 104, 105, 106, 107, 108, 109, 110, 111, 112, 113, 114, 115, 116, 117, 118, 119, 120, 121, 122, 123, 124, 125, 126, 127, 128, 129, 130, 131, 132, 133, 134, 135, 136, 137, 138, 139, 140, 141, 142, 143, 144, 145, 146]) from rfl] at hq; cases hq; exact ⟨29, by decide, rfl, rfl, rfl, Or.inl rfl⟩
theorem ff_90_90 : FFd 90 "NameOrchardModel" "lineTo" "[I" := by
  intro t q hq ht
  rw [show fCl 90 = [10] from rfl] at ht
  simp only [List.mem_cons, List.not_mem_nil, or_false] at ht
  rcases ht with rfl
  · rw [show clf 10 = some ((RX9, TX9, 87), tyX9, [60, 61, 62, 63, 64, 65, 66, 67, 68, 69, 70, 71, 72, 73, 74, 75, 76, 77, 78, 79, 80, 81, 82, 83, 84, 85, 86, 87, 88, 89, 90, 91, 92, 93, 94, 95, 96, 97, 98, 99, 100, 101, 102, 103, 104, 105, 106, 107, 108, 109, 110, 111, 112, 113, 114, 115, 116, 117, 118, 119, 120, 121, 122, 123, 124, 125, 126, 127, 128, 129, 130, 131, 132, 133, 134, 135, 136, 137, 138, 139, 140, 141, 142, 143, 144, 145, 146]) from rfl] at hq; cases hq; exact ⟨30, by decide, rfl, rfl, rfl, Or.inl rfl⟩
theorem ff_91_91 : FFd 91 "NameOrchardModel" "codes" "[I" := by
  intro t q hq ht
  rw [show fCl 91 = [10] from rfl] at ht
  simp only [List.mem_cons, List.not_mem_nil, or_false] at ht
  rcases ht with rfl
  · rw [show clf 10 = some ((RX9, TX9, 87), tyX9, [60, 61, 62, 63, 64, 65, 66, 67, 68, 69, 70, 71, 72, 73, 74, 75, 76, 77, 78, 79, 80, 81, 82, 83, 84, 85, 86, 87, 88, 89, 90, 91, 92, 93, 94, 95, 96, 97, 98, 99, 100, 101, 102, 103, 104, 105, 106, 107, 108, 109, 110, 111, 112, 113, 114, 115, 116, 117, 118, 119, 120, 121, 122, 123, 124, 125, 126, 127, 128, 129, 130, 131, 132, 133, 134, 135, 136, 137, 138, 139, 140, 141, 142, 143, 144, 145, 146]) from rfl] at hq; cases hq; exact ⟨31, by decide, rfl, rfl, rfl, Or.inl rfl⟩
theorem ff_92_92 : FFd 92 "NameOrchardModel" "code" "I" := by
  intro t q hq ht
  rw [show fCl 92 = [10] from rfl] at ht
  simp only [List.mem_cons, List.not_mem_nil, or_false] at ht
  rcases ht with rfl
  · rw [show clf 10 = some ((RX9, TX9, 87), tyX9, [60, 61, 62, 63, 64, 65, 66, 67, 68, 69, 70, 71, 72, 73, 74, 75, 76, 77, 78, 79, 80, 81, 82, 83, 84, 85, 86, 87, 88, 89, 90, 91, 92, 93, 94, 95, 96, 97, 98, 99, 100, 101, 102, 103, 104, 105, 106, 107, 108, 109, 110, 111, 112, 113, 114, 115, 116, 117, 118, 119, 120, 121, 122, 123, 124, 125, 126, 127, 128, 129, 130, 131, 132, 133, 134, 135, 136, 137, 138, 139, 140, 141, 142, 143, 144, 145, 146]) from rfl] at hq; cases hq; exact ⟨32, by decide, rfl, rfl, rfl, Or.inl rfl⟩
theorem ff_93_93 : FFd 93 "NameOrchardModel" "lawLine" "I" := by
  intro t q hq ht
  rw [show fCl 93 = [10] from rfl] at ht
  simp only [List.mem_cons, List.not_mem_nil, or_false] at ht
  rcases ht with rfl
  · rw [show clf 10 = some ((RX9, TX9, 87), tyX9, [60, 61, 62, 63, 64, 65, 66, 67, 68, 69, 70, 71, 72, 73, 74, 75, 76, 77, 78, 79, 80, 81, 82, 83, 84, 85, 86, 87, 88, 89, 90, 91, 92, 93, 94, 95, 96, 97, 98, 99, 100, 101, 102, 103, 104, 105, 106, 107, 108, 109, 110, 111, 112, 113, 114, 115, 116, 117, 118, 119, 120, 121, 122, 123, 124, 125, 126, 127, 128, 129, 130, 131, 132, 133, 134, 135, 136, 137, 138, 139, 140, 141, 142, 143, 144, 145, 146]) from rfl] at hq; cases hq; exact ⟨33, by decide, rfl, rfl, rfl, Or.inl rfl⟩
theorem ff_94_94 : FFd 94 "NameOrchardModel" "opened" "[I" := by
  intro t q hq ht
  rw [show fCl 94 = [10] from rfl] at ht
  simp only [List.mem_cons, List.not_mem_nil, or_false] at ht
  rcases ht with rfl
  · rw [show clf 10 = some ((RX9, TX9, 87), tyX9, [60, 61, 62, 63, 64, 65, 66, 67, 68, 69, 70, 71, 72, 73, 74, 75, 76, 77, 78, 79, 80, 81, 82, 83, 84, 85, 86, 87, 88, 89, 90, 91, 92, 93, 94, 95, 96, 97, 98, 99, 100, 101, 102, 103, 104, 105, 106, 107, 108, 109, 110, 111, 112, 113, 114, 115, 116, 117, 118, 119, 120, 121, 122, 123, 124, 125, 126, 127, 128, 129, 130, 131, 132, 133, 134, 135, 136, 137, 138, 139, 140, 141, 142, 143, 144, 145, 146]) from rfl] at hq; cases hq; exact ⟨34, by decide, rfl, rfl, rfl, Or.inl rfl⟩
theorem ff_95_95 : FFd 95 "NameOrchardModel" "compared" "[Z" := by
  intro t q hq ht
  rw [show fCl 95 = [10] from rfl] at ht
  simp only [List.mem_cons, List.not_mem_nil, or_false] at ht
  rcases ht with rfl
  · rw [show clf 10 = some ((RX9, TX9, 87), tyX9, [60, 61, 62, 63, 64, 65, 66, 67, 68, 69, 70, 71, 72, 73, 74, 75, 76, 77, 78, 79, 80, 81, 82, 83, 84, 85, 86, 87, 88, 89, 90, 91, 92, 93, 94, 95, 96, 97, 98, 99, 100, 101, 102, 103, 104, 105, 106, 107, 108, 109, 110, 111, 112, 113, 114, 115, 116, 117, 118, 119, 120, 121, 122, 123, 124, 125, 126, 127, 128, 129, 130, 131, 132, 133, 134, 135, 136, 137, 138, 139, 140, 141, 142, 143, 144, 145, 146]) from rfl] at hq; cases hq; exact ⟨35, by decide, rfl, rfl, rfl, Or.inl rfl⟩
theorem ff_96_96 : FFd 96 "NameOrchardModel" "kept" "[I" := by
  intro t q hq ht
  rw [show fCl 96 = [10] from rfl] at ht
  simp only [List.mem_cons, List.not_mem_nil, or_false] at ht
  rcases ht with rfl
  · rw [show clf 10 = some ((RX9, TX9, 87), tyX9, [60, 61, 62, 63, 64, 65, 66, 67, 68, 69, 70, 71, 72, 73, 74, 75, 76, 77, 78, 79, 80, 81, 82, 83, 84, 85, 86, 87, 88, 89, 90, 91, 92, 93, 94, 95, 96, 97, 98, 99, 100, 101, 102, 103, 104, 105, 106, 107, 108, 109, 110, 111, 112, 113, 114, 115, 116, 117, 118, 119, 120, 121, 122, 123, 124, 125, 126, 127, 128, 129, 130, 131, 132, 133, 134, 135, 136, 137, 138, 139, 140, 141, 142, 143, 144, 145, 146]) from rfl] at hq; cases hq; exact ⟨36, by decide, rfl, rfl, rfl, Or.inl rfl⟩
theorem ff_97_97 : FFd 97 "NameOrchardModel" "keptBy" "[I" := by
  intro t q hq ht
  rw [show fCl 97 = [10] from rfl] at ht
  simp only [List.mem_cons, List.not_mem_nil, or_false] at ht
  rcases ht with rfl
  · rw [show clf 10 = some ((RX9, TX9, 87), tyX9, [60, 61, 62, 63, 64, 65, 66, 67, 68, 69, 70, 71, 72, 73, 74, 75, 76, 77, 78, 79, 80, 81, 82, 83, 84, 85, 86, 87, 88, 89, 90, 91, 92, 93, 94, 95, 96, 97, 98, 99, 100, 101, 102, 103, 104, 105, 106, 107, 108, 109, 110, 111, 112, 113, 114, 115, 116, 117, 118, 119, 120, 121, 122, 123, 124, 125, 126, 127, 128, 129, 130, 131, 132, 133, 134, 135, 136, 137, 138, 139, 140, 141, 142, 143, 144, 145, 146]) from rfl] at hq; cases hq; exact ⟨37, by decide, rfl, rfl, rfl, Or.inl rfl⟩
theorem ff_98_98 : FFd 98 "NameOrchardModel" "ahead" "[I" := by
  intro t q hq ht
  rw [show fCl 98 = [10] from rfl] at ht
  simp only [List.mem_cons, List.not_mem_nil, or_false] at ht
  rcases ht with rfl
  · rw [show clf 10 = some ((RX9, TX9, 87), tyX9, [60, 61, 62, 63, 64, 65, 66, 67, 68, 69, 70, 71, 72, 73, 74, 75, 76, 77, 78, 79, 80, 81, 82, 83, 84, 85, 86, 87, 88, 89, 90, 91, 92, 93, 94, 95, 96, 97, 98, 99, 100, 101, 102, 103, 104, 105, 106, 107, 108, 109, 110, 111, 112, 113, 114, 115, 116, 117, 118, 119, 120, 121, 122, 123, 124, 125, 126, 127, 128, 129, 130, 131, 132, 133, 134, 135, 136, 137, 138, 139, 140, 141, 142, 143, 144, 145, 146]) from rfl] at hq; cases hq; exact ⟨38, by decide, rfl, rfl, rfl, Or.inl rfl⟩
theorem ff_99_99 : FFd 99 "NameOrchardModel" "against" "[I" := by
  intro t q hq ht
  rw [show fCl 99 = [10] from rfl] at ht
  simp only [List.mem_cons, List.not_mem_nil, or_false] at ht
  rcases ht with rfl
  · rw [show clf 10 = some ((RX9, TX9, 87), tyX9, [60, 61, 62, 63, 64, 65, 66, 67, 68, 69, 70, 71, 72, 73, 74, 75, 76, 77, 78, 79, 80, 81, 82, 83, 84, 85, 86, 87, 88, 89, 90, 91, 92, 93, 94, 95, 96, 97, 98, 99, 100, 101, 102, 103, 104, 105, 106, 107, 108, 109, 110, 111, 112, 113, 114, 115, 116, 117, 118, 119, 120, 121, 122, 123, 124, 125, 126, 127, 128, 129, 130, 131, 132, 133, 134, 135, 136, 137, 138, 139, 140, 141, 142, 143, 144, 145, 146]) from rfl] at hq; cases hq; exact ⟨39, by decide, rfl, rfl, rfl, Or.inl rfl⟩
theorem ff_100_100 : FFd 100 "NameOrchardModel" "sum" "[I" := by
  intro t q hq ht
  rw [show fCl 100 = [10] from rfl] at ht
  simp only [List.mem_cons, List.not_mem_nil, or_false] at ht
  rcases ht with rfl
  · rw [show clf 10 = some ((RX9, TX9, 87), tyX9, [60, 61, 62, 63, 64, 65, 66, 67, 68, 69, 70, 71, 72, 73, 74, 75, 76, 77, 78, 79, 80, 81, 82, 83, 84, 85, 86, 87, 88, 89, 90, 91, 92, 93, 94, 95, 96, 97, 98, 99, 100, 101, 102, 103, 104, 105, 106, 107, 108, 109, 110, 111, 112, 113, 114, 115, 116, 117, 118, 119, 120, 121, 122, 123, 124, 125, 126, 127, 128, 129, 130, 131, 132, 133, 134, 135, 136, 137, 138, 139, 140, 141, 142, 143, 144, 145, 146]) from rfl] at hq; cases hq; exact ⟨40, by decide, rfl, rfl, rfl, Or.inl rfl⟩
theorem ff_101_101 : FFd 101 "NameOrchardModel" "sumBy" "[I" := by
  intro t q hq ht
  rw [show fCl 101 = [10] from rfl] at ht
  simp only [List.mem_cons, List.not_mem_nil, or_false] at ht
  rcases ht with rfl
  · rw [show clf 10 = some ((RX9, TX9, 87), tyX9, [60, 61, 62, 63, 64, 65, 66, 67, 68, 69, 70, 71, 72, 73, 74, 75, 76, 77, 78, 79, 80, 81, 82, 83, 84, 85, 86, 87, 88, 89, 90, 91, 92, 93, 94, 95, 96, 97, 98, 99, 100, 101, 102, 103, 104, 105, 106, 107, 108, 109, 110, 111, 112, 113, 114, 115, 116, 117, 118, 119, 120, 121, 122, 123, 124, 125, 126, 127, 128, 129, 130, 131, 132, 133, 134, 135, 136, 137, 138, 139, 140, 141, 142, 143, 144, 145, 146]) from rfl] at hq; cases hq; exact ⟨41, by decide, rfl, rfl, rfl, Or.inl rfl⟩
theorem ff_102_102 : FFd 102 "NameOrchardModel" "term" "[I" := by
  intro t q hq ht
  rw [show fCl 102 = [10] from rfl] at ht
  simp only [List.mem_cons, List.not_mem_nil, or_false] at ht
  rcases ht with rfl
  · rw [show clf 10 = some ((RX9, TX9, 87), tyX9, [60, 61, 62, 63, 64, 65, 66, 67, 68, 69, 70, 71, 72, 73, 74, 75, 76, 77, 78, 79, 80, 81, 82, 83, 84, 85, 86, 87, 88, 89, 90, 91, 92, 93, 94, 95, 96, 97, 98, 99, 100, 101, 102, 103, 104, 105, 106, 107, 108, 109, 110, 111, 112, 113, 114, 115, 116, 117, 118, 119, 120, 121, 122, 123, 124, 125, 126, 127, 128, 129, 130, 131, 132, 133, 134, 135, 136, 137, 138, 139, 140, 141, 142, 143, 144, 145, 146]) from rfl] at hq; cases hq; exact ⟨42, by decide, rfl, rfl, rfl, Or.inl rfl⟩
theorem ff_103_103 : FFd 103 "NameOrchardModel" "termBy" "[I" := by
  intro t q hq ht
  rw [show fCl 103 = [10] from rfl] at ht
  simp only [List.mem_cons, List.not_mem_nil, or_false] at ht
  rcases ht with rfl
  · rw [show clf 10 = some ((RX9, TX9, 87), tyX9, [60, 61, 62, 63, 64, 65, 66, 67, 68, 69, 70, 71, 72, 73, 74, 75, 76, 77, 78, 79, 80, 81, 82, 83, 84, 85, 86, 87, 88, 89, 90, 91, 92, 93, 94, 95, 96, 97, 98, 99, 100, 101, 102, 103, 104, 105, 106, 107, 108, 109, 110, 111, 112, 113, 114, 115, 116, 117, 118, 119, 120, 121, 122, 123, 124, 125, 126, 127, 128, 129, 130, 131, 132, 133, 134, 135, 136, 137, 138, 139, 140, 141, 142, 143, 144, 145, 146]) from rfl] at hq; cases hq; exact ⟨43, by decide, rfl, rfl, rfl, Or.inl rfl⟩
theorem ff_104_104 : FFd 104 "NameOrchardModel" "byNot" "[I" := by
  intro t q hq ht
  rw [show fCl 104 = [10] from rfl] at ht
  simp only [List.mem_cons, List.not_mem_nil, or_false] at ht
  rcases ht with rfl
  · rw [show clf 10 = some ((RX9, TX9, 87), tyX9, [60, 61, 62, 63, 64, 65, 66, 67, 68, 69, 70, 71, 72, 73, 74, 75, 76, 77, 78, 79, 80, 81, 82, 83, 84, 85, 86, 87, 88, 89, 90, 91, 92, 93, 94, 95, 96, 97, 98, 99, 100, 101, 102, 103, 104, 105, 106, 107, 108, 109, 110, 111, 112, 113, 114, 115, 116, 117, 118, 119, 120, 121, 122, 123, 124, 125, 126, 127, 128, 129, 130, 131, 132, 133, 134, 135, 136, 137, 138, 139, 140, 141, 142, 143, 144, 145, 146]) from rfl] at hq; cases hq; exact ⟨44, by decide, rfl, rfl, rfl, Or.inl rfl⟩
theorem ff_105_105 : FFd 105 "NameOrchardModel" "valueOf" "[I" := by
  intro t q hq ht
  rw [show fCl 105 = [10] from rfl] at ht
  simp only [List.mem_cons, List.not_mem_nil, or_false] at ht
  rcases ht with rfl
  · rw [show clf 10 = some ((RX9, TX9, 87), tyX9, [60, 61, 62, 63, 64, 65, 66, 67, 68, 69, 70, 71, 72, 73, 74, 75, 76, 77, 78, 79, 80, 81, 82, 83, 84, 85, 86, 87, 88, 89, 90, 91, 92, 93, 94, 95, 96, 97, 98, 99, 100, 101, 102, 103, 104, 105, 106, 107, 108, 109, 110, 111, 112, 113, 114, 115, 116, 117, 118, 119, 120, 121, 122, 123, 124, 125, 126, 127, 128, 129, 130, 131, 132, 133, 134, 135, 136, 137, 138, 139, 140, 141, 142, 143, 144, 145, 146]) from rfl] at hq; cases hq; exact ⟨45, by decide, rfl, rfl, rfl, Or.inl rfl⟩
theorem ff_106_106 : FFd 106 "NameOrchardModel" "given" "I" := by
  intro t q hq ht
  rw [show fCl 106 = [10] from rfl] at ht
  simp only [List.mem_cons, List.not_mem_nil, or_false] at ht
  rcases ht with rfl
  · rw [show clf 10 = some ((RX9, TX9, 87), tyX9, [60, 61, 62, 63, 64, 65, 66, 67, 68, 69, 70, 71, 72, 73, 74, 75, 76, 77, 78, 79, 80, 81, 82, 83, 84, 85, 86, 87, 88, 89, 90, 91, 92, 93, 94, 95, 96, 97, 98, 99, 100, 101, 102, 103, 104, 105, 106, 107, 108, 109, 110, 111, 112, 113, 114, 115, 116, 117, 118, 119, 120, 121, 122, 123, 124, 125, 126, 127, 128, 129, 130, 131, 132, 133, 134, 135, 136, 137, 138, 139, 140, 141, 142, 143, 144, 145, 146]) from rfl] at hq; cases hq; exact ⟨46, by decide, rfl, rfl, rfl, Or.inl rfl⟩
theorem ff_107_107 : FFd 107 "NameOrchardModel" "edits" "[I" := by
  intro t q hq ht
  rw [show fCl 107 = [10] from rfl] at ht
  simp only [List.mem_cons, List.not_mem_nil, or_false] at ht
  rcases ht with rfl
  · rw [show clf 10 = some ((RX9, TX9, 87), tyX9, [60, 61, 62, 63, 64, 65, 66, 67, 68, 69, 70, 71, 72, 73, 74, 75, 76, 77, 78, 79, 80, 81, 82, 83, 84, 85, 86, 87, 88, 89, 90, 91, 92, 93, 94, 95, 96, 97, 98, 99, 100, 101, 102, 103, 104, 105, 106, 107, 108, 109, 110, 111, 112, 113, 114, 115, 116, 117, 118, 119, 120, 121, 122, 123, 124, 125, 126, 127, 128, 129, 130, 131, 132, 133, 134, 135, 136, 137, 138, 139, 140, 141, 142, 143, 144, 145, 146]) from rfl] at hq; cases hq; exact ⟨47, by decide, rfl, rfl, rfl, Or.inl rfl⟩
theorem ff_108_108 : FFd 108 "NameOrchardModel" "startOf" "[I" := by
  intro t q hq ht
  rw [show fCl 108 = [10] from rfl] at ht
  simp only [List.mem_cons, List.not_mem_nil, or_false] at ht
  rcases ht with rfl
  · rw [show clf 10 = some ((RX9, TX9, 87), tyX9, [60, 61, 62, 63, 64, 65, 66, 67, 68, 69, 70, 71, 72, 73, 74, 75, 76, 77, 78, 79, 80, 81, 82, 83, 84, 85, 86, 87, 88, 89, 90, 91, 92, 93, 94, 95, 96, 97, 98, 99, 100, 101, 102, 103, 104, 105, 106, 107, 108, 109, 110, 111, 112, 113, 114, 115, 116, 117, 118, 119, 120, 121, 122, 123, 124, 125, 126, 127, 128, 129, 130, 131, 132, 133, 134, 135, 136, 137, 138, 139, 140, 141, 142, 143, 144, 145, 146]) from rfl] at hq; cases hq; exact ⟨48, by decide, rfl, rfl, rfl, Or.inl rfl⟩
theorem ff_109_109 : FFd 109 "NameOrchardModel" "rhymeOf" "[I" := by
  intro t q hq ht
  rw [show fCl 109 = [10] from rfl] at ht
  simp only [List.mem_cons, List.not_mem_nil, or_false] at ht
  rcases ht with rfl
  · rw [show clf 10 = some ((RX9, TX9, 87), tyX9, [60, 61, 62, 63, 64, 65, 66, 67, 68, 69, 70, 71, 72, 73, 74, 75, 76, 77, 78, 79, 80, 81, 82, 83, 84, 85, 86, 87, 88, 89, 90, 91, 92, 93, 94, 95, 96, 97, 98, 99, 100, 101, 102, 103, 104, 105, 106, 107, 108, 109, 110, 111, 112, 113, 114, 115, 116, 117, 118, 119, 120, 121, 122, 123, 124, 125, 126, 127, 128, 129, 130, 131, 132, 133, 134, 135, 136, 137, 138, 139, 140, 141, 142, 143, 144, 145, 146]) from rfl] at hq; cases hq; exact ⟨49, by decide, rfl, rfl, rfl, Or.inl rfl⟩
theorem ff_110_110 : FFd 110 "NameOrchardModel" "isNear" "[Z" := by
  intro t q hq ht
  rw [show fCl 110 = [10] from rfl] at ht
  simp only [List.mem_cons, List.not_mem_nil, or_false] at ht
  rcases ht with rfl
  · rw [show clf 10 = some ((RX9, TX9, 87), tyX9, [60, 61, 62, 63, 64, 65, 66, 67, 68, 69, 70, 71, 72, 73, 74, 75, 76, 77, 78, 79, 80, 81, 82, 83, 84, 85, 86, 87, 88, 89, 90, 91, 92, 93, 94, 95, 96, 97, 98, 99, 100, 101, 102, 103, 104, 105, 106, 107, 108, 109, 110, 111, 112, 113, 114, 115, 116, 117, 118, 119, 120, 121, 122, 123, 124, 125, 126, 127, 128, 129, 130, 131, 132, 133, 134, 135, 136, 137, 138, 139, 140, 141, 142, 143, 144, 145, 146]) from rfl] at hq; cases hq; exact ⟨50, by decide, rfl, rfl, rfl, Or.inl rfl⟩
theorem ff_111_111 : FFd 111 "NameOrchardModel" "lettersA" "[I" := by
  intro t q hq ht
  rw [show fCl 111 = [10] from rfl] at ht
  simp only [List.mem_cons, List.not_mem_nil, or_false] at ht
  rcases ht with rfl
  · rw [show clf 10 = some ((RX9, TX9, 87), tyX9, [60, 61, 62, 63, 64, 65, 66, 67, 68, 69, 70, 71, 72, 73, 74, 75, 76, 77, 78, 79, 80, 81, 82, 83, 84, 85, 86, 87, 88, 89, 90, 91, 92, 93, 94, 95, 96, 97, 98, 99, 100, 101, 102, 103, 104, 105, 106, 107, 108, 109, 110, 111, 112, 113, 114, 115, 116, 117, 118, 119, 120, 121, 122, 123, 124, 125, 126, 127, 128, 129, 130, 131, 132, 133, 134, 135, 136, 137, 138, 139, 140, 141, 142, 143, 144, 145, 146]) from rfl] at hq; cases hq; exact ⟨51, by decide, rfl, rfl, rfl, Or.inl rfl⟩
theorem ff_112_112 : FFd 112 "NameOrchardModel" "lettersB" "[I" := by
  intro t q hq ht
  rw [show fCl 112 = [10] from rfl] at ht
  simp only [List.mem_cons, List.not_mem_nil, or_false] at ht
  rcases ht with rfl
  · rw [show clf 10 = some ((RX9, TX9, 87), tyX9, [60, 61, 62, 63, 64, 65, 66, 67, 68, 69, 70, 71, 72, 73, 74, 75, 76, 77, 78, 79, 80, 81, 82, 83, 84, 85, 86, 87, 88, 89, 90, 91, 92, 93, 94, 95, 96, 97, 98, 99, 100, 101, 102, 103, 104, 105, 106, 107, 108, 109, 110, 111, 112, 113, 114, 115, 116, 117, 118, 119, 120, 121, 122, 123, 124, 125, 126, 127, 128, 129, 130, 131, 132, 133, 134, 135, 136, 137, 138, 139, 140, 141, 142, 143, 144, 145, 146]) from rfl] at hq; cases hq; exact ⟨52, by decide, rfl, rfl, rfl, Or.inl rfl⟩
theorem ff_113_113 : FFd 113 "NameOrchardModel" "changes" "[I" := by
  intro t q hq ht
  rw [show fCl 113 = [10] from rfl] at ht
  simp only [List.mem_cons, List.not_mem_nil, or_false] at ht
  rcases ht with rfl
  · rw [show clf 10 = some ((RX9, TX9, 87), tyX9, [60, 61, 62, 63, 64, 65, 66, 67, 68, 69, 70, 71, 72, 73, 74, 75, 76, 77, 78, 79, 80, 81, 82, 83, 84, 85, 86, 87, 88, 89, 90, 91, 92, 93, 94, 95, 96, 97, 98, 99, 100, 101, 102, 103, 104, 105, 106, 107, 108, 109, 110, 111, 112, 113, 114, 115, 116, 117, 118, 119, 120, 121, 122, 123, 124, 125, 126, 127, 128, 129, 130, 131, 132, 133, 134, 135, 136, 137, 138, 139, 140, 141, 142, 143, 144, 145, 146]) from rfl] at hq; cases hq; exact ⟨53, by decide, rfl, rfl, rfl, Or.inl rfl⟩
theorem ff_114_114 : FFd 114 "NameOrchardModel" "lines" "[I" := by
  intro t q hq ht
  rw [show fCl 114 = [10] from rfl] at ht
  simp only [List.mem_cons, List.not_mem_nil, or_false] at ht
  rcases ht with rfl
  · rw [show clf 10 = some ((RX9, TX9, 87), tyX9, [60, 61, 62, 63, 64, 65, 66, 67, 68, 69, 70, 71, 72, 73, 74, 75, 76, 77, 78, 79, 80, 81, 82, 83, 84, 85, 86, 87, 88, 89, 90, 91, 92, 93, 94, 95, 96, 97, 98, 99, 100, 101, 102, 103, 104, 105, 106, 107, 108, 109, 110, 111, 112, 113, 114, 115, 116, 117, 118, 119, 120, 121, 122, 123, 124, 125, 126, 127, 128, 129, 130, 131, 132, 133, 134, 135, 136, 137, 138, 139, 140, 141, 142, 143, 144, 145, 146]) from rfl] at hq; cases hq; exact ⟨54, by decide, rfl, rfl, rfl, Or.inl rfl⟩
theorem ff_115_115 : FFd 115 "NameOrchardModel" "lineWhat" "[I" := by
  intro t q hq ht
  rw [show fCl 115 = [10] from rfl] at ht
  simp only [List.mem_cons, List.not_mem_nil, or_false] at ht
  rcases ht with rfl
  · rw [show clf 10 = some ((RX9, TX9, 87), tyX9, [60, 61, 62, 63, 64, 65, 66, 67, 68, 69, 70, 71, 72, 73, 74, 75, 76, 77, 78, 79, 80, 81, 82, 83, 84, 85, 86, 87, 88, 89, 90, 91, 92, 93, 94, 95, 96, 97, 98, 99, 100, 101, 102, 103, 104, 105, 106, 107, 108, 109, 110, 111, 112, 113, 114, 115, 116, 117, 118, 119, 120, 121, 122, 123, 124, 125, 126, 127, 128, 129, 130, 131, 132, 133, 134, 135, 136, 137, 138, 139, 140, 141, 142, 143, 144, 145, 146]) from rfl] at hq; cases hq; exact ⟨55, by decide, rfl, rfl, rfl, Or.inl rfl⟩
theorem ff_116_116 : FFd 116 "NameOrchardModel" "lineWho" "[I" := by
  intro t q hq ht
  rw [show fCl 116 = [10] from rfl] at ht
  simp only [List.mem_cons, List.not_mem_nil, or_false] at ht
  rcases ht with rfl
  · rw [show clf 10 = some ((RX9, TX9, 87), tyX9, [60, 61, 62, 63, 64, 65, 66, 67, 68, 69, 70, 71, 72, 73, 74, 75, 76, 77, 78, 79, 80, 81, 82, 83, 84, 85, 86, 87, 88, 89, 90, 91, 92, 93, 94, 95, 96, 97, 98, 99, 100, 101, 102, 103, 104, 105, 106, 107, 108, 109, 110, 111, 112, 113, 114, 115, 116, 117, 118, 119, 120, 121, 122, 123, 124, 125, 126, 127, 128, 129, 130, 131, 132, 133, 134, 135, 136, 137, 138, 139, 140, 141, 142, 143, 144, 145, 146]) from rfl] at hq; cases hq; exact ⟨56, by decide, rfl, rfl, rfl, Or.inl rfl⟩
theorem ff_117_117 : FFd 117 "NameOrchardModel" "lineOf" "[I" := by
  intro t q hq ht
  rw [show fCl 117 = [10] from rfl] at ht
  simp only [List.mem_cons, List.not_mem_nil, or_false] at ht
  rcases ht with rfl
  · rw [show clf 10 = some ((RX9, TX9, 87), tyX9, [60, 61, 62, 63, 64, 65, 66, 67, 68, 69, 70, 71, 72, 73, 74, 75, 76, 77, 78, 79, 80, 81, 82, 83, 84, 85, 86, 87, 88, 89, 90, 91, 92, 93, 94, 95, 96, 97, 98, 99, 100, 101, 102, 103, 104, 105, 106, 107, 108, 109, 110, 111, 112, 113, 114, 115, 116, 117, 118, 119, 120, 121, 122, 123, 124, 125, 126, 127, 128, 129, 130, 131, 132, 133, 134, 135, 136, 137, 138, 139, 140, 141, 142, 143, 144, 145, 146]) from rfl] at hq; cases hq; exact ⟨57, by decide, rfl, rfl, rfl, Or.inl rfl⟩
theorem ff_118_118 : FFd 118 "NameOrchardModel" "liesKnown" "[I" := by
  intro t q hq ht
  rw [show fCl 118 = [10] from rfl] at ht
  simp only [List.mem_cons, List.not_mem_nil, or_false] at ht
  rcases ht with rfl
  · rw [show clf 10 = some ((RX9, TX9, 87), tyX9, [60, 61, 62, 63, 64, 65, 66, 67, 68, 69, 70, 71, 72, 73, 74, 75, 76, 77, 78, 79, 80, 81, 82, 83, 84, 85, 86, 87, 88, 89, 90, 91, 92, 93, 94, 95, 96, 97, 98, 99, 100, 101, 102, 103, 104, 105, 106, 107, 108, 109, 110, 111, 112, 113, 114, 115, 116, 117, 118, 119, 120, 121, 122, 123, 124, 125, 126, 127, 128, 129, 130, 131, 132, 133, 134, 135, 136, 137, 138, 139, 140, 141, 142, 143, 144, 145, 146]) from rfl] at hq; cases hq; exact ⟨58, by decide, rfl, rfl, rfl, Or.inl rfl⟩
theorem ff_119_119 : FFd 119 "NameOrchardModel" "liesThere" "[I" := by
  intro t q hq ht
  rw [show fCl 119 = [10] from rfl] at ht
  simp only [List.mem_cons, List.not_mem_nil, or_false] at ht
  rcases ht with rfl
  · rw [show clf 10 = some ((RX9, TX9, 87), tyX9, [60, 61, 62, 63, 64, 65, 66, 67, 68, 69, 70, 71, 72, 73, 74, 75, 76, 77, 78, 79, 80, 81, 82, 83, 84, 85, 86, 87, 88, 89, 90, 91, 92, 93, 94, 95, 96, 97, 98, 99, 100, 101, 102, 103, 104, 105, 106, 107, 108, 109, 110, 111, 112, 113, 114, 115, 116, 117, 118, 119, 120, 121, 122, 123, 124, 125, 126, 127, 128, 129, 130, 131, 132, 133, 134, 135, 136, 137, 138, 139, 140, 141, 142, 143, 144, 145, 146]) from rfl] at hq; cases hq; exact ⟨59, by decide, rfl, rfl, rfl, Or.inl rfl⟩
theorem ff_120_120 : FFd 120 "NameOrchardModel" "tolds" "[I" := by
  intro t q hq ht
  rw [show fCl 120 = [10] from rfl] at ht
  simp only [List.mem_cons, List.not_mem_nil, or_false] at ht
  rcases ht with rfl
  · rw [show clf 10 = some ((RX9, TX9, 87), tyX9, [60, 61, 62, 63, 64, 65, 66, 67, 68, 69, 70, 71, 72, 73, 74, 75, 76, 77, 78, 79, 80, 81, 82, 83, 84, 85, 86, 87, 88, 89, 90, 91, 92, 93, 94, 95, 96, 97, 98, 99, 100, 101, 102, 103, 104, 105, 106, 107, 108, 109, 110, 111, 112, 113, 114, 115, 116, 117, 118, 119, 120, 121, 122, 123, 124, 125, 126, 127, 128, 129, 130, 131, 132, 133, 134, 135, 136, 137, 138, 139, 140, 141, 142, 143, 144, 145, 146]) from rfl] at hq; cases hq; exact ⟨60, by decide, rfl, rfl, rfl, Or.inl rfl⟩
theorem ff_121_121 : FFd 121 "NameOrchardModel" "toldCall" "[I" := by
  intro t q hq ht
  rw [show fCl 121 = [10] from rfl] at ht
  simp only [List.mem_cons, List.not_mem_nil, or_false] at ht
  rcases ht with rfl
  · rw [show clf 10 = some ((RX9, TX9, 87), tyX9, [60, 61, 62, 63, 64, 65, 66, 67, 68, 69, 70, 71, 72, 73, 74, 75, 76, 77, 78, 79, 80, 81, 82, 83, 84, 85, 86, 87, 88, 89, 90, 91, 92, 93, 94, 95, 96, 97, 98, 99, 100, 101, 102, 103, 104, 105, 106, 107, 108, 109, 110, 111, 112, 113, 114, 115, 116, 117, 118, 119, 120, 121, 122, 123, 124, 125, 126, 127, 128, 129, 130, 131, 132, 133, 134, 135, 136, 137, 138, 139, 140, 141, 142, 143, 144, 145, 146]) from rfl] at hq; cases hq; exact ⟨61, by decide, rfl, rfl, rfl, Or.inl rfl⟩
theorem ff_122_122 : FFd 122 "NameOrchardModel" "toldSound" "[I" := by
  intro t q hq ht
  rw [show fCl 122 = [10] from rfl] at ht
  simp only [List.mem_cons, List.not_mem_nil, or_false] at ht
  rcases ht with rfl
  · rw [show clf 10 = some ((RX9, TX9, 87), tyX9, [60, 61, 62, 63, 64, 65, 66, 67, 68, 69, 70, 71, 72, 73, 74, 75, 76, 77, 78, 79, 80, 81, 82, 83, 84, 85, 86, 87, 88, 89, 90, 91, 92, 93, 94, 95, 96, 97, 98, 99, 100, 101, 102, 103, 104, 105, 106, 107, 108, 109, 110, 111, 112, 113, 114, 115, 116, 117, 118, 119, 120, 121, 122, 123, 124, 125, 126, 127, 128, 129, 130, 131, 132, 133, 134, 135, 136, 137, 138, 139, 140, 141, 142, 143, 144, 145, 146]) from rfl] at hq; cases hq; exact ⟨62, by decide, rfl, rfl, rfl, Or.inl rfl⟩
theorem ff_123_123 : FFd 123 "NameOrchardModel" "toldNear" "[Z" := by
  intro t q hq ht
  rw [show fCl 123 = [10] from rfl] at ht
  simp only [List.mem_cons, List.not_mem_nil, or_false] at ht
  rcases ht with rfl
  · rw [show clf 10 = some ((RX9, TX9, 87), tyX9, [60, 61, 62, 63, 64, 65, 66, 67, 68, 69, 70, 71, 72, 73, 74, 75, 76, 77, 78, 79, 80, 81, 82, 83, 84, 85, 86, 87, 88, 89, 90, 91, 92, 93, 94, 95, 96, 97, 98, 99, 100, 101, 102, 103, 104, 105, 106, 107, 108, 109, 110, 111, 112, 113, 114, 115, 116, 117, 118, 119, 120, 121, 122, 123, 124, 125, 126, 127, 128, 129, 130, 131, 132, 133, 134, 135, 136, 137, 138, 139, 140, 141, 142, 143, 144, 145, 146]) from rfl] at hq; cases hq; exact ⟨63, by decide, rfl, rfl, rfl, Or.inl rfl⟩
theorem ff_124_124 : FFd 124 "NameOrchardModel" "s" "[I" := by
  intro t q hq ht
  rw [show fCl 124 = [10] from rfl] at ht
  simp only [List.mem_cons, List.not_mem_nil, or_false] at ht
  rcases ht with rfl
  · rw [show clf 10 = some ((RX9, TX9, 87), tyX9, [60, 61, 62, 63, 64, 65, 66, 67, 68, 69, 70, 71, 72, 73, 74, 75, 76, 77, 78, 79, 80, 81, 82, 83, 84, 85, 86, 87, 88, 89, 90, 91, 92, 93, 94, 95, 96, 97, 98, 99, 100, 101, 102, 103, 104, 105, 106, 107, 108, 109, 110, 111, 112, 113, 114, 115, 116, 117, 118, 119, 120, 121, 122, 123, 124, 125, 126, 127, 128, 129, 130, 131, 132, 133, 134, 135, 136, 137, 138, 139, 140, 141, 142, 143, 144, 145, 146]) from rfl] at hq; cases hq; exact ⟨64, by decide, rfl, rfl, rfl, Or.inl rfl⟩
theorem ff_125_125 : FFd 125 "NameOrchardModel" "aside" "[I" := by
  intro t q hq ht
  rw [show fCl 125 = [10] from rfl] at ht
  simp only [List.mem_cons, List.not_mem_nil, or_false] at ht
  rcases ht with rfl
  · rw [show clf 10 = some ((RX9, TX9, 87), tyX9, [60, 61, 62, 63, 64, 65, 66, 67, 68, 69, 70, 71, 72, 73, 74, 75, 76, 77, 78, 79, 80, 81, 82, 83, 84, 85, 86, 87, 88, 89, 90, 91, 92, 93, 94, 95, 96, 97, 98, 99, 100, 101, 102, 103, 104, 105, 106, 107, 108, 109, 110, 111, 112, 113, 114, 115, 116, 117, 118, 119, 120, 121, 122, 123, 124, 125, 126, 127, 128, 129, 130, 131, 132, 133, 134, 135, 136, 137, 138, 139, 140, 141, 142, 143, 144, 145, 146]) from rfl] at hq; cases hq; exact ⟨65, by decide, rfl, rfl, rfl, Or.inl rfl⟩
theorem ff_126_126 : FFd 126 "NameOrchardModel" "marked" "[I" := by
  intro t q hq ht
  rw [show fCl 126 = [10] from rfl] at ht
  simp only [List.mem_cons, List.not_mem_nil, or_false] at ht
  rcases ht with rfl
  · rw [show clf 10 = some ((RX9, TX9, 87), tyX9, [60, 61, 62, 63, 64, 65, 66, 67, 68, 69, 70, 71, 72, 73, 74, 75, 76, 77, 78, 79, 80, 81, 82, 83, 84, 85, 86, 87, 88, 89, 90, 91, 92, 93, 94, 95, 96, 97, 98, 99, 100, 101, 102, 103, 104, 105, 106, 107, 108, 109, 110, 111, 112, 113, 114, 115, 116, 117, 118, 119, 120, 121, 122, 123, 124, 125, 126, 127, 128, 129, 130, 131, 132, 133, 134, 135, 136, 137, 138, 139, 140, 141, 142, 143, 144, 145, 146]) from rfl] at hq; cases hq; exact ⟨66, by decide, rfl, rfl, rfl, Or.inl rfl⟩
theorem ff_127_127 : FFd 127 "NameOrchardModel" "undone" "[I" := by
  intro t q hq ht
  rw [show fCl 127 = [10] from rfl] at ht
  simp only [List.mem_cons, List.not_mem_nil, or_false] at ht
  rcases ht with rfl
  · rw [show clf 10 = some ((RX9, TX9, 87), tyX9, [60, 61, 62, 63, 64, 65, 66, 67, 68, 69, 70, 71, 72, 73, 74, 75, 76, 77, 78, 79, 80, 81, 82, 83, 84, 85, 86, 87, 88, 89, 90, 91, 92, 93, 94, 95, 96, 97, 98, 99, 100, 101, 102, 103, 104, 105, 106, 107, 108, 109, 110, 111, 112, 113, 114, 115, 116, 117, 118, 119, 120, 121, 122, 123, 124, 125, 126, 127, 128, 129, 130, 131, 132, 133, 134, 135, 136, 137, 138, 139, 140, 141, 142, 143, 144, 145, 146]) from rfl] at hq; cases hq; exact ⟨67, by decide, rfl, rfl, rfl, Or.inl rfl⟩
theorem ff_128_128 : FFd 128 "NameOrchardModel" "isLaid" "[Z" := by
  intro t q hq ht
  rw [show fCl 128 = [10] from rfl] at ht
  simp only [List.mem_cons, List.not_mem_nil, or_false] at ht
  rcases ht with rfl
  · rw [show clf 10 = some ((RX9, TX9, 87), tyX9, [60, 61, 62, 63, 64, 65, 66, 67, 68, 69, 70, 71, 72, 73, 74, 75, 76, 77, 78, 79, 80, 81, 82, 83, 84, 85, 86, 87, 88, 89, 90, 91, 92, 93, 94, 95, 96, 97, 98, 99, 100, 101, 102, 103, 104, 105, 106, 107, 108, 109, 110, 111, 112, 113, 114, 115, 116, 117, 118, 119, 120, 121, 122, 123, 124, 125, 126, 127, 128, 129, 130, 131, 132, 133, 134, 135, 136, 137, 138, 139, 140, 141, 142, 143, 144, 145, 146]) from rfl] at hq; cases hq; exact ⟨68, by decide, rfl, rfl, rfl, Or.inl rfl⟩
theorem ff_129_129 : FFd 129 "NameOrchardModel" "done" "I" := by
  intro t q hq ht
  rw [show fCl 129 = [10] from rfl] at ht
  simp only [List.mem_cons, List.not_mem_nil, or_false] at ht
  rcases ht with rfl
  · rw [show clf 10 = some ((RX9, TX9, 87), tyX9, [60, 61, 62, 63, 64, 65, 66, 67, 68, 69, 70, 71, 72, 73, 74, 75, 76, 77, 78, 79, 80, 81, 82, 83, 84, 85, 86, 87, 88, 89, 90, 91, 92, 93, 94, 95, 96, 97, 98, 99, 100, 101, 102, 103, 104, 105, 106, 107, 108, 109, 110, 111, 112, 113, 114, 115, 116, 117, 118, 119, 120, 121, 122, 123, 124, 125, 126, 127, 128, 129, 130, 131, 132, 133, 134, 135, 136, 137, 138, 139, 140, 141, 142, 143, 144, 145, 146]) from rfl] at hq; cases hq; exact ⟨69, by decide, rfl, rfl, rfl, Or.inl rfl⟩
theorem ff_130_130 : FFd 130 "NameOrchardModel" "wholly" "I" := by
  intro t q hq ht
  rw [show fCl 130 = [10] from rfl] at ht
  simp only [List.mem_cons, List.not_mem_nil, or_false] at ht
  rcases ht with rfl
  · rw [show clf 10 = some ((RX9, TX9, 87), tyX9, [60, 61, 62, 63, 64, 65, 66, 67, 68, 69, 70, 71, 72, 73, 74, 75, 76, 77, 78, 79, 80, 81, 82, 83, 84, 85, 86, 87, 88, 89, 90, 91, 92, 93, 94, 95, 96, 97, 98, 99, 100, 101, 102, 103, 104, 105, 106, 107, 108, 109, 110, 111, 112, 113, 114, 115, 116, 117, 118, 119, 120, 121, 122, 123, 124, 125, 126, 127, 128, 129, 130, 131, 132, 133, 134, 135, 136, 137, 138, 139, 140, 141, 142, 143, 144, 145, 146]) from rfl] at hq; cases hq; exact ⟨70, by decide, rfl, rfl, rfl, Or.inl rfl⟩
theorem ff_131_131 : FFd 131 "NameOrchardModel" "echo" "I" := by
  intro t q hq ht
  rw [show fCl 131 = [10] from rfl] at ht
  simp only [List.mem_cons, List.not_mem_nil, or_false] at ht
  rcases ht with rfl
  · rw [show clf 10 = some ((RX9, TX9, 87), tyX9, [60, 61, 62, 63, 64, 65, 66, 67, 68, 69, 70, 71, 72, 73, 74, 75, 76, 77, 78, 79, 80, 81, 82, 83, 84, 85, 86, 87, 88, 89, 90, 91, 92, 93, 94, 95, 96, 97, 98, 99, 100, 101, 102, 103, 104, 105, 106, 107, 108, 109, 110, 111, 112, 113, 114, 115, 116, 117, 118, 119, 120, 121, 122, 123, 124, 125, 126, 127, 128, 129, 130, 131, 132, 133, 134, 135, 136, 137, 138, 139, 140, 141, 142, 143, 144, 145, 146]) from rfl] at hq; cases hq; exact ⟨71, by decide, rfl, rfl, rfl, Or.inl rfl⟩
theorem ff_132_132 : FFd 132 "NameOrchardModel" "looseThen" "I" := by
  intro t q hq ht
  rw [show fCl 132 = [10] from rfl] at ht
  simp only [List.mem_cons, List.not_mem_nil, or_false] at ht
  rcases ht with rfl
  · rw [show clf 10 = some ((RX9, TX9, 87), tyX9, [60, 61, 62, 63, 64, 65, 66, 67, 68, 69, 70, 71, 72, 73, 74, 75, 76, 77, 78, 79, 80, 81, 82, 83, 84, 85, 86, 87, 88, 89, 90, 91, 92, 93, 94, 95, 96, 97, 98, 99, 100, 101, 102, 103, 104, 105, 106, 107, 108, 109, 110, 111, 112, 113, 114, 115, 116, 117, 118, 119, 120, 121, 122, 123, 124, 125, 126, 127, 128, 129, 130, 131, 132, 133, 134, 135, 136, 137, 138, 139, 140, 141, 142, 143, 144, 145, 146]) from rfl] at hq; cases hq; exact ⟨72, by decide, rfl, rfl, rfl, Or.inl rfl⟩
theorem ff_133_133 : FFd 133 "NameOrchardModel" "isGreen" "Z" := by
  intro t q hq ht
  rw [show fCl 133 = [10] from rfl] at ht
  simp only [List.mem_cons, List.not_mem_nil, or_false] at ht
  rcases ht with rfl
  · rw [show clf 10 = some ((RX9, TX9, 87), tyX9, [60, 61, 62, 63, 64, 65, 66, 67, 68, 69, 70, 71, 72, 73, 74, 75, 76, 77, 78, 79, 80, 81, 82, 83, 84, 85, 86, 87, 88, 89, 90, 91, 92, 93, 94, 95, 96, 97, 98, 99, 100, 101, 102, 103, 104, 105, 106, 107, 108, 109, 110, 111, 112, 113, 114, 115, 116, 117, 118, 119, 120, 121, 122, 123, 124, 125, 126, 127, 128, 129, 130, 131, 132, 133, 134, 135, 136, 137, 138, 139, 140, 141, 142, 143, 144, 145, 146]) from rfl] at hq; cases hq; exact ⟨73, by decide, rfl, rfl, rfl, Or.inl rfl⟩
theorem ff_134_134 : FFd 134 "NameOrchardModel" "heardBy" "[I" := by
  intro t q hq ht
  rw [show fCl 134 = [10] from rfl] at ht
  simp only [List.mem_cons, List.not_mem_nil, or_false] at ht
  rcases ht with rfl
  · rw [show clf 10 = some ((RX9, TX9, 87), tyX9, [60, 61, 62, 63, 64, 65, 66, 67, 68, 69, 70, 71, 72, 73, 74, 75, 76, 77, 78, 79, 80, 81, 82, 83, 84, 85, 86, 87, 88, 89, 90, 91, 92, 93, 94, 95, 96, 97, 98, 99, 100, 101, 102, 103, 104, 105, 106, 107, 108, 109, 110, 111, 112, 113, 114, 115, 116, 117, 118, 119, 120, 121, 122, 123, 124, 125, 126, 127, 128, 129, 130, 131, 132, 133, 134, 135, 136, 137, 138, 139, 140, 141, 142, 143, 144, 145, 146]) from rfl] at hq; cases hq; exact ⟨74, by decide, rfl, rfl, rfl, Or.inl rfl⟩
theorem ff_135_135 : FFd 135 "NameOrchardModel" "halfBy" "[I" := by
  intro t q hq ht
  rw [show fCl 135 = [10] from rfl] at ht
  simp only [List.mem_cons, List.not_mem_nil, or_false] at ht
  rcases ht with rfl
  · rw [show clf 10 = some ((RX9, TX9, 87), tyX9, [60, 61, 62, 63, 64, 65, 66, 67, 68, 69, 70, 71, 72, 73, 74, 75, 76, 77, 78, 79, 80, 81, 82, 83, 84, 85, 86, 87, 88, 89, 90, 91, 92, 93, 94, 95, 96, 97, 98, 99, 100, 101, 102, 103, 104, 105, 106, 107, 108, 109, 110, 111, 112, 113, 114, 115, 116, 117, 118, 119, 120, 121, 122, 123, 124, 125, 126, 127, 128, 129, 130, 131, 132, 133, 134, 135, 136, 137, 138, 139, 140, 141, 142, 143, 144, 145, 146]) from rfl] at hq; cases hq; exact ⟨75, by decide, rfl, rfl, rfl, Or.inl rfl⟩
theorem ff_136_136 : FFd 136 "NameOrchardModel" "callAs" "[I" := by
  intro t q hq ht
  rw [show fCl 136 = [10] from rfl] at ht
  simp only [List.mem_cons, List.not_mem_nil, or_false] at ht
  rcases ht with rfl
  · rw [show clf 10 = some ((RX9, TX9, 87), tyX9, [60, 61, 62, 63, 64, 65, 66, 67, 68, 69, 70, 71, 72, 73, 74, 75, 76, 77, 78, 79, 80, 81, 82, 83, 84, 85, 86, 87, 88, 89, 90, 91, 92, 93, 94, 95, 96, 97, 98, 99, 100, 101, 102, 103, 104, 105, 106, 107, 108, 109, 110, 111, 112, 113, 114, 115, 116, 117, 118, 119, 120, 121, 122, 123, 124, 125, 126, 127, 128, 129, 130, 131, 132, 133, 134, 135, 136, 137, 138, 139, 140, 141, 142, 143, 144, 145, 146]) from rfl] at hq; cases hq; exact ⟨76, by decide, rfl, rfl, rfl, Or.inl rfl⟩
theorem ff_137_137 : FFd 137 "NameOrchardModel" "callMany" "I" := by
  intro t q hq ht
  rw [show fCl 137 = [10] from rfl] at ht
  simp only [List.mem_cons, List.not_mem_nil, or_false] at ht
  rcases ht with rfl
  · rw [show clf 10 = some ((RX9, TX9, 87), tyX9, [60, 61, 62, 63, 64, 65, 66, 67, 68, 69, 70, 71, 72, 73, 74, 75, 76, 77, 78, 79, 80, 81, 82, 83, 84, 85, 86, 87, 88, 89, 90, 91, 92, 93, 94, 95, 96, 97, 98, 99, 100, 101, 102, 103, 104, 105, 106, 107, 108, 109, 110, 111, 112, 113, 114, 115, 116, 117, 118, 119, 120, 121, 122, 123, 124, 125, 126, 127, 128, 129, 130, 131, 132, 133, 134, 135, 136, 137, 138, 139, 140, 141, 142, 143, 144, 145, 146]) from rfl] at hq; cases hq; exact ⟨77, by decide, rfl, rfl, rfl, Or.inl rfl⟩
theorem ff_138_138 : FFd 138 "NameOrchardModel" "valueIn" "[I" := by
  intro t q hq ht
  rw [show fCl 138 = [10] from rfl] at ht
  simp only [List.mem_cons, List.not_mem_nil, or_false] at ht
  rcases ht with rfl
  · rw [show clf 10 = some ((RX9, TX9, 87), tyX9, [60, 61, 62, 63, 64, 65, 66, 67, 68, 69, 70, 71, 72, 73, 74, 75, 76, 77, 78, 79, 80, 81, 82, 83, 84, 85, 86, 87, 88, 89, 90, 91, 92, 93, 94, 95, 96, 97, 98, 99, 100, 101, 102, 103, 104, 105, 106, 107, 108, 109, 110, 111, 112, 113, 114, 115, 116, 117, 118, 119, 120, 121, 122, 123, 124, 125, 126, 127, 128, 129, 130, 131, 132, 133, 134, 135, 136, 137, 138, 139, 140, 141, 142, 143, 144, 145, 146]) from rfl] at hq; cases hq; exact ⟨78, by decide, rfl, rfl, rfl, Or.inl rfl⟩
theorem ff_139_139 : FFd 139 "NameOrchardModel" "firstCall" "I" := by
  intro t q hq ht
  rw [show fCl 139 = [10] from rfl] at ht
  simp only [List.mem_cons, List.not_mem_nil, or_false] at ht
  rcases ht with rfl
  · rw [show clf 10 = some ((RX9, TX9, 87), tyX9, [60, 61, 62, 63, 64, 65, 66, 67, 68, 69, 70, 71, 72, 73, 74, 75, 76, 77, 78, 79, 80, 81, 82, 83, 84, 85, 86, 87, 88, 89, 90, 91, 92, 93, 94, 95, 96, 97, 98, 99, 100, 101, 102, 103, 104, 105, 106, 107, 108, 109, 110, 111, 112, 113, 114, 115, 116, 117, 118, 119, 120, 121, 122, 123, 124, 125, 126, 127, 128, 129, 130, 131, 132, 133, 134, 135, 136, 137, 138, 139, 140, 141, 142, 143, 144, 145, 146]) from rfl] at hq; cases hq; exact ⟨79, by decide, rfl, rfl, rfl, Or.inl rfl⟩
theorem ff_140_140 : FFd 140 "NameOrchardModel" "stateOf" "[I" := by
  intro t q hq ht
  rw [show fCl 140 = [10] from rfl] at ht
  simp only [List.mem_cons, List.not_mem_nil, or_false] at ht
  rcases ht with rfl
  · rw [show clf 10 = some ((RX9, TX9, 87), tyX9, [60, 61, 62, 63, 64, 65, 66, 67, 68, 69, 70, 71, 72, 73, 74, 75, 76, 77, 78, 79, 80, 81, 82, 83, 84, 85, 86, 87, 88, 89, 90, 91, 92, 93, 94, 95, 96, 97, 98, 99, 100, 101, 102, 103, 104, 105, 106, 107, 108, 109, 110, 111, 112, 113, 114, 115, 116, 117, 118, 119, 120, 121, 122, 123, 124, 125, 126, 127, 128, 129, 130, 131, 132, 133, 134, 135, 136, 137, 138, 139, 140, 141, 142, 143, 144, 145, 146]) from rfl] at hq; cases hq; exact ⟨80, by decide, rfl, rfl, rfl, Or.inl rfl⟩
theorem ff_141_141 : FFd 141 "NameOrchardModel" "met" "[I" := by
  intro t q hq ht
  rw [show fCl 141 = [10] from rfl] at ht
  simp only [List.mem_cons, List.not_mem_nil, or_false] at ht
  rcases ht with rfl
  · rw [show clf 10 = some ((RX9, TX9, 87), tyX9, [60, 61, 62, 63, 64, 65, 66, 67, 68, 69, 70, 71, 72, 73, 74, 75, 76, 77, 78, 79, 80, 81, 82, 83, 84, 85, 86, 87, 88, 89, 90, 91, 92, 93, 94, 95, 96, 97, 98, 99, 100, 101, 102, 103, 104, 105, 106, 107, 108, 109, 110, 111, 112, 113, 114, 115, 116, 117, 118, 119, 120, 121, 122, 123, 124, 125, 126, 127, 128, 129, 130, 131, 132, 133, 134, 135, 136, 137, 138, 139, 140, 141, 142, 143, 144, 145, 146]) from rfl] at hq; cases hq; exact ⟨81, by decide, rfl, rfl, rfl, Or.inl rfl⟩
theorem ff_142_142 : FFd 142 "NameOrchardModel" "fallIn" "[I" := by
  intro t q hq ht
  rw [show fCl 142 = [10] from rfl] at ht
  simp only [List.mem_cons, List.not_mem_nil, or_false] at ht
  rcases ht with rfl
  · rw [show clf 10 = some ((RX9, TX9, 87), tyX9, [60, 61, 62, 63, 64, 65, 66, 67, 68, 69, 70, 71, 72, 73, 74, 75, 76, 77, 78, 79, 80, 81, 82, 83, 84, 85, 86, 87, 88, 89, 90, 91, 92, 93, 94, 95, 96, 97, 98, 99, 100, 101, 102, 103, 104, 105, 106, 107, 108, 109, 110, 111, 112, 113, 114, 115, 116, 117, 118, 119, 120, 121, 122, 123, 124, 125, 126, 127, 128, 129, 130, 131, 132, 133, 134, 135, 136, 137, 138, 139, 140, 141, 142, 143, 144, 145, 146]) from rfl] at hq; cases hq; exact ⟨82, by decide, rfl, rfl, rfl, Or.inl rfl⟩
theorem ff_143_143 : FFd 143 "NameOrchardModel" "order" "[I" := by
  intro t q hq ht
  rw [show fCl 143 = [10] from rfl] at ht
  simp only [List.mem_cons, List.not_mem_nil, or_false] at ht
  rcases ht with rfl
  · rw [show clf 10 = some ((RX9, TX9, 87), tyX9, [60, 61, 62, 63, 64, 65, 66, 67, 68, 69, 70, 71, 72, 73, 74, 75, 76, 77, 78, 79, 80, 81, 82, 83, 84, 85, 86, 87, 88, 89, 90, 91, 92, 93, 94, 95, 96, 97, 98, 99, 100, 101, 102, 103, 104, 105, 106, 107, 108, 109, 110, 111, 112, 113, 114, 115, 116, 117, 118, 119, 120, 121, 122, 123, 124, 125, 126, 127, 128, 129, 130, 131, 132, 133, 134, 135, 136, 137, 138, 139, 140, 141, 142, 143, 144, 145, 146]) from rfl] at hq; cases hq; exact ⟨83, by decide, rfl, rfl, rfl, Or.inl rfl⟩
theorem ff_144_144 : FFd 144 "NameOrchardModel" "bestOrder" "[I" := by
  intro t q hq ht
  rw [show fCl 144 = [10] from rfl] at ht
  simp only [List.mem_cons, List.not_mem_nil, or_false] at ht
  rcases ht with rfl
  · rw [show clf 10 = some ((RX9, TX9, 87), tyX9, [60, 61, 62, 63, 64, 65, 66, 67, 68, 69, 70, 71, 72, 73, 74, 75, 76, 77, 78, 79, 80, 81, 82, 83, 84, 85, 86, 87, 88, 89, 90, 91, 92, 93, 94, 95, 96, 97, 98, 99, 100, 101, 102, 103, 104, 105, 106, 107, 108, 109, 110, 111, 112, 113, 114, 115, 116, 117, 118, 119, 120, 121, 122, 123, 124, 125, 126, 127, 128, 129, 130, 131, 132, 133, 134, 135, 136, 137, 138, 139, 140, 141, 142, 143, 144, 145, 146]) from rfl] at hq; cases hq; exact ⟨84, by decide, rfl, rfl, rfl, Or.inl rfl⟩
theorem ff_145_145 : FFd 145 "NameOrchardModel" "bestLost" "I" := by
  intro t q hq ht
  rw [show fCl 145 = [10] from rfl] at ht
  simp only [List.mem_cons, List.not_mem_nil, or_false] at ht
  rcases ht with rfl
  · rw [show clf 10 = some ((RX9, TX9, 87), tyX9, [60, 61, 62, 63, 64, 65, 66, 67, 68, 69, 70, 71, 72, 73, 74, 75, 76, 77, 78, 79, 80, 81, 82, 83, 84, 85, 86, 87, 88, 89, 90, 91, 92, 93, 94, 95, 96, 97, 98, 99, 100, 101, 102, 103, 104, 105, 106, 107, 108, 109, 110, 111, 112, 113, 114, 115, 116, 117, 118, 119, 120, 121, 122, 123, 124, 125, 126, 127, 128, 129, 130, 131, 132, 133, 134, 135, 136, 137, 138, 139, 140, 141, 142, 143, 144, 145, 146]) from rfl] at hq; cases hq; exact ⟨85, by decide, rfl, rfl, rfl, Or.inl rfl⟩
theorem ff_146_146 : FFd 146 "NameOrchardModel" "g" "J" := by
  intro t q hq ht
  rw [show fCl 146 = [10] from rfl] at ht
  simp only [List.mem_cons, List.not_mem_nil, or_false] at ht
  rcases ht with rfl
  · rw [show clf 10 = some ((RX9, TX9, 87), tyX9, [60, 61, 62, 63, 64, 65, 66, 67, 68, 69, 70, 71, 72, 73, 74, 75, 76, 77, 78, 79, 80, 81, 82, 83, 84, 85, 86, 87, 88, 89, 90, 91, 92, 93, 94, 95, 96, 97, 98, 99, 100, 101, 102, 103, 104, 105, 106, 107, 108, 109, 110, 111, 112, 113, 114, 115, 116, 117, 118, 119, 120, 121, 122, 123, 124, 125, 126, 127, 128, 129, 130, 131, 132, 133, 134, 135, 136, 137, 138, 139, 140, 141, 142, 143, 144, 145, 146]) from rfl] at hq; cases hq; exact ⟨86, by decide, rfl, rfl, rfl, Or.inl rfl⟩
theorem ff_153_147 : FFd 153 "NameOrchard$Wrong" "fault" "I" := by
  intro t q hq ht
  rw [show fCl 153 = [11] from rfl] at ht
  simp only [List.mem_cons, List.not_mem_nil, or_false] at ht
  rcases ht with rfl
  · rw [show clf 11 = some ((RX10, TX10, 7), tyX10, [147, 148, 149, 150, 151, 152, 153]) from rfl] at hq; cases hq; exact ⟨6, by decide, rfl, rfl, rfl, Or.inl rfl⟩
theorem ff_154_148 : FFd 154 "NameOrchard$Apple" "sound" "I" := by
  intro t q hq ht
  rw [show fCl 154 = [12, 13, 14, 15] from rfl] at ht
  simp only [List.mem_cons, List.not_mem_nil, or_false] at ht
  rcases ht with rfl | rfl | rfl | rfl
  · rw [show clf 12 = some ((RX11, TX11, 6), tyX11, [154, 155, 156, 157, 158, 159]) from rfl] at hq; cases hq; exact ⟨0, by decide, rfl, rfl, rfl, Or.inl rfl⟩
  · rw [show clf 13 = some ((RX12, TX12, 6), tyX12, [154, 155, 156, 157, 158, 159]) from rfl] at hq; cases hq; exact ⟨0, by decide, rfl, rfl, rfl, Or.inl rfl⟩
  · rw [show clf 14 = some ((RX13, TX13, 6), tyX13, [154, 155, 156, 157, 158, 159]) from rfl] at hq; cases hq; exact ⟨0, by decide, rfl, rfl, rfl, Or.inl rfl⟩
  · rw [show clf 15 = some ((RX14, TX14, 6), tyX14, [154, 155, 156, 157, 158, 159]) from rfl] at hq; cases hq; exact ⟨0, by decide, rfl, rfl, rfl, Or.inl rfl⟩
theorem ff_155_149 : FFd 155 "NameOrchard$Apple" "place" "I" := by
  intro t q hq ht
  rw [show fCl 155 = [12, 13, 14, 15] from rfl] at ht
  simp only [List.mem_cons, List.not_mem_nil, or_false] at ht
  rcases ht with rfl | rfl | rfl | rfl
  · rw [show clf 12 = some ((RX11, TX11, 6), tyX11, [154, 155, 156, 157, 158, 159]) from rfl] at hq; cases hq; exact ⟨1, by decide, rfl, rfl, rfl, Or.inl rfl⟩
  · rw [show clf 13 = some ((RX12, TX12, 6), tyX12, [154, 155, 156, 157, 158, 159]) from rfl] at hq; cases hq; exact ⟨1, by decide, rfl, rfl, rfl, Or.inl rfl⟩
  · rw [show clf 14 = some ((RX13, TX13, 6), tyX13, [154, 155, 156, 157, 158, 159]) from rfl] at hq; cases hq; exact ⟨1, by decide, rfl, rfl, rfl, Or.inl rfl⟩
  · rw [show clf 15 = some ((RX14, TX14, 6), tyX14, [154, 155, 156, 157, 158, 159]) from rfl] at hq; cases hq; exact ⟨1, by decide, rfl, rfl, rfl, Or.inl rfl⟩
theorem ff_156_150 : FFd 156 "NameOrchard$Apple" "row" "I" := by
  intro t q hq ht
  rw [show fCl 156 = [12, 13, 14, 15] from rfl] at ht
  simp only [List.mem_cons, List.not_mem_nil, or_false] at ht
  rcases ht with rfl | rfl | rfl | rfl
  · rw [show clf 12 = some ((RX11, TX11, 6), tyX11, [154, 155, 156, 157, 158, 159]) from rfl] at hq; cases hq; exact ⟨2, by decide, rfl, rfl, rfl, Or.inl rfl⟩
  · rw [show clf 13 = some ((RX12, TX12, 6), tyX12, [154, 155, 156, 157, 158, 159]) from rfl] at hq; cases hq; exact ⟨2, by decide, rfl, rfl, rfl, Or.inl rfl⟩
  · rw [show clf 14 = some ((RX13, TX13, 6), tyX13, [154, 155, 156, 157, 158, 159]) from rfl] at hq; cases hq; exact ⟨2, by decide, rfl, rfl, rfl, Or.inl rfl⟩
  · rw [show clf 15 = some ((RX14, TX14, 6), tyX14, [154, 155, 156, 157, 158, 159]) from rfl] at hq; cases hq; exact ⟨2, by decide, rfl, rfl, rfl, Or.inl rfl⟩
theorem ff_157_151 : FFd 157 "NameOrchard$Apple" "ripe" "I" := by
  intro t q hq ht
  rw [show fCl 157 = [12, 13, 14, 15] from rfl] at ht
  simp only [List.mem_cons, List.not_mem_nil, or_false] at ht
  rcases ht with rfl | rfl | rfl | rfl
  · rw [show clf 12 = some ((RX11, TX11, 6), tyX11, [154, 155, 156, 157, 158, 159]) from rfl] at hq; cases hq; exact ⟨3, by decide, rfl, rfl, rfl, Or.inl rfl⟩
  · rw [show clf 13 = some ((RX12, TX12, 6), tyX12, [154, 155, 156, 157, 158, 159]) from rfl] at hq; cases hq; exact ⟨3, by decide, rfl, rfl, rfl, Or.inl rfl⟩
  · rw [show clf 14 = some ((RX13, TX13, 6), tyX13, [154, 155, 156, 157, 158, 159]) from rfl] at hq; cases hq; exact ⟨3, by decide, rfl, rfl, rfl, Or.inl rfl⟩
  · rw [show clf 15 = some ((RX14, TX14, 6), tyX14, [154, 155, 156, 157, 158, 159]) from rfl] at hq; cases hq; exact ⟨3, by decide, rfl, rfl, rfl, Or.inl rfl⟩
theorem ff_158_152 : FFd 158 "NameOrchard$Apple" "worth" "I" := by
  intro t q hq ht
  rw [show fCl 158 = [12, 13, 14, 15] from rfl] at ht
  simp only [List.mem_cons, List.not_mem_nil, or_false] at ht
  rcases ht with rfl | rfl | rfl | rfl
  · rw [show clf 12 = some ((RX11, TX11, 6), tyX11, [154, 155, 156, 157, 158, 159]) from rfl] at hq; cases hq; exact ⟨4, by decide, rfl, rfl, rfl, Or.inl rfl⟩
  · rw [show clf 13 = some ((RX12, TX12, 6), tyX12, [154, 155, 156, 157, 158, 159]) from rfl] at hq; cases hq; exact ⟨4, by decide, rfl, rfl, rfl, Or.inl rfl⟩
  · rw [show clf 14 = some ((RX13, TX13, 6), tyX13, [154, 155, 156, 157, 158, 159]) from rfl] at hq; cases hq; exact ⟨4, by decide, rfl, rfl, rfl, Or.inl rfl⟩
  · rw [show clf 15 = some ((RX14, TX14, 6), tyX14, [154, 155, 156, 157, 158, 159]) from rfl] at hq; cases hq; exact ⟨4, by decide, rfl, rfl, rfl, Or.inl rfl⟩
theorem ff_159_153 : FFd 159 "NameOrchard$Apple" "twin" "I" := by
  intro t q hq ht
  rw [show fCl 159 = [12, 13, 14, 15] from rfl] at ht
  simp only [List.mem_cons, List.not_mem_nil, or_false] at ht
  rcases ht with rfl | rfl | rfl | rfl
  · rw [show clf 12 = some ((RX11, TX11, 6), tyX11, [154, 155, 156, 157, 158, 159]) from rfl] at hq; cases hq; exact ⟨5, by decide, rfl, rfl, rfl, Or.inl rfl⟩
  · rw [show clf 13 = some ((RX12, TX12, 6), tyX12, [154, 155, 156, 157, 158, 159]) from rfl] at hq; cases hq; exact ⟨5, by decide, rfl, rfl, rfl, Or.inl rfl⟩
  · rw [show clf 14 = some ((RX13, TX13, 6), tyX13, [154, 155, 156, 157, 158, 159]) from rfl] at hq; cases hq; exact ⟨5, by decide, rfl, rfl, rfl, Or.inl rfl⟩
  · rw [show clf 15 = some ((RX14, TX14, 6), tyX14, [154, 155, 156, 157, 158, 159]) from rfl] at hq; cases hq; exact ⟨5, by decide, rfl, rfl, rfl, Or.inl rfl⟩
theorem ff_160_154 : FFd 160 "NameOrchard$Sound" "name" "J" := by
  intro t q hq ht
  rw [show fCl 160 = [16] from rfl] at ht
  simp only [List.mem_cons, List.not_mem_nil, or_false] at ht
  rcases ht with rfl
  · rw [show clf 16 = some ((RX15, TX15, 3), tyX15, [160, 161, 162]) from rfl] at hq; cases hq; exact ⟨0, by decide, rfl, rfl, rfl, Or.inl rfl⟩
theorem ff_161_155 : FFd 161 "NameOrchard$Sound" "letters" "[I" := by
  intro t q hq ht
  rw [show fCl 161 = [16] from rfl] at ht
  simp only [List.mem_cons, List.not_mem_nil, or_false] at ht
  rcases ht with rfl
  · rw [show clf 16 = some ((RX15, TX15, 3), tyX15, [160, 161, 162]) from rfl] at hq; cases hq; exact ⟨1, by decide, rfl, rfl, rfl, Or.inl rfl⟩
theorem ff_162_156 : FFd 162 "NameOrchard$Sound" "many" "I" := by
  intro t q hq ht
  rw [show fCl 162 = [16] from rfl] at ht
  simp only [List.mem_cons, List.not_mem_nil, or_false] at ht
  rcases ht with rfl
  · rw [show clf 16 = some ((RX15, TX15, 3), tyX15, [160, 161, 162]) from rfl] at hq; cases hq; exact ⟨2, by decide, rfl, rfl, rfl, Or.inl rfl⟩
theorem ff_163_157 : FFd 163 "NameOrchard$Person" "lane" "I" := by
  intro t q hq ht
  rw [show fCl 163 = [17] from rfl] at ht
  simp only [List.mem_cons, List.not_mem_nil, or_false] at ht
  rcases ht with rfl
  · rw [show clf 17 = some ((RX16, TX16, 3), tyX16, [163, 164, 165]) from rfl] at hq; cases hq; exact ⟨0, by decide, rfl, rfl, rfl, Or.inl rfl⟩
theorem ff_164_158 : FFd 164 "NameOrchard$Person" "loud" "I" := by
  intro t q hq ht
  rw [show fCl 164 = [17] from rfl] at ht
  simp only [List.mem_cons, List.not_mem_nil, or_false] at ht
  rcases ht with rfl
  · rw [show clf 17 = some ((RX16, TX16, 3), tyX16, [163, 164, 165]) from rfl] at hq; cases hq; exact ⟨1, by decide, rfl, rfl, rfl, Or.inl rfl⟩
theorem ff_165_159 : FFd 165 "NameOrchard$Person" "mute" "I" := by
  intro t q hq ht
  rw [show fCl 165 = [17] from rfl] at ht
  simp only [List.mem_cons, List.not_mem_nil, or_false] at ht
  rcases ht with rfl
  · rw [show clf 17 = some ((RX16, TX16, 3), tyX16, [163, 164, 165]) from rfl] at hq; cases hq; exact ⟨2, by decide, rfl, rfl, rfl, Or.inl rfl⟩
theorem ff_166_160 : FFd 166 "NameOrchard$Fact" "which" "I" := by
  intro t q hq ht
  rw [show fCl 166 = [19] from rfl] at ht
  simp only [List.mem_cons, List.not_mem_nil, or_false] at ht
  rcases ht with rfl
  · rw [show clf 19 = some ((RX18, TX18, 1), tyX18, [166]) from rfl] at hq; cases hq; exact ⟨0, by decide, rfl, rfl, rfl, Or.inl rfl⟩
theorem ff_167_161 : FFd 167 "NameOrchard$Plain" "n" "I" := by
  intro t q hq ht
  rw [show fCl 167 = [20] from rfl] at ht
  simp only [List.mem_cons, List.not_mem_nil, or_false] at ht
  rcases ht with rfl
  · rw [show clf 20 = some ((RX19, TX19, 1), tyX19, [167]) from rfl] at hq; cases hq; exact ⟨0, by decide, rfl, rfl, rfl, Or.inl rfl⟩
theorem ff_168_162 : FFd 168 "NameOrchard$Not" "e" "LNameOrchard$Expression;" := by
  intro t q hq ht
  rw [show fCl 168 = [21] from rfl] at ht
  simp only [List.mem_cons, List.not_mem_nil, or_false] at ht
  rcases ht with rfl
  · rw [show clf 21 = some ((RX20, TX20, 1), tyX20, [168]) from rfl] at hq; cases hq; exact ⟨0, by decide, rfl, rfl, rfl, Or.inl rfl⟩
theorem ff_169_163 : FFd 169 "NameOrchard$Chain" "first" "LNameOrchard$Expression;" := by
  intro t q hq ht
  rw [show fCl 169 = [22] from rfl] at ht
  simp only [List.mem_cons, List.not_mem_nil, or_false] at ht
  rcases ht with rfl
  · rw [show clf 22 = some ((RX21, TX21, 2), tyX21, [169, 170]) from rfl] at hq; cases hq; exact ⟨0, by decide, rfl, rfl, rfl, Or.inl rfl⟩
theorem ff_170_164 : FFd 170 "NameOrchard$Chain" "links" "Ljava/util/ArrayList;" := by
  intro t q hq ht
  rw [show fCl 170 = [22] from rfl] at ht
  simp only [List.mem_cons, List.not_mem_nil, or_false] at ht
  rcases ht with rfl
  · rw [show clf 22 = some ((RX21, TX21, 2), tyX21, [169, 170]) from rfl] at hq; cases hq; exact ⟨1, by decide, rfl, rfl, rfl, Or.inl rfl⟩
theorem ff_171_165 : FFd 171 "NameOrchard$Link" "e" "LNameOrchard$Expression;" := by
  intro t q hq ht
  rw [show fCl 171 = [24, 25, 26, 27, 28, 29, 30] from rfl] at ht
  simp only [List.mem_cons, List.not_mem_nil, or_false] at ht
  rcases ht with rfl | rfl | rfl | rfl | rfl | rfl | rfl
  · rw [show clf 24 = some ((RX23, TX23, 1), tyX23, [171]) from rfl] at hq; cases hq; exact ⟨0, by decide, rfl, rfl, rfl, Or.inl rfl⟩
  · rw [show clf 25 = some ((RX24, TX24, 1), tyX24, [171]) from rfl] at hq; cases hq; exact ⟨0, by decide, rfl, rfl, rfl, Or.inl rfl⟩
  · rw [show clf 26 = some ((RX25, TX25, 1), tyX25, [171]) from rfl] at hq; cases hq; exact ⟨0, by decide, rfl, rfl, rfl, Or.inl rfl⟩
  · rw [show clf 27 = some ((RX26, TX26, 1), tyX26, [171]) from rfl] at hq; cases hq; exact ⟨0, by decide, rfl, rfl, rfl, Or.inl rfl⟩
  · rw [show clf 28 = some ((RX27, TX27, 1), tyX27, [171]) from rfl] at hq; cases hq; exact ⟨0, by decide, rfl, rfl, rfl, Or.inl rfl⟩
  · rw [show clf 29 = some ((RX28, TX28, 1), tyX28, [171]) from rfl] at hq; cases hq; exact ⟨0, by decide, rfl, rfl, rfl, Or.inl rfl⟩
  · rw [show clf 30 = some ((RX29, TX29, 1), tyX29, [171]) from rfl] at hq; cases hq; exact ⟨0, by decide, rfl, rfl, rfl, Or.inl rfl⟩
theorem ff_172_166 : FFd 172 "NameOrchard$Calls" "person" "I" := by
  intro t q hq ht
  rw [show fCl 172 = [32] from rfl] at ht
  simp only [List.mem_cons, List.not_mem_nil, or_false] at ht
  rcases ht with rfl
  · rw [show clf 32 = some ((RX31, TX31, 2), tyX31, [172, 173]) from rfl] at hq; cases hq; exact ⟨0, by decide, rfl, rfl, rfl, Or.inl rfl⟩
theorem ff_173_167 : FFd 173 "NameOrchard$Calls" "sound" "I" := by
  intro t q hq ht
  rw [show fCl 173 = [32] from rfl] at ht
  simp only [List.mem_cons, List.not_mem_nil, or_false] at ht
  rcases ht with rfl
  · rw [show clf 32 = some ((RX31, TX31, 2), tyX31, [172, 173]) from rfl] at hq; cases hq; exact ⟨1, by decide, rfl, rfl, rfl, Or.inl rfl⟩
theorem ff_174_168 : FFd 174 "NameOrchard$Picks" "apple" "I" := by
  intro t q hq ht
  rw [show fCl 174 = [33] from rfl] at ht
  simp only [List.mem_cons, List.not_mem_nil, or_false] at ht
  rcases ht with rfl
  · rw [show clf 33 = some ((RX32, TX32, 1), tyX32, [174]) from rfl] at hq; cases hq; exact ⟨0, by decide, rfl, rfl, rfl, Or.inl rfl⟩
theorem ff_175_169 : FFd 175 "NameOrchard$Mark" "boughs" "LNameOrchard$Boughs;" := by
  intro t q hq ht
  rw [show fCl 175 = [35] from rfl] at ht
  simp only [List.mem_cons, List.not_mem_nil, or_false] at ht
  rcases ht with rfl
  · rw [show clf 35 = some ((RX34, TX34, 4), tyX34, [175, 176, 177, 178]) from rfl] at hq; cases hq; exact ⟨0, by decide, rfl, rfl, rfl, Or.inl rfl⟩
theorem ff_176_170 : FFd 176 "NameOrchard$Mark" "days" "Ljava/util/ArrayList;" := by
  intro t q hq ht
  rw [show fCl 176 = [35] from rfl] at ht
  simp only [List.mem_cons, List.not_mem_nil, or_false] at ht
  rcases ht with rfl
  · rw [show clf 35 = some ((RX34, TX34, 4), tyX34, [175, 176, 177, 178]) from rfl] at hq; cases hq; exact ⟨1, by decide, rfl, rfl, rfl, Or.inl rfl⟩
theorem ff_177_171 : FFd 177 "NameOrchard$Mark" "lies" "[I" := by
  intro t q hq ht
  rw [show fCl 177 = [35] from rfl] at ht
  simp only [List.mem_cons, List.not_mem_nil, or_false] at ht
  rcases ht with rfl
  · rw [show clf 35 = some ((RX34, TX34, 4), tyX34, [175, 176, 177, 178]) from rfl] at hq; cases hq; exact ⟨2, by decide, rfl, rfl, rfl, Or.inl rfl⟩
theorem ff_178_172 : FFd 178 "NameOrchard$Mark" "told" "Ljava/util/ArrayList;" := by
  intro t q hq ht
  rw [show fCl 178 = [35] from rfl] at ht
  simp only [List.mem_cons, List.not_mem_nil, or_false] at ht
  rcases ht with rfl
  · rw [show clf 35 = some ((RX34, TX34, 4), tyX34, [175, 176, 177, 178]) from rfl] at hq; cases hq; exact ⟨3, by decide, rfl, rfl, rfl, Or.inl rfl⟩
theorem ff_179_173 : FFd 179 "java/util/AbstractList" "modCount" "I" := by
  intro t q hq ht
  rw [show fCl 179 = [42] from rfl] at ht
  simp only [List.mem_cons, List.not_mem_nil, or_false] at ht
  rcases ht with rfl
  · rw [show clf 42 = some ((RJ2, TJ2, 3), tyJ2, [179, 180, 181]) from rfl] at hq; cases hq; exact ⟨0, by decide, rfl, rfl, rfl, Or.inl rfl⟩
theorem ff_179_174 : FFd 179 "java/util/ArrayList" "modCount" "I" := by
  intro t q hq ht
  rw [show fCl 179 = [42] from rfl] at ht
  simp only [List.mem_cons, List.not_mem_nil, or_false] at ht
  rcases ht with rfl
  · rw [show clf 42 = some ((RJ2, TJ2, 3), tyJ2, [179, 180, 181]) from rfl] at hq; cases hq; exact ⟨0, by decide, rfl, rfl, rfl, Or.inr ⟨rfl, q334⟩⟩
theorem ff_180_175 : FFd 180 "java/util/ArrayList" "elementData" "[Ljava/lang/Object;" := by
  intro t q hq ht
  rw [show fCl 180 = [42] from rfl] at ht
  simp only [List.mem_cons, List.not_mem_nil, or_false] at ht
  rcases ht with rfl
  · rw [show clf 42 = some ((RJ2, TJ2, 3), tyJ2, [179, 180, 181]) from rfl] at hq; cases hq; exact ⟨1, by decide, rfl, rfl, rfl, Or.inl rfl⟩
theorem ff_181_176 : FFd 181 "java/util/ArrayList" "size" "I" := by
  intro t q hq ht
  rw [show fCl 181 = [42] from rfl] at ht
  simp only [List.mem_cons, List.not_mem_nil, or_false] at ht
  rcases ht with rfl
  · rw [show clf 42 = some ((RJ2, TJ2, 3), tyJ2, [179, 180, 181]) from rfl] at hq; cases hq; exact ⟨2, by decide, rfl, rfl, rfl, Or.inl rfl⟩
theorem ff_182_177 : FFd 182 "java/lang/Long" "value" "J" := by
  intro t q hq ht
  rw [show fCl 182 = [55, 155] from rfl] at ht
  simp only [List.mem_cons, List.not_mem_nil, or_false] at ht
  rcases ht with rfl | rfl
  · rw [show clf 55 = some ((RJ15, TJ15, 1), tyJ15, [182]) from rfl] at hq; cases hq; exact ⟨0, by decide, rfl, rfl, rfl, Or.inl rfl⟩
  · rw [show clf 155 = none from rfl] at hq; cases hq
theorem ff_200_178 : FFd 200 "java/lang/String" "value" "[B" := by
  intro t q hq ht
  rw [show fCl 200 = [45] from rfl, List.mem_singleton] at ht
  subst ht
  rw [show clf 45 = none from rfl] at hq
  cases hq
theorem ff_201_179 : FFd 201 "java/lang/String" "coder" "B" := by
  intro t q hq ht
  rw [show fCl 201 = [45] from rfl, List.mem_singleton] at ht
  subst ht
  rw [show clf 45 = none from rfl] at hq
  cases hq
theorem fl_2_26 : FLk 2 26 0 := ⟨"NameOrchard", "reader", "LNameOrchard$Reader;", Or.inl q518, ff_0_0, by decide +kernel, by decide +kernel, by decide +kernel, by decide +kernel⟩
theorem fl_2_40 : FLk 2 40 1 := ⟨"NameOrchard", "boughs", "LNameOrchard$Boughs;", Or.inl q521, ff_1_1, by decide +kernel, by decide +kernel, by decide +kernel, by decide +kernel⟩
theorem fl_2_44 : FLk 2 44 2 := ⟨"NameOrchard", "trial", "LNameOrchard$Boughs;", Or.inl q522, ff_2_2, by decide +kernel, by decide +kernel, by decide +kernel, by decide +kernel⟩
theorem fl_2_52 : FLk 2 52 3 := ⟨"NameOrchard", "days", "Ljava/util/ArrayList;", Or.inl q523, ff_3_3, by decide +kernel, by decide +kernel, by decide +kernel, by decide +kernel⟩
theorem fl_2_56 : FLk 2 56 4 := ⟨"NameOrchard", "lies", "[I", Or.inl q524, ff_4_4, by decide +kernel, by decide +kernel, by decide +kernel, by decide +kernel⟩
theorem fl_2_60 : FLk 2 60 5 := ⟨"NameOrchard", "told", "Ljava/util/ArrayList;", Or.inl q525, ff_5_5, by decide +kernel, by decide +kernel, by decide +kernel, by decide +kernel⟩
theorem fl_2_64 : FLk 2 64 6 := ⟨"NameOrchard", "behind", "Ljava/util/ArrayList;", Or.inl q526, ff_6_6, by decide +kernel, by decide +kernel, by decide +kernel, by decide +kernel⟩
theorem fl_2_72 : FLk 2 72 7 := ⟨"NameOrchard", "reach", "LNameOrchard$Reach;", Or.inl q528, ff_7_7, by decide +kernel, by decide +kernel, by decide +kernel, by decide +kernel⟩
theorem fl_2_79 : FLk 2 79 8 := ⟨"NameOrchard", "crops", "LNameOrchard$Crops;", Or.inl q529, ff_8_8, by decide +kernel, by decide +kernel, by decide +kernel, by decide +kernel⟩
theorem fl_2_86 : FLk 2 86 9 := ⟨"NameOrchard", "weeks", "LNameOrchard$Weeks;", Or.inl q530, ff_9_9, by decide +kernel, by decide +kernel, by decide +kernel, by decide +kernel⟩
theorem fl_2_92 : FLk 2 92 11 := ⟨"NameOrchard", "marks", "[LNameOrchard$Mark;", Or.inl q532, ff_11_11, by decide +kernel, by decide +kernel, by decide +kernel, by decide +kernel⟩
theorem fl_2_100 : FLk 2 100 19 := ⟨"NameOrchard$Reader", "taped", "I", Or.inl q232, ff_19_19, by decide +kernel, by decide +kernel, by decide +kernel, by decide +kernel⟩
theorem fl_2_113 : FLk 2 113 153 := ⟨"NameOrchard$Wrong", "fault", "I", Or.inl q767, ff_153_147, by decide +kernel, by decide +kernel, by decide +kernel, by decide +kernel⟩
theorem fl_2_122 : FLk 2 122 25 := ⟨"NameOrchard$Boughs", "orchard", "LNameOrchard$Orchard;", Or.inl q276, ff_25_25, by decide +kernel, by decide +kernel, by decide +kernel, by decide +kernel⟩
theorem fl_2_125 : FLk 2 125 32 := ⟨"NameOrchard$Orchard", "apples", "Ljava/util/ArrayList;", Or.inl q357, ff_32_32, by decide +kernel, by decide +kernel, by decide +kernel, by decide +kernel⟩
theorem fl_2_132 : FLk 2 132 33 := ⟨"NameOrchard$Orchard", "sounds", "Ljava/util/ArrayList;", Or.inl q360, ff_33_33, by decide +kernel, by decide +kernel, by decide +kernel, by decide +kernel⟩
theorem fl_2_143 : FLk 2 143 35 := ⟨"NameOrchard$Orchard", "people", "Ljava/util/ArrayList;", Or.inl q367, ff_35_35, by decide +kernel, by decide +kernel, by decide +kernel, by decide +kernel⟩
theorem fl_2_157 : FLk 2 157 155 := ⟨"NameOrchard$Apple", "place", "I", Or.inl q839, ff_155_149, by decide +kernel, by decide +kernel, by decide +kernel, by decide +kernel⟩
theorem fl_2_160 : FLk 2 160 156 := ⟨"NameOrchard$Apple", "row", "I", Or.inl q842, ff_156_150, by decide +kernel, by decide +kernel, by decide +kernel, by decide +kernel⟩
theorem fl_2_163 : FLk 2 163 157 := ⟨"NameOrchard$Apple", "ripe", "I", Or.inl q846, ff_157_151, by decide +kernel, by decide +kernel, by decide +kernel, by decide +kernel⟩
theorem fl_2_166 : FLk 2 166 158 := ⟨"NameOrchard$Apple", "worth", "I", Or.inl q850, ff_158_152, by decide +kernel, by decide +kernel, by decide +kernel, by decide +kernel⟩
theorem fl_2_172 : FLk 2 172 28 := ⟨"NameOrchard$Boughs", "sounds", "[I", Or.inl q284, ff_28_28, by decide +kernel, by decide +kernel, by decide +kernel, by decide +kernel⟩
theorem fl_2_174 : FLk 2 174 27 := ⟨"NameOrchard$Boughs", "loose", "I", Or.inl q282, ff_27_27, by decide +kernel, by decide +kernel, by decide +kernel, by decide +kernel⟩
theorem fl_2_181 : FLk 2 181 159 := ⟨"NameOrchard$Apple", "twin", "I", Or.inl q853, ff_159_153, by decide +kernel, by decide +kernel, by decide +kernel, by decide +kernel⟩
theorem fl_2_184 : FLk 2 184 29 := ⟨"NameOrchard$Boughs", "day", "I", Or.inl q287, ff_29_29, by decide +kernel, by decide +kernel, by decide +kernel, by decide +kernel⟩
theorem fl_2_256 : FLk 2 256 26 := ⟨"NameOrchard$Boughs", "hang", "I", Or.inl q279, ff_26_26, by decide +kernel, by decide +kernel, by decide +kernel, by decide +kernel⟩
theorem fl_2_270 : FLk 2 270 30 := ⟨"NameOrchard$Boughs", "had", "I", Or.inl q290, ff_30_30, by decide +kernel, by decide +kernel, by decide +kernel, by decide +kernel⟩
theorem fl_2_276 : FLk 2 276 51 := ⟨"NameOrchard$Crops", "first", "I", Or.inl q473, ff_51_51, by decide +kernel, by decide +kernel, by decide +kernel, by decide +kernel⟩
theorem fl_2_314 : FLk 2 314 36 := ⟨"NameOrchard$Orchard", "strangers", "Ljava/util/ArrayList;", Or.inl q371, ff_36_36, by decide +kernel, by decide +kernel, by decide +kernel, by decide +kernel⟩
theorem fl_2_329 : FLk 2 329 37 := ⟨"NameOrchard$Orchard", "pages", "Ljava/util/ArrayList;", Or.inl q374, ff_37_37, by decide +kernel, by decide +kernel, by decide +kernel, by decide +kernel⟩
theorem fl_2_332 : FLk 2 332 154 := ⟨"NameOrchard$Apple", "sound", "I", Or.inl q837, ff_154_148, by decide +kernel, by decide +kernel, by decide +kernel, by decide +kernel⟩
theorem fl_2_352 : FLk 2 352 38 := ⟨"NameOrchard$Orchard", "banns", "Ljava/util/ArrayList;", Or.inl q378, ff_38_38, by decide +kernel, by decide +kernel, by decide +kernel, by decide +kernel⟩
theorem fl_2_359 : FLk 2 359 56 := ⟨"NameOrchard$Weeks", "least", "I", Or.inl q497, ff_56_56, by decide +kernel, by decide +kernel, by decide +kernel, by decide +kernel⟩
theorem fl_2_362 : FLk 2 362 55 := ⟨"NameOrchard$Weeks", "best", "[I", Or.inl q495, ff_55_55, by decide +kernel, by decide +kernel, by decide +kernel, by decide +kernel⟩
theorem fl_2_365 : FLk 2 365 10 := ⟨"NameOrchard", "g", "J", Or.inl q531, ff_10_10, by decide +kernel, by decide +kernel, by decide +kernel, by decide +kernel⟩
theorem fl_2_401 : FLk 2 401 175 := ⟨"NameOrchard$Mark", "boughs", "LNameOrchard$Boughs;", Or.inr ⟨_, q1804⟩, ff_175_169, by decide +kernel, by decide +kernel, by decide +kernel, by decide +kernel⟩
theorem fl_2_402 : FLk 2 402 176 := ⟨"NameOrchard$Mark", "days", "Ljava/util/ArrayList;", Or.inr ⟨_, q1806⟩, ff_176_170, by decide +kernel, by decide +kernel, by decide +kernel, by decide +kernel⟩
theorem fl_2_403 : FLk 2 403 177 := ⟨"NameOrchard$Mark", "lies", "[I", Or.inr ⟨_, q1808⟩, ff_177_171, by decide +kernel, by decide +kernel, by decide +kernel, by decide +kernel⟩
theorem fl_2_404 : FLk 2 404 178 := ⟨"NameOrchard$Mark", "told", "Ljava/util/ArrayList;", Or.inr ⟨_, q1810⟩, ff_178_172, by decide +kernel, by decide +kernel, by decide +kernel, by decide +kernel⟩
theorem fl_2_405 : FLk 2 405 31 := ⟨"NameOrchard$Boughs", "isPicked", "Z", Or.inl q292, ff_31_31, by decide +kernel, by decide +kernel, by decide +kernel, by decide +kernel⟩
theorem fl_3_19 : FLk 3 19 12 := ⟨"NameOrchard$Reader", "nearFacts", "[Ljava/lang/String;", Or.inl q224, ff_12_12, by decide +kernel, by decide +kernel, by decide +kernel, by decide +kernel⟩
theorem fl_3_29 : FLk 3 29 13 := ⟨"NameOrchard$Reader", "valueFacts", "[Ljava/lang/String;", Or.inl q225, ff_13_13, by decide +kernel, by decide +kernel, by decide +kernel, by decide +kernel⟩
theorem fl_3_40 : FLk 3 40 14 := ⟨"NameOrchard$Reader", "kinds", "[Ljava/lang/String;", Or.inl q226, ff_14_14, by decide +kernel, by decide +kernel, by decide +kernel, by decide +kernel⟩
theorem fl_3_83 : FLk 3 83 15 := ⟨"NameOrchard$Reader", "kept", "[Ljava/lang/String;", Or.inl q227, ff_15_15, by decide +kernel, by decide +kernel, by decide +kernel, by decide +kernel⟩
theorem fl_3_86 : FLk 3 86 17 := ⟨"NameOrchard$Reader", "facts", "[Ljava/lang/String;", Or.inl q229, ff_17_17, by decide +kernel, by decide +kernel, by decide +kernel, by decide +kernel⟩
theorem fl_3_89 : FLk 3 89 18 := ⟨"NameOrchard$Reader", "tape", "[I", Or.inl q230, ff_18_18, by decide +kernel, by decide +kernel, by decide +kernel, by decide +kernel⟩
theorem fl_3_93 : FLk 3 93 20 := ⟨"NameOrchard$Reader", "sort", "[I", Or.inl q233, ff_20_20, by decide +kernel, by decide +kernel, by decide +kernel, by decide +kernel⟩
theorem fl_3_96 : FLk 3 96 21 := ⟨"NameOrchard$Reader", "value", "[J", Or.inl q234, ff_21_21, by decide +kernel, by decide +kernel, by decide +kernel, by decide +kernel⟩
theorem fl_3_99 : FLk 3 99 22 := ⟨"NameOrchard$Reader", "place", "[I", Or.inl q235, ff_22_22, by decide +kernel, by decide +kernel, by decide +kernel, by decide +kernel⟩
theorem fl_3_108 : FLk 3 108 19 := ⟨"NameOrchard$Reader", "taped", "I", Or.inl q231, ff_19_19, by decide +kernel, by decide +kernel, by decide +kernel, by decide +kernel⟩
theorem fl_3_141 : FLk 3 141 23 := ⟨"NameOrchard$Reader", "at", "I", Or.inl q236, ff_23_23, by decide +kernel, by decide +kernel, by decide +kernel, by decide +kernel⟩
theorem fl_3_176 : FLk 3 176 16 := ⟨"NameOrchard$Reader", "draft", "LNameOrchard$Orchard;", Or.inl q228, ff_16_16, by decide +kernel, by decide +kernel, by decide +kernel, by decide +kernel⟩
theorem fl_3_223 : FLk 3 223 32 := ⟨"NameOrchard$Orchard", "apples", "Ljava/util/ArrayList;", Or.inl q358, ff_32_32, by decide +kernel, by decide +kernel, by decide +kernel, by decide +kernel⟩
theorem fl_3_238 : FLk 3 238 33 := ⟨"NameOrchard$Orchard", "sounds", "Ljava/util/ArrayList;", Or.inl q361, ff_33_33, by decide +kernel, by decide +kernel, by decide +kernel, by decide +kernel⟩
theorem fl_3_263 : FLk 3 263 159 := ⟨"NameOrchard$Apple", "twin", "I", Or.inl q854, ff_159_153, by decide +kernel, by decide +kernel, by decide +kernel, by decide +kernel⟩
theorem fl_3_268 : FLk 3 268 41 := ⟨"NameOrchard$Orchard", "others", "I", Or.inl q383, ff_41_41, by decide +kernel, by decide +kernel, by decide +kernel, by decide +kernel⟩
theorem fl_3_271 : FLk 3 271 35 := ⟨"NameOrchard$Orchard", "people", "Ljava/util/ArrayList;", Or.inl q368, ff_35_35, by decide +kernel, by decide +kernel, by decide +kernel, by decide +kernel⟩
theorem fl_3_288 : FLk 3 288 34 := ⟨"NameOrchard$Orchard", "peopleNames", "Ljava/util/ArrayList;", Or.inl q363, ff_34_34, by decide +kernel, by decide +kernel, by decide +kernel, by decide +kernel⟩
theorem fl_3_297 : FLk 3 297 36 := ⟨"NameOrchard$Orchard", "strangers", "Ljava/util/ArrayList;", Or.inl q370, ff_36_36, by decide +kernel, by decide +kernel, by decide +kernel, by decide +kernel⟩
theorem fl_3_301 : FLk 3 301 37 := ⟨"NameOrchard$Orchard", "pages", "Ljava/util/ArrayList;", Or.inl q373, ff_37_37, by decide +kernel, by decide +kernel, by decide +kernel, by decide +kernel⟩
theorem fl_3_314 : FLk 3 314 38 := ⟨"NameOrchard$Orchard", "banns", "Ljava/util/ArrayList;", Or.inl q377, ff_38_38, by decide +kernel, by decide +kernel, by decide +kernel, by decide +kernel⟩
theorem fl_3_317 : FLk 3 317 39 := ⟨"NameOrchard$Orchard", "near", "LNameOrchard$Expression;", Or.inl q380, ff_39_39, by decide +kernel, by decide +kernel, by decide +kernel, by decide +kernel⟩
theorem fl_3_320 : FLk 3 320 40 := ⟨"NameOrchard$Orchard", "value", "LNameOrchard$Expression;", Or.inl q382, ff_40_40, by decide +kernel, by decide +kernel, by decide +kernel, by decide +kernel⟩
theorem fl_3_345 : FLk 3 345 24 := ⟨"NameOrchard$Reader", "deep", "I", Or.inl q237, ff_24_24, by decide +kernel, by decide +kernel, by decide +kernel, by decide +kernel⟩
theorem fl_3_363 : FLk 3 363 170 := ⟨"NameOrchard$Chain", "links", "Ljava/util/ArrayList;", Or.inl q1180, ff_170_164, by decide +kernel, by decide +kernel, by decide +kernel, by decide +kernel⟩
theorem fl_4_9 : FLk 4 9 28 := ⟨"NameOrchard$Boughs", "sounds", "[I", Or.inl q283, ff_28_28, by decide +kernel, by decide +kernel, by decide +kernel, by decide +kernel⟩
theorem fl_4_15 : FLk 4 15 25 := ⟨"NameOrchard$Boughs", "orchard", "LNameOrchard$Orchard;", Or.inl q275, ff_25_25, by decide +kernel, by decide +kernel, by decide +kernel, by decide +kernel⟩
theorem fl_4_19 : FLk 4 19 32 := ⟨"NameOrchard$Orchard", "apples", "Ljava/util/ArrayList;", Or.inl q355, ff_32_32, by decide +kernel, by decide +kernel, by decide +kernel, by decide +kernel⟩
theorem fl_4_31 : FLk 4 31 26 := ⟨"NameOrchard$Boughs", "hang", "I", Or.inl q277, ff_26_26, by decide +kernel, by decide +kernel, by decide +kernel, by decide +kernel⟩
theorem fl_4_35 : FLk 4 35 27 := ⟨"NameOrchard$Boughs", "loose", "I", Or.inl q280, ff_27_27, by decide +kernel, by decide +kernel, by decide +kernel, by decide +kernel⟩
theorem fl_4_44 : FLk 4 44 154 := ⟨"NameOrchard$Apple", "sound", "I", Or.inl q835, ff_154_148, by decide +kernel, by decide +kernel, by decide +kernel, by decide +kernel⟩
theorem fl_4_47 : FLk 4 47 29 := ⟨"NameOrchard$Boughs", "day", "I", Or.inl q285, ff_29_29, by decide +kernel, by decide +kernel, by decide +kernel, by decide +kernel⟩
theorem fl_4_50 : FLk 4 50 30 := ⟨"NameOrchard$Boughs", "had", "I", Or.inl q288, ff_30_30, by decide +kernel, by decide +kernel, by decide +kernel, by decide +kernel⟩
theorem fl_4_53 : FLk 4 53 31 := ⟨"NameOrchard$Boughs", "isPicked", "Z", Or.inl q291, ff_31_31, by decide +kernel, by decide +kernel, by decide +kernel, by decide +kernel⟩
theorem fl_4_72 : FLk 4 72 156 := ⟨"NameOrchard$Apple", "row", "I", Or.inl q841, ff_156_150, by decide +kernel, by decide +kernel, by decide +kernel, by decide +kernel⟩
theorem fl_4_93 : FLk 4 93 159 := ⟨"NameOrchard$Apple", "twin", "I", Or.inl q852, ff_159_153, by decide +kernel, by decide +kernel, by decide +kernel, by decide +kernel⟩
theorem fl_4_100 : FLk 4 100 158 := ⟨"NameOrchard$Apple", "worth", "I", Or.inl q849, ff_158_152, by decide +kernel, by decide +kernel, by decide +kernel, by decide +kernel⟩
theorem fl_4_103 : FLk 4 103 157 := ⟨"NameOrchard$Apple", "ripe", "I", Or.inl q845, ff_157_151, by decide +kernel, by decide +kernel, by decide +kernel, by decide +kernel⟩
theorem fl_4_115 : FLk 4 115 35 := ⟨"NameOrchard$Orchard", "people", "Ljava/util/ArrayList;", Or.inl q366, ff_35_35, by decide +kernel, by decide +kernel, by decide +kernel, by decide +kernel⟩
theorem fl_4_120 : FLk 4 120 163 := ⟨"NameOrchard$Person", "lane", "I", Or.inl q1044, ff_163_157, by decide +kernel, by decide +kernel, by decide +kernel, by decide +kernel⟩
theorem fl_4_123 : FLk 4 123 164 := ⟨"NameOrchard$Person", "loud", "I", Or.inl q1047, ff_164_158, by decide +kernel, by decide +kernel, by decide +kernel, by decide +kernel⟩
theorem fl_5_14 : FLk 5 14 32 := ⟨"NameOrchard$Orchard", "apples", "Ljava/util/ArrayList;", Or.inl q354, ff_32_32, by decide +kernel, by decide +kernel, by decide +kernel, by decide +kernel⟩
theorem fl_5_20 : FLk 5 20 33 := ⟨"NameOrchard$Orchard", "sounds", "Ljava/util/ArrayList;", Or.inl q359, ff_33_33, by decide +kernel, by decide +kernel, by decide +kernel, by decide +kernel⟩
theorem fl_5_23 : FLk 5 23 34 := ⟨"NameOrchard$Orchard", "peopleNames", "Ljava/util/ArrayList;", Or.inl q362, ff_34_34, by decide +kernel, by decide +kernel, by decide +kernel, by decide +kernel⟩
theorem fl_5_26 : FLk 5 26 35 := ⟨"NameOrchard$Orchard", "people", "Ljava/util/ArrayList;", Or.inl q364, ff_35_35, by decide +kernel, by decide +kernel, by decide +kernel, by decide +kernel⟩
theorem fl_5_29 : FLk 5 29 36 := ⟨"NameOrchard$Orchard", "strangers", "Ljava/util/ArrayList;", Or.inl q369, ff_36_36, by decide +kernel, by decide +kernel, by decide +kernel, by decide +kernel⟩
theorem fl_5_32 : FLk 5 32 37 := ⟨"NameOrchard$Orchard", "pages", "Ljava/util/ArrayList;", Or.inl q372, ff_37_37, by decide +kernel, by decide +kernel, by decide +kernel, by decide +kernel⟩
theorem fl_5_35 : FLk 5 35 38 := ⟨"NameOrchard$Orchard", "banns", "Ljava/util/ArrayList;", Or.inl q375, ff_38_38, by decide +kernel, by decide +kernel, by decide +kernel, by decide +kernel⟩
theorem fl_5_41 : FLk 5 41 42 := ⟨"NameOrchard$Orchard", "facts", "LNameOrchard$Facts;", Or.inl q384, ff_42_42, by decide +kernel, by decide +kernel, by decide +kernel, by decide +kernel⟩
theorem fl_5_45 : FLk 5 45 43 := ⟨"NameOrchard$Orchard", "row", "[I", Or.inl q385, ff_43_43, by decide +kernel, by decide +kernel, by decide +kernel, by decide +kernel⟩
theorem fl_5_59 : FLk 5 59 160 := ⟨"NameOrchard$Sound", "name", "J", Or.inl q987, ff_160_154, by decide +kernel, by decide +kernel, by decide +kernel, by decide +kernel⟩
theorem fl_5_71 : FLk 5 71 154 := ⟨"NameOrchard$Apple", "sound", "I", Or.inl q836, ff_154_148, by decide +kernel, by decide +kernel, by decide +kernel, by decide +kernel⟩
theorem fl_5_86 : FLk 5 86 39 := ⟨"NameOrchard$Orchard", "near", "LNameOrchard$Expression;", Or.inl q379, ff_39_39, by decide +kernel, by decide +kernel, by decide +kernel, by decide +kernel⟩
theorem fl_5_90 : FLk 5 90 44 := ⟨"NameOrchard$Facts", "of", "[I", Or.inl q350, ff_44_44, by decide +kernel, by decide +kernel, by decide +kernel, by decide +kernel⟩
theorem fl_5_106 : FLk 5 106 157 := ⟨"NameOrchard$Apple", "ripe", "I", Or.inl q844, ff_157_151, by decide +kernel, by decide +kernel, by decide +kernel, by decide +kernel⟩
theorem fl_5_109 : FLk 5 109 40 := ⟨"NameOrchard$Orchard", "value", "LNameOrchard$Expression;", Or.inl q381, ff_40_40, by decide +kernel, by decide +kernel, by decide +kernel, by decide +kernel⟩
theorem fl_5_112 : FLk 5 112 158 := ⟨"NameOrchard$Apple", "worth", "I", Or.inl q848, ff_158_152, by decide +kernel, by decide +kernel, by decide +kernel, by decide +kernel⟩
theorem fl_5_125 : FLk 5 125 165 := ⟨"NameOrchard$Person", "mute", "I", Or.inl q1049, ff_165_159, by decide +kernel, by decide +kernel, by decide +kernel, by decide +kernel⟩
theorem fl_6_9 : FLk 6 9 44 := ⟨"NameOrchard$Facts", "of", "[I", Or.inl q348, ff_44_44, by decide +kernel, by decide +kernel, by decide +kernel, by decide +kernel⟩
theorem fl_7_3 : FLk 7 3 48 := ⟨"NameOrchard$Reach", "this$0", "LNameOrchard;", Or.inl q450, ff_48_48, by decide +kernel, by decide +kernel, by decide +kernel, by decide +kernel⟩
theorem fl_7_15 : FLk 7 15 45 := ⟨"NameOrchard$Reach", "wholly", "[I", Or.inl q447, ff_45_45, by decide +kernel, by decide +kernel, by decide +kernel, by decide +kernel⟩
theorem fl_7_19 : FLk 7 19 46 := ⟨"NameOrchard$Reach", "echo", "[I", Or.inl q448, ff_46_46, by decide +kernel, by decide +kernel, by decide +kernel, by decide +kernel⟩
theorem fl_7_22 : FLk 7 22 47 := ⟨"NameOrchard$Reach", "may", "[Z", Or.inl q449, ff_47_47, by decide +kernel, by decide +kernel, by decide +kernel, by decide +kernel⟩
theorem fl_7_30 : FLk 7 30 35 := ⟨"NameOrchard$Orchard", "people", "Ljava/util/ArrayList;", Or.inl q365, ff_35_35, by decide +kernel, by decide +kernel, by decide +kernel, by decide +kernel⟩
theorem fl_7_55 : FLk 7 55 1 := ⟨"NameOrchard", "boughs", "LNameOrchard$Boughs;", Or.inr ⟨_, q520⟩, ff_1_1, by decide +kernel, by decide +kernel, by decide +kernel, by decide +kernel⟩
theorem fl_7_59 : FLk 7 59 163 := ⟨"NameOrchard$Person", "lane", "I", Or.inl q1043, ff_163_157, by decide +kernel, by decide +kernel, by decide +kernel, by decide +kernel⟩
theorem fl_7_63 : FLk 7 63 164 := ⟨"NameOrchard$Person", "loud", "I", Or.inl q1046, ff_164_158, by decide +kernel, by decide +kernel, by decide +kernel, by decide +kernel⟩
theorem fl_8_3 : FLk 8 3 52 := ⟨"NameOrchard$Crops", "this$0", "LNameOrchard;", Or.inl q474, ff_52_52, by decide +kernel, by decide +kernel, by decide +kernel, by decide +kernel⟩
theorem fl_8_18 : FLk 8 18 49 := ⟨"NameOrchard$Crops", "steps", "[LNameOrchard$Boughs;", Or.inl q470, ff_49_49, by decide +kernel, by decide +kernel, by decide +kernel, by decide +kernel⟩
theorem fl_8_22 : FLk 8 22 50 := ⟨"NameOrchard$Crops", "isNew", "[Z", Or.inl q471, ff_50_50, by decide +kernel, by decide +kernel, by decide +kernel, by decide +kernel⟩
theorem fl_8_26 : FLk 8 26 7 := ⟨"NameOrchard", "reach", "LNameOrchard$Reach;", Or.inr ⟨_, q527⟩, ff_7_7, by decide +kernel, by decide +kernel, by decide +kernel, by decide +kernel⟩
theorem fl_8_60 : FLk 8 60 51 := ⟨"NameOrchard$Crops", "first", "I", Or.inl q472, ff_51_51, by decide +kernel, by decide +kernel, by decide +kernel, by decide +kernel⟩
theorem fl_8_74 : FLk 8 74 32 := ⟨"NameOrchard$Orchard", "apples", "Ljava/util/ArrayList;", Or.inl q356, ff_32_32, by decide +kernel, by decide +kernel, by decide +kernel, by decide +kernel⟩
theorem fl_8_90 : FLk 8 90 26 := ⟨"NameOrchard$Boughs", "hang", "I", Or.inl q278, ff_26_26, by decide +kernel, by decide +kernel, by decide +kernel, by decide +kernel⟩
theorem fl_8_93 : FLk 8 93 27 := ⟨"NameOrchard$Boughs", "loose", "I", Or.inl q281, ff_27_27, by decide +kernel, by decide +kernel, by decide +kernel, by decide +kernel⟩
theorem fl_9_3 : FLk 9 3 59 := ⟨"NameOrchard$Weeks", "this$0", "LNameOrchard;", Or.inl q500, ff_59_59, by decide +kernel, by decide +kernel, by decide +kernel, by decide +kernel⟩
theorem fl_9_18 : FLk 9 18 53 := ⟨"NameOrchard$Weeks", "steps", "[LNameOrchard$Boughs;", Or.inl q492, ff_53_53, by decide +kernel, by decide +kernel, by decide +kernel, by decide +kernel⟩
theorem fl_9_22 : FLk 9 22 54 := ⟨"NameOrchard$Weeks", "row", "[I", Or.inl q493, ff_54_54, by decide +kernel, by decide +kernel, by decide +kernel, by decide +kernel⟩
theorem fl_9_26 : FLk 9 26 55 := ⟨"NameOrchard$Weeks", "best", "[I", Or.inl q494, ff_55_55, by decide +kernel, by decide +kernel, by decide +kernel, by decide +kernel⟩
theorem fl_9_29 : FLk 9 29 57 := ⟨"NameOrchard$Weeks", "lane", "I", Or.inl q498, ff_57_57, by decide +kernel, by decide +kernel, by decide +kernel, by decide +kernel⟩
theorem fl_9_33 : FLk 9 33 58 := ⟨"NameOrchard$Weeks", "loud", "I", Or.inl q499, ff_58_58, by decide +kernel, by decide +kernel, by decide +kernel, by decide +kernel⟩
theorem fl_9_36 : FLk 9 36 56 := ⟨"NameOrchard$Weeks", "least", "I", Or.inl q496, ff_56_56, by decide +kernel, by decide +kernel, by decide +kernel, by decide +kernel⟩
theorem fl_9_39 : FLk 9 39 1 := ⟨"NameOrchard", "boughs", "LNameOrchard$Boughs;", Or.inr ⟨_, q519⟩, ff_1_1, by decide +kernel, by decide +kernel, by decide +kernel, by decide +kernel⟩
theorem fl_9_51 : FLk 9 51 38 := ⟨"NameOrchard$Orchard", "banns", "Ljava/util/ArrayList;", Or.inl q376, ff_38_38, by decide +kernel, by decide +kernel, by decide +kernel, by decide +kernel⟩
theorem fl_9_82 : FLk 9 82 30 := ⟨"NameOrchard$Boughs", "had", "I", Or.inl q289, ff_30_30, by decide +kernel, by decide +kernel, by decide +kernel, by decide +kernel⟩
theorem fl_9_89 : FLk 9 89 29 := ⟨"NameOrchard$Boughs", "day", "I", Or.inl q286, ff_29_29, by decide +kernel, by decide +kernel, by decide +kernel, by decide +kernel⟩
theorem fl_10_7 : FLk 10 7 62 := ⟨"NameOrchardModel", "tape", "[I", Or.inl q1862, ff_62_62, by decide +kernel, by decide +kernel, by decide +kernel, by decide +kernel⟩
theorem fl_10_13 : FLk 10 13 70 := ⟨"NameOrchardModel", "orchard", "[I", Or.inl q1870, ff_70_70, by decide +kernel, by decide +kernel, by decide +kernel, by decide +kernel⟩
theorem fl_10_16 : FLk 10 16 71 := ⟨"NameOrchardModel", "soundName", "[J", Or.inl q1871, ff_71_71, by decide +kernel, by decide +kernel, by decide +kernel, by decide +kernel⟩
theorem fl_10_20 : FLk 10 20 72 := ⟨"NameOrchardModel", "personName", "[J", Or.inl q1872, ff_72_72, by decide +kernel, by decide +kernel, by decide +kernel, by decide +kernel⟩
theorem fl_10_23 : FLk 10 23 73 := ⟨"NameOrchardModel", "soundTold", "[I", Or.inl q1873, ff_73_73, by decide +kernel, by decide +kernel, by decide +kernel, by decide +kernel⟩
theorem fl_10_26 : FLk 10 26 74 := ⟨"NameOrchardModel", "sort", "[I", Or.inl q1874, ff_74_74, by decide +kernel, by decide +kernel, by decide +kernel, by decide +kernel⟩
theorem fl_10_29 : FLk 10 29 75 := ⟨"NameOrchardModel", "place0", "[I", Or.inl q1875, ff_75_75, by decide +kernel, by decide +kernel, by decide +kernel, by decide +kernel⟩
theorem fl_10_32 : FLk 10 32 76 := ⟨"NameOrchardModel", "rowAt", "[I", Or.inl q1876, ff_76_76, by decide +kernel, by decide +kernel, by decide +kernel, by decide +kernel⟩
theorem fl_10_35 : FLk 10 35 77 := ⟨"NameOrchardModel", "ripe", "[I", Or.inl q1877, ff_77_77, by decide +kernel, by decide +kernel, by decide +kernel, by decide +kernel⟩
theorem fl_10_38 : FLk 10 38 78 := ⟨"NameOrchardModel", "worthTold", "[I", Or.inl q1878, ff_78_78, by decide +kernel, by decide +kernel, by decide +kernel, by decide +kernel⟩
theorem fl_10_41 : FLk 10 41 79 := ⟨"NameOrchardModel", "twin", "[I", Or.inl q1879, ff_79_79, by decide +kernel, by decide +kernel, by decide +kernel, by decide +kernel⟩
theorem fl_10_44 : FLk 10 44 80 := ⟨"NameOrchardModel", "lane", "[I", Or.inl q1880, ff_80_80, by decide +kernel, by decide +kernel, by decide +kernel, by decide +kernel⟩
theorem fl_10_47 : FLk 10 47 81 := ⟨"NameOrchardModel", "loud", "[I", Or.inl q1881, ff_81_81, by decide +kernel, by decide +kernel, by decide +kernel, by decide +kernel⟩
theorem fl_10_50 : FLk 10 50 82 := ⟨"NameOrchardModel", "mute", "[I", Or.inl q1882, ff_82_82, by decide +kernel, by decide +kernel, by decide +kernel, by decide +kernel⟩
theorem fl_10_53 : FLk 10 53 83 := ⟨"NameOrchardModel", "strangerOf", "[I", Or.inl q1883, ff_83_83, by decide +kernel, by decide +kernel, by decide +kernel, by decide +kernel⟩
theorem fl_10_56 : FLk 10 56 84 := ⟨"NameOrchardModel", "strangerBy", "[I", Or.inl q1884, ff_84_84, by decide +kernel, by decide +kernel, by decide +kernel, by decide +kernel⟩
theorem fl_10_59 : FLk 10 59 85 := ⟨"NameOrchardModel", "pageOf", "[I", Or.inl q1885, ff_85_85, by decide +kernel, by decide +kernel, by decide +kernel, by decide +kernel⟩
theorem fl_10_62 : FLk 10 62 86 := ⟨"NameOrchardModel", "pageMany", "[I", Or.inl q1886, ff_86_86, by decide +kernel, by decide +kernel, by decide +kernel, by decide +kernel⟩
theorem fl_10_65 : FLk 10 65 87 := ⟨"NameOrchardModel", "bannA", "[I", Or.inl q1887, ff_87_87, by decide +kernel, by decide +kernel, by decide +kernel, by decide +kernel⟩
theorem fl_10_68 : FLk 10 68 88 := ⟨"NameOrchardModel", "bannB", "[I", Or.inl q1888, ff_88_88, by decide +kernel, by decide +kernel, by decide +kernel, by decide +kernel⟩
theorem fl_10_71 : FLk 10 71 89 := ⟨"NameOrchardModel", "lineFrom", "[I", Or.inl q1889, ff_89_89, by decide +kernel, by decide +kernel, by decide +kernel, by decide +kernel⟩
theorem fl_10_74 : FLk 10 74 90 := ⟨"NameOrchardModel", "lineTo", "[I", Or.inl q1890, ff_90_90, by decide +kernel, by decide +kernel, by decide +kernel, by decide +kernel⟩
theorem fl_10_77 : FLk 10 77 91 := ⟨"NameOrchardModel", "codes", "[I", Or.inl q1891, ff_91_91, by decide +kernel, by decide +kernel, by decide +kernel, by decide +kernel⟩
theorem fl_10_80 : FLk 10 80 94 := ⟨"NameOrchardModel", "opened", "[I", Or.inl q1894, ff_94_94, by decide +kernel, by decide +kernel, by decide +kernel, by decide +kernel⟩
theorem fl_10_83 : FLk 10 83 95 := ⟨"NameOrchardModel", "compared", "[Z", Or.inl q1895, ff_95_95, by decide +kernel, by decide +kernel, by decide +kernel, by decide +kernel⟩
theorem fl_10_87 : FLk 10 87 96 := ⟨"NameOrchardModel", "kept", "[I", Or.inl q1896, ff_96_96, by decide +kernel, by decide +kernel, by decide +kernel, by decide +kernel⟩
theorem fl_10_90 : FLk 10 90 97 := ⟨"NameOrchardModel", "keptBy", "[I", Or.inl q1897, ff_97_97, by decide +kernel, by decide +kernel, by decide +kernel, by decide +kernel⟩
theorem fl_10_93 : FLk 10 93 98 := ⟨"NameOrchardModel", "ahead", "[I", Or.inl q1898, ff_98_98, by decide +kernel, by decide +kernel, by decide +kernel, by decide +kernel⟩
theorem fl_10_96 : FLk 10 96 99 := ⟨"NameOrchardModel", "against", "[I", Or.inl q1899, ff_99_99, by decide +kernel, by decide +kernel, by decide +kernel, by decide +kernel⟩
theorem fl_10_99 : FLk 10 99 100 := ⟨"NameOrchardModel", "sum", "[I", Or.inl q1900, ff_100_100, by decide +kernel, by decide +kernel, by decide +kernel, by decide +kernel⟩
theorem fl_10_102 : FLk 10 102 101 := ⟨"NameOrchardModel", "sumBy", "[I", Or.inl q1901, ff_101_101, by decide +kernel, by decide +kernel, by decide +kernel, by decide +kernel⟩
theorem fl_10_105 : FLk 10 105 102 := ⟨"NameOrchardModel", "term", "[I", Or.inl q1902, ff_102_102, by decide +kernel, by decide +kernel, by decide +kernel, by decide +kernel⟩
theorem fl_10_108 : FLk 10 108 103 := ⟨"NameOrchardModel", "termBy", "[I", Or.inl q1903, ff_103_103, by decide +kernel, by decide +kernel, by decide +kernel, by decide +kernel⟩
theorem fl_10_111 : FLk 10 111 104 := ⟨"NameOrchardModel", "byNot", "[I", Or.inl q1904, ff_104_104, by decide +kernel, by decide +kernel, by decide +kernel, by decide +kernel⟩
theorem fl_10_114 : FLk 10 114 105 := ⟨"NameOrchardModel", "valueOf", "[I", Or.inl q1905, ff_105_105, by decide +kernel, by decide +kernel, by decide +kernel, by decide +kernel⟩
theorem fl_10_117 : FLk 10 117 107 := ⟨"NameOrchardModel", "edits", "[I", Or.inl q1907, ff_107_107, by decide +kernel, by decide +kernel, by decide +kernel, by decide +kernel⟩
theorem fl_10_120 : FLk 10 120 108 := ⟨"NameOrchardModel", "startOf", "[I", Or.inl q1908, ff_108_108, by decide +kernel, by decide +kernel, by decide +kernel, by decide +kernel⟩
theorem fl_10_123 : FLk 10 123 109 := ⟨"NameOrchardModel", "rhymeOf", "[I", Or.inl q1909, ff_109_109, by decide +kernel, by decide +kernel, by decide +kernel, by decide +kernel⟩
theorem fl_10_126 : FLk 10 126 110 := ⟨"NameOrchardModel", "isNear", "[Z", Or.inl q1910, ff_110_110, by decide +kernel, by decide +kernel, by decide +kernel, by decide +kernel⟩
theorem fl_10_129 : FLk 10 129 111 := ⟨"NameOrchardModel", "lettersA", "[I", Or.inl q1911, ff_111_111, by decide +kernel, by decide +kernel, by decide +kernel, by decide +kernel⟩
theorem fl_10_132 : FLk 10 132 112 := ⟨"NameOrchardModel", "lettersB", "[I", Or.inl q1912, ff_112_112, by decide +kernel, by decide +kernel, by decide +kernel, by decide +kernel⟩
theorem fl_10_135 : FLk 10 135 113 := ⟨"NameOrchardModel", "changes", "[I", Or.inl q1913, ff_113_113, by decide +kernel, by decide +kernel, by decide +kernel, by decide +kernel⟩
theorem fl_10_138 : FLk 10 138 114 := ⟨"NameOrchardModel", "lines", "[I", Or.inl q1914, ff_114_114, by decide +kernel, by decide +kernel, by decide +kernel, by decide +kernel⟩
theorem fl_10_141 : FLk 10 141 115 := ⟨"NameOrchardModel", "lineWhat", "[I", Or.inl q1915, ff_115_115, by decide +kernel, by decide +kernel, by decide +kernel, by decide +kernel⟩
theorem fl_10_144 : FLk 10 144 116 := ⟨"NameOrchardModel", "lineWho", "[I", Or.inl q1916, ff_116_116, by decide +kernel, by decide +kernel, by decide +kernel, by decide +kernel⟩
theorem fl_10_147 : FLk 10 147 117 := ⟨"NameOrchardModel", "lineOf", "[I", Or.inl q1917, ff_117_117, by decide +kernel, by decide +kernel, by decide +kernel, by decide +kernel⟩
theorem fl_10_150 : FLk 10 150 118 := ⟨"NameOrchardModel", "liesKnown", "[I", Or.inl q1918, ff_118_118, by decide +kernel, by decide +kernel, by decide +kernel, by decide +kernel⟩
theorem fl_10_153 : FLk 10 153 119 := ⟨"NameOrchardModel", "liesThere", "[I", Or.inl q1919, ff_119_119, by decide +kernel, by decide +kernel, by decide +kernel, by decide +kernel⟩
theorem fl_10_156 : FLk 10 156 120 := ⟨"NameOrchardModel", "tolds", "[I", Or.inl q1920, ff_120_120, by decide +kernel, by decide +kernel, by decide +kernel, by decide +kernel⟩
theorem fl_10_159 : FLk 10 159 121 := ⟨"NameOrchardModel", "toldCall", "[I", Or.inl q1921, ff_121_121, by decide +kernel, by decide +kernel, by decide +kernel, by decide +kernel⟩
theorem fl_10_162 : FLk 10 162 122 := ⟨"NameOrchardModel", "toldSound", "[I", Or.inl q1922, ff_122_122, by decide +kernel, by decide +kernel, by decide +kernel, by decide +kernel⟩
theorem fl_10_165 : FLk 10 165 123 := ⟨"NameOrchardModel", "toldNear", "[Z", Or.inl q1923, ff_123_123, by decide +kernel, by decide +kernel, by decide +kernel, by decide +kernel⟩
theorem fl_10_168 : FLk 10 168 124 := ⟨"NameOrchardModel", "s", "[I", Or.inl q1924, ff_124_124, by decide +kernel, by decide +kernel, by decide +kernel, by decide +kernel⟩
theorem fl_10_171 : FLk 10 171 125 := ⟨"NameOrchardModel", "aside", "[I", Or.inl q1925, ff_125_125, by decide +kernel, by decide +kernel, by decide +kernel, by decide +kernel⟩
theorem fl_10_174 : FLk 10 174 126 := ⟨"NameOrchardModel", "marked", "[I", Or.inl q1926, ff_126_126, by decide +kernel, by decide +kernel, by decide +kernel, by decide +kernel⟩
theorem fl_10_177 : FLk 10 177 127 := ⟨"NameOrchardModel", "undone", "[I", Or.inl q1927, ff_127_127, by decide +kernel, by decide +kernel, by decide +kernel, by decide +kernel⟩
theorem fl_10_180 : FLk 10 180 128 := ⟨"NameOrchardModel", "isLaid", "[Z", Or.inl q1928, ff_128_128, by decide +kernel, by decide +kernel, by decide +kernel, by decide +kernel⟩
theorem fl_10_183 : FLk 10 183 134 := ⟨"NameOrchardModel", "heardBy", "[I", Or.inl q1934, ff_134_134, by decide +kernel, by decide +kernel, by decide +kernel, by decide +kernel⟩
theorem fl_10_186 : FLk 10 186 135 := ⟨"NameOrchardModel", "halfBy", "[I", Or.inl q1935, ff_135_135, by decide +kernel, by decide +kernel, by decide +kernel, by decide +kernel⟩
theorem fl_10_189 : FLk 10 189 136 := ⟨"NameOrchardModel", "callAs", "[I", Or.inl q1936, ff_136_136, by decide +kernel, by decide +kernel, by decide +kernel, by decide +kernel⟩
theorem fl_10_192 : FLk 10 192 138 := ⟨"NameOrchardModel", "valueIn", "[I", Or.inl q1938, ff_138_138, by decide +kernel, by decide +kernel, by decide +kernel, by decide +kernel⟩
theorem fl_10_196 : FLk 10 196 140 := ⟨"NameOrchardModel", "stateOf", "[I", Or.inl q1940, ff_140_140, by decide +kernel, by decide +kernel, by decide +kernel, by decide +kernel⟩
theorem fl_10_200 : FLk 10 200 141 := ⟨"NameOrchardModel", "met", "[I", Or.inl q1941, ff_141_141, by decide +kernel, by decide +kernel, by decide +kernel, by decide +kernel⟩
theorem fl_10_203 : FLk 10 203 142 := ⟨"NameOrchardModel", "fallIn", "[I", Or.inl q1942, ff_142_142, by decide +kernel, by decide +kernel, by decide +kernel, by decide +kernel⟩
theorem fl_10_206 : FLk 10 206 143 := ⟨"NameOrchardModel", "order", "[I", Or.inl q1943, ff_143_143, by decide +kernel, by decide +kernel, by decide +kernel, by decide +kernel⟩
theorem fl_10_209 : FLk 10 209 144 := ⟨"NameOrchardModel", "bestOrder", "[I", Or.inl q1944, ff_144_144, by decide +kernel, by decide +kernel, by decide +kernel, by decide +kernel⟩
theorem fl_10_212 : FLk 10 212 60 := ⟨"NameOrchardModel", "thrown", "I", Or.inl q1860, ff_60_60, by decide +kernel, by decide +kernel, by decide +kernel, by decide +kernel⟩
theorem fl_10_218 : FLk 10 218 61 := ⟨"NameOrchardModel", "taped", "I", Or.inl q1861, ff_61_61, by decide +kernel, by decide +kernel, by decide +kernel, by decide +kernel⟩
theorem fl_10_221 : FLk 10 221 63 := ⟨"NameOrchardModel", "size", "I", Or.inl q1863, ff_63_63, by decide +kernel, by decide +kernel, by decide +kernel, by decide +kernel⟩
theorem fl_10_224 : FLk 10 224 64 := ⟨"NameOrchardModel", "place", "I", Or.inl q1864, ff_64_64, by decide +kernel, by decide +kernel, by decide +kernel, by decide +kernel⟩
theorem fl_10_227 : FLk 10 227 65 := ⟨"NameOrchardModel", "begin", "I", Or.inl q1865, ff_65_65, by decide +kernel, by decide +kernel, by decide +kernel, by decide +kernel⟩
theorem fl_10_230 : FLk 10 230 67 := ⟨"NameOrchardModel", "word", "J", Or.inl q1867, ff_67_67, by decide +kernel, by decide +kernel, by decide +kernel, by decide +kernel⟩
theorem fl_10_234 : FLk 10 234 68 := ⟨"NameOrchardModel", "told", "I", Or.inl q1868, ff_68_68, by decide +kernel, by decide +kernel, by decide +kernel, by decide +kernel⟩
theorem fl_10_237 : FLk 10 237 66 := ⟨"NameOrchardModel", "token", "I", Or.inl q1866, ff_66_66, by decide +kernel, by decide +kernel, by decide +kernel, by decide +kernel⟩
theorem fl_10_248 : FLk 10 248 69 := ⟨"NameOrchardModel", "wrong", "I", Or.inl q1869, ff_69_69, by decide +kernel, by decide +kernel, by decide +kernel, by decide +kernel⟩
theorem fl_10_251 : FLk 10 251 92 := ⟨"NameOrchardModel", "code", "I", Or.inl q1892, ff_92_92, by decide +kernel, by decide +kernel, by decide +kernel, by decide +kernel⟩
theorem fl_10_254 : FLk 10 254 93 := ⟨"NameOrchardModel", "lawLine", "I", Or.inl q1893, ff_93_93, by decide +kernel, by decide +kernel, by decide +kernel, by decide +kernel⟩
theorem fl_10_355 : FLk 10 355 106 := ⟨"NameOrchardModel", "given", "I", Or.inl q1906, ff_106_106, by decide +kernel, by decide +kernel, by decide +kernel, by decide +kernel⟩
theorem fl_10_465 : FLk 10 465 129 := ⟨"NameOrchardModel", "done", "I", Or.inl q1929, ff_129_129, by decide +kernel, by decide +kernel, by decide +kernel, by decide +kernel⟩
theorem fl_10_493 : FLk 10 493 130 := ⟨"NameOrchardModel", "wholly", "I", Or.inl q1930, ff_130_130, by decide +kernel, by decide +kernel, by decide +kernel, by decide +kernel⟩
theorem fl_10_496 : FLk 10 496 131 := ⟨"NameOrchardModel", "echo", "I", Or.inl q1931, ff_131_131, by decide +kernel, by decide +kernel, by decide +kernel, by decide +kernel⟩
theorem fl_10_508 : FLk 10 508 132 := ⟨"NameOrchardModel", "looseThen", "I", Or.inl q1932, ff_132_132, by decide +kernel, by decide +kernel, by decide +kernel, by decide +kernel⟩
theorem fl_10_547 : FLk 10 547 133 := ⟨"NameOrchardModel", "isGreen", "Z", Or.inl q1933, ff_133_133, by decide +kernel, by decide +kernel, by decide +kernel, by decide +kernel⟩
theorem fl_10_557 : FLk 10 557 137 := ⟨"NameOrchardModel", "callMany", "I", Or.inl q1937, ff_137_137, by decide +kernel, by decide +kernel, by decide +kernel, by decide +kernel⟩
theorem fl_10_564 : FLk 10 564 139 := ⟨"NameOrchardModel", "firstCall", "I", Or.inl q1939, ff_139_139, by decide +kernel, by decide +kernel, by decide +kernel, by decide +kernel⟩
theorem fl_10_597 : FLk 10 597 145 := ⟨"NameOrchardModel", "bestLost", "I", Or.inl q1945, ff_145_145, by decide +kernel, by decide +kernel, by decide +kernel, by decide +kernel⟩
theorem fl_10_604 : FLk 10 604 146 := ⟨"NameOrchardModel", "g", "J", Or.inl q1946, ff_146_146, by decide +kernel, by decide +kernel, by decide +kernel, by decide +kernel⟩
theorem fl_11_7 : FLk 11 7 153 := ⟨"NameOrchard$Wrong", "fault", "I", Or.inl q766, ff_153_147, by decide +kernel, by decide +kernel, by decide +kernel, by decide +kernel⟩
theorem fl_12_9 : FLk 12 9 159 := ⟨"NameOrchard$Apple", "twin", "I", Or.inl q851, ff_159_153, by decide +kernel, by decide +kernel, by decide +kernel, by decide +kernel⟩
theorem fl_12_15 : FLk 12 15 154 := ⟨"NameOrchard$Apple", "sound", "I", Or.inl q834, ff_154_148, by decide +kernel, by decide +kernel, by decide +kernel, by decide +kernel⟩
theorem fl_12_18 : FLk 12 18 155 := ⟨"NameOrchard$Apple", "place", "I", Or.inl q838, ff_155_149, by decide +kernel, by decide +kernel, by decide +kernel, by decide +kernel⟩
theorem fl_12_21 : FLk 12 21 156 := ⟨"NameOrchard$Apple", "row", "I", Or.inl q840, ff_156_150, by decide +kernel, by decide +kernel, by decide +kernel, by decide +kernel⟩
theorem fl_12_24 : FLk 12 24 157 := ⟨"NameOrchard$Apple", "ripe", "I", Or.inl q843, ff_157_151, by decide +kernel, by decide +kernel, by decide +kernel, by decide +kernel⟩
theorem fl_12_27 : FLk 12 27 158 := ⟨"NameOrchard$Apple", "worth", "I", Or.inl q847, ff_158_152, by decide +kernel, by decide +kernel, by decide +kernel, by decide +kernel⟩
theorem fl_16_9 : FLk 16 9 161 := ⟨"NameOrchard$Sound", "letters", "[I", Or.inl q988, ff_161_155, by decide +kernel, by decide +kernel, by decide +kernel, by decide +kernel⟩
theorem fl_16_15 : FLk 16 15 160 := ⟨"NameOrchard$Sound", "name", "J", Or.inl q986, ff_160_154, by decide +kernel, by decide +kernel, by decide +kernel, by decide +kernel⟩
theorem fl_16_19 : FLk 16 19 162 := ⟨"NameOrchard$Sound", "many", "I", Or.inl q989, ff_162_156, by decide +kernel, by decide +kernel, by decide +kernel, by decide +kernel⟩
theorem fl_17_7 : FLk 17 7 163 := ⟨"NameOrchard$Person", "lane", "I", Or.inl q1042, ff_163_157, by decide +kernel, by decide +kernel, by decide +kernel, by decide +kernel⟩
theorem fl_17_13 : FLk 17 13 164 := ⟨"NameOrchard$Person", "loud", "I", Or.inl q1045, ff_164_158, by decide +kernel, by decide +kernel, by decide +kernel, by decide +kernel⟩
theorem fl_17_16 : FLk 17 16 165 := ⟨"NameOrchard$Person", "mute", "I", Or.inl q1048, ff_165_159, by decide +kernel, by decide +kernel, by decide +kernel, by decide +kernel⟩
theorem fl_19_7 : FLk 19 7 166 := ⟨"NameOrchard$Fact", "which", "I", Or.inl q1135, ff_166_160, by decide +kernel, by decide +kernel, by decide +kernel, by decide +kernel⟩
theorem fl_19_13 : FLk 19 13 44 := ⟨"NameOrchard$Facts", "of", "[I", Or.inl q349, ff_44_44, by decide +kernel, by decide +kernel, by decide +kernel, by decide +kernel⟩
theorem fl_20_7 : FLk 20 7 167 := ⟨"NameOrchard$Plain", "n", "I", Or.inl q1145, ff_167_161, by decide +kernel, by decide +kernel, by decide +kernel, by decide +kernel⟩
theorem fl_21_7 : FLk 21 7 168 := ⟨"NameOrchard$Not", "e", "LNameOrchard$Expression;", Or.inl q1155, ff_168_162, by decide +kernel, by decide +kernel, by decide +kernel, by decide +kernel⟩
theorem fl_22_12 : FLk 22 12 170 := ⟨"NameOrchard$Chain", "links", "Ljava/util/ArrayList;", Or.inl q1179, ff_170_164, by decide +kernel, by decide +kernel, by decide +kernel, by decide +kernel⟩
theorem fl_22_18 : FLk 22 18 169 := ⟨"NameOrchard$Chain", "first", "LNameOrchard$Expression;", Or.inl q1178, ff_169_163, by decide +kernel, by decide +kernel, by decide +kernel, by decide +kernel⟩
theorem fl_23_7 : FLk 23 7 171 := ⟨"NameOrchard$Link", "e", "LNameOrchard$Expression;", Or.inl q1195, ff_171_165, by decide +kernel, by decide +kernel, by decide +kernel, by decide +kernel⟩
theorem fl_32_7 : FLk 32 7 172 := ⟨"NameOrchard$Calls", "person", "I", Or.inl q1282, ff_172_166, by decide +kernel, by decide +kernel, by decide +kernel, by decide +kernel⟩
theorem fl_32_13 : FLk 32 13 173 := ⟨"NameOrchard$Calls", "sound", "I", Or.inl q1283, ff_173_167, by decide +kernel, by decide +kernel, by decide +kernel, by decide +kernel⟩
theorem fl_32_16 : FLk 32 16 25 := ⟨"NameOrchard$Boughs", "orchard", "LNameOrchard$Orchard;", Or.inl q274, ff_25_25, by decide +kernel, by decide +kernel, by decide +kernel, by decide +kernel⟩
theorem fl_33_7 : FLk 33 7 174 := ⟨"NameOrchard$Picks", "apple", "I", Or.inl q1295, ff_174_168, by decide +kernel, by decide +kernel, by decide +kernel, by decide +kernel⟩
theorem fl_35_7 : FLk 35 7 175 := ⟨"NameOrchard$Mark", "boughs", "LNameOrchard$Boughs;", Or.inl q1803, ff_175_169, by decide +kernel, by decide +kernel, by decide +kernel, by decide +kernel⟩
theorem fl_35_13 : FLk 35 13 176 := ⟨"NameOrchard$Mark", "days", "Ljava/util/ArrayList;", Or.inl q1805, ff_176_170, by decide +kernel, by decide +kernel, by decide +kernel, by decide +kernel⟩
theorem fl_35_17 : FLk 35 17 177 := ⟨"NameOrchard$Mark", "lies", "[I", Or.inl q1807, ff_177_171, by decide +kernel, by decide +kernel, by decide +kernel, by decide +kernel⟩
theorem fl_35_21 : FLk 35 21 178 := ⟨"NameOrchard$Mark", "told", "Ljava/util/ArrayList;", Or.inl q1809, ff_178_172, by decide +kernel, by decide +kernel, by decide +kernel, by decide +kernel⟩
theorem fl_41_7 : FLk 41 7 179 := ⟨"java/util/AbstractList", "modCount", "I", Or.inl q332, ff_179_173, by decide +kernel, by decide +kernel, by decide +kernel, by decide +kernel⟩
theorem fl_42_9 : FLk 42 9 180 := ⟨"java/util/ArrayList", "elementData", "[Ljava/lang/Object;", Or.inl q330, ff_180_175, by decide +kernel, by decide +kernel, by decide +kernel, by decide +kernel⟩
theorem fl_42_48 : FLk 42 48 181 := ⟨"java/util/ArrayList", "size", "I", Or.inl q331, ff_181_176, by decide +kernel, by decide +kernel, by decide +kernel, by decide +kernel⟩
theorem fl_42_63 : FLk 42 63 179 := ⟨"java/util/ArrayList", "modCount", "I", Or.inl q333, ff_179_174, by decide +kernel, by decide +kernel, by decide +kernel, by decide +kernel⟩
theorem fl_45_9 : FLk 45 9 200 := ⟨"java/lang/String", "value", "[B", Or.inl q2649, ff_200_178, by decide +kernel, by decide +kernel, by decide +kernel, by decide +kernel⟩
theorem fl_45_15 : FLk 45 15 201 := ⟨"java/lang/String", "coder", "B", Or.inl q2648, ff_201_179, by decide +kernel, by decide +kernel, by decide +kernel, by decide +kernel⟩
theorem fl_55_273 : FLk 55 273 182 := ⟨"java/lang/Long", "value", "J", Or.inl q1073, ff_182_177, by decide +kernel, by decide +kernel, by decide +kernel, by decide +kernel⟩
theorem fl_all : ∀ e ∈ fresT, FLk (e.1 / 10000) (e.1 % 10000) e.2 := by
  unfold fresT
  exact List.forall_mem_cons.mpr ⟨fl_2_26, List.forall_mem_cons.mpr ⟨fl_2_40, List.forall_mem_cons.mpr ⟨fl_2_44, List.forall_mem_cons.mpr ⟨fl_2_52, List.forall_mem_cons.mpr ⟨fl_2_56, List.forall_mem_cons.mpr ⟨fl_2_60, List.forall_mem_cons.mpr ⟨fl_2_64, List.forall_mem_cons.mpr ⟨fl_2_72, List.forall_mem_cons.mpr ⟨fl_2_79, List.forall_mem_cons.mpr ⟨fl_2_86, List.forall_mem_cons.mpr ⟨fl_2_92, List.forall_mem_cons.mpr ⟨fl_2_100, List.forall_mem_cons.mpr ⟨fl_2_113, List.forall_mem_cons.mpr ⟨fl_2_122, List.forall_mem_cons.mpr ⟨fl_2_125, List.forall_mem_cons.mpr ⟨fl_2_132, List.forall_mem_cons.mpr ⟨fl_2_143, List.forall_mem_cons.mpr ⟨fl_2_157, List.forall_mem_cons.mpr ⟨fl_2_160, List.forall_mem_cons.mpr ⟨fl_2_163, List.forall_mem_cons.mpr ⟨fl_2_166, List.forall_mem_cons.mpr ⟨fl_2_172, List.forall_mem_cons.mpr ⟨fl_2_174, List.forall_mem_cons.mpr ⟨fl_2_181, List.forall_mem_cons.mpr ⟨fl_2_184, List.forall_mem_cons.mpr ⟨fl_2_256, List.forall_mem_cons.mpr ⟨fl_2_270, List.forall_mem_cons.mpr ⟨fl_2_276, List.forall_mem_cons.mpr ⟨fl_2_314, List.forall_mem_cons.mpr ⟨fl_2_329, List.forall_mem_cons.mpr ⟨fl_2_332, List.forall_mem_cons.mpr ⟨fl_2_352, List.forall_mem_cons.mpr ⟨fl_2_359, List.forall_mem_cons.mpr ⟨fl_2_362, List.forall_mem_cons.mpr ⟨fl_2_365, List.forall_mem_cons.mpr ⟨fl_2_401, List.forall_mem_cons.mpr ⟨fl_2_402, List.forall_mem_cons.mpr ⟨fl_2_403, List.forall_mem_cons.mpr ⟨fl_2_404, List.forall_mem_cons.mpr ⟨fl_2_405, List.forall_mem_cons.mpr ⟨fl_3_19, List.forall_mem_cons.mpr ⟨fl_3_29, List.forall_mem_cons.mpr ⟨fl_3_40, List.forall_mem_cons.mpr ⟨fl_3_83, List.forall_mem_cons.mpr ⟨fl_3_86, List.forall_mem_cons.mpr ⟨fl_3_89, List.forall_mem_cons.mpr ⟨fl_3_93, List.forall_mem_cons.mpr ⟨fl_3_96, List.forall_mem_cons.mpr ⟨fl_3_99, List.forall_mem_cons.mpr ⟨fl_3_108, List.forall_mem_cons.mpr ⟨fl_3_141, List.forall_mem_cons.mpr ⟨fl_3_176, List.forall_mem_cons.mpr ⟨fl_3_223, List.forall_mem_cons.mpr ⟨fl_3_238, List.forall_mem_cons.mpr ⟨fl_3_263, List.forall_mem_cons.mpr ⟨fl_3_268, List.forall_mem_cons.mpr ⟨fl_3_271, List.forall_mem_cons.mpr ⟨fl_3_288, List.forall_mem_cons.mpr ⟨fl_3_297, List.forall_mem_cons.mpr ⟨fl_3_301, List.forall_mem_cons.mpr ⟨fl_3_314, List.forall_mem_cons.mpr ⟨fl_3_317, List.forall_mem_cons.mpr ⟨fl_3_320, List.forall_mem_cons.mpr ⟨fl_3_345, List.forall_mem_cons.mpr ⟨fl_3_363, List.forall_mem_cons.mpr ⟨fl_4_9, List.forall_mem_cons.mpr ⟨fl_4_15, List.forall_mem_cons.mpr ⟨fl_4_19, List.forall_mem_cons.mpr ⟨fl_4_31, List.forall_mem_cons.mpr ⟨fl_4_35, List.forall_mem_cons.mpr ⟨fl_4_44, List.forall_mem_cons.mpr ⟨fl_4_47, List.forall_mem_cons.mpr ⟨fl_4_50, List.forall_mem_cons.mpr ⟨fl_4_53, List.forall_mem_cons.mpr ⟨fl_4_72, List.forall_mem_cons.mpr ⟨fl_4_93, List.forall_mem_cons.mpr ⟨fl_4_100, List.forall_mem_cons.mpr ⟨fl_4_103, List.forall_mem_cons.mpr ⟨fl_4_115, List.forall_mem_cons.mpr ⟨fl_4_120, List.forall_mem_cons.mpr ⟨fl_4_123, List.forall_mem_cons.mpr ⟨fl_5_14, List.forall_mem_cons.mpr ⟨fl_5_20, List.forall_mem_cons.mpr ⟨fl_5_23, List.forall_mem_cons.mpr ⟨fl_5_26, List.forall_mem_cons.mpr ⟨fl_5_29, List.forall_mem_cons.mpr ⟨fl_5_32, List.forall_mem_cons.mpr ⟨fl_5_35, List.forall_mem_cons.mpr ⟨fl_5_41, List.forall_mem_cons.mpr ⟨fl_5_45, List.forall_mem_cons.mpr ⟨fl_5_59, List.forall_mem_cons.mpr ⟨fl_5_71, List.forall_mem_cons.mpr ⟨fl_5_86, List.forall_mem_cons.mpr ⟨fl_5_90, List.forall_mem_cons.mpr ⟨fl_5_106, List.forall_mem_cons.mpr ⟨fl_5_109, List.forall_mem_cons.mpr ⟨fl_5_112, List.forall_mem_cons.mpr ⟨fl_5_125, List.forall_mem_cons.mpr ⟨fl_6_9, List.forall_mem_cons.mpr ⟨fl_7_3, List.forall_mem_cons.mpr ⟨fl_7_15, List.forall_mem_cons.mpr ⟨fl_7_19, List.forall_mem_cons.mpr ⟨fl_7_22, List.forall_mem_cons.mpr ⟨fl_7_30, List.forall_mem_cons.mpr ⟨fl_7_55, List.forall_mem_cons.mpr ⟨fl_7_59, List.forall_mem_cons.mpr ⟨fl_7_63, List.forall_mem_cons.mpr ⟨fl_8_3, List.forall_mem_cons.mpr ⟨fl_8_18, List.forall_mem_cons.mpr ⟨fl_8_22, List.forall_mem_cons.mpr ⟨fl_8_26, List.forall_mem_cons.mpr ⟨fl_8_60, List.forall_mem_cons.mpr ⟨fl_8_74, List.forall_mem_cons.mpr ⟨fl_8_90, List.forall_mem_cons.mpr ⟨fl_8_93, List.forall_mem_cons.mpr ⟨fl_9_3, List.forall_mem_cons.mpr ⟨fl_9_18, List.forall_mem_cons.mpr ⟨fl_9_22, List.forall_mem_cons.mpr ⟨fl_9_26, List.forall_mem_cons.mpr ⟨fl_9_29, List.forall_mem_cons.mpr ⟨fl_9_33, List.forall_mem_cons.mpr ⟨fl_9_36, List.forall_mem_cons.mpr ⟨fl_9_39, List.forall_mem_cons.mpr ⟨fl_9_51, List.forall_mem_cons.mpr ⟨fl_9_82, List.forall_mem_cons.mpr ⟨fl_9_89, List.forall_mem_cons.mpr ⟨fl_10_7, List.forall_mem_cons.mpr ⟨fl_10_13, List.forall_mem_cons.mpr ⟨fl_10_16, List.forall_mem_cons.mpr ⟨fl_10_20, List.forall_mem_cons.mpr ⟨fl_10_23, List.forall_mem_cons.mpr ⟨fl_10_26, List.forall_mem_cons.mpr ⟨fl_10_29, List.forall_mem_cons.mpr ⟨fl_10_32, List.forall_mem_cons.mpr ⟨fl_10_35, List.forall_mem_cons.mpr ⟨fl_10_38, List.forall_mem_cons.mpr ⟨fl_10_41, List.forall_mem_cons.mpr ⟨fl_10_44, List.forall_mem_cons.mpr ⟨fl_10_47, List.forall_mem_cons.mpr ⟨fl_10_50, List.forall_mem_cons.mpr ⟨fl_10_53, List.forall_mem_cons.mpr ⟨fl_10_56, List.forall_mem_cons.mpr ⟨fl_10_59, List.forall_mem_cons.mpr ⟨fl_10_62, List.forall_mem_cons.mpr ⟨fl_10_65, List.forall_mem_cons.mpr ⟨fl_10_68, List.forall_mem_cons.mpr ⟨fl_10_71, List.forall_mem_cons.mpr ⟨fl_10_74, List.forall_mem_cons.mpr ⟨fl_10_77, List.forall_mem_cons.mpr ⟨fl_10_80, List.forall_mem_cons.mpr ⟨fl_10_83, List.forall_mem_cons.mpr ⟨fl_10_87, List.forall_mem_cons.mpr ⟨fl_10_90, List.forall_mem_cons.mpr ⟨fl_10_93, List.forall_mem_cons.mpr ⟨fl_10_96, List.forall_mem_cons.mpr ⟨fl_10_99, List.forall_mem_cons.mpr ⟨fl_10_102, List.forall_mem_cons.mpr ⟨fl_10_105, List.forall_mem_cons.mpr ⟨fl_10_108, List.forall_mem_cons.mpr ⟨fl_10_111, List.forall_mem_cons.mpr ⟨fl_10_114, List.forall_mem_cons.mpr ⟨fl_10_117, List.forall_mem_cons.mpr ⟨fl_10_120, List.forall_mem_cons.mpr ⟨fl_10_123, List.forall_mem_cons.mpr ⟨fl_10_126, List.forall_mem_cons.mpr ⟨fl_10_129, List.forall_mem_cons.mpr ⟨fl_10_132, List.forall_mem_cons.mpr ⟨fl_10_135, List.forall_mem_cons.mpr ⟨fl_10_138, List.forall_mem_cons.mpr ⟨fl_10_141, List.forall_mem_cons.mpr ⟨fl_10_144, List.forall_mem_cons.mpr ⟨fl_10_147, List.forall_mem_cons.mpr ⟨fl_10_150, List.forall_mem_cons.mpr ⟨fl_10_153, List.forall_mem_cons.mpr ⟨fl_10_156, List.forall_mem_cons.mpr ⟨fl_10_159, List.forall_mem_cons.mpr ⟨fl_10_162, List.forall_mem_cons.mpr ⟨fl_10_165, List.forall_mem_cons.mpr ⟨fl_10_168, List.forall_mem_cons.mpr ⟨fl_10_171, List.forall_mem_cons.mpr ⟨fl_10_174, List.forall_mem_cons.mpr ⟨fl_10_177, List.forall_mem_cons.mpr ⟨fl_10_180, List.forall_mem_cons.mpr ⟨fl_10_183, List.forall_mem_cons.mpr ⟨fl_10_186, List.forall_mem_cons.mpr ⟨fl_10_189, List.forall_mem_cons.mpr ⟨fl_10_192, List.forall_mem_cons.mpr ⟨fl_10_196, List.forall_mem_cons.mpr ⟨fl_10_200, List.forall_mem_cons.mpr ⟨fl_10_203, List.forall_mem_cons.mpr ⟨fl_10_206, List.forall_mem_cons.mpr ⟨fl_10_209, List.forall_mem_cons.mpr ⟨fl_10_212, List.forall_mem_cons.mpr ⟨fl_10_218, List.forall_mem_cons.mpr ⟨fl_10_221, List.forall_mem_cons.mpr ⟨fl_10_224, List.forall_mem_cons.mpr ⟨fl_10_227, List.forall_mem_cons.mpr ⟨fl_10_230, List.forall_mem_cons.mpr ⟨fl_10_234, List.forall_mem_cons.mpr ⟨fl_10_237, List.forall_mem_cons.mpr ⟨fl_10_248, List.forall_mem_cons.mpr ⟨fl_10_251, List.forall_mem_cons.mpr ⟨fl_10_254, List.forall_mem_cons.mpr ⟨fl_10_355, List.forall_mem_cons.mpr ⟨fl_10_465, List.forall_mem_cons.mpr ⟨fl_10_493, List.forall_mem_cons.mpr ⟨fl_10_496, List.forall_mem_cons.mpr ⟨fl_10_508, List.forall_mem_cons.mpr ⟨fl_10_547, List.forall_mem_cons.mpr ⟨fl_10_557, List.forall_mem_cons.mpr ⟨fl_10_564, List.forall_mem_cons.mpr ⟨fl_10_597, List.forall_mem_cons.mpr ⟨fl_10_604, List.forall_mem_cons.mpr ⟨fl_11_7, List.forall_mem_cons.mpr ⟨fl_12_9, List.forall_mem_cons.mpr ⟨fl_12_15, List.forall_mem_cons.mpr ⟨fl_12_18, List.forall_mem_cons.mpr ⟨fl_12_21, List.forall_mem_cons.mpr ⟨fl_12_24, List.forall_mem_cons.mpr ⟨fl_12_27, List.forall_mem_cons.mpr ⟨fl_16_9, List.forall_mem_cons.mpr ⟨fl_16_15, List.forall_mem_cons.mpr ⟨fl_16_19, List.forall_mem_cons.mpr ⟨fl_17_7, List.forall_mem_cons.mpr ⟨fl_17_13, List.forall_mem_cons.mpr ⟨fl_17_16, List.forall_mem_cons.mpr ⟨fl_19_7, List.forall_mem_cons.mpr ⟨fl_19_13, List.forall_mem_cons.mpr ⟨fl_20_7, List.forall_mem_cons.mpr ⟨fl_21_7, List.forall_mem_cons.mpr ⟨fl_22_12, List.forall_mem_cons.mpr ⟨fl_22_18, List.forall_mem_cons.mpr ⟨fl_23_7, List.forall_mem_cons.mpr ⟨fl_32_7, List.forall_mem_cons.mpr ⟨fl_32_13, List.forall_mem_cons.mpr ⟨fl_32_16, List.forall_mem_cons.mpr ⟨fl_33_7, List.forall_mem_cons.mpr ⟨fl_35_7, List.forall_mem_cons.mpr ⟨fl_35_13, List.forall_mem_cons.mpr ⟨fl_35_17, List.forall_mem_cons.mpr ⟨fl_35_21, List.forall_mem_cons.mpr ⟨fl_41_7, List.forall_mem_cons.mpr ⟨fl_42_9, List.forall_mem_cons.mpr ⟨fl_42_48, List.forall_mem_cons.mpr ⟨fl_42_63, List.forall_mem_cons.mpr ⟨fl_45_9, List.forall_mem_cons.mpr ⟨fl_45_15, List.forall_mem_cons.mpr ⟨fl_55_273, fun _ h => absurd h List.not_mem_nil⟩⟩⟩⟩⟩⟩⟩⟩⟩⟩⟩⟩⟩⟩⟩⟩⟩⟩⟩⟩⟩⟩⟩⟩⟩⟩⟩⟩⟩⟩⟩⟩⟩⟩⟩⟩⟩⟩⟩⟩⟩⟩⟩⟩⟩⟩⟩⟩⟩⟩⟩⟩⟩⟩⟩⟩⟩⟩⟩⟩⟩⟩⟩⟩⟩⟩⟩⟩⟩⟩⟩⟩⟩⟩⟩⟩⟩⟩⟩⟩⟩⟩⟩⟩⟩⟩⟩⟩⟩⟩⟩⟩⟩⟩⟩⟩⟩⟩⟩⟩⟩⟩⟩⟩⟩⟩⟩⟩⟩⟩⟩⟩⟩⟩⟩⟩⟩⟩⟩⟩⟩⟩⟩⟩⟩⟩⟩⟩⟩⟩⟩⟩⟩⟩⟩⟩⟩⟩⟩⟩⟩⟩⟩⟩⟩⟩⟩⟩⟩⟩⟩⟩⟩⟩⟩⟩⟩⟩⟩⟩⟩⟩⟩⟩⟩⟩⟩⟩⟩⟩⟩⟩⟩⟩⟩⟩⟩⟩⟩⟩⟩⟩⟩⟩⟩⟩⟩⟩⟩⟩⟩⟩⟩⟩⟩⟩⟩⟩⟩⟩⟩⟩⟩⟩⟩⟩⟩⟩⟩⟩⟩⟩⟩⟩⟩⟩⟩⟩⟩⟩⟩⟩⟩⟩⟩⟩⟩⟩⟩⟩⟩⟩⟩⟩⟩⟩⟩⟩⟩⟩⟩⟩⟩⟩⟩⟩⟩⟩
theorem fl_ok {o i f : Nat} (h : fres o i = some f) : FLk o i f := tab_at (P := FLk) fl_all h
def NLk (o i : Nat) (v : Nat × Nat) : Prop := ∃ q, clf v.1 = some q ∧ q.1.2.2 = v.2 ∧ Cond.classLink (onm o) i q.1.1 ∈ lw_all
theorem nl_all : ∀ e ∈ nresT, NLk (e.1 / 10000) (e.1 % 10000) e.2 := by
  unfold nresT
  exact List.forall_mem_cons.mpr ⟨⟨_, rfl, rfl, q178⟩, List.forall_mem_cons.mpr ⟨⟨_, rfl, rfl, q1827⟩, List.forall_mem_cons.mpr ⟨⟨_, rfl, rfl, q1852⟩, List.forall_mem_cons.mpr ⟨⟨_, rfl, rfl, q825⟩, List.forall_mem_cons.mpr ⟨⟨_, rfl, rfl, q868⟩, List.forall_mem_cons.mpr ⟨⟨_, rfl, rfl, q881⟩, List.forall_mem_cons.mpr ⟨⟨_, rfl, rfl, q894⟩, List.forall_mem_cons.mpr ⟨⟨_, rfl, rfl, q186⟩, List.forall_mem_cons.mpr ⟨⟨_, rfl, rfl, q268⟩, List.forall_mem_cons.mpr ⟨⟨_, rfl, rfl, q308⟩, List.forall_mem_cons.mpr ⟨⟨_, rfl, rfl, q434⟩, List.forall_mem_cons.mpr ⟨⟨_, rfl, rfl, q441⟩, List.forall_mem_cons.mpr ⟨⟨_, rfl, rfl, q461⟩, List.forall_mem_cons.mpr ⟨⟨_, rfl, rfl, q484⟩, List.forall_mem_cons.mpr ⟨⟨_, rfl, rfl, q516⟩, List.forall_mem_cons.mpr ⟨⟨_, rfl, rfl, q574⟩, List.forall_mem_cons.mpr ⟨⟨_, rfl, rfl, q1424⟩, List.forall_mem_cons.mpr ⟨⟨_, rfl, rfl, q1618⟩, List.forall_mem_cons.mpr ⟨⟨_, rfl, rfl, q1832⟩, List.forall_mem_cons.mpr ⟨⟨_, rfl, rfl, q721⟩, List.forall_mem_cons.mpr ⟨⟨_, rfl, rfl, q680⟩, List.forall_mem_cons.mpr ⟨⟨_, rfl, rfl, q1263⟩, List.forall_mem_cons.mpr ⟨⟨_, rfl, rfl, q979⟩, List.forall_mem_cons.mpr ⟨⟨_, rfl, rfl, q1015⟩, List.forall_mem_cons.mpr ⟨⟨_, rfl, rfl, q1036⟩, List.forall_mem_cons.mpr ⟨⟨_, rfl, rfl, q1289⟩, List.forall_mem_cons.mpr ⟨⟨_, rfl, rfl, q1299⟩, List.forall_mem_cons.mpr ⟨⟨_, rfl, rfl, q1273⟩, List.forall_mem_cons.mpr ⟨⟨_, rfl, rfl, q1170⟩, List.forall_mem_cons.mpr ⟨⟨_, rfl, rfl, q1231⟩, List.forall_mem_cons.mpr ⟨⟨_, rfl, rfl, q1239⟩, List.forall_mem_cons.mpr ⟨⟨_, rfl, rfl, q1215⟩, List.forall_mem_cons.mpr ⟨⟨_, rfl, rfl, q1223⟩, List.forall_mem_cons.mpr ⟨⟨_, rfl, rfl, q1199⟩, List.forall_mem_cons.mpr ⟨⟨_, rfl, rfl, q1207⟩, List.forall_mem_cons.mpr ⟨⟨_, rfl, rfl, q1186⟩, List.forall_mem_cons.mpr ⟨⟨_, rfl, rfl, q1126⟩, List.forall_mem_cons.mpr ⟨⟨_, rfl, rfl, q1139⟩, List.forall_mem_cons.mpr ⟨⟨_, rfl, rfl, q1149⟩, List.forall_mem_cons.mpr ⟨⟨_, rfl, rfl, q1552⟩, List.forall_mem_cons.mpr ⟨⟨_, rfl, rfl, q433⟩, List.forall_mem_cons.mpr ⟨⟨_, rfl, rfl, q1482⟩, List.forall_mem_cons.mpr ⟨⟨_, rfl, rfl, q314⟩, List.forall_mem_cons.mpr ⟨⟨_, rfl, rfl, q342⟩, List.forall_mem_cons.mpr ⟨⟨_, rfl, rfl, q796⟩, List.forall_mem_cons.mpr ⟨⟨_, rfl, rfl, q801⟩, List.forall_mem_cons.mpr ⟨⟨_, rfl, rfl, q1013⟩, List.forall_mem_cons.mpr ⟨⟨_, rfl, rfl, q1460⟩, List.forall_mem_cons.mpr ⟨⟨_, rfl, rfl, q1638⟩, List.forall_mem_cons.mpr ⟨⟨_, rfl, rfl, q467⟩, List.forall_mem_cons.mpr ⟨⟨_, rfl, rfl, q1679⟩, List.forall_mem_cons.mpr ⟨⟨_, rfl, rfl, q490⟩, List.forall_mem_cons.mpr ⟨⟨_, rfl, rfl, q1176⟩, List.forall_mem_cons.mpr ⟨⟨_, rfl, rfl, q1064⟩, fun _ h => absurd h List.not_mem_nil⟩⟩⟩⟩⟩⟩⟩⟩⟩⟩⟩⟩⟩⟩⟩⟩⟩⟩⟩⟩⟩⟩⟩⟩⟩⟩⟩⟩⟩⟩⟩⟩⟩⟩⟩⟩⟩⟩⟩⟩⟩⟩⟩⟩⟩⟩⟩⟩⟩⟩⟩⟩⟩⟩
theorem nl_ok {o i : Nat} {v : Nat × Nat} (h : nres o i = some v) : NLk o i v := tab_at (P := NLk) nl_all h
noncomputable def eNam (e : Nat) : String := match e with
  | 1 => "java/lang/String"
  | 2 => "NameOrchard$Boughs"
  | 3 => "NameOrchard$Mark"
  | _ => "java/lang/Object"
def ELk (o i e : Nat) : Prop := Cond.classLink (onm o) i (eNam e) ∈ lw_all ∧ Cond.arrayOver (.object (eNam e)) ∈ lw_tbl
theorem el_all : ∀ e ∈ eresT, ELk (e.1 / 10000) (e.1 % 10000) e.2 := by
  unfold eresT
  exact List.forall_mem_cons.mpr ⟨⟨q268, q468⟩, List.forall_mem_cons.mpr ⟨⟨q516, q517⟩, List.forall_mem_cons.mpr ⟨⟨q192, q193⟩, List.forall_mem_cons.mpr ⟨⟨q1552, q468⟩, List.forall_mem_cons.mpr ⟨⟨q467, q468⟩, List.forall_mem_cons.mpr ⟨⟨q490, q468⟩, List.forall_mem_cons.mpr ⟨⟨q326, q327⟩, List.forall_mem_cons.mpr ⟨⟨q973, q327⟩, fun _ h => absurd h List.not_mem_nil⟩⟩⟩⟩⟩⟩⟩⟩
theorem el_ok {o i e : Nat} (h : eres o i = some e) : ELk o i e := tab_at (P := ELk) el_all h
def KLk (o i : Nat) (v : Int32 ⊕ Nat) : Prop := match v with
  | .inl x => Cond.constant (onm o) i x ∈ lw_all
  | .inr n => (∃ tx, (o, i, tx, n) ∈ strL) ∨ (n = 60 ∧ Cond.classLink (onm o) i "[Ljava/lang/Object;" ∈ lw_all)
theorem kl_all : ∀ e ∈ kresT, KLk (e.1 / 10000) (e.1 % 10000) e.2 := by
  unfold kresT
  exact List.forall_mem_cons.mpr ⟨q1723, List.forall_mem_cons.mpr ⟨Or.inl ⟨"edits", List.mem_of_getElem? (i := 0) rfl⟩, List.forall_mem_cons.mpr ⟨Or.inl ⟨"start", List.mem_of_getElem? (i := 1) rfl⟩, List.forall_mem_cons.mpr ⟨Or.inl ⟨"rhyme", List.mem_of_getElem? (i := 2) rfl⟩, List.forall_mem_cons.mpr ⟨Or.inl ⟨"size", List.mem_of_getElem? (i := 3) rfl⟩, List.forall_mem_cons.mpr ⟨Or.inl ⟨"base", List.mem_of_getElem? (i := 4) rfl⟩, List.forall_mem_cons.mpr ⟨Or.inl ⟨"age", List.mem_of_getElem? (i := 5) rfl⟩, List.forall_mem_cons.mpr ⟨Or.inl ⟨"plain", List.mem_of_getElem? (i := 6) rfl⟩, List.forall_mem_cons.mpr ⟨Or.inl ⟨"alias", List.mem_of_getElem? (i := 7) rfl⟩, List.forall_mem_cons.mpr ⟨Or.inl ⟨"welsh", List.mem_of_getElem? (i := 8) rfl⟩, List.forall_mem_cons.mpr ⟨Or.inl ⟨"deaf", List.mem_of_getElem? (i := 9) rfl⟩, List.forall_mem_cons.mpr ⟨Or.inl ⟨"apple", List.mem_of_getElem? (i := 10) rfl⟩, List.forall_mem_cons.mpr ⟨Or.inl ⟨"at", List.mem_of_getElem? (i := 11) rfl⟩, List.forall_mem_cons.mpr ⟨Or.inl ⟨"ripe", List.mem_of_getElem? (i := 12) rfl⟩, List.forall_mem_cons.mpr ⟨Or.inl ⟨"worth", List.mem_of_getElem? (i := 13) rfl⟩, List.forall_mem_cons.mpr ⟨Or.inl ⟨"twin", List.mem_of_getElem? (i := 14) rfl⟩, List.forall_mem_cons.mpr ⟨Or.inl ⟨"other", List.mem_of_getElem? (i := 15) rfl⟩, List.forall_mem_cons.mpr ⟨Or.inl ⟨"person", List.mem_of_getElem? (i := 16) rfl⟩, List.forall_mem_cons.mpr ⟨Or.inl ⟨"lane", List.mem_of_getElem? (i := 17) rfl⟩, List.forall_mem_cons.mpr ⟨Or.inl ⟨"loud", List.mem_of_getElem? (i := 18) rfl⟩, List.forall_mem_cons.mpr ⟨Or.inl ⟨"stranger", List.mem_of_getElem? (i := 19) rfl⟩, List.forall_mem_cons.mpr ⟨Or.inl ⟨"page", List.mem_of_getElem? (i := 20) rfl⟩, List.forall_mem_cons.mpr ⟨Or.inl ⟨"bann", List.mem_of_getElem? (i := 21) rfl⟩, List.forall_mem_cons.mpr ⟨Or.inl ⟨"near", List.mem_of_getElem? (i := 22) rfl⟩, List.forall_mem_cons.mpr ⟨Or.inl ⟨"value", List.mem_of_getElem? (i := 23) rfl⟩, List.forall_mem_cons.mpr ⟨Or.inl ⟨"call", List.mem_of_getElem? (i := 24) rfl⟩, List.forall_mem_cons.mpr ⟨Or.inl ⟨"pick", List.mem_of_getElem? (i := 25) rfl⟩, List.forall_mem_cons.mpr ⟨Or.inl ⟨"day", List.mem_of_getElem? (i := 26) rfl⟩, List.forall_mem_cons.mpr ⟨Or.inl ⟨"not", List.mem_of_getElem? (i := 27) rfl⟩, List.forall_mem_cons.mpr ⟨Or.inl ⟨"and", List.mem_of_getElem? (i := 28) rfl⟩, List.forall_mem_cons.mpr ⟨Or.inl ⟨"or", List.mem_of_getElem? (i := 29) rfl⟩, List.forall_mem_cons.mpr ⟨Or.inl ⟨"()<=+-*;", List.mem_of_getElem? (i := 30) rfl⟩, List.forall_mem_cons.mpr ⟨q1858, List.forall_mem_cons.mpr ⟨q1859, List.forall_mem_cons.mpr ⟨q2525, List.forall_mem_cons.mpr ⟨q924, List.forall_mem_cons.mpr ⟨Or.inr ⟨rfl, q972⟩, fun _ h => absurd h List.not_mem_nil⟩⟩⟩⟩⟩⟩⟩⟩⟩⟩⟩⟩⟩⟩⟩⟩⟩⟩⟩⟩⟩⟩⟩⟩⟩⟩⟩⟩⟩⟩⟩⟩⟩⟩⟩⟩⟩
theorem kl_ok {o i : Nat} {v : Int32 ⊕ Nat} (h : kres o i = some v) : KLk o i v := tab_at (P := KLk) kl_all h
def LLk (o i : Nat) (v : Int64) : Prop := Cond.constantLong (onm o) i v ∈ lw_all
theorem ll_all : ∀ e ∈ lresT, LLk (e.1 / 10000) (e.1 % 10000) e.2 := by
  unfold lresT
  exact List.forall_mem_cons.mpr ⟨q2586, List.forall_mem_cons.mpr ⟨q1725, List.forall_mem_cons.mpr ⟨q1780, List.forall_mem_cons.mpr ⟨q1781, List.forall_mem_cons.mpr ⟨q1782, List.forall_mem_cons.mpr ⟨q1783, List.forall_mem_cons.mpr ⟨q566, List.forall_mem_cons.mpr ⟨q586, List.forall_mem_cons.mpr ⟨q587, List.forall_mem_cons.mpr ⟨q591, List.forall_mem_cons.mpr ⟨q592, List.forall_mem_cons.mpr ⟨q2130, List.forall_mem_cons.mpr ⟨q2151, List.forall_mem_cons.mpr ⟨q2152, List.forall_mem_cons.mpr ⟨q2284, List.forall_mem_cons.mpr ⟨q2285, List.forall_mem_cons.mpr ⟨q2286, List.forall_mem_cons.mpr ⟨q2287, List.forall_mem_cons.mpr ⟨q2288, List.forall_mem_cons.mpr ⟨q2289, List.forall_mem_cons.mpr ⟨q2194, List.forall_mem_cons.mpr ⟨q2195, List.forall_mem_cons.mpr ⟨q2196, List.forall_mem_cons.mpr ⟨q2153, List.forall_mem_cons.mpr ⟨q2174, List.forall_mem_cons.mpr ⟨q2175, List.forall_mem_cons.mpr ⟨q2176, List.forall_mem_cons.mpr ⟨q2177, List.forall_mem_cons.mpr ⟨q2178, List.forall_mem_cons.mpr ⟨q2179, List.forall_mem_cons.mpr ⟨q2180, List.forall_mem_cons.mpr ⟨q2181, List.forall_mem_cons.mpr ⟨q2182, List.forall_mem_cons.mpr ⟨q2183, List.forall_mem_cons.mpr ⟨q2184, List.forall_mem_cons.mpr ⟨q2185, List.forall_mem_cons.mpr ⟨q2186, List.forall_mem_cons.mpr ⟨q2187, List.forall_mem_cons.mpr ⟨q2188, List.forall_mem_cons.mpr ⟨q2189, List.forall_mem_cons.mpr ⟨q2190, List.forall_mem_cons.mpr ⟨q2191, List.forall_mem_cons.mpr ⟨q2192, List.forall_mem_cons.mpr ⟨q2193, List.forall_mem_cons.mpr ⟨q2259, List.forall_mem_cons.mpr ⟨q2526, List.forall_mem_cons.mpr ⟨q2567, List.forall_mem_cons.mpr ⟨q2568, List.forall_mem_cons.mpr ⟨q2569, List.forall_mem_cons.mpr ⟨q2570, List.forall_mem_cons.mpr ⟨q985, List.forall_mem_cons.mpr ⟨q1060, List.forall_mem_cons.mpr ⟨q1061, fun _ h => absurd h List.not_mem_nil⟩⟩⟩⟩⟩⟩⟩⟩⟩⟩⟩⟩⟩⟩⟩⟩⟩⟩⟩⟩⟩⟩⟩⟩⟩⟩⟩⟩⟩⟩⟩⟩⟩⟩⟩⟩⟩⟩⟩⟩⟩⟩⟩⟩⟩⟩⟩⟩⟩⟩⟩⟩⟩
theorem ll_ok {o i : Nat} {v : Int64} (h : lres o i = some v) : LLk o i v := tab_at (P := LLk) ll_all h
def SLk (o i : Nat) (v : Int32 ⊕ Nat) : Prop := (v = .inr 50 ∧ Cond.fieldLink (onm o) i "java/util/ArrayList" "EMPTY_ELEMENTDATA" "[Ljava/lang/Object;" ∈ lw_all) ∨ (v = .inr 51 ∧ Cond.fieldLink (onm o) i "java/util/ArrayList" "DEFAULTCAPACITY_EMPTY_ELEMENTDATA" "[Ljava/lang/Object;" ∈ lw_all) ∨ (v = .inr 52 ∧ Cond.fieldLink (onm o) i "java/lang/Long$LongCache" "cache" "[Ljava/lang/Long;" ∈ lw_all) ∨ (v = .inl 1 ∧ Cond.fieldLink (onm o) i "java/lang/String" "COMPACT_STRINGS" "Z" ∈ lw_all) ∨ (v = .inr 53 ∧ Cond.fieldLink (onm o) i "jdk/internal/util/Preconditions" "SIOOBE_FORMATTER" "Ljava/util/function/BiFunction;" ∈ lw_all)
theorem sl_all : ∀ e ∈ sresT, SLk (e.1 / 10000) (e.1 % 10000) e.2 := by
  unfold sresT
  exact List.forall_mem_cons.mpr ⟨Or.inl ⟨rfl, q328⟩, List.forall_mem_cons.mpr ⟨Or.inr (Or.inl ⟨rfl, q439⟩), List.forall_mem_cons.mpr ⟨Or.inr (Or.inr (Or.inr (Or.inl ⟨rfl, q606⟩))), List.forall_mem_cons.mpr ⟨Or.inr (Or.inr (Or.inr (Or.inr (⟨rfl, q649⟩)))), List.forall_mem_cons.mpr ⟨Or.inr (Or.inr (Or.inl ⟨rfl, q1062⟩)), fun _ h => absurd h List.not_mem_nil⟩⟩⟩⟩⟩
theorem sl_ok {o i : Nat} {v : Int32 ⊕ Nat} (h : sres o i = some v) : SLk o i v := tab_at (P := SLk) sl_all h
noncomputable def tNm (t : Nat) : String := match clf t with
  | some q => q.1.1
  | none => if t = 45 then "java/lang/String" else if t = 155 then "java/lang/Long" else "[" ++ (aTy t).toString
def XLk (o i : Nat) (l : List Nat) : Prop := ∃ C, Cond.classLink (onm o) i C ∈ lw_all ∧ ∀ t ∈ l, (tNm t = C ∧ t < 900 ∧ (t = 155 ∨ (clf t).isSome = true)) ∨ (t < 900 ∧ (clf t).isSome = true ∧ Cond.castable (tNm t) C ∈ lw_tbl) ∨ (1000 ≤ t ∧ t % 1000 < 900 ∧ tNm t = C)
theorem xl_all : ∀ e ∈ xresT, XLk (e.1 / 10000) (e.1 % 10000) e.2 := by
  unfold xresT
  exact List.forall_mem_cons.mpr ⟨⟨"NameOrchard$Apple", q894, List.forall_mem_cons.mpr ⟨Or.inl ⟨rfl, by decide, Or.inr rfl⟩, List.forall_mem_cons.mpr ⟨Or.inr (Or.inl ⟨by decide, rfl, q2588⟩), List.forall_mem_cons.mpr ⟨Or.inr (Or.inl ⟨by decide, rfl, q2590⟩), List.forall_mem_cons.mpr ⟨Or.inr (Or.inl ⟨by decide, rfl, q2589⟩), fun _ h => absurd h List.not_mem_nil⟩⟩⟩⟩⟩, List.forall_mem_cons.mpr ⟨⟨"NameOrchard$Boughs", q268, List.forall_mem_cons.mpr ⟨Or.inl ⟨rfl, by decide, Or.inr rfl⟩, fun _ h => absurd h List.not_mem_nil⟩⟩, List.forall_mem_cons.mpr ⟨⟨"NameOrchard$Sound", q1424, List.forall_mem_cons.mpr ⟨Or.inl ⟨rfl, by decide, Or.inr rfl⟩, fun _ h => absurd h List.not_mem_nil⟩⟩, List.forall_mem_cons.mpr ⟨⟨"NameOrchard$Line", q1600, List.forall_mem_cons.mpr ⟨Or.inr (Or.inl ⟨by decide, rfl, q2598⟩), List.forall_mem_cons.mpr ⟨Or.inr (Or.inl ⟨by decide, rfl, q2600⟩), List.forall_mem_cons.mpr ⟨Or.inr (Or.inl ⟨by decide, rfl, q2599⟩), fun _ h => absurd h List.not_mem_nil⟩⟩⟩⟩, List.forall_mem_cons.mpr ⟨⟨"[I", q1714, List.forall_mem_cons.mpr ⟨Or.inr (Or.inr ⟨by decide, by decide, rfl⟩), List.forall_mem_cons.mpr ⟨Or.inr (Or.inr ⟨by decide, by decide, rfl⟩), List.forall_mem_cons.mpr ⟨Or.inr (Or.inr ⟨by decide, by decide, rfl⟩), List.forall_mem_cons.mpr ⟨Or.inr (Or.inr ⟨by decide, by decide, rfl⟩), List.forall_mem_cons.mpr ⟨Or.inr (Or.inr ⟨by decide, by decide, rfl⟩), List.forall_mem_cons.mpr ⟨Or.inr (Or.inr ⟨by decide, by decide, rfl⟩), List.forall_mem_cons.mpr ⟨Or.inr (Or.inr ⟨by decide, by decide, rfl⟩), List.forall_mem_cons.mpr ⟨Or.inr (Or.inr ⟨by decide, by decide, rfl⟩), List.forall_mem_cons.mpr ⟨Or.inr (Or.inr ⟨by decide, by decide, rfl⟩), List.forall_mem_cons.mpr ⟨Or.inr (Or.inr ⟨by decide, by decide, rfl⟩), List.forall_mem_cons.mpr ⟨Or.inr (Or.inr ⟨by decide, by decide, rfl⟩), List.forall_mem_cons.mpr ⟨Or.inr (Or.inr ⟨by decide, by decide, rfl⟩), List.forall_mem_cons.mpr ⟨Or.inr (Or.inr ⟨by decide, by decide, rfl⟩), List.forall_mem_cons.mpr ⟨Or.inr (Or.inr ⟨by decide, by decide, rfl⟩), List.forall_mem_cons.mpr ⟨Or.inr (Or.inr ⟨by decide, by decide, rfl⟩), List.forall_mem_cons.mpr ⟨Or.inr (Or.inr ⟨by decide, by decide, rfl⟩), List.forall_mem_cons.mpr ⟨Or.inr (Or.inr ⟨by decide, by decide, rfl⟩), List.forall_mem_cons.mpr ⟨Or.inr (Or.inr ⟨by decide, by decide, rfl⟩), List.forall_mem_cons.mpr ⟨Or.inr (Or.inr ⟨by decide, by decide, rfl⟩), List.forall_mem_cons.mpr ⟨Or.inr (Or.inr ⟨by decide, by decide, rfl⟩), fun _ h => absurd h List.not_mem_nil⟩⟩⟩⟩⟩⟩⟩⟩⟩⟩⟩⟩⟩⟩⟩⟩⟩⟩⟩⟩⟩, List.forall_mem_cons.mpr ⟨⟨"NameOrchard$Sound", q979, List.forall_mem_cons.mpr ⟨Or.inl ⟨rfl, by decide, Or.inr rfl⟩, fun _ h => absurd h List.not_mem_nil⟩⟩, List.forall_mem_cons.mpr ⟨⟨"NameOrchard$Apple", q1015, List.forall_mem_cons.mpr ⟨Or.inl ⟨rfl, by decide, Or.inr rfl⟩, List.forall_mem_cons.mpr ⟨Or.inr (Or.inl ⟨by decide, rfl, q2588⟩), List.forall_mem_cons.mpr ⟨Or.inr (Or.inl ⟨by decide, rfl, q2590⟩), List.forall_mem_cons.mpr ⟨Or.inr (Or.inl ⟨by decide, rfl, q2589⟩), fun _ h => absurd h List.not_mem_nil⟩⟩⟩⟩⟩, List.forall_mem_cons.mpr ⟨⟨"[I", q1081, List.forall_mem_cons.mpr ⟨Or.inr (Or.inr ⟨by decide, by decide, rfl⟩), List.forall_mem_cons.mpr ⟨Or.inr (Or.inr ⟨by decide, by decide, rfl⟩), List.forall_mem_cons.mpr ⟨Or.inr (Or.inr ⟨by decide, by decide, rfl⟩), List.forall_mem_cons.mpr ⟨Or.inr (Or.inr ⟨by decide, by decide, rfl⟩), List.forall_mem_cons.mpr ⟨Or.inr (Or.inr ⟨by decide, by decide, rfl⟩), List.forall_mem_cons.mpr ⟨Or.inr (Or.inr ⟨by decide, by decide, rfl⟩), List.forall_mem_cons.mpr ⟨Or.inr (Or.inr ⟨by decide, by decide, rfl⟩), List.forall_mem_cons.mpr ⟨Or.inr (Or.inr ⟨by decide, by decide, rfl⟩), List.forall_mem_cons.mpr ⟨Or.inr (Or.inr ⟨by decide, by decide, rfl⟩), List.forall_mem_cons.mpr ⟨Or.inr (Or.inr ⟨by decide, by decide, rfl⟩), List.forall_mem_cons.mpr ⟨Or.inr (Or.inr ⟨by decide, by decide, rfl⟩), List.forall_mem_cons.mpr ⟨Or.inr (Or.inr ⟨by decide, by decide, rfl⟩), List.forall_mem_cons.mpr ⟨Or.inr (Or.inr ⟨by decide, by decide, rfl⟩), List.forall_mem_cons.mpr ⟨Or.inr (Or.inr ⟨by decide, by decide, rfl⟩), List.forall_mem_cons.mpr ⟨Or.inr (Or.inr ⟨by decide, by decide, rfl⟩), List.forall_mem_cons.mpr ⟨Or.inr (Or.inr ⟨by decide, by decide, rfl⟩), List.forall_mem_cons.mpr ⟨Or.inr (Or.inr ⟨by decide, by decide, rfl⟩), List.forall_mem_cons.mpr ⟨Or.inr (Or.inr ⟨by decide, by decide, rfl⟩), List.forall_mem_cons.mpr ⟨Or.inr (Or.inr ⟨by decide, by decide, rfl⟩), List.forall_mem_cons.mpr ⟨Or.inr (Or.inr ⟨by decide, by decide, rfl⟩), fun _ h => absurd h List.not_mem_nil⟩⟩⟩⟩⟩⟩⟩⟩⟩⟩⟩⟩⟩⟩⟩⟩⟩⟩⟩⟩⟩, List.forall_mem_cons.mpr ⟨⟨"NameOrchard$Apple", q433, List.forall_mem_cons.mpr ⟨Or.inl ⟨rfl, by decide, Or.inr rfl⟩, List.forall_mem_cons.mpr ⟨Or.inr (Or.inl ⟨by decide, rfl, q2588⟩), List.forall_mem_cons.mpr ⟨Or.inr (Or.inl ⟨by decide, rfl, q2590⟩), List.forall_mem_cons.mpr ⟨Or.inr (Or.inl ⟨by decide, rfl, q2589⟩), fun _ h => absurd h List.not_mem_nil⟩⟩⟩⟩⟩, List.forall_mem_cons.mpr ⟨⟨"NameOrchard$Person", q1482, List.forall_mem_cons.mpr ⟨Or.inl ⟨rfl, by decide, Or.inr rfl⟩, fun _ h => absurd h List.not_mem_nil⟩⟩, List.forall_mem_cons.mpr ⟨⟨"NameOrchard$Sound", q796, List.forall_mem_cons.mpr ⟨Or.inl ⟨rfl, by decide, Or.inr rfl⟩, fun _ h => absurd h List.not_mem_nil⟩⟩, List.forall_mem_cons.mpr ⟨⟨"java/lang/Long", q801, List.forall_mem_cons.mpr ⟨Or.inl ⟨rfl, by decide, Or.inr rfl⟩, List.forall_mem_cons.mpr ⟨Or.inl ⟨rfl, by decide, Or.inl rfl⟩, fun _ h => absurd h List.not_mem_nil⟩⟩⟩, List.forall_mem_cons.mpr ⟨⟨"NameOrchard$Apple", q1013, List.forall_mem_cons.mpr ⟨Or.inl ⟨rfl, by decide, Or.inr rfl⟩, List.forall_mem_cons.mpr ⟨Or.inr (Or.inl ⟨by decide, rfl, q2588⟩), List.forall_mem_cons.mpr ⟨Or.inr (Or.inl ⟨by decide, rfl, q2590⟩), List.forall_mem_cons.mpr ⟨Or.inr (Or.inl ⟨by decide, rfl, q2589⟩), fun _ h => absurd h List.not_mem_nil⟩⟩⟩⟩⟩, List.forall_mem_cons.mpr ⟨⟨"NameOrchard$Person", q1460, List.forall_mem_cons.mpr ⟨Or.inl ⟨rfl, by decide, Or.inr rfl⟩, fun _ h => absurd h List.not_mem_nil⟩⟩, List.forall_mem_cons.mpr ⟨⟨"NameOrchard$Person", q1638, List.forall_mem_cons.mpr ⟨Or.inl ⟨rfl, by decide, Or.inr rfl⟩, fun _ h => absurd h List.not_mem_nil⟩⟩, List.forall_mem_cons.mpr ⟨⟨"NameOrchard$Apple", q1679, List.forall_mem_cons.mpr ⟨Or.inl ⟨rfl, by decide, Or.inr rfl⟩, List.forall_mem_cons.mpr ⟨Or.inr (Or.inl ⟨by decide, rfl, q2588⟩), List.forall_mem_cons.mpr ⟨Or.inr (Or.inl ⟨by decide, rfl, q2590⟩), List.forall_mem_cons.mpr ⟨Or.inr (Or.inl ⟨by decide, rfl, q2589⟩), fun _ h => absurd h List.not_mem_nil⟩⟩⟩⟩⟩, List.forall_mem_cons.mpr ⟨⟨"[I", q1766, List.forall_mem_cons.mpr ⟨Or.inr (Or.inr ⟨by decide, by decide, rfl⟩), List.forall_mem_cons.mpr ⟨Or.inr (Or.inr ⟨by decide, by decide, rfl⟩), List.forall_mem_cons.mpr ⟨Or.inr (Or.inr ⟨by decide, by decide, rfl⟩), List.forall_mem_cons.mpr ⟨Or.inr (Or.inr ⟨by decide, by decide, rfl⟩), List.forall_mem_cons.mpr ⟨Or.inr (Or.inr ⟨by decide, by decide, rfl⟩), List.forall_mem_cons.mpr ⟨Or.inr (Or.inr ⟨by decide, by decide, rfl⟩), List.forall_mem_cons.mpr ⟨Or.inr (Or.inr ⟨by decide, by decide, rfl⟩), List.forall_mem_cons.mpr ⟨Or.inr (Or.inr ⟨by decide, by decide, rfl⟩), List.forall_mem_cons.mpr ⟨Or.inr (Or.inr ⟨by decide, by decide, rfl⟩), List.forall_mem_cons.mpr ⟨Or.inr (Or.inr ⟨by decide, by decide, rfl⟩), List.forall_mem_cons.mpr ⟨Or.inr (Or.inr ⟨by decide, by decide, rfl⟩), List.forall_mem_cons.mpr ⟨Or.inr (Or.inr ⟨by decide, by decide, rfl⟩), List.forall_mem_cons.mpr ⟨Or.inr (Or.inr ⟨by decide, by decide, rfl⟩), List.forall_mem_cons.mpr ⟨Or.inr (Or.inr ⟨by decide, by decide, rfl⟩), List.forall_mem_cons.mpr ⟨Or.inr (Or.inr ⟨by decide, by decide, rfl⟩), List.forall_mem_cons.mpr ⟨Or.inr (Or.inr ⟨by decide, by decide, rfl⟩), List.forall_mem_cons.mpr ⟨Or.inr (Or.inr ⟨by decide, by decide, rfl⟩), List.forall_mem_cons.mpr ⟨Or.inr (Or.inr ⟨by decide, by decide, rfl⟩), List.forall_mem_cons.mpr ⟨Or.inr (Or.inr ⟨by decide, by decide, rfl⟩), List.forall_mem_cons.mpr ⟨Or.inr (Or.inr ⟨by decide, by decide, rfl⟩), fun _ h => absurd h List.not_mem_nil⟩⟩⟩⟩⟩⟩⟩⟩⟩⟩⟩⟩⟩⟩⟩⟩⟩⟩⟩⟩⟩, List.forall_mem_cons.mpr ⟨⟨"NameOrchard$Link", q1361, List.forall_mem_cons.mpr ⟨Or.inr (Or.inl ⟨by decide, rfl, q2597⟩), List.forall_mem_cons.mpr ⟨Or.inr (Or.inl ⟨by decide, rfl, q2595⟩), List.forall_mem_cons.mpr ⟨Or.inr (Or.inl ⟨by decide, rfl, q2593⟩), List.forall_mem_cons.mpr ⟨Or.inr (Or.inl ⟨by decide, rfl, q2592⟩), List.forall_mem_cons.mpr ⟨Or.inr (Or.inl ⟨by decide, rfl, q2596⟩), List.forall_mem_cons.mpr ⟨Or.inr (Or.inl ⟨by decide, rfl, q2591⟩), List.forall_mem_cons.mpr ⟨Or.inr (Or.inl ⟨by decide, rfl, q2594⟩), fun _ h => absurd h List.not_mem_nil⟩⟩⟩⟩⟩⟩⟩⟩, List.forall_mem_cons.mpr ⟨⟨"[Ljava/lang/Object;", q972, List.forall_mem_cons.mpr ⟨Or.inr (Or.inr ⟨by decide, by decide, rfl⟩), List.forall_mem_cons.mpr ⟨Or.inr (Or.inr ⟨by decide, by decide, rfl⟩), List.forall_mem_cons.mpr ⟨Or.inr (Or.inr ⟨by decide, by decide, rfl⟩), fun _ h => absurd h List.not_mem_nil⟩⟩⟩⟩, fun _ h => absurd h List.not_mem_nil⟩⟩⟩⟩⟩⟩⟩⟩⟩⟩⟩⟩⟩⟩⟩⟩⟩⟩⟩
theorem xl_ok {o i : Nat} {v : List Nat} (h : xres o i = some v) : XLk o i v := tab_at (P := XLk) xl_all h
