set_option maxRecDepth 100000
theorem mc298 : mC 298 = cJ0_init := rfl
theorem mo298 : mO 298 = 40 := rfl
theorem mr298 : mR 298 = none := rfl
theorem mh298 : mH 298 = [] := rfl
theorem e_J0_init {d : Nat} {h : AH} {Q : Rs → AH → Prop} {a0 : Nat}  : Ca (d + 1) 298 [.ref a0] h Q = Ru d 298 0 [.ref a0] [] h Q := by rw [ca_ru (by decide) (Nat.le_of_ble_eq_true rfl)]; congr 1
theorem w_J0_init_0 {d : Nat} {h : AH} {Q : Rs → AH → Prop} {st : List Value} {a : Nat} : Ru d 298 0 [.ref a] st h Q = Ru d 298 1 [.ref a] (.ref a :: st) h Q := (r_aload_n mc298 rfl dJ0_init_0).trans (and_iff_right rfl |> propext)
theorem w_J0_init_1 {d : Nat} {h : AH} {Q : Rs → AH → Prop} {ls : List Value} {a : Nat} : Ru d 298 1 ls [.ref a] h Q = Ca d 903 [.ref a] h (Kn d 298 1 4 ls [] Q) := r_calI mc298 mo298 rfl rfl dJ0_init_1 rfl (Nat.le_of_ble_eq_true rfl)
theorem w_J0_init_4 {d : Nat} {h : AH} {Q : Rs → AH → Prop} {ls : List Value} : Ru d 298 4 ls [] h Q = Q (.inl none) h := r_vret mc298 mr298 dJ0_init_4
theorem mc299 : mC 299 = cJ1_init := rfl
theorem mo299 : mO 299 = 41 := rfl
theorem mr299 : mR 299 = none := rfl
theorem mh299 : mH 299 = [] := rfl
theorem e_J1_init {d : Nat} {h : AH} {Q : Rs → AH → Prop} {a0 : Nat}  : Ca (d + 1) 299 [.ref a0] h Q = Ru d 299 0 [.ref a0] [] h Q := by rw [ca_ru (by decide) (Nat.le_of_ble_eq_true rfl)]; congr 1
theorem w_J1_init_0 {d : Nat} {h : AH} {Q : Rs → AH → Prop} {st : List Value} {a : Nat} : Ru d 299 0 [.ref a] st h Q = Ru d 299 1 [.ref a] (.ref a :: st) h Q := (r_aload_n mc299 rfl dJ1_init_0).trans (and_iff_right rfl |> propext)
theorem w_J1_init_1 {d : Nat} {h : AH} {Q : Rs → AH → Prop} {ls : List Value} {a : Nat} : Ru d 299 1 ls [.ref a] h Q = Ca d 298 [.ref a] h (Kn d 299 1 4 ls [] Q) := r_calI mc299 mo299 rfl rfl dJ1_init_1 rfl (Nat.le_of_ble_eq_true rfl)
theorem w_J1_init_4 {d : Nat} {h : AH} {Q : Rs → AH → Prop} {st : List Value} {a : Nat} : Ru d 299 4 [.ref a] st h Q = Ru d 299 5 [.ref a] (.ref a :: st) h Q := (r_aload_n mc299 rfl dJ1_init_4).trans (and_iff_right rfl |> propext)
theorem w_J1_init_5 {d : Nat} {h : AH} {Q : Rs → AH → Prop} {ls st : List Value} : Ru d 299 5 ls st h Q = Ru d 299 6 ls (.int 0 :: st) h Q := r_iconst mc299 ic_0 dJ1_init_5
theorem w_J1_init_6 {d : Nat} {h : AH} {Q : Rs → AH → Prop} {ls st : List Value} {a : Nat} {x : Int32} : Ru d 299 6 ls (.int x :: .ref a :: st) h Q = (Tg h a = 42 ∧ Ru d 299 9 ls st (sFi h 179 a x) Q) := r_put1 (r_putI mc299 mo299 rfl rfl rfl rfl (by decide +kernel) (by decide +kernel) dJ1_init_6)
theorem w_J1_init_9 {d : Nat} {h : AH} {Q : Rs → AH → Prop} {ls : List Value} : Ru d 299 9 ls [] h Q = Q (.inl none) h := r_vret mc299 mr299 dJ1_init_9
theorem mc300 : mC 300 = cJ2_init := rfl
theorem mo300 : mO 300 = 42 := rfl
theorem mr300 : mR 300 = none := rfl
theorem mh300 : mH 300 = [] := rfl
theorem e_J2_init {d : Nat} {h : AH} {Q : Rs → AH → Prop} {a0 : Nat} {x0 : Int32}  : Ca (d + 1) 300 [.ref a0, .int x0] h Q = Ru d 300 0 [.ref a0, .int x0] [] h Q := by rw [ca_ru (by decide) (Nat.le_of_ble_eq_true rfl)]; congr 1
theorem w_J2_init_0 {d : Nat} {h : AH} {Q : Rs → AH → Prop} {st : List Value} {a : Nat} {l1 : Value} : Ru d 300 0 [.ref a, l1] st h Q = Ru d 300 1 [.ref a, l1] (.ref a :: st) h Q := (r_aload_n mc300 rfl dJ2_init_0).trans (and_iff_right rfl |> propext)
theorem w_J2_init_1 {d : Nat} {h : AH} {Q : Rs → AH → Prop} {ls : List Value} {a : Nat} : Ru d 300 1 ls [.ref a] h Q = Ca d 299 [.ref a] h (Kn d 300 1 4 ls [] Q) := r_calI mc300 mo300 rfl rfl dJ2_init_1 rfl (Nat.le_of_ble_eq_true rfl)
theorem w_J2_init_4 {d : Nat} {h : AH} {Q : Rs → AH → Prop} {st : List Value} {x : Int32} {l0 : Value} : Ru d 300 4 [l0, .int x] st h Q = Ru d 300 5 [l0, .int x] (.int x :: st) h Q := r_iload_n mc300 rfl dJ2_init_4
theorem w_J2_init_5 {d : Nat} {h : AH} {Q : Rs → AH → Prop} {ls st : List Value} {x : Int32} : Ru d 300 5 ls (.int x :: st) h Q = if 0 < x then Ru d 300 8 ls st h Q else Ru d 300 19 ls st h Q := r_if_le mc300 dJ2_init_5 rfl
theorem w_J2_init_8 {d : Nat} {h : AH} {Q : Rs → AH → Prop} {st : List Value} {a : Nat} {l1 : Value} : Ru d 300 8 [.ref a, l1] st h Q = Ru d 300 9 [.ref a, l1] (.ref a :: st) h Q := (r_aload_n mc300 rfl dJ2_init_8).trans (and_iff_right rfl |> propext)
theorem w_J2_init_9 {d : Nat} {h : AH} {Q : Rs → AH → Prop} {st : List Value} {x : Int32} {l0 : Value} : Ru d 300 9 [l0, .int x] st h Q = Ru d 300 10 [l0, .int x] (.int x :: st) h Q := r_iload_n mc300 rfl dJ2_init_9
theorem w_J2_init_10 {d : Nat} {h : AH} {Q : Rs → AH → Prop} {ls st : List Value} {x : Int32} : Ru d 300 10 ls (.int x :: st) h Q = ((¬ x < 0 ∧ Rm h x.toNatClampNeg) ∧ Ru d 300 13 ls (.ref (Nx h) :: st) (nCe h 5008 x.toNatClampNeg) Q) := r_newq mc300 mo300 rfl rfl rfl (by decide) dJ2_init_10
theorem w_J2_init_13 {d : Nat} {h : AH} {Q : Rs → AH → Prop} {ls st : List Value} {a : Nat} {u : Value} : Ru d 300 13 ls (u :: .ref a :: st) h Q = (Tg h a = 42 ∧ isR u = true ∧ Ru d 300 16 ls st (sFr h 180 a (rOf u)) Q) := r_put1 (r_putR mc300 mo300 rfl rfl rfl rfl (by decide +kernel) (by decide +kernel) dJ2_init_13)
theorem w_J2_init_16 {d : Nat} {h : AH} {Q : Rs → AH → Prop} {ls st : List Value} : Ru d 300 16 ls st h Q = Ru d 300 60 ls st h Q := r_goto mc300 dJ2_init_16 rfl
theorem w_J2_init_19 {d : Nat} {h : AH} {Q : Rs → AH → Prop} {st : List Value} {x : Int32} {l0 : Value} : Ru d 300 19 [l0, .int x] st h Q = Ru d 300 20 [l0, .int x] (.int x :: st) h Q := r_iload_n mc300 rfl dJ2_init_19
theorem w_J2_init_20 {d : Nat} {h : AH} {Q : Rs → AH → Prop} {ls st : List Value} {x : Int32} : Ru d 300 20 ls (.int x :: st) h Q = if x = 0 then Ru d 300 23 ls st h Q else Ru d 300 33 ls st h Q := r_if_ne mc300 dJ2_init_20 rfl
theorem w_J2_init_23 {d : Nat} {h : AH} {Q : Rs → AH → Prop} {st : List Value} {a : Nat} {l1 : Value} : Ru d 300 23 [.ref a, l1] st h Q = Ru d 300 24 [.ref a, l1] (.ref a :: st) h Q := (r_aload_n mc300 rfl dJ2_init_23).trans (and_iff_right rfl |> propext)
theorem w_J2_init_24 {d : Nat} {h : AH} {Q : Rs → AH → Prop} {ls st : List Value} : Ru d 300 24 ls st h Q = Ru d 300 27 ls (.ref (Ev h 50) :: st) h Q := r_getsR mc300 mo300 rfl (by decide) dJ2_init_24
theorem w_J2_init_27 {d : Nat} {h : AH} {Q : Rs → AH → Prop} {ls st : List Value} {a : Nat} {u : Value} : Ru d 300 27 ls (u :: .ref a :: st) h Q = (Tg h a = 42 ∧ isR u = true ∧ Ru d 300 30 ls st (sFr h 180 a (rOf u)) Q) := r_put1 (r_putR mc300 mo300 rfl rfl rfl rfl (by decide +kernel) (by decide +kernel) dJ2_init_27)
theorem w_J2_init_30 {d : Nat} {h : AH} {Q : Rs → AH → Prop} {ls st : List Value} : Ru d 300 30 ls st h Q = Ru d 300 60 ls st h Q := r_goto mc300 dJ2_init_30 rfl
theorem w_J2_init_36 {d : Nat} {h : AH} {Q : Rs → AH → Prop} {ls st : List Value} {u : Value} : Ru d 300 36 ls (u :: st) h Q = (nl u = true ∧ Ru d 300 37 ls (u :: u :: st) h Q) := r_dup mc300 dJ2_init_36
theorem w_J2_init_40 {d : Nat} {h : AH} {Q : Rs → AH → Prop} {ls st : List Value} {u : Value} : Ru d 300 40 ls (u :: st) h Q = (nl u = true ∧ Ru d 300 41 ls (u :: u :: st) h Q) := r_dup mc300 dJ2_init_40
theorem w_J2_init_60 {d : Nat} {h : AH} {Q : Rs → AH → Prop} {ls : List Value} : Ru d 300 60 ls [] h Q = Q (.inl none) h := r_vret mc300 mr300 dJ2_init_60
theorem mc301 : mC 301 = cJ2_size := rfl
theorem mo301 : mO 301 = 42 := rfl
theorem mr301 : mR 301 = (some .int) := rfl
theorem mh301 : mH 301 = [] := rfl
theorem e_J2_size {d : Nat} {h : AH} {Q : Rs → AH → Prop} {a0 : Nat}  : Ca (d + 1) 301 [.ref a0] h Q = Ru d 301 0 [.ref a0] [] h Q := by rw [ca_ru (by decide) (Nat.le_of_ble_eq_true rfl)]; congr 1
theorem w_J2_size_0 {d : Nat} {h : AH} {Q : Rs → AH → Prop} {st : List Value} {a : Nat} : Ru d 301 0 [.ref a] st h Q = Ru d 301 1 [.ref a] (.ref a :: st) h Q := (r_aload_n mc301 rfl dJ2_size_0).trans (and_iff_right rfl |> propext)
theorem w_J2_size_1 {d : Nat} {h : AH} {Q : Rs → AH → Prop} {ls st : List Value} {a : Nat} : Ru d 301 1 ls (.ref a :: st) h Q = (Tg h a = 42 ∧ Ru d 301 4 ls (.int (Fi h 181 a) :: st) h Q) := r_get1 (i := 0) (r_getI mc301 mo301 rfl rfl rfl rfl dJ2_size_1)
theorem w_J2_size_4 {d : Nat} {h : AH} {Q : Rs → AH → Prop} {ls : List Value} {x : Int32} : Ru d 301 4 ls [.int x] h Q = Q (.inl (some (.int x))) h := r_ireti mc301 mr301 dJ2_size_4
theorem mc302 : mC 302 = cJ2_get := rfl
theorem mo302 : mO 302 = 42 := rfl
theorem mr302 : mR 302 = (some (.object "java/lang/Object")) := rfl
theorem mh302 : mH 302 = [] := rfl
theorem e_J2_get {d : Nat} {h : AH} {Q : Rs → AH → Prop} {a0 : Nat} {x0 : Int32}  : Ca (d + 1) 302 [.ref a0, .int x0] h Q = Ru d 302 0 [.ref a0, .int x0] [] h Q := by rw [ca_ru (by decide) (Nat.le_of_ble_eq_true rfl)]; congr 1
theorem w_J2_get_0 {d : Nat} {h : AH} {Q : Rs → AH → Prop} {st : List Value} {x : Int32} {l0 : Value} : Ru d 302 0 [l0, .int x] st h Q = Ru d 302 1 [l0, .int x] (.int x :: st) h Q := r_iload_n mc302 rfl dJ2_get_0
theorem w_J2_get_1 {d : Nat} {h : AH} {Q : Rs → AH → Prop} {st : List Value} {a : Nat} {l1 : Value} : Ru d 302 1 [.ref a, l1] st h Q = Ru d 302 2 [.ref a, l1] (.ref a :: st) h Q := (r_aload_n mc302 rfl dJ2_get_1).trans (and_iff_right rfl |> propext)
theorem w_J2_get_2 {d : Nat} {h : AH} {Q : Rs → AH → Prop} {ls st : List Value} {a : Nat} : Ru d 302 2 ls (.ref a :: st) h Q = (Tg h a = 42 ∧ Ru d 302 5 ls (.int (Fi h 181 a) :: st) h Q) := r_get1 (i := 0) (r_getI mc302 mo302 rfl rfl rfl rfl dJ2_get_2)
theorem w_J2_get_5 {d : Nat} {h : AH} {Q : Rs → AH → Prop} {ls : List Value} {u0 u1 : Value} : Ru d 302 5 ls [u1, u0] h Q = Ca d 313 [u0, u1] h (Kn d 302 5 8 ls [] Q) := r_calS mc302 mo302 rfl rfl dJ2_get_5 rfl (Nat.le_of_ble_eq_true rfl)
theorem w_J2_get_8 {d : Nat} {h : AH} {Q : Rs → AH → Prop} {ls st : List Value} {u : Value} : Ru d 302 8 ls (u :: st) h Q = (nl u = true ∧ Ru d 302 9 ls st h Q) := r_pop mc302 dJ2_get_8
theorem w_J2_get_9 {d : Nat} {h : AH} {Q : Rs → AH → Prop} {st : List Value} {a : Nat} {l1 : Value} : Ru d 302 9 [.ref a, l1] st h Q = Ru d 302 10 [.ref a, l1] (.ref a :: st) h Q := (r_aload_n mc302 rfl dJ2_get_9).trans (and_iff_right rfl |> propext)
theorem w_J2_get_10 {d : Nat} {h : AH} {Q : Rs → AH → Prop} {st : List Value} {x : Int32} {l0 : Value} : Ru d 302 10 [l0, .int x] st h Q = Ru d 302 11 [l0, .int x] (.int x :: st) h Q := r_iload_n mc302 rfl dJ2_get_10
theorem w_J2_get_11 {d : Nat} {h : AH} {Q : Rs → AH → Prop} {ls : List Value} {u0 : Value} {a : Nat} : Ru d 302 11 ls [u0, .ref a] h Q = (Tg h a = 42 ∧ Ca d 303 [.ref a, u0] h (Kn d 302 11 14 ls [] Q)) := r_calV1 mc302 mo302 rfl rfl dJ2_get_11 rfl (Nat.le_of_ble_eq_true rfl)
theorem w_J2_get_14 {d : Nat} {h : AH} {Q : Rs → AH → Prop} {ls : List Value} {u : Value} : Ru d 302 14 ls [u] h Q = (isR u = true ∧ Q (.inl (some u)) h) := r_areto mc302 mr302 dJ2_get_14
theorem mc303 : mC 303 = cJ2_elementData := rfl
theorem mo303 : mO 303 = 42 := rfl
theorem mr303 : mR 303 = (some (.object "java/lang/Object")) := rfl
theorem mh303 : mH 303 = [] := rfl
theorem e_J2_elementData {d : Nat} {h : AH} {Q : Rs → AH → Prop} {a0 : Nat} {x0 : Int32}  : Ca (d + 1) 303 [.ref a0, .int x0] h Q = Ru d 303 0 [.ref a0, .int x0] [] h Q := by rw [ca_ru (by decide) (Nat.le_of_ble_eq_true rfl)]; congr 1
theorem w_J2_elementData_0 {d : Nat} {h : AH} {Q : Rs → AH → Prop} {st : List Value} {a : Nat} {l1 : Value} : Ru d 303 0 [.ref a, l1] st h Q = Ru d 303 1 [.ref a, l1] (.ref a :: st) h Q := (r_aload_n mc303 rfl dJ2_elementData_0).trans (and_iff_right rfl |> propext)
theorem w_J2_elementData_1 {d : Nat} {h : AH} {Q : Rs → AH → Prop} {ls st : List Value} {a : Nat} : Ru d 303 1 ls (.ref a :: st) h Q = (Tg h a = 42 ∧ Ru d 303 4 ls (va_rf (Fr h 180 a) :: st) h Q) := r_get1 (i := 0) (r_getR mc303 mo303 rfl rfl rfl rfl dJ2_elementData_1)
theorem w_J2_elementData_4 {d : Nat} {h : AH} {Q : Rs → AH → Prop} {st : List Value} {x : Int32} {l0 : Value} : Ru d 303 4 [l0, .int x] st h Q = Ru d 303 5 [l0, .int x] (.int x :: st) h Q := r_iload_n mc303 rfl dJ2_elementData_4
theorem w_J2_elementData_5 {d : Nat} {h : AH} {Q : Rs → AH → Prop} {ls st : List Value} {a : Nat} {x : Int32} : Ru d 303 5 ls (.int x :: .ref a :: st) h Q = ((tin h a 5000 6000 ∧ inA x (An h a)) ∧ Ru d 303 6 ls (va_rf (Ar h a x.toNatClampNeg) :: st) h Q) := r_aaload mc303 dJ2_elementData_5
theorem w_J2_elementData_6 {d : Nat} {h : AH} {Q : Rs → AH → Prop} {ls : List Value} {u : Value} : Ru d 303 6 ls [u] h Q = (isR u = true ∧ Q (.inl (some u)) h) := r_areto mc303 mr303 dJ2_elementData_6
theorem mc304 : mC 304 = cJ2_init_2 := rfl
theorem mo304 : mO 304 = 42 := rfl
theorem mr304 : mR 304 = none := rfl
theorem mh304 : mH 304 = [] := rfl
theorem e_J2_init_2 {d : Nat} {h : AH} {Q : Rs → AH → Prop} {a0 : Nat}  : Ca (d + 1) 304 [.ref a0] h Q = Ru d 304 0 [.ref a0] [] h Q := by rw [ca_ru (by decide) (Nat.le_of_ble_eq_true rfl)]; congr 1
theorem w_J2_init_2_0 {d : Nat} {h : AH} {Q : Rs → AH → Prop} {st : List Value} {a : Nat} : Ru d 304 0 [.ref a] st h Q = Ru d 304 1 [.ref a] (.ref a :: st) h Q := (r_aload_n mc304 rfl dJ2_init_2_0).trans (and_iff_right rfl |> propext)
theorem w_J2_init_2_1 {d : Nat} {h : AH} {Q : Rs → AH → Prop} {ls : List Value} {a : Nat} : Ru d 304 1 ls [.ref a] h Q = Ca d 299 [.ref a] h (Kn d 304 1 4 ls [] Q) := r_calI mc304 mo304 rfl rfl dJ2_init_2_1 rfl (Nat.le_of_ble_eq_true rfl)
theorem w_J2_init_2_4 {d : Nat} {h : AH} {Q : Rs → AH → Prop} {st : List Value} {a : Nat} : Ru d 304 4 [.ref a] st h Q = Ru d 304 5 [.ref a] (.ref a :: st) h Q := (r_aload_n mc304 rfl dJ2_init_2_4).trans (and_iff_right rfl |> propext)
theorem w_J2_init_2_5 {d : Nat} {h : AH} {Q : Rs → AH → Prop} {ls st : List Value} : Ru d 304 5 ls st h Q = Ru d 304 8 ls (.ref (Ev h 51) :: st) h Q := r_getsR mc304 mo304 rfl (by decide) dJ2_init_2_5
theorem w_J2_init_2_8 {d : Nat} {h : AH} {Q : Rs → AH → Prop} {ls st : List Value} {a : Nat} {u : Value} : Ru d 304 8 ls (u :: .ref a :: st) h Q = (Tg h a = 42 ∧ isR u = true ∧ Ru d 304 11 ls st (sFr h 180 a (rOf u)) Q) := r_put1 (r_putR mc304 mo304 rfl rfl rfl rfl (by decide +kernel) (by decide +kernel) dJ2_init_2_8)
theorem w_J2_init_2_11 {d : Nat} {h : AH} {Q : Rs → AH → Prop} {ls : List Value} : Ru d 304 11 ls [] h Q = Q (.inl none) h := r_vret mc304 mr304 dJ2_init_2_11
theorem mc305 : mC 305 = cJ2_add := rfl
theorem mo305 : mO 305 = 42 := rfl
theorem mr305 : mR 305 = (some .boolean) := rfl
theorem mh305 : mH 305 = [] := rfl
theorem e_J2_add {d : Nat} {h : AH} {Q : Rs → AH → Prop} {a0 : Nat} {v0 : Value} (h0 : nl v0 = true) : Ca (d + 1) 305 [.ref a0, v0] h Q = Ru d 305 0 [.ref a0, v0] [] h Q := by rw [ca_ru (by decide) (by rw [show (slA [.ref a0, v0]).length = 2 by simp [slA, nl_int, nl_ref, nl_long, h0]]; exact Nat.le_of_ble_eq_true rfl)]; congr 1; simp [ent, slA, h0]; rfl
theorem w_J2_add_0 {d : Nat} {h : AH} {Q : Rs → AH → Prop} {st : List Value} {a : Nat} {l1 : Value} : Ru d 305 0 [.ref a, l1] st h Q = Ru d 305 1 [.ref a, l1] (.ref a :: st) h Q := (r_aload_n mc305 rfl dJ2_add_0).trans (and_iff_right rfl |> propext)
theorem w_J2_add_1 {d : Nat} {h : AH} {Q : Rs → AH → Prop} {ls st : List Value} {u : Value} : Ru d 305 1 ls (u :: st) h Q = (nl u = true ∧ Ru d 305 2 ls (u :: u :: st) h Q) := r_dup mc305 dJ2_add_1
theorem w_J2_add_2 {d : Nat} {h : AH} {Q : Rs → AH → Prop} {ls st : List Value} {a : Nat} : Ru d 305 2 ls (.ref a :: st) h Q = (Tg h a = 42 ∧ Ru d 305 5 ls (.int (Fi h 179 a) :: st) h Q) := r_get1 (i := 0) (r_getI mc305 mo305 rfl rfl rfl rfl dJ2_add_2)
theorem w_J2_add_5 {d : Nat} {h : AH} {Q : Rs → AH → Prop} {ls st : List Value} : Ru d 305 5 ls st h Q = Ru d 305 6 ls (.int 1 :: st) h Q := r_iconst mc305 ic_1 dJ2_add_5
theorem w_J2_add_6 {d : Nat} {h : AH} {Q : Rs → AH → Prop} {ls st : List Value} {x y : Int32} : Ru d 305 6 ls (.int y :: .int x :: st) h Q = Ru d 305 7 ls (.int (x + y) :: st) h Q := r_iadd mc305 dJ2_add_6
theorem w_J2_add_7 {d : Nat} {h : AH} {Q : Rs → AH → Prop} {ls st : List Value} {a : Nat} {x : Int32} : Ru d 305 7 ls (.int x :: .ref a :: st) h Q = (Tg h a = 42 ∧ Ru d 305 10 ls st (sFi h 179 a x) Q) := r_put1 (r_putI mc305 mo305 rfl rfl rfl rfl (by decide +kernel) (by decide +kernel) dJ2_add_7)
theorem w_J2_add_10 {d : Nat} {h : AH} {Q : Rs → AH → Prop} {st : List Value} {a : Nat} {l1 : Value} : Ru d 305 10 [.ref a, l1] st h Q = Ru d 305 11 [.ref a, l1] (.ref a :: st) h Q := (r_aload_n mc305 rfl dJ2_add_10).trans (and_iff_right rfl |> propext)
theorem w_J2_add_11 {d : Nat} {h : AH} {Q : Rs → AH → Prop} {st : List Value} {l0 l1 : Value} : Ru d 305 11 [l0, l1] st h Q = (isR l1 = true ∧ Ru d 305 12 [l0, l1] (l1 :: st) h Q) := r_aload_n mc305 rfl dJ2_add_11
theorem w_J2_add_12 {d : Nat} {h : AH} {Q : Rs → AH → Prop} {st : List Value} {a : Nat} {l1 : Value} : Ru d 305 12 [.ref a, l1] st h Q = Ru d 305 13 [.ref a, l1] (.ref a :: st) h Q := (r_aload_n mc305 rfl dJ2_add_12).trans (and_iff_right rfl |> propext)
theorem w_J2_add_13 {d : Nat} {h : AH} {Q : Rs → AH → Prop} {ls st : List Value} {a : Nat} : Ru d 305 13 ls (.ref a :: st) h Q = (Tg h a = 42 ∧ Ru d 305 16 ls (va_rf (Fr h 180 a) :: st) h Q) := r_get1 (i := 0) (r_getR mc305 mo305 rfl rfl rfl rfl dJ2_add_13)
theorem w_J2_add_16 {d : Nat} {h : AH} {Q : Rs → AH → Prop} {st : List Value} {a : Nat} {l1 : Value} : Ru d 305 16 [.ref a, l1] st h Q = Ru d 305 17 [.ref a, l1] (.ref a :: st) h Q := (r_aload_n mc305 rfl dJ2_add_16).trans (and_iff_right rfl |> propext)
theorem w_J2_add_17 {d : Nat} {h : AH} {Q : Rs → AH → Prop} {ls st : List Value} {a : Nat} : Ru d 305 17 ls (.ref a :: st) h Q = (Tg h a = 42 ∧ Ru d 305 20 ls (.int (Fi h 181 a) :: st) h Q) := r_get1 (i := 0) (r_getI mc305 mo305 rfl rfl rfl rfl dJ2_add_17)
theorem w_J2_add_20 {d : Nat} {h : AH} {Q : Rs → AH → Prop} {ls : List Value} {u0 u1 u2 : Value} {a : Nat} : Ru d 305 20 ls [u2, u1, u0, .ref a] h Q = (Tg h a = 42 ∧ Ca d 306 [.ref a, u0, u1, u2] h (Kn d 305 20 23 ls [] Q)) := r_calV1 mc305 mo305 rfl rfl dJ2_add_20 rfl (Nat.le_of_ble_eq_true rfl)
theorem w_J2_add_23 {d : Nat} {h : AH} {Q : Rs → AH → Prop} {ls st : List Value} : Ru d 305 23 ls st h Q = Ru d 305 24 ls (.int 1 :: st) h Q := r_iconst mc305 ic_1 dJ2_add_23
theorem w_J2_add_24 {d : Nat} {h : AH} {Q : Rs → AH → Prop} {ls : List Value} {x : Int32} : Ru d 305 24 ls [.int x] h Q = ((x = 0 ∨ x = 1) ∧ Q (.inl (some (.int x))) h) := r_iretz mc305 mr305 dJ2_add_24
theorem mc306 : mC 306 = cJ2_add_2 := rfl
theorem mo306 : mO 306 = 42 := rfl
theorem mr306 : mR 306 = none := rfl
theorem mh306 : mH 306 = [] := rfl
theorem e_J2_add_2 {d : Nat} {h : AH} {Q : Rs → AH → Prop} {a0 : Nat} {v0 : Value} {v1 : Value} {x2 : Int32} (h0 : nl v0 = true) (h1 : nl v1 = true) : Ca (d + 1) 306 [.ref a0, v0, v1, .int x2] h Q = Ru d 306 0 [.ref a0, v0, v1, .int x2] [] h Q := by rw [ca_ru (by decide) (by rw [show (slA [.ref a0, v0, v1, .int x2]).length = 4 by simp [slA, nl_int, nl_ref, nl_long, h0, h1]]; exact Nat.le_of_ble_eq_true rfl)]; congr 1; simp [ent, slA, h0, h1]; rfl
theorem w_J2_add_2_0 {d : Nat} {h : AH} {Q : Rs → AH → Prop} {st : List Value} {x : Int32} {l0 l1 l2 : Value} : Ru d 306 0 [l0, l1, l2, .int x] st h Q = Ru d 306 1 [l0, l1, l2, .int x] (.int x :: st) h Q := r_iload_n mc306 rfl dJ2_add_2_0
theorem w_J2_add_2_1 {d : Nat} {h : AH} {Q : Rs → AH → Prop} {st : List Value} {l0 l1 l2 l3 : Value} : Ru d 306 1 [l0, l1, l2, l3] st h Q = (isR l2 = true ∧ Ru d 306 2 [l0, l1, l2, l3] (l2 :: st) h Q) := r_aload_n mc306 rfl dJ2_add_2_1
theorem w_J2_add_2_2 {d : Nat} {h : AH} {Q : Rs → AH → Prop} {ls st : List Value} {a : Nat} : Ru d 306 2 ls (.ref a :: st) h Q = (tin h a 1000 6000 ∧ Ru d 306 3 ls (.int (Int32.ofNat (An h a)) :: st) h Q) := r_alen mc306 dJ2_add_2_2
theorem w_J2_add_2_3 {d : Nat} {h : AH} {Q : Rs → AH → Prop} {ls st : List Value} {x y : Int32} : Ru d 306 3 ls (.int y :: .int x :: st) h Q = if x = y then Ru d 306 6 ls st h Q else Ru d 306 11 ls st h Q := r_icmp_ne mc306 dJ2_add_2_3 rfl
theorem w_J2_add_2_6 {d : Nat} {h : AH} {Q : Rs → AH → Prop} {st : List Value} {a : Nat} {l1 l2 l3 : Value} : Ru d 306 6 [.ref a, l1, l2, l3] st h Q = Ru d 306 7 [.ref a, l1, l2, l3] (.ref a :: st) h Q := (r_aload_n mc306 rfl dJ2_add_2_6).trans (and_iff_right rfl |> propext)
theorem w_J2_add_2_7 {d : Nat} {h : AH} {Q : Rs → AH → Prop} {ls : List Value} {a : Nat} : Ru d 306 7 ls [.ref a] h Q = (Tg h a = 42 ∧ Ca d 307 [.ref a] h (Kn d 306 7 10 ls [] Q)) := r_calV1 mc306 mo306 rfl rfl dJ2_add_2_7 rfl (Nat.le_of_ble_eq_true rfl)
theorem w_J2_add_2_10 {d : Nat} {h : AH} {Q : Rs → AH → Prop} {st : List Value} {u : Value} {l0 l1 l2 l3 : Value} : Ru d 306 10 [l0, l1, l2, l3] (u :: st) h Q = (isR u = true ∧ nl l1 = true ∧ Ru d 306 11 [l0, l1, u, l3] st h Q) := r_astore_n mc306 (Nat.le_of_ble_eq_true rfl) rfl rfl dJ2_add_2_10
theorem w_J2_add_2_11 {d : Nat} {h : AH} {Q : Rs → AH → Prop} {st : List Value} {l0 l1 l2 l3 : Value} : Ru d 306 11 [l0, l1, l2, l3] st h Q = (isR l2 = true ∧ Ru d 306 12 [l0, l1, l2, l3] (l2 :: st) h Q) := r_aload_n mc306 rfl dJ2_add_2_11
theorem w_J2_add_2_12 {d : Nat} {h : AH} {Q : Rs → AH → Prop} {st : List Value} {x : Int32} {l0 l1 l2 : Value} : Ru d 306 12 [l0, l1, l2, .int x] st h Q = Ru d 306 13 [l0, l1, l2, .int x] (.int x :: st) h Q := r_iload_n mc306 rfl dJ2_add_2_12
theorem w_J2_add_2_13 {d : Nat} {h : AH} {Q : Rs → AH → Prop} {st : List Value} {l0 l1 l2 l3 : Value} : Ru d 306 13 [l0, l1, l2, l3] st h Q = (isR l1 = true ∧ Ru d 306 14 [l0, l1, l2, l3] (l1 :: st) h Q) := r_aload_n mc306 rfl dJ2_add_2_13
theorem w_J2_add_2_14 {d : Nat} {h : AH} {Q : Rs → AH → Prop} {ls st : List Value} {a e : Nat} {x : Int32} {u : Value} (he : elc (Tg h a) = some e) : Ru d 306 14 ls (u :: .int x :: .ref a :: st) h Q = (((tin h a 5000 5900 ∧ inA x (An h a)) ∧ (u = .null ∨ (isR u = true ∧ aAsB e (Tg h ((rOf u).getD 0)) = true))) ∧ Ru d 306 15 ls st (sAr h a (va_up (Ar h a) x.toNatClampNeg (rOf u))) Q) := r_aastore mc306 he dJ2_add_2_14
theorem w_J2_add_2_15 {d : Nat} {h : AH} {Q : Rs → AH → Prop} {st : List Value} {a : Nat} {l1 l2 l3 : Value} : Ru d 306 15 [.ref a, l1, l2, l3] st h Q = Ru d 306 16 [.ref a, l1, l2, l3] (.ref a :: st) h Q := (r_aload_n mc306 rfl dJ2_add_2_15).trans (and_iff_right rfl |> propext)
theorem w_J2_add_2_16 {d : Nat} {h : AH} {Q : Rs → AH → Prop} {st : List Value} {x : Int32} {l0 l1 l2 : Value} : Ru d 306 16 [l0, l1, l2, .int x] st h Q = Ru d 306 17 [l0, l1, l2, .int x] (.int x :: st) h Q := r_iload_n mc306 rfl dJ2_add_2_16
theorem w_J2_add_2_17 {d : Nat} {h : AH} {Q : Rs → AH → Prop} {ls st : List Value} : Ru d 306 17 ls st h Q = Ru d 306 18 ls (.int 1 :: st) h Q := r_iconst mc306 ic_1 dJ2_add_2_17
theorem w_J2_add_2_18 {d : Nat} {h : AH} {Q : Rs → AH → Prop} {ls st : List Value} {x y : Int32} : Ru d 306 18 ls (.int y :: .int x :: st) h Q = Ru d 306 19 ls (.int (x + y) :: st) h Q := r_iadd mc306 dJ2_add_2_18
theorem w_J2_add_2_19 {d : Nat} {h : AH} {Q : Rs → AH → Prop} {ls st : List Value} {a : Nat} {x : Int32} : Ru d 306 19 ls (.int x :: .ref a :: st) h Q = (Tg h a = 42 ∧ Ru d 306 22 ls st (sFi h 181 a x) Q) := r_put1 (r_putI mc306 mo306 rfl rfl rfl rfl (by decide +kernel) (by decide +kernel) dJ2_add_2_19)
theorem w_J2_add_2_22 {d : Nat} {h : AH} {Q : Rs → AH → Prop} {ls : List Value} : Ru d 306 22 ls [] h Q = Q (.inl none) h := r_vret mc306 mr306 dJ2_add_2_22
theorem mc307 : mC 307 = cJ2_grow := rfl
theorem mo307 : mO 307 = 42 := rfl
theorem mr307 : mR 307 = (some (.array (.object "java/lang/Object"))) := rfl
theorem mh307 : mH 307 = [] := rfl
theorem e_J2_grow {d : Nat} {h : AH} {Q : Rs → AH → Prop} {a0 : Nat}  : Ca (d + 1) 307 [.ref a0] h Q = Ru d 307 0 [.ref a0] [] h Q := by rw [ca_ru (by decide) (Nat.le_of_ble_eq_true rfl)]; congr 1
theorem w_J2_grow_0 {d : Nat} {h : AH} {Q : Rs → AH → Prop} {st : List Value} {a : Nat} : Ru d 307 0 [.ref a] st h Q = Ru d 307 1 [.ref a] (.ref a :: st) h Q := (r_aload_n mc307 rfl dJ2_grow_0).trans (and_iff_right rfl |> propext)
theorem w_J2_grow_1 {d : Nat} {h : AH} {Q : Rs → AH → Prop} {st : List Value} {a : Nat} : Ru d 307 1 [.ref a] st h Q = Ru d 307 2 [.ref a] (.ref a :: st) h Q := (r_aload_n mc307 rfl dJ2_grow_1).trans (and_iff_right rfl |> propext)
theorem w_J2_grow_2 {d : Nat} {h : AH} {Q : Rs → AH → Prop} {ls st : List Value} {a : Nat} : Ru d 307 2 ls (.ref a :: st) h Q = (Tg h a = 42 ∧ Ru d 307 5 ls (.int (Fi h 181 a) :: st) h Q) := r_get1 (i := 0) (r_getI mc307 mo307 rfl rfl rfl rfl dJ2_grow_2)
theorem w_J2_grow_5 {d : Nat} {h : AH} {Q : Rs → AH → Prop} {ls st : List Value} : Ru d 307 5 ls st h Q = Ru d 307 6 ls (.int 1 :: st) h Q := r_iconst mc307 ic_1 dJ2_grow_5
theorem w_J2_grow_6 {d : Nat} {h : AH} {Q : Rs → AH → Prop} {ls st : List Value} {x y : Int32} : Ru d 307 6 ls (.int y :: .int x :: st) h Q = Ru d 307 7 ls (.int (x + y) :: st) h Q := r_iadd mc307 dJ2_grow_6
theorem w_J2_grow_7 {d : Nat} {h : AH} {Q : Rs → AH → Prop} {ls : List Value} {u0 : Value} {a : Nat} : Ru d 307 7 ls [u0, .ref a] h Q = (Tg h a = 42 ∧ Ca d 308 [.ref a, u0] h (Kn d 307 7 10 ls [] Q)) := r_calV1 mc307 mo307 rfl rfl dJ2_grow_7 rfl (Nat.le_of_ble_eq_true rfl)
theorem w_J2_grow_10 {d : Nat} {h : AH} {Q : Rs → AH → Prop} {ls : List Value} {u : Value} : Ru d 307 10 ls [u] h Q = (isR u = true ∧ Q (.inl (some u)) h) := r_areta mc307 mr307 dJ2_grow_10
theorem mc308 : mC 308 = cJ2_grow_2 := rfl
theorem mo308 : mO 308 = 42 := rfl
theorem mr308 : mR 308 = (some (.array (.object "java/lang/Object"))) := rfl
theorem mh308 : mH 308 = [] := rfl
theorem e_J2_grow_2 {d : Nat} {h : AH} {Q : Rs → AH → Prop} {a0 : Nat} {x0 : Int32}  : Ca (d + 1) 308 [.ref a0, .int x0] h Q = Ru d 308 0 [.ref a0, .int x0, un, un] [] h Q := by rw [ca_ru (by decide) (Nat.le_of_ble_eq_true rfl)]; congr 1
theorem w_J2_grow_2_0 {d : Nat} {h : AH} {Q : Rs → AH → Prop} {st : List Value} {a : Nat} {l1 l2 l3 : Value} : Ru d 308 0 [.ref a, l1, l2, l3] st h Q = Ru d 308 1 [.ref a, l1, l2, l3] (.ref a :: st) h Q := (r_aload_n mc308 rfl dJ2_grow_2_0).trans (and_iff_right rfl |> propext)
theorem w_J2_grow_2_1 {d : Nat} {h : AH} {Q : Rs → AH → Prop} {ls st : List Value} {a : Nat} : Ru d 308 1 ls (.ref a :: st) h Q = (Tg h a = 42 ∧ Ru d 308 4 ls (va_rf (Fr h 180 a) :: st) h Q) := r_get1 (i := 0) (r_getR mc308 mo308 rfl rfl rfl rfl dJ2_grow_2_1)
theorem w_J2_grow_2_4 {d : Nat} {h : AH} {Q : Rs → AH → Prop} {ls st : List Value} {a : Nat} : Ru d 308 4 ls (.ref a :: st) h Q = (tin h a 1000 6000 ∧ Ru d 308 5 ls (.int (Int32.ofNat (An h a)) :: st) h Q) := r_alen mc308 dJ2_grow_2_4
theorem w_J2_grow_2_5 {d : Nat} {h : AH} {Q : Rs → AH → Prop} {st : List Value} {x : Int32} {l0 l1 l2 l3 : Value} : Ru d 308 5 [l0, l1, l2, l3] (.int x :: st) h Q = (nl l1 = true ∧ Ru d 308 6 [l0, l1, .int x, l3] st h Q) := r_istore_n mc308 (Nat.le_of_ble_eq_true rfl) rfl rfl dJ2_grow_2_5
theorem w_J2_grow_2_6 {d : Nat} {h : AH} {Q : Rs → AH → Prop} {st : List Value} {x : Int32} {l0 l1 l3 : Value} : Ru d 308 6 [l0, l1, .int x, l3] st h Q = Ru d 308 7 [l0, l1, .int x, l3] (.int x :: st) h Q := r_iload_n mc308 rfl dJ2_grow_2_6
theorem w_J2_grow_2_7 {d : Nat} {h : AH} {Q : Rs → AH → Prop} {ls st : List Value} {x : Int32} : Ru d 308 7 ls (.int x :: st) h Q = if 0 < x then Ru d 308 20 ls st h Q else Ru d 308 10 ls st h Q := r_if_gt mc308 dJ2_grow_2_7 rfl
theorem w_J2_grow_2_10 {d : Nat} {h : AH} {Q : Rs → AH → Prop} {st : List Value} {a : Nat} {l1 l2 l3 : Value} : Ru d 308 10 [.ref a, l1, l2, l3] st h Q = Ru d 308 11 [.ref a, l1, l2, l3] (.ref a :: st) h Q := (r_aload_n mc308 rfl dJ2_grow_2_10).trans (and_iff_right rfl |> propext)
theorem w_J2_grow_2_11 {d : Nat} {h : AH} {Q : Rs → AH → Prop} {ls st : List Value} {a : Nat} : Ru d 308 11 ls (.ref a :: st) h Q = (Tg h a = 42 ∧ Ru d 308 14 ls (va_rf (Fr h 180 a) :: st) h Q) := r_get1 (i := 0) (r_getR mc308 mo308 rfl rfl rfl rfl dJ2_grow_2_11)
theorem w_J2_grow_2_14 {d : Nat} {h : AH} {Q : Rs → AH → Prop} {ls st : List Value} : Ru d 308 14 ls st h Q = Ru d 308 17 ls (.ref (Ev h 51) :: st) h Q := r_getsR mc308 mo308 rfl (by decide) dJ2_grow_2_14
theorem w_J2_grow_2_17 {d : Nat} {h : AH} {Q : Rs → AH → Prop} {ls st : List Value} {u w : Value} : Ru d 308 17 ls (w :: u :: st) h Q = ((isR u = true ∧ isR w = true) ∧ if u = w then Ru d 308 45 ls st h Q else Ru d 308 20 ls st h Q) := r_acmp_eq mc308 dJ2_grow_2_17 rfl
theorem w_J2_grow_2_20 {d : Nat} {h : AH} {Q : Rs → AH → Prop} {st : List Value} {x : Int32} {l0 l1 l3 : Value} : Ru d 308 20 [l0, l1, .int x, l3] st h Q = Ru d 308 21 [l0, l1, .int x, l3] (.int x :: st) h Q := r_iload_n mc308 rfl dJ2_grow_2_20
theorem w_J2_grow_2_21 {d : Nat} {h : AH} {Q : Rs → AH → Prop} {st : List Value} {x : Int32} {l0 l2 l3 : Value} : Ru d 308 21 [l0, .int x, l2, l3] st h Q = Ru d 308 22 [l0, .int x, l2, l3] (.int x :: st) h Q := r_iload_n mc308 rfl dJ2_grow_2_21
theorem w_J2_grow_2_22 {d : Nat} {h : AH} {Q : Rs → AH → Prop} {st : List Value} {x : Int32} {l0 l1 l3 : Value} : Ru d 308 22 [l0, l1, .int x, l3] st h Q = Ru d 308 23 [l0, l1, .int x, l3] (.int x :: st) h Q := r_iload_n mc308 rfl dJ2_grow_2_22
theorem w_J2_grow_2_23 {d : Nat} {h : AH} {Q : Rs → AH → Prop} {ls st : List Value} {x y : Int32} : Ru d 308 23 ls (.int y :: .int x :: st) h Q = Ru d 308 24 ls (.int (x - y) :: st) h Q := r_isub mc308 dJ2_grow_2_23
theorem w_J2_grow_2_24 {d : Nat} {h : AH} {Q : Rs → AH → Prop} {st : List Value} {x : Int32} {l0 l1 l3 : Value} : Ru d 308 24 [l0, l1, .int x, l3] st h Q = Ru d 308 25 [l0, l1, .int x, l3] (.int x :: st) h Q := r_iload_n mc308 rfl dJ2_grow_2_24
theorem w_J2_grow_2_25 {d : Nat} {h : AH} {Q : Rs → AH → Prop} {ls st : List Value} : Ru d 308 25 ls st h Q = Ru d 308 26 ls (.int 1 :: st) h Q := r_iconst mc308 ic_1 dJ2_grow_2_25
theorem w_J2_grow_2_26 {d : Nat} {h : AH} {Q : Rs → AH → Prop} {ls st : List Value} {x y : Int32} : Ru d 308 26 ls (.int y :: .int x :: st) h Q = Ru d 308 27 ls (.int (x >>> (y &&& 31)) :: st) h Q := r_ishr mc308 dJ2_grow_2_26
theorem w_J2_grow_2_27 {d : Nat} {h : AH} {Q : Rs → AH → Prop} {ls : List Value} {u0 u1 u2 : Value} : Ru d 308 27 ls [u2, u1, u0] h Q = Ca d 332 [u0, u1, u2] h (Kn d 308 27 30 ls [] Q) := r_calS mc308 mo308 rfl rfl dJ2_grow_2_27 rfl (Nat.le_of_ble_eq_true rfl)
theorem w_J2_grow_2_30 {d : Nat} {h : AH} {Q : Rs → AH → Prop} {st : List Value} {x : Int32} {l0 l1 l2 l3 : Value} : Ru d 308 30 [l0, l1, l2, l3] (.int x :: st) h Q = (nl l2 = true ∧ Ru d 308 31 [l0, l1, l2, .int x] st h Q) := r_istore_n mc308 (Nat.le_of_ble_eq_true rfl) rfl rfl dJ2_grow_2_30
theorem w_J2_grow_2_31 {d : Nat} {h : AH} {Q : Rs → AH → Prop} {st : List Value} {a : Nat} {l1 l2 l3 : Value} : Ru d 308 31 [.ref a, l1, l2, l3] st h Q = Ru d 308 32 [.ref a, l1, l2, l3] (.ref a :: st) h Q := (r_aload_n mc308 rfl dJ2_grow_2_31).trans (and_iff_right rfl |> propext)
theorem w_J2_grow_2_32 {d : Nat} {h : AH} {Q : Rs → AH → Prop} {st : List Value} {a : Nat} {l1 l2 l3 : Value} : Ru d 308 32 [.ref a, l1, l2, l3] st h Q = Ru d 308 33 [.ref a, l1, l2, l3] (.ref a :: st) h Q := (r_aload_n mc308 rfl dJ2_grow_2_32).trans (and_iff_right rfl |> propext)
theorem w_J2_grow_2_33 {d : Nat} {h : AH} {Q : Rs → AH → Prop} {ls st : List Value} {a : Nat} : Ru d 308 33 ls (.ref a :: st) h Q = (Tg h a = 42 ∧ Ru d 308 36 ls (va_rf (Fr h 180 a) :: st) h Q) := r_get1 (i := 0) (r_getR mc308 mo308 rfl rfl rfl rfl dJ2_grow_2_33)
theorem w_J2_grow_2_36 {d : Nat} {h : AH} {Q : Rs → AH → Prop} {st : List Value} {x : Int32} {l0 l1 l2 : Value} : Ru d 308 36 [l0, l1, l2, .int x] st h Q = Ru d 308 37 [l0, l1, l2, .int x] (.int x :: st) h Q := r_iload_n mc308 rfl dJ2_grow_2_36
theorem w_J2_grow_2_37 {d : Nat} {h : AH} {Q : Rs → AH → Prop} {ls : List Value} {s0 u0 u1 : Value} : Ru d 308 37 ls [u1, u0, s0] h Q = Ca d 334 [u0, u1] h (Kn d 308 37 40 ls [s0] Q) := r_calS mc308 mo308 rfl rfl dJ2_grow_2_37 rfl (Nat.le_of_ble_eq_true rfl)
theorem w_J2_grow_2_40 {d : Nat} {h : AH} {Q : Rs → AH → Prop} {ls st : List Value} {u w : Value} : Ru d 308 40 ls (u :: w :: st) h Q = ((nl u = true ∧ nl w = true) ∧ Ru d 308 41 ls (u :: w :: u :: st) h Q) := r_dup_x1 mc308 dJ2_grow_2_40
theorem w_J2_grow_2_41 {d : Nat} {h : AH} {Q : Rs → AH → Prop} {ls st : List Value} {a : Nat} {u : Value} : Ru d 308 41 ls (u :: .ref a :: st) h Q = (Tg h a = 42 ∧ isR u = true ∧ Ru d 308 44 ls st (sFr h 180 a (rOf u)) Q) := r_put1 (r_putR mc308 mo308 rfl rfl rfl rfl (by decide +kernel) (by decide +kernel) dJ2_grow_2_41)
theorem w_J2_grow_2_44 {d : Nat} {h : AH} {Q : Rs → AH → Prop} {ls : List Value} {u : Value} : Ru d 308 44 ls [u] h Q = (isR u = true ∧ Q (.inl (some u)) h) := r_areta mc308 mr308 dJ2_grow_2_44
theorem w_J2_grow_2_45 {d : Nat} {h : AH} {Q : Rs → AH → Prop} {st : List Value} {a : Nat} {l1 l2 l3 : Value} : Ru d 308 45 [.ref a, l1, l2, l3] st h Q = Ru d 308 46 [.ref a, l1, l2, l3] (.ref a :: st) h Q := (r_aload_n mc308 rfl dJ2_grow_2_45).trans (and_iff_right rfl |> propext)
theorem w_J2_grow_2_46 {d : Nat} {h : AH} {Q : Rs → AH → Prop} {ls st : List Value} : Ru d 308 46 ls st h Q = Ru d 308 48 ls (.int 10 :: st) h Q := r_bipush mc308 bc_10 dJ2_grow_2_46
theorem w_J2_grow_2_48 {d : Nat} {h : AH} {Q : Rs → AH → Prop} {st : List Value} {x : Int32} {l0 l2 l3 : Value} : Ru d 308 48 [l0, .int x, l2, l3] st h Q = Ru d 308 49 [l0, .int x, l2, l3] (.int x :: st) h Q := r_iload_n mc308 rfl dJ2_grow_2_48
theorem w_J2_grow_2_49 {d : Nat} {h : AH} {Q : Rs → AH → Prop} {ls : List Value} {s0 u0 u1 : Value} : Ru d 308 49 ls [u1, u0, s0] h Q = Ca d 328 [u0, u1] h (Kn d 308 49 52 ls [s0] Q) := r_calS mc308 mo308 rfl rfl dJ2_grow_2_49 rfl (Nat.le_of_ble_eq_true rfl)
theorem w_J2_grow_2_52 {d : Nat} {h : AH} {Q : Rs → AH → Prop} {ls st : List Value} {x : Int32} : Ru d 308 52 ls (.int x :: st) h Q = ((¬ x < 0 ∧ Rm h x.toNatClampNeg) ∧ Ru d 308 55 ls (.ref (Nx h) :: st) (nCe h 5009 x.toNatClampNeg) Q) := r_newq mc308 mo308 rfl rfl rfl (by decide) dJ2_grow_2_52
theorem w_J2_grow_2_55 {d : Nat} {h : AH} {Q : Rs → AH → Prop} {ls st : List Value} {u w : Value} : Ru d 308 55 ls (u :: w :: st) h Q = ((nl u = true ∧ nl w = true) ∧ Ru d 308 56 ls (u :: w :: u :: st) h Q) := r_dup_x1 mc308 dJ2_grow_2_55
theorem w_J2_grow_2_56 {d : Nat} {h : AH} {Q : Rs → AH → Prop} {ls st : List Value} {a : Nat} {u : Value} : Ru d 308 56 ls (u :: .ref a :: st) h Q = (Tg h a = 42 ∧ isR u = true ∧ Ru d 308 59 ls st (sFr h 180 a (rOf u)) Q) := r_put1 (r_putR mc308 mo308 rfl rfl rfl rfl (by decide +kernel) (by decide +kernel) dJ2_grow_2_56)
theorem w_J2_grow_2_59 {d : Nat} {h : AH} {Q : Rs → AH → Prop} {ls : List Value} {u : Value} : Ru d 308 59 ls [u] h Q = (isR u = true ∧ Q (.inl (some u)) h) := r_areta mc308 mr308 dJ2_grow_2_59
theorem mc309 : mC 309 = cJ2_clear := rfl
theorem mo309 : mO 309 = 42 := rfl
theorem mr309 : mR 309 = none := rfl
theorem mh309 : mH 309 = [] := rfl
theorem e_J2_clear {d : Nat} {h : AH} {Q : Rs → AH → Prop} {a0 : Nat}  : Ca (d + 1) 309 [.ref a0] h Q = Ru d 309 0 [.ref a0, un, un, un] [] h Q := by rw [ca_ru (by decide) (Nat.le_of_ble_eq_true rfl)]; congr 1
theorem w_J2_clear_0 {d : Nat} {h : AH} {Q : Rs → AH → Prop} {st : List Value} {a : Nat} {l1 l2 l3 : Value} : Ru d 309 0 [.ref a, l1, l2, l3] st h Q = Ru d 309 1 [.ref a, l1, l2, l3] (.ref a :: st) h Q := (r_aload_n mc309 rfl dJ2_clear_0).trans (and_iff_right rfl |> propext)
theorem w_J2_clear_1 {d : Nat} {h : AH} {Q : Rs → AH → Prop} {ls st : List Value} {u : Value} : Ru d 309 1 ls (u :: st) h Q = (nl u = true ∧ Ru d 309 2 ls (u :: u :: st) h Q) := r_dup mc309 dJ2_clear_1
theorem w_J2_clear_2 {d : Nat} {h : AH} {Q : Rs → AH → Prop} {ls st : List Value} {a : Nat} : Ru d 309 2 ls (.ref a :: st) h Q = (Tg h a = 42 ∧ Ru d 309 5 ls (.int (Fi h 179 a) :: st) h Q) := r_get1 (i := 0) (r_getI mc309 mo309 rfl rfl rfl rfl dJ2_clear_2)
theorem w_J2_clear_5 {d : Nat} {h : AH} {Q : Rs → AH → Prop} {ls st : List Value} : Ru d 309 5 ls st h Q = Ru d 309 6 ls (.int 1 :: st) h Q := r_iconst mc309 ic_1 dJ2_clear_5
theorem w_J2_clear_6 {d : Nat} {h : AH} {Q : Rs → AH → Prop} {ls st : List Value} {x y : Int32} : Ru d 309 6 ls (.int y :: .int x :: st) h Q = Ru d 309 7 ls (.int (x + y) :: st) h Q := r_iadd mc309 dJ2_clear_6
theorem w_J2_clear_7 {d : Nat} {h : AH} {Q : Rs → AH → Prop} {ls st : List Value} {a : Nat} {x : Int32} : Ru d 309 7 ls (.int x :: .ref a :: st) h Q = (Tg h a = 42 ∧ Ru d 309 10 ls st (sFi h 179 a x) Q) := r_put1 (r_putI mc309 mo309 rfl rfl rfl rfl (by decide +kernel) (by decide +kernel) dJ2_clear_7)
theorem w_J2_clear_10 {d : Nat} {h : AH} {Q : Rs → AH → Prop} {st : List Value} {a : Nat} {l1 l2 l3 : Value} : Ru d 309 10 [.ref a, l1, l2, l3] st h Q = Ru d 309 11 [.ref a, l1, l2, l3] (.ref a :: st) h Q := (r_aload_n mc309 rfl dJ2_clear_10).trans (and_iff_right rfl |> propext)
theorem w_J2_clear_11 {d : Nat} {h : AH} {Q : Rs → AH → Prop} {ls st : List Value} {a : Nat} : Ru d 309 11 ls (.ref a :: st) h Q = (Tg h a = 42 ∧ Ru d 309 14 ls (va_rf (Fr h 180 a) :: st) h Q) := r_get1 (i := 0) (r_getR mc309 mo309 rfl rfl rfl rfl dJ2_clear_11)
theorem w_J2_clear_14 {d : Nat} {h : AH} {Q : Rs → AH → Prop} {st : List Value} {u : Value} {l0 l1 l2 l3 : Value} : Ru d 309 14 [l0, l1, l2, l3] (u :: st) h Q = (isR u = true ∧ nl l0 = true ∧ Ru d 309 15 [l0, u, l2, l3] st h Q) := r_astore_n mc309 (Nat.le_of_ble_eq_true rfl) rfl rfl dJ2_clear_14
theorem w_J2_clear_15 {d : Nat} {h : AH} {Q : Rs → AH → Prop} {st : List Value} {a : Nat} {l1 l2 l3 : Value} : Ru d 309 15 [.ref a, l1, l2, l3] st h Q = Ru d 309 16 [.ref a, l1, l2, l3] (.ref a :: st) h Q := (r_aload_n mc309 rfl dJ2_clear_15).trans (and_iff_right rfl |> propext)
theorem w_J2_clear_16 {d : Nat} {h : AH} {Q : Rs → AH → Prop} {ls st : List Value} {a : Nat} : Ru d 309 16 ls (.ref a :: st) h Q = (Tg h a = 42 ∧ Ru d 309 19 ls (.int (Fi h 181 a) :: st) h Q) := r_get1 (i := 0) (r_getI mc309 mo309 rfl rfl rfl rfl dJ2_clear_16)
theorem w_J2_clear_19 {d : Nat} {h : AH} {Q : Rs → AH → Prop} {st : List Value} {x : Int32} {l0 l1 l2 l3 : Value} : Ru d 309 19 [l0, l1, l2, l3] (.int x :: st) h Q = (nl l1 = true ∧ Ru d 309 20 [l0, l1, .int x, l3] st h Q) := r_istore_n mc309 (Nat.le_of_ble_eq_true rfl) rfl rfl dJ2_clear_19
theorem w_J2_clear_20 {d : Nat} {h : AH} {Q : Rs → AH → Prop} {st : List Value} {a : Nat} {l1 l2 l3 : Value} : Ru d 309 20 [.ref a, l1, l2, l3] st h Q = Ru d 309 21 [.ref a, l1, l2, l3] (.ref a :: st) h Q := (r_aload_n mc309 rfl dJ2_clear_20).trans (and_iff_right rfl |> propext)
theorem w_J2_clear_21 {d : Nat} {h : AH} {Q : Rs → AH → Prop} {ls st : List Value} : Ru d 309 21 ls st h Q = Ru d 309 22 ls (.int 0 :: st) h Q := r_iconst mc309 ic_0 dJ2_clear_21
theorem w_J2_clear_22 {d : Nat} {h : AH} {Q : Rs → AH → Prop} {ls st : List Value} {u w : Value} : Ru d 309 22 ls (u :: w :: st) h Q = ((nl u = true ∧ nl w = true) ∧ Ru d 309 23 ls (u :: w :: u :: st) h Q) := r_dup_x1 mc309 dJ2_clear_22
theorem w_J2_clear_23 {d : Nat} {h : AH} {Q : Rs → AH → Prop} {ls st : List Value} {a : Nat} {x : Int32} : Ru d 309 23 ls (.int x :: .ref a :: st) h Q = (Tg h a = 42 ∧ Ru d 309 26 ls st (sFi h 181 a x) Q) := r_put1 (r_putI mc309 mo309 rfl rfl rfl rfl (by decide +kernel) (by decide +kernel) dJ2_clear_23)
theorem w_J2_clear_26 {d : Nat} {h : AH} {Q : Rs → AH → Prop} {st : List Value} {x : Int32} {l0 l1 l2 l3 : Value} : Ru d 309 26 [l0, l1, l2, l3] (.int x :: st) h Q = (nl l2 = true ∧ Ru d 309 27 [l0, l1, l2, .int x] st h Q) := r_istore_n mc309 (Nat.le_of_ble_eq_true rfl) rfl rfl dJ2_clear_26
theorem w_J2_clear_27 {d : Nat} {h : AH} {Q : Rs → AH → Prop} {st : List Value} {x : Int32} {l0 l1 l2 : Value} : Ru d 309 27 [l0, l1, l2, .int x] st h Q = Ru d 309 28 [l0, l1, l2, .int x] (.int x :: st) h Q := r_iload_n mc309 rfl dJ2_clear_27
theorem w_J2_clear_28 {d : Nat} {h : AH} {Q : Rs → AH → Prop} {st : List Value} {x : Int32} {l0 l1 l3 : Value} : Ru d 309 28 [l0, l1, .int x, l3] st h Q = Ru d 309 29 [l0, l1, .int x, l3] (.int x :: st) h Q := r_iload_n mc309 rfl dJ2_clear_28
theorem w_J2_clear_29 {d : Nat} {h : AH} {Q : Rs → AH → Prop} {ls st : List Value} {x y : Int32} : Ru d 309 29 ls (.int y :: .int x :: st) h Q = if x < y then Ru d 309 32 ls st h Q else Ru d 309 42 ls st h Q := r_icmp_ge mc309 dJ2_clear_29 rfl
theorem w_J2_clear_32 {d : Nat} {h : AH} {Q : Rs → AH → Prop} {st : List Value} {l0 l1 l2 l3 : Value} : Ru d 309 32 [l0, l1, l2, l3] st h Q = (isR l1 = true ∧ Ru d 309 33 [l0, l1, l2, l3] (l1 :: st) h Q) := r_aload_n mc309 rfl dJ2_clear_32
theorem w_J2_clear_33 {d : Nat} {h : AH} {Q : Rs → AH → Prop} {st : List Value} {x : Int32} {l0 l1 l2 : Value} : Ru d 309 33 [l0, l1, l2, .int x] st h Q = Ru d 309 34 [l0, l1, l2, .int x] (.int x :: st) h Q := r_iload_n mc309 rfl dJ2_clear_33
theorem w_J2_clear_34 {d : Nat} {h : AH} {Q : Rs → AH → Prop} {ls st : List Value} : Ru d 309 34 ls st h Q = Ru d 309 35 ls (.null :: st) h Q := r_null mc309 dJ2_clear_34
theorem w_J2_clear_35 {d : Nat} {h : AH} {Q : Rs → AH → Prop} {ls st : List Value} {a e : Nat} {x : Int32} {u : Value} (he : elc (Tg h a) = some e) : Ru d 309 35 ls (u :: .int x :: .ref a :: st) h Q = (((tin h a 5000 5900 ∧ inA x (An h a)) ∧ (u = .null ∨ (isR u = true ∧ aAsB e (Tg h ((rOf u).getD 0)) = true))) ∧ Ru d 309 36 ls st (sAr h a (va_up (Ar h a) x.toNatClampNeg (rOf u))) Q) := r_aastore mc309 he dJ2_clear_35
theorem w_J2_clear_36 {d : Nat} {h : AH} {Q : Rs → AH → Prop} {st : List Value} {x : Int32} {l0 l1 l2 : Value} : Ru d 309 36 [l0, l1, l2, .int x] st h Q = (nl l2 = true ∧ Ru d 309 39 [l0, l1, l2, .int (x + 1)] st h Q) := r_iinc mc309 rfl rfl ic_1 rfl dJ2_clear_36
theorem w_J2_clear_39 {d : Nat} {h : AH} {Q : Rs → AH → Prop} {ls st : List Value} : Ru d 309 39 ls st h Q = Ru d 309 27 ls st h Q := r_goto mc309 dJ2_clear_39 rfl
theorem w_J2_clear_42 {d : Nat} {h : AH} {Q : Rs → AH → Prop} {ls : List Value} : Ru d 309 42 ls [] h Q = Q (.inl none) h := r_vret mc309 mr309 dJ2_clear_42
theorem mc310 : mC 310 = cJ2_remove := rfl
theorem mo310 : mO 310 = 42 := rfl
theorem mr310 : mR 310 = (some (.object "java/lang/Object")) := rfl
theorem mh310 : mH 310 = [] := rfl
theorem e_J2_remove {d : Nat} {h : AH} {Q : Rs → AH → Prop} {a0 : Nat} {x0 : Int32}  : Ca (d + 1) 310 [.ref a0, .int x0] h Q = Ru d 310 0 [.ref a0, .int x0, un, un] [] h Q := by rw [ca_ru (by decide) (Nat.le_of_ble_eq_true rfl)]; congr 1
theorem w_J2_remove_0 {d : Nat} {h : AH} {Q : Rs → AH → Prop} {st : List Value} {x : Int32} {l0 l2 l3 : Value} : Ru d 310 0 [l0, .int x, l2, l3] st h Q = Ru d 310 1 [l0, .int x, l2, l3] (.int x :: st) h Q := r_iload_n mc310 rfl dJ2_remove_0
theorem w_J2_remove_1 {d : Nat} {h : AH} {Q : Rs → AH → Prop} {st : List Value} {a : Nat} {l1 l2 l3 : Value} : Ru d 310 1 [.ref a, l1, l2, l3] st h Q = Ru d 310 2 [.ref a, l1, l2, l3] (.ref a :: st) h Q := (r_aload_n mc310 rfl dJ2_remove_1).trans (and_iff_right rfl |> propext)
theorem w_J2_remove_2 {d : Nat} {h : AH} {Q : Rs → AH → Prop} {ls st : List Value} {a : Nat} : Ru d 310 2 ls (.ref a :: st) h Q = (Tg h a = 42 ∧ Ru d 310 5 ls (.int (Fi h 181 a) :: st) h Q) := r_get1 (i := 0) (r_getI mc310 mo310 rfl rfl rfl rfl dJ2_remove_2)
theorem w_J2_remove_5 {d : Nat} {h : AH} {Q : Rs → AH → Prop} {ls : List Value} {u0 u1 : Value} : Ru d 310 5 ls [u1, u0] h Q = Ca d 313 [u0, u1] h (Kn d 310 5 8 ls [] Q) := r_calS mc310 mo310 rfl rfl dJ2_remove_5 rfl (Nat.le_of_ble_eq_true rfl)
theorem w_J2_remove_8 {d : Nat} {h : AH} {Q : Rs → AH → Prop} {ls st : List Value} {u : Value} : Ru d 310 8 ls (u :: st) h Q = (nl u = true ∧ Ru d 310 9 ls st h Q) := r_pop mc310 dJ2_remove_8
theorem w_J2_remove_9 {d : Nat} {h : AH} {Q : Rs → AH → Prop} {st : List Value} {a : Nat} {l1 l2 l3 : Value} : Ru d 310 9 [.ref a, l1, l2, l3] st h Q = Ru d 310 10 [.ref a, l1, l2, l3] (.ref a :: st) h Q := (r_aload_n mc310 rfl dJ2_remove_9).trans (and_iff_right rfl |> propext)
theorem w_J2_remove_10 {d : Nat} {h : AH} {Q : Rs → AH → Prop} {ls st : List Value} {a : Nat} : Ru d 310 10 ls (.ref a :: st) h Q = (Tg h a = 42 ∧ Ru d 310 13 ls (va_rf (Fr h 180 a) :: st) h Q) := r_get1 (i := 0) (r_getR mc310 mo310 rfl rfl rfl rfl dJ2_remove_10)
theorem w_J2_remove_13 {d : Nat} {h : AH} {Q : Rs → AH → Prop} {st : List Value} {u : Value} {l0 l1 l2 l3 : Value} : Ru d 310 13 [l0, l1, l2, l3] (u :: st) h Q = (isR u = true ∧ nl l1 = true ∧ Ru d 310 14 [l0, l1, u, l3] st h Q) := r_astore_n mc310 (Nat.le_of_ble_eq_true rfl) rfl rfl dJ2_remove_13
theorem w_J2_remove_14 {d : Nat} {h : AH} {Q : Rs → AH → Prop} {st : List Value} {l0 l1 l2 l3 : Value} : Ru d 310 14 [l0, l1, l2, l3] st h Q = (isR l2 = true ∧ Ru d 310 15 [l0, l1, l2, l3] (l2 :: st) h Q) := r_aload_n mc310 rfl dJ2_remove_14
theorem w_J2_remove_15 {d : Nat} {h : AH} {Q : Rs → AH → Prop} {st : List Value} {x : Int32} {l0 l2 l3 : Value} : Ru d 310 15 [l0, .int x, l2, l3] st h Q = Ru d 310 16 [l0, .int x, l2, l3] (.int x :: st) h Q := r_iload_n mc310 rfl dJ2_remove_15
theorem w_J2_remove_16 {d : Nat} {h : AH} {Q : Rs → AH → Prop} {ls st : List Value} {a : Nat} {x : Int32} : Ru d 310 16 ls (.int x :: .ref a :: st) h Q = ((tin h a 5000 6000 ∧ inA x (An h a)) ∧ Ru d 310 17 ls (va_rf (Ar h a x.toNatClampNeg) :: st) h Q) := r_aaload mc310 dJ2_remove_16
theorem w_J2_remove_17 {d : Nat} {h : AH} {Q : Rs → AH → Prop} {st : List Value} {u : Value} {l0 l1 l2 l3 : Value} : Ru d 310 17 [l0, l1, l2, l3] (u :: st) h Q = (isR u = true ∧ nl l2 = true ∧ Ru d 310 18 [l0, l1, l2, u] st h Q) := r_astore_n mc310 (Nat.le_of_ble_eq_true rfl) rfl rfl dJ2_remove_17
theorem w_J2_remove_18 {d : Nat} {h : AH} {Q : Rs → AH → Prop} {st : List Value} {a : Nat} {l1 l2 l3 : Value} : Ru d 310 18 [.ref a, l1, l2, l3] st h Q = Ru d 310 19 [.ref a, l1, l2, l3] (.ref a :: st) h Q := (r_aload_n mc310 rfl dJ2_remove_18).trans (and_iff_right rfl |> propext)
theorem w_J2_remove_19 {d : Nat} {h : AH} {Q : Rs → AH → Prop} {st : List Value} {l0 l1 l2 l3 : Value} : Ru d 310 19 [l0, l1, l2, l3] st h Q = (isR l2 = true ∧ Ru d 310 20 [l0, l1, l2, l3] (l2 :: st) h Q) := r_aload_n mc310 rfl dJ2_remove_19
theorem w_J2_remove_20 {d : Nat} {h : AH} {Q : Rs → AH → Prop} {st : List Value} {x : Int32} {l0 l2 l3 : Value} : Ru d 310 20 [l0, .int x, l2, l3] st h Q = Ru d 310 21 [l0, .int x, l2, l3] (.int x :: st) h Q := r_iload_n mc310 rfl dJ2_remove_20
theorem w_J2_remove_21 {d : Nat} {h : AH} {Q : Rs → AH → Prop} {ls : List Value} {u0 u1 : Value} {a : Nat} : Ru d 310 21 ls [u1, u0, .ref a] h Q = (Tg h a = 42 ∧ Ca d 311 [.ref a, u0, u1] h (Kn d 310 21 24 ls [] Q)) := r_calV1 mc310 mo310 rfl rfl dJ2_remove_21 rfl (Nat.le_of_ble_eq_true rfl)
theorem w_J2_remove_24 {d : Nat} {h : AH} {Q : Rs → AH → Prop} {st : List Value} {l0 l1 l2 l3 : Value} : Ru d 310 24 [l0, l1, l2, l3] st h Q = (isR l3 = true ∧ Ru d 310 25 [l0, l1, l2, l3] (l3 :: st) h Q) := r_aload_n mc310 rfl dJ2_remove_24
theorem w_J2_remove_25 {d : Nat} {h : AH} {Q : Rs → AH → Prop} {ls : List Value} {u : Value} : Ru d 310 25 ls [u] h Q = (isR u = true ∧ Q (.inl (some u)) h) := r_areto mc310 mr310 dJ2_remove_25
theorem mc311 : mC 311 = cJ2_fastRemove := rfl
theorem mo311 : mO 311 = 42 := rfl
theorem mr311 : mR 311 = none := rfl
theorem mh311 : mH 311 = [] := rfl
theorem e_J2_fastRemove {d : Nat} {h : AH} {Q : Rs → AH → Prop} {a0 : Nat} {v0 : Value} {x1 : Int32} (h0 : nl v0 = true) : Ca (d + 1) 311 [.ref a0, v0, .int x1] h Q = Ru d 311 0 [.ref a0, v0, .int x1, un] [] h Q := by rw [ca_ru (by decide) (by rw [show (slA [.ref a0, v0, .int x1]).length = 3 by simp [slA, nl_int, nl_ref, nl_long, h0]]; exact Nat.le_of_ble_eq_true rfl)]; congr 1; simp [ent, slA, h0]; rfl
theorem w_J2_fastRemove_0 {d : Nat} {h : AH} {Q : Rs → AH → Prop} {st : List Value} {a : Nat} {l1 l2 l3 : Value} : Ru d 311 0 [.ref a, l1, l2, l3] st h Q = Ru d 311 1 [.ref a, l1, l2, l3] (.ref a :: st) h Q := (r_aload_n mc311 rfl dJ2_fastRemove_0).trans (and_iff_right rfl |> propext)
theorem w_J2_fastRemove_1 {d : Nat} {h : AH} {Q : Rs → AH → Prop} {ls st : List Value} {u : Value} : Ru d 311 1 ls (u :: st) h Q = (nl u = true ∧ Ru d 311 2 ls (u :: u :: st) h Q) := r_dup mc311 dJ2_fastRemove_1
theorem w_J2_fastRemove_2 {d : Nat} {h : AH} {Q : Rs → AH → Prop} {ls st : List Value} {a : Nat} : Ru d 311 2 ls (.ref a :: st) h Q = (Tg h a = 42 ∧ Ru d 311 5 ls (.int (Fi h 179 a) :: st) h Q) := r_get1 (i := 0) (r_getI mc311 mo311 rfl rfl rfl rfl dJ2_fastRemove_2)
theorem w_J2_fastRemove_5 {d : Nat} {h : AH} {Q : Rs → AH → Prop} {ls st : List Value} : Ru d 311 5 ls st h Q = Ru d 311 6 ls (.int 1 :: st) h Q := r_iconst mc311 ic_1 dJ2_fastRemove_5
theorem w_J2_fastRemove_6 {d : Nat} {h : AH} {Q : Rs → AH → Prop} {ls st : List Value} {x y : Int32} : Ru d 311 6 ls (.int y :: .int x :: st) h Q = Ru d 311 7 ls (.int (x + y) :: st) h Q := r_iadd mc311 dJ2_fastRemove_6
theorem w_J2_fastRemove_7 {d : Nat} {h : AH} {Q : Rs → AH → Prop} {ls st : List Value} {a : Nat} {x : Int32} : Ru d 311 7 ls (.int x :: .ref a :: st) h Q = (Tg h a = 42 ∧ Ru d 311 10 ls st (sFi h 179 a x) Q) := r_put1 (r_putI mc311 mo311 rfl rfl rfl rfl (by decide +kernel) (by decide +kernel) dJ2_fastRemove_7)
theorem w_J2_fastRemove_10 {d : Nat} {h : AH} {Q : Rs → AH → Prop} {st : List Value} {a : Nat} {l1 l2 l3 : Value} : Ru d 311 10 [.ref a, l1, l2, l3] st h Q = Ru d 311 11 [.ref a, l1, l2, l3] (.ref a :: st) h Q := (r_aload_n mc311 rfl dJ2_fastRemove_10).trans (and_iff_right rfl |> propext)
theorem w_J2_fastRemove_11 {d : Nat} {h : AH} {Q : Rs → AH → Prop} {ls st : List Value} {a : Nat} : Ru d 311 11 ls (.ref a :: st) h Q = (Tg h a = 42 ∧ Ru d 311 14 ls (.int (Fi h 181 a) :: st) h Q) := r_get1 (i := 0) (r_getI mc311 mo311 rfl rfl rfl rfl dJ2_fastRemove_11)
theorem w_J2_fastRemove_14 {d : Nat} {h : AH} {Q : Rs → AH → Prop} {ls st : List Value} : Ru d 311 14 ls st h Q = Ru d 311 15 ls (.int 1 :: st) h Q := r_iconst mc311 ic_1 dJ2_fastRemove_14
theorem w_J2_fastRemove_15 {d : Nat} {h : AH} {Q : Rs → AH → Prop} {ls st : List Value} {x y : Int32} : Ru d 311 15 ls (.int y :: .int x :: st) h Q = Ru d 311 16 ls (.int (x - y) :: st) h Q := r_isub mc311 dJ2_fastRemove_15
theorem w_J2_fastRemove_16 {d : Nat} {h : AH} {Q : Rs → AH → Prop} {ls st : List Value} {u : Value} : Ru d 311 16 ls (u :: st) h Q = (nl u = true ∧ Ru d 311 17 ls (u :: u :: st) h Q) := r_dup mc311 dJ2_fastRemove_16
theorem w_J2_fastRemove_17 {d : Nat} {h : AH} {Q : Rs → AH → Prop} {st : List Value} {x : Int32} {l0 l1 l2 l3 : Value} : Ru d 311 17 [l0, l1, l2, l3] (.int x :: st) h Q = (nl l2 = true ∧ Ru d 311 18 [l0, l1, l2, .int x] st h Q) := r_istore_n mc311 (Nat.le_of_ble_eq_true rfl) rfl rfl dJ2_fastRemove_17
theorem w_J2_fastRemove_18 {d : Nat} {h : AH} {Q : Rs → AH → Prop} {st : List Value} {x : Int32} {l0 l1 l3 : Value} : Ru d 311 18 [l0, l1, .int x, l3] st h Q = Ru d 311 19 [l0, l1, .int x, l3] (.int x :: st) h Q := r_iload_n mc311 rfl dJ2_fastRemove_18
theorem w_J2_fastRemove_19 {d : Nat} {h : AH} {Q : Rs → AH → Prop} {ls st : List Value} {x y : Int32} : Ru d 311 19 ls (.int y :: .int x :: st) h Q = if y < x then Ru d 311 22 ls st h Q else Ru d 311 34 ls st h Q := r_icmp_le mc311 dJ2_fastRemove_19 rfl
theorem w_J2_fastRemove_22 {d : Nat} {h : AH} {Q : Rs → AH → Prop} {st : List Value} {l0 l1 l2 l3 : Value} : Ru d 311 22 [l0, l1, l2, l3] st h Q = (isR l1 = true ∧ Ru d 311 23 [l0, l1, l2, l3] (l1 :: st) h Q) := r_aload_n mc311 rfl dJ2_fastRemove_22
theorem w_J2_fastRemove_23 {d : Nat} {h : AH} {Q : Rs → AH → Prop} {st : List Value} {x : Int32} {l0 l1 l3 : Value} : Ru d 311 23 [l0, l1, .int x, l3] st h Q = Ru d 311 24 [l0, l1, .int x, l3] (.int x :: st) h Q := r_iload_n mc311 rfl dJ2_fastRemove_23
theorem w_J2_fastRemove_24 {d : Nat} {h : AH} {Q : Rs → AH → Prop} {ls st : List Value} : Ru d 311 24 ls st h Q = Ru d 311 25 ls (.int 1 :: st) h Q := r_iconst mc311 ic_1 dJ2_fastRemove_24
theorem w_J2_fastRemove_25 {d : Nat} {h : AH} {Q : Rs → AH → Prop} {ls st : List Value} {x y : Int32} : Ru d 311 25 ls (.int y :: .int x :: st) h Q = Ru d 311 26 ls (.int (x + y) :: st) h Q := r_iadd mc311 dJ2_fastRemove_25
theorem w_J2_fastRemove_26 {d : Nat} {h : AH} {Q : Rs → AH → Prop} {st : List Value} {l0 l1 l2 l3 : Value} : Ru d 311 26 [l0, l1, l2, l3] st h Q = (isR l1 = true ∧ Ru d 311 27 [l0, l1, l2, l3] (l1 :: st) h Q) := r_aload_n mc311 rfl dJ2_fastRemove_26
theorem w_J2_fastRemove_27 {d : Nat} {h : AH} {Q : Rs → AH → Prop} {st : List Value} {x : Int32} {l0 l1 l3 : Value} : Ru d 311 27 [l0, l1, .int x, l3] st h Q = Ru d 311 28 [l0, l1, .int x, l3] (.int x :: st) h Q := r_iload_n mc311 rfl dJ2_fastRemove_27
theorem w_J2_fastRemove_28 {d : Nat} {h : AH} {Q : Rs → AH → Prop} {st : List Value} {x : Int32} {l0 l1 l2 : Value} : Ru d 311 28 [l0, l1, l2, .int x] st h Q = Ru d 311 29 [l0, l1, l2, .int x] (.int x :: st) h Q := r_iload_n mc311 rfl dJ2_fastRemove_28
theorem w_J2_fastRemove_29 {d : Nat} {h : AH} {Q : Rs → AH → Prop} {st : List Value} {x : Int32} {l0 l1 l3 : Value} : Ru d 311 29 [l0, l1, .int x, l3] st h Q = Ru d 311 30 [l0, l1, .int x, l3] (.int x :: st) h Q := r_iload_n mc311 rfl dJ2_fastRemove_29
theorem w_J2_fastRemove_30 {d : Nat} {h : AH} {Q : Rs → AH → Prop} {ls st : List Value} {x y : Int32} : Ru d 311 30 ls (.int y :: .int x :: st) h Q = Ru d 311 31 ls (.int (x - y) :: st) h Q := r_isub mc311 dJ2_fastRemove_30
theorem w_J2_fastRemove_31 {d : Nat} {h : AH} {Q : Rs → AH → Prop} {ls : List Value} {u0 u1 u2 u3 u4 : Value} : Ru d 311 31 ls [u4, u3, u2, u1, u0] h Q = Ca d 900 [u0, u1, u2, u3, u4] h (Kn d 311 31 34 ls [] Q) := r_calS mc311 mo311 rfl rfl dJ2_fastRemove_31 rfl (Nat.le_of_ble_eq_true rfl)
theorem w_J2_fastRemove_34 {d : Nat} {h : AH} {Q : Rs → AH → Prop} {st : List Value} {l0 l1 l2 l3 : Value} : Ru d 311 34 [l0, l1, l2, l3] st h Q = (isR l1 = true ∧ Ru d 311 35 [l0, l1, l2, l3] (l1 :: st) h Q) := r_aload_n mc311 rfl dJ2_fastRemove_34
theorem w_J2_fastRemove_35 {d : Nat} {h : AH} {Q : Rs → AH → Prop} {st : List Value} {a : Nat} {l1 l2 l3 : Value} : Ru d 311 35 [.ref a, l1, l2, l3] st h Q = Ru d 311 36 [.ref a, l1, l2, l3] (.ref a :: st) h Q := (r_aload_n mc311 rfl dJ2_fastRemove_35).trans (and_iff_right rfl |> propext)
theorem w_J2_fastRemove_36 {d : Nat} {h : AH} {Q : Rs → AH → Prop} {st : List Value} {x : Int32} {l0 l1 l2 : Value} : Ru d 311 36 [l0, l1, l2, .int x] st h Q = Ru d 311 37 [l0, l1, l2, .int x] (.int x :: st) h Q := r_iload_n mc311 rfl dJ2_fastRemove_36
theorem w_J2_fastRemove_37 {d : Nat} {h : AH} {Q : Rs → AH → Prop} {ls st : List Value} {u w : Value} : Ru d 311 37 ls (u :: w :: st) h Q = ((nl u = true ∧ nl w = true) ∧ Ru d 311 38 ls (u :: w :: u :: st) h Q) := r_dup_x1 mc311 dJ2_fastRemove_37
theorem w_J2_fastRemove_38 {d : Nat} {h : AH} {Q : Rs → AH → Prop} {ls st : List Value} {a : Nat} {x : Int32} : Ru d 311 38 ls (.int x :: .ref a :: st) h Q = (Tg h a = 42 ∧ Ru d 311 41 ls st (sFi h 181 a x) Q) := r_put1 (r_putI mc311 mo311 rfl rfl rfl rfl (by decide +kernel) (by decide +kernel) dJ2_fastRemove_38)
theorem w_J2_fastRemove_41 {d : Nat} {h : AH} {Q : Rs → AH → Prop} {ls st : List Value} : Ru d 311 41 ls st h Q = Ru d 311 42 ls (.null :: st) h Q := r_null mc311 dJ2_fastRemove_41
theorem w_J2_fastRemove_42 {d : Nat} {h : AH} {Q : Rs → AH → Prop} {ls st : List Value} {a e : Nat} {x : Int32} {u : Value} (he : elc (Tg h a) = some e) : Ru d 311 42 ls (u :: .int x :: .ref a :: st) h Q = (((tin h a 5000 5900 ∧ inA x (An h a)) ∧ (u = .null ∨ (isR u = true ∧ aAsB e (Tg h ((rOf u).getD 0)) = true))) ∧ Ru d 311 43 ls st (sAr h a (va_up (Ar h a) x.toNatClampNeg (rOf u))) Q) := r_aastore mc311 he dJ2_fastRemove_42
theorem w_J2_fastRemove_43 {d : Nat} {h : AH} {Q : Rs → AH → Prop} {ls : List Value} : Ru d 311 43 ls [] h Q = Q (.inl none) h := r_vret mc311 mr311 dJ2_fastRemove_43
theorem mc312 : mC 312 = cJ2_isEmpty := rfl
theorem mo312 : mO 312 = 42 := rfl
theorem mr312 : mR 312 = (some .boolean) := rfl
theorem mh312 : mH 312 = [] := rfl
theorem e_J2_isEmpty {d : Nat} {h : AH} {Q : Rs → AH → Prop} {a0 : Nat}  : Ca (d + 1) 312 [.ref a0] h Q = Ru d 312 0 [.ref a0] [] h Q := by rw [ca_ru (by decide) (Nat.le_of_ble_eq_true rfl)]; congr 1
theorem w_J2_isEmpty_0 {d : Nat} {h : AH} {Q : Rs → AH → Prop} {st : List Value} {a : Nat} : Ru d 312 0 [.ref a] st h Q = Ru d 312 1 [.ref a] (.ref a :: st) h Q := (r_aload_n mc312 rfl dJ2_isEmpty_0).trans (and_iff_right rfl |> propext)
theorem w_J2_isEmpty_1 {d : Nat} {h : AH} {Q : Rs → AH → Prop} {ls st : List Value} {a : Nat} : Ru d 312 1 ls (.ref a :: st) h Q = (Tg h a = 42 ∧ Ru d 312 4 ls (.int (Fi h 181 a) :: st) h Q) := r_get1 (i := 0) (r_getI mc312 mo312 rfl rfl rfl rfl dJ2_isEmpty_1)
theorem w_J2_isEmpty_4 {d : Nat} {h : AH} {Q : Rs → AH → Prop} {ls st : List Value} {x : Int32} : Ru d 312 4 ls (.int x :: st) h Q = if x = 0 then Ru d 312 7 ls st h Q else Ru d 312 11 ls st h Q := r_if_ne mc312 dJ2_isEmpty_4 rfl
theorem w_J2_isEmpty_7 {d : Nat} {h : AH} {Q : Rs → AH → Prop} {ls st : List Value} : Ru d 312 7 ls st h Q = Ru d 312 8 ls (.int 1 :: st) h Q := r_iconst mc312 ic_1 dJ2_isEmpty_7
theorem w_J2_isEmpty_8 {d : Nat} {h : AH} {Q : Rs → AH → Prop} {ls st : List Value} : Ru d 312 8 ls st h Q = Ru d 312 12 ls st h Q := r_goto mc312 dJ2_isEmpty_8 rfl
theorem w_J2_isEmpty_11 {d : Nat} {h : AH} {Q : Rs → AH → Prop} {ls st : List Value} : Ru d 312 11 ls st h Q = Ru d 312 12 ls (.int 0 :: st) h Q := r_iconst mc312 ic_0 dJ2_isEmpty_11
theorem w_J2_isEmpty_12 {d : Nat} {h : AH} {Q : Rs → AH → Prop} {ls : List Value} {x : Int32} : Ru d 312 12 ls [.int x] h Q = ((x = 0 ∨ x = 1) ∧ Q (.inl (some (.int x))) h) := r_iretz mc312 mr312 dJ2_isEmpty_12
theorem mc313 : mC 313 = cJ3_checkIndex := rfl
theorem mo313 : mO 313 = 43 := rfl
theorem mr313 : mR 313 = (some .int) := rfl
theorem mh313 : mH 313 = [] := rfl
theorem e_J3_checkIndex {d : Nat} {h : AH} {Q : Rs → AH → Prop} {x0 : Int32} {x1 : Int32}  : Ca (d + 1) 313 [.int x0, .int x1] h Q = Ru d 313 0 [.int x0, .int x1] [] h Q := by rw [ca_ru (by decide) (Nat.le_of_ble_eq_true rfl)]; congr 1
theorem w_J3_checkIndex_0 {d : Nat} {h : AH} {Q : Rs → AH → Prop} {st : List Value} {x : Int32} {l1 : Value} : Ru d 313 0 [.int x, l1] st h Q = Ru d 313 1 [.int x, l1] (.int x :: st) h Q := r_iload_n mc313 rfl dJ3_checkIndex_0
theorem w_J3_checkIndex_1 {d : Nat} {h : AH} {Q : Rs → AH → Prop} {st : List Value} {x : Int32} {l0 : Value} : Ru d 313 1 [l0, .int x] st h Q = Ru d 313 2 [l0, .int x] (.int x :: st) h Q := r_iload_n mc313 rfl dJ3_checkIndex_1
theorem w_J3_checkIndex_2 {d : Nat} {h : AH} {Q : Rs → AH → Prop} {ls st : List Value} : Ru d 313 2 ls st h Q = Ru d 313 3 ls (.null :: st) h Q := r_null mc313 dJ3_checkIndex_2
theorem w_J3_checkIndex_3 {d : Nat} {h : AH} {Q : Rs → AH → Prop} {ls : List Value} {u0 u1 u2 : Value} : Ru d 313 3 ls [u2, u1, u0] h Q = Ca d 314 [u0, u1, u2] h (Kn d 313 3 6 ls [] Q) := r_calS mc313 mo313 rfl rfl dJ3_checkIndex_3 rfl (Nat.le_of_ble_eq_true rfl)
theorem w_J3_checkIndex_6 {d : Nat} {h : AH} {Q : Rs → AH → Prop} {ls : List Value} {x : Int32} : Ru d 313 6 ls [.int x] h Q = Q (.inl (some (.int x))) h := r_ireti mc313 mr313 dJ3_checkIndex_6
theorem mc314 : mC 314 = cJ4_checkIndex := rfl
theorem mo314 : mO 314 = 44 := rfl
theorem mr314 : mR 314 = (some .int) := rfl
theorem mh314 : mH 314 = [] := rfl
theorem e_J4_checkIndex {d : Nat} {h : AH} {Q : Rs → AH → Prop} {x0 : Int32} {x1 : Int32} {v2 : Value} (h2 : nl v2 = true) : Ca (d + 1) 314 [.int x0, .int x1, v2] h Q = Ru d 314 0 [.int x0, .int x1, v2] [] h Q := by rw [ca_ru (by decide) (by rw [show (slA [.int x0, .int x1, v2]).length = 3 by simp [slA, nl_int, nl_ref, nl_long, h2]]; exact Nat.le_of_ble_eq_true rfl)]; congr 1; simp [ent, slA, h2]; rfl
theorem w_J4_checkIndex_0 {d : Nat} {h : AH} {Q : Rs → AH → Prop} {st : List Value} {x : Int32} {l1 l2 : Value} : Ru d 314 0 [.int x, l1, l2] st h Q = Ru d 314 1 [.int x, l1, l2] (.int x :: st) h Q := r_iload_n mc314 rfl dJ4_checkIndex_0
theorem w_J4_checkIndex_1 {d : Nat} {h : AH} {Q : Rs → AH → Prop} {ls st : List Value} {x : Int32} : Ru d 314 1 ls (.int x :: st) h Q = if x < 0 then Ru d 314 9 ls st h Q else Ru d 314 4 ls st h Q := r_if_lt mc314 dJ4_checkIndex_1 rfl
theorem w_J4_checkIndex_4 {d : Nat} {h : AH} {Q : Rs → AH → Prop} {st : List Value} {x : Int32} {l1 l2 : Value} : Ru d 314 4 [.int x, l1, l2] st h Q = Ru d 314 5 [.int x, l1, l2] (.int x :: st) h Q := r_iload_n mc314 rfl dJ4_checkIndex_4
theorem w_J4_checkIndex_5 {d : Nat} {h : AH} {Q : Rs → AH → Prop} {st : List Value} {x : Int32} {l0 l2 : Value} : Ru d 314 5 [l0, .int x, l2] st h Q = Ru d 314 6 [l0, .int x, l2] (.int x :: st) h Q := r_iload_n mc314 rfl dJ4_checkIndex_5
theorem w_J4_checkIndex_6 {d : Nat} {h : AH} {Q : Rs → AH → Prop} {ls st : List Value} {x y : Int32} : Ru d 314 6 ls (.int y :: .int x :: st) h Q = if x < y then Ru d 314 16 ls st h Q else Ru d 314 9 ls st h Q := r_icmp_lt mc314 dJ4_checkIndex_6 rfl
theorem w_J4_checkIndex_9 {d : Nat} {h : AH} {Q : Rs → AH → Prop} {st : List Value} {l0 l1 l2 : Value} : Ru d 314 9 [l0, l1, l2] st h Q = (isR l2 = true ∧ Ru d 314 10 [l0, l1, l2] (l2 :: st) h Q) := r_aload_n mc314 rfl dJ4_checkIndex_9
theorem w_J4_checkIndex_10 {d : Nat} {h : AH} {Q : Rs → AH → Prop} {st : List Value} {x : Int32} {l1 l2 : Value} : Ru d 314 10 [.int x, l1, l2] st h Q = Ru d 314 11 [.int x, l1, l2] (.int x :: st) h Q := r_iload_n mc314 rfl dJ4_checkIndex_10
theorem w_J4_checkIndex_11 {d : Nat} {h : AH} {Q : Rs → AH → Prop} {st : List Value} {x : Int32} {l0 l2 : Value} : Ru d 314 11 [l0, .int x, l2] st h Q = Ru d 314 12 [l0, .int x, l2] (.int x :: st) h Q := r_iload_n mc314 rfl dJ4_checkIndex_11
theorem w_J4_checkIndex_16 {d : Nat} {h : AH} {Q : Rs → AH → Prop} {st : List Value} {x : Int32} {l1 l2 : Value} : Ru d 314 16 [.int x, l1, l2] st h Q = Ru d 314 17 [.int x, l1, l2] (.int x :: st) h Q := r_iload_n mc314 rfl dJ4_checkIndex_16
theorem w_J4_checkIndex_17 {d : Nat} {h : AH} {Q : Rs → AH → Prop} {ls : List Value} {x : Int32} : Ru d 314 17 ls [.int x] h Q = Q (.inl (some (.int x))) h := r_ireti mc314 mr314 dJ4_checkIndex_17
theorem mc315 : mC 315 = cJ4_checkFromToIndex := rfl
theorem mo315 : mO 315 = 44 := rfl
theorem mr315 : mR 315 = (some .int) := rfl
theorem mh315 : mH 315 = [] := rfl
theorem e_J4_checkFromToIndex {d : Nat} {h : AH} {Q : Rs → AH → Prop} {x0 : Int32} {x1 : Int32} {x2 : Int32} {v3 : Value} (h3 : nl v3 = true) : Ca (d + 1) 315 [.int x0, .int x1, .int x2, v3] h Q = Ru d 315 0 [.int x0, .int x1, .int x2, v3] [] h Q := by rw [ca_ru (by decide) (by rw [show (slA [.int x0, .int x1, .int x2, v3]).length = 4 by simp [slA, nl_int, nl_ref, nl_long, h3]]; exact Nat.le_of_ble_eq_true rfl)]; congr 1; simp [ent, slA, h3]; rfl
theorem w_J4_checkFromToIndex_0 {d : Nat} {h : AH} {Q : Rs → AH → Prop} {st : List Value} {x : Int32} {l1 l2 l3 : Value} : Ru d 315 0 [.int x, l1, l2, l3] st h Q = Ru d 315 1 [.int x, l1, l2, l3] (.int x :: st) h Q := r_iload_n mc315 rfl dJ4_checkFromToIndex_0
theorem w_J4_checkFromToIndex_1 {d : Nat} {h : AH} {Q : Rs → AH → Prop} {ls st : List Value} {x : Int32} : Ru d 315 1 ls (.int x :: st) h Q = if x < 0 then Ru d 315 14 ls st h Q else Ru d 315 4 ls st h Q := r_if_lt mc315 dJ4_checkFromToIndex_1 rfl
theorem w_J4_checkFromToIndex_4 {d : Nat} {h : AH} {Q : Rs → AH → Prop} {st : List Value} {x : Int32} {l1 l2 l3 : Value} : Ru d 315 4 [.int x, l1, l2, l3] st h Q = Ru d 315 5 [.int x, l1, l2, l3] (.int x :: st) h Q := r_iload_n mc315 rfl dJ4_checkFromToIndex_4
theorem w_J4_checkFromToIndex_5 {d : Nat} {h : AH} {Q : Rs → AH → Prop} {st : List Value} {x : Int32} {l0 l2 l3 : Value} : Ru d 315 5 [l0, .int x, l2, l3] st h Q = Ru d 315 6 [l0, .int x, l2, l3] (.int x :: st) h Q := r_iload_n mc315 rfl dJ4_checkFromToIndex_5
theorem w_J4_checkFromToIndex_6 {d : Nat} {h : AH} {Q : Rs → AH → Prop} {ls st : List Value} {x y : Int32} : Ru d 315 6 ls (.int y :: .int x :: st) h Q = if y < x then Ru d 315 14 ls st h Q else Ru d 315 9 ls st h Q := r_icmp_gt mc315 dJ4_checkFromToIndex_6 rfl
theorem w_J4_checkFromToIndex_9 {d : Nat} {h : AH} {Q : Rs → AH → Prop} {st : List Value} {x : Int32} {l0 l2 l3 : Value} : Ru d 315 9 [l0, .int x, l2, l3] st h Q = Ru d 315 10 [l0, .int x, l2, l3] (.int x :: st) h Q := r_iload_n mc315 rfl dJ4_checkFromToIndex_9
theorem w_J4_checkFromToIndex_10 {d : Nat} {h : AH} {Q : Rs → AH → Prop} {st : List Value} {x : Int32} {l0 l1 l3 : Value} : Ru d 315 10 [l0, l1, .int x, l3] st h Q = Ru d 315 11 [l0, l1, .int x, l3] (.int x :: st) h Q := r_iload_n mc315 rfl dJ4_checkFromToIndex_10
theorem w_J4_checkFromToIndex_11 {d : Nat} {h : AH} {Q : Rs → AH → Prop} {ls st : List Value} {x y : Int32} : Ru d 315 11 ls (.int y :: .int x :: st) h Q = if y < x then Ru d 315 14 ls st h Q else Ru d 315 22 ls st h Q := r_icmp_le mc315 dJ4_checkFromToIndex_11 rfl
theorem w_J4_checkFromToIndex_14 {d : Nat} {h : AH} {Q : Rs → AH → Prop} {st : List Value} {l0 l1 l2 l3 : Value} : Ru d 315 14 [l0, l1, l2, l3] st h Q = (isR l3 = true ∧ Ru d 315 15 [l0, l1, l2, l3] (l3 :: st) h Q) := r_aload_n mc315 rfl dJ4_checkFromToIndex_14
theorem w_J4_checkFromToIndex_15 {d : Nat} {h : AH} {Q : Rs → AH → Prop} {st : List Value} {x : Int32} {l1 l2 l3 : Value} : Ru d 315 15 [.int x, l1, l2, l3] st h Q = Ru d 315 16 [.int x, l1, l2, l3] (.int x :: st) h Q := r_iload_n mc315 rfl dJ4_checkFromToIndex_15
theorem w_J4_checkFromToIndex_16 {d : Nat} {h : AH} {Q : Rs → AH → Prop} {st : List Value} {x : Int32} {l0 l2 l3 : Value} : Ru d 315 16 [l0, .int x, l2, l3] st h Q = Ru d 315 17 [l0, .int x, l2, l3] (.int x :: st) h Q := r_iload_n mc315 rfl dJ4_checkFromToIndex_16
theorem w_J4_checkFromToIndex_17 {d : Nat} {h : AH} {Q : Rs → AH → Prop} {st : List Value} {x : Int32} {l0 l1 l3 : Value} : Ru d 315 17 [l0, l1, .int x, l3] st h Q = Ru d 315 18 [l0, l1, .int x, l3] (.int x :: st) h Q := r_iload_n mc315 rfl dJ4_checkFromToIndex_17
theorem w_J4_checkFromToIndex_22 {d : Nat} {h : AH} {Q : Rs → AH → Prop} {st : List Value} {x : Int32} {l1 l2 l3 : Value} : Ru d 315 22 [.int x, l1, l2, l3] st h Q = Ru d 315 23 [.int x, l1, l2, l3] (.int x :: st) h Q := r_iload_n mc315 rfl dJ4_checkFromToIndex_22
theorem w_J4_checkFromToIndex_23 {d : Nat} {h : AH} {Q : Rs → AH → Prop} {ls : List Value} {x : Int32} : Ru d 315 23 ls [.int x] h Q = Q (.inl (some (.int x))) h := r_ireti mc315 mr315 dJ4_checkFromToIndex_23
theorem mc316 : mC 316 = cJ5_indexOf := rfl
theorem mo316 : mO 316 = 45 := rfl
theorem mr316 : mR 316 = (some .int) := rfl
theorem mh316 : mH 316 = [] := rfl
theorem e_J5_indexOf {d : Nat} {h : AH} {Q : Rs → AH → Prop} {a0 : Nat} {x0 : Int32}  : Ca (d + 1) 316 [.ref a0, .int x0] h Q = Ru d 316 0 [.ref a0, .int x0] [] h Q := by rw [ca_ru (by decide) (Nat.le_of_ble_eq_true rfl)]; congr 1
theorem w_J5_indexOf_0 {d : Nat} {h : AH} {Q : Rs → AH → Prop} {st : List Value} {a : Nat} {l1 : Value} : Ru d 316 0 [.ref a, l1] st h Q = Ru d 316 1 [.ref a, l1] (.ref a :: st) h Q := (r_aload_n mc316 rfl dJ5_indexOf_0).trans (and_iff_right rfl |> propext)
theorem w_J5_indexOf_1 {d : Nat} {h : AH} {Q : Rs → AH → Prop} {st : List Value} {x : Int32} {l0 : Value} : Ru d 316 1 [l0, .int x] st h Q = Ru d 316 2 [l0, .int x] (.int x :: st) h Q := r_iload_n mc316 rfl dJ5_indexOf_1
theorem w_J5_indexOf_2 {d : Nat} {h : AH} {Q : Rs → AH → Prop} {ls st : List Value} : Ru d 316 2 ls st h Q = Ru d 316 3 ls (.int 0 :: st) h Q := r_iconst mc316 ic_0 dJ5_indexOf_2
theorem w_J5_indexOf_3 {d : Nat} {h : AH} {Q : Rs → AH → Prop} {ls : List Value} {u0 u1 : Value} {a : Nat} : Ru d 316 3 ls [u1, u0, .ref a] h Q = (Tg h a = 45 ∧ Ca d 317 [.ref a, u0, u1] h (Kn d 316 3 6 ls [] Q)) := r_calV1 mc316 mo316 rfl rfl dJ5_indexOf_3 rfl (Nat.le_of_ble_eq_true rfl)
theorem w_J5_indexOf_6 {d : Nat} {h : AH} {Q : Rs → AH → Prop} {ls : List Value} {x : Int32} : Ru d 316 6 ls [.int x] h Q = Q (.inl (some (.int x))) h := r_ireti mc316 mr316 dJ5_indexOf_6
theorem mc317 : mC 317 = cJ5_indexOf_2 := rfl
theorem mo317 : mO 317 = 45 := rfl
theorem mr317 : mR 317 = (some .int) := rfl
theorem mh317 : mH 317 = [] := rfl
theorem e_J5_indexOf_2 {d : Nat} {h : AH} {Q : Rs → AH → Prop} {a0 : Nat} {x0 : Int32} {x1 : Int32}  : Ca (d + 1) 317 [.ref a0, .int x0, .int x1] h Q = Ru d 317 0 [.ref a0, .int x0, .int x1] [] h Q := by rw [ca_ru (by decide) (Nat.le_of_ble_eq_true rfl)]; congr 1
theorem w_J5_indexOf_2_0 {d : Nat} {h : AH} {Q : Rs → AH → Prop} {st : List Value} {a : Nat} {l1 l2 : Value} : Ru d 317 0 [.ref a, l1, l2] st h Q = Ru d 317 1 [.ref a, l1, l2] (.ref a :: st) h Q := (r_aload_n mc317 rfl dJ5_indexOf_2_0).trans (and_iff_right rfl |> propext)
theorem w_J5_indexOf_2_1 {d : Nat} {h : AH} {Q : Rs → AH → Prop} {ls : List Value} {a : Nat} : Ru d 317 1 ls [.ref a] h Q = (Tg h a = 45 ∧ Ca d 318 [.ref a] h (Kn d 317 1 4 ls [] Q)) := r_calV1 mc317 mo317 rfl rfl dJ5_indexOf_2_1 rfl (Nat.le_of_ble_eq_true rfl)
theorem w_J5_indexOf_2_4 {d : Nat} {h : AH} {Q : Rs → AH → Prop} {ls st : List Value} {x : Int32} : Ru d 317 4 ls (.int x :: st) h Q = if x = 0 then Ru d 317 23 ls st h Q else Ru d 317 7 ls st h Q := r_if_eq mc317 dJ5_indexOf_2_4 rfl
theorem w_J5_indexOf_2_7 {d : Nat} {h : AH} {Q : Rs → AH → Prop} {st : List Value} {a : Nat} {l1 l2 : Value} : Ru d 317 7 [.ref a, l1, l2] st h Q = Ru d 317 8 [.ref a, l1, l2] (.ref a :: st) h Q := (r_aload_n mc317 rfl dJ5_indexOf_2_7).trans (and_iff_right rfl |> propext)
theorem w_J5_indexOf_2_8 {d : Nat} {h : AH} {Q : Rs → AH → Prop} {ls st : List Value} {a : Nat} : Ru d 317 8 ls (.ref a :: st) h Q = (Tg h a = 45 ∧ Ru d 317 11 ls (va_rf (Fr h 200 a) :: st) h Q) := r_get1 (i := 0) (r_getR mc317 mo317 rfl rfl rfl rfl dJ5_indexOf_2_8)
theorem w_J5_indexOf_2_11 {d : Nat} {h : AH} {Q : Rs → AH → Prop} {st : List Value} {x : Int32} {l0 l2 : Value} : Ru d 317 11 [l0, .int x, l2] st h Q = Ru d 317 12 [l0, .int x, l2] (.int x :: st) h Q := r_iload_n mc317 rfl dJ5_indexOf_2_11
theorem w_J5_indexOf_2_12 {d : Nat} {h : AH} {Q : Rs → AH → Prop} {st : List Value} {x : Int32} {l0 l1 : Value} : Ru d 317 12 [l0, l1, .int x] st h Q = Ru d 317 13 [l0, l1, .int x] (.int x :: st) h Q := r_iload_n mc317 rfl dJ5_indexOf_2_12
theorem w_J5_indexOf_2_13 {d : Nat} {h : AH} {Q : Rs → AH → Prop} {st : List Value} {a : Nat} {l1 l2 : Value} : Ru d 317 13 [.ref a, l1, l2] st h Q = Ru d 317 14 [.ref a, l1, l2] (.ref a :: st) h Q := (r_aload_n mc317 rfl dJ5_indexOf_2_13).trans (and_iff_right rfl |> propext)
theorem w_J5_indexOf_2_14 {d : Nat} {h : AH} {Q : Rs → AH → Prop} {ls : List Value} {s0 s1 s2 : Value} {a : Nat} : Ru d 317 14 ls [.ref a, s0, s1, s2] h Q = (Tg h a = 45 ∧ Ca d 319 [.ref a] h (Kn d 317 14 17 ls [s0, s1, s2] Q)) := r_calV1 mc317 mo317 rfl rfl dJ5_indexOf_2_14 rfl (Nat.le_of_ble_eq_true rfl)
theorem w_J5_indexOf_2_17 {d : Nat} {h : AH} {Q : Rs → AH → Prop} {ls : List Value} {u0 u1 u2 u3 : Value} : Ru d 317 17 ls [u3, u2, u1, u0] h Q = Ca d 324 [u0, u1, u2, u3] h (Kn d 317 17 20 ls [] Q) := r_calS mc317 mo317 rfl rfl dJ5_indexOf_2_17 rfl (Nat.le_of_ble_eq_true rfl)
theorem w_J5_indexOf_2_20 {d : Nat} {h : AH} {Q : Rs → AH → Prop} {ls st : List Value} : Ru d 317 20 ls st h Q = Ru d 317 36 ls st h Q := r_goto mc317 dJ5_indexOf_2_20 rfl
theorem w_J5_indexOf_2_23 {d : Nat} {h : AH} {Q : Rs → AH → Prop} {st : List Value} {a : Nat} {l1 l2 : Value} : Ru d 317 23 [.ref a, l1, l2] st h Q = Ru d 317 24 [.ref a, l1, l2] (.ref a :: st) h Q := (r_aload_n mc317 rfl dJ5_indexOf_2_23).trans (and_iff_right rfl |> propext)
theorem w_J5_indexOf_2_24 {d : Nat} {h : AH} {Q : Rs → AH → Prop} {ls st : List Value} {a : Nat} : Ru d 317 24 ls (.ref a :: st) h Q = (Tg h a = 45 ∧ Ru d 317 27 ls (va_rf (Fr h 200 a) :: st) h Q) := r_get1 (i := 0) (r_getR mc317 mo317 rfl rfl rfl rfl dJ5_indexOf_2_24)
theorem w_J5_indexOf_2_27 {d : Nat} {h : AH} {Q : Rs → AH → Prop} {st : List Value} {x : Int32} {l0 l2 : Value} : Ru d 317 27 [l0, .int x, l2] st h Q = Ru d 317 28 [l0, .int x, l2] (.int x :: st) h Q := r_iload_n mc317 rfl dJ5_indexOf_2_27
theorem w_J5_indexOf_2_28 {d : Nat} {h : AH} {Q : Rs → AH → Prop} {st : List Value} {x : Int32} {l0 l1 : Value} : Ru d 317 28 [l0, l1, .int x] st h Q = Ru d 317 29 [l0, l1, .int x] (.int x :: st) h Q := r_iload_n mc317 rfl dJ5_indexOf_2_28
theorem w_J5_indexOf_2_29 {d : Nat} {h : AH} {Q : Rs → AH → Prop} {st : List Value} {a : Nat} {l1 l2 : Value} : Ru d 317 29 [.ref a, l1, l2] st h Q = Ru d 317 30 [.ref a, l1, l2] (.ref a :: st) h Q := (r_aload_n mc317 rfl dJ5_indexOf_2_29).trans (and_iff_right rfl |> propext)
theorem w_J5_indexOf_2_30 {d : Nat} {h : AH} {Q : Rs → AH → Prop} {ls : List Value} {s0 s1 s2 : Value} {a : Nat} : Ru d 317 30 ls [.ref a, s0, s1, s2] h Q = (Tg h a = 45 ∧ Ca d 319 [.ref a] h (Kn d 317 30 33 ls [s0, s1, s2] Q)) := r_calV1 mc317 mo317 rfl rfl dJ5_indexOf_2_30 rfl (Nat.le_of_ble_eq_true rfl)
theorem w_J5_indexOf_2_36 {d : Nat} {h : AH} {Q : Rs → AH → Prop} {ls : List Value} {x : Int32} : Ru d 317 36 ls [.int x] h Q = Q (.inl (some (.int x))) h := r_ireti mc317 mr317 dJ5_indexOf_2_36
theorem mc318 : mC 318 = cJ5_isLatin1 := rfl
theorem mo318 : mO 318 = 45 := rfl
theorem mr318 : mR 318 = (some .boolean) := rfl
theorem mh318 : mH 318 = [] := rfl
theorem e_J5_isLatin1 {d : Nat} {h : AH} {Q : Rs → AH → Prop} {a0 : Nat}  : Ca (d + 1) 318 [.ref a0] h Q = Ru d 318 0 [.ref a0] [] h Q := by rw [ca_ru (by decide) (Nat.le_of_ble_eq_true rfl)]; congr 1
theorem w_J5_isLatin1_0 {d : Nat} {h : AH} {Q : Rs → AH → Prop} {ls st : List Value} : Ru d 318 0 ls st h Q = Ru d 318 3 ls (.int 1 :: st) h Q := r_getsI mc318 mo318 rfl dJ5_isLatin1_0
theorem w_J5_isLatin1_3 {d : Nat} {h : AH} {Q : Rs → AH → Prop} {ls st : List Value} {x : Int32} : Ru d 318 3 ls (.int x :: st) h Q = if x = 0 then Ru d 318 17 ls st h Q else Ru d 318 6 ls st h Q := r_if_eq mc318 dJ5_isLatin1_3 rfl
theorem w_J5_isLatin1_6 {d : Nat} {h : AH} {Q : Rs → AH → Prop} {st : List Value} {a : Nat} : Ru d 318 6 [.ref a] st h Q = Ru d 318 7 [.ref a] (.ref a :: st) h Q := (r_aload_n mc318 rfl dJ5_isLatin1_6).trans (and_iff_right rfl |> propext)
theorem w_J5_isLatin1_7 {d : Nat} {h : AH} {Q : Rs → AH → Prop} {ls st : List Value} {a : Nat} : Ru d 318 7 ls (.ref a :: st) h Q = (Tg h a = 45 ∧ Ru d 318 10 ls (.int (Fi h 201 a) :: st) h Q) := r_get1 (i := 0) (r_getI mc318 mo318 rfl rfl rfl rfl dJ5_isLatin1_7)
theorem w_J5_isLatin1_10 {d : Nat} {h : AH} {Q : Rs → AH → Prop} {ls st : List Value} {x : Int32} : Ru d 318 10 ls (.int x :: st) h Q = if x = 0 then Ru d 318 13 ls st h Q else Ru d 318 17 ls st h Q := r_if_ne mc318 dJ5_isLatin1_10 rfl
theorem w_J5_isLatin1_13 {d : Nat} {h : AH} {Q : Rs → AH → Prop} {ls st : List Value} : Ru d 318 13 ls st h Q = Ru d 318 14 ls (.int 1 :: st) h Q := r_iconst mc318 ic_1 dJ5_isLatin1_13
theorem w_J5_isLatin1_14 {d : Nat} {h : AH} {Q : Rs → AH → Prop} {ls st : List Value} : Ru d 318 14 ls st h Q = Ru d 318 18 ls st h Q := r_goto mc318 dJ5_isLatin1_14 rfl
theorem w_J5_isLatin1_17 {d : Nat} {h : AH} {Q : Rs → AH → Prop} {ls st : List Value} : Ru d 318 17 ls st h Q = Ru d 318 18 ls (.int 0 :: st) h Q := r_iconst mc318 ic_0 dJ5_isLatin1_17
theorem w_J5_isLatin1_18 {d : Nat} {h : AH} {Q : Rs → AH → Prop} {ls : List Value} {x : Int32} : Ru d 318 18 ls [.int x] h Q = ((x = 0 ∨ x = 1) ∧ Q (.inl (some (.int x))) h) := r_iretz mc318 mr318 dJ5_isLatin1_18
theorem mc319 : mC 319 = cJ5_length := rfl
theorem mo319 : mO 319 = 45 := rfl
theorem mr319 : mR 319 = (some .int) := rfl
theorem mh319 : mH 319 = [] := rfl
theorem e_J5_length {d : Nat} {h : AH} {Q : Rs → AH → Prop} {a0 : Nat}  : Ca (d + 1) 319 [.ref a0] h Q = Ru d 319 0 [.ref a0] [] h Q := by rw [ca_ru (by decide) (Nat.le_of_ble_eq_true rfl)]; congr 1
theorem w_J5_length_0 {d : Nat} {h : AH} {Q : Rs → AH → Prop} {st : List Value} {a : Nat} : Ru d 319 0 [.ref a] st h Q = Ru d 319 1 [.ref a] (.ref a :: st) h Q := (r_aload_n mc319 rfl dJ5_length_0).trans (and_iff_right rfl |> propext)
theorem w_J5_length_1 {d : Nat} {h : AH} {Q : Rs → AH → Prop} {ls st : List Value} {a : Nat} : Ru d 319 1 ls (.ref a :: st) h Q = (Tg h a = 45 ∧ Ru d 319 4 ls (va_rf (Fr h 200 a) :: st) h Q) := r_get1 (i := 0) (r_getR mc319 mo319 rfl rfl rfl rfl dJ5_length_1)
theorem w_J5_length_4 {d : Nat} {h : AH} {Q : Rs → AH → Prop} {ls st : List Value} {a : Nat} : Ru d 319 4 ls (.ref a :: st) h Q = (tin h a 1000 6000 ∧ Ru d 319 5 ls (.int (Int32.ofNat (An h a)) :: st) h Q) := r_alen mc319 dJ5_length_4
theorem w_J5_length_5 {d : Nat} {h : AH} {Q : Rs → AH → Prop} {st : List Value} {a : Nat} : Ru d 319 5 [.ref a] st h Q = Ru d 319 6 [.ref a] (.ref a :: st) h Q := (r_aload_n mc319 rfl dJ5_length_5).trans (and_iff_right rfl |> propext)
theorem w_J5_length_6 {d : Nat} {h : AH} {Q : Rs → AH → Prop} {ls : List Value} {s0 : Value} {a : Nat} : Ru d 319 6 ls [.ref a, s0] h Q = (Tg h a = 45 ∧ Ca d 320 [.ref a] h (Kn d 319 6 9 ls [s0] Q)) := r_calV1 mc319 mo319 rfl rfl dJ5_length_6 rfl (Nat.le_of_ble_eq_true rfl)
theorem w_J5_length_9 {d : Nat} {h : AH} {Q : Rs → AH → Prop} {ls st : List Value} {x y : Int32} : Ru d 319 9 ls (.int y :: .int x :: st) h Q = Ru d 319 10 ls (.int (x >>> (y &&& 31)) :: st) h Q := r_ishr mc319 dJ5_length_9
theorem w_J5_length_10 {d : Nat} {h : AH} {Q : Rs → AH → Prop} {ls : List Value} {x : Int32} : Ru d 319 10 ls [.int x] h Q = Q (.inl (some (.int x))) h := r_ireti mc319 mr319 dJ5_length_10
theorem mc320 : mC 320 = cJ5_coder := rfl
theorem mo320 : mO 320 = 45 := rfl
theorem mr320 : mR 320 = (some .byte) := rfl
theorem mh320 : mH 320 = [] := rfl
theorem e_J5_coder {d : Nat} {h : AH} {Q : Rs → AH → Prop} {a0 : Nat}  : Ca (d + 1) 320 [.ref a0] h Q = Ru d 320 0 [.ref a0] [] h Q := by rw [ca_ru (by decide) (Nat.le_of_ble_eq_true rfl)]; congr 1
theorem w_J5_coder_0 {d : Nat} {h : AH} {Q : Rs → AH → Prop} {ls st : List Value} : Ru d 320 0 ls st h Q = Ru d 320 3 ls (.int 1 :: st) h Q := r_getsI mc320 mo320 rfl dJ5_coder_0
theorem w_J5_coder_3 {d : Nat} {h : AH} {Q : Rs → AH → Prop} {ls st : List Value} {x : Int32} : Ru d 320 3 ls (.int x :: st) h Q = if x = 0 then Ru d 320 13 ls st h Q else Ru d 320 6 ls st h Q := r_if_eq mc320 dJ5_coder_3 rfl
theorem w_J5_coder_6 {d : Nat} {h : AH} {Q : Rs → AH → Prop} {st : List Value} {a : Nat} : Ru d 320 6 [.ref a] st h Q = Ru d 320 7 [.ref a] (.ref a :: st) h Q := (r_aload_n mc320 rfl dJ5_coder_6).trans (and_iff_right rfl |> propext)
theorem w_J5_coder_7 {d : Nat} {h : AH} {Q : Rs → AH → Prop} {ls st : List Value} {a : Nat} : Ru d 320 7 ls (.ref a :: st) h Q = (Tg h a = 45 ∧ Ru d 320 10 ls (.int (Fi h 201 a) :: st) h Q) := r_get1 (i := 0) (r_getI mc320 mo320 rfl rfl rfl rfl dJ5_coder_7)
theorem w_J5_coder_10 {d : Nat} {h : AH} {Q : Rs → AH → Prop} {ls st : List Value} : Ru d 320 10 ls st h Q = Ru d 320 14 ls st h Q := r_goto mc320 dJ5_coder_10 rfl
theorem w_J5_coder_13 {d : Nat} {h : AH} {Q : Rs → AH → Prop} {ls st : List Value} : Ru d 320 13 ls st h Q = Ru d 320 14 ls (.int 1 :: st) h Q := r_iconst mc320 ic_1 dJ5_coder_13
theorem w_J5_coder_14 {d : Nat} {h : AH} {Q : Rs → AH → Prop} {ls : List Value} {x : Int32} (hx : narrow .byte (.int x) = .int x) : Ru d 320 14 ls [.int x] h Q = Q (.inl (some (.int x))) h := r_iretx mc320 mr320 (by simp) hx dJ5_coder_14
theorem mc321 : mC 321 = cJ5_checkBoundsBeginEnd := rfl
theorem mo321 : mO 321 = 45 := rfl
theorem mr321 : mR 321 = none := rfl
theorem mh321 : mH 321 = [] := rfl
theorem e_J5_checkBoundsBeginEnd {d : Nat} {h : AH} {Q : Rs → AH → Prop} {x0 : Int32} {x1 : Int32} {x2 : Int32}  : Ca (d + 1) 321 [.int x0, .int x1, .int x2] h Q = Ru d 321 0 [.int x0, .int x1, .int x2] [] h Q := by rw [ca_ru (by decide) (Nat.le_of_ble_eq_true rfl)]; congr 1
theorem w_J5_checkBoundsBeginEnd_0 {d : Nat} {h : AH} {Q : Rs → AH → Prop} {st : List Value} {x : Int32} {l1 l2 : Value} : Ru d 321 0 [.int x, l1, l2] st h Q = Ru d 321 1 [.int x, l1, l2] (.int x :: st) h Q := r_iload_n mc321 rfl dJ5_checkBoundsBeginEnd_0
theorem w_J5_checkBoundsBeginEnd_1 {d : Nat} {h : AH} {Q : Rs → AH → Prop} {st : List Value} {x : Int32} {l0 l2 : Value} : Ru d 321 1 [l0, .int x, l2] st h Q = Ru d 321 2 [l0, .int x, l2] (.int x :: st) h Q := r_iload_n mc321 rfl dJ5_checkBoundsBeginEnd_1
theorem w_J5_checkBoundsBeginEnd_2 {d : Nat} {h : AH} {Q : Rs → AH → Prop} {st : List Value} {x : Int32} {l0 l1 : Value} : Ru d 321 2 [l0, l1, .int x] st h Q = Ru d 321 3 [l0, l1, .int x] (.int x :: st) h Q := r_iload_n mc321 rfl dJ5_checkBoundsBeginEnd_2
theorem w_J5_checkBoundsBeginEnd_3 {d : Nat} {h : AH} {Q : Rs → AH → Prop} {ls st : List Value} : Ru d 321 3 ls st h Q = Ru d 321 6 ls (va_rf (pdO (Ev h 53)) :: st) h Q := r_getsN mc321 mo321 rfl dJ5_checkBoundsBeginEnd_3
theorem w_J5_checkBoundsBeginEnd_6 {d : Nat} {h : AH} {Q : Rs → AH → Prop} {ls : List Value} {u0 u1 u2 u3 : Value} : Ru d 321 6 ls [u3, u2, u1, u0] h Q = Ca d 315 [u0, u1, u2, u3] h (Kn d 321 6 9 ls [] Q) := r_calS mc321 mo321 rfl rfl dJ5_checkBoundsBeginEnd_6 rfl (Nat.le_of_ble_eq_true rfl)
theorem w_J5_checkBoundsBeginEnd_9 {d : Nat} {h : AH} {Q : Rs → AH → Prop} {ls st : List Value} {u : Value} : Ru d 321 9 ls (u :: st) h Q = (nl u = true ∧ Ru d 321 10 ls st h Q) := r_pop mc321 dJ5_checkBoundsBeginEnd_9
theorem w_J5_checkBoundsBeginEnd_10 {d : Nat} {h : AH} {Q : Rs → AH → Prop} {ls : List Value} : Ru d 321 10 ls [] h Q = Q (.inl none) h := r_vret mc321 mr321 dJ5_checkBoundsBeginEnd_10
theorem mc322 : mC 322 = cJ5_charAt := rfl
theorem mo322 : mO 322 = 45 := rfl
theorem mr322 : mR 322 = (some .char) := rfl
theorem mh322 : mH 322 = [] := rfl
theorem e_J5_charAt {d : Nat} {h : AH} {Q : Rs → AH → Prop} {a0 : Nat} {x0 : Int32}  : Ca (d + 1) 322 [.ref a0, .int x0] h Q = Ru d 322 0 [.ref a0, .int x0] [] h Q := by rw [ca_ru (by decide) (Nat.le_of_ble_eq_true rfl)]; congr 1
theorem w_J5_charAt_0 {d : Nat} {h : AH} {Q : Rs → AH → Prop} {st : List Value} {a : Nat} {l1 : Value} : Ru d 322 0 [.ref a, l1] st h Q = Ru d 322 1 [.ref a, l1] (.ref a :: st) h Q := (r_aload_n mc322 rfl dJ5_charAt_0).trans (and_iff_right rfl |> propext)
theorem w_J5_charAt_1 {d : Nat} {h : AH} {Q : Rs → AH → Prop} {ls : List Value} {a : Nat} : Ru d 322 1 ls [.ref a] h Q = (Tg h a = 45 ∧ Ca d 318 [.ref a] h (Kn d 322 1 4 ls [] Q)) := r_calV1 mc322 mo322 rfl rfl dJ5_charAt_1 rfl (Nat.le_of_ble_eq_true rfl)
theorem w_J5_charAt_4 {d : Nat} {h : AH} {Q : Rs → AH → Prop} {ls st : List Value} {x : Int32} : Ru d 322 4 ls (.int x :: st) h Q = if x = 0 then Ru d 322 16 ls st h Q else Ru d 322 7 ls st h Q := r_if_eq mc322 dJ5_charAt_4 rfl
theorem w_J5_charAt_7 {d : Nat} {h : AH} {Q : Rs → AH → Prop} {st : List Value} {a : Nat} {l1 : Value} : Ru d 322 7 [.ref a, l1] st h Q = Ru d 322 8 [.ref a, l1] (.ref a :: st) h Q := (r_aload_n mc322 rfl dJ5_charAt_7).trans (and_iff_right rfl |> propext)
theorem w_J5_charAt_8 {d : Nat} {h : AH} {Q : Rs → AH → Prop} {ls st : List Value} {a : Nat} : Ru d 322 8 ls (.ref a :: st) h Q = (Tg h a = 45 ∧ Ru d 322 11 ls (va_rf (Fr h 200 a) :: st) h Q) := r_get1 (i := 0) (r_getR mc322 mo322 rfl rfl rfl rfl dJ5_charAt_8)
theorem w_J5_charAt_11 {d : Nat} {h : AH} {Q : Rs → AH → Prop} {st : List Value} {x : Int32} {l0 : Value} : Ru d 322 11 [l0, .int x] st h Q = Ru d 322 12 [l0, .int x] (.int x :: st) h Q := r_iload_n mc322 rfl dJ5_charAt_11
theorem w_J5_charAt_12 {d : Nat} {h : AH} {Q : Rs → AH → Prop} {ls : List Value} {u0 u1 : Value} : Ru d 322 12 ls [u1, u0] h Q = Ca d 327 [u0, u1] h (Kn d 322 12 15 ls [] Q) := r_calS mc322 mo322 rfl rfl dJ5_charAt_12 rfl (Nat.le_of_ble_eq_true rfl)
theorem w_J5_charAt_15 {d : Nat} {h : AH} {Q : Rs → AH → Prop} {ls : List Value} {x : Int32} (hx : narrow .char (.int x) = .int x) : Ru d 322 15 ls [.int x] h Q = Q (.inl (some (.int x))) h := r_iretx mc322 mr322 (by simp) hx dJ5_charAt_15
theorem w_J5_charAt_16 {d : Nat} {h : AH} {Q : Rs → AH → Prop} {st : List Value} {a : Nat} {l1 : Value} : Ru d 322 16 [.ref a, l1] st h Q = Ru d 322 17 [.ref a, l1] (.ref a :: st) h Q := (r_aload_n mc322 rfl dJ5_charAt_16).trans (and_iff_right rfl |> propext)
theorem w_J5_charAt_17 {d : Nat} {h : AH} {Q : Rs → AH → Prop} {ls st : List Value} {a : Nat} : Ru d 322 17 ls (.ref a :: st) h Q = (Tg h a = 45 ∧ Ru d 322 20 ls (va_rf (Fr h 200 a) :: st) h Q) := r_get1 (i := 0) (r_getR mc322 mo322 rfl rfl rfl rfl dJ5_charAt_17)
theorem w_J5_charAt_20 {d : Nat} {h : AH} {Q : Rs → AH → Prop} {st : List Value} {x : Int32} {l0 : Value} : Ru d 322 20 [l0, .int x] st h Q = Ru d 322 21 [l0, .int x] (.int x :: st) h Q := r_iload_n mc322 rfl dJ5_charAt_20
theorem w_J5_charAt_24 {d : Nat} {h : AH} {Q : Rs → AH → Prop} {ls : List Value} {x : Int32} (hx : narrow .char (.int x) = .int x) : Ru d 322 24 ls [.int x] h Q = Q (.inl (some (.int x))) h := r_iretx mc322 mr322 (by simp) hx dJ5_charAt_24
theorem mc323 : mC 323 = cJ5_checkIndex := rfl
theorem mo323 : mO 323 = 45 := rfl
theorem mr323 : mR 323 = none := rfl
theorem mh323 : mH 323 = [] := rfl
theorem e_J5_checkIndex {d : Nat} {h : AH} {Q : Rs → AH → Prop} {x0 : Int32} {x1 : Int32}  : Ca (d + 1) 323 [.int x0, .int x1] h Q = Ru d 323 0 [.int x0, .int x1] [] h Q := by rw [ca_ru (by decide) (Nat.le_of_ble_eq_true rfl)]; congr 1
theorem w_J5_checkIndex_0 {d : Nat} {h : AH} {Q : Rs → AH → Prop} {st : List Value} {x : Int32} {l1 : Value} : Ru d 323 0 [.int x, l1] st h Q = Ru d 323 1 [.int x, l1] (.int x :: st) h Q := r_iload_n mc323 rfl dJ5_checkIndex_0
theorem w_J5_checkIndex_1 {d : Nat} {h : AH} {Q : Rs → AH → Prop} {st : List Value} {x : Int32} {l0 : Value} : Ru d 323 1 [l0, .int x] st h Q = Ru d 323 2 [l0, .int x] (.int x :: st) h Q := r_iload_n mc323 rfl dJ5_checkIndex_1
theorem w_J5_checkIndex_2 {d : Nat} {h : AH} {Q : Rs → AH → Prop} {ls st : List Value} : Ru d 323 2 ls st h Q = Ru d 323 5 ls (va_rf (pdO (Ev h 53)) :: st) h Q := r_getsN mc323 mo323 rfl dJ5_checkIndex_2
theorem w_J5_checkIndex_5 {d : Nat} {h : AH} {Q : Rs → AH → Prop} {ls : List Value} {u0 u1 u2 : Value} : Ru d 323 5 ls [u2, u1, u0] h Q = Ca d 314 [u0, u1, u2] h (Kn d 323 5 8 ls [] Q) := r_calS mc323 mo323 rfl rfl dJ5_checkIndex_5 rfl (Nat.le_of_ble_eq_true rfl)
theorem w_J5_checkIndex_8 {d : Nat} {h : AH} {Q : Rs → AH → Prop} {ls st : List Value} {u : Value} : Ru d 323 8 ls (u :: st) h Q = (nl u = true ∧ Ru d 323 9 ls st h Q) := r_pop mc323 dJ5_checkIndex_8
theorem w_J5_checkIndex_9 {d : Nat} {h : AH} {Q : Rs → AH → Prop} {ls : List Value} : Ru d 323 9 ls [] h Q = Q (.inl none) h := r_vret mc323 mr323 dJ5_checkIndex_9
theorem mc324 : mC 324 = cJ6_indexOf := rfl
theorem mo324 : mO 324 = 46 := rfl
theorem mr324 : mR 324 = (some .int) := rfl
theorem mh324 : mH 324 = [] := rfl
theorem e_J6_indexOf {d : Nat} {h : AH} {Q : Rs → AH → Prop} {v0 : Value} {x1 : Int32} {x2 : Int32} {x3 : Int32} (h0 : nl v0 = true) : Ca (d + 1) 324 [v0, .int x1, .int x2, .int x3] h Q = Ru d 324 0 [v0, .int x1, .int x2, .int x3] [] h Q := by rw [ca_ru (by decide) (by rw [show (slA [v0, .int x1, .int x2, .int x3]).length = 4 by simp [slA, nl_int, nl_ref, nl_long, h0]]; exact Nat.le_of_ble_eq_true rfl)]; congr 1; simp [ent, slA, h0]; rfl
theorem w_J6_indexOf_0 {d : Nat} {h : AH} {Q : Rs → AH → Prop} {st : List Value} {x : Int32} {l0 l2 l3 : Value} : Ru d 324 0 [l0, .int x, l2, l3] st h Q = Ru d 324 1 [l0, .int x, l2, l3] (.int x :: st) h Q := r_iload_n mc324 rfl dJ6_indexOf_0
theorem w_J6_indexOf_1 {d : Nat} {h : AH} {Q : Rs → AH → Prop} {ls : List Value} {u0 : Value} : Ru d 324 1 ls [u0] h Q = Ca d 325 [u0] h (Kn d 324 1 4 ls [] Q) := r_calS mc324 mo324 rfl rfl dJ6_indexOf_1 rfl (Nat.le_of_ble_eq_true rfl)
theorem w_J6_indexOf_4 {d : Nat} {h : AH} {Q : Rs → AH → Prop} {ls st : List Value} {x : Int32} : Ru d 324 4 ls (.int x :: st) h Q = if x = 0 then Ru d 324 7 ls st h Q else Ru d 324 9 ls st h Q := r_if_ne mc324 dJ6_indexOf_4 rfl
theorem w_J6_indexOf_7 {d : Nat} {h : AH} {Q : Rs → AH → Prop} {ls st : List Value} : Ru d 324 7 ls st h Q = Ru d 324 8 ls (.int (-1) :: st) h Q := r_iconst mc324 ic_m1 dJ6_indexOf_7
theorem w_J6_indexOf_8 {d : Nat} {h : AH} {Q : Rs → AH → Prop} {ls : List Value} {x : Int32} : Ru d 324 8 ls [.int x] h Q = Q (.inl (some (.int x))) h := r_ireti mc324 mr324 dJ6_indexOf_8
theorem w_J6_indexOf_9 {d : Nat} {h : AH} {Q : Rs → AH → Prop} {st : List Value} {x : Int32} {l0 l1 l3 : Value} : Ru d 324 9 [l0, l1, .int x, l3] st h Q = Ru d 324 10 [l0, l1, .int x, l3] (.int x :: st) h Q := r_iload_n mc324 rfl dJ6_indexOf_9
theorem w_J6_indexOf_10 {d : Nat} {h : AH} {Q : Rs → AH → Prop} {ls st : List Value} : Ru d 324 10 ls st h Q = Ru d 324 11 ls (.int 0 :: st) h Q := r_iconst mc324 ic_0 dJ6_indexOf_10
theorem w_J6_indexOf_11 {d : Nat} {h : AH} {Q : Rs → AH → Prop} {ls : List Value} {u0 u1 : Value} : Ru d 324 11 ls [u1, u0] h Q = Ca d 328 [u0, u1] h (Kn d 324 11 14 ls [] Q) := r_calS mc324 mo324 rfl rfl dJ6_indexOf_11 rfl (Nat.le_of_ble_eq_true rfl)
theorem w_J6_indexOf_14 {d : Nat} {h : AH} {Q : Rs → AH → Prop} {st : List Value} {x : Int32} {l0 l1 l2 l3 : Value} : Ru d 324 14 [l0, l1, l2, l3] (.int x :: st) h Q = (nl l1 = true ∧ Ru d 324 15 [l0, l1, .int x, l3] st h Q) := r_istore_n mc324 (Nat.le_of_ble_eq_true rfl) rfl rfl dJ6_indexOf_14
theorem w_J6_indexOf_15 {d : Nat} {h : AH} {Q : Rs → AH → Prop} {st : List Value} {x : Int32} {l0 l1 l2 : Value} : Ru d 324 15 [l0, l1, l2, .int x] st h Q = Ru d 324 16 [l0, l1, l2, .int x] (.int x :: st) h Q := r_iload_n mc324 rfl dJ6_indexOf_15
theorem w_J6_indexOf_16 {d : Nat} {h : AH} {Q : Rs → AH → Prop} {st : List Value} {l0 l1 l2 l3 : Value} : Ru d 324 16 [l0, l1, l2, l3] st h Q = (isR l0 = true ∧ Ru d 324 17 [l0, l1, l2, l3] (l0 :: st) h Q) := r_aload_n mc324 rfl dJ6_indexOf_16
theorem w_J6_indexOf_17 {d : Nat} {h : AH} {Q : Rs → AH → Prop} {ls st : List Value} {a : Nat} : Ru d 324 17 ls (.ref a :: st) h Q = (tin h a 1000 6000 ∧ Ru d 324 18 ls (.int (Int32.ofNat (An h a)) :: st) h Q) := r_alen mc324 dJ6_indexOf_17
theorem w_J6_indexOf_18 {d : Nat} {h : AH} {Q : Rs → AH → Prop} {ls : List Value} {u0 u1 : Value} : Ru d 324 18 ls [u1, u0] h Q = Ca d 329 [u0, u1] h (Kn d 324 18 21 ls [] Q) := r_calS mc324 mo324 rfl rfl dJ6_indexOf_18 rfl (Nat.le_of_ble_eq_true rfl)
theorem w_J6_indexOf_21 {d : Nat} {h : AH} {Q : Rs → AH → Prop} {st : List Value} {x : Int32} {l0 l1 l2 l3 : Value} : Ru d 324 21 [l0, l1, l2, l3] (.int x :: st) h Q = (nl l2 = true ∧ Ru d 324 22 [l0, l1, l2, .int x] st h Q) := r_istore_n mc324 (Nat.le_of_ble_eq_true rfl) rfl rfl dJ6_indexOf_21
theorem w_J6_indexOf_22 {d : Nat} {h : AH} {Q : Rs → AH → Prop} {st : List Value} {x : Int32} {l0 l1 l3 : Value} : Ru d 324 22 [l0, l1, .int x, l3] st h Q = Ru d 324 23 [l0, l1, .int x, l3] (.int x :: st) h Q := r_iload_n mc324 rfl dJ6_indexOf_22
theorem w_J6_indexOf_23 {d : Nat} {h : AH} {Q : Rs → AH → Prop} {st : List Value} {x : Int32} {l0 l1 l2 : Value} : Ru d 324 23 [l0, l1, l2, .int x] st h Q = Ru d 324 24 [l0, l1, l2, .int x] (.int x :: st) h Q := r_iload_n mc324 rfl dJ6_indexOf_23
theorem w_J6_indexOf_24 {d : Nat} {h : AH} {Q : Rs → AH → Prop} {ls st : List Value} {x y : Int32} : Ru d 324 24 ls (.int y :: .int x :: st) h Q = if x < y then Ru d 324 29 ls st h Q else Ru d 324 27 ls st h Q := r_icmp_lt mc324 dJ6_indexOf_24 rfl
theorem w_J6_indexOf_27 {d : Nat} {h : AH} {Q : Rs → AH → Prop} {ls st : List Value} : Ru d 324 27 ls st h Q = Ru d 324 28 ls (.int (-1) :: st) h Q := r_iconst mc324 ic_m1 dJ6_indexOf_27
theorem w_J6_indexOf_28 {d : Nat} {h : AH} {Q : Rs → AH → Prop} {ls : List Value} {x : Int32} : Ru d 324 28 ls [.int x] h Q = Q (.inl (some (.int x))) h := r_ireti mc324 mr324 dJ6_indexOf_28
theorem w_J6_indexOf_29 {d : Nat} {h : AH} {Q : Rs → AH → Prop} {st : List Value} {l0 l1 l2 l3 : Value} : Ru d 324 29 [l0, l1, l2, l3] st h Q = (isR l0 = true ∧ Ru d 324 30 [l0, l1, l2, l3] (l0 :: st) h Q) := r_aload_n mc324 rfl dJ6_indexOf_29
theorem w_J6_indexOf_30 {d : Nat} {h : AH} {Q : Rs → AH → Prop} {st : List Value} {x : Int32} {l0 l2 l3 : Value} : Ru d 324 30 [l0, .int x, l2, l3] st h Q = Ru d 324 31 [l0, .int x, l2, l3] (.int x :: st) h Q := r_iload_n mc324 rfl dJ6_indexOf_30
theorem w_J6_indexOf_31 {d : Nat} {h : AH} {Q : Rs → AH → Prop} {st : List Value} {x : Int32} {l0 l1 l3 : Value} : Ru d 324 31 [l0, l1, .int x, l3] st h Q = Ru d 324 32 [l0, l1, .int x, l3] (.int x :: st) h Q := r_iload_n mc324 rfl dJ6_indexOf_31
theorem w_J6_indexOf_32 {d : Nat} {h : AH} {Q : Rs → AH → Prop} {st : List Value} {x : Int32} {l0 l1 l2 : Value} : Ru d 324 32 [l0, l1, l2, .int x] st h Q = Ru d 324 33 [l0, l1, l2, .int x] (.int x :: st) h Q := r_iload_n mc324 rfl dJ6_indexOf_32
theorem w_J6_indexOf_33 {d : Nat} {h : AH} {Q : Rs → AH → Prop} {ls : List Value} {u0 u1 u2 u3 : Value} : Ru d 324 33 ls [u3, u2, u1, u0] h Q = Ca d 326 [u0, u1, u2, u3] h (Kn d 324 33 36 ls [] Q) := r_calS mc324 mo324 rfl rfl dJ6_indexOf_33 rfl (Nat.le_of_ble_eq_true rfl)
theorem w_J6_indexOf_36 {d : Nat} {h : AH} {Q : Rs → AH → Prop} {ls : List Value} {x : Int32} : Ru d 324 36 ls [.int x] h Q = Q (.inl (some (.int x))) h := r_ireti mc324 mr324 dJ6_indexOf_36
theorem mc325 : mC 325 = cJ6_canEncode := rfl
theorem mo325 : mO 325 = 46 := rfl
theorem mr325 : mR 325 = (some .boolean) := rfl
theorem mh325 : mH 325 = [] := rfl
theorem e_J6_canEncode {d : Nat} {h : AH} {Q : Rs → AH → Prop} {x0 : Int32}  : Ca (d + 1) 325 [.int x0] h Q = Ru d 325 0 [.int x0] [] h Q := by rw [ca_ru (by decide) (Nat.le_of_ble_eq_true rfl)]; congr 1
theorem w_J6_canEncode_0 {d : Nat} {h : AH} {Q : Rs → AH → Prop} {st : List Value} {x : Int32} : Ru d 325 0 [.int x] st h Q = Ru d 325 1 [.int x] (.int x :: st) h Q := r_iload_n mc325 rfl dJ6_canEncode_0
theorem w_J6_canEncode_1 {d : Nat} {h : AH} {Q : Rs → AH → Prop} {ls st : List Value} {x : Int32} : Ru d 325 1 ls (.int x :: st) h Q = if x < 0 then Ru d 325 15 ls st h Q else Ru d 325 4 ls st h Q := r_if_lt mc325 dJ6_canEncode_1 rfl
theorem w_J6_canEncode_4 {d : Nat} {h : AH} {Q : Rs → AH → Prop} {st : List Value} {x : Int32} : Ru d 325 4 [.int x] st h Q = Ru d 325 5 [.int x] (.int x :: st) h Q := r_iload_n mc325 rfl dJ6_canEncode_4
theorem w_J6_canEncode_5 {d : Nat} {h : AH} {Q : Rs → AH → Prop} {ls st : List Value} : Ru d 325 5 ls st h Q = Ru d 325 8 ls (.int 255 :: st) h Q := r_sipush mc325 sc_255 dJ6_canEncode_5
theorem w_J6_canEncode_8 {d : Nat} {h : AH} {Q : Rs → AH → Prop} {ls st : List Value} {x y : Int32} : Ru d 325 8 ls (.int y :: .int x :: st) h Q = if y < x then Ru d 325 15 ls st h Q else Ru d 325 11 ls st h Q := r_icmp_gt mc325 dJ6_canEncode_8 rfl
theorem w_J6_canEncode_11 {d : Nat} {h : AH} {Q : Rs → AH → Prop} {ls st : List Value} : Ru d 325 11 ls st h Q = Ru d 325 12 ls (.int 1 :: st) h Q := r_iconst mc325 ic_1 dJ6_canEncode_11
theorem w_J6_canEncode_12 {d : Nat} {h : AH} {Q : Rs → AH → Prop} {ls st : List Value} : Ru d 325 12 ls st h Q = Ru d 325 16 ls st h Q := r_goto mc325 dJ6_canEncode_12 rfl
theorem w_J6_canEncode_15 {d : Nat} {h : AH} {Q : Rs → AH → Prop} {ls st : List Value} : Ru d 325 15 ls st h Q = Ru d 325 16 ls (.int 0 :: st) h Q := r_iconst mc325 ic_0 dJ6_canEncode_15
theorem w_J6_canEncode_16 {d : Nat} {h : AH} {Q : Rs → AH → Prop} {ls : List Value} {x : Int32} : Ru d 325 16 ls [.int x] h Q = ((x = 0 ∨ x = 1) ∧ Q (.inl (some (.int x))) h) := r_iretz mc325 mr325 dJ6_canEncode_16
theorem mc326 : mC 326 = cJ6_indexOfChar := rfl
theorem mo326 : mO 326 = 46 := rfl
theorem mr326 : mR 326 = (some .int) := rfl
theorem mh326 : mH 326 = [] := rfl
theorem e_J6_indexOfChar {d : Nat} {h : AH} {Q : Rs → AH → Prop} {v0 : Value} {x1 : Int32} {x2 : Int32} {x3 : Int32} (h0 : nl v0 = true) : Ca (d + 1) 326 [v0, .int x1, .int x2, .int x3] h Q = Ru d 326 0 [v0, .int x1, .int x2, .int x3, un, un] [] h Q := by rw [ca_ru (by decide) (by rw [show (slA [v0, .int x1, .int x2, .int x3]).length = 4 by simp [slA, nl_int, nl_ref, nl_long, h0]]; exact Nat.le_of_ble_eq_true rfl)]; congr 1; simp [ent, slA, h0]; rfl
theorem w_J6_indexOfChar_0 {d : Nat} {h : AH} {Q : Rs → AH → Prop} {st : List Value} {x : Int32} {l0 l2 l3 l4 l5 : Value} : Ru d 326 0 [l0, .int x, l2, l3, l4, l5] st h Q = Ru d 326 1 [l0, .int x, l2, l3, l4, l5] (.int x :: st) h Q := r_iload_n mc326 rfl dJ6_indexOfChar_0
theorem w_J6_indexOfChar_1 {d : Nat} {h : AH} {Q : Rs → AH → Prop} {ls st : List Value} {x : Int32} : Ru d 326 1 ls (.int x :: st) h Q = Ru d 326 2 ls (.int x.toInt8.toInt32 :: st) h Q := r_i2b mc326 dJ6_indexOfChar_1
theorem w_J6_indexOfChar_2 {d : Nat} {h : AH} {Q : Rs → AH → Prop} {st : List Value} {x : Int32} {l0 l1 l2 l3 l4 l5 : Value} : Ru d 326 2 [l0, l1, l2, l3, l4, l5] (.int x :: st) h Q = (nl l3 = true ∧ Ru d 326 4 [l0, l1, l2, l3, .int x, l5] st h Q) := r_istore mc326 (Nat.le_of_ble_eq_true rfl) rfl rfl dJ6_indexOfChar_2
theorem w_J6_indexOfChar_4 {d : Nat} {h : AH} {Q : Rs → AH → Prop} {st : List Value} {x : Int32} {l0 l1 l3 l4 l5 : Value} : Ru d 326 4 [l0, l1, .int x, l3, l4, l5] st h Q = Ru d 326 5 [l0, l1, .int x, l3, l4, l5] (.int x :: st) h Q := r_iload_n mc326 rfl dJ6_indexOfChar_4
theorem w_J6_indexOfChar_5 {d : Nat} {h : AH} {Q : Rs → AH → Prop} {st : List Value} {x : Int32} {l0 l1 l2 l3 l4 l5 : Value} : Ru d 326 5 [l0, l1, l2, l3, l4, l5] (.int x :: st) h Q = (nl l4 = true ∧ Ru d 326 7 [l0, l1, l2, l3, l4, .int x] st h Q) := r_istore mc326 (Nat.le_of_ble_eq_true rfl) rfl rfl dJ6_indexOfChar_5
theorem w_J6_indexOfChar_7 {d : Nat} {h : AH} {Q : Rs → AH → Prop} {st : List Value} {x : Int32} {l0 l1 l2 l3 l4 : Value} : Ru d 326 7 [l0, l1, l2, l3, l4, .int x] st h Q = Ru d 326 9 [l0, l1, l2, l3, l4, .int x] (.int x :: st) h Q := r_iload mc326 rfl dJ6_indexOfChar_7
theorem w_J6_indexOfChar_9 {d : Nat} {h : AH} {Q : Rs → AH → Prop} {st : List Value} {x : Int32} {l0 l1 l2 l4 l5 : Value} : Ru d 326 9 [l0, l1, l2, .int x, l4, l5] st h Q = Ru d 326 10 [l0, l1, l2, .int x, l4, l5] (.int x :: st) h Q := r_iload_n mc326 rfl dJ6_indexOfChar_9
theorem w_J6_indexOfChar_10 {d : Nat} {h : AH} {Q : Rs → AH → Prop} {ls st : List Value} {x y : Int32} : Ru d 326 10 ls (.int y :: .int x :: st) h Q = if x < y then Ru d 326 13 ls st h Q else Ru d 326 31 ls st h Q := r_icmp_ge mc326 dJ6_indexOfChar_10 rfl
theorem w_J6_indexOfChar_13 {d : Nat} {h : AH} {Q : Rs → AH → Prop} {st : List Value} {l0 l1 l2 l3 l4 l5 : Value} : Ru d 326 13 [l0, l1, l2, l3, l4, l5] st h Q = (isR l0 = true ∧ Ru d 326 14 [l0, l1, l2, l3, l4, l5] (l0 :: st) h Q) := r_aload_n mc326 rfl dJ6_indexOfChar_13
theorem w_J6_indexOfChar_14 {d : Nat} {h : AH} {Q : Rs → AH → Prop} {st : List Value} {x : Int32} {l0 l1 l2 l3 l4 : Value} : Ru d 326 14 [l0, l1, l2, l3, l4, .int x] st h Q = Ru d 326 16 [l0, l1, l2, l3, l4, .int x] (.int x :: st) h Q := r_iload mc326 rfl dJ6_indexOfChar_14
theorem w_J6_indexOfChar_16 {d : Nat} {h : AH} {Q : Rs → AH → Prop} {ls st : List Value} {a : Nat} {x : Int32} : Ru d 326 16 ls (.int x :: .ref a :: st) h Q = (((tin h a 2000 3000 ∨ tin h a 4000 5000) ∧ inA x (An h a)) ∧ Ru d 326 17 ls (.int (Ai h a x.toNatClampNeg) :: st) h Q) := r_baload mc326 dJ6_indexOfChar_16
theorem w_J6_indexOfChar_17 {d : Nat} {h : AH} {Q : Rs → AH → Prop} {st : List Value} {x : Int32} {l0 l1 l2 l3 l5 : Value} : Ru d 326 17 [l0, l1, l2, l3, .int x, l5] st h Q = Ru d 326 19 [l0, l1, l2, l3, .int x, l5] (.int x :: st) h Q := r_iload mc326 rfl dJ6_indexOfChar_17
theorem w_J6_indexOfChar_19 {d : Nat} {h : AH} {Q : Rs → AH → Prop} {ls st : List Value} {x y : Int32} : Ru d 326 19 ls (.int y :: .int x :: st) h Q = if x = y then Ru d 326 22 ls st h Q else Ru d 326 25 ls st h Q := r_icmp_ne mc326 dJ6_indexOfChar_19 rfl
theorem w_J6_indexOfChar_22 {d : Nat} {h : AH} {Q : Rs → AH → Prop} {st : List Value} {x : Int32} {l0 l1 l2 l3 l4 : Value} : Ru d 326 22 [l0, l1, l2, l3, l4, .int x] st h Q = Ru d 326 24 [l0, l1, l2, l3, l4, .int x] (.int x :: st) h Q := r_iload mc326 rfl dJ6_indexOfChar_22
theorem w_J6_indexOfChar_24 {d : Nat} {h : AH} {Q : Rs → AH → Prop} {ls : List Value} {x : Int32} : Ru d 326 24 ls [.int x] h Q = Q (.inl (some (.int x))) h := r_ireti mc326 mr326 dJ6_indexOfChar_24
theorem w_J6_indexOfChar_25 {d : Nat} {h : AH} {Q : Rs → AH → Prop} {st : List Value} {x : Int32} {l0 l1 l2 l3 l4 : Value} : Ru d 326 25 [l0, l1, l2, l3, l4, .int x] st h Q = (nl l4 = true ∧ Ru d 326 28 [l0, l1, l2, l3, l4, .int (x + 1)] st h Q) := r_iinc mc326 rfl rfl ic_1 rfl dJ6_indexOfChar_25
theorem w_J6_indexOfChar_28 {d : Nat} {h : AH} {Q : Rs → AH → Prop} {ls st : List Value} : Ru d 326 28 ls st h Q = Ru d 326 7 ls st h Q := r_goto mc326 dJ6_indexOfChar_28 rfl
theorem w_J6_indexOfChar_31 {d : Nat} {h : AH} {Q : Rs → AH → Prop} {ls st : List Value} : Ru d 326 31 ls st h Q = Ru d 326 32 ls (.int (-1) :: st) h Q := r_iconst mc326 ic_m1 dJ6_indexOfChar_31
theorem w_J6_indexOfChar_32 {d : Nat} {h : AH} {Q : Rs → AH → Prop} {ls : List Value} {x : Int32} : Ru d 326 32 ls [.int x] h Q = Q (.inl (some (.int x))) h := r_ireti mc326 mr326 dJ6_indexOfChar_32
theorem mc327 : mC 327 = cJ6_charAt := rfl
theorem mo327 : mO 327 = 46 := rfl
theorem mr327 : mR 327 = (some .char) := rfl
theorem mh327 : mH 327 = [] := rfl
theorem e_J6_charAt {d : Nat} {h : AH} {Q : Rs → AH → Prop} {v0 : Value} {x1 : Int32} (h0 : nl v0 = true) : Ca (d + 1) 327 [v0, .int x1] h Q = Ru d 327 0 [v0, .int x1] [] h Q := by rw [ca_ru (by decide) (by rw [show (slA [v0, .int x1]).length = 2 by simp [slA, nl_int, nl_ref, nl_long, h0]]; exact Nat.le_of_ble_eq_true rfl)]; congr 1; simp [ent, slA, h0]; rfl
theorem w_J6_charAt_0 {d : Nat} {h : AH} {Q : Rs → AH → Prop} {st : List Value} {x : Int32} {l0 : Value} : Ru d 327 0 [l0, .int x] st h Q = Ru d 327 1 [l0, .int x] (.int x :: st) h Q := r_iload_n mc327 rfl dJ6_charAt_0
theorem w_J6_charAt_1 {d : Nat} {h : AH} {Q : Rs → AH → Prop} {st : List Value} {l0 l1 : Value} : Ru d 327 1 [l0, l1] st h Q = (isR l0 = true ∧ Ru d 327 2 [l0, l1] (l0 :: st) h Q) := r_aload_n mc327 rfl dJ6_charAt_1
theorem w_J6_charAt_2 {d : Nat} {h : AH} {Q : Rs → AH → Prop} {ls st : List Value} {a : Nat} : Ru d 327 2 ls (.ref a :: st) h Q = (tin h a 1000 6000 ∧ Ru d 327 3 ls (.int (Int32.ofNat (An h a)) :: st) h Q) := r_alen mc327 dJ6_charAt_2
theorem w_J6_charAt_3 {d : Nat} {h : AH} {Q : Rs → AH → Prop} {ls : List Value} {u0 u1 : Value} : Ru d 327 3 ls [u1, u0] h Q = Ca d 323 [u0, u1] h (Kn d 327 3 6 ls [] Q) := r_calS mc327 mo327 rfl rfl dJ6_charAt_3 rfl (Nat.le_of_ble_eq_true rfl)
theorem w_J6_charAt_6 {d : Nat} {h : AH} {Q : Rs → AH → Prop} {st : List Value} {l0 l1 : Value} : Ru d 327 6 [l0, l1] st h Q = (isR l0 = true ∧ Ru d 327 7 [l0, l1] (l0 :: st) h Q) := r_aload_n mc327 rfl dJ6_charAt_6
theorem w_J6_charAt_7 {d : Nat} {h : AH} {Q : Rs → AH → Prop} {st : List Value} {x : Int32} {l0 : Value} : Ru d 327 7 [l0, .int x] st h Q = Ru d 327 8 [l0, .int x] (.int x :: st) h Q := r_iload_n mc327 rfl dJ6_charAt_7
theorem w_J6_charAt_8 {d : Nat} {h : AH} {Q : Rs → AH → Prop} {ls st : List Value} {a : Nat} {x : Int32} : Ru d 327 8 ls (.int x :: .ref a :: st) h Q = (((tin h a 2000 3000 ∨ tin h a 4000 5000) ∧ inA x (An h a)) ∧ Ru d 327 9 ls (.int (Ai h a x.toNatClampNeg) :: st) h Q) := r_baload mc327 dJ6_charAt_8
theorem w_J6_charAt_9 {d : Nat} {h : AH} {Q : Rs → AH → Prop} {ls st : List Value} : Ru d 327 9 ls st h Q = Ru d 327 12 ls (.int 255 :: st) h Q := r_sipush mc327 sc_255 dJ6_charAt_9
theorem w_J6_charAt_12 {d : Nat} {h : AH} {Q : Rs → AH → Prop} {ls st : List Value} {x y : Int32} : Ru d 327 12 ls (.int y :: .int x :: st) h Q = Ru d 327 13 ls (.int (x &&& y) :: st) h Q := r_iand mc327 dJ6_charAt_12
theorem w_J6_charAt_13 {d : Nat} {h : AH} {Q : Rs → AH → Prop} {ls st : List Value} {x : Int32} : Ru d 327 13 ls (.int x :: st) h Q = Ru d 327 14 ls (.int (x.toUInt32 % 65536).toInt32 :: st) h Q := r_i2c mc327 dJ6_charAt_13
theorem w_J6_charAt_14 {d : Nat} {h : AH} {Q : Rs → AH → Prop} {ls : List Value} {x : Int32} (hx : narrow .char (.int x) = .int x) : Ru d 327 14 ls [.int x] h Q = Q (.inl (some (.int x))) h := r_iretx mc327 mr327 (by simp) hx dJ6_charAt_14
theorem mc328 : mC 328 = cJ7_max := rfl
theorem mo328 : mO 328 = 47 := rfl
theorem mr328 : mR 328 = (some .int) := rfl
theorem mh328 : mH 328 = [] := rfl
theorem e_J7_max {d : Nat} {h : AH} {Q : Rs → AH → Prop} {x0 : Int32} {x1 : Int32}  : Ca (d + 1) 328 [.int x0, .int x1] h Q = Ru d 328 0 [.int x0, .int x1] [] h Q := by rw [ca_ru (by decide) (Nat.le_of_ble_eq_true rfl)]; congr 1
theorem w_J7_max_0 {d : Nat} {h : AH} {Q : Rs → AH → Prop} {st : List Value} {x : Int32} {l1 : Value} : Ru d 328 0 [.int x, l1] st h Q = Ru d 328 1 [.int x, l1] (.int x :: st) h Q := r_iload_n mc328 rfl dJ7_max_0
theorem w_J7_max_1 {d : Nat} {h : AH} {Q : Rs → AH → Prop} {st : List Value} {x : Int32} {l0 : Value} : Ru d 328 1 [l0, .int x] st h Q = Ru d 328 2 [l0, .int x] (.int x :: st) h Q := r_iload_n mc328 rfl dJ7_max_1
theorem w_J7_max_2 {d : Nat} {h : AH} {Q : Rs → AH → Prop} {ls st : List Value} {x y : Int32} : Ru d 328 2 ls (.int y :: .int x :: st) h Q = if x < y then Ru d 328 9 ls st h Q else Ru d 328 5 ls st h Q := r_icmp_lt mc328 dJ7_max_2 rfl
theorem w_J7_max_5 {d : Nat} {h : AH} {Q : Rs → AH → Prop} {st : List Value} {x : Int32} {l1 : Value} : Ru d 328 5 [.int x, l1] st h Q = Ru d 328 6 [.int x, l1] (.int x :: st) h Q := r_iload_n mc328 rfl dJ7_max_5
theorem w_J7_max_6 {d : Nat} {h : AH} {Q : Rs → AH → Prop} {ls st : List Value} : Ru d 328 6 ls st h Q = Ru d 328 10 ls st h Q := r_goto mc328 dJ7_max_6 rfl
theorem w_J7_max_9 {d : Nat} {h : AH} {Q : Rs → AH → Prop} {st : List Value} {x : Int32} {l0 : Value} : Ru d 328 9 [l0, .int x] st h Q = Ru d 328 10 [l0, .int x] (.int x :: st) h Q := r_iload_n mc328 rfl dJ7_max_9
theorem w_J7_max_10 {d : Nat} {h : AH} {Q : Rs → AH → Prop} {ls : List Value} {x : Int32} : Ru d 328 10 ls [.int x] h Q = Q (.inl (some (.int x))) h := r_ireti mc328 mr328 dJ7_max_10
theorem mc329 : mC 329 = cJ7_min := rfl
theorem mo329 : mO 329 = 47 := rfl
theorem mr329 : mR 329 = (some .int) := rfl
theorem mh329 : mH 329 = [] := rfl
theorem e_J7_min {d : Nat} {h : AH} {Q : Rs → AH → Prop} {x0 : Int32} {x1 : Int32}  : Ca (d + 1) 329 [.int x0, .int x1] h Q = Ru d 329 0 [.int x0, .int x1] [] h Q := by rw [ca_ru (by decide) (Nat.le_of_ble_eq_true rfl)]; congr 1
theorem w_J7_min_0 {d : Nat} {h : AH} {Q : Rs → AH → Prop} {st : List Value} {x : Int32} {l1 : Value} : Ru d 329 0 [.int x, l1] st h Q = Ru d 329 1 [.int x, l1] (.int x :: st) h Q := r_iload_n mc329 rfl dJ7_min_0
theorem w_J7_min_1 {d : Nat} {h : AH} {Q : Rs → AH → Prop} {st : List Value} {x : Int32} {l0 : Value} : Ru d 329 1 [l0, .int x] st h Q = Ru d 329 2 [l0, .int x] (.int x :: st) h Q := r_iload_n mc329 rfl dJ7_min_1
theorem w_J7_min_2 {d : Nat} {h : AH} {Q : Rs → AH → Prop} {ls st : List Value} {x y : Int32} : Ru d 329 2 ls (.int y :: .int x :: st) h Q = if y < x then Ru d 329 9 ls st h Q else Ru d 329 5 ls st h Q := r_icmp_gt mc329 dJ7_min_2 rfl
theorem w_J7_min_5 {d : Nat} {h : AH} {Q : Rs → AH → Prop} {st : List Value} {x : Int32} {l1 : Value} : Ru d 329 5 [.int x, l1] st h Q = Ru d 329 6 [.int x, l1] (.int x :: st) h Q := r_iload_n mc329 rfl dJ7_min_5
theorem w_J7_min_6 {d : Nat} {h : AH} {Q : Rs → AH → Prop} {ls st : List Value} : Ru d 329 6 ls st h Q = Ru d 329 10 ls st h Q := r_goto mc329 dJ7_min_6 rfl
theorem w_J7_min_9 {d : Nat} {h : AH} {Q : Rs → AH → Prop} {st : List Value} {x : Int32} {l0 : Value} : Ru d 329 9 [l0, .int x] st h Q = Ru d 329 10 [l0, .int x] (.int x :: st) h Q := r_iload_n mc329 rfl dJ7_min_9
theorem w_J7_min_10 {d : Nat} {h : AH} {Q : Rs → AH → Prop} {ls : List Value} {x : Int32} : Ru d 329 10 ls [.int x] h Q = Q (.inl (some (.int x))) h := r_ireti mc329 mr329 dJ7_min_10
theorem mc330 : mC 330 = cJ7_abs := rfl
theorem mo330 : mO 330 = 47 := rfl
theorem mr330 : mR 330 = (some .int) := rfl
theorem mh330 : mH 330 = [] := rfl
theorem e_J7_abs {d : Nat} {h : AH} {Q : Rs → AH → Prop} {x0 : Int32}  : Ca (d + 1) 330 [.int x0] h Q = Ru d 330 0 [.int x0] [] h Q := by rw [ca_ru (by decide) (Nat.le_of_ble_eq_true rfl)]; congr 1
theorem w_J7_abs_0 {d : Nat} {h : AH} {Q : Rs → AH → Prop} {st : List Value} {x : Int32} : Ru d 330 0 [.int x] st h Q = Ru d 330 1 [.int x] (.int x :: st) h Q := r_iload_n mc330 rfl dJ7_abs_0
theorem w_J7_abs_1 {d : Nat} {h : AH} {Q : Rs → AH → Prop} {ls st : List Value} {x : Int32} : Ru d 330 1 ls (.int x :: st) h Q = if x < 0 then Ru d 330 4 ls st h Q else Ru d 330 9 ls st h Q := r_if_ge mc330 dJ7_abs_1 rfl
theorem w_J7_abs_4 {d : Nat} {h : AH} {Q : Rs → AH → Prop} {st : List Value} {x : Int32} : Ru d 330 4 [.int x] st h Q = Ru d 330 5 [.int x] (.int x :: st) h Q := r_iload_n mc330 rfl dJ7_abs_4
theorem w_J7_abs_5 {d : Nat} {h : AH} {Q : Rs → AH → Prop} {ls st : List Value} {x : Int32} : Ru d 330 5 ls (.int x :: st) h Q = Ru d 330 6 ls (.int (-x) :: st) h Q := r_ineg mc330 dJ7_abs_5
theorem w_J7_abs_6 {d : Nat} {h : AH} {Q : Rs → AH → Prop} {ls st : List Value} : Ru d 330 6 ls st h Q = Ru d 330 10 ls st h Q := r_goto mc330 dJ7_abs_6 rfl
theorem w_J7_abs_9 {d : Nat} {h : AH} {Q : Rs → AH → Prop} {st : List Value} {x : Int32} : Ru d 330 9 [.int x] st h Q = Ru d 330 10 [.int x] (.int x :: st) h Q := r_iload_n mc330 rfl dJ7_abs_9
theorem w_J7_abs_10 {d : Nat} {h : AH} {Q : Rs → AH → Prop} {ls : List Value} {x : Int32} : Ru d 330 10 ls [.int x] h Q = Q (.inl (some (.int x))) h := r_ireti mc330 mr330 dJ7_abs_10
theorem mc331 : mC 331 = cJ11_init := rfl
theorem mo331 : mO 331 = 51 := rfl
theorem mr331 : mR 331 = none := rfl
theorem mh331 : mH 331 = [] := rfl
theorem e_J11_init {d : Nat} {h : AH} {Q : Rs → AH → Prop} {a0 : Nat}  : Ca (d + 1) 331 [.ref a0] h Q = Ru d 331 0 [.ref a0] [] h Q := by rw [ca_ru (by decide) (Nat.le_of_ble_eq_true rfl)]; congr 1
theorem w_J11_init_0 {d : Nat} {h : AH} {Q : Rs → AH → Prop} {st : List Value} {a : Nat} : Ru d 331 0 [.ref a] st h Q = Ru d 331 1 [.ref a] (.ref a :: st) h Q := (r_aload_n mc331 rfl dJ11_init_0).trans (and_iff_right rfl |> propext)
theorem w_J11_init_1 {d : Nat} {h : AH} {Q : Rs → AH → Prop} {ls : List Value} {a : Nat} : Ru d 331 1 ls [.ref a] h Q = Ca d 902 [.ref a] h (Kn d 331 1 4 ls [] Q) := r_calI mc331 mo331 rfl rfl dJ11_init_1 rfl (Nat.le_of_ble_eq_true rfl)
theorem w_J11_init_4 {d : Nat} {h : AH} {Q : Rs → AH → Prop} {ls : List Value} : Ru d 331 4 ls [] h Q = Q (.inl none) h := r_vret mc331 mr331 dJ11_init_4
theorem mc332 : mC 332 = cJ12_newLength := rfl
theorem mo332 : mO 332 = 52 := rfl
theorem mr332 : mR 332 = (some .int) := rfl
theorem mh332 : mH 332 = [] := rfl
theorem e_J12_newLength {d : Nat} {h : AH} {Q : Rs → AH → Prop} {x0 : Int32} {x1 : Int32} {x2 : Int32}  : Ca (d + 1) 332 [.int x0, .int x1, .int x2] h Q = Ru d 332 0 [.int x0, .int x1, .int x2, un] [] h Q := by rw [ca_ru (by decide) (Nat.le_of_ble_eq_true rfl)]; congr 1
theorem w_J12_newLength_0 {d : Nat} {h : AH} {Q : Rs → AH → Prop} {st : List Value} {x : Int32} {l1 l2 l3 : Value} : Ru d 332 0 [.int x, l1, l2, l3] st h Q = Ru d 332 1 [.int x, l1, l2, l3] (.int x :: st) h Q := r_iload_n mc332 rfl dJ12_newLength_0
theorem w_J12_newLength_1 {d : Nat} {h : AH} {Q : Rs → AH → Prop} {st : List Value} {x : Int32} {l0 l2 l3 : Value} : Ru d 332 1 [l0, .int x, l2, l3] st h Q = Ru d 332 2 [l0, .int x, l2, l3] (.int x :: st) h Q := r_iload_n mc332 rfl dJ12_newLength_1
theorem w_J12_newLength_2 {d : Nat} {h : AH} {Q : Rs → AH → Prop} {st : List Value} {x : Int32} {l0 l1 l3 : Value} : Ru d 332 2 [l0, l1, .int x, l3] st h Q = Ru d 332 3 [l0, l1, .int x, l3] (.int x :: st) h Q := r_iload_n mc332 rfl dJ12_newLength_2
theorem w_J12_newLength_3 {d : Nat} {h : AH} {Q : Rs → AH → Prop} {ls : List Value} {s0 u0 u1 : Value} : Ru d 332 3 ls [u1, u0, s0] h Q = Ca d 328 [u0, u1] h (Kn d 332 3 6 ls [s0] Q) := r_calS mc332 mo332 rfl rfl dJ12_newLength_3 rfl (Nat.le_of_ble_eq_true rfl)
theorem w_J12_newLength_6 {d : Nat} {h : AH} {Q : Rs → AH → Prop} {ls st : List Value} {x y : Int32} : Ru d 332 6 ls (.int y :: .int x :: st) h Q = Ru d 332 7 ls (.int (x + y) :: st) h Q := r_iadd mc332 dJ12_newLength_6
theorem w_J12_newLength_7 {d : Nat} {h : AH} {Q : Rs → AH → Prop} {st : List Value} {x : Int32} {l0 l1 l2 l3 : Value} : Ru d 332 7 [l0, l1, l2, l3] (.int x :: st) h Q = (nl l2 = true ∧ Ru d 332 8 [l0, l1, l2, .int x] st h Q) := r_istore_n mc332 (Nat.le_of_ble_eq_true rfl) rfl rfl dJ12_newLength_7
theorem w_J12_newLength_8 {d : Nat} {h : AH} {Q : Rs → AH → Prop} {ls st : List Value} : Ru d 332 8 ls st h Q = Ru d 332 9 ls (.int 0 :: st) h Q := r_iconst mc332 ic_0 dJ12_newLength_8
theorem w_J12_newLength_9 {d : Nat} {h : AH} {Q : Rs → AH → Prop} {st : List Value} {x : Int32} {l0 l1 l2 : Value} : Ru d 332 9 [l0, l1, l2, .int x] st h Q = Ru d 332 10 [l0, l1, l2, .int x] (.int x :: st) h Q := r_iload_n mc332 rfl dJ12_newLength_9
theorem w_J12_newLength_10 {d : Nat} {h : AH} {Q : Rs → AH → Prop} {ls st : List Value} {x y : Int32} : Ru d 332 10 ls (.int y :: .int x :: st) h Q = if x < y then Ru d 332 13 ls st h Q else Ru d 332 21 ls st h Q := r_icmp_ge mc332 dJ12_newLength_10 rfl
theorem w_J12_newLength_13 {d : Nat} {h : AH} {Q : Rs → AH → Prop} {st : List Value} {x : Int32} {l0 l1 l2 : Value} : Ru d 332 13 [l0, l1, l2, .int x] st h Q = Ru d 332 14 [l0, l1, l2, .int x] (.int x :: st) h Q := r_iload_n mc332 rfl dJ12_newLength_13
theorem w_J12_newLength_14 {d : Nat} {h : AH} {Q : Rs → AH → Prop} {ls st : List Value} : Ru d 332 14 ls st h Q = Ru d 332 16 ls (.int 2147483639 :: st) h Q := r_ldcI mc332 mo332 rfl dJ12_newLength_14
theorem w_J12_newLength_16 {d : Nat} {h : AH} {Q : Rs → AH → Prop} {ls st : List Value} {x y : Int32} : Ru d 332 16 ls (.int y :: .int x :: st) h Q = if y < x then Ru d 332 21 ls st h Q else Ru d 332 19 ls st h Q := r_icmp_gt mc332 dJ12_newLength_16 rfl
theorem w_J12_newLength_19 {d : Nat} {h : AH} {Q : Rs → AH → Prop} {st : List Value} {x : Int32} {l0 l1 l2 : Value} : Ru d 332 19 [l0, l1, l2, .int x] st h Q = Ru d 332 20 [l0, l1, l2, .int x] (.int x :: st) h Q := r_iload_n mc332 rfl dJ12_newLength_19
theorem w_J12_newLength_20 {d : Nat} {h : AH} {Q : Rs → AH → Prop} {ls : List Value} {x : Int32} : Ru d 332 20 ls [.int x] h Q = Q (.inl (some (.int x))) h := r_ireti mc332 mr332 dJ12_newLength_20
theorem w_J12_newLength_21 {d : Nat} {h : AH} {Q : Rs → AH → Prop} {st : List Value} {x : Int32} {l1 l2 l3 : Value} : Ru d 332 21 [.int x, l1, l2, l3] st h Q = Ru d 332 22 [.int x, l1, l2, l3] (.int x :: st) h Q := r_iload_n mc332 rfl dJ12_newLength_21
theorem w_J12_newLength_22 {d : Nat} {h : AH} {Q : Rs → AH → Prop} {st : List Value} {x : Int32} {l0 l2 l3 : Value} : Ru d 332 22 [l0, .int x, l2, l3] st h Q = Ru d 332 23 [l0, .int x, l2, l3] (.int x :: st) h Q := r_iload_n mc332 rfl dJ12_newLength_22
theorem w_J12_newLength_23 {d : Nat} {h : AH} {Q : Rs → AH → Prop} {ls : List Value} {u0 u1 : Value} : Ru d 332 23 ls [u1, u0] h Q = Ca d 333 [u0, u1] h (Kn d 332 23 26 ls [] Q) := r_calS mc332 mo332 rfl rfl dJ12_newLength_23 rfl (Nat.le_of_ble_eq_true rfl)
theorem w_J12_newLength_26 {d : Nat} {h : AH} {Q : Rs → AH → Prop} {ls : List Value} {x : Int32} : Ru d 332 26 ls [.int x] h Q = Q (.inl (some (.int x))) h := r_ireti mc332 mr332 dJ12_newLength_26
theorem mc333 : mC 333 = cJ12_hugeLength := rfl
theorem mo333 : mO 333 = 52 := rfl
theorem mr333 : mR 333 = (some .int) := rfl
theorem mh333 : mH 333 = [] := rfl
theorem e_J12_hugeLength {d : Nat} {h : AH} {Q : Rs → AH → Prop} {x0 : Int32} {x1 : Int32}  : Ca (d + 1) 333 [.int x0, .int x1] h Q = Ru d 333 0 [.int x0, .int x1, un] [] h Q := by rw [ca_ru (by decide) (Nat.le_of_ble_eq_true rfl)]; congr 1
theorem w_J12_hugeLength_0 {d : Nat} {h : AH} {Q : Rs → AH → Prop} {st : List Value} {x : Int32} {l1 l2 : Value} : Ru d 333 0 [.int x, l1, l2] st h Q = Ru d 333 1 [.int x, l1, l2] (.int x :: st) h Q := r_iload_n mc333 rfl dJ12_hugeLength_0
theorem w_J12_hugeLength_1 {d : Nat} {h : AH} {Q : Rs → AH → Prop} {st : List Value} {x : Int32} {l0 l2 : Value} : Ru d 333 1 [l0, .int x, l2] st h Q = Ru d 333 2 [l0, .int x, l2] (.int x :: st) h Q := r_iload_n mc333 rfl dJ12_hugeLength_1
theorem w_J12_hugeLength_2 {d : Nat} {h : AH} {Q : Rs → AH → Prop} {ls st : List Value} {x y : Int32} : Ru d 333 2 ls (.int y :: .int x :: st) h Q = Ru d 333 3 ls (.int (x + y) :: st) h Q := r_iadd mc333 dJ12_hugeLength_2
theorem w_J12_hugeLength_3 {d : Nat} {h : AH} {Q : Rs → AH → Prop} {st : List Value} {x : Int32} {l0 l1 l2 : Value} : Ru d 333 3 [l0, l1, l2] (.int x :: st) h Q = (nl l1 = true ∧ Ru d 333 4 [l0, l1, .int x] st h Q) := r_istore_n mc333 (Nat.le_of_ble_eq_true rfl) rfl rfl dJ12_hugeLength_3
theorem w_J12_hugeLength_4 {d : Nat} {h : AH} {Q : Rs → AH → Prop} {st : List Value} {x : Int32} {l0 l1 : Value} : Ru d 333 4 [l0, l1, .int x] st h Q = Ru d 333 5 [l0, l1, .int x] (.int x :: st) h Q := r_iload_n mc333 rfl dJ12_hugeLength_4
theorem w_J12_hugeLength_5 {d : Nat} {h : AH} {Q : Rs → AH → Prop} {ls st : List Value} {x : Int32} : Ru d 333 5 ls (.int x :: st) h Q = if x < 0 then Ru d 333 8 ls st h Q else Ru d 333 49 ls st h Q := r_if_ge mc333 dJ12_hugeLength_5 rfl
theorem w_J12_hugeLength_11 {d : Nat} {h : AH} {Q : Rs → AH → Prop} {ls st : List Value} {u : Value} : Ru d 333 11 ls (u :: st) h Q = (nl u = true ∧ Ru d 333 12 ls (u :: u :: st) h Q) := r_dup mc333 dJ12_hugeLength_11
theorem w_J12_hugeLength_15 {d : Nat} {h : AH} {Q : Rs → AH → Prop} {ls st : List Value} {u : Value} : Ru d 333 15 ls (u :: st) h Q = (nl u = true ∧ Ru d 333 16 ls (u :: u :: st) h Q) := r_dup mc333 dJ12_hugeLength_15
theorem w_J12_hugeLength_49 {d : Nat} {h : AH} {Q : Rs → AH → Prop} {st : List Value} {x : Int32} {l0 l1 : Value} : Ru d 333 49 [l0, l1, .int x] st h Q = Ru d 333 50 [l0, l1, .int x] (.int x :: st) h Q := r_iload_n mc333 rfl dJ12_hugeLength_49
theorem w_J12_hugeLength_50 {d : Nat} {h : AH} {Q : Rs → AH → Prop} {ls st : List Value} : Ru d 333 50 ls st h Q = Ru d 333 52 ls (.int 2147483639 :: st) h Q := r_ldcI mc333 mo333 rfl dJ12_hugeLength_50
theorem w_J12_hugeLength_52 {d : Nat} {h : AH} {Q : Rs → AH → Prop} {ls st : List Value} {x y : Int32} : Ru d 333 52 ls (.int y :: .int x :: st) h Q = if y < x then Ru d 333 58 ls st h Q else Ru d 333 55 ls st h Q := r_icmp_gt mc333 dJ12_hugeLength_52 rfl
theorem w_J12_hugeLength_55 {d : Nat} {h : AH} {Q : Rs → AH → Prop} {ls st : List Value} : Ru d 333 55 ls st h Q = Ru d 333 57 ls (.int 2147483639 :: st) h Q := r_ldcI mc333 mo333 rfl dJ12_hugeLength_55
theorem w_J12_hugeLength_57 {d : Nat} {h : AH} {Q : Rs → AH → Prop} {ls : List Value} {x : Int32} : Ru d 333 57 ls [.int x] h Q = Q (.inl (some (.int x))) h := r_ireti mc333 mr333 dJ12_hugeLength_57
theorem w_J12_hugeLength_58 {d : Nat} {h : AH} {Q : Rs → AH → Prop} {st : List Value} {x : Int32} {l0 l1 : Value} : Ru d 333 58 [l0, l1, .int x] st h Q = Ru d 333 59 [l0, l1, .int x] (.int x :: st) h Q := r_iload_n mc333 rfl dJ12_hugeLength_58
theorem w_J12_hugeLength_59 {d : Nat} {h : AH} {Q : Rs → AH → Prop} {ls : List Value} {x : Int32} : Ru d 333 59 ls [.int x] h Q = Q (.inl (some (.int x))) h := r_ireti mc333 mr333 dJ12_hugeLength_59
theorem mc334 : mC 334 = cJ13_copyOf := rfl
theorem mo334 : mO 334 = 53 := rfl
theorem mr334 : mR 334 = (some (.array (.object "java/lang/Object"))) := rfl
theorem mh334 : mH 334 = [] := rfl
theorem e_J13_copyOf {d : Nat} {h : AH} {Q : Rs → AH → Prop} {v0 : Value} {x1 : Int32} (h0 : nl v0 = true) : Ca (d + 1) 334 [v0, .int x1] h Q = Ru d 334 0 [v0, .int x1] [] h Q := by rw [ca_ru (by decide) (by rw [show (slA [v0, .int x1]).length = 2 by simp [slA, nl_int, nl_ref, nl_long, h0]]; exact Nat.le_of_ble_eq_true rfl)]; congr 1; simp [ent, slA, h0]; rfl
theorem w_J13_copyOf_0 {d : Nat} {h : AH} {Q : Rs → AH → Prop} {st : List Value} {l0 l1 : Value} : Ru d 334 0 [l0, l1] st h Q = (isR l0 = true ∧ Ru d 334 1 [l0, l1] (l0 :: st) h Q) := r_aload_n mc334 rfl dJ13_copyOf_0
theorem w_J13_copyOf_1 {d : Nat} {h : AH} {Q : Rs → AH → Prop} {st : List Value} {x : Int32} {l0 : Value} : Ru d 334 1 [l0, .int x] st h Q = Ru d 334 2 [l0, .int x] (.int x :: st) h Q := r_iload_n mc334 rfl dJ13_copyOf_1
theorem w_J13_copyOf_2 {d : Nat} {h : AH} {Q : Rs → AH → Prop} {st : List Value} {l0 l1 : Value} : Ru d 334 2 [l0, l1] st h Q = (isR l0 = true ∧ Ru d 334 3 [l0, l1] (l0 :: st) h Q) := r_aload_n mc334 rfl dJ13_copyOf_2
theorem w_J13_copyOf_3 {d : Nat} {h : AH} {Q : Rs → AH → Prop} {ls : List Value} {s0 s1 : Value} {a : Nat} (hy : lk [(5008, 901), (5009, 901), (5010, 901)] (Tg h a) = some 901) : Ru d 334 3 ls [.ref a, s0, s1] h Q = Ca d 901 [.ref a] h (Kn d 334 3 6 ls [s0, s1] Q) := r_calV mc334 mo334 rfl rfl dJ13_copyOf_3 rfl (Nat.le_of_ble_eq_true rfl) hy
theorem w_J13_copyOf_6 {d : Nat} {h : AH} {Q : Rs → AH → Prop} {ls : List Value} {u0 u1 u2 : Value} : Ru d 334 6 ls [u2, u1, u0] h Q = Ca d 335 [u0, u1, u2] h (Kn d 334 6 9 ls [] Q) := r_calS mc334 mo334 rfl rfl dJ13_copyOf_6 rfl (Nat.le_of_ble_eq_true rfl)
theorem w_J13_copyOf_9 {d : Nat} {h : AH} {Q : Rs → AH → Prop} {ls : List Value} {u : Value} : Ru d 334 9 ls [u] h Q = (isR u = true ∧ Q (.inl (some u)) h) := r_areta mc334 mr334 dJ13_copyOf_9
theorem mc335 : mC 335 = cJ13_copyOf_2 := rfl
theorem mo335 : mO 335 = 53 := rfl
theorem mr335 : mR 335 = (some (.array (.object "java/lang/Object"))) := rfl
theorem mh335 : mH 335 = [] := rfl
theorem e_J13_copyOf_2 {d : Nat} {h : AH} {Q : Rs → AH → Prop} {v0 : Value} {x1 : Int32} {v2 : Value} (h0 : nl v0 = true) (h2 : nl v2 = true) : Ca (d + 1) 335 [v0, .int x1, v2] h Q = Ru d 335 0 [v0, .int x1, v2, un] [] h Q := by rw [ca_ru (by decide) (by rw [show (slA [v0, .int x1, v2]).length = 3 by simp [slA, nl_int, nl_ref, nl_long, h0, h2]]; exact Nat.le_of_ble_eq_true rfl)]; congr 1; simp [ent, slA, h0, h2]; rfl
theorem w_J13_copyOf_2_0 {d : Nat} {h : AH} {Q : Rs → AH → Prop} {st : List Value} {l0 l1 l2 l3 : Value} : Ru d 335 0 [l0, l1, l2, l3] st h Q = (isR l2 = true ∧ Ru d 335 1 [l0, l1, l2, l3] (l2 :: st) h Q) := r_aload_n mc335 rfl dJ13_copyOf_2_0
theorem w_J13_copyOf_2_1 {d : Nat} {h : AH} {Q : Rs → AH → Prop} {ls st : List Value} : Ru d 335 1 ls st h Q = Ru d 335 3 ls (.ref (Ev h 60) :: st) h Q := r_ldcR mc335 mo335 rfl dJ13_copyOf_2_1
theorem w_J13_copyOf_2_3 {d : Nat} {h : AH} {Q : Rs → AH → Prop} {ls st : List Value} {u w : Value} : Ru d 335 3 ls (w :: u :: st) h Q = ((isR u = true ∧ isR w = true) ∧ if u = w then Ru d 335 6 ls st h Q else Ru d 335 13 ls st h Q) := r_acmp_ne mc335 dJ13_copyOf_2_3 rfl
theorem w_J13_copyOf_2_6 {d : Nat} {h : AH} {Q : Rs → AH → Prop} {st : List Value} {x : Int32} {l0 l2 l3 : Value} : Ru d 335 6 [l0, .int x, l2, l3] st h Q = Ru d 335 7 [l0, .int x, l2, l3] (.int x :: st) h Q := r_iload_n mc335 rfl dJ13_copyOf_2_6
theorem w_J13_copyOf_2_7 {d : Nat} {h : AH} {Q : Rs → AH → Prop} {ls st : List Value} {x : Int32} : Ru d 335 7 ls (.int x :: st) h Q = ((¬ x < 0 ∧ Rm h x.toNatClampNeg) ∧ Ru d 335 10 ls (.ref (Nx h) :: st) (nCe h 5010 x.toNatClampNeg) Q) := r_newq mc335 mo335 rfl rfl rfl (by decide) dJ13_copyOf_2_7
theorem w_J13_copyOf_2_10 {d : Nat} {h : AH} {Q : Rs → AH → Prop} {ls st : List Value} : Ru d 335 10 ls st h Q = Ru d 335 24 ls st h Q := r_goto mc335 dJ13_copyOf_2_10 rfl
theorem w_J13_copyOf_2_13 {d : Nat} {h : AH} {Q : Rs → AH → Prop} {st : List Value} {l0 l1 l2 l3 : Value} : Ru d 335 13 [l0, l1, l2, l3] st h Q = (isR l2 = true ∧ Ru d 335 14 [l0, l1, l2, l3] (l2 :: st) h Q) := r_aload_n mc335 rfl dJ13_copyOf_2_13
theorem w_J13_copyOf_2_24 {d : Nat} {h : AH} {Q : Rs → AH → Prop} {st : List Value} {u : Value} {l0 l1 l2 l3 : Value} : Ru d 335 24 [l0, l1, l2, l3] (u :: st) h Q = (isR u = true ∧ nl l2 = true ∧ Ru d 335 25 [l0, l1, l2, u] st h Q) := r_astore_n mc335 (Nat.le_of_ble_eq_true rfl) rfl rfl dJ13_copyOf_2_24
theorem w_J13_copyOf_2_25 {d : Nat} {h : AH} {Q : Rs → AH → Prop} {st : List Value} {l0 l1 l2 l3 : Value} : Ru d 335 25 [l0, l1, l2, l3] st h Q = (isR l0 = true ∧ Ru d 335 26 [l0, l1, l2, l3] (l0 :: st) h Q) := r_aload_n mc335 rfl dJ13_copyOf_2_25
theorem w_J13_copyOf_2_26 {d : Nat} {h : AH} {Q : Rs → AH → Prop} {ls st : List Value} : Ru d 335 26 ls st h Q = Ru d 335 27 ls (.int 0 :: st) h Q := r_iconst mc335 ic_0 dJ13_copyOf_2_26
theorem w_J13_copyOf_2_27 {d : Nat} {h : AH} {Q : Rs → AH → Prop} {st : List Value} {l0 l1 l2 l3 : Value} : Ru d 335 27 [l0, l1, l2, l3] st h Q = (isR l3 = true ∧ Ru d 335 28 [l0, l1, l2, l3] (l3 :: st) h Q) := r_aload_n mc335 rfl dJ13_copyOf_2_27
theorem w_J13_copyOf_2_28 {d : Nat} {h : AH} {Q : Rs → AH → Prop} {ls st : List Value} : Ru d 335 28 ls st h Q = Ru d 335 29 ls (.int 0 :: st) h Q := r_iconst mc335 ic_0 dJ13_copyOf_2_28
theorem w_J13_copyOf_2_29 {d : Nat} {h : AH} {Q : Rs → AH → Prop} {st : List Value} {l0 l1 l2 l3 : Value} : Ru d 335 29 [l0, l1, l2, l3] st h Q = (isR l0 = true ∧ Ru d 335 30 [l0, l1, l2, l3] (l0 :: st) h Q) := r_aload_n mc335 rfl dJ13_copyOf_2_29
theorem w_J13_copyOf_2_30 {d : Nat} {h : AH} {Q : Rs → AH → Prop} {ls st : List Value} {a : Nat} : Ru d 335 30 ls (.ref a :: st) h Q = (tin h a 1000 6000 ∧ Ru d 335 31 ls (.int (Int32.ofNat (An h a)) :: st) h Q) := r_alen mc335 dJ13_copyOf_2_30
theorem w_J13_copyOf_2_31 {d : Nat} {h : AH} {Q : Rs → AH → Prop} {st : List Value} {x : Int32} {l0 l2 l3 : Value} : Ru d 335 31 [l0, .int x, l2, l3] st h Q = Ru d 335 32 [l0, .int x, l2, l3] (.int x :: st) h Q := r_iload_n mc335 rfl dJ13_copyOf_2_31
theorem w_J13_copyOf_2_32 {d : Nat} {h : AH} {Q : Rs → AH → Prop} {ls : List Value} {s0 s1 s2 s3 u0 u1 : Value} : Ru d 335 32 ls [u1, u0, s0, s1, s2, s3] h Q = Ca d 329 [u0, u1] h (Kn d 335 32 35 ls [s0, s1, s2, s3] Q) := r_calS mc335 mo335 rfl rfl dJ13_copyOf_2_32 rfl (Nat.le_of_ble_eq_true rfl)
theorem w_J13_copyOf_2_35 {d : Nat} {h : AH} {Q : Rs → AH → Prop} {ls : List Value} {u0 u1 u2 u3 u4 : Value} : Ru d 335 35 ls [u4, u3, u2, u1, u0] h Q = Ca d 900 [u0, u1, u2, u3, u4] h (Kn d 335 35 38 ls [] Q) := r_calS mc335 mo335 rfl rfl dJ13_copyOf_2_35 rfl (Nat.le_of_ble_eq_true rfl)
theorem w_J13_copyOf_2_38 {d : Nat} {h : AH} {Q : Rs → AH → Prop} {st : List Value} {l0 l1 l2 l3 : Value} : Ru d 335 38 [l0, l1, l2, l3] st h Q = (isR l3 = true ∧ Ru d 335 39 [l0, l1, l2, l3] (l3 :: st) h Q) := r_aload_n mc335 rfl dJ13_copyOf_2_38
theorem w_J13_copyOf_2_39 {d : Nat} {h : AH} {Q : Rs → AH → Prop} {ls : List Value} {u : Value} : Ru d 335 39 ls [u] h Q = (isR u = true ∧ Q (.inl (some u)) h) := r_areta mc335 mr335 dJ13_copyOf_2_39
theorem mc336 : mC 336 = cJ14_init := rfl
theorem mo336 : mO 336 = 54 := rfl
theorem mr336 : mR 336 = none := rfl
theorem mh336 : mH 336 = [] := rfl
theorem e_J14_init {d : Nat} {h : AH} {Q : Rs → AH → Prop} {a0 : Nat}  : Ca (d + 1) 336 [.ref a0] h Q = Ru d 336 0 [.ref a0] [] h Q := by rw [ca_ru (by decide) (Nat.le_of_ble_eq_true rfl)]; congr 1
theorem w_J14_init_0 {d : Nat} {h : AH} {Q : Rs → AH → Prop} {st : List Value} {a : Nat} : Ru d 336 0 [.ref a] st h Q = Ru d 336 1 [.ref a] (.ref a :: st) h Q := (r_aload_n mc336 rfl dJ14_init_0).trans (and_iff_right rfl |> propext)
theorem w_J14_init_1 {d : Nat} {h : AH} {Q : Rs → AH → Prop} {ls : List Value} {a : Nat} : Ru d 336 1 ls [.ref a] h Q = Ca d 903 [.ref a] h (Kn d 336 1 4 ls [] Q) := r_calI mc336 mo336 rfl rfl dJ14_init_1 rfl (Nat.le_of_ble_eq_true rfl)
theorem w_J14_init_4 {d : Nat} {h : AH} {Q : Rs → AH → Prop} {ls : List Value} : Ru d 336 4 ls [] h Q = Q (.inl none) h := r_vret mc336 mr336 dJ14_init_4
theorem mc337 : mC 337 = cJ15_longValue := rfl
theorem mo337 : mO 337 = 55 := rfl
theorem mr337 : mR 337 = (some .long) := rfl
theorem mh337 : mH 337 = [] := rfl
theorem e_J15_longValue {d : Nat} {h : AH} {Q : Rs → AH → Prop} {a0 : Nat}  : Ca (d + 1) 337 [.ref a0] h Q = Ru d 337 0 [.ref a0] [] h Q := by rw [ca_ru (by decide) (Nat.le_of_ble_eq_true rfl)]; congr 1
theorem w_J15_longValue_0 {d : Nat} {h : AH} {Q : Rs → AH → Prop} {st : List Value} {a : Nat} : Ru d 337 0 [.ref a] st h Q = Ru d 337 1 [.ref a] (.ref a :: st) h Q := (r_aload_n mc337 rfl dJ15_longValue_0).trans (and_iff_right rfl |> propext)
theorem w_J15_longValue_1 {d : Nat} {h : AH} {Q : Rs → AH → Prop} {ls st : List Value} {a : Nat} : Ru d 337 1 ls (.ref a :: st) h Q = (Tg h a ∈ [55, 155] ∧ Ru d 337 4 ls (.long (Fl h 182 a) :: st) h Q) := r_getL mc337 mo337 rfl rfl rfl rfl dJ15_longValue_1
theorem w_J15_longValue_4 {d : Nat} {h : AH} {Q : Rs → AH → Prop} {ls : List Value} {x : Int64} : Ru d 337 4 ls [.long x] h Q = Q (.inl (some (.long x))) h := r_lret mc337 mr337 dJ15_longValue_4
theorem mc338 : mC 338 = cJ15_valueOf := rfl
theorem mo338 : mO 338 = 55 := rfl
theorem mr338 : mR 338 = (some (.object "java/lang/Long")) := rfl
theorem mh338 : mH 338 = [] := rfl
theorem e_J15_valueOf {d : Nat} {h : AH} {Q : Rs → AH → Prop} {x0 : Int64}  : Ca (d + 1) 338 [.long x0] h Q = Ru d 338 0 [.long x0, un, un] [] h Q := by rw [ca_ru (by decide) (Nat.le_of_ble_eq_true rfl)]; congr 1
theorem w_J15_valueOf_0 {d : Nat} {h : AH} {Q : Rs → AH → Prop} {ls st : List Value} : Ru d 338 0 ls st h Q = Ru d 338 3 ls (.int 128 :: st) h Q := r_sipush mc338 sc_128 dJ15_valueOf_0
theorem w_J15_valueOf_3 {d : Nat} {h : AH} {Q : Rs → AH → Prop} {st : List Value} {x : Int32} {l0 l1 l2 : Value} : Ru d 338 3 [l0, l1, l2] (.int x :: st) h Q = (nl l1 = true ∧ Ru d 338 4 [l0, l1, .int x] st h Q) := r_istore_n mc338 (Nat.le_of_ble_eq_true rfl) rfl rfl dJ15_valueOf_3
theorem w_J15_valueOf_4 {d : Nat} {h : AH} {Q : Rs → AH → Prop} {st : List Value} {x : Int64} {l1 l2 : Value} : Ru d 338 4 [.long x, l1, l2] st h Q = Ru d 338 5 [.long x, l1, l2] (.long x :: st) h Q := r_lload_n mc338 rfl dJ15_valueOf_4
theorem w_J15_valueOf_5 {d : Nat} {h : AH} {Q : Rs → AH → Prop} {ls st : List Value} : Ru d 338 5 ls st h Q = Ru d 338 8 ls (.long (-128) :: st) h Q := r_ldc2 mc338 mo338 rfl dJ15_valueOf_5
theorem w_J15_valueOf_8 {d : Nat} {h : AH} {Q : Rs → AH → Prop} {ls st : List Value} {x y : Int64} : Ru d 338 8 ls (.long y :: .long x :: st) h Q = Ru d 338 9 ls (.int (lg_cmp x y) :: st) h Q := r_lcmp mc338 dJ15_valueOf_8
theorem w_J15_valueOf_9 {d : Nat} {h : AH} {Q : Rs → AH → Prop} {ls st : List Value} {x : Int32} : Ru d 338 9 ls (.int x :: st) h Q = if x < 0 then Ru d 338 31 ls st h Q else Ru d 338 12 ls st h Q := r_if_lt mc338 dJ15_valueOf_9 rfl
theorem w_J15_valueOf_12 {d : Nat} {h : AH} {Q : Rs → AH → Prop} {st : List Value} {x : Int64} {l1 l2 : Value} : Ru d 338 12 [.long x, l1, l2] st h Q = Ru d 338 13 [.long x, l1, l2] (.long x :: st) h Q := r_lload_n mc338 rfl dJ15_valueOf_12
theorem w_J15_valueOf_13 {d : Nat} {h : AH} {Q : Rs → AH → Prop} {ls st : List Value} : Ru d 338 13 ls st h Q = Ru d 338 16 ls (.long 127 :: st) h Q := r_ldc2 mc338 mo338 rfl dJ15_valueOf_13
theorem w_J15_valueOf_16 {d : Nat} {h : AH} {Q : Rs → AH → Prop} {ls st : List Value} {x y : Int64} : Ru d 338 16 ls (.long y :: .long x :: st) h Q = Ru d 338 17 ls (.int (lg_cmp x y) :: st) h Q := r_lcmp mc338 dJ15_valueOf_16
theorem w_J15_valueOf_17 {d : Nat} {h : AH} {Q : Rs → AH → Prop} {ls st : List Value} {x : Int32} : Ru d 338 17 ls (.int x :: st) h Q = if 0 < x then Ru d 338 31 ls st h Q else Ru d 338 20 ls st h Q := r_if_gt mc338 dJ15_valueOf_17 rfl
theorem w_J15_valueOf_20 {d : Nat} {h : AH} {Q : Rs → AH → Prop} {ls st : List Value} : Ru d 338 20 ls st h Q = Ru d 338 23 ls (.ref (Ev h 52) :: st) h Q := r_getsR mc338 mo338 rfl (by decide) dJ15_valueOf_20
theorem w_J15_valueOf_23 {d : Nat} {h : AH} {Q : Rs → AH → Prop} {st : List Value} {x : Int64} {l1 l2 : Value} : Ru d 338 23 [.long x, l1, l2] st h Q = Ru d 338 24 [.long x, l1, l2] (.long x :: st) h Q := r_lload_n mc338 rfl dJ15_valueOf_23
theorem w_J15_valueOf_24 {d : Nat} {h : AH} {Q : Rs → AH → Prop} {ls st : List Value} {x : Int64} : Ru d 338 24 ls (.long x :: st) h Q = Ru d 338 25 ls (.int x.toInt32 :: st) h Q := r_l2i mc338 dJ15_valueOf_24
theorem w_J15_valueOf_25 {d : Nat} {h : AH} {Q : Rs → AH → Prop} {ls st : List Value} : Ru d 338 25 ls st h Q = Ru d 338 28 ls (.int 128 :: st) h Q := r_sipush mc338 sc_128 dJ15_valueOf_25
theorem w_J15_valueOf_28 {d : Nat} {h : AH} {Q : Rs → AH → Prop} {ls st : List Value} {x y : Int32} : Ru d 338 28 ls (.int y :: .int x :: st) h Q = Ru d 338 29 ls (.int (x + y) :: st) h Q := r_iadd mc338 dJ15_valueOf_28
theorem w_J15_valueOf_29 {d : Nat} {h : AH} {Q : Rs → AH → Prop} {ls st : List Value} {a : Nat} {x : Int32} : Ru d 338 29 ls (.int x :: .ref a :: st) h Q = ((tin h a 5000 6000 ∧ inA x (An h a)) ∧ Ru d 338 30 ls (va_rf (Ar h a x.toNatClampNeg) :: st) h Q) := r_aaload mc338 dJ15_valueOf_29
theorem w_J15_valueOf_30 {d : Nat} {h : AH} {Q : Rs → AH → Prop} {ls : List Value} {u : Value} : Ru d 338 30 ls [u] h Q = (isR u = true ∧ Q (.inl (some u)) h) := r_areto mc338 mr338 dJ15_valueOf_30
theorem w_J15_valueOf_31 {d : Nat} {h : AH} {Q : Rs → AH → Prop} {ls st : List Value} : Ru d 338 31 ls st h Q = (Rm h 1 ∧ Ru d 338 34 ls (.ref (Nx h) :: st) (nCe h 55 1) Q) := r_new mc338 mo338 rfl dJ15_valueOf_31
theorem w_J15_valueOf_34 {d : Nat} {h : AH} {Q : Rs → AH → Prop} {ls st : List Value} {u : Value} : Ru d 338 34 ls (u :: st) h Q = (nl u = true ∧ Ru d 338 35 ls (u :: u :: st) h Q) := r_dup mc338 dJ15_valueOf_34
theorem w_J15_valueOf_35 {d : Nat} {h : AH} {Q : Rs → AH → Prop} {st : List Value} {x : Int64} {l1 l2 : Value} : Ru d 338 35 [.long x, l1, l2] st h Q = Ru d 338 36 [.long x, l1, l2] (.long x :: st) h Q := r_lload_n mc338 rfl dJ15_valueOf_35
theorem w_J15_valueOf_36 {d : Nat} {h : AH} {Q : Rs → AH → Prop} {ls : List Value} {s0 u0 : Value} {a : Nat} : Ru d 338 36 ls [u0, .ref a, s0] h Q = Ca d 339 [.ref a, u0] h (Kn d 338 36 39 ls [s0] Q) := r_calI mc338 mo338 rfl rfl dJ15_valueOf_36 rfl (Nat.le_of_ble_eq_true rfl)
theorem w_J15_valueOf_39 {d : Nat} {h : AH} {Q : Rs → AH → Prop} {ls : List Value} {u : Value} : Ru d 338 39 ls [u] h Q = (isR u = true ∧ Q (.inl (some u)) h) := r_areto mc338 mr338 dJ15_valueOf_39
theorem mc339 : mC 339 = cJ15_init := rfl
theorem mo339 : mO 339 = 55 := rfl
theorem mr339 : mR 339 = none := rfl
theorem mh339 : mH 339 = [] := rfl
theorem e_J15_init {d : Nat} {h : AH} {Q : Rs → AH → Prop} {a0 : Nat} {x0 : Int64}  : Ca (d + 1) 339 [.ref a0, .long x0] h Q = Ru d 339 0 [.ref a0, .long x0, un] [] h Q := by rw [ca_ru (by decide) (Nat.le_of_ble_eq_true rfl)]; congr 1
theorem w_J15_init_0 {d : Nat} {h : AH} {Q : Rs → AH → Prop} {st : List Value} {a : Nat} {l1 l2 : Value} : Ru d 339 0 [.ref a, l1, l2] st h Q = Ru d 339 1 [.ref a, l1, l2] (.ref a :: st) h Q := (r_aload_n mc339 rfl dJ15_init_0).trans (and_iff_right rfl |> propext)
theorem w_J15_init_1 {d : Nat} {h : AH} {Q : Rs → AH → Prop} {ls : List Value} {a : Nat} : Ru d 339 1 ls [.ref a] h Q = Ca d 336 [.ref a] h (Kn d 339 1 4 ls [] Q) := r_calI mc339 mo339 rfl rfl dJ15_init_1 rfl (Nat.le_of_ble_eq_true rfl)
theorem w_J15_init_4 {d : Nat} {h : AH} {Q : Rs → AH → Prop} {st : List Value} {a : Nat} {l1 l2 : Value} : Ru d 339 4 [.ref a, l1, l2] st h Q = Ru d 339 5 [.ref a, l1, l2] (.ref a :: st) h Q := (r_aload_n mc339 rfl dJ15_init_4).trans (and_iff_right rfl |> propext)
theorem w_J15_init_5 {d : Nat} {h : AH} {Q : Rs → AH → Prop} {st : List Value} {x : Int64} {l0 l2 : Value} : Ru d 339 5 [l0, .long x, l2] st h Q = Ru d 339 6 [l0, .long x, l2] (.long x :: st) h Q := r_lload_n mc339 rfl dJ15_init_5
theorem w_J15_init_6 {d : Nat} {h : AH} {Q : Rs → AH → Prop} {ls st : List Value} {a : Nat} {x : Int64} (ha : Tg h a = 55) : Ru d 339 6 ls (.long x :: .ref a :: st) h Q = Ru d 339 9 ls st (sFl h 182 a x) Q := r_putLc mc339 mo339 rfl rfl rfl (by decide +kernel) (by rw [ha]; decide +kernel) dJ15_init_6
theorem w_J15_init_9 {d : Nat} {h : AH} {Q : Rs → AH → Prop} {ls : List Value} : Ru d 339 9 ls [] h Q = Q (.inl none) h := r_vret mc339 mr339 dJ15_init_9
theorem mc340 : mC 340 = cJ16_init := rfl
theorem mo340 : mO 340 = 56 := rfl
theorem mr340 : mR 340 = none := rfl
theorem mh340 : mH 340 = [] := rfl
theorem e_J16_init {d : Nat} {h : AH} {Q : Rs → AH → Prop} {a0 : Nat}  : Ca (d + 1) 340 [.ref a0] h Q = Ru d 340 0 [.ref a0] [] h Q := by rw [ca_ru (by decide) (Nat.le_of_ble_eq_true rfl)]; congr 1
theorem w_J16_init_0 {d : Nat} {h : AH} {Q : Rs → AH → Prop} {st : List Value} {a : Nat} : Ru d 340 0 [.ref a] st h Q = Ru d 340 1 [.ref a] (.ref a :: st) h Q := (r_aload_n mc340 rfl dJ16_init_0).trans (and_iff_right rfl |> propext)
theorem w_J16_init_1 {d : Nat} {h : AH} {Q : Rs → AH → Prop} {ls : List Value} {a : Nat} : Ru d 340 1 ls [.ref a] h Q = Ca d 331 [.ref a] h (Kn d 340 1 4 ls [] Q) := r_calI mc340 mo340 rfl rfl dJ16_init_1 rfl (Nat.le_of_ble_eq_true rfl)
theorem w_J16_init_4 {d : Nat} {h : AH} {Q : Rs → AH → Prop} {ls : List Value} : Ru d 340 4 ls [] h Q = Q (.inl none) h := r_vret mc340 mr340 dJ16_init_4
theorem mc341 : mC 341 = cJ17_init := rfl
theorem mo341 : mO 341 = 57 := rfl
theorem mr341 : mR 341 = none := rfl
theorem mh341 : mH 341 = [] := rfl
theorem e_J17_init {d : Nat} {h : AH} {Q : Rs → AH → Prop} {a0 : Nat}  : Ca (d + 1) 341 [.ref a0] h Q = Ru d 341 0 [.ref a0] [] h Q := by rw [ca_ru (by decide) (Nat.le_of_ble_eq_true rfl)]; congr 1
theorem w_J17_init_0 {d : Nat} {h : AH} {Q : Rs → AH → Prop} {st : List Value} {a : Nat} : Ru d 341 0 [.ref a] st h Q = Ru d 341 1 [.ref a] (.ref a :: st) h Q := (r_aload_n mc341 rfl dJ17_init_0).trans (and_iff_right rfl |> propext)
theorem w_J17_init_1 {d : Nat} {h : AH} {Q : Rs → AH → Prop} {ls : List Value} {a : Nat} : Ru d 341 1 ls [.ref a] h Q = Ca d 340 [.ref a] h (Kn d 341 1 4 ls [] Q) := r_calI mc341 mo341 rfl rfl dJ17_init_1 rfl (Nat.le_of_ble_eq_true rfl)
theorem w_J17_init_4 {d : Nat} {h : AH} {Q : Rs → AH → Prop} {ls : List Value} : Ru d 341 4 ls [] h Q = Q (.inl none) h := r_vret mc341 mr341 dJ17_init_4
