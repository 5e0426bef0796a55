/-! THE WORLD OF A MODEL: the object at o (places 40, 0), its arrays at a 1 .. a 9 (places 41 .. 49, 0); F: its ints by their field numbers, wd: its long, G: its arrays; ex: all else -/
set_option maxRecDepth 100000
def mF (a : Nat → Nat) (F : Nat → Int) (wd : Int) : List Value := [.int (iI (F 0)), .ref (a 1), .int (iI (F 2)), .int (iI (F 3)), .int (iI (F 4)), .int (iI (F 5)), .int (iI (F 6)), .int (iI (F 7)), .int (iI (F 8)), .int (iI (F 9)), .long (jL wd), .ref (a 2), .ref (a 3), .ref (a 4), .int (iI (F 14)), .int (iI (F 15)), .int (iI (F 16)), .int (iI (F 17)), .ref (a 5), .ref (a 6), .ref (a 7), .ref (a 8), .ref (a 9)]
def mc (o : Nat) (a : Nat → Nat) (F : Nat → Int) (wd : Int) (G : Nat → Int → Int) : Nat → Option (Nat × bE)
  | 0 => some (o, bO 2 (mF a F wd))
  | 1 => some (a 1, bI 640 (G 1))
  | 2 => some (a 2, bI 308 (G 2))
  | 3 => some (a 3, bI 308 (G 3))
  | 4 => some (a 4, bI 3080 (G 4))
  | 5 => some (a 5, bI 48 (G 5))
  | 6 => some (a 6, bI 48 (G 6))
  | 7 => some (a 7, bI 8 (G 7))
  | 8 => some (a 8, bZ 48 (G 8))
  | 9 => some (a 9, bI 147 (G 9))
  | _ => none
def mw (o : Nat) (a : Nat → Nat) (F : Nat → Int) (wd : Int) (G : Nat → Int → Int) (ex : gC) : gC := fun i j => if 40 ≤ i ∧ i < 50 then (if j = 0 then mc o a F wd G (i - 40) else none) else ex i j
theorem mw_set {o : Nat} {a : Nat → Nat} {F F' : Nat → Int} {wd wd' : Int} {G G' : Nat → Int → Int} {ex : gC} (i0 : Nat) (h0 : i0 < 10) {c : Option (Nat × bE)} (h : c = mc o a F' wd' G' i0) (hne : ∀ i, i ≠ i0 → mc o a F wd G i = mc o a F' wd' G' i) : gset (mw o a F wd G ex) (40 + i0) 0 c = mw o a F' wd' G' ex := by
  funext i j
  unfold gset mw
  by_cases hi : i = 40 + i0 ∧ j = 0
  · obtain ⟨rfl, rfl⟩ := hi
    rw [if_pos ⟨rfl, rfl⟩, if_pos (by omega), if_pos rfl, Nat.add_sub_cancel_left, h]
  · rw [if_neg hi]
    by_cases h1 : 40 ≤ i ∧ i < 50
    · rw [if_pos h1, if_pos h1]
      by_cases h2 : j = 0
      · rw [if_pos h2, if_pos h2]
        exact hne (i - 40) (by omega)
      · rw [if_neg h2, if_neg h2]
    · rw [if_neg h1, if_neg h1]
section MROWS
variable {Γ : bk_G} {D : bk_D} {R : Room} {cc : ByteArray} {tb : List ExceptionTableEntry} {k n : Nat} {L : List (Option Value)} {st : List Value} {pc : Nat} {o : Nat} {a : Nat → Nat} {F : Nat → Int} {wd : Int} {G : Nat → Int → Int} {ex : gC}
theorem br_mg_0 {v : Int} (hv : F 0 = v) (d : decode cc pc = .ok (.getfield 1, 3)) (kk : bk_V Γ D R "BreakSetterModel" cc tb k n (mw o a F wd G ex) L (.int (iI v) :: st) (pc + 3)) : bk_V Γ D R "BreakSetterModel" cc tb k n (mw o a F wd G ex) L (.ref o :: st) pc := by
  subst hv
  exact br_getf (i := 40) (j := 0) (fs := mF a F wd) rfl rfl in_X3 0 (by decide) q1298 rfl rfl d kk
theorem mw_F0 (v : Int) : gset (mw o a F wd G ex) 40 0 (some (o, bO 2 ((mF a F wd).set 0 (.int (iI v))))) = mw o a (uF F 0 v) wd G ex := mw_set 0 (by decide) rfl (fun i hi => match i, hi with
    | 0, hi => absurd rfl hi
    | 1, _ => rfl
    | 2, _ => rfl
    | 3, _ => rfl
    | 4, _ => rfl
    | 5, _ => rfl
    | 6, _ => rfl
    | 7, _ => rfl
    | 8, _ => rfl
    | 9, _ => rfl
    | _ + 10, _ => rfl)
theorem br_mp_0 {v : Int} (d : decode cc pc = .ok (.putfield 1, 3)) (kk : bk_V Γ D R "BreakSetterModel" cc tb k n (mw o a (uF F 0 v) wd G ex) L (st) (pc + 3)) : bk_V Γ D R "BreakSetterModel" cc tb k n (mw o a F wd G ex) L (.int (iI v) :: .ref o :: st) pc :=
  br_putf (i := 40) (j := 0) (fs := mF a F wd) (ty := .int) (ty0 := tyX3) rfl rfl in_X3 tyX3_ok nmX3 0 (by decide) q1298 rfl rfl rfl rfl rfl (by simp [mF]) d (by rw [mw_F0]; exact kk)
theorem br_mg_1 (d : decode cc pc = .ok (.getfield 7, 3)) (kk : bk_V Γ D R "BreakSetterModel" cc tb k n (mw o a F wd G ex) L (.ref (a 1) :: st) (pc + 3)) : bk_V Γ D R "BreakSetterModel" cc tb k n (mw o a F wd G ex) L (.ref o :: st) pc := by
  exact br_getf (i := 40) (j := 0) (fs := mF a F wd) rfl rfl in_X3 1 (by decide) q1299 rfl rfl d kk
theorem br_mg_2 {v : Int} (hv : F 2 = v) (d : decode cc pc = .ok (.getfield 11, 3)) (kk : bk_V Γ D R "BreakSetterModel" cc tb k n (mw o a F wd G ex) L (.int (iI v) :: st) (pc + 3)) : bk_V Γ D R "BreakSetterModel" cc tb k n (mw o a F wd G ex) L (.ref o :: st) pc := by
  subst hv
  exact br_getf (i := 40) (j := 0) (fs := mF a F wd) rfl rfl in_X3 2 (by decide) q1300 rfl rfl d kk
theorem mw_F2 (v : Int) : gset (mw o a F wd G ex) 40 0 (some (o, bO 2 ((mF a F wd).set 2 (.int (iI v))))) = mw o a (uF F 2 v) wd G ex := mw_set 0 (by decide) rfl (fun i hi => match i, hi with
    | 0, hi => absurd rfl hi
    | 1, _ => rfl
    | 2, _ => rfl
    | 3, _ => rfl
    | 4, _ => rfl
    | 5, _ => rfl
    | 6, _ => rfl
    | 7, _ => rfl
    | 8, _ => rfl
    | 9, _ => rfl
    | _ + 10, _ => rfl)
theorem br_mp_2 {v : Int} (d : decode cc pc = .ok (.putfield 11, 3)) (kk : bk_V Γ D R "BreakSetterModel" cc tb k n (mw o a (uF F 2 v) wd G ex) L (st) (pc + 3)) : bk_V Γ D R "BreakSetterModel" cc tb k n (mw o a F wd G ex) L (.int (iI v) :: .ref o :: st) pc :=
  br_putf (i := 40) (j := 0) (fs := mF a F wd) (ty := .int) (ty0 := tyX3) rfl rfl in_X3 tyX3_ok nmX3 2 (by decide) q1300 rfl rfl rfl rfl rfl (by simp [mF]) d (by rw [mw_F2]; exact kk)
theorem br_mg_3 {v : Int} (hv : F 3 = v) (d : decode cc pc = .ok (.getfield 18, 3)) (kk : bk_V Γ D R "BreakSetterModel" cc tb k n (mw o a F wd G ex) L (.int (iI v) :: st) (pc + 3)) : bk_V Γ D R "BreakSetterModel" cc tb k n (mw o a F wd G ex) L (.ref o :: st) pc := by
  subst hv
  exact br_getf (i := 40) (j := 0) (fs := mF a F wd) rfl rfl in_X3 3 (by decide) q1301 rfl rfl d kk
theorem mw_F3 (v : Int) : gset (mw o a F wd G ex) 40 0 (some (o, bO 2 ((mF a F wd).set 3 (.int (iI v))))) = mw o a (uF F 3 v) wd G ex := mw_set 0 (by decide) rfl (fun i hi => match i, hi with
    | 0, hi => absurd rfl hi
    | 1, _ => rfl
    | 2, _ => rfl
    | 3, _ => rfl
    | 4, _ => rfl
    | 5, _ => rfl
    | 6, _ => rfl
    | 7, _ => rfl
    | 8, _ => rfl
    | 9, _ => rfl
    | _ + 10, _ => rfl)
theorem br_mp_3 {v : Int} (d : decode cc pc = .ok (.putfield 18, 3)) (kk : bk_V Γ D R "BreakSetterModel" cc tb k n (mw o a (uF F 3 v) wd G ex) L (st) (pc + 3)) : bk_V Γ D R "BreakSetterModel" cc tb k n (mw o a F wd G ex) L (.int (iI v) :: .ref o :: st) pc :=
  br_putf (i := 40) (j := 0) (fs := mF a F wd) (ty := .int) (ty0 := tyX3) rfl rfl in_X3 tyX3_ok nmX3 3 (by decide) q1301 rfl rfl rfl rfl rfl (by simp [mF]) d (by rw [mw_F3]; exact kk)
theorem br_mg_4 {v : Int} (hv : F 4 = v) (d : decode cc pc = .ok (.getfield 21, 3)) (kk : bk_V Γ D R "BreakSetterModel" cc tb k n (mw o a F wd G ex) L (.int (iI v) :: st) (pc + 3)) : bk_V Γ D R "BreakSetterModel" cc tb k n (mw o a F wd G ex) L (.ref o :: st) pc := by
  subst hv
  exact br_getf (i := 40) (j := 0) (fs := mF a F wd) rfl rfl in_X3 4 (by decide) q1302 rfl rfl d kk
theorem mw_F4 (v : Int) : gset (mw o a F wd G ex) 40 0 (some (o, bO 2 ((mF a F wd).set 4 (.int (iI v))))) = mw o a (uF F 4 v) wd G ex := mw_set 0 (by decide) rfl (fun i hi => match i, hi with
    | 0, hi => absurd rfl hi
    | 1, _ => rfl
    | 2, _ => rfl
    | 3, _ => rfl
    | 4, _ => rfl
    | 5, _ => rfl
    | 6, _ => rfl
    | 7, _ => rfl
    | 8, _ => rfl
    | 9, _ => rfl
    | _ + 10, _ => rfl)
theorem br_mp_4 {v : Int} (d : decode cc pc = .ok (.putfield 21, 3)) (kk : bk_V Γ D R "BreakSetterModel" cc tb k n (mw o a (uF F 4 v) wd G ex) L (st) (pc + 3)) : bk_V Γ D R "BreakSetterModel" cc tb k n (mw o a F wd G ex) L (.int (iI v) :: .ref o :: st) pc :=
  br_putf (i := 40) (j := 0) (fs := mF a F wd) (ty := .int) (ty0 := tyX3) rfl rfl in_X3 tyX3_ok nmX3 4 (by decide) q1302 rfl rfl rfl rfl rfl (by simp [mF]) d (by rw [mw_F4]; exact kk)
theorem br_mg_5 {v : Int} (hv : F 5 = v) (d : decode cc pc = .ok (.getfield 24, 3)) (kk : bk_V Γ D R "BreakSetterModel" cc tb k n (mw o a F wd G ex) L (.int (iI v) :: st) (pc + 3)) : bk_V Γ D R "BreakSetterModel" cc tb k n (mw o a F wd G ex) L (.ref o :: st) pc := by
  subst hv
  exact br_getf (i := 40) (j := 0) (fs := mF a F wd) rfl rfl in_X3 5 (by decide) q1303 rfl rfl d kk
theorem mw_F5 (v : Int) : gset (mw o a F wd G ex) 40 0 (some (o, bO 2 ((mF a F wd).set 5 (.int (iI v))))) = mw o a (uF F 5 v) wd G ex := mw_set 0 (by decide) rfl (fun i hi => match i, hi with
    | 0, hi => absurd rfl hi
    | 1, _ => rfl
    | 2, _ => rfl
    | 3, _ => rfl
    | 4, _ => rfl
    | 5, _ => rfl
    | 6, _ => rfl
    | 7, _ => rfl
    | 8, _ => rfl
    | 9, _ => rfl
    | _ + 10, _ => rfl)
theorem br_mp_5 {v : Int} (d : decode cc pc = .ok (.putfield 24, 3)) (kk : bk_V Γ D R "BreakSetterModel" cc tb k n (mw o a (uF F 5 v) wd G ex) L (st) (pc + 3)) : bk_V Γ D R "BreakSetterModel" cc tb k n (mw o a F wd G ex) L (.int (iI v) :: .ref o :: st) pc :=
  br_putf (i := 40) (j := 0) (fs := mF a F wd) (ty := .int) (ty0 := tyX3) rfl rfl in_X3 tyX3_ok nmX3 5 (by decide) q1303 rfl rfl rfl rfl rfl (by simp [mF]) d (by rw [mw_F5]; exact kk)
theorem br_mg_6 {v : Int} (hv : F 6 = v) (d : decode cc pc = .ok (.getfield 27, 3)) (kk : bk_V Γ D R "BreakSetterModel" cc tb k n (mw o a F wd G ex) L (.int (iI v) :: st) (pc + 3)) : bk_V Γ D R "BreakSetterModel" cc tb k n (mw o a F wd G ex) L (.ref o :: st) pc := by
  subst hv
  exact br_getf (i := 40) (j := 0) (fs := mF a F wd) rfl rfl in_X3 6 (by decide) q1304 rfl rfl d kk
theorem mw_F6 (v : Int) : gset (mw o a F wd G ex) 40 0 (some (o, bO 2 ((mF a F wd).set 6 (.int (iI v))))) = mw o a (uF F 6 v) wd G ex := mw_set 0 (by decide) rfl (fun i hi => match i, hi with
    | 0, hi => absurd rfl hi
    | 1, _ => rfl
    | 2, _ => rfl
    | 3, _ => rfl
    | 4, _ => rfl
    | 5, _ => rfl
    | 6, _ => rfl
    | 7, _ => rfl
    | 8, _ => rfl
    | 9, _ => rfl
    | _ + 10, _ => rfl)
theorem br_mp_6 {v : Int} (d : decode cc pc = .ok (.putfield 27, 3)) (kk : bk_V Γ D R "BreakSetterModel" cc tb k n (mw o a (uF F 6 v) wd G ex) L (st) (pc + 3)) : bk_V Γ D R "BreakSetterModel" cc tb k n (mw o a F wd G ex) L (.int (iI v) :: .ref o :: st) pc :=
  br_putf (i := 40) (j := 0) (fs := mF a F wd) (ty := .int) (ty0 := tyX3) rfl rfl in_X3 tyX3_ok nmX3 6 (by decide) q1304 rfl rfl rfl rfl rfl (by simp [mF]) d (by rw [mw_F6]; exact kk)
theorem br_mg_7 {v : Int} (hv : F 7 = v) (d : decode cc pc = .ok (.getfield 41, 3)) (kk : bk_V Γ D R "BreakSetterModel" cc tb k n (mw o a F wd G ex) L (.int (iI v) :: st) (pc + 3)) : bk_V Γ D R "BreakSetterModel" cc tb k n (mw o a F wd G ex) L (.ref o :: st) pc := by
  subst hv
  exact br_getf (i := 40) (j := 0) (fs := mF a F wd) rfl rfl in_X3 7 (by decide) q1305 rfl rfl d kk
theorem mw_F7 (v : Int) : gset (mw o a F wd G ex) 40 0 (some (o, bO 2 ((mF a F wd).set 7 (.int (iI v))))) = mw o a (uF F 7 v) wd G ex := mw_set 0 (by decide) rfl (fun i hi => match i, hi with
    | 0, hi => absurd rfl hi
    | 1, _ => rfl
    | 2, _ => rfl
    | 3, _ => rfl
    | 4, _ => rfl
    | 5, _ => rfl
    | 6, _ => rfl
    | 7, _ => rfl
    | 8, _ => rfl
    | 9, _ => rfl
    | _ + 10, _ => rfl)
theorem br_mp_7 {v : Int} (d : decode cc pc = .ok (.putfield 41, 3)) (kk : bk_V Γ D R "BreakSetterModel" cc tb k n (mw o a (uF F 7 v) wd G ex) L (st) (pc + 3)) : bk_V Γ D R "BreakSetterModel" cc tb k n (mw o a F wd G ex) L (.int (iI v) :: .ref o :: st) pc :=
  br_putf (i := 40) (j := 0) (fs := mF a F wd) (ty := .int) (ty0 := tyX3) rfl rfl in_X3 tyX3_ok nmX3 7 (by decide) q1305 rfl rfl rfl rfl rfl (by simp [mF]) d (by rw [mw_F7]; exact kk)
theorem br_mg_8 {v : Int} (hv : F 8 = v) (d : decode cc pc = .ok (.getfield 62, 3)) (kk : bk_V Γ D R "BreakSetterModel" cc tb k n (mw o a F wd G ex) L (.int (iI v) :: st) (pc + 3)) : bk_V Γ D R "BreakSetterModel" cc tb k n (mw o a F wd G ex) L (.ref o :: st) pc := by
  subst hv
  exact br_getf (i := 40) (j := 0) (fs := mF a F wd) rfl rfl in_X3 8 (by decide) q1306 rfl rfl d kk
theorem mw_F8 (v : Int) : gset (mw o a F wd G ex) 40 0 (some (o, bO 2 ((mF a F wd).set 8 (.int (iI v))))) = mw o a (uF F 8 v) wd G ex := mw_set 0 (by decide) rfl (fun i hi => match i, hi with
    | 0, hi => absurd rfl hi
    | 1, _ => rfl
    | 2, _ => rfl
    | 3, _ => rfl
    | 4, _ => rfl
    | 5, _ => rfl
    | 6, _ => rfl
    | 7, _ => rfl
    | 8, _ => rfl
    | 9, _ => rfl
    | _ + 10, _ => rfl)
theorem br_mp_8 {v : Int} (d : decode cc pc = .ok (.putfield 62, 3)) (kk : bk_V Γ D R "BreakSetterModel" cc tb k n (mw o a (uF F 8 v) wd G ex) L (st) (pc + 3)) : bk_V Γ D R "BreakSetterModel" cc tb k n (mw o a F wd G ex) L (.int (iI v) :: .ref o :: st) pc :=
  br_putf (i := 40) (j := 0) (fs := mF a F wd) (ty := .int) (ty0 := tyX3) rfl rfl in_X3 tyX3_ok nmX3 8 (by decide) q1306 rfl rfl rfl rfl rfl (by simp [mF]) d (by rw [mw_F8]; exact kk)
theorem br_mg_9 {v : Int} (hv : F 9 = v) (d : decode cc pc = .ok (.getfield 65, 3)) (kk : bk_V Γ D R "BreakSetterModel" cc tb k n (mw o a F wd G ex) L (.int (iI v) :: st) (pc + 3)) : bk_V Γ D R "BreakSetterModel" cc tb k n (mw o a F wd G ex) L (.ref o :: st) pc := by
  subst hv
  exact br_getf (i := 40) (j := 0) (fs := mF a F wd) rfl rfl in_X3 9 (by decide) q1307 rfl rfl d kk
theorem mw_F9 (v : Int) : gset (mw o a F wd G ex) 40 0 (some (o, bO 2 ((mF a F wd).set 9 (.int (iI v))))) = mw o a (uF F 9 v) wd G ex := mw_set 0 (by decide) rfl (fun i hi => match i, hi with
    | 0, hi => absurd rfl hi
    | 1, _ => rfl
    | 2, _ => rfl
    | 3, _ => rfl
    | 4, _ => rfl
    | 5, _ => rfl
    | 6, _ => rfl
    | 7, _ => rfl
    | 8, _ => rfl
    | 9, _ => rfl
    | _ + 10, _ => rfl)
theorem br_mp_9 {v : Int} (d : decode cc pc = .ok (.putfield 65, 3)) (kk : bk_V Γ D R "BreakSetterModel" cc tb k n (mw o a (uF F 9 v) wd G ex) L (st) (pc + 3)) : bk_V Γ D R "BreakSetterModel" cc tb k n (mw o a F wd G ex) L (.int (iI v) :: .ref o :: st) pc :=
  br_putf (i := 40) (j := 0) (fs := mF a F wd) (ty := .int) (ty0 := tyX3) rfl rfl in_X3 tyX3_ok nmX3 9 (by decide) q1307 rfl rfl rfl rfl rfl (by simp [mF]) d (by rw [mw_F9]; exact kk)
theorem br_mg_10 (d : decode cc pc = .ok (.getfield 37, 3)) (kk : bk_V Γ D R "BreakSetterModel" cc tb k n (mw o a F wd G ex) L (.long (jL wd) :: st) (pc + 3)) : bk_V Γ D R "BreakSetterModel" cc tb k n (mw o a F wd G ex) L (.ref o :: st) pc := by
  exact br_getf (i := 40) (j := 0) (fs := mF a F wd) rfl rfl in_X3 10 (by decide) q1308 rfl rfl d kk
theorem mw_F10 (v : Int) : gset (mw o a F wd G ex) 40 0 (some (o, bO 2 ((mF a F wd).set 10 (.long (jL v))))) = mw o a F v G ex := mw_set 0 (by decide) rfl (fun i hi => match i, hi with
    | 0, hi => absurd rfl hi
    | 1, _ => rfl
    | 2, _ => rfl
    | 3, _ => rfl
    | 4, _ => rfl
    | 5, _ => rfl
    | 6, _ => rfl
    | 7, _ => rfl
    | 8, _ => rfl
    | 9, _ => rfl
    | _ + 10, _ => rfl)
theorem br_mp_10 {v : Int} (d : decode cc pc = .ok (.putfield 37, 3)) (kk : bk_V Γ D R "BreakSetterModel" cc tb k n (mw o a F v G ex) L (st) (pc + 3)) : bk_V Γ D R "BreakSetterModel" cc tb k n (mw o a F wd G ex) L (.long (jL v) :: .ref o :: st) pc :=
  br_putf (i := 40) (j := 0) (fs := mF a F wd) (ty := .long) (ty0 := tyX3) rfl rfl in_X3 tyX3_ok nmX3 10 (by decide) q1308 rfl rfl rfl rfl rfl (by simp [mF]) d (by rw [mw_F10]; exact kk)
theorem br_mg_11 (d : decode cc pc = .ok (.getfield 74, 3)) (kk : bk_V Γ D R "BreakSetterModel" cc tb k n (mw o a F wd G ex) L (.ref (a 2) :: st) (pc + 3)) : bk_V Γ D R "BreakSetterModel" cc tb k n (mw o a F wd G ex) L (.ref o :: st) pc := by
  exact br_getf (i := 40) (j := 0) (fs := mF a F wd) rfl rfl in_X3 11 (by decide) q1309 rfl rfl d kk
theorem br_mg_12 (d : decode cc pc = .ok (.getfield 77, 3)) (kk : bk_V Γ D R "BreakSetterModel" cc tb k n (mw o a F wd G ex) L (.ref (a 3) :: st) (pc + 3)) : bk_V Γ D R "BreakSetterModel" cc tb k n (mw o a F wd G ex) L (.ref o :: st) pc := by
  exact br_getf (i := 40) (j := 0) (fs := mF a F wd) rfl rfl in_X3 12 (by decide) q1310 rfl rfl d kk
theorem br_mg_13 (d : decode cc pc = .ok (.getfield 80, 3)) (kk : bk_V Γ D R "BreakSetterModel" cc tb k n (mw o a F wd G ex) L (.ref (a 4) :: st) (pc + 3)) : bk_V Γ D R "BreakSetterModel" cc tb k n (mw o a F wd G ex) L (.ref o :: st) pc := by
  exact br_getf (i := 40) (j := 0) (fs := mF a F wd) rfl rfl in_X3 13 (by decide) q1311 rfl rfl d kk
theorem br_mg_14 {v : Int} (hv : F 14 = v) (d : decode cc pc = .ok (.getfield 152, 3)) (kk : bk_V Γ D R "BreakSetterModel" cc tb k n (mw o a F wd G ex) L (.int (iI v) :: st) (pc + 3)) : bk_V Γ D R "BreakSetterModel" cc tb k n (mw o a F wd G ex) L (.ref o :: st) pc := by
  subst hv
  exact br_getf (i := 40) (j := 0) (fs := mF a F wd) rfl rfl in_X3 14 (by decide) q1312 rfl rfl d kk
theorem mw_F14 (v : Int) : gset (mw o a F wd G ex) 40 0 (some (o, bO 2 ((mF a F wd).set 14 (.int (iI v))))) = mw o a (uF F 14 v) wd G ex := mw_set 0 (by decide) rfl (fun i hi => match i, hi with
    | 0, hi => absurd rfl hi
    | 1, _ => rfl
    | 2, _ => rfl
    | 3, _ => rfl
    | 4, _ => rfl
    | 5, _ => rfl
    | 6, _ => rfl
    | 7, _ => rfl
    | 8, _ => rfl
    | 9, _ => rfl
    | _ + 10, _ => rfl)
theorem br_mp_14 {v : Int} (d : decode cc pc = .ok (.putfield 152, 3)) (kk : bk_V Γ D R "BreakSetterModel" cc tb k n (mw o a (uF F 14 v) wd G ex) L (st) (pc + 3)) : bk_V Γ D R "BreakSetterModel" cc tb k n (mw o a F wd G ex) L (.int (iI v) :: .ref o :: st) pc :=
  br_putf (i := 40) (j := 0) (fs := mF a F wd) (ty := .int) (ty0 := tyX3) rfl rfl in_X3 tyX3_ok nmX3 14 (by decide) q1312 rfl rfl rfl rfl rfl (by simp [mF]) d (by rw [mw_F14]; exact kk)
theorem br_mg_15 {v : Int} (hv : F 15 = v) (d : decode cc pc = .ok (.getfield 106, 3)) (kk : bk_V Γ D R "BreakSetterModel" cc tb k n (mw o a F wd G ex) L (.int (iI v) :: st) (pc + 3)) : bk_V Γ D R "BreakSetterModel" cc tb k n (mw o a F wd G ex) L (.ref o :: st) pc := by
  subst hv
  exact br_getf (i := 40) (j := 0) (fs := mF a F wd) rfl rfl in_X3 15 (by decide) q1313 rfl rfl d kk
theorem mw_F15 (v : Int) : gset (mw o a F wd G ex) 40 0 (some (o, bO 2 ((mF a F wd).set 15 (.int (iI v))))) = mw o a (uF F 15 v) wd G ex := mw_set 0 (by decide) rfl (fun i hi => match i, hi with
    | 0, hi => absurd rfl hi
    | 1, _ => rfl
    | 2, _ => rfl
    | 3, _ => rfl
    | 4, _ => rfl
    | 5, _ => rfl
    | 6, _ => rfl
    | 7, _ => rfl
    | 8, _ => rfl
    | 9, _ => rfl
    | _ + 10, _ => rfl)
theorem br_mp_15 {v : Int} (d : decode cc pc = .ok (.putfield 106, 3)) (kk : bk_V Γ D R "BreakSetterModel" cc tb k n (mw o a (uF F 15 v) wd G ex) L (st) (pc + 3)) : bk_V Γ D R "BreakSetterModel" cc tb k n (mw o a F wd G ex) L (.int (iI v) :: .ref o :: st) pc :=
  br_putf (i := 40) (j := 0) (fs := mF a F wd) (ty := .int) (ty0 := tyX3) rfl rfl in_X3 tyX3_ok nmX3 15 (by decide) q1313 rfl rfl rfl rfl rfl (by simp [mF]) d (by rw [mw_F15]; exact kk)
theorem br_mg_16 {v : Int} (hv : F 16 = v) (d : decode cc pc = .ok (.getfield 131, 3)) (kk : bk_V Γ D R "BreakSetterModel" cc tb k n (mw o a F wd G ex) L (.int (iI v) :: st) (pc + 3)) : bk_V Γ D R "BreakSetterModel" cc tb k n (mw o a F wd G ex) L (.ref o :: st) pc := by
  subst hv
  exact br_getf (i := 40) (j := 0) (fs := mF a F wd) rfl rfl in_X3 16 (by decide) q1314 rfl rfl d kk
theorem mw_F16 (v : Int) : gset (mw o a F wd G ex) 40 0 (some (o, bO 2 ((mF a F wd).set 16 (.int (iI v))))) = mw o a (uF F 16 v) wd G ex := mw_set 0 (by decide) rfl (fun i hi => match i, hi with
    | 0, hi => absurd rfl hi
    | 1, _ => rfl
    | 2, _ => rfl
    | 3, _ => rfl
    | 4, _ => rfl
    | 5, _ => rfl
    | 6, _ => rfl
    | 7, _ => rfl
    | 8, _ => rfl
    | 9, _ => rfl
    | _ + 10, _ => rfl)
theorem br_mp_16 {v : Int} (d : decode cc pc = .ok (.putfield 131, 3)) (kk : bk_V Γ D R "BreakSetterModel" cc tb k n (mw o a (uF F 16 v) wd G ex) L (st) (pc + 3)) : bk_V Γ D R "BreakSetterModel" cc tb k n (mw o a F wd G ex) L (.int (iI v) :: .ref o :: st) pc :=
  br_putf (i := 40) (j := 0) (fs := mF a F wd) (ty := .int) (ty0 := tyX3) rfl rfl in_X3 tyX3_ok nmX3 16 (by decide) q1314 rfl rfl rfl rfl rfl (by simp [mF]) d (by rw [mw_F16]; exact kk)
theorem br_mg_17 {v : Int} (hv : F 17 = v) (d : decode cc pc = .ok (.getfield 140, 3)) (kk : bk_V Γ D R "BreakSetterModel" cc tb k n (mw o a F wd G ex) L (.int (iI v) :: st) (pc + 3)) : bk_V Γ D R "BreakSetterModel" cc tb k n (mw o a F wd G ex) L (.ref o :: st) pc := by
  subst hv
  exact br_getf (i := 40) (j := 0) (fs := mF a F wd) rfl rfl in_X3 17 (by decide) q1315 rfl rfl d kk
theorem mw_F17 (v : Int) : gset (mw o a F wd G ex) 40 0 (some (o, bO 2 ((mF a F wd).set 17 (.int (iI v))))) = mw o a (uF F 17 v) wd G ex := mw_set 0 (by decide) rfl (fun i hi => match i, hi with
    | 0, hi => absurd rfl hi
    | 1, _ => rfl
    | 2, _ => rfl
    | 3, _ => rfl
    | 4, _ => rfl
    | 5, _ => rfl
    | 6, _ => rfl
    | 7, _ => rfl
    | 8, _ => rfl
    | 9, _ => rfl
    | _ + 10, _ => rfl)
theorem br_mp_17 {v : Int} (d : decode cc pc = .ok (.putfield 140, 3)) (kk : bk_V Γ D R "BreakSetterModel" cc tb k n (mw o a (uF F 17 v) wd G ex) L (st) (pc + 3)) : bk_V Γ D R "BreakSetterModel" cc tb k n (mw o a F wd G ex) L (.int (iI v) :: .ref o :: st) pc :=
  br_putf (i := 40) (j := 0) (fs := mF a F wd) (ty := .int) (ty0 := tyX3) rfl rfl in_X3 tyX3_ok nmX3 17 (by decide) q1315 rfl rfl rfl rfl rfl (by simp [mF]) d (by rw [mw_F17]; exact kk)
theorem br_mg_18 (d : decode cc pc = .ok (.getfield 83, 3)) (kk : bk_V Γ D R "BreakSetterModel" cc tb k n (mw o a F wd G ex) L (.ref (a 5) :: st) (pc + 3)) : bk_V Γ D R "BreakSetterModel" cc tb k n (mw o a F wd G ex) L (.ref o :: st) pc := by
  exact br_getf (i := 40) (j := 0) (fs := mF a F wd) rfl rfl in_X3 18 (by decide) q1316 rfl rfl d kk
theorem br_mg_19 (d : decode cc pc = .ok (.getfield 86, 3)) (kk : bk_V Γ D R "BreakSetterModel" cc tb k n (mw o a F wd G ex) L (.ref (a 6) :: st) (pc + 3)) : bk_V Γ D R "BreakSetterModel" cc tb k n (mw o a F wd G ex) L (.ref o :: st) pc := by
  exact br_getf (i := 40) (j := 0) (fs := mF a F wd) rfl rfl in_X3 19 (by decide) q1317 rfl rfl d kk
theorem br_mg_20 (d : decode cc pc = .ok (.getfield 89, 3)) (kk : bk_V Γ D R "BreakSetterModel" cc tb k n (mw o a F wd G ex) L (.ref (a 7) :: st) (pc + 3)) : bk_V Γ D R "BreakSetterModel" cc tb k n (mw o a F wd G ex) L (.ref o :: st) pc := by
  exact br_getf (i := 40) (j := 0) (fs := mF a F wd) rfl rfl in_X3 20 (by decide) q1318 rfl rfl d kk
theorem br_mg_21 (d : decode cc pc = .ok (.getfield 92, 3)) (kk : bk_V Γ D R "BreakSetterModel" cc tb k n (mw o a F wd G ex) L (.ref (a 8) :: st) (pc + 3)) : bk_V Γ D R "BreakSetterModel" cc tb k n (mw o a F wd G ex) L (.ref o :: st) pc := by
  exact br_getf (i := 40) (j := 0) (fs := mF a F wd) rfl rfl in_X3 21 (by decide) q1319 rfl rfl d kk
theorem br_mg_22 (d : decode cc pc = .ok (.getfield 96, 3)) (kk : bk_V Γ D R "BreakSetterModel" cc tb k n (mw o a F wd G ex) L (.ref (a 9) :: st) (pc + 3)) : bk_V Γ D R "BreakSetterModel" cc tb k n (mw o a F wd G ex) L (.ref o :: st) pc := by
  exact br_getf (i := 40) (j := 0) (fs := mF a F wd) rfl rfl in_X3 22 (by decide) q1320 rfl rfl d kk
theorem br_ml_1 {z v : Int} (hz : 0 ≤ z ∧ z < 640) (hv : G 1 z = v) (d : decode cc pc = .ok (.iaload, 1)) (kk : bk_V Γ D R "BreakSetterModel" cc tb k n (mw o a F wd G ex) L (.int (iI v) :: st) (pc + 1)) : bk_V Γ D R "BreakSetterModel" cc tb k n (mw o a F wd G ex) L (.int (iI z) :: .ref (a 1) :: st) pc := by
  subst hv
  exact br_iald (i := 41) (j := 0) (N := 640) (f := G 1) rfl hz (by decide) d kk
theorem mw_G1 (g : Int → Int) : gset (mw o a F wd G ex) 41 0 (some (a 1, bI 640 g)) = mw o a F wd (uG G 1 g) ex := mw_set 1 (by decide) rfl (fun i hi => match i, hi with
    | 0, _ => rfl
    | 1, hi => absurd rfl hi
    | 2, _ => rfl
    | 3, _ => rfl
    | 4, _ => rfl
    | 5, _ => rfl
    | 6, _ => rfl
    | 7, _ => rfl
    | 8, _ => rfl
    | 9, _ => rfl
    | _ + 10, _ => rfl)
theorem br_ms_1 {z v : Int} (hz : 0 ≤ z ∧ z < 640) (d : decode cc pc = .ok (.iastore, 1)) (kk : bk_V Γ D R "BreakSetterModel" cc tb k n (mw o a F wd (uG G 1 (uI (G 1) z v)) ex) L (st) (pc + 1)) : bk_V Γ D R "BreakSetterModel" cc tb k n (mw o a F wd G ex) L (.int (iI v) :: .int (iI z) :: .ref (a 1) :: st) pc :=
  br_iast (i := 41) (j := 0) (N := 640) (f := G 1) rfl hz (by decide) d (by rw [mw_G1]; exact kk)
theorem br_ml_2 {z v : Int} (hz : 0 ≤ z ∧ z < 308) (hv : G 2 z = v) (d : decode cc pc = .ok (.iaload, 1)) (kk : bk_V Γ D R "BreakSetterModel" cc tb k n (mw o a F wd G ex) L (.int (iI v) :: st) (pc + 1)) : bk_V Γ D R "BreakSetterModel" cc tb k n (mw o a F wd G ex) L (.int (iI z) :: .ref (a 2) :: st) pc := by
  subst hv
  exact br_iald (i := 42) (j := 0) (N := 308) (f := G 2) rfl hz (by decide) d kk
theorem mw_G2 (g : Int → Int) : gset (mw o a F wd G ex) 42 0 (some (a 2, bI 308 g)) = mw o a F wd (uG G 2 g) ex := mw_set 2 (by decide) rfl (fun i hi => match i, hi with
    | 0, _ => rfl
    | 1, _ => rfl
    | 2, hi => absurd rfl hi
    | 3, _ => rfl
    | 4, _ => rfl
    | 5, _ => rfl
    | 6, _ => rfl
    | 7, _ => rfl
    | 8, _ => rfl
    | 9, _ => rfl
    | _ + 10, _ => rfl)
theorem br_ms_2 {z v : Int} (hz : 0 ≤ z ∧ z < 308) (d : decode cc pc = .ok (.iastore, 1)) (kk : bk_V Γ D R "BreakSetterModel" cc tb k n (mw o a F wd (uG G 2 (uI (G 2) z v)) ex) L (st) (pc + 1)) : bk_V Γ D R "BreakSetterModel" cc tb k n (mw o a F wd G ex) L (.int (iI v) :: .int (iI z) :: .ref (a 2) :: st) pc :=
  br_iast (i := 42) (j := 0) (N := 308) (f := G 2) rfl hz (by decide) d (by rw [mw_G2]; exact kk)
theorem br_ml_3 {z v : Int} (hz : 0 ≤ z ∧ z < 308) (hv : G 3 z = v) (d : decode cc pc = .ok (.iaload, 1)) (kk : bk_V Γ D R "BreakSetterModel" cc tb k n (mw o a F wd G ex) L (.int (iI v) :: st) (pc + 1)) : bk_V Γ D R "BreakSetterModel" cc tb k n (mw o a F wd G ex) L (.int (iI z) :: .ref (a 3) :: st) pc := by
  subst hv
  exact br_iald (i := 43) (j := 0) (N := 308) (f := G 3) rfl hz (by decide) d kk
theorem mw_G3 (g : Int → Int) : gset (mw o a F wd G ex) 43 0 (some (a 3, bI 308 g)) = mw o a F wd (uG G 3 g) ex := mw_set 3 (by decide) rfl (fun i hi => match i, hi with
    | 0, _ => rfl
    | 1, _ => rfl
    | 2, _ => rfl
    | 3, hi => absurd rfl hi
    | 4, _ => rfl
    | 5, _ => rfl
    | 6, _ => rfl
    | 7, _ => rfl
    | 8, _ => rfl
    | 9, _ => rfl
    | _ + 10, _ => rfl)
theorem br_ms_3 {z v : Int} (hz : 0 ≤ z ∧ z < 308) (d : decode cc pc = .ok (.iastore, 1)) (kk : bk_V Γ D R "BreakSetterModel" cc tb k n (mw o a F wd (uG G 3 (uI (G 3) z v)) ex) L (st) (pc + 1)) : bk_V Γ D R "BreakSetterModel" cc tb k n (mw o a F wd G ex) L (.int (iI v) :: .int (iI z) :: .ref (a 3) :: st) pc :=
  br_iast (i := 43) (j := 0) (N := 308) (f := G 3) rfl hz (by decide) d (by rw [mw_G3]; exact kk)
theorem br_ml_4 {z v : Int} (hz : 0 ≤ z ∧ z < 3080) (hv : G 4 z = v) (d : decode cc pc = .ok (.iaload, 1)) (kk : bk_V Γ D R "BreakSetterModel" cc tb k n (mw o a F wd G ex) L (.int (iI v) :: st) (pc + 1)) : bk_V Γ D R "BreakSetterModel" cc tb k n (mw o a F wd G ex) L (.int (iI z) :: .ref (a 4) :: st) pc := by
  subst hv
  exact br_iald (i := 44) (j := 0) (N := 3080) (f := G 4) rfl hz (by decide) d kk
theorem mw_G4 (g : Int → Int) : gset (mw o a F wd G ex) 44 0 (some (a 4, bI 3080 g)) = mw o a F wd (uG G 4 g) ex := mw_set 4 (by decide) rfl (fun i hi => match i, hi with
    | 0, _ => rfl
    | 1, _ => rfl
    | 2, _ => rfl
    | 3, _ => rfl
    | 4, hi => absurd rfl hi
    | 5, _ => rfl
    | 6, _ => rfl
    | 7, _ => rfl
    | 8, _ => rfl
    | 9, _ => rfl
    | _ + 10, _ => rfl)
theorem br_ms_4 {z v : Int} (hz : 0 ≤ z ∧ z < 3080) (d : decode cc pc = .ok (.iastore, 1)) (kk : bk_V Γ D R "BreakSetterModel" cc tb k n (mw o a F wd (uG G 4 (uI (G 4) z v)) ex) L (st) (pc + 1)) : bk_V Γ D R "BreakSetterModel" cc tb k n (mw o a F wd G ex) L (.int (iI v) :: .int (iI z) :: .ref (a 4) :: st) pc :=
  br_iast (i := 44) (j := 0) (N := 3080) (f := G 4) rfl hz (by decide) d (by rw [mw_G4]; exact kk)
theorem br_ml_5 {z v : Int} (hz : 0 ≤ z ∧ z < 48) (hv : G 5 z = v) (d : decode cc pc = .ok (.iaload, 1)) (kk : bk_V Γ D R "BreakSetterModel" cc tb k n (mw o a F wd G ex) L (.int (iI v) :: st) (pc + 1)) : bk_V Γ D R "BreakSetterModel" cc tb k n (mw o a F wd G ex) L (.int (iI z) :: .ref (a 5) :: st) pc := by
  subst hv
  exact br_iald (i := 45) (j := 0) (N := 48) (f := G 5) rfl hz (by decide) d kk
theorem mw_G5 (g : Int → Int) : gset (mw o a F wd G ex) 45 0 (some (a 5, bI 48 g)) = mw o a F wd (uG G 5 g) ex := mw_set 5 (by decide) rfl (fun i hi => match i, hi with
    | 0, _ => rfl
    | 1, _ => rfl
    | 2, _ => rfl
    | 3, _ => rfl
    | 4, _ => rfl
    | 5, hi => absurd rfl hi
    | 6, _ => rfl
    | 7, _ => rfl
    | 8, _ => rfl
    | 9, _ => rfl
    | _ + 10, _ => rfl)
theorem br_ms_5 {z v : Int} (hz : 0 ≤ z ∧ z < 48) (d : decode cc pc = .ok (.iastore, 1)) (kk : bk_V Γ D R "BreakSetterModel" cc tb k n (mw o a F wd (uG G 5 (uI (G 5) z v)) ex) L (st) (pc + 1)) : bk_V Γ D R "BreakSetterModel" cc tb k n (mw o a F wd G ex) L (.int (iI v) :: .int (iI z) :: .ref (a 5) :: st) pc :=
  br_iast (i := 45) (j := 0) (N := 48) (f := G 5) rfl hz (by decide) d (by rw [mw_G5]; exact kk)
theorem br_ml_6 {z v : Int} (hz : 0 ≤ z ∧ z < 48) (hv : G 6 z = v) (d : decode cc pc = .ok (.iaload, 1)) (kk : bk_V Γ D R "BreakSetterModel" cc tb k n (mw o a F wd G ex) L (.int (iI v) :: st) (pc + 1)) : bk_V Γ D R "BreakSetterModel" cc tb k n (mw o a F wd G ex) L (.int (iI z) :: .ref (a 6) :: st) pc := by
  subst hv
  exact br_iald (i := 46) (j := 0) (N := 48) (f := G 6) rfl hz (by decide) d kk
theorem mw_G6 (g : Int → Int) : gset (mw o a F wd G ex) 46 0 (some (a 6, bI 48 g)) = mw o a F wd (uG G 6 g) ex := mw_set 6 (by decide) rfl (fun i hi => match i, hi with
    | 0, _ => rfl
    | 1, _ => rfl
    | 2, _ => rfl
    | 3, _ => rfl
    | 4, _ => rfl
    | 5, _ => rfl
    | 6, hi => absurd rfl hi
    | 7, _ => rfl
    | 8, _ => rfl
    | 9, _ => rfl
    | _ + 10, _ => rfl)
theorem br_ms_6 {z v : Int} (hz : 0 ≤ z ∧ z < 48) (d : decode cc pc = .ok (.iastore, 1)) (kk : bk_V Γ D R "BreakSetterModel" cc tb k n (mw o a F wd (uG G 6 (uI (G 6) z v)) ex) L (st) (pc + 1)) : bk_V Γ D R "BreakSetterModel" cc tb k n (mw o a F wd G ex) L (.int (iI v) :: .int (iI z) :: .ref (a 6) :: st) pc :=
  br_iast (i := 46) (j := 0) (N := 48) (f := G 6) rfl hz (by decide) d (by rw [mw_G6]; exact kk)
theorem br_ml_7 {z v : Int} (hz : 0 ≤ z ∧ z < 8) (hv : G 7 z = v) (d : decode cc pc = .ok (.iaload, 1)) (kk : bk_V Γ D R "BreakSetterModel" cc tb k n (mw o a F wd G ex) L (.int (iI v) :: st) (pc + 1)) : bk_V Γ D R "BreakSetterModel" cc tb k n (mw o a F wd G ex) L (.int (iI z) :: .ref (a 7) :: st) pc := by
  subst hv
  exact br_iald (i := 47) (j := 0) (N := 8) (f := G 7) rfl hz (by decide) d kk
theorem mw_G7 (g : Int → Int) : gset (mw o a F wd G ex) 47 0 (some (a 7, bI 8 g)) = mw o a F wd (uG G 7 g) ex := mw_set 7 (by decide) rfl (fun i hi => match i, hi with
    | 0, _ => rfl
    | 1, _ => rfl
    | 2, _ => rfl
    | 3, _ => rfl
    | 4, _ => rfl
    | 5, _ => rfl
    | 6, _ => rfl
    | 7, hi => absurd rfl hi
    | 8, _ => rfl
    | 9, _ => rfl
    | _ + 10, _ => rfl)
theorem br_ms_7 {z v : Int} (hz : 0 ≤ z ∧ z < 8) (d : decode cc pc = .ok (.iastore, 1)) (kk : bk_V Γ D R "BreakSetterModel" cc tb k n (mw o a F wd (uG G 7 (uI (G 7) z v)) ex) L (st) (pc + 1)) : bk_V Γ D R "BreakSetterModel" cc tb k n (mw o a F wd G ex) L (.int (iI v) :: .int (iI z) :: .ref (a 7) :: st) pc :=
  br_iast (i := 47) (j := 0) (N := 8) (f := G 7) rfl hz (by decide) d (by rw [mw_G7]; exact kk)
theorem br_ml_8 {z v : Int} (hz : 0 ≤ z ∧ z < 48) (hv : G 8 z = v) (d : decode cc pc = .ok (.baload, 1)) (kk : bk_V Γ D R "BreakSetterModel" cc tb k n (mw o a F wd G ex) L (.int (iI v) :: st) (pc + 1)) : bk_V Γ D R "BreakSetterModel" cc tb k n (mw o a F wd G ex) L (.int (iI z) :: .ref (a 8) :: st) pc := by
  subst hv
  exact br_zald (i := 48) (j := 0) (N := 48) (f := G 8) rfl hz (by decide) d kk
theorem mw_G8 (g : Int → Int) : gset (mw o a F wd G ex) 48 0 (some (a 8, bZ 48 g)) = mw o a F wd (uG G 8 g) ex := mw_set 8 (by decide) rfl (fun i hi => match i, hi with
    | 0, _ => rfl
    | 1, _ => rfl
    | 2, _ => rfl
    | 3, _ => rfl
    | 4, _ => rfl
    | 5, _ => rfl
    | 6, _ => rfl
    | 7, _ => rfl
    | 8, hi => absurd rfl hi
    | 9, _ => rfl
    | _ + 10, _ => rfl)
theorem br_ms_8 {z v : Int} (hz : 0 ≤ z ∧ z < 48) (hb : v = 0 ∨ v = 1) (d : decode cc pc = .ok (.bastore, 1)) (kk : bk_V Γ D R "BreakSetterModel" cc tb k n (mw o a F wd (uG G 8 (uI (G 8) z v)) ex) L (st) (pc + 1)) : bk_V Γ D R "BreakSetterModel" cc tb k n (mw o a F wd G ex) L (.int (iI v) :: .int (iI z) :: .ref (a 8) :: st) pc :=
  br_zast (i := 48) (j := 0) (N := 48) (f := G 8) rfl hz (by decide) hb d (by rw [mw_G8]; exact kk)
theorem br_ml_9 {z v : Int} (hz : 0 ≤ z ∧ z < 147) (hv : G 9 z = v) (d : decode cc pc = .ok (.iaload, 1)) (kk : bk_V Γ D R "BreakSetterModel" cc tb k n (mw o a F wd G ex) L (.int (iI v) :: st) (pc + 1)) : bk_V Γ D R "BreakSetterModel" cc tb k n (mw o a F wd G ex) L (.int (iI z) :: .ref (a 9) :: st) pc := by
  subst hv
  exact br_iald (i := 49) (j := 0) (N := 147) (f := G 9) rfl hz (by decide) d kk
theorem mw_G9 (g : Int → Int) : gset (mw o a F wd G ex) 49 0 (some (a 9, bI 147 g)) = mw o a F wd (uG G 9 g) ex := mw_set 9 (by decide) rfl (fun i hi => match i, hi with
    | 0, _ => rfl
    | 1, _ => rfl
    | 2, _ => rfl
    | 3, _ => rfl
    | 4, _ => rfl
    | 5, _ => rfl
    | 6, _ => rfl
    | 7, _ => rfl
    | 8, _ => rfl
    | 9, hi => absurd rfl hi
    | _ + 10, _ => rfl)
theorem br_ms_9 {z v : Int} (hz : 0 ≤ z ∧ z < 147) (d : decode cc pc = .ok (.iastore, 1)) (kk : bk_V Γ D R "BreakSetterModel" cc tb k n (mw o a F wd (uG G 9 (uI (G 9) z v)) ex) L (st) (pc + 1)) : bk_V Γ D R "BreakSetterModel" cc tb k n (mw o a F wd G ex) L (.int (iI v) :: .int (iI z) :: .ref (a 9) :: st) pc :=
  br_iast (i := 49) (j := 0) (N := 147) (f := G 9) rfl hz (by decide) d (by rw [mw_G9]; exact kk)
end MROWS
