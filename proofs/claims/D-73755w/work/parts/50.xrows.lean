/-! THE WORLD OF A BreakSetter: places 0 (the object at o), 1..7 its arrays (a 1 tape, 2 cover, 3 taker, 4 isSeen, 5 helps, 6 backs, 7 at), 8 .. 14 its plan (plc), 15 the rows that backs keeps (hb); F: its ints by their field numbers; G: its arrays; P: the plan its ints; r: the row -/
set_option maxRecDepth 100000
def shFi (r : Int → Int) (k : Int) : Int := if rHas r k = 0 then -1 else rFi r k
def plF (b : Nat → Nat) (P : Nat → Int) : List Value := [.int (iI (P 0)), .int (iI (P 1)), .int (iI (P 2)), .int (iI (P 3)), .int (iI (P 4)), .ref (b 1), .ref (b 2), .ref (b 3), .ref (b 4)]
def shF (r : Int → Int) (k : Int) : List Value := [.int (iI (rP r k)), .int (iI (rFr r k)), .int (iI (rTo r k)), .int (iI (rHas r k)), .int (iI (shFi r k))]
def paF (r : Int → Int) (k : Int) : List Value := [.int (iI (rOf r k)), .int (iI (rLo r k)), .int (iI (rEa r k)), .int (iI (rLa r k))]
def refs (m : Int) (f : Nat → Nat) : Int → Option Nat := fun k => if 0 ≤ k ∧ k < m then some (f k.toNat) else none
/-- a plan's cells -/
def plc (b sa pa : Nat → Nat) (r : Int → Int) (P : Nat → Int) (du : Int → Int) (i j : Nat) : Option (Nat × bE) := match i with
  | 0 => if j = 0 then some (b 0, bO 1 (plF b P)) else none
  | 1 => if j = 0 then some (b 1, bQ 3 8 (refs (P 2) sa)) else none
  | 2 => if j = 0 then some (b 2, bQ 4 24 (refs (P 3) pa)) else none
  | 3 => if j = 0 then some (b 3, bI 144 (fun z => r (4 + z))) else none
  | 4 => if j = 0 then some (b 4, bI 144 du) else none
  | 5 => if (j : Int) < P 2 then some (sa j, bO 5 (shF r j)) else none
  | 6 => if (j : Int) < P 3 then some (pa j, bO 6 (paF r j)) else none
  | _ => none
def xF (a b : Nat → Nat) (F : Nat → Int) : List Value := [.ref (a 1), .int (iI (F 1)), .int (iI (F 2)), .ref (b 0), .ref (a 7), .ref (a 2), .int (iI (F 6)), .ref (a 3), .ref (a 4), .ref (a 5), .ref (a 6), .int (iI (F 11)), .int (iI (F 12))]
def xc (o : Nat) (a b : Nat → Nat) (F : Nat → Int) (G : Nat → Int → Int) (bk : Int → Option Nat) : Nat → Option (Nat × bE)
  | 0 => some (o, bO 0 (xF a b F))
  | 1 => some (a 1, bB 640 (G 1))
  | 2 => some (a 2, bI 144 (G 2))
  | 3 => some (a 3, bI 384 (G 3))
  | 4 => some (a 4, bZ 384 (G 4))
  | 5 => some (a 5, bI 147 (G 5))
  | 6 => some (a 6, bQ 5 10 bk)
  | 7 => some (a 7, bI 24 (G 7))
  | _ => none
def xw (o : Nat) (a : Nat → Nat) (F : Nat → Int) (G : Nat → Int → Int) (bk : Int → Option Nat) (b sa pa : Nat → Nat) (r : Int → Int) (P : Nat → Int) (du : Int → Int) (hb : Nat → Option (Nat × bE)) (ex : gC) : gC := fun i j =>
  if i < 8 then (if j = 0 then xc o a b F G bk i else none) else if i < 15 then plc b sa pa r P du (i - 8) j else if i = 15 then hb j else ex i j
theorem xw_set {o : Nat} {a b sa pa : Nat → Nat} {F F' : Nat → Int} {G G' : Nat → Int → Int} {bk bk' : Int → Option Nat} {r : Int → Int} {P : Nat → Int} {du : Int → Int} {hb : Nat → Option (Nat × bE)} {ex : gC} (i0 : Nat) (h0 : i0 < 8) {c : Option (Nat × bE)} (h : c = xc o a b F' G' bk' i0) (hne : ∀ i, i ≠ i0 → xc o a b F G bk i = xc o a b F' G' bk' i) : gset (xw o a F G bk b sa pa r P du hb ex) i0 0 c = xw o a F' G' bk' b sa pa r P du hb ex := by
  funext i j
  unfold gset xw
  by_cases hi : i = i0 ∧ j = 0
  · obtain ⟨rfl, rfl⟩ := hi
    rw [if_pos ⟨rfl, rfl⟩, if_pos h0, if_pos rfl, h]
  · rw [if_neg hi]
    by_cases h1 : i < 8
    · rw [if_pos h1, if_pos h1]
      by_cases h2 : j = 0
      · rw [if_pos h2, if_pos h2]
        exact hne i (fun q => hi ⟨q, h2⟩)
      · rw [if_neg h2, if_neg h2]
    · rw [if_neg h1, if_neg h1]
section XROWS
variable {Γ : bk_G} {D : bk_D} {R : Room} {own : String} {cc : ByteArray} {tb : List ExceptionTableEntry} {k n : Nat} {L : List (Option Value)} {st : List Value} {pc : Nat} {o : Nat} {a b sa pa : Nat → Nat} {F : Nat → Int} {G : Nat → Int → Int} {bk : Int → Option Nat} {r : Int → Int} {P : Nat → Int} {du : Int → Int} {hb : Nat → Option (Nat × bE)} {ex : gC}
theorem xw_sh {z : Int} (hz : 0 ≤ z ∧ z < P 2) : (xw o a F G bk b sa pa r P du hb ex) 13 z.toNat = some (sa z.toNat, bO 5 (shF r z)) := by
  show (if ((z.toNat : Nat) : Int) < P 2 then some (sa z.toNat, bO 5 (shF r ((z.toNat : Nat) : Int))) else none) = _
  rw [Int.toNat_of_nonneg hz.1, if_pos hz.2]
theorem xw_pa {z : Int} (hz : 0 ≤ z ∧ z < P 3) : (xw o a F G bk b sa pa r P du hb ex) 14 z.toNat = some (pa z.toNat, bO 6 (paF r z)) := by
  show (if ((z.toNat : Nat) : Int) < P 3 then some (pa z.toNat, bO 6 (paF r ((z.toNat : Nat) : Int))) else none) = _
  rw [Int.toNat_of_nonneg hz.1, if_pos hz.2]
theorem xw_F1 (v : Int) : gset (xw o a F G bk b sa pa r P du hb ex) 0 0 (some (o, bO 0 ((xF a b F).set 1 (.int (iI v))))) = xw o a (uF F 1 v) G bk b sa pa r P du hb ex := xw_set 0 (by decide) rfl (fun i hi => match i, hi with
    | 0, hi => absurd rfl hi
    | 1, _ => rfl
    | 2, _ => rfl
    | 3, _ => rfl
    | 4, _ => rfl
    | 5, _ => rfl
    | 6, _ => rfl
    | 7, _ => rfl
    | _ + 8, _ => rfl)
theorem xw_F2 (v : Int) : gset (xw o a F G bk b sa pa r P du hb ex) 0 0 (some (o, bO 0 ((xF a b F).set 2 (.int (iI v))))) = xw o a (uF F 2 v) G bk b sa pa r P du hb ex := xw_set 0 (by decide) rfl (fun i hi => match i, hi with
    | 0, hi => absurd rfl hi
    | 1, _ => rfl
    | 2, _ => rfl
    | 3, _ => rfl
    | 4, _ => rfl
    | 5, _ => rfl
    | 6, _ => rfl
    | 7, _ => rfl
    | _ + 8, _ => rfl)
theorem xw_F6 (v : Int) : gset (xw o a F G bk b sa pa r P du hb ex) 0 0 (some (o, bO 0 ((xF a b F).set 6 (.int (iI v))))) = xw o a (uF F 6 v) G bk b sa pa r P du hb ex := xw_set 0 (by decide) rfl (fun i hi => match i, hi with
    | 0, hi => absurd rfl hi
    | 1, _ => rfl
    | 2, _ => rfl
    | 3, _ => rfl
    | 4, _ => rfl
    | 5, _ => rfl
    | 6, _ => rfl
    | 7, _ => rfl
    | _ + 8, _ => rfl)
theorem xw_F11 (v : Int) : gset (xw o a F G bk b sa pa r P du hb ex) 0 0 (some (o, bO 0 ((xF a b F).set 11 (.int (iI v))))) = xw o a (uF F 11 v) G bk b sa pa r P du hb ex := xw_set 0 (by decide) rfl (fun i hi => match i, hi with
    | 0, hi => absurd rfl hi
    | 1, _ => rfl
    | 2, _ => rfl
    | 3, _ => rfl
    | 4, _ => rfl
    | 5, _ => rfl
    | 6, _ => rfl
    | 7, _ => rfl
    | _ + 8, _ => rfl)
theorem xw_F12 (v : Int) : gset (xw o a F G bk b sa pa r P du hb ex) 0 0 (some (o, bO 0 ((xF a b F).set 12 (.int (iI v))))) = xw o a (uF F 12 v) G bk b sa pa r P du hb ex := xw_set 0 (by decide) rfl (fun i hi => match i, hi with
    | 0, hi => absurd rfl hi
    | 1, _ => rfl
    | 2, _ => rfl
    | 3, _ => rfl
    | 4, _ => rfl
    | 5, _ => rfl
    | 6, _ => rfl
    | 7, _ => rfl
    | _ + 8, _ => rfl)
theorem br_xg_X7_13 {z v : Int} (hz : 0 ≤ z ∧ z < P 3) (hv : rLo r z = v) (d : decode cc pc = .ok (.getfield 13, 3)) (kk : bk_V Γ D R "BreakSetter$Pause" cc tb k n (xw o a F G bk b sa pa r P du hb ex) L (.int (iI v) :: st) (pc + 3)) : bk_V Γ D R "BreakSetter$Pause" cc tb k n (xw o a F G bk b sa pa r P du hb ex) L (.ref (pa z.toNat) :: st) pc := by
  subst hv
  exact br_getf (i := 14) (j := z.toNat) (fs := paF r z) (xw_pa hz) rfl in_X7 1 (by decide) q1222 rfl rfl d kk
theorem br_xg_X7_16 {z v : Int} (hz : 0 ≤ z ∧ z < P 3) (hv : rEa r z = v) (d : decode cc pc = .ok (.getfield 16, 3)) (kk : bk_V Γ D R "BreakSetter$Pause" cc tb k n (xw o a F G bk b sa pa r P du hb ex) L (.int (iI v) :: st) (pc + 3)) : bk_V Γ D R "BreakSetter$Pause" cc tb k n (xw o a F G bk b sa pa r P du hb ex) L (.ref (pa z.toNat) :: st) pc := by
  subst hv
  exact br_getf (i := 14) (j := z.toNat) (fs := paF r z) (xw_pa hz) rfl in_X7 2 (by decide) q1224 rfl rfl d kk
theorem br_xg_X7_19 {z v : Int} (hz : 0 ≤ z ∧ z < P 3) (hv : rLa r z = v) (d : decode cc pc = .ok (.getfield 19, 3)) (kk : bk_V Γ D R "BreakSetter$Pause" cc tb k n (xw o a F G bk b sa pa r P du hb ex) L (.int (iI v) :: st) (pc + 3)) : bk_V Γ D R "BreakSetter$Pause" cc tb k n (xw o a F G bk b sa pa r P du hb ex) L (.ref (pa z.toNat) :: st) pc := by
  subst hv
  exact br_getf (i := 14) (j := z.toNat) (fs := paF r z) (xw_pa hz) rfl in_X7 3 (by decide) q1226 rfl rfl d kk
theorem br_xg_X7_7 {z v : Int} (hz : 0 ≤ z ∧ z < P 3) (hv : rOf r z = v) (d : decode cc pc = .ok (.getfield 7, 3)) (kk : bk_V Γ D R "BreakSetter$Pause" cc tb k n (xw o a F G bk b sa pa r P du hb ex) L (.int (iI v) :: st) (pc + 3)) : bk_V Γ D R "BreakSetter$Pause" cc tb k n (xw o a F G bk b sa pa r P du hb ex) L (.ref (pa z.toNat) :: st) pc := by
  subst hv
  exact br_getf (i := 14) (j := z.toNat) (fs := paF r z) (xw_pa hz) rfl in_X7 0 (by decide) q1219 rfl rfl d kk
theorem br_xg_X1_149 {v : Int} (hv : F 11 = v) (d : decode cc pc = .ok (.getfield 149, 3)) (kk : bk_V Γ D R "BreakSetter" cc tb k n (xw o a F G bk b sa pa r P du hb ex) L (.int (iI v) :: st) (pc + 3)) : bk_V Γ D R "BreakSetter" cc tb k n (xw o a F G bk b sa pa r P du hb ex) L (.ref o :: st) pc := by
  subst hv
  exact br_getf (i := 0) (j := 0) (fs := xF a b F) rfl rfl in_X1 11 (by decide) q194 rfl rfl d kk
theorem br_xp_X1_149 {v : Int} (d : decode cc pc = .ok (.putfield 149, 3)) (kk : bk_V Γ D R "BreakSetter" cc tb k n (xw o a (uF F 11 v) G bk b sa pa r P du hb ex) L (st) (pc + 3)) : bk_V Γ D R "BreakSetter" cc tb k n (xw o a F G bk b sa pa r P du hb ex) L (.int (iI v) :: .ref o :: st) pc :=
  br_putf (i := 0) (j := 0) (fs := xF a b F) (ty := .int) (ty0 := tyX1) rfl rfl in_X1 tyX1_ok nmX1 11 (by decide) q194 rfl rfl rfl rfl rfl (by simp [xF]) d (by rw [xw_F11]; exact kk)
theorem br_xg_X1_16 (d : decode cc pc = .ok (.getfield 16, 3)) (kk : bk_V Γ D R "BreakSetter" cc tb k n (xw o a F G bk b sa pa r P du hb ex) L (.ref (b 0) :: st) (pc + 3)) : bk_V Γ D R "BreakSetter" cc tb k n (xw o a F G bk b sa pa r P du hb ex) L (.ref o :: st) pc := by
  exact br_getf (i := 0) (j := 0) (fs := xF a b F) rfl rfl in_X1 3 (by decide) q184 rfl rfl d kk
theorem br_xg_X1_234 {v : Int} (hv : F 2 = v) (d : decode cc pc = .ok (.getfield 234, 3)) (kk : bk_V Γ D R "BreakSetter" cc tb k n (xw o a F G bk b sa pa r P du hb ex) L (.int (iI v) :: st) (pc + 3)) : bk_V Γ D R "BreakSetter" cc tb k n (xw o a F G bk b sa pa r P du hb ex) L (.ref o :: st) pc := by
  subst hv
  exact br_getf (i := 0) (j := 0) (fs := xF a b F) rfl rfl in_X1 2 (by decide) q183 rfl rfl d kk
theorem br_xp_X1_234 {v : Int} (d : decode cc pc = .ok (.putfield 234, 3)) (kk : bk_V Γ D R "BreakSetter" cc tb k n (xw o a (uF F 2 v) G bk b sa pa r P du hb ex) L (st) (pc + 3)) : bk_V Γ D R "BreakSetter" cc tb k n (xw o a F G bk b sa pa r P du hb ex) L (.int (iI v) :: .ref o :: st) pc :=
  br_putf (i := 0) (j := 0) (fs := xF a b F) (ty := .int) (ty0 := tyX1) rfl rfl in_X1 tyX1_ok nmX1 2 (by decide) q183 rfl rfl rfl rfl rfl (by simp [xF]) d (by rw [xw_F2]; exact kk)
theorem br_xg_X1_237 {v : Int} (hv : F 12 = v) (d : decode cc pc = .ok (.getfield 237, 3)) (kk : bk_V Γ D R "BreakSetter" cc tb k n (xw o a F G bk b sa pa r P du hb ex) L (.int (iI v) :: st) (pc + 3)) : bk_V Γ D R "BreakSetter" cc tb k n (xw o a F G bk b sa pa r P du hb ex) L (.ref o :: st) pc := by
  subst hv
  exact br_getf (i := 0) (j := 0) (fs := xF a b F) rfl rfl in_X1 12 (by decide) q195 rfl rfl d kk
theorem br_xp_X1_237 {v : Int} (d : decode cc pc = .ok (.putfield 237, 3)) (kk : bk_V Γ D R "BreakSetter" cc tb k n (xw o a (uF F 12 v) G bk b sa pa r P du hb ex) L (st) (pc + 3)) : bk_V Γ D R "BreakSetter" cc tb k n (xw o a F G bk b sa pa r P du hb ex) L (.int (iI v) :: .ref o :: st) pc :=
  br_putf (i := 0) (j := 0) (fs := xF a b F) (ty := .int) (ty0 := tyX1) rfl rfl in_X1 tyX1_ok nmX1 12 (by decide) q195 rfl rfl rfl rfl rfl (by simp [xF]) d (by rw [xw_F12]; exact kk)
theorem br_xg_X1_24 (d : decode cc pc = .ok (.getfield 24, 3)) (kk : bk_V Γ D R "BreakSetter" cc tb k n (xw o a F G bk b sa pa r P du hb ex) L (.ref (a 7) :: st) (pc + 3)) : bk_V Γ D R "BreakSetter" cc tb k n (xw o a F G bk b sa pa r P du hb ex) L (.ref o :: st) pc := by
  exact br_getf (i := 0) (j := 0) (fs := xF a b F) rfl rfl in_X1 4 (by decide) q186 rfl rfl d kk
theorem br_xg_X1_28 (d : decode cc pc = .ok (.getfield 28, 3)) (kk : bk_V Γ D R "BreakSetter" cc tb k n (xw o a F G bk b sa pa r P du hb ex) L (.ref (a 2) :: st) (pc + 3)) : bk_V Γ D R "BreakSetter" cc tb k n (xw o a F G bk b sa pa r P du hb ex) L (.ref o :: st) pc := by
  exact br_getf (i := 0) (j := 0) (fs := xF a b F) rfl rfl in_X1 5 (by decide) q187 rfl rfl d kk
theorem br_xg_X1_31 (d : decode cc pc = .ok (.getfield 31, 3)) (kk : bk_V Γ D R "BreakSetter" cc tb k n (xw o a F G bk b sa pa r P du hb ex) L (.ref (a 3) :: st) (pc + 3)) : bk_V Γ D R "BreakSetter" cc tb k n (xw o a F G bk b sa pa r P du hb ex) L (.ref o :: st) pc := by
  exact br_getf (i := 0) (j := 0) (fs := xF a b F) rfl rfl in_X1 7 (by decide) q190 rfl rfl d kk
theorem br_xg_X1_34 (d : decode cc pc = .ok (.getfield 34, 3)) (kk : bk_V Γ D R "BreakSetter" cc tb k n (xw o a F G bk b sa pa r P du hb ex) L (.ref (a 4) :: st) (pc + 3)) : bk_V Γ D R "BreakSetter" cc tb k n (xw o a F G bk b sa pa r P du hb ex) L (.ref o :: st) pc := by
  exact br_getf (i := 0) (j := 0) (fs := xF a b F) rfl rfl in_X1 8 (by decide) q191 rfl rfl d kk
theorem br_xg_X1_38 (d : decode cc pc = .ok (.getfield 38, 3)) (kk : bk_V Γ D R "BreakSetter" cc tb k n (xw o a F G bk b sa pa r P du hb ex) L (.ref (a 5) :: st) (pc + 3)) : bk_V Γ D R "BreakSetter" cc tb k n (xw o a F G bk b sa pa r P du hb ex) L (.ref o :: st) pc := by
  exact br_getf (i := 0) (j := 0) (fs := xF a b F) rfl rfl in_X1 9 (by decide) q192 rfl rfl d kk
theorem br_xg_X1_42 (d : decode cc pc = .ok (.getfield 42, 3)) (kk : bk_V Γ D R "BreakSetter" cc tb k n (xw o a F G bk b sa pa r P du hb ex) L (.ref (a 6) :: st) (pc + 3)) : bk_V Γ D R "BreakSetter" cc tb k n (xw o a F G bk b sa pa r P du hb ex) L (.ref o :: st) pc := by
  exact br_getf (i := 0) (j := 0) (fs := xF a b F) rfl rfl in_X1 10 (by decide) q193 rfl rfl d kk
theorem br_xg_X1_46 {v : Int} (hv : F 1 = v) (d : decode cc pc = .ok (.getfield 46, 3)) (kk : bk_V Γ D R "BreakSetter" cc tb k n (xw o a F G bk b sa pa r P du hb ex) L (.int (iI v) :: st) (pc + 3)) : bk_V Γ D R "BreakSetter" cc tb k n (xw o a F G bk b sa pa r P du hb ex) L (.ref o :: st) pc := by
  subst hv
  exact br_getf (i := 0) (j := 0) (fs := xF a b F) rfl rfl in_X1 1 (by decide) q181 rfl rfl d kk
theorem br_xp_X1_46 {v : Int} (d : decode cc pc = .ok (.putfield 46, 3)) (kk : bk_V Γ D R "BreakSetter" cc tb k n (xw o a (uF F 1 v) G bk b sa pa r P du hb ex) L (st) (pc + 3)) : bk_V Γ D R "BreakSetter" cc tb k n (xw o a F G bk b sa pa r P du hb ex) L (.int (iI v) :: .ref o :: st) pc :=
  br_putf (i := 0) (j := 0) (fs := xF a b F) (ty := .int) (ty0 := tyX1) rfl rfl in_X1 tyX1_ok nmX1 1 (by decide) q181 rfl rfl rfl rfl rfl (by simp [xF]) d (by rw [xw_F1]; exact kk)
theorem br_xg_X1_85 {v : Int} (hv : F 6 = v) (d : decode cc pc = .ok (.getfield 85, 3)) (kk : bk_V Γ D R "BreakSetter" cc tb k n (xw o a F G bk b sa pa r P du hb ex) L (.int (iI v) :: st) (pc + 3)) : bk_V Γ D R "BreakSetter" cc tb k n (xw o a F G bk b sa pa r P du hb ex) L (.ref o :: st) pc := by
  subst hv
  exact br_getf (i := 0) (j := 0) (fs := xF a b F) rfl rfl in_X1 6 (by decide) q189 rfl rfl d kk
theorem br_xp_X1_85 {v : Int} (d : decode cc pc = .ok (.putfield 85, 3)) (kk : bk_V Γ D R "BreakSetter" cc tb k n (xw o a (uF F 6 v) G bk b sa pa r P du hb ex) L (st) (pc + 3)) : bk_V Γ D R "BreakSetter" cc tb k n (xw o a F G bk b sa pa r P du hb ex) L (.int (iI v) :: .ref o :: st) pc :=
  br_putf (i := 0) (j := 0) (fs := xF a b F) (ty := .int) (ty0 := tyX1) rfl rfl in_X1 tyX1_ok nmX1 6 (by decide) q189 rfl rfl rfl rfl rfl (by simp [xF]) d (by rw [xw_F6]; exact kk)
theorem br_xg_X1_9 (d : decode cc pc = .ok (.getfield 9, 3)) (kk : bk_V Γ D R "BreakSetter" cc tb k n (xw o a F G bk b sa pa r P du hb ex) L (.ref (a 1) :: st) (pc + 3)) : bk_V Γ D R "BreakSetter" cc tb k n (xw o a F G bk b sa pa r P du hb ex) L (.ref o :: st) pc := by
  exact br_getf (i := 0) (j := 0) (fs := xF a b F) rfl rfl in_X1 0 (by decide) q179 rfl rfl d kk
theorem br_xg_X4_26 {v : Int} (hv : F 2 = v) (d : decode cc pc = .ok (.getfield 26, 3)) (kk : bk_V Γ D R "BreakSetter$Reader" cc tb k n (xw o a F G bk b sa pa r P du hb ex) L (.int (iI v) :: st) (pc + 3)) : bk_V Γ D R "BreakSetter$Reader" cc tb k n (xw o a F G bk b sa pa r P du hb ex) L (.ref o :: st) pc := by
  subst hv
  exact br_getN (i := 0) (j := 0) (fs := xF a b F) rfl rfl in_X1 2 (by decide) q182 rfl rfl d kk
theorem br_xg_X4_29 (d : decode cc pc = .ok (.getfield 29, 3)) (kk : bk_V Γ D R "BreakSetter$Reader" cc tb k n (xw o a F G bk b sa pa r P du hb ex) L (.ref (a 1) :: st) (pc + 3)) : bk_V Γ D R "BreakSetter$Reader" cc tb k n (xw o a F G bk b sa pa r P du hb ex) L (.ref o :: st) pc := by
  exact br_getN (i := 0) (j := 0) (fs := xF a b F) rfl rfl in_X1 0 (by decide) q180 rfl rfl d kk
theorem br_xg_X8_19 (d : decode cc pc = .ok (.getfield 19, 3)) (kk : bk_V Γ D R "BreakSetter$Trial" cc tb k n (xw o a F G bk b sa pa r P du hb ex) L (.ref (a 7) :: st) (pc + 3)) : bk_V Γ D R "BreakSetter$Trial" cc tb k n (xw o a F G bk b sa pa r P du hb ex) L (.ref o :: st) pc := by
  exact br_getN (i := 0) (j := 0) (fs := xF a b F) rfl rfl in_X1 4 (by decide) q185 rfl rfl d kk
theorem br_xg_X8_30 {v : Int} (hv : F 6 = v) (d : decode cc pc = .ok (.getfield 30, 3)) (kk : bk_V Γ D R "BreakSetter$Trial" cc tb k n (xw o a F G bk b sa pa r P du hb ex) L (.int (iI v) :: st) (pc + 3)) : bk_V Γ D R "BreakSetter$Trial" cc tb k n (xw o a F G bk b sa pa r P du hb ex) L (.ref o :: st) pc := by
  subst hv
  exact br_getN (i := 0) (j := 0) (fs := xF a b F) rfl rfl in_X1 6 (by decide) q188 rfl rfl d kk
theorem br_xg_X1_102 (d : decode cc pc = .ok (.getfield 102, 3)) (kk : bk_V Γ D R "BreakSetter" cc tb k n (xw o a F G bk b sa pa r P du hb ex) L (.ref (b 1) :: st) (pc + 3)) : bk_V Γ D R "BreakSetter" cc tb k n (xw o a F G bk b sa pa r P du hb ex) L (.ref (b 0) :: st) pc := by
  exact br_getN (i := 8) (j := 0) (fs := plF b P) rfl rfl in_X2 5 (by decide) q142 rfl rfl d kk
theorem br_xg_X1_106 {z v : Int} (hz : 0 ≤ z ∧ z < P 3) (hv : rOf r z = v) (d : decode cc pc = .ok (.getfield 106, 3)) (kk : bk_V Γ D R "BreakSetter" cc tb k n (xw o a F G bk b sa pa r P du hb ex) L (.int (iI v) :: st) (pc + 3)) : bk_V Γ D R "BreakSetter" cc tb k n (xw o a F G bk b sa pa r P du hb ex) L (.ref (pa z.toNat) :: st) pc := by
  subst hv
  exact br_getN (i := 14) (j := z.toNat) (fs := paF r z) (xw_pa hz) rfl in_X7 0 (by decide) q1221 rfl rfl d kk
theorem br_xg_X1_110 {z v : Int} (hz : 0 ≤ z ∧ z < P 2) (hv : rP r z = v) (d : decode cc pc = .ok (.getfield 110, 3)) (kk : bk_V Γ D R "BreakSetter" cc tb k n (xw o a F G bk b sa pa r P du hb ex) L (.int (iI v) :: st) (pc + 3)) : bk_V Γ D R "BreakSetter" cc tb k n (xw o a F G bk b sa pa r P du hb ex) L (.ref (sa z.toNat) :: st) pc := by
  subst hv
  exact br_getN (i := 13) (j := z.toNat) (fs := shF r z) (xw_sh hz) rfl in_X6 0 (by decide) q1179 rfl rfl d kk
theorem br_xg_X1_115 {z v : Int} (hz : 0 ≤ z ∧ z < P 3) (hv : rLo r z = v) (d : decode cc pc = .ok (.getfield 115, 3)) (kk : bk_V Γ D R "BreakSetter" cc tb k n (xw o a F G bk b sa pa r P du hb ex) L (.int (iI v) :: st) (pc + 3)) : bk_V Γ D R "BreakSetter" cc tb k n (xw o a F G bk b sa pa r P du hb ex) L (.ref (pa z.toNat) :: st) pc := by
  subst hv
  exact br_getN (i := 14) (j := z.toNat) (fs := paF r z) (xw_pa hz) rfl in_X7 1 (by decide) q1223 rfl rfl d kk
theorem br_xg_X1_118 {z v : Int} (hz : 0 ≤ z ∧ z < P 3) (hv : rEa r z = v) (d : decode cc pc = .ok (.getfield 118, 3)) (kk : bk_V Γ D R "BreakSetter" cc tb k n (xw o a F G bk b sa pa r P du hb ex) L (.int (iI v) :: st) (pc + 3)) : bk_V Γ D R "BreakSetter" cc tb k n (xw o a F G bk b sa pa r P du hb ex) L (.ref (pa z.toNat) :: st) pc := by
  subst hv
  exact br_getN (i := 14) (j := z.toNat) (fs := paF r z) (xw_pa hz) rfl in_X7 2 (by decide) q1225 rfl rfl d kk
theorem br_xg_X1_121 {z v : Int} (hz : 0 ≤ z ∧ z < P 3) (hv : rLa r z = v) (d : decode cc pc = .ok (.getfield 121, 3)) (kk : bk_V Γ D R "BreakSetter" cc tb k n (xw o a F G bk b sa pa r P du hb ex) L (.int (iI v) :: st) (pc + 3)) : bk_V Γ D R "BreakSetter" cc tb k n (xw o a F G bk b sa pa r P du hb ex) L (.ref (pa z.toNat) :: st) pc := by
  subst hv
  exact br_getN (i := 14) (j := z.toNat) (fs := paF r z) (xw_pa hz) rfl in_X7 3 (by decide) q1227 rfl rfl d kk
theorem br_xg_X1_137 {v : Int} (hv : P 2 = v) (d : decode cc pc = .ok (.getfield 137, 3)) (kk : bk_V Γ D R "BreakSetter" cc tb k n (xw o a F G bk b sa pa r P du hb ex) L (.int (iI v) :: st) (pc + 3)) : bk_V Γ D R "BreakSetter" cc tb k n (xw o a F G bk b sa pa r P du hb ex) L (.ref (b 0) :: st) pc := by
  subst hv
  exact br_getN (i := 8) (j := 0) (fs := plF b P) rfl rfl in_X2 2 (by decide) q137 rfl rfl d kk
theorem br_xg_X1_146 {v : Int} (hv : P 1 = v) (d : decode cc pc = .ok (.getfield 146, 3)) (kk : bk_V Γ D R "BreakSetter" cc tb k n (xw o a F G bk b sa pa r P du hb ex) L (.int (iI v) :: st) (pc + 3)) : bk_V Γ D R "BreakSetter" cc tb k n (xw o a F G bk b sa pa r P du hb ex) L (.ref (b 0) :: st) pc := by
  subst hv
  exact br_getN (i := 8) (j := 0) (fs := plF b P) rfl rfl in_X2 1 (by decide) q134 rfl rfl d kk
theorem br_xg_X1_155 {z v : Int} (hz : 0 ≤ z ∧ z < P 2) (hv : rFr r z = v) (d : decode cc pc = .ok (.getfield 155, 3)) (kk : bk_V Γ D R "BreakSetter" cc tb k n (xw o a F G bk b sa pa r P du hb ex) L (.int (iI v) :: st) (pc + 3)) : bk_V Γ D R "BreakSetter" cc tb k n (xw o a F G bk b sa pa r P du hb ex) L (.ref (sa z.toNat) :: st) pc := by
  subst hv
  exact br_getN (i := 13) (j := z.toNat) (fs := shF r z) (xw_sh hz) rfl in_X6 1 (by decide) q1183 rfl rfl d kk
theorem br_xg_X1_158 {z v : Int} (hz : 0 ≤ z ∧ z < P 2) (hv : rTo r z = v) (d : decode cc pc = .ok (.getfield 158, 3)) (kk : bk_V Γ D R "BreakSetter" cc tb k n (xw o a F G bk b sa pa r P du hb ex) L (.int (iI v) :: st) (pc + 3)) : bk_V Γ D R "BreakSetter" cc tb k n (xw o a F G bk b sa pa r P du hb ex) L (.ref (sa z.toNat) :: st) pc := by
  subst hv
  exact br_getN (i := 13) (j := z.toNat) (fs := shF r z) (xw_sh hz) rfl in_X6 2 (by decide) q1187 rfl rfl d kk
theorem br_xg_X1_161 {z v : Int} (hz : 0 ≤ z ∧ z < P 2) (hv : rHas r z = v) (d : decode cc pc = .ok (.getfield 161, 3)) (kk : bk_V Γ D R "BreakSetter" cc tb k n (xw o a F G bk b sa pa r P du hb ex) L (.int (iI v) :: st) (pc + 3)) : bk_V Γ D R "BreakSetter" cc tb k n (xw o a F G bk b sa pa r P du hb ex) L (.ref (sa z.toNat) :: st) pc := by
  subst hv
  exact br_getN (i := 13) (j := z.toNat) (fs := shF r z) (xw_sh hz) rfl in_X6 3 (by decide) q1190 rfl rfl d kk
theorem br_xg_X1_162 {z v : Int} (hz : 0 ≤ z ∧ z < P 2) (hv : shFi r z = v) (d : decode cc pc = .ok (.getfield 162, 3)) (kk : bk_V Γ D R "BreakSetter" cc tb k n (xw o a F G bk b sa pa r P du hb ex) L (.int (iI v) :: st) (pc + 3)) : bk_V Γ D R "BreakSetter" cc tb k n (xw o a F G bk b sa pa r P du hb ex) L (.ref (sa z.toNat) :: st) pc := by
  subst hv
  exact br_getN (i := 13) (j := z.toNat) (fs := shF r z) (xw_sh hz) rfl in_X6 4 (by decide) q1193 rfl rfl d kk
theorem br_xg_X1_60 {v : Int} (hv : P 0 = v) (d : decode cc pc = .ok (.getfield 60, 3)) (kk : bk_V Γ D R "BreakSetter" cc tb k n (xw o a F G bk b sa pa r P du hb ex) L (.int (iI v) :: st) (pc + 3)) : bk_V Γ D R "BreakSetter" cc tb k n (xw o a F G bk b sa pa r P du hb ex) L (.ref (b 0) :: st) pc := by
  subst hv
  exact br_getN (i := 8) (j := 0) (fs := plF b P) rfl rfl in_X2 0 (by decide) q130 rfl rfl d kk
theorem br_xg_X1_67 {v : Int} (hv : P 3 = v) (d : decode cc pc = .ok (.getfield 67, 3)) (kk : bk_V Γ D R "BreakSetter" cc tb k n (xw o a F G bk b sa pa r P du hb ex) L (.int (iI v) :: st) (pc + 3)) : bk_V Γ D R "BreakSetter" cc tb k n (xw o a F G bk b sa pa r P du hb ex) L (.ref (b 0) :: st) pc := by
  subst hv
  exact br_getN (i := 8) (j := 0) (fs := plF b P) rfl rfl in_X2 3 (by decide) q139 rfl rfl d kk
theorem br_xg_X1_76 (d : decode cc pc = .ok (.getfield 76, 3)) (kk : bk_V Γ D R "BreakSetter" cc tb k n (xw o a F G bk b sa pa r P du hb ex) L (.ref (b 4) :: st) (pc + 3)) : bk_V Γ D R "BreakSetter" cc tb k n (xw o a F G bk b sa pa r P du hb ex) L (.ref (b 0) :: st) pc := by
  exact br_getN (i := 8) (j := 0) (fs := plF b P) rfl rfl in_X2 8 (by decide) q149 rfl rfl d kk
theorem br_xg_X1_88 (d : decode cc pc = .ok (.getfield 88, 3)) (kk : bk_V Γ D R "BreakSetter" cc tb k n (xw o a F G bk b sa pa r P du hb ex) L (.ref (b 3) :: st) (pc + 3)) : bk_V Γ D R "BreakSetter" cc tb k n (xw o a F G bk b sa pa r P du hb ex) L (.ref (b 0) :: st) pc := by
  exact br_getN (i := 8) (j := 0) (fs := plF b P) rfl rfl in_X2 7 (by decide) q146 rfl rfl d kk
theorem br_xg_X1_98 (d : decode cc pc = .ok (.getfield 98, 3)) (kk : bk_V Γ D R "BreakSetter" cc tb k n (xw o a F G bk b sa pa r P du hb ex) L (.ref (b 2) :: st) (pc + 3)) : bk_V Γ D R "BreakSetter" cc tb k n (xw o a F G bk b sa pa r P du hb ex) L (.ref (b 0) :: st) pc := by
  exact br_getN (i := 8) (j := 0) (fs := plF b P) rfl rfl in_X2 6 (by decide) q144 rfl rfl d kk
theorem br_xl_1 {z v : Int} (hz : 0 ≤ z ∧ z < 640) (hv : G 1 z = v) (d : decode cc pc = .ok (.baload, 1)) (kk : bk_V Γ D R own cc tb k n (xw o a F G bk b sa pa r P du hb ex) L (.int (iI v) :: st) (pc + 1)) : bk_V Γ D R own cc tb k n (xw o a F G bk b sa pa r P du hb ex) L (.int (iI z) :: .ref (a 1) :: st) pc := by
  subst hv
  exact br_bald (i := 1) (j := 0) (N := 640) (f := G 1) rfl hz (by decide) d kk
theorem xw_G1 (g : Int → Int) : gset (xw o a F G bk b sa pa r P du hb ex) 1 0 (some (a 1, bB 640 g)) = xw o a F (uG G 1 g) bk b sa pa r P du hb ex := xw_set 1 (by decide) rfl (fun i hi => match i, hi with
    | 0, _ => rfl
    | 1, hi => absurd rfl hi
    | 2, _ => rfl
    | 3, _ => rfl
    | 4, _ => rfl
    | 5, _ => rfl
    | 6, _ => rfl
    | 7, _ => rfl
    | _ + 8, _ => rfl)
theorem br_xs_1 {z v : Int} (hz : 0 ≤ z ∧ z < 640) (hvb : -128 ≤ v ∧ v < 128) (d : decode cc pc = .ok (.bastore, 1)) (kk : bk_V Γ D R own cc tb k n (xw o a F (uG G 1 (uI (G 1) z v)) bk b sa pa r P du hb ex) L (st) (pc + 1)) : bk_V Γ D R own cc tb k n (xw o a F G bk b sa pa r P du hb ex) L (.int (iI v) :: .int (iI z) :: .ref (a 1) :: st) pc :=
  br_bast (i := 1) (j := 0) (N := 640) (f := G 1) rfl hz (by decide) hvb d (by rw [xw_G1]; exact kk)
theorem br_xl_2 {z v : Int} (hz : 0 ≤ z ∧ z < 144) (hv : G 2 z = v) (d : decode cc pc = .ok (.iaload, 1)) (kk : bk_V Γ D R own cc tb k n (xw o a F G bk b sa pa r P du hb ex) L (.int (iI v) :: st) (pc + 1)) : bk_V Γ D R own cc tb k n (xw o a F G bk b sa pa r P du hb ex) L (.int (iI z) :: .ref (a 2) :: st) pc := by
  subst hv
  exact br_iald (i := 2) (j := 0) (N := 144) (f := G 2) rfl hz (by decide) d kk
theorem xw_G2 (g : Int → Int) : gset (xw o a F G bk b sa pa r P du hb ex) 2 0 (some (a 2, bI 144 g)) = xw o a F (uG G 2 g) bk b sa pa r P du hb ex := xw_set 2 (by decide) rfl (fun i hi => match i, hi with
    | 0, _ => rfl
    | 1, _ => rfl
    | 2, hi => absurd rfl hi
    | 3, _ => rfl
    | 4, _ => rfl
    | 5, _ => rfl
    | 6, _ => rfl
    | 7, _ => rfl
    | _ + 8, _ => rfl)
theorem br_xs_2 {z v : Int} (hz : 0 ≤ z ∧ z < 144) (d : decode cc pc = .ok (.iastore, 1)) (kk : bk_V Γ D R own cc tb k n (xw o a F (uG G 2 (uI (G 2) z v)) bk b sa pa r P du hb ex) L (st) (pc + 1)) : bk_V Γ D R own cc tb k n (xw o a F G bk b sa pa r P du hb ex) L (.int (iI v) :: .int (iI z) :: .ref (a 2) :: st) pc :=
  br_iast (i := 2) (j := 0) (N := 144) (f := G 2) rfl hz (by decide) d (by rw [xw_G2]; exact kk)
theorem br_xl_3 {z v : Int} (hz : 0 ≤ z ∧ z < 384) (hv : G 3 z = v) (d : decode cc pc = .ok (.iaload, 1)) (kk : bk_V Γ D R own cc tb k n (xw o a F G bk b sa pa r P du hb ex) L (.int (iI v) :: st) (pc + 1)) : bk_V Γ D R own cc tb k n (xw o a F G bk b sa pa r P du hb ex) L (.int (iI z) :: .ref (a 3) :: st) pc := by
  subst hv
  exact br_iald (i := 3) (j := 0) (N := 384) (f := G 3) rfl hz (by decide) d kk
theorem xw_G3 (g : Int → Int) : gset (xw o a F G bk b sa pa r P du hb ex) 3 0 (some (a 3, bI 384 g)) = xw o a F (uG G 3 g) bk b sa pa r P du hb ex := xw_set 3 (by decide) rfl (fun i hi => match i, hi with
    | 0, _ => rfl
    | 1, _ => rfl
    | 2, _ => rfl
    | 3, hi => absurd rfl hi
    | 4, _ => rfl
    | 5, _ => rfl
    | 6, _ => rfl
    | 7, _ => rfl
    | _ + 8, _ => rfl)
theorem br_xs_3 {z v : Int} (hz : 0 ≤ z ∧ z < 384) (d : decode cc pc = .ok (.iastore, 1)) (kk : bk_V Γ D R own cc tb k n (xw o a F (uG G 3 (uI (G 3) z v)) bk b sa pa r P du hb ex) L (st) (pc + 1)) : bk_V Γ D R own cc tb k n (xw o a F G bk b sa pa r P du hb ex) L (.int (iI v) :: .int (iI z) :: .ref (a 3) :: st) pc :=
  br_iast (i := 3) (j := 0) (N := 384) (f := G 3) rfl hz (by decide) d (by rw [xw_G3]; exact kk)
theorem br_xl_4 {z v : Int} (hz : 0 ≤ z ∧ z < 384) (hv : G 4 z = v) (d : decode cc pc = .ok (.baload, 1)) (kk : bk_V Γ D R own cc tb k n (xw o a F G bk b sa pa r P du hb ex) L (.int (iI v) :: st) (pc + 1)) : bk_V Γ D R own cc tb k n (xw o a F G bk b sa pa r P du hb ex) L (.int (iI z) :: .ref (a 4) :: st) pc := by
  subst hv
  exact br_zald (i := 4) (j := 0) (N := 384) (f := G 4) rfl hz (by decide) d kk
theorem xw_G4 (g : Int → Int) : gset (xw o a F G bk b sa pa r P du hb ex) 4 0 (some (a 4, bZ 384 g)) = xw o a F (uG G 4 g) bk b sa pa r P du hb ex := xw_set 4 (by decide) rfl (fun i hi => match i, hi with
    | 0, _ => rfl
    | 1, _ => rfl
    | 2, _ => rfl
    | 3, _ => rfl
    | 4, hi => absurd rfl hi
    | 5, _ => rfl
    | 6, _ => rfl
    | 7, _ => rfl
    | _ + 8, _ => rfl)
theorem br_xs_4 {z v : Int} (hz : 0 ≤ z ∧ z < 384) (hvb : v = 0 ∨ v = 1) (d : decode cc pc = .ok (.bastore, 1)) (kk : bk_V Γ D R own cc tb k n (xw o a F (uG G 4 (uI (G 4) z v)) bk b sa pa r P du hb ex) L (st) (pc + 1)) : bk_V Γ D R own cc tb k n (xw o a F G bk b sa pa r P du hb ex) L (.int (iI v) :: .int (iI z) :: .ref (a 4) :: st) pc :=
  br_zast (i := 4) (j := 0) (N := 384) (f := G 4) rfl hz (by decide) hvb d (by rw [xw_G4]; exact kk)
theorem br_xl_5 {z v : Int} (hz : 0 ≤ z ∧ z < 147) (hv : G 5 z = v) (d : decode cc pc = .ok (.iaload, 1)) (kk : bk_V Γ D R own cc tb k n (xw o a F G bk b sa pa r P du hb ex) L (.int (iI v) :: st) (pc + 1)) : bk_V Γ D R own cc tb k n (xw o a F G bk b sa pa r P du hb ex) L (.int (iI z) :: .ref (a 5) :: st) pc := by
  subst hv
  exact br_iald (i := 5) (j := 0) (N := 147) (f := G 5) rfl hz (by decide) d kk
theorem xw_G5 (g : Int → Int) : gset (xw o a F G bk b sa pa r P du hb ex) 5 0 (some (a 5, bI 147 g)) = xw o a F (uG G 5 g) bk b sa pa r P du hb ex := xw_set 5 (by decide) rfl (fun i hi => match i, hi with
    | 0, _ => rfl
    | 1, _ => rfl
    | 2, _ => rfl
    | 3, _ => rfl
    | 4, _ => rfl
    | 5, hi => absurd rfl hi
    | 6, _ => rfl
    | 7, _ => rfl
    | _ + 8, _ => rfl)
theorem br_xs_5 {z v : Int} (hz : 0 ≤ z ∧ z < 147) (d : decode cc pc = .ok (.iastore, 1)) (kk : bk_V Γ D R own cc tb k n (xw o a F (uG G 5 (uI (G 5) z v)) bk b sa pa r P du hb ex) L (st) (pc + 1)) : bk_V Γ D R own cc tb k n (xw o a F G bk b sa pa r P du hb ex) L (.int (iI v) :: .int (iI z) :: .ref (a 5) :: st) pc :=
  br_iast (i := 5) (j := 0) (N := 147) (f := G 5) rfl hz (by decide) d (by rw [xw_G5]; exact kk)
theorem br_xl_7 {z v : Int} (hz : 0 ≤ z ∧ z < 24) (hv : G 7 z = v) (d : decode cc pc = .ok (.iaload, 1)) (kk : bk_V Γ D R own cc tb k n (xw o a F G bk b sa pa r P du hb ex) L (.int (iI v) :: st) (pc + 1)) : bk_V Γ D R own cc tb k n (xw o a F G bk b sa pa r P du hb ex) L (.int (iI z) :: .ref (a 7) :: st) pc := by
  subst hv
  exact br_iald (i := 7) (j := 0) (N := 24) (f := G 7) rfl hz (by decide) d kk
theorem xw_G7 (g : Int → Int) : gset (xw o a F G bk b sa pa r P du hb ex) 7 0 (some (a 7, bI 24 g)) = xw o a F (uG G 7 g) bk b sa pa r P du hb ex := xw_set 7 (by decide) rfl (fun i hi => match i, hi with
    | 0, _ => rfl
    | 1, _ => rfl
    | 2, _ => rfl
    | 3, _ => rfl
    | 4, _ => rfl
    | 5, _ => rfl
    | 6, _ => rfl
    | 7, hi => absurd rfl hi
    | _ + 8, _ => rfl)
theorem br_xs_7 {z v : Int} (hz : 0 ≤ z ∧ z < 24) (d : decode cc pc = .ok (.iastore, 1)) (kk : bk_V Γ D R own cc tb k n (xw o a F (uG G 7 (uI (G 7) z v)) bk b sa pa r P du hb ex) L (st) (pc + 1)) : bk_V Γ D R own cc tb k n (xw o a F G bk b sa pa r P du hb ex) L (.int (iI v) :: .int (iI z) :: .ref (a 7) :: st) pc :=
  br_iast (i := 7) (j := 0) (N := 24) (f := G 7) rfl hz (by decide) d (by rw [xw_G7]; exact kk)
theorem br_xl_need {z v : Int} (hz : 0 ≤ z ∧ z < 144) (hv : r (4 + z) = v) (d : decode cc pc = .ok (.iaload, 1)) (kk : bk_V Γ D R own cc tb k n (xw o a F G bk b sa pa r P du hb ex) L (.int (iI v) :: st) (pc + 1)) : bk_V Γ D R own cc tb k n (xw o a F G bk b sa pa r P du hb ex) L (.int (iI z) :: .ref (b 3) :: st) pc := by
  subst hv
  exact br_iald (i := 11) (j := 0) (N := 144) (f := (fun z => r (4 + z))) rfl hz (by decide) d kk
theorem br_xl_duty {z v : Int} (hz : 0 ≤ z ∧ z < 144) (hv : du z = v) (d : decode cc pc = .ok (.iaload, 1)) (kk : bk_V Γ D R own cc tb k n (xw o a F G bk b sa pa r P du hb ex) L (.int (iI v) :: st) (pc + 1)) : bk_V Γ D R own cc tb k n (xw o a F G bk b sa pa r P du hb ex) L (.int (iI z) :: .ref (b 4) :: st) pc := by
  subst hv
  exact br_iald (i := 12) (j := 0) (N := 144) (f := du) rfl hz (by decide) d kk
theorem br_xl_sh {z : Int} (hz : 0 ≤ z ∧ z < P 2) (hN : z < 8) (d : decode cc pc = .ok (.aaload, 1)) (kk : bk_V Γ D R own cc tb k n (xw o a F G bk b sa pa r P du hb ex) L (.ref (sa z.toNat) :: st) (pc + 1)) : bk_V Γ D R own cc tb k n (xw o a F G bk b sa pa r P du hb ex) L (.int (iI z) :: .ref (b 1) :: st) pc :=
  br_aald (i := 9) (j := 0) (t := 3) (N := 8) (C := "BreakSetter$Shift") (f := refs (P 2) sa) rfl rfl ⟨hz.1, hN⟩ (by decide) d (by
    have e : refs (P 2) sa z = some (sa z.toNat) := if_pos hz
    rw [e]
    exact kk)
theorem br_xl_pa {z : Int} (hz : 0 ≤ z ∧ z < P 3) (hN : z < 24) (d : decode cc pc = .ok (.aaload, 1)) (kk : bk_V Γ D R own cc tb k n (xw o a F G bk b sa pa r P du hb ex) L (.ref (pa z.toNat) :: st) (pc + 1)) : bk_V Γ D R own cc tb k n (xw o a F G bk b sa pa r P du hb ex) L (.int (iI z) :: .ref (b 2) :: st) pc :=
  br_aald (i := 10) (j := 0) (t := 4) (N := 24) (C := "BreakSetter$Pause") (f := refs (P 3) pa) rfl rfl ⟨hz.1, hN⟩ (by decide) d (by
    have e : refs (P 3) pa z = some (pa z.toNat) := if_pos hz
    rw [e]
    exact kk)
end XROWS
