/-! rows of a Trial (place 16) and of what lies beyond the places of x -/
set_option maxRecDepth 100000
theorem xw_ex {o : Nat} {a b sa pa : Nat → Nat} {F : Nat → Int} {G : Nat → Int → Int} {bk : Int → Option Nat} {r : Int → Int} {P : Nat → Int} {du : Int → Int} {hb : Nat → Option (Nat × bE)} {ex : gC} (i0 j0 : Nat) (h0 : 15 < i0) (c : Option (Nat × bE)) : gset (xw o a F G bk b sa pa r P du hb ex) i0 j0 c = xw o a F G bk b sa pa r P du hb (gset ex i0 j0 c) := by
  funext i j
  unfold gset xw
  by_cases hi : i = i0 ∧ j = j0
  · rw [if_pos hi, if_neg (by omega), if_neg (by omega), if_neg (by omega)]; exact (if_pos hi).symm
  · rw [if_neg hi, show (fun i' j' => if i' = i0 ∧ j' = j0 then c else ex i' j') i j = ex i j from if_neg hi]
theorem gset_gset (w : gC) (i j : Nat) (c d : Option (Nat × bE)) : gset (gset w i j c) i j d = gset w i j d := by
  funext i' j'
  unfold gset
  by_cases h : i' = i ∧ j' = j
  · rw [if_pos h, if_pos h]
  · rw [if_neg h, if_neg h, if_neg h]
def trF (o : Nat) (p w : Int) : List Value := [.int (iI p), .int (iI w), .ref o]
/-- a Trial stands at t -/
def exT (e : gC) (t o : Nat) (p w : Int) : gC := gset e 16 0 (some (t, bO 7 (trF o p w)))
/-- a Trial as it is born, and while it is made -/
def exU (e : gC) (t : Nat) (fs : List Value) : gC := gset e 16 0 (some (t, bO 7 fs))
section XROWS2
variable {Γ : bk_G} {D : bk_D} {R : Room} {own : String} {cc : ByteArray} {tb : List ExceptionTableEntry} {k n : Nat} {L : List (Option Value)} {st : List Value} {pc : Nat} {o : Nat} {a b sa pa : Nat → Nat} {F : Nat → Int} {G : Nat → Int → Int} {bk : Int → Option Nat} {r : Int → Int} {P : Nat → Int} {du : Int → Int} {hb : Nat → Option (Nat × bE)} {ex : gC}
theorem br_xg_X8_15 {t : Nat} {p q : Int} (d : decode cc pc = .ok (.getfield 15, 3)) (kk : bk_V Γ D R "BreakSetter$Trial" cc tb k n (xw o a F G bk b sa pa r P du hb (exT ex t o p q)) L (.int (iI p) :: st) (pc + 3)) : bk_V Γ D R "BreakSetter$Trial" cc tb k n (xw o a F G bk b sa pa r P du hb (exT ex t o p q)) L (.ref t :: st) pc :=
  br_getf (i := 16) (j := 0) (fs := trF o p q) rfl rfl in_X8 0 (by decide) q304 rfl rfl d kk
theorem br_xpF_X8_15 {t : Nat} {fs : List Value} {x : Int32} (hct : bk_ctor Γ) (hl : 0 < fs.length) (d : decode cc pc = .ok (.putfield 15, 3)) (kk : bk_V Γ D R "BreakSetter$Trial" cc tb k n (xw o a F G bk b sa pa r P du hb (exU ex t (fs.set 0 (.int x)))) L (st) (pc + 3)) : bk_V Γ D R "BreakSetter$Trial" cc tb k n (xw o a F G bk b sa pa r P du hb (exU ex t fs)) L (.int x :: .ref t :: st) pc :=
  br_putF (i := 16) (j := 0) (fs := fs) (ty := .int) (ty0 := tyX8) hct rfl rfl in_X8 tyX8_ok nmX8 0 (by decide) q304 rfl rfl rfl rfl rfl hl d (by rw [show gset (xw o a F G bk b sa pa r P du hb (exU ex t fs)) 16 0 (some (t, bO 7 (fs.set 0 (.int x)))) = xw o a F G bk b sa pa r P du hb (exU ex t (fs.set 0 (.int x))) from by rw [xw_ex 16 0 (by decide)]; unfold exU; rw [gset_gset]]; exact kk)
theorem br_xg_X8_23 {t : Nat} {p q : Int} (d : decode cc pc = .ok (.getfield 23, 3)) (kk : bk_V Γ D R "BreakSetter$Trial" cc tb k n (xw o a F G bk b sa pa r P du hb (exT ex t o p q)) L (.int (iI q) :: st) (pc + 3)) : bk_V Γ D R "BreakSetter$Trial" cc tb k n (xw o a F G bk b sa pa r P du hb (exT ex t o p q)) L (.ref t :: st) pc :=
  br_getf (i := 16) (j := 0) (fs := trF o p q) rfl rfl in_X8 1 (by decide) q305 rfl rfl d kk
theorem br_xpF_X8_23 {t : Nat} {fs : List Value} {x : Int32} (hct : bk_ctor Γ) (hl : 1 < fs.length) (d : decode cc pc = .ok (.putfield 23, 3)) (kk : bk_V Γ D R "BreakSetter$Trial" cc tb k n (xw o a F G bk b sa pa r P du hb (exU ex t (fs.set 1 (.int x)))) L (st) (pc + 3)) : bk_V Γ D R "BreakSetter$Trial" cc tb k n (xw o a F G bk b sa pa r P du hb (exU ex t fs)) L (.int x :: .ref t :: st) pc :=
  br_putF (i := 16) (j := 0) (fs := fs) (ty := .int) (ty0 := tyX8) hct rfl rfl in_X8 tyX8_ok nmX8 1 (by decide) q305 rfl rfl rfl rfl rfl hl d (by rw [show gset (xw o a F G bk b sa pa r P du hb (exU ex t fs)) 16 0 (some (t, bO 7 (fs.set 1 (.int x)))) = xw o a F G bk b sa pa r P du hb (exU ex t (fs.set 1 (.int x))) from by rw [xw_ex 16 0 (by decide)]; unfold exU; rw [gset_gset]]; exact kk)
theorem br_xg_X8_3 {t : Nat} {p q : Int} (d : decode cc pc = .ok (.getfield 3, 3)) (kk : bk_V Γ D R "BreakSetter$Trial" cc tb k n (xw o a F G bk b sa pa r P du hb (exT ex t o p q)) L (.ref o :: st) (pc + 3)) : bk_V Γ D R "BreakSetter$Trial" cc tb k n (xw o a F G bk b sa pa r P du hb (exT ex t o p q)) L (.ref t :: st) pc :=
  br_getf (i := 16) (j := 0) (fs := trF o p q) rfl rfl in_X8 2 (by decide) q306 rfl rfl d kk
theorem br_xpF_X8_3 {t : Nat} {fs : List Value} {x : Nat} (hct : bk_ctor Γ) (hl : 2 < fs.length) (d : decode cc pc = .ok (.putfield 3, 3)) (kk : bk_V Γ D R "BreakSetter$Trial" cc tb k n (xw o a F G bk b sa pa r P du hb (exU ex t (fs.set 2 (.ref x)))) L (st) (pc + 3)) : bk_V Γ D R "BreakSetter$Trial" cc tb k n (xw o a F G bk b sa pa r P du hb (exU ex t fs)) L (.ref x :: .ref t :: st) pc :=
  br_putF (i := 16) (j := 0) (fs := fs) (ty := (.object "BreakSetter")) (ty0 := tyX8) hct rfl rfl in_X8 tyX8_ok nmX8 2 (by decide) q306 rfl rfl rfl rfl rfl hl d (by rw [show gset (xw o a F G bk b sa pa r P du hb (exU ex t fs)) 16 0 (some (t, bO 7 (fs.set 2 (.ref x)))) = xw o a F G bk b sa pa r P du hb (exU ex t (fs.set 2 (.ref x))) from by rw [xw_ex 16 0 (by decide)]; unfold exU; rw [gset_gset]]; exact kk)
end XROWS2
