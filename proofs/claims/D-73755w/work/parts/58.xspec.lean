/-! x: rows kept -/
set_option maxRecDepth 100000
theorem br_by {Γ : bk_G} {D : bk_D} {R : Room} {own : String} {cc : ByteArray} {tb : List ExceptionTableEntry} {k n : Nat} {L : List (Option Value)} {st : List Value} {pc : Nat} {w w' : gC} (f g : Nat → Nat → Nat) (hs : ∀ (i j : Nat) (q : Nat × bE), w' i j = some q → w (f i j) (g i j) = some q)
    (hi : ∀ (i j i' j' : Nat) (q q' : Nat × bE), w' i j = some q → w' i' j' = some q' → f i j = f i' j' → g i j = g i' j' → i = i' ∧ j = j') (kk : bk_V Γ D R own cc tb k n w' L st pc) : bk_V Γ D R own cc tb k n w L st pc := by
  obtain ⟨p, l, e, s, m, args, below, meth, c, A, Q, ret, thr⟩ := Γ
  exact fun G H locs ls hW hS hL => kk G H locs ls (hW.by f g hs hi) hS hL
theorem br_arr {Γ : bk_G} {D : bk_D} {R : Room} {own : String} {cc : ByteArray} {tb : List ExceptionTableEntry} {k n : Nat} {L : List (Option Value)} {st : List Value} {pc : Nat} {w : gC} {i j a N : Nat} {f f' : Int → Int} (hq : w i j = some (a, bI N f)) (he : ∀ z : Int, 0 ≤ z → z < N → f z = f' z) (kk : bk_V Γ D R own cc tb k n (gset w i j (some (a, bI N f'))) L st pc) : bk_V Γ D R own cc tb k n w L st pc := by
  obtain ⟨p, l, e, s, m, args, below, meth, c, A, Q, ret, thr⟩ := Γ
  exact fun G H locs ls hW hS hL => kk G H locs ls (hW.arr hq he) hS hL
def hbF (ba : Nat → Nat) (hist : Int → Int → Int) (um : Int) : Nat → Option (Nat × bE) := fun k => if (k : Int) < um then some (ba k, bI 24 (fun z => rAt (hist (k : Int)) z - 1)) else none
def bkOK (bk : Int → Option Nat) (ba : Nat → Nat) (um : Int) : Prop := ∀ k : Int, 0 ≤ k → k < um → bk k = some (ba k.toNat)
section SPEC19
variable {o : Nat} {a b sa pa : Nat → Nat} {F : Nat → Int} {G : Nat → Int → Int} {bk bk' : Int → Option Nat} {r : Int → Int} {P : Nat → Int} {du : Int → Int} {hb : Nat → Option (Nat × bE)} {ex : gC}
theorem xw_hb (j0 : Nat) (c : Option (Nat × bE)) : gset (xw o a F G bk b sa pa r P du hb ex) 15 j0 c = xw o a F G bk b sa pa r P du (fun j => if j = j0 then c else hb j) ex := by
  funext i j
  unfold gset xw
  by_cases hi : i = 15 ∧ j = j0
  · rw [if_pos hi, if_neg (by omega), if_neg (by omega), if_pos hi.1]; exact (if_pos hi.2).symm
  · rw [if_neg hi]
    by_cases h15 : i = 15
    · subst h15
      rw [if_neg (by omega), if_neg (by omega), if_pos rfl, if_neg (by omega), if_neg (by omega), if_pos rfl]
      exact (if_neg (fun q => hi ⟨rfl, q⟩)).symm
    · rw [if_neg h15, if_neg h15]
theorem xw_bk : gset (xw o a F G bk b sa pa r P du hb ex) 6 0 (some (a 6, bQ 5 10 bk')) = xw o a F G bk' b sa pa r P du hb ex := xw_set 6 (by decide) rfl (fun i hi => match i, hi with
    | 0, _ => rfl
    | 1, _ => rfl
    | 2, _ => rfl
    | 3, _ => rfl
    | 4, _ => rfl
    | 5, _ => rfl
    | 6, hi => absurd rfl hi
    | 7, _ => rfl
    | _ + 8, _ => rfl)
theorem xw_15 (j : Nat) : xw o a F G bk b sa pa r P du hb ex 15 j = hb j := rfl
end SPEC19
theorem hbF_push {ba : Nat → Nat} {hist : Int → Int → Int} {um : Int} {q : Nat} {r : Int → Int} (h : 0 ≤ um ∧ um < 10) : (fun j => if j = um.toNat then some (q, bI 24 (fun z => rAt r z - 1)) else hbF ba hist um j) = hbF (fun j => if j = um.toNat then q else ba j) (pushH hist um r) (um + 1) := by
  funext j
  unfold hbF pushH
  by_cases c : j = um.toNat
  · subst c
    simp only [if_true]
    rw [if_pos (by omega), if_neg (by omega), if_pos (by omega)]
  · simp only [if_neg c]
    by_cases d : (j : Int) < um
    · rw [if_pos d, if_pos (by omega), if_neg (show ¬ um = 10 by omega), if_neg (show ¬ (j : Int) = um by omega)]
    · rw [if_neg d, if_neg (by omega)]
theorem pushH_full {hist : Int → Int → Int} {r : Int → Int} : pushH (fun k => hist (k + 1)) 9 r = pushH hist 10 r := by
  funext i
  unfold pushH
  rw [if_neg (by omega), if_pos rfl]
theorem bkOK_push {bk : Int → Option Nat} {ba : Nat → Nat} {um : Int} {q : Nat} (h : bkOK bk ba um) (hu : 0 ≤ um) : bkOK (uQ bk um (some q)) (fun j => if j = um.toNat then q else ba j) (um + 1) := fun k h1 h2 => by
  unfold uQ
  by_cases c : k = um
  · subst c; rw [if_pos rfl]; simp
  · rw [if_neg c, h k h1 (by omega)]
    simp only
    rw [if_neg (by omega)]
theorem bkOK_shift {bk : Int → Option Nat} {ba : Nat → Nat} (h : bkOK bk ba 10) : bkOK (cpyQ bk bk 1 0 9) (fun j => ba (j + 1)) 9 := fun k h1 h2 => by
  unfold cpyQ
  rw [if_pos (by omega), h _ (by omega) (by omega)]
  congr 2
  omega
