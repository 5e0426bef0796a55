/-! x: its plan and its places, by the row -/
set_option maxRecDepth 100000
def xPl (r : Int → Int) (P : Nat → Int) (du : Int → Int) : Prop := (P 0 = r 0 ∧ P 1 = r 1 ∧ P 2 = r 2 ∧ P 3 = r 3) ∧ ∀ j : Int, 0 ≤ j → j < 144 → du j = duF r j
def atOK (r : Int → Int) (G : Nat → Int → Int) : Prop := ∀ k : Int, 0 ≤ k → k < 24 → G 7 k = rAt r k - 1
theorem sumI_tail {f : Int → Int} (a b : Nat) (h : ∀ j : Int, (a : Int) ≤ j → j < a + b → f j = 0) : sumI f (a + b) = sumI f a := by
  rw [sumI_split, show sumI (fun j => f (a + j)) b = sumI (fun _ => 0) b from sumI_congr b (fun j h1 h2 => h _ (by omega) (by omega)), sumI_zero]
  omega
theorem placedS_24 {r : Int → Int} (h : RW r) : sumI (fun k => oneIf (¬ rAt r k = 0)) (24 : Int).toNat = placedS r := by
  have hn := h.n
  have e : (24 : Int).toNat = (r 3).toNat + (24 - r 3).toNat := by omega
  rw [e, sumI_tail _ _ (fun j h1 h2 => oneIf_0 (fun q => q (h.at0 (k := j) (by omega))))]
  rfl
