/-! the answers of the questions -/
set_option maxRecDepth 100000
noncomputable def nowS (r : Int → Int) (um len what : Int) : Int := if what = 0 then r 0 else if what = 1 then r 2 else if what = 2 then r 3 else if what = 3 then placedS r else if what = 4 then fallS r else if what = 5 then r 1 else if what = 6 then um else if what = 7 then len else -1
def shiftOk (r : Int → Int) (s what : Int) : Prop := (0 ≤ s ∧ s < r 2) ∧ 0 ≤ what ∧ what ≤ 4
def shiftS (r : Int → Int) (s what : Int) : Int := if what = 4 ∧ rHas r s = 0 then -1 else r (148 + 5 * s + what)
def pauseOk (r : Int → Int) (k what : Int) : Prop := (0 ≤ k ∧ k < r 3) ∧ 0 ≤ what ∧ what ≤ 4
def pauseS (r : Int → Int) (k what : Int) : Int := if what = 4 then rAt r k - 1 else r (188 + 5 * k + what)
noncomputable def slotS (r : Int → Int) (p t what : Int) : Int := if (0 ≤ p ∧ p < r 0) ∧ 0 ≤ t ∧ t ≤ 47 then (if what = 0 then rNe r p t else if what = 1 then coverS r p t else if what = 2 then shortS r p t else -1) else -1
noncomputable def whyQ (r : Int → Int) (k t : Int) : Int := if (0 ≤ k ∧ k < r 3) ∧ 0 ≤ t ∧ t ≤ 47 then whyS r k t else -1
noncomputable def wouldQ (r : Int → Int) (k t : Int) : Int := if ((0 ≤ k ∧ k < r 3) ∧ 0 ≤ t ∧ t ≤ 47) ∧ whyS r k t = 0 then scoreS r k t else -1
def bestQ (r : Int → Int) (k v : Int) : Prop := ((0 ≤ k ∧ k < r 3) ∧ isBest r k v) ∨ (¬ (0 ≤ k ∧ k < r 3) ∧ v = -1)
def worstTo (r : Int → Int) (t b l : Int) : Prop := (b = -1 ∧ l = 0 ∧ ∀ u : Int, 0 ≤ u → u < t → shortIn r u ≤ 0) ∨ ((0 ≤ b ∧ b < t) ∧ l = shortIn r b ∧ 0 < l ∧ (∀ u : Int, 0 ≤ u → u < t → shortIn r u ≤ l) ∧ ∀ u : Int, 0 ≤ u → u < b → shortIn r u < l)
theorem worstTo_0 (r : Int → Int) : worstTo r 0 (-1) 0 := Or.inl ⟨rfl, rfl, fun u h1 h2 => by omega⟩
theorem worstTo_skip {r : Int → Int} {t b l : Int} (h : worstTo r t b l) (hl : shortIn r t ≤ l) : worstTo r (t + 1) b l := by
  rcases h with ⟨h1, h2, h3⟩ | ⟨h1, h2, h3, h4, h5⟩
  · refine Or.inl ⟨h1, h2, fun u hu1 hu2 => ?_⟩
    by_cases e : u = t
    · subst e; omega
    · exact h3 u hu1 (by omega)
  · refine Or.inr ⟨by omega, h2, h3, fun u hu1 hu2 => ?_, h5⟩
    by_cases e : u = t
    · subst e; omega
    · exact h4 u hu1 (by omega)
theorem worstTo_new {r : Int → Int} {t b l : Int} (h0 : 0 ≤ t) (h : worstTo r t b l) (hl : l < shortIn r t) : worstTo r (t + 1) t (shortIn r t) := by
  have key : ∀ u : Int, 0 ≤ u → u < t → shortIn r u < shortIn r t := by
    intro u hu1 hu2
    rcases h with ⟨h1, h2, h3⟩ | ⟨h1, h2, h3, h4, h5⟩
    · have := h3 u hu1 hu2; omega
    · have := h4 u hu1 hu2; omega
  refine Or.inr ⟨by omega, rfl, ?_, fun u hu1 hu2 => ?_, key⟩
  · rcases h with ⟨h1, h2, h3⟩ | ⟨h1, h2, h3, h4, h5⟩ <;> omega
  · by_cases e : u = t
    · subst e; omega
    · have := key u hu1 (by omega); omega
theorem worst_uniq {r : Int → Int} {a b l m : Int} (ha : worstTo r 48 a l) (hb : worstTo r 48 b m) : a = b := by
  rcases ha with ⟨a1, a2, a3⟩ | ⟨a1, a2, a3, a4, a5⟩ <;> rcases hb with ⟨b1, b2, b3⟩ | ⟨b1, b2, b3, b4, b5⟩
  · omega
  · have := a3 b (by omega) (by omega); omega
  · have := b3 a (by omega) (by omega); omega
  · have h1 := a4 b (by omega) (by omega)
    have h2 := b4 a (by omega) (by omega)
    rcases Int.lt_trichotomy a b with h | h | h
    · have := b5 a (by omega) h; omega
    · exact h
    · have := a5 b (by omega) h; omega
