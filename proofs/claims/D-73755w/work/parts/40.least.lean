/-! THE LEAST: which shifts' pauses find a slot -/
set_option maxRecDepth 100000
theorem sumI_mono {f g : Int → Int} (n : Nat) (h : ∀ j : Int, 0 ≤ j → j < n → f j ≤ g j) : sumI f n ≤ sumI g n := by
  induction n with
  | zero => exact Int.le_refl _
  | succ n ih =>
    have h1 := ih (fun j hj hl => h j hj (by omega))
    have h2 := h n (by omega) (by omega)
    rw [sumI, sumI]
    omega
theorem sumI_lt {f g : Int → Int} {s : Int} (n : Nat) (hs : 0 ≤ s ∧ s < n) (h : ∀ j : Int, 0 ≤ j → j < n → f j ≤ g j) (hl : f s + 1 ≤ g s) : sumI f n + 1 ≤ sumI g n := by
  induction n with
  | zero => omega
  | succ n ih =>
    rw [sumI, sumI]
    have h2 := h n (by omega) (by omega)
    by_cases c : s = n
    · subst c
      have h1 := sumI_mono (f := f) (g := g) n (fun j hj hl => h j hj (by omega))
      omega
    · have h1 := ih (by omega) (fun j hj hl => h j hj (by omega))
      omega
theorem sumI_add (f g : Int → Int) (n : Nat) : sumI (fun j => f j + g j) n = sumI f n + sumI g n := by
  induction n with
  | zero => rfl
  | succ n ih =>
    rw [sumI, sumI, sumI, ih]
    omega
theorem sumI_zero (n : Nat) : sumI (fun _ => 0) n = 0 := by
  induction n with
  | zero => rfl
  | succ n ih => rw [sumI, ih]; rfl
theorem sumI_swap (g : Int → Int → Int) (n m : Nat) : sumI (fun t => sumI (fun x => g t x) m) n = sumI (fun x => sumI (fun t => g t x) n) m := by
  induction n with
  | zero =>
    have : (fun x => sumI (fun t => g t x) 0) = fun _ => (0 : Int) := rfl
    rw [this, sumI_zero]
    rfl
  | succ n ih =>
    have : (fun x => sumI (fun t => g t x) (n + 1)) = fun x => sumI (fun t => g t x) n + g n x := rfl
    rw [this, sumI_add, sumI, ih]
theorem oneIf_congr {P Q : Prop} (h : P ↔ Q) : oneIf P = oneIf Q := by
  by_cases p : P
  · rw [oneIf_1 p, oneIf_1 (h.mp p)]
  · rw [oneIf_0 p, oneIf_0 (fun q => p (h.mpr q))]
theorem oneIf_le {P Q : Prop} (h : P → Q) : oneIf P ≤ oneIf Q := by
  by_cases p : P
  · rw [oneIf_1 p, oneIf_1 (h p)]; exact Int.le_refl _
  · rw [oneIf_0 p]; exact (oneIf_bd Q).1
theorem sumI_one_lt {P : Prop} {v : Int} (n : Nat) (h : v < 0 ∨ (n : Int) ≤ v ∨ ¬ P) : sumI (fun t => oneIf (P ∧ v = t)) n = 0 := by
  induction n with
  | zero => rfl
  | succ n ih =>
    rw [sumI, ih (by
      rcases h with h | h | h
      · exact Or.inl h
      · exact Or.inr (Or.inl (by omega))
      · exact Or.inr (Or.inr h)), oneIf_0 (fun q => by
      have q2 := q.2
      rcases h with h | h | h
      · omega
      · omega
      · exact h q.1)]
    rfl
theorem sumI_one {P : Prop} {v : Int} (n : Nat) (h : 0 ≤ v ∧ v < n) : sumI (fun t => oneIf (P ∧ v = t)) n = oneIf P := by
  induction n with
  | zero => omega
  | succ n ih =>
    rw [sumI]
    by_cases c : v = n
    · subst c
      rw [sumI_one_lt n (by omega), oneIf_congr (Q := P) ⟨fun q => q.1, fun q => ⟨q, rfl⟩⟩]
      omega
    · rw [ih (by omega), oneIf_0 (P := P ∧ v = (n : Int)) (fun q => c q.2)]
      omega
theorem sumI_one_le {P : Prop} {v : Int} (n : Nat) : sumI (fun t => oneIf (P ∧ v = t)) n ≤ oneIf P := by
  by_cases c : 0 ≤ v ∧ v < n
  · rw [sumI_one n c]; exact Int.le_refl _
  · rw [sumI_one_lt n (by omega)]; exact (oneIf_bd P).1
/-- how many of the eight -/
noncomputable def cnt8 (P : Int → Prop) : Int := sumI (fun s => oneIf (P s)) 8
theorem cnt8_mono {P Q : Int → Prop} (h : ∀ x : Int, 0 ≤ x → x < 8 → P x → Q x) : cnt8 P ≤ cnt8 Q := sumI_mono 8 (fun j h1 h2 => oneIf_le (h j h1 (by omega)))
theorem cnt8_congr {P Q : Int → Prop} (h : ∀ x : Int, 0 ≤ x → x < 8 → (P x ↔ Q x)) : cnt8 P = cnt8 Q := sumI_congr 8 (fun j h1 h2 => oneIf_congr (h j h1 (by omega)))
theorem cnt8_bd (P : Int → Prop) : 0 ≤ cnt8 P ∧ cnt8 P ≤ 8 := by
  have h := sumI_bd (a := 0) (b := 1) (fun s => oneIf (P s)) 8 (fun j _ _ => oneIf_bd _)
  unfold cnt8
  omega
theorem cnt8_lt {P Q : Int → Prop} {s : Int} (hs : 0 ≤ s ∧ s < 8) (h : ∀ x : Int, 0 ≤ x → x < 8 → P x → Q x) (h1 : ¬ P s) (h2 : Q s) : cnt8 P + 1 ≤ cnt8 Q := sumI_lt 8 (s := s) (by omega) (fun j h3 h4 => oneIf_le (h j h3 (by omega))) (by rw [oneIf_0 h1, oneIf_1 h2]; omega)
/-- a place in a slot for each, no slot too full -/
def matchS (lo hi c : Int → Int) (A : Int → Prop) : Prop := ∃ f : Int → Int, (∀ s : Int, 0 ≤ s → s < 8 → A s → (0 ≤ f s ∧ f s < 48) ∧ lo s ≤ f s ∧ f s ≤ hi s) ∧ ∀ t : Int, 0 ≤ t → t < 48 → cnt8 (fun s => A s ∧ f s = t) ≤ c t
theorem hall_fail {lo hi c σ : Int → Int} {A V R : Int → Prop} {s0 : Int} (h0 : 0 ≤ s0 ∧ s0 < 8) (hs : ¬ A s0) (hV0 : V s0) (hVA : ∀ x : Int, 0 ≤ x → x < 8 → V x → x = s0 ∨ A x) (hcl : ∀ x : Int, 0 ≤ x → x < 8 → V x → ∀ t : Int, 0 ≤ t → t < 48 → lo x ≤ t → t ≤ hi x → 0 < c t → R t) (hfull : ∀ t : Int, 0 ≤ t → t < 48 → R t → c t ≤ cnt8 (fun x => (A x ∧ V x) ∧ σ x = t)) : ¬ matchS lo hi c (fun x => A x ∨ x = s0) := by
  rintro ⟨f, hf, hc⟩
  have hVf : ∀ x : Int, 0 ≤ x → x < 8 → V x → (0 ≤ f x ∧ f x < 48) ∧ lo x ≤ f x ∧ f x ≤ hi x := fun x h1 h2 h3 => hf x h1 h2 ((hVA x h1 h2 h3).symm)
  -- of each slot
  have h1 : ∀ t : Int, 0 ≤ t → t < 48 → cnt8 (fun x => V x ∧ f x = t) ≤ cnt8 (fun x => (A x ∧ V x) ∧ σ x = t) := by
    intro t ht1 ht2
    have hle : cnt8 (fun x => V x ∧ f x = t) ≤ c t := Int.le_trans (cnt8_mono (fun x h3 h4 h5 => ⟨(hVA x h3 h4 h5.1).symm, h5.2⟩)) (hc t ht1 ht2)
    by_cases hR : R t
    · exact Int.le_trans hle (hfull t ht1 ht2 hR)
    · have : cnt8 (fun x => V x ∧ f x = t) ≤ 0 := by
        have e : cnt8 (fun x => V x ∧ f x = t) = cnt8 (fun _ => False) := cnt8_congr (fun x h3 h4 => ⟨fun q => by
          have w := hVf x h3 h4 q.1
          have w2 := q.2
          by_cases cp : 0 < c t
          · exact hR (hcl x h3 h4 q.1 t ht1 ht2 (by omega) (by omega) cp)
          · have := cnt8_lt (P := fun _ => False) (Q := fun x => V x ∧ f x = t) ⟨h3, h4⟩ (fun _ _ _ z => absurd z id) id q
            have := (cnt8_bd (fun _ => False)).1
            omega, fun q => absurd q id⟩)
        rw [e]
        have e2 : cnt8 (fun _ => False) = sumI (fun _ => 0) 8 := sumI_congr 8 (fun _ _ _ => oneIf_0 id)
        rw [e2, sumI_zero]
        exact Int.le_refl _
      have := (cnt8_bd (fun x => (A x ∧ V x) ∧ σ x = t)).1
      omega
  have h2 := sumI_mono (f := fun t => cnt8 (fun x => V x ∧ f x = t)) (g := fun t => cnt8 (fun x => (A x ∧ V x) ∧ σ x = t)) 48 (fun j h3 h4 => h1 j h3 (by omega))
  have e1 : sumI (fun t => cnt8 (fun x => V x ∧ f x = t)) 48 = cnt8 V := by
    unfold cnt8
    rw [sumI_swap (fun t x => oneIf (V x ∧ f x = t))]
    refine sumI_congr 8 (fun x h3 h4 => ?_)
    by_cases hv : V x
    · exact sumI_one 48 (by have := hVf x h3 (by omega) hv; omega)
    · rw [sumI_one_lt 48 (Or.inr (Or.inr hv)), oneIf_0 hv]
  have e2 : sumI (fun t => cnt8 (fun x => (A x ∧ V x) ∧ σ x = t)) 48 ≤ cnt8 (fun x => A x ∧ V x) := by
    unfold cnt8
    rw [sumI_swap (fun t x => oneIf ((A x ∧ V x) ∧ σ x = t))]
    exact sumI_mono 8 (fun x h3 h4 => sumI_one_le 48)
  have h3 : cnt8 (fun x => A x ∧ V x) + 1 ≤ cnt8 V := cnt8_lt h0 (fun x _ _ q => q.2) (fun q => hs q.1) hV0
  omega
/-! the answer -/
def winLo (r : Int → Int) (s : Int) : Int := rEa r (rFi r s)
def winHi (r : Int → Int) (s : Int) : Int := rLa r (rFi r s)
noncomputable def spareS (r : Int → Int) (p t : Int) : Int := dutyS r p t - rNe r p t
noncomputable def capS (r : Int → Int) (p t : Int) : Int := pos0 (spareS r p t)
def accR (r : Int → Int) (p : Int) : Nat → (Int → Prop) → Int → Prop
  | 0, A, u => A = (fun _ => False) ∧ u = 0
  | k + 1, A, u => ∃ (A1 : Int → Prop) (u1 : Int), accR r p k A1 u1 ∧ ((¬ rP r k = p ∧ A = A1 ∧ u = u1) ∨ (rP r k = p ∧ matchS (winLo r) (winHi r) (capS r p) (fun x => A1 x ∨ x = k) ∧ A = (fun x => A1 x ∨ x = k) ∧ u = u1) ∨ (rP r k = p ∧ ¬ matchS (winLo r) (winHi r) (capS r p) (fun x => A1 x ∨ x = k) ∧ A = A1 ∧ u = u1 + 1))
theorem accR_uniq {r : Int → Int} {p : Int} : ∀ (k : Nat) (A B : Int → Prop) (u v : Int), accR r p k A u → accR r p k B v → A = B ∧ u = v := by
  intro k
  induction k with
  | zero => rintro A B u v ⟨rfl, rfl⟩ ⟨rfl, rfl⟩; exact ⟨rfl, rfl⟩
  | succ k ih =>
    rintro A B u v ⟨A1, u1, a, h⟩ ⟨B1, v1, b, g⟩
    obtain ⟨rfl, rfl⟩ := ih A1 B1 u1 v1 a b
    rcases h with ⟨h1, rfl, rfl⟩ | ⟨h1, h2, rfl, rfl⟩ | ⟨h1, h2, rfl, rfl⟩ <;> rcases g with ⟨g1, rfl, rfl⟩ | ⟨g1, g2, rfl, rfl⟩ | ⟨g1, g2, rfl, rfl⟩
    all_goals first | exact ⟨rfl, rfl⟩ | exact absurd g1 h1 | exact absurd h1 g1 | exact absurd g2 h2 | exact absurd h2 g2
def badS (r : Int → Int) (p s : Int) : Prop := (0 ≤ s ∧ s < r 2) ∧ rP r s = p ∧ ¬ (rHas r s = 1 ∧ rLo r (rFi r s) = 1)
noncomputable def lackS (r : Int → Int) (p : Int) : Int := sumI (fun t => pos0 (rNe r p t - dutyS r p t)) 48
def leastQ (r : Int → Int) (p v : Int) : Prop :=
  (¬ (0 ≤ p ∧ p < r 0) ∧ v = -1) ∨ ((0 ≤ p ∧ p < r 0) ∧ (∃ s : Int, badS r p s) ∧ v = -1) ∨ ((0 ≤ p ∧ p < r 0) ∧ (∀ s : Int, ¬ badS r p s) ∧ ∃ (A : Int → Prop) (u : Int), accR r p (r 2).toNat A u ∧ v = lackS r p + u)
theorem leastQ_uniq {r : Int → Int} {p v v' : Int} (a : leastQ r p v) (b : leastQ r p v') : v = v' := by
  rcases a with ⟨a1, a2⟩ | ⟨a1, ⟨s, a2⟩, a3⟩ | ⟨a1, a2, A, u, a3, a4⟩ <;> rcases b with ⟨b1, b2⟩ | ⟨b1, ⟨s', b2⟩, b3⟩ | ⟨b1, b2, B, u', b3, b4⟩
  all_goals first | omega | exact absurd a2 (b2 _) | exact absurd b2 (a2 _) | exact absurd a1 b1 | exact absurd b1 a1 | skip
  obtain ⟨-, rfl⟩ := accR_uniq _ _ _ _ _ a3 b3
  omega
