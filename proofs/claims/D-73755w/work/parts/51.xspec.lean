/-! COVER, as x keeps it: one flat array, and how far it falls short -/
set_option maxRecDepth 100000
theorem sumI_upd {f f' : Int → Int} {k : Int} (n : Nat) (hk : 0 ≤ k ∧ k < n) (h : ∀ j : Int, 0 ≤ j → j < n → ¬ j = k → f' j = f j) : sumI f' n = sumI f n + f' k - f k := by
  induction n with
  | zero => omega
  | succ n ih =>
    rw [sumI, sumI]
    by_cases c : k = n
    · subst c
      rw [sumI_congr n (f := f') (g := f) (fun j h1 h2 => h j h1 (by omega) (by omega))]
      omega
    · rw [ih (by omega) (fun j h1 h2 h3 => h j h1 (by omega) h3), h n (by omega) (by omega) (fun q => c q.symm)]
      omega
theorem sumI_split (f : Int → Int) (a b : Nat) : sumI f (a + b) = sumI f a + sumI (fun j => f (a + j)) b := by
  induction b with
  | zero => rw [Nat.add_zero, sumI]; omega
  | succ b ih =>
    rw [← Nat.add_assoc, sumI, sumI, ih]
    have e : ((a + b : Nat) : Int) = (a : Int) + (b : Int) := by omega
    rw [e]
    omega
def flS (ne cv : Int → Int) : Int := sumI (fun j => pos0 (ne j - cv j)) 144
def neF (r : Int → Int) (j : Int) : Int := r (4 + j)
noncomputable def covF (r : Int → Int) (j : Int) : Int := coverS r (j / 48) (j % 48)
noncomputable def duF (r : Int → Int) (j : Int) : Int := dutyS r (j / 48) (j % 48)
def addC (cv : Int → Int) (f m b : Int) : Int → Int := fun j => if f ≤ j ∧ j < f + m then cv j + b else cv j
theorem addC_0 (cv : Int → Int) (f b : Int) : cv = addC cv f 0 b := by
  funext j
  unfold addC
  rw [if_neg (by omega)]
theorem addC_s {cv : Int → Int} {f z b : Int} (hz : f ≤ z) : uI (addC cv f (z - f) b) z (addC cv f (z - f) b z + b) = addC cv f (z + 1 - f) b := by
  funext j
  unfold uI
  by_cases c : j = z
  · subst c
    rw [if_pos rfl]
    unfold addC
    rw [if_neg (by omega), if_pos (by omega)]
  · rw [if_neg c]
    unfold addC
    by_cases c2 : f ≤ j ∧ j < f + (z - f)
    · rw [if_pos c2, if_pos (by omega)]
    · rw [if_neg c2, if_neg (by omega)]
theorem addC_bd {cv : Int → Int} {f m b lo hi : Int} {j : Int} (h : lo ≤ cv j ∧ cv j ≤ hi) (hb : -1 ≤ b ∧ b ≤ 1) : lo - 1 ≤ addC cv f m b j ∧ addC cv f m b j ≤ hi + 1 := by
  unfold addC
  split <;> omega
theorem flS_up {ne cv : Int → Int} {z v : Int} (hz : 0 ≤ z ∧ z < 144) : flS ne (uI cv z v) = flS ne cv - pos0 (ne z - cv z) + pos0 (ne z - v) := by
  unfold flS
  rw [sumI_upd (k := z) 144 (f := fun j => pos0 (ne j - cv j)) (f' := fun j => pos0 (ne j - uI cv z v j)) (by omega) (fun j h1 h2 h3 => by show pos0 (ne j - uI cv z v j) = _; rw [uI_ne _ _ h3])]
  show _ + pos0 (ne z - uI cv z v z) - pos0 (ne z - cv z) = _
  rw [uI_eq]
  omega
theorem flS_congr {ne cv cv' : Int → Int} (h : ∀ j : Int, 0 ≤ j → j < 144 → cv j = cv' j) : flS ne cv = flS ne cv' := sumI_congr 144 (fun j h1 h2 => by show pos0 (ne j - cv j) = pos0 (ne j - cv' j); rw [h j h1 (by omega)])
theorem coverS_far {r : Int → Int} (h : RW r) {p t : Int} (hp : r 0 ≤ p) : dutyS r p t = 0 ∧ pausS r p t = 0 := by
  have hn := h.n
  constructor
  · unfold dutyS
    rw [show sumI (onAt r p t) (r 2).toNat = sumI (fun _ => 0) (r 2).toNat from sumI_congr _ (fun s h1 h2 => oneIf_0 (fun q => by have := (h.sh (s := s) (by omega)).1; have := q.1; omega)), sumI_zero]
  · unfold pausS
    rw [show sumI (pzAt r p t) (r 3).toNat = sumI (fun _ => 0) (r 3).toNat from sumI_congr _ (fun s h1 h2 => oneIf_0 (fun q => by have h3 := (h.pa (k := s) (by omega)).1; have := (h.sh h3).1; have := q.1; omega)), sumI_zero]
theorem fallS_flat {r : Int → Int} (h : RW r) : flS (neF r) (covF r) = fallS r := by
  have hn := h.n
  have e : ∀ p : Int, 0 ≤ p → p < 3 → ∀ t : Int, 0 ≤ t → t < 48 → pos0 (neF r (48 * p + t) - covF r (48 * p + t)) = shortS r p t := by
    intro p h1 h2 t h3 h4
    unfold covF neF shortS
    rw [show (48 * p + t) / 48 = p by omega, show (48 * p + t) % 48 = t by omega]
    unfold rNe
    rw [show 4 + (48 * p + t) = 4 + 48 * p + t by omega]
  have s1 : flS (neF r) (covF r) = sumI (fun t => shortS r 0 t) 48 + (sumI (fun t => shortS r 1 t) 48 + sumI (fun t => shortS r 2 t) 48) := by
    unfold flS
    rw [show (144 : Nat) = 48 + (48 + 48) from rfl, sumI_split, sumI_split]
    congr 1
  have z : ∀ p : Int, r 0 ≤ p → p < 3 → sumI (fun t => shortS r p t) 48 = 0 := by
    intro p h1 h2
    rw [show sumI (fun t => shortS r p t) 48 = sumI (fun _ => 0) 48 from sumI_congr 48 (fun t h3 h4 => by
      have hc := coverS_far h (p := p) (t := t) h1
      show pos0 (rNe r p t - coverS r p t) = 0
      unfold coverS
      rw [hc.1, hc.2, h.need0 ⟨h1, h2⟩ ⟨h3, by omega⟩]
      rfl), sumI_zero]
  have s2 : fallS r = sumI (fun p => sumI (fun t => shortS r p t) 48) (r 0).toNat := by
    unfold fallS
    rw [← sumI_swap (fun t p => shortS r p t)]
    rfl
  rw [s1, s2]
  have : r 0 = 1 ∨ r 0 = 2 ∨ r 0 = 3 := by omega
  rcases this with q | q | q
  · rw [z 1 (by omega) (by omega), z 2 (by omega) (by omega), show (r 0).toNat = 1 by omega]
    show _ = 0 + sumI (fun t => shortS r ((0 : Nat) : Int) t) 48
    have e0 : ((0 : Nat) : Int) = 0 := rfl
    rw [e0]
    omega
  · rw [z 2 (by omega) (by omega), show (r 0).toNat = 2 by omega]
    show _ = 0 + sumI (fun t => shortS r ((0 : Nat) : Int) t) 48 + sumI (fun t => shortS r ((1 : Nat) : Int) t) 48
    have e0 : ((0 : Nat) : Int) = 0 := rfl
    have e1 : ((1 : Nat) : Int) = 1 := rfl
    rw [e0, e1]
    omega
  · rw [show (r 0).toNat = 3 by omega]
    show _ = 0 + sumI (fun t => shortS r ((0 : Nat) : Int) t) 48 + sumI (fun t => shortS r ((1 : Nat) : Int) t) 48 + sumI (fun t => shortS r ((2 : Nat) : Int) t) 48
    have e0 : ((0 : Nat) : Int) = 0 := rfl
    have e1 : ((1 : Nat) : Int) = 1 := rfl
    have e2 : ((2 : Nat) : Int) = 2 := rfl
    rw [e0, e1, e2]
    omega
theorem putA_duty {r : Int → Int} {k v : Int} (hk : 0 ≤ k) (p t : Int) : dutyS (putA r k v) p t = dutyS r p t := by
  unfold dutyS
  rw [putA_lo r k v hk (by omega)]
  refine sumI_congr _ (fun s _ _ => oneIf_congr ?_)
  rw [putA_P, putA_Fr, putA_To]
theorem pz_put {r : Int → Int} (h : RW r) {k t0 : Int} (hk : 0 ≤ k ∧ k < r 3) (h0 : rAt r k = 0) (ht : 0 ≤ t0 ∧ t0 + rLo r k ≤ 48) {j : Int} (hj : 0 ≤ j ∧ j < 144) : covF (putA r k (t0 + 1)) j = addC (covF r) (48 * rP r (rOf r k) + t0) (rLo r k) (-1) j := by
  have hn := h.n
  have hp := (h.sh (h.pa hk).1).1
  have hl := (h.pa hk).2.1
  have e : pausS (putA r k (t0 + 1)) (j / 48) (j % 48) = pausS r (j / 48) (j % 48) + oneIf (48 * rP r (rOf r k) + t0 ≤ j ∧ j < 48 * rP r (rOf r k) + t0 + rLo r k) := by
    unfold pausS
    rw [putA_lo r k _ hk.1 (by omega)]
    rw [sumI_upd (k := k) (r 3).toNat (f := pzAt r (j / 48) (j % 48)) (f' := pzAt (putA r k (t0 + 1)) (j / 48) (j % 48)) (by omega) (fun x h1 h2 h3 => by
      unfold pzAt isPz
      rw [putA_P, putA_Of, putA_At' _ _ _ h3, putA_Lo])]
    have e1 : pzAt r (j / 48) (j % 48) k = 0 := oneIf_0 (fun q => q.2.1 h0)
    have e2 : pzAt (putA r k (t0 + 1)) (j / 48) (j % 48) k = oneIf (48 * rP r (rOf r k) + t0 ≤ j ∧ j < 48 * rP r (rOf r k) + t0 + rLo r k) := by
      unfold pzAt isPz
      rw [putA_P, putA_Of, putA_At, putA_Lo]
      exact oneIf_congr (by omega)
    rw [e1, e2]
    omega
  unfold covF coverS
  rw [putA_duty hk.1, e]
  unfold addC
  by_cases c : 48 * rP r (rOf r k) + t0 ≤ j ∧ j < 48 * rP r (rOf r k) + t0 + rLo r k
  · rw [if_pos c, oneIf_1 c]
    show _ = dutyS r (j / 48) (j % 48) - pausS r (j / 48) (j % 48) + -1
    omega
  · rw [if_neg c, oneIf_0 c]
    show _ = dutyS r (j / 48) (j % 48) - pausS r (j / 48) (j % 48)
    omega
theorem pz_take {r : Int → Int} (h : RW r) {k t0 : Int} (hk : 0 ≤ k ∧ k < r 3) (h0 : rAt r k = t0 + 1) (ht : 0 ≤ t0 ∧ t0 + rLo r k ≤ 48) {j : Int} (hj : 0 ≤ j ∧ j < 144) : covF (putA r k 0) j = addC (covF r) (48 * rP r (rOf r k) + t0) (rLo r k) 1 j := by
  have hR := h.mv hk (v := 0) (Or.inl rfl)
  have e := pz_put hR (k := k) (t0 := t0) (by rw [putA_lo _ _ _ hk.1 (by omega)]; exact hk) (putA_At _ _ _) (by rw [putA_Lo]; exact ht) hj
  rw [putA_putA, ← h0, putA_self, putA_P, putA_Of, putA_Lo] at e
  unfold addC at e ⊢
  split at e
  · rw [if_pos (by assumption)]; omega
  · rw [if_neg (by assumption)]; omega
/-- x's cover and shortfall are those of the row ρ -/
def laid (ρ : Int → Int) (F : Nat → Int) (G : Nat → Int → Int) : Prop := (∀ j : Int, 0 ≤ j → j < 144 → G 2 j = covF ρ j) ∧ F 6 = fallS ρ
theorem covF_bd {r : Int → Int} (h : RW r) (j : Int) : -24 ≤ covF r j ∧ covF r j ≤ 8 := coverS_bd h _ _
theorem laid.fl {ρ : Int → Int} {F : Nat → Int} {G : Nat → Int → Int} (h : laid ρ F G) (hR : RW ρ) : F 6 = flS (neF ρ) (G 2) := by
  rw [h.2, ← fallS_flat hR]
  exact flS_congr (fun j h1 h2 => (h.1 j h1 h2).symm)
theorem neF_put {r : Int → Int} {k v : Int} (hk : 0 ≤ k) {j : Int} (hj : 0 ≤ j ∧ j < 144) : neF (putA r k v) j = neF r j := putA_lo r k v hk (by omega)
theorem flS_ne {ne ne' cv : Int → Int} (h : ∀ j : Int, 0 ≤ j → j < 144 → ne j = ne' j) : flS ne cv = flS ne' cv := sumI_congr 144 (fun j h1 h2 => by show pos0 (ne j - cv j) = pos0 (ne' j - cv j); rw [h j h1 (by omega)])
