/-! WHAT IS COMPUTED, without machine: a plan is one row r of numbers (as the reference keeps it): r 0 posts, r 1 walk, r 2 shifts, r 3 pauses, needs from 4, shifts by five from 148, pauses by five from 188 -/
def rP (r : Int → Int) (s : Int) : Int := r (148 + 5 * s)
def rFr (r : Int → Int) (s : Int) : Int := r (149 + 5 * s)
def rTo (r : Int → Int) (s : Int) : Int := r (150 + 5 * s)
def rHas (r : Int → Int) (s : Int) : Int := r (151 + 5 * s)
def rFi (r : Int → Int) (s : Int) : Int := r (152 + 5 * s)
def rOf (r : Int → Int) (k : Int) : Int := r (188 + 5 * k)
def rLo (r : Int → Int) (k : Int) : Int := r (189 + 5 * k)
def rEa (r : Int → Int) (k : Int) : Int := r (190 + 5 * k)
def rLa (r : Int → Int) (k : Int) : Int := r (191 + 5 * k)
def rAt (r : Int → Int) (k : Int) : Int := r (192 + 5 * k)
def rNe (r : Int → Int) (p t : Int) : Int := r (4 + 48 * p + t)
/-- a row that holds a plan -/
def RW (r : Int → Int) : Prop :=
  (1 ≤ r 0 ∧ r 0 ≤ 3) ∧ (1 ≤ r 1 ∧ r 1 ≤ 4) ∧ (0 ≤ r 2 ∧ r 2 ≤ 8) ∧ (0 ≤ r 3 ∧ r 3 ≤ 24) ∧
  (∀ j : Int, 4 ≤ j → j < 148 → 0 ≤ r j ∧ r j ≤ 90) ∧
  (∀ p t : Int, r 0 ≤ p → p < 3 → 0 ≤ t → t < 48 → rNe r p t = 0) ∧
  (∀ s : Int, 0 ≤ s → s < r 2 → (0 ≤ rP r s ∧ rP r s < r 0) ∧ (0 ≤ rFr r s ∧ rFr r s ≤ rTo r s ∧ rTo r s ≤ 47) ∧ (0 ≤ rHas r s ∧ rHas r s ≤ 3) ∧ (0 ≤ rFi r s ∧ rFi r s + rHas r s ≤ r 3) ∧ ∀ k : Int, rFi r s ≤ k → k < rFi r s + rHas r s → rOf r k = s) ∧
  (∀ k : Int, 0 ≤ k → k < r 3 → (0 ≤ rOf r k ∧ rOf r k < r 2) ∧ (1 ≤ rLo r k ∧ rLo r k ≤ 4) ∧ (rFr r (rOf r k) ≤ rEa r k ∧ rEa r k ≤ rLa r k ∧ rLa r k + rLo r k ≤ rTo r (rOf r k) + 1) ∧ (rAt r k = 0 ∨ rEa r k < rAt r k ∧ rAt r k ≤ rLa r k + 1)) ∧
  (∀ k : Int, r 3 ≤ k → k < 24 → rAt r k = 0)
theorem RW.n {r : Int → Int} (h : RW r) : (1 ≤ r 0 ∧ r 0 ≤ 3) ∧ (1 ≤ r 1 ∧ r 1 ≤ 4) ∧ (0 ≤ r 2 ∧ r 2 ≤ 8) ∧ (0 ≤ r 3 ∧ r 3 ≤ 24) := ⟨h.1, h.2.1, h.2.2.1, h.2.2.2.1⟩
theorem RW.need {r : Int → Int} (h : RW r) {p t : Int} (hp : 0 ≤ p ∧ p < 3) (ht : 0 ≤ t ∧ t < 48) : 0 ≤ rNe r p t ∧ rNe r p t ≤ 90 := h.2.2.2.2.1 _ (by omega) (by omega)
theorem RW.need0 {r : Int → Int} (h : RW r) {p t : Int} (hp : r 0 ≤ p ∧ p < 3) (ht : 0 ≤ t ∧ t < 48) : rNe r p t = 0 := h.2.2.2.2.2.1 p t hp.1 hp.2 ht.1 ht.2
theorem RW.sh {r : Int → Int} (h : RW r) {s : Int} (hs : 0 ≤ s ∧ s < r 2) : (0 ≤ rP r s ∧ rP r s < r 0) ∧ (0 ≤ rFr r s ∧ rFr r s ≤ rTo r s ∧ rTo r s ≤ 47) ∧ (0 ≤ rHas r s ∧ rHas r s ≤ 3) ∧ (0 ≤ rFi r s ∧ rFi r s + rHas r s ≤ r 3) := by
  obtain ⟨a, b, c, d, -⟩ := h.2.2.2.2.2.2.1 s hs.1 hs.2
  exact ⟨a, b, c, d⟩
theorem RW.own {r : Int → Int} (h : RW r) {s k : Int} (hs : 0 ≤ s ∧ s < r 2) (hk : rFi r s ≤ k ∧ k < rFi r s + rHas r s) : rOf r k = s := (h.2.2.2.2.2.2.1 s hs.1 hs.2).2.2.2.2 k hk.1 hk.2
theorem RW.pa {r : Int → Int} (h : RW r) {k : Int} (hk : 0 ≤ k ∧ k < r 3) : (0 ≤ rOf r k ∧ rOf r k < r 2) ∧ (1 ≤ rLo r k ∧ rLo r k ≤ 4) ∧ (rFr r (rOf r k) ≤ rEa r k ∧ rEa r k ≤ rLa r k ∧ rLa r k + rLo r k ≤ rTo r (rOf r k) + 1) ∧ (rAt r k = 0 ∨ rEa r k < rAt r k ∧ rAt r k ≤ rLa r k + 1) := h.2.2.2.2.2.2.2.1 k hk.1 hk.2
theorem RW.at0 {r : Int → Int} (h : RW r) {k : Int} (hk : r 3 ≤ k ∧ k < 24) : rAt r k = 0 := h.2.2.2.2.2.2.2.2 k hk.1 hk.2
/-- all of a pause, in plain numbers -/
theorem RW.pa2 {r : Int → Int} (h : RW r) {k : Int} (hk : 0 ≤ k ∧ k < r 3) : (0 ≤ rEa r k ∧ rEa r k ≤ rLa r k ∧ rLa r k + rLo r k ≤ 48) ∧ (0 ≤ rAt r k ∧ rAt r k ≤ 48) := by
  obtain ⟨h1, h2, h3, h4⟩ := h.pa hk
  obtain ⟨-, h5, -⟩ := h.sh h1
  omega
/-- sums -/
def sumI (f : Int → Int) : Nat → Int
  | 0 => 0
  | n + 1 => sumI f n + f n
theorem sumI_step (f : Int → Int) {s : Int} (h : 0 ≤ s) : sumI f (s + 1).toNat = sumI f s.toNat + f s := by
  have e : (s + 1).toNat = s.toNat + 1 := by omega
  rw [e, sumI, Int.toNat_of_nonneg h]
theorem sumI_0 (f : Int → Int) : sumI f (0 : Int).toNat = 0 := rfl
theorem sumI_end (f : Int → Int) {s e : Int} (h : s = e) : sumI f s.toNat = sumI f e.toNat := by rw [h]
theorem sumI_bd (f : Int → Int) {a b : Int} (n : Nat) (h : ∀ j : Int, 0 ≤ j → j < n → a ≤ f j ∧ f j ≤ b) : a * n ≤ sumI f n ∧ sumI f n ≤ b * n := by
  induction n with
  | zero => simp [sumI]
  | succ n ih =>
    have h1 := ih (fun j hj hl => h j hj (by omega))
    have h2 := h n (by omega) (by omega)
    rw [sumI, Int.natCast_add, Int.mul_add, Int.mul_add]
    omega
theorem sumI_bd' (f : Int → Int) {a b c d : Int} {s : Int} (hs : 0 ≤ s) (h : ∀ j : Int, 0 ≤ j → j < s → a ≤ f j ∧ f j ≤ b) (hc : c ≤ a * s) (hd : b * s ≤ d) : c ≤ sumI f s.toNat ∧ sumI f s.toNat ≤ d := by
  have h1 := sumI_bd f s.toNat (fun j hj hl => h j hj (by omega))
  rw [Int.toNat_of_nonneg hs] at h1
  omega
theorem sumI_congr {f g : Int → Int} (n : Nat) (h : ∀ j : Int, 0 ≤ j → j < n → f j = g j) : sumI f n = sumI g n := by
  induction n with
  | zero => rfl
  | succ n ih =>
    rw [sumI, sumI, ih (fun j hj hl => h j hj (by omega)), h n (by omega) (by omega)]
/-- 1 where it holds -/
noncomputable def oneIf (P : Prop) : Int := by
  classical
  exact if P then 1 else 0
theorem oneIf_1 {P : Prop} (h : P) : oneIf P = 1 := by simp [oneIf, h]
theorem oneIf_0 {P : Prop} (h : ¬ P) : oneIf P = 0 := by simp [oneIf, h]
theorem oneIf_bd (P : Prop) : 0 ≤ oneIf P ∧ oneIf P ≤ 1 := by
  by_cases h : P
  · rw [oneIf_1 h]; omega
  · rw [oneIf_0 h]; omega
noncomputable def onAt (r : Int → Int) (p t s : Int) : Int := oneIf (rP r s = p ∧ rFr r s ≤ t ∧ t ≤ rTo r s)
/-- shifts on duty at a post in a slot -/
noncomputable def dutyS (r : Int → Int) (p t : Int) : Int := sumI (onAt r p t) (r 2).toNat
def isPz (r : Int → Int) (k t : Int) : Prop := ¬ rAt r k = 0 ∧ rAt r k - 1 ≤ t ∧ t ≤ rAt r k - 1 + rLo r k - 1
noncomputable def pzAt (r : Int → Int) (p t k : Int) : Int := oneIf (rP r (rOf r k) = p ∧ isPz r k t)
noncomputable def pausS (r : Int → Int) (p t : Int) : Int := sumI (pzAt r p t) (r 3).toNat
noncomputable def coverS (r : Int → Int) (p t : Int) : Int := dutyS r p t - pausS r p t
def pos0 (z : Int) : Int := if z < 0 then 0 else z
noncomputable def shortS (r : Int → Int) (p t : Int) : Int := pos0 (rNe r p t - coverS r p t)
noncomputable def shortIn (r : Int → Int) (t : Int) : Int := sumI (fun p => shortS r p t) (r 0).toNat
noncomputable def fallS (r : Int → Int) : Int := sumI (shortIn r) 48
theorem dutyS_bd {r : Int → Int} (h : RW r) (p t : Int) : 0 ≤ dutyS r p t ∧ dutyS r p t ≤ 8 := by
  have hn := h.n
  exact sumI_bd' (a := 0) (b := 1) _ (by omega) (fun j _ _ => oneIf_bd _) (by omega) (by omega)
theorem pausS_bd {r : Int → Int} (h : RW r) (p t : Int) : 0 ≤ pausS r p t ∧ pausS r p t ≤ 24 := by
  have hn := h.n
  exact sumI_bd' (a := 0) (b := 1) _ (by omega) (fun j _ _ => oneIf_bd _) (by omega) (by omega)
theorem coverS_bd {r : Int → Int} (h : RW r) (p t : Int) : -24 ≤ coverS r p t ∧ coverS r p t ≤ 8 := by
  have h1 := dutyS_bd h p t
  have h2 := pausS_bd h p t
  unfold coverS
  omega
theorem shortS_bd {r : Int → Int} (h : RW r) {p t : Int} (hp : 0 ≤ p ∧ p < 3) (ht : 0 ≤ t ∧ t < 48) : 0 ≤ shortS r p t ∧ shortS r p t ≤ 114 := by
  have h1 := coverS_bd h p t
  have h2 := h.need hp ht
  unfold shortS pos0
  split <;> omega
theorem shortIn_bd {r : Int → Int} (h : RW r) {t : Int} (ht : 0 ≤ t ∧ t < 48) : 0 ≤ shortIn r t ∧ shortIn r t ≤ 342 := by
  have hn := h.n
  exact sumI_bd' (a := 0) (b := 114) _ (by omega) (fun j hj hl => shortS_bd h (by omega) ht) (by omega) (by omega)
theorem fallS_bd {r : Int → Int} (h : RW r) : 0 ≤ fallS r ∧ fallS r ≤ 16416 := by
  have h1 := sumI_bd (a := 0) (b := 342) (shortIn r) 48 (fun j hj hl => shortIn_bd h (by omega))
  unfold fallS
  omega
/-! a pause laid elsewhere -/
def putA (r : Int → Int) (k v : Int) : Int → Int := uI r (192 + 5 * k) v
theorem putA_ne (r : Int → Int) {k j : Int} (v : Int) (h : ¬ j = 192 + 5 * k) : putA r k v j = r j := uI_ne r v h
theorem putA_P (r : Int → Int) (k v s : Int) : rP (putA r k v) s = rP r s := putA_ne r v (by omega)
theorem putA_Fr (r : Int → Int) (k v s : Int) : rFr (putA r k v) s = rFr r s := putA_ne r v (by omega)
theorem putA_To (r : Int → Int) (k v s : Int) : rTo (putA r k v) s = rTo r s := putA_ne r v (by omega)
theorem putA_Has (r : Int → Int) (k v s : Int) : rHas (putA r k v) s = rHas r s := putA_ne r v (by omega)
theorem putA_Fi (r : Int → Int) (k v s : Int) (hk : 0 ≤ k) (hs : s < 8) : rFi (putA r k v) s = rFi r s := putA_ne r v (by omega)
theorem putA_Of (r : Int → Int) (k v x : Int) : rOf (putA r k v) x = rOf r x := putA_ne r v (by omega)
theorem putA_Lo (r : Int → Int) (k v x : Int) : rLo (putA r k v) x = rLo r x := putA_ne r v (by omega)
theorem putA_Ea (r : Int → Int) (k v x : Int) : rEa (putA r k v) x = rEa r x := putA_ne r v (by omega)
theorem putA_La (r : Int → Int) (k v x : Int) : rLa (putA r k v) x = rLa r x := putA_ne r v (by omega)
theorem putA_At (r : Int → Int) (k v : Int) : rAt (putA r k v) k = v := uI_eq r _ v
theorem putA_At' (r : Int → Int) (k v : Int) {x : Int} (h : ¬ x = k) : rAt (putA r k v) x = rAt r x := putA_ne r v (by omega)
theorem putA_Ne (r : Int → Int) (k v p t : Int) (hk : 0 ≤ k) (hp : p < 3) (ht : t < 48) : rNe (putA r k v) p t = rNe r p t := putA_ne r v (by omega)
theorem putA_lo (r : Int → Int) (k v : Int) {j : Int} (hk : 0 ≤ k) (hj : j < 192) : putA r k v j = r j := putA_ne r v (by omega)
theorem putA_self (r : Int → Int) (k : Int) : putA r k (rAt r k) = r := by
  funext j
  by_cases h : j = 192 + 5 * k
  · subst h; exact uI_eq r _ _
  · exact putA_ne r _ h
theorem putA_putA (r : Int → Int) (k v u : Int) : putA (putA r k v) k u = putA r k u := by
  funext j
  by_cases h : j = 192 + 5 * k
  · subst h; exact (uI_eq _ _ _).trans (uI_eq _ _ _).symm
  · rw [putA_ne _ _ h, putA_ne _ _ h, putA_ne _ _ h]
theorem RW.mv {r : Int → Int} (h : RW r) {k v : Int} (hk : 0 ≤ k ∧ k < r 3) (hv : v = 0 ∨ rEa r k < v ∧ v ≤ rLa r k + 1) : RW (putA r k v) := by
  have hn := h.n
  have e0 : ∀ j : Int, j < 192 → putA r k v j = r j := fun j hj => putA_lo r k v hk.1 hj
  refine ⟨by rw [e0 _ (by omega)]; exact h.1, by rw [e0 _ (by omega)]; exact h.2.1, by rw [e0 _ (by omega)]; exact h.2.2.1, by rw [e0 _ (by omega)]; exact h.2.2.2.1, fun j h1 h2 => by rw [e0 j (by omega)]; exact h.2.2.2.2.1 j h1 h2, fun p t h1 h2 h3 h4 => ?_, fun s h1 h2 => ?_, fun x h1 h2 => ?_, fun x h1 h2 => ?_⟩
  · rw [e0 0 (by omega)] at h1
    rw [putA_Ne _ _ _ _ _ hk.1 h2 h4]
    exact h.need0 ⟨h1, h2⟩ ⟨h3, h4⟩
  · rw [e0 2 (by omega)] at h2
    obtain ⟨a, b, c, d, e⟩ := h.2.2.2.2.2.2.1 s h1 h2
    rw [putA_P, putA_Fr, putA_To, putA_Has, putA_Fi _ _ _ _ hk.1 (by omega), e0 0 (by omega), e0 3 (by omega)]
    exact ⟨a, b, c, d, fun x hx1 hx2 => by rw [putA_Of]; exact e x hx1 hx2⟩
  · rw [e0 3 (by omega)] at h2
    obtain ⟨a, b, c, d⟩ := h.pa ⟨h1, h2⟩
    rw [putA_Of, putA_Lo, putA_Ea, putA_La, putA_Fr, putA_To, e0 2 (by omega)]
    refine ⟨a, b, c, ?_⟩
    by_cases hx : x = k
    · subst hx; rw [putA_At]; exact hv
    · rw [putA_At' _ _ _ hx]; exact d
  · rw [e0 3 (by omega)] at h1
    rw [putA_At' _ _ _ (by omega)]
    exact h.at0 ⟨h1, h2⟩
/-! why not, scores -/
def clash (r : Int → Int) (k t x : Int) : Prop := ¬ x = k ∧ rOf r x = rOf r k ∧ ¬ rAt r x = 0 ∧ t ≤ rAt r x - 1 + rLo r x ∧ rAt r x - 1 ≤ t + rLo r k
def inWin (r : Int → Int) (k t : Int) : Prop := rEa r k ≤ t ∧ t ≤ rLa r k
def fitsAt (r : Int → Int) (k t : Int) : Prop := inWin r k t ∧ ∀ x : Int, 0 ≤ x → x < r 3 → ¬ clash r k t x
noncomputable def whyS (r : Int → Int) (k t : Int) : Int := by
  classical
  exact if inWin r k t then (if ∀ x : Int, 0 ≤ x → x < r 3 → ¬ clash r k t x then 0 else 2) else 1
theorem whyS_1 {r : Int → Int} {k t : Int} (h : ¬ inWin r k t) : whyS r k t = 1 := by simp [whyS, h]
theorem whyS_2 {r : Int → Int} {k t x : Int} (h : inWin r k t) (h1 : 0 ≤ x ∧ x < r 3) (h2 : clash r k t x) : whyS r k t = 2 := by
  have : ¬ ∀ x : Int, 0 ≤ x → x < r 3 → ¬ clash r k t x := fun q => q x h1.1 h1.2 h2
  simp [whyS, h, this]
theorem whyS_0 {r : Int → Int} {k t : Int} (h : fitsAt r k t) : whyS r k t = 0 := by
  obtain ⟨h1, h2⟩ := h
  simp only [whyS, h1, if_true]
  rw [if_pos h2]
theorem whyS_bd (r : Int → Int) (k t : Int) : 0 ≤ whyS r k t ∧ whyS r k t ≤ 2 := by
  unfold whyS
  split
  · split <;> omega
  · omega
theorem whyS_fits {r : Int → Int} {k t : Int} : whyS r k t = 0 ↔ fitsAt r k t := by
  refine ⟨fun h => ?_, whyS_0⟩
  unfold whyS at h
  split at h
  next h1 =>
    split at h
    next h2 => exact ⟨h1, h2⟩
    next => omega
  next => omega
noncomputable def scoreS (r : Int → Int) (k t : Int) : Int := fallS (putA r k (t + 1))
theorem scoreS_bd {r : Int → Int} (h : RW r) {k t : Int} (hk : 0 ≤ k ∧ k < r 3) (ht : inWin r k t) : 0 ≤ scoreS r k t ∧ scoreS r k t ≤ 16416 := fallS_bd (h.mv hk (Or.inr ⟨by have := ht.1; omega, by have := ht.2; omega⟩))
/-- the least by slots below t, of like ones the first -/
def bestTo (r : Int → Int) (k t b l : Int) : Prop :=
  (b = -2 ∧ ∀ u : Int, u < t → ¬ fitsAt r k u) ∨ (fitsAt r k b ∧ b < t ∧ l = scoreS r k b ∧ (∀ u : Int, u < t → fitsAt r k u → l ≤ scoreS r k u) ∧ ∀ u : Int, u < b → fitsAt r k u → l < scoreS r k u)
def isBest (r : Int → Int) (k b : Int) : Prop :=
  (b = -2 ∧ ∀ u : Int, ¬ fitsAt r k u) ∨ (fitsAt r k b ∧ (∀ u : Int, fitsAt r k u → scoreS r k b ≤ scoreS r k u) ∧ ∀ u : Int, u < b → fitsAt r k u → scoreS r k b < scoreS r k u)
theorem bestTo_0 (r : Int → Int) (k l : Int) : bestTo r k (rEa r k) (-2) l := Or.inl ⟨rfl, fun u hu h => by have := h.1.1; omega⟩
theorem bestTo_skip {r : Int → Int} {k t b l : Int} (h : bestTo r k t b l) (hn : ¬ fitsAt r k t) : bestTo r k (t + 1) b l := by
  have key : ∀ u : Int, u < t + 1 → fitsAt r k u → u < t := fun u hu hf => by
    by_cases e : u = t
    · subst e; exact absurd hf hn
    · omega
  rcases h with ⟨h1, h2⟩ | ⟨h1, h2, h3, h4, h5⟩
  · exact Or.inl ⟨h1, fun u hu hf => h2 u (key u hu hf) hf⟩
  · exact Or.inr ⟨h1, by omega, h3, fun u hu hf => h4 u (key u hu hf) hf, h5⟩
theorem bestTo_worse {r : Int → Int} {k t b l : Int} (h : bestTo r k t b l) (hb : ¬ b = -2) (hl : l ≤ scoreS r k t) : bestTo r k (t + 1) b l := by
  rcases h with ⟨h1, h2⟩ | ⟨h1, h2, h3, h4, h5⟩
  · exact absurd h1 hb
  · refine Or.inr ⟨h1, by omega, h3, fun u hu hf => ?_, h5⟩
    by_cases e : u = t
    · subst e; exact hl
    · exact h4 u (by omega) hf
theorem bestTo_better {r : Int → Int} {k t b l : Int} (h0 : 0 ≤ rEa r k) (h : bestTo r k t b l) (hf : fitsAt r k t) (hl : b = -2 ∨ scoreS r k t < l) : bestTo r k (t + 1) t (scoreS r k t) := by
  have key : ∀ u : Int, u < t → fitsAt r k u → scoreS r k t < scoreS r k u := by
    intro u hu hu2
    rcases h with ⟨h1, h2⟩ | ⟨h1, h2, h3, h4, h5⟩
    · exact absurd hu2 (h2 u hu)
    · have h6 := h4 u hu hu2
      have h7 := h1.1.1
      have h8 : scoreS r k t < l := by
        rcases hl with hl | hl
        · omega
        · exact hl
      omega
  refine Or.inr ⟨hf, by omega, rfl, fun u hu hu2 => ?_, key⟩
  by_cases e : u = t
  · subst e; exact Int.le_refl _
  · exact Int.le_of_lt (key u (by omega) hu2)
theorem bestTo_end {r : Int → Int} {k t b l : Int} (h : bestTo r k t b l) (ht : rLa r k < t) : isBest r k b := by
  have key : ∀ u : Int, fitsAt r k u → u < t := fun u hu => by have := hu.1.2; omega
  rcases h with ⟨h1, h2⟩ | ⟨h1, h2, h3, h4, h5⟩
  · exact Or.inl ⟨h1, fun u hu => h2 u (key u hu) hu⟩
  · exact Or.inr ⟨h1, fun u hu => by rw [← h3]; exact h4 u (key u hu) hu, fun u hu hf => by rw [← h3]; exact h5 u hu hf⟩
theorem bestTo_bd {r : Int → Int} (h0 : RW r) {k t b l : Int} (hk : 0 ≤ k ∧ k < r 3) (h : bestTo r k t b l) : (-2 ≤ b ∧ b < 48) ∧ (b = -2 ∨ 0 ≤ l ∧ l ≤ 16416) := by
  have h1 := h0.pa2 hk
  have h2 := (h0.pa hk).2.1
  rcases h with ⟨a1, a2⟩ | ⟨a1, a2, a3, a4, a5⟩
  · exact ⟨by omega, Or.inl a1⟩
  · have h3 := scoreS_bd h0 hk a1.1
    have h4 := a1.1.1
    have h5 := a1.1.2
    exact ⟨by omega, Or.inr (by omega)⟩
theorem isBest_uniq {r : Int → Int} {k a b : Int} (h0 : 0 ≤ rEa r k) (ha : isBest r k a) (hb : isBest r k b) : a = b := by
  rcases ha with ⟨a1, a2⟩ | ⟨a1, a2, a3⟩ <;> rcases hb with ⟨b1, b2⟩ | ⟨b1, b2, b3⟩
  · omega
  · exact absurd b1 (a2 b)
  · exact absurd a1 (b2 a)
  · have h1 := a2 b b1
    have h2 := b2 a a1
    rcases Int.lt_trichotomy a b with h | h | h
    · have := b3 a h a1; omega
    · exact h
    · have := a3 b h b1; omega
/-! the pause and slot by which it gets better -/
def cand (r : Int → Int) (k t : Int) : Prop := (0 ≤ k ∧ k < r 3) ∧ ¬ rAt r k = 0 ∧ ¬ t = rAt r k - 1 ∧ fitsAt r k t
def bef (a b c d : Int) : Prop := a < c ∨ a = c ∧ b < d
def betTo (r : Int → Int) (k t b l : Int) : Prop :=
  (b = -2 ∧ l = fallS r ∧ ∀ x u : Int, cand r x u → bef x u k t → l ≤ scoreS r x u) ∨
  ∃ y v : Int, b = 100 * y + v ∧ cand r y v ∧ bef y v k t ∧ l = scoreS r y v ∧ l < fallS r ∧ (∀ x u : Int, cand r x u → bef x u k t → l ≤ scoreS r x u) ∧ ∀ x u : Int, cand r x u → bef x u y v → l < scoreS r x u
def isBetter (r : Int → Int) (b : Int) : Prop :=
  (b = -2 ∧ ∀ x u : Int, cand r x u → fallS r ≤ scoreS r x u) ∨
  ∃ y v : Int, b = 100 * y + v ∧ cand r y v ∧ scoreS r y v < fallS r ∧ (∀ x u : Int, cand r x u → scoreS r y v ≤ scoreS r x u) ∧ ∀ x u : Int, cand r x u → bef x u y v → scoreS r y v < scoreS r x u
theorem betTo_0 {r : Int → Int} : betTo r 0 (rEa r 0) (-2) (fallS r) := Or.inl ⟨rfl, rfl, fun x u h hb => by
  have h1 := h.1
  have h2 := h.2.2.2.1.1
  rcases hb with hb | ⟨rfl, hb⟩ <;> omega⟩
theorem betTo_on {r : Int → Int} {k t k' t' b l : Int} (h : betTo r k t b l) (hm : ∀ x u : Int, bef x u k t → bef x u k' t') (hn : ∀ x u : Int, cand r x u → bef x u k' t' → bef x u k t ∨ l ≤ scoreS r x u) : betTo r k' t' b l := by
  have key : ∀ x u : Int, (∀ x u : Int, cand r x u → bef x u k t → l ≤ scoreS r x u) → cand r x u → bef x u k' t' → l ≤ scoreS r x u := by
    intro x u ha hc hb
    rcases hn x u hc hb with h1 | h1
    · exact ha x u hc h1
    · exact h1
  rcases h with ⟨h1, h2, h3⟩ | ⟨y, v, h1, h2, h3, h4, h5, h6, h7⟩
  · exact Or.inl ⟨h1, h2, fun x u hc hb => key x u h3 hc hb⟩
  · exact Or.inr ⟨y, v, h1, h2, hm _ _ h3, h4, h5, fun x u hc hb => key x u h6 hc hb, h7⟩
theorem betTo_skip {r : Int → Int} {k t b l : Int} (h : betTo r k t b l) (hn : ¬ cand r k t) : betTo r k (t + 1) b l := by
  refine betTo_on h (fun x u hb => ?_) (fun x u hc hb => Or.inl ?_)
  · rcases hb with hb | hb
    · exact Or.inl hb
    · exact Or.inr ⟨hb.1, by omega⟩
  · rcases hb with hb | ⟨rfl, hb⟩
    · exact Or.inl hb
    · by_cases e : u = t
      · subst e; exact absurd hc hn
      · exact Or.inr ⟨rfl, by omega⟩
theorem betTo_worse {r : Int → Int} {k t b l : Int} (h : betTo r k t b l) (hl : l ≤ scoreS r k t) : betTo r k (t + 1) b l := by
  refine betTo_on h (fun x u hb => ?_) (fun x u hc hb => ?_)
  · rcases hb with hb | hb
    · exact Or.inl hb
    · exact Or.inr ⟨hb.1, by omega⟩
  · rcases hb with hb | ⟨rfl, hb⟩
    · exact Or.inl (Or.inl hb)
    · by_cases e : u = t
      · subst e; exact Or.inr hl
      · exact Or.inl (Or.inr ⟨rfl, by omega⟩)
theorem betTo_better {r : Int → Int} {k t b l : Int} (h : betTo r k t b l) (hc : cand r k t) (hl : scoreS r k t < l) : betTo r k (t + 1) (100 * k + t) (scoreS r k t) := by
  have h0 : l ≤ fallS r ∧ ∀ x u : Int, cand r x u → bef x u k t → l ≤ scoreS r x u := by
    rcases h with ⟨h1, h2, h3⟩ | ⟨y, v, h1, h2, h3, h4, h5, h6, h7⟩
    · exact ⟨by omega, h3⟩
    · exact ⟨by omega, h6⟩
  refine Or.inr ⟨k, t, rfl, hc, Or.inr ⟨rfl, by omega⟩, rfl, by omega, fun x u hx hb => ?_, fun x u hx hb => ?_⟩
  · rcases hb with hb | ⟨rfl, hb⟩
    · have := h0.2 x u hx (Or.inl hb); omega
    · by_cases e : u = t
      · subst e; exact Int.le_refl _
      · have := h0.2 x u hx (Or.inr ⟨rfl, by omega⟩); omega
  · have := h0.2 x u hx hb; omega
theorem betTo_next {r : Int → Int} {k t b l : Int} (h : betTo r k t b l) (ht : rEa r k ≤ t) (he : rLa r k < t ∨ rAt r k = 0) : betTo r (k + 1) (rEa r (k + 1)) b l := by
  refine betTo_on h (fun x u hb => ?_) (fun x u hc hb => Or.inl ?_)
  · rcases hb with hb | hb
    · exact Or.inl (by omega)
    · exact Or.inl (by omega)
  · have h1 := hc.2.2.2.1.1
    have h2 := hc.2.2.2.1.2
    rcases hb with hb | ⟨rfl, hb⟩
    · by_cases e : x = k
      · subst e
        rcases he with he | he
        · exact Or.inr ⟨rfl, by omega⟩
        · exact absurd he hc.2.1
      · exact Or.inl (by omega)
    · omega
theorem betTo_end {r : Int → Int} {k t b l : Int} (h : betTo r k t b l) (hk : r 3 ≤ k) : isBetter r b := by
  have key : ∀ x u : Int, cand r x u → bef x u k t := fun x u hc => Or.inl (by have := hc.1; omega)
  rcases h with ⟨h1, h2, h3⟩ | ⟨y, v, h1, h2, h3, h4, h5, h6, h7⟩
  · exact Or.inl ⟨h1, fun x u hc => by rw [← h2]; exact h3 x u hc (key x u hc)⟩
  · exact Or.inr ⟨y, v, h1, h2, by omega, fun x u hc => by rw [← h4]; exact h6 x u hc (key x u hc), fun x u hc hb => by rw [← h4]; exact h7 x u hc hb⟩
theorem cand_bd {r : Int → Int} (h0 : RW r) {k t : Int} (h : cand r k t) : (0 ≤ k ∧ k < 24) ∧ (0 ≤ t ∧ t < 48) := by
  have h1 := h0.pa2 h.1
  have h2 := (h0.pa h.1).2.1
  have h3 := h.2.2.2.1.1
  have h4 := h.2.2.2.1.2
  have h5 := h0.n
  have h6 := h.1
  omega
theorem betTo_bd {r : Int → Int} (h0 : RW r) {k t b l : Int} (h : betTo r k t b l) : (-2 ≤ b ∧ b < 2400) ∧ 0 ≤ l ∧ l ≤ 16416 := by
  have hf := fallS_bd h0
  rcases h with ⟨h1, h2, h3⟩ | ⟨y, v, h1, h2, h3, h4, h5, h6, h7⟩
  · omega
  · have h8 := cand_bd h0 h2
    have h9 := scoreS_bd h0 h2.1 h2.2.2.2.1
    omega
theorem isBetter_uniq {r : Int → Int} (h0 : RW r) {a b : Int} (ha : isBetter r a) (hb : isBetter r b) : a = b := by
  rcases ha with ⟨a1, a2⟩ | ⟨y, v, a1, a2, a3, a4, a5⟩ <;> rcases hb with ⟨b1, b2⟩ | ⟨y', v', b1, b2, b3, b4, b5⟩
  · omega
  · have := a2 _ _ b2; omega
  · have := b2 _ _ a2; omega
  · have h1 := a4 _ _ b2
    have h2 := b4 _ _ a2
    have h3 : ¬ bef y v y' v' := fun q => by have := b5 _ _ a2 q; omega
    have h4 : ¬ bef y' v' y v := fun q => by have := a5 _ _ b2 q; omega
    have h5 : y = y' ∧ v = v' := by
      rcases Int.lt_trichotomy y y' with q | q | q
      · exact absurd (Or.inl q) h3
      · rcases Int.lt_trichotomy v v' with q2 | q2 | q2
        · exact absurd (Or.inr ⟨q, q2⟩) h3
        · exact ⟨q, q2⟩
        · exact absurd (Or.inr ⟨q.symm, q2⟩) h4
      · exact absurd (Or.inl q) h4
    rw [a1, b1, h5.1, h5.2]
noncomputable def placedS (r : Int → Int) : Int := sumI (fun k => oneIf (¬ rAt r k = 0)) (r 3).toNat
