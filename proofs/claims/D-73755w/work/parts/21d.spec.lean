/-! relief: the table of the model -/
set_option maxRecDepth 100000
def hv (g : Int → Int) (p t : Int) : Int := g (49 * p + t)
theorem mxS_far {r : Int → Int} {h : Int → Int → Int} {p t : Int} (hw : 48 < t + r 1) : ∀ n : Nat, mxS r h p t n = hOne r p t + h p (t + 1) := by
  intro n
  induction n with
  | zero => rfl
  | succ n ih => rw [mxS, if_neg (fun q => by omega), ih]
theorem mxS_up {r : Int → Int} {h : Int → Int → Int} {p t v q : Int} (hq : 0 ≤ q) (hv : v = mxS r h p t q.toNat) (c : ¬ q = p ∧ t + r 1 ≤ 48 ∧ v < h q (t + r 1)) : h q (t + r 1) = mxS r h p t (q + 1).toNat := by
  rw [show (q + 1).toNat = q.toNat + 1 by omega, mxS, ← hv, Int.toNat_of_nonneg hq, if_pos c]
theorem mxS_no {r : Int → Int} {h : Int → Int → Int} {p t v q : Int} (hq : 0 ≤ q) (hv : v = mxS r h p t q.toNat) (c : ¬ (¬ q = p ∧ t + r 1 ≤ 48 ∧ v < h q (t + r 1))) : v = mxS r h p t (q + 1).toNat := by
  rw [show (q + 1).toNat = q.toNat + 1 by omega, mxS, ← hv, Int.toNat_of_nonneg hq, if_neg c]
theorem hv_uI_ne (g : Int → Int) {p t q s : Int} (v : Int) (h : ¬ (49 * q + s = 49 * p + t)) : hv (uI g (49 * p + t) v) q s = hv g q s := uI_ne g v h
theorem hv_uI_eq (g : Int → Int) (p t : Int) (v : Int) : hv (uI g (49 * p + t) v) p t = v := uI_eq g _ v
theorem HT_put {r g : Int → Int} {t p v : Int} (hr : RW r) (ht : 0 ≤ t ∧ t < 48) (hp : 0 ≤ p ∧ p < r 0) (a : HTf r (hv g) (t + 1)) (b : ∀ y : Int, 0 ≤ y → y < p → hv g y t = mxS r (hv g) y t (r 0).toNat) (hv0 : v = mxS r (hv g) p t (r 0).toNat) : HTf r (hv (uI g (49 * p + t) v)) (t + 1) ∧ ∀ y : Int, 0 ≤ y → y < p + 1 → hv (uI g (49 * p + t) v) y t = mxS r (hv (uI g (49 * p + t) v)) y t (r 0).toNat := by
  have hn := hr.n
  have e : ∀ q s : Int, 0 ≤ q → q < 3 → t + 1 ≤ s → s ≤ 48 → hv (uI g (49 * p + t) v) q s = hv g q s := fun q s h1 h2 h3 h4 => hv_uI_ne g v (by omega)
  refine ⟨HTf_congr hr (by omega) a e (by omega), fun y h1 h2 => ?_⟩
  have e2 : mxS r (hv (uI g (49 * p + t) v)) y t (r 0).toNat = mxS r (hv g) y t (r 0).toNat := mxS_congr hr ⟨h1, by omega⟩ ht (fun q s h3 h4 h5 h6 => e q s h3 (by omega) (by omega) h6) _ (by omega)
  rw [e2]
  by_cases c : y = p
  · subst c; rw [hv_uI_eq]; exact hv0
  · rw [hv_uI_ne g v (by omega)]; exact b y h1 (by omega)
theorem wayR_mono {r : Int → Int} {h : Int → Int → Int} {slot v : Int} {p t : Int} {n : Nat} (a : wayR r h slot v n p t) : ∃ n, wayR r h slot v n p t := ⟨n, a⟩
