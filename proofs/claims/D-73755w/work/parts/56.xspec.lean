/-! x: relief's table; slots, worst -/
set_option maxRecDepth 100000
def hx (g : Int → Int) (p t : Int) : Int := g (3 * t + p)
def m48 (t : Int) : Int := if t < 48 then t else 48
theorem m48_le {t : Int} (h : t ≤ 48) : m48 t = t := by unfold m48; split <;> omega
theorem hx_uI_ne (g : Int → Int) {p t q s : Int} (v : Int) (h : ¬ (3 * s + q = 3 * t + p)) : hx (uI g (3 * t + p) v) q s = hx g q s := uI_ne g v h
theorem hx_uI_eq (g : Int → Int) (p t : Int) (v : Int) : hx (uI g (3 * t + p) v) p t = v := uI_eq g _ v
theorem HT_putx {r g : Int → Int} {t p v : Int} (hr : RW r) (ht : 0 ≤ t ∧ t < 48) (hp : 0 ≤ p ∧ p < r 0) (a : HTf r (hx g) (t + 1)) (b : ∀ y : Int, 0 ≤ y → y < p → hx g y t = mxS r (hx g) y t (r 0).toNat) (hv0 : v = mxS r (hx g) p t (r 0).toNat) : HTf r (hx (uI g (3 * t + p) v)) (t + 1) ∧ ∀ y : Int, 0 ≤ y → y < p + 1 → hx (uI g (3 * t + p) v) y t = mxS r (hx (uI g (3 * t + p) v)) y t (r 0).toNat := by
  have hn := hr.n
  have e : ∀ q s : Int, 0 ≤ q → q < 3 → t + 1 ≤ s → s ≤ 48 → hx (uI g (3 * t + p) v) q s = hx g q s := fun q s h1 h2 h3 h4 => hx_uI_ne g v (by omega)
  refine ⟨HTf_congr hr (by omega) a e (by omega), fun y h1 h2 => ?_⟩
  have e2 : mxS r (hx (uI g (3 * t + p) v)) y t (r 0).toNat = mxS r (hx g) y t (r 0).toNat := mxS_congr hr ⟨h1, by omega⟩ ht (fun q s h3 h4 h5 h6 => e q s h3 (by omega) (by omega) h6) _ (by omega)
  rw [e2]
  by_cases c : y = p
  · subst c; rw [hx_uI_eq]; exact hv0
  · rw [hx_uI_ne g v (by omega)]; exact b y h1 (by omega)
theorem mxS_upx {r g : Int → Int} {p t v q : Int} (hr : RW r) (ht : 0 ≤ t ∧ t < 48) (hp : 0 ≤ p ∧ p < r 0) (hq : 0 ≤ q ∧ q < r 0) (a : HTf r (hx g) (t + 1)) (hv : v = mxS r (hx g) p t q.toNat) (c : ¬ q = p) : (if v < hx g q (m48 (t + r 1)) then hx g q (m48 (t + r 1)) else v) = mxS r (hx g) p t (q + 1).toNat := by
  have hn := hr.n
  by_cases w : t + r 1 ≤ 48
  · rw [m48_le w]
    by_cases d : v < hx g q (t + r 1)
    · rw [if_pos d]; exact mxS_up hq.1 hv ⟨c, w, d⟩
    · rw [if_neg d]; exact mxS_no hq.1 hv (fun z => d z.2.2)
  · have e : m48 (t + r 1) = 48 := by unfold m48; rw [if_neg (by omega)]
    have z : hx g q 48 = 0 := a.1 q hq.1 (by omega)
    have h3 := mxS_bd hr ht a hp q.toNat (by omega)
    rw [← hv] at h3
    rw [e, z, if_neg (by omega)]
    exact mxS_no hq.1 hv (fun z => w z.2.1)
theorem cov_at {r : Int → Int} {p t : Int} (ht : 0 ≤ t ∧ t < 48) : covF r (48 * p + t) = coverS r p t := by
  unfold covF
  rw [show (48 * p + t) / 48 = p by omega, show (48 * p + t) % 48 = t by omega]
theorem ne_at (r : Int → Int) (p t : Int) : r (4 + (48 * p + t)) = rNe r p t := by
  unfold rNe
  congr 1
  omega
