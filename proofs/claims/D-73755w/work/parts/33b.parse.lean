/-! READING: steps of the loops -/
set_option maxRecDepth 100000
theorem needA_0 (r : Int → Int) (p a m : Int) : r = needA r p a (a - 1) m := by
  funext j
  unfold needA
  rw [if_neg (by omega)]
theorem needA_s {r : Int → Int} {p a z m v : Int} (hz : a ≤ z) (hv : v = m) : uI (needA r p a (z - 1) m) (4 + 48 * p + z) (needA r p a (z - 1) m (4 + 48 * p + z) + v) = needA r p a (z + 1 - 1) m := by
  subst hv
  funext j
  unfold uI
  by_cases c : j = 4 + 48 * p + z
  · subst c
    rw [if_pos rfl]
    unfold needA
    rw [if_neg (by omega), if_pos (by omega)]
  · rw [if_neg c]
    unfold needA
    by_cases c2 : 4 + 48 * p + a ≤ j ∧ j ≤ 4 + 48 * p + (z - 1)
    · rw [if_pos c2, if_pos (by omega)]
    · rw [if_neg c2, if_neg (by omega)]
theorem needA_bd {r : Int → Int} {c p a b m : Int} (h : RP c r) (hm : 0 ≤ m ∧ m ≤ 9) {j : Int} (hj : 4 ≤ j ∧ j < 148) : 0 ≤ needA r p a b m j ∧ needA r p a b m j ≤ 9 * c + 9 := by
  have h1 := h.1.2.2.2.2.1 j hj.1 hj.2
  have h2 := h.2.1 j hj.1 hj.2
  unfold needA
  split <;> omega
theorem RS_bd {r : Int → Int} (h : RS r) : (0 ≤ r 2 ∧ r 2 < 8) ∧ (0 ≤ r 3 ∧ r 3 ≤ 24) ∧ r 3 ≤ 3 * r 2 + rHas r (r 2) ∧ (0 ≤ rHas r (r 2) ∧ rHas r (r 2) ≤ 3) ∧ (0 ≤ rFr r (r 2) ∧ rFr r (r 2) ≤ rTo r (r 2) ∧ rTo r (r 2) ≤ 47) := by
  obtain ⟨⟨w1, w2, w3, w4, w5, w6, w7, w8, w9⟩, w10, w11, w12, w13, w14, w15⟩ := h
  have w := w7 (r 2) w15 (by omega)
  exact ⟨⟨w15, by omega⟩, w4, w10, w.2.2.1, w.2.1⟩
theorem pauseA_eq (r : Int → Int) (s m a b : Int) : uI (uI (uI (uI (uI (uI r (188 + 5 * r 3 + 1) m) (188 + 5 * r 3 + 2) a) (188 + 5 * r 3 + 3) b) (188 + 5 * r 3 + 0) s) (148 + 5 * s + 3) (rHas r s + 1)) 3 (r 3 + 1) = pauseA r s m a b := by
  unfold pauseA
  rw [show (188 + 5 * r 3 + 1 : Int) = 189 + 5 * r 3 by omega, show (188 + 5 * r 3 + 2 : Int) = 190 + 5 * r 3 by omega, show (188 + 5 * r 3 + 3 : Int) = 191 + 5 * r 3 by omega, show (188 + 5 * r 3 + 0 : Int) = 188 + 5 * r 3 by omega, show (148 + 5 * s + 3 : Int) = 151 + 5 * s by omega]
theorem shiftA_eq (r : Int → Int) (p a b : Int) : uI (uI (uI (uI r (148 + 5 * r 2 + 0) p) (148 + 5 * r 2 + 1) a) (148 + 5 * r 2 + 2) b) (148 + 5 * r 2 + 4) (r 3) = shiftA r p a b := by
  unfold shiftA
  rw [show (148 + 5 * r 2 + 0 : Int) = 148 + 5 * r 2 by omega, show (148 + 5 * r 2 + 1 : Int) = 149 + 5 * r 2 by omega, show (148 + 5 * r 2 + 2 : Int) = 150 + 5 * r 2 by omega, show (148 + 5 * r 2 + 4 : Int) = 152 + 5 * r 2 by omega]
theorem pauseA_2 (r : Int → Int) {s m a b : Int} (h3 : 0 ≤ r 3) (hs : 0 ≤ s) : pauseA r s m a b 2 = r 2 := by unfold pauseA; simp (disch := omega) only [uI_ne]
theorem pauseA_Has (r : Int → Int) {s m a b : Int} (h3 : 0 ≤ r 3) (hs : 0 ≤ s ∧ s < 8) : rHas (pauseA r s m a b) s = rHas r s + 1 := by
  have e : ∀ v : Int, uI (uI (uI (uI (uI (uI r (189 + 5 * r 3) m) (190 + 5 * r 3) a) (191 + 5 * r 3) b) (188 + 5 * r 3) s) (151 + 5 * s) v) 3 (r 3 + 1) (151 + 5 * s) = v := fun v => by simp (disch := omega) only [uI_ne, uI_eq]
  exact e _
theorem shiftA_2 (r : Int → Int) {p a b : Int} (h : 0 ≤ r 2) : shiftA r p a b 2 = r 2 := by unfold shiftA; simp (disch := omega) only [uI_ne]
theorem pausesK_out {T : Int → Int} {n s : Int} {k : Nat} {tk : Tk} {r : Int → Int} (h : ¬ isW T tk wPause) (K : Tk → (Int → Int) → PR) : pausesK T n s k tk r K = K tk r := by
  cases k <;> exact iteP_0 h _ _
theorem pausesK_in {T : Int → Int} {n s h : Int} {tk : Tk} {r : Int → Int} (hw : isW T tk wPause) (h3 : h < 3) (K : Tk → (Int → Int) → PR) : pausesK T n s (3 - h).toNat tk r K = pauseK T n tk r s (fun t' r' => pausesK T n s (3 - (h + 1)).toNat t' r' K) := by
  rw [show (3 - h).toNat = (3 - (h + 1)).toNat + 1 by omega]
  exact iteP_1 hw _ _
theorem pausesK_full {T : Int → Int} {n s h : Int} {tk : Tk} {r : Int → Int} (hw : isW T tk wPause) (h3 : h = 3) (K : Tk → (Int → Int) → PR) : pausesK T n s (3 - h).toNat tk r K = .error (3, tk.f) := by
  rw [show (3 - h).toNat = 0 by omega]
  exact iteP_1 hw _ _
theorem needsK_out {T : Int → Int} {n : Int} {k : Nat} {tk : Tk} {r : Int → Int} {l : Int} (h : ¬ isW T tk wNeed) (K : Tk → (Int → Int) → Int → PR) : needsK T n k tk r l K = K tk r l := by
  cases k <;> exact iteP_0 h _ _
theorem needsK_in {T : Int → Int} {n h : Int} {tk : Tk} {r : Int → Int} {l : Int} (hw : isW T tk wNeed) (h3 : h < 10) (K : Tk → (Int → Int) → Int → PR) : needsK T n (10 - h).toNat tk r l K = needK T n tk r (fun t' r' => needsK T n (10 - (h + 1)).toNat t' r' (l + 1) K) := by
  rw [show (10 - h).toNat = (10 - (h + 1)).toNat + 1 by omega]
  exact iteP_1 hw _ _
theorem needsK_full {T : Int → Int} {n h : Int} {tk : Tk} {r : Int → Int} {l : Int} (hw : isW T tk wNeed) (h3 : h = 10) (K : Tk → (Int → Int) → Int → PR) : needsK T n (10 - h).toNat tk r l K = .error (3, tk.f) := by
  rw [show (10 - h).toNat = 0 by omega]
  exact iteP_1 hw _ _
theorem shiftsK_out {T : Int → Int} {n : Int} {k : Nat} {tk : Tk} {r : Int → Int} {l : Int} (h : ¬ isW T tk wShift) (K : Tk → (Int → Int) → Int → PR) : shiftsK T n k tk r l K = K tk r l := by
  cases k <;> exact iteP_0 h _ _
theorem shiftsK_in {T : Int → Int} {n h : Int} {tk : Tk} {r : Int → Int} {l : Int} (hw : isW T tk wShift) (h3 : h < 8) (K : Tk → (Int → Int) → Int → PR) : shiftsK T n (8 - h).toNat tk r l K = shiftK T n tk r (fun t' r' => shiftsK T n (8 - (h + 1)).toNat t' r' (l + 1) K) := by
  rw [show (8 - h).toNat = (8 - (h + 1)).toNat + 1 by omega]
  exact iteP_1 hw _ _
theorem shiftsK_full {T : Int → Int} {n h : Int} {tk : Tk} {r : Int → Int} {l : Int} (hw : isW T tk wShift) (h3 : h = 8) (K : Tk → (Int → Int) → Int → PR) : shiftsK T n (8 - h).toNat tk r l K = .error (3, tk.f) := by
  rw [show (8 - h).toNat = 0 by omega]
  exact iteP_1 hw _ _
/-- reading's first line done, the rest to come -/
noncomputable def restF (T : Int → Int) (n : Int) (tk : Tk) (r : Int → Int) : PR := postsK T n tk r fun t1 r1 => needsK T n 10 t1 r1 1 fun t2 r2 l2 => shiftsK T n 8 t2 r2 l2 stopK
