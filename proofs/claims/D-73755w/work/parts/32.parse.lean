/-! READING: rows on the way, shifts -/
set_option maxRecDepth 100000
theorem RS_shift {r : Int → Int} {p a b : Int} (h : RP 10 r) (h8 : r 2 < 8) (hp : 0 ≤ p ∧ p < r 0) (ha : 0 ≤ a ∧ a ≤ b) (hb : b ≤ 47) : RS (shiftA r p a b) := by
  obtain ⟨⟨w1, w2, w3, w4, w5, w6, w7, w8, w9⟩, w10, w11, w12, w13, w14⟩ := h
  have e : ∀ j : Int, j < 148 + 5 * r 2 ∨ 153 + 5 * r 2 ≤ j → shiftA r p a b j = r j := fun j hj => by
    unfold shiftA
    simp (disch := omega) only [uI_ne]
  have eP : shiftA r p a b (148 + 5 * r 2) = p := by unfold shiftA; simp (disch := omega) only [uI_ne, uI_eq]
  have eF : shiftA r p a b (149 + 5 * r 2) = a := by unfold shiftA; simp (disch := omega) only [uI_ne, uI_eq]
  have eT : shiftA r p a b (150 + 5 * r 2) = b := by unfold shiftA; simp (disch := omega) only [uI_ne, uI_eq]
  have eH : shiftA r p a b (151 + 5 * r 2) = 0 := by unfold shiftA; simp (disch := omega) only [uI_ne]; exact w12 _ (by omega) (by omega)
  have eI : shiftA r p a b (152 + 5 * r 2) = r 3 := by unfold shiftA; simp (disch := omega) only [uI_eq]
  unfold RS RWm
  unfold rP rFr rTo rHas rFi rOf rLo rEa rLa rAt rNe at *
  rw [e 0 (by omega), e 1 (by omega), e 2 (by omega), e 3 (by omega)]
  refine ⟨⟨w1, w2, by omega, w4, fun j h1 h2 => ?_, fun q t h1 h2 h3 h4 => ?_, fun s h1 h2 => ?_, fun k h1 h2 => ?_, fun k h1 h2 => ?_⟩, ?_, fun j h1 h2 => ?_, fun j h1 h2 => ?_, fun k h1 h2 => ?_, ?_, w3.1⟩
  · rw [e _ (by omega)]; exact w5 j h1 h2
  · rw [e _ (by omega)]; exact w6 q t h1 h2 h3 h4
  · by_cases c : s = r 2
    · subst c
      rw [eP, eF, eT, eH, eI]
      exact ⟨hp, by omega, by omega, by omega, fun k h3 h4 => by omega⟩
    · have w := w7 s h1 (by omega)
      simp (disch := omega) only [e]
      refine ⟨w.1, w.2.1, w.2.2.1, w.2.2.2.1, fun k h3 h4 => ?_⟩
      rw [e _ (by omega)]
      exact w.2.2.2.2 k h3 h4
  · have w := w8 k h1 h2
    rw [e (188 + 5 * k) (by omega)]
    simp (disch := omega) only [e]
    exact ⟨by omega, w.2.1, w.2.2.1, w.2.2.2⟩
  · rw [e _ (by omega)]; exact w9 k h1 h2
  · rw [eH]; omega
  · rw [e _ (by omega)]; exact w12 j (by omega) h2
  · rw [e _ (by omega)]; exact w13 j h1 h2
  · rw [e _ (by omega)]; exact w14 k h1 h2
  · rw [eH, eI]; omega
theorem RS_pause {r : Int → Int} {m a b : Int} (h : RS r) (h3 : rHas r (r 2) < 3) (hm : 1 ≤ m ∧ m ≤ 4) (ha : rFr r (r 2) ≤ a ∧ a ≤ b) (hb : b ≤ rTo r (r 2) - m + 1) : RS (pauseA r (r 2) m a b) := by
  obtain ⟨⟨w1, w2, w3, w4, w5, w6, w7, w8, w9⟩, w10, w11, w12, w13, w14, w15⟩ := h
  have hx := w7 (r 2) w15 (by omega)
  have e : ∀ j : Int, (j < 188 + 5 * r 3 ∨ 192 + 5 * r 3 ≤ j) → ¬ j = 151 + 5 * r 2 → ¬ j = 3 → pauseA r (r 2) m a b j = r j := fun j hj h1 h2 => by
    unfold pauseA
    simp (disch := omega) only [uI_ne]
  have e3 : pauseA r (r 2) m a b 3 = r 3 + 1 := by unfold pauseA; simp (disch := omega) only [uI_eq]
  have eO : pauseA r (r 2) m a b (188 + 5 * r 3) = r 2 := by unfold pauseA; simp (disch := omega) only [uI_ne, uI_eq]
  have eL : pauseA r (r 2) m a b (189 + 5 * r 3) = m := by unfold pauseA; simp (disch := omega) only [uI_ne, uI_eq]
  have eE : pauseA r (r 2) m a b (190 + 5 * r 3) = a := by unfold pauseA; simp (disch := omega) only [uI_ne, uI_eq]
  have eA : pauseA r (r 2) m a b (191 + 5 * r 3) = b := by unfold pauseA; simp (disch := omega) only [uI_ne, uI_eq]
  have eH : pauseA r (r 2) m a b (151 + 5 * r 2) = rHas r (r 2) + 1 := by unfold pauseA; simp (disch := omega) only [uI_ne, uI_eq]
  unfold RS RWm
  unfold rP rFr rTo rHas rFi rOf rLo rEa rLa rAt rNe at *
  rw [e 0 (by omega) (by omega) (by omega), e 1 (by omega) (by omega) (by omega), e 2 (by omega) (by omega) (by omega), e3]
  refine ⟨⟨w1, w2, by omega, by omega, fun j h1 h2 => ?_, fun q t h1 h2 h3 h4 => ?_, fun s h1 h2 => ?_, fun k h1 h2 => ?_, fun k h1 h2 => ?_⟩, ?_, fun j h1 h2 => ?_, fun j h1 h2 => ?_, fun k h1 h2 => ?_, ?_, w15⟩
  · rw [e _ (by omega) (by omega) (by omega)]; exact w5 j h1 h2
  · rw [e _ (by omega) (by omega) (by omega)]; exact w6 q t h1 h2 h3 h4
  · have w := w7 s h1 h2
    by_cases c : s = r 2
    · subst c
      rw [eH]
      simp (disch := omega) only [e]
      refine ⟨w.1, w.2.1, by omega, by omega, fun k h5 h6 => ?_⟩
      by_cases c : k = r 3
      · subst c; rw [eO]
      · rw [e _ (by omega) (by omega) (by omega)]
        exact w.2.2.2.2 k h5 (by omega)
    · simp (disch := omega) only [e]
      refine ⟨w.1, w.2.1, w.2.2.1, by omega, fun k h5 h6 => ?_⟩
      rw [e _ (by omega) (by omega) (by omega)]
      exact w.2.2.2.2 k h5 h6
  · by_cases c : k = r 3
    · subst c
      rw [eO, eL, eE, eA, e _ (by omega) (by omega) (by omega), e _ (by omega) (by omega) (by omega), e _ (by omega) (by omega) (by omega)]
      exact ⟨by omega, hm, by omega, Or.inl (w13 _ w4.1 (by omega))⟩
    · have w := w8 k h1 (by omega)
      rw [e (188 + 5 * k) (by omega) (by omega) (by omega)]
      simp (disch := omega) only [e]
      exact w
  · rw [e _ (by omega) (by omega) (by omega)]; exact w9 k (by omega) h2
  · rw [eH]; omega
  · rw [e _ (by omega) (by omega) (by omega)]; exact w11 j h1 h2
  · rw [e _ (by omega) (by omega) (by omega)]; exact w12 j (by omega) h2
  · rw [e _ (by omega) (by omega) (by omega)]; exact w13 k h1 h2
  · rw [eH, e _ (by omega) (by omega) (by omega)]; omega
theorem RS_end {r : Int → Int} (h : RS r) (hh : rHas r (r 2) ≤ 3) : RP 10 (uI r 2 (r 2 + 1)) := by
  obtain ⟨⟨w1, w2, w3, w4, w5, w6, w7, w8, w9⟩, w10, w11, w12, w13, w14, w15⟩ := h
  have e : ∀ j : Int, ¬ j = 2 → uI r 2 (r 2 + 1) j = r j := fun j hj => uI_ne r _ hj
  have e2 : uI r 2 (r 2 + 1) 2 = r 2 + 1 := uI_eq r _ _
  unfold RP RWm
  unfold rP rFr rTo rHas rFi rOf rLo rEa rLa rAt rNe at *
  rw [e 0 (by omega), e 1 (by omega), e2, e 3 (by omega)]
  refine ⟨⟨w1, w2, by omega, w4, fun j h1 h2 => ?_, fun q t h1 h2 h3 h4 => ?_, fun s h1 h2 => ?_, fun k h1 h2 => ?_, fun k h1 h2 => ?_⟩, fun j h1 h2 => ?_, by omega, fun j h1 h2 => ?_, fun j h1 h2 => ?_, fun k h1 h2 => ?_⟩
  · rw [e _ (by omega)]; exact w5 j h1 h2
  · rw [e _ (by omega)]; exact w6 q t h1 h2 h3 h4
  · have w := w7 s h1 h2
    simp (disch := omega) only [e]
    refine ⟨w.1, w.2.1, w.2.2.1, w.2.2.2.1, fun k h3 h4 => w.2.2.2.2 k h3 h4⟩
  · have w := w8 k h1 h2
    rw [e (188 + 5 * k) (by omega)]
    simp (disch := omega) only [e]
    exact w
  · rw [e _ (by omega)]; exact w9 k h1 h2
  · rw [e _ (by omega)]; have := w5 j h1 h2; omega
  · rw [e _ (by omega)]; exact w11 j h1 h2
  · rw [e _ (by omega)]; exact w12 j h1 h2
  · rw [e _ (by omega)]; exact w13 k h1 h2
theorem RP.mono {c d : Int} {r : Int → Int} (h : RP c r) (hd : c ≤ d) : RP d r := ⟨h.1, fun j h1 h2 => by have := h.2.1 j h1 h2; omega, h.2.2⟩
