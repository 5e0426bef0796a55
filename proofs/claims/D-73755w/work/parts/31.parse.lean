/-! READING, without machine: what a text says -/
set_option maxRecDepth 100000
abbrev PR := Except (Int × Int) ((Int → Int) × Int)
noncomputable def iteP {α : Type} (P : Prop) (x y : α) : α := by
  classical
  exact if P then x else y
theorem iteP_1 {α : Type} {P : Prop} (h : P) (x y : α) : iteP P x y = x := by simp [iteP, h]
theorem iteP_0 {α : Type} {P : Prop} (h : ¬ P) (x y : α) : iteP P x y = y := by simp [iteP, h]
noncomputable def numK (T : Int → Int) (n lo hi : Int) (tk : Tk) (K : Int → Tk → PR) : PR := if tk.s = 3 then (if lo ≤ tk.v ∧ tk.v ≤ hi then K tk.v (tokF T n tk.e) else .error (2, tk.f)) else .error (1, tk.f)
noncomputable def endK (T : Int → Int) (n : Int) (tk : Tk) (K : Tk → PR) : PR := if tk.s = 4 then K (tokF T n tk.e) else .error (1, tk.f)
theorem numK_1 {T : Int → Int} {n lo hi : Int} {tk : Tk} (h : ¬ tk.s = 3) (K : Int → Tk → PR) : numK T n lo hi tk K = .error (1, tk.f) := if_neg h
theorem numK_2 {T : Int → Int} {n lo hi : Int} {tk : Tk} (h : tk.s = 3) (h2 : ¬ (lo ≤ tk.v ∧ tk.v ≤ hi)) (K : Int → Tk → PR) : numK T n lo hi tk K = .error (2, tk.f) := by unfold numK; rw [if_pos h, if_neg h2]
theorem numK_0 {T : Int → Int} {n lo hi : Int} {tk : Tk} (h : tk.s = 3) (h2 : lo ≤ tk.v ∧ tk.v ≤ hi) (K : Int → Tk → PR) : numK T n lo hi tk K = K tk.v (tokF T n tk.e) := by unfold numK; rw [if_pos h, if_pos h2]
theorem endK_1 {T : Int → Int} {n : Int} {tk : Tk} (h : ¬ tk.s = 4) (K : Tk → PR) : endK T n tk K = .error (1, tk.f) := if_neg h
theorem endK_0 {T : Int → Int} {n : Int} {tk : Tk} (h : tk.s = 4) (K : Tk → PR) : endK T n tk K = K (tokF T n tk.e) := if_pos h
def needA (r : Int → Int) (p a b m : Int) : Int → Int := fun j => if 4 + 48 * p + a ≤ j ∧ j ≤ 4 + 48 * p + b then r j + m else r j
noncomputable def needK (T : Int → Int) (n : Int) (tk : Tk) (r : Int → Int) (K : Tk → (Int → Int) → PR) : PR :=
  numK T n 0 (r 0 - 1) (tokF T n tk.e) fun p t1 => numK T n 0 47 t1 fun a t2 => numK T n a 47 t2 fun b t3 => numK T n 0 9 t3 fun m t4 => endK T n t4 fun t5 => K t5 (needA r p a b m)
def wNeed : List Int := [110, 101, 101, 100]
def wPosts : List Int := [112, 111, 115, 116, 115]
def wShift : List Int := [115, 104, 105, 102, 116]
def wPause : List Int := [112, 97, 117, 115, 101]
noncomputable def needsK (T : Int → Int) (n : Int) : Nat → Tk → (Int → Int) → Int → (Tk → (Int → Int) → Int → PR) → PR
  | 0, tk, r, l, K => iteP (isW T tk wNeed) (.error (3, tk.f)) (K tk r l)
  | k + 1, tk, r, l, K => iteP (isW T tk wNeed) (needK T n tk r (fun t' r' => needsK T n k t' r' (l + 1) K)) (K tk r l)
def pauseA (r : Int → Int) (s m a b : Int) : Int → Int := uI (uI (uI (uI (uI (uI r (189 + 5 * r 3) m) (190 + 5 * r 3) a) (191 + 5 * r 3) b) (188 + 5 * r 3) s) (151 + 5 * s) (rHas r s + 1)) 3 (r 3 + 1)
noncomputable def pauseK (T : Int → Int) (n : Int) (tk : Tk) (r : Int → Int) (s : Int) (K : Tk → (Int → Int) → PR) : PR :=
  numK T n 1 4 (tokF T n tk.e) fun m t1 => numK T n (rFr r s) (rTo r s) t1 fun a t2 => numK T n a (rTo r s - m + 1) t2 fun b t3 => K t3 (pauseA r s m a b)
noncomputable def pausesK (T : Int → Int) (n s : Int) : Nat → Tk → (Int → Int) → (Tk → (Int → Int) → PR) → PR
  | 0, tk, r, K => iteP (isW T tk wPause) (.error (3, tk.f)) (K tk r)
  | k + 1, tk, r, K => iteP (isW T tk wPause) (pauseK T n tk r s (fun t' r' => pausesK T n s k t' r' K)) (K tk r)
def shiftA (r : Int → Int) (p a b : Int) : Int → Int := uI (uI (uI (uI r (148 + 5 * r 2) p) (149 + 5 * r 2) a) (150 + 5 * r 2) b) (152 + 5 * r 2) (r 3)
noncomputable def shiftK (T : Int → Int) (n : Int) (tk : Tk) (r : Int → Int) (K : Tk → (Int → Int) → PR) : PR :=
  numK T n 0 (r 0 - 1) (tokF T n tk.e) fun p t1 => numK T n 0 47 t1 fun a t2 => numK T n a 47 t2 fun b t3 => pausesK T n (r 2) 3 t3 (shiftA r p a b) fun t4 r4 => endK T n t4 fun t5 => K t5 (uI r4 2 (r4 2 + 1))
noncomputable def shiftsK (T : Int → Int) (n : Int) : Nat → Tk → (Int → Int) → Int → (Tk → (Int → Int) → Int → PR) → PR
  | 0, tk, r, l, K => iteP (isW T tk wShift) (.error (3, tk.f)) (K tk r l)
  | k + 1, tk, r, l, K => iteP (isW T tk wShift) (shiftK T n tk r (fun t' r' => shiftsK T n k t' r' (l + 1) K)) (K tk r l)
noncomputable def postsK (T : Int → Int) (n : Int) (tk : Tk) (r : Int → Int) (K : Tk → (Int → Int) → PR) : PR :=
  iteP (isW T tk wPosts) (numK T n 1 3 (tokF T n tk.e) fun p t1 => numK T n 1 4 t1 fun w t2 => endK T n t2 fun t3 => K t3 (uI (uI r 0 p) 1 w)) (.error (1, tk.f))
noncomputable def stopK (t : Tk) (r : Int → Int) (l : Int) : PR := if t.s = 0 then .ok (r, l) else .error (1, t.f)
noncomputable def textF (T : Int → Int) (n : Int) : PR := postsK T n (tokF T n 0) (fun _ => 0) fun t1 r1 => needsK T n 10 t1 r1 1 fun t2 r2 l2 => shiftsK T n 8 t2 r2 l2 stopK
/-! the rows on the way -/
def RWm (m : Int) (r : Int → Int) : Prop :=
  (1 ≤ r 0 ∧ r 0 ≤ 3) ∧ (1 ≤ r 1 ∧ r 1 ≤ 4) ∧ (0 ≤ m ∧ m ≤ 8) ∧ (0 ≤ r 3 ∧ r 3 ≤ 24) ∧
  (∀ j : Int, 4 ≤ j → j < 148 → 0 ≤ r j ∧ r j ≤ 90) ∧
  (∀ p t : Int, r 0 ≤ p → p < 3 → 0 ≤ t → t < 48 → rNe r p t = 0) ∧
  (∀ s : Int, 0 ≤ s → s < m → (0 ≤ rP r s ∧ rP r s < r 0) ∧ (0 ≤ rFr r s ∧ rFr r s ≤ rTo r s ∧ rTo r s ≤ 47) ∧ (0 ≤ rHas r s ∧ rHas r s ≤ 3) ∧ (0 ≤ rFi r s ∧ rFi r s + rHas r s ≤ r 3) ∧ ∀ k : Int, rFi r s ≤ k → k < rFi r s + rHas r s → rOf r k = s) ∧
  (∀ k : Int, 0 ≤ k → k < r 3 → (0 ≤ rOf r k ∧ rOf r k < m) ∧ (1 ≤ rLo r k ∧ rLo r k ≤ 4) ∧ (rFr r (rOf r k) ≤ rEa r k ∧ rEa r k ≤ rLa r k ∧ rLa r k + rLo r k ≤ rTo r (rOf r k) + 1) ∧ (rAt r k = 0 ∨ rEa r k < rAt r k ∧ rAt r k ≤ rLa r k + 1)) ∧
  (∀ k : Int, r 3 ≤ k → k < 24 → rAt r k = 0)
/-- between lines, c lines of needs read -/
def RP (c : Int) (r : Int → Int) : Prop := RWm (r 2) r ∧ (∀ j : Int, 4 ≤ j → j < 148 → r j ≤ 9 * c) ∧ r 3 ≤ 3 * r 2 ∧ (∀ j : Int, 148 + 5 * r 2 ≤ j → j < 188 → r j = 0) ∧ (∀ j : Int, 188 + 5 * r 3 ≤ j → j < 308 → r j = 0) ∧ (∀ k : Int, 0 ≤ k → k < 24 → rAt r k = 0)
/-- amid the line of the shift r 2 -/
def RS (r : Int → Int) : Prop := RWm (r 2 + 1) r ∧ r 3 ≤ 3 * r 2 + rHas r (r 2) ∧ (∀ j : Int, 148 + 5 * (r 2 + 1) ≤ j → j < 188 → r j = 0) ∧ (∀ j : Int, 188 + 5 * r 3 ≤ j → j < 308 → r j = 0) ∧ (∀ k : Int, 0 ≤ k → k < 24 → rAt r k = 0) ∧ rFi r (r 2) + rHas r (r 2) = r 3 ∧ 0 ≤ r 2
theorem RP.rw {c : Int} {r : Int → Int} (h : RP c r) : RW r := h.1
theorem RP_0 {r : Int → Int} {p w : Int} (hr : r = fun _ => 0) (hp : 1 ≤ p ∧ p ≤ 3) (hw : 1 ≤ w ∧ w ≤ 4) : RP 0 (uI (uI r 0 p) 1 w) := by
  subst hr
  unfold RP RWm rP rFr rTo rHas rFi rOf rLo rEa rLa rAt rNe
  simp (disch := omega) only [uI_ne, uI_eq]
  refine ⟨⟨hp, hw, by omega, by omega, ?_, ?_, ?_, ?_, ?_⟩, ?_, by omega, ?_, ?_, ?_⟩
  · intro j h1 h2; simp (disch := omega) only [uI_ne]; omega
  · intro p t h1 h2 h3 h4; simp (disch := omega) only [uI_ne]
  · intro s h1 h2; omega
  · intro s h1 h2; omega
  · intro s h1 h2; simp (disch := omega) only [uI_ne]
  · intro j h1 h2; simp (disch := omega) only [uI_ne]; omega
  · intro j h1 h2; simp (disch := omega) only [uI_ne]
  · intro j h1 h2; simp (disch := omega) only [uI_ne]
  · intro j h1 h2; simp (disch := omega) only [uI_ne]
theorem needA_hi (r : Int → Int) {p a b m : Int} (hp : 0 ≤ p ∧ p < 3) (ha : 0 ≤ a) (hb : b ≤ 47) {j : Int} (h : j < 4 ∨ 148 ≤ j) : needA r p a b m j = r j := by
  unfold needA
  rw [if_neg (by omega)]
theorem RP_need {r : Int → Int} {c p a b m : Int} (h : RP c r) (hc : 0 ≤ c ∧ c < 10) (hp : 0 ≤ p ∧ p < r 0) (ha : 0 ≤ a) (hb : b ≤ 47) (hm : 0 ≤ m ∧ m ≤ 9) : RP (c + 1) (needA r p a b m) := by
  obtain ⟨⟨w1, w2, w3, w4, w5, w6, w7, w8, w9⟩, w10, w11, w12, w13, w14⟩ := h
  have e : ∀ j : Int, j < 4 ∨ 148 ≤ j → needA r p a b m j = r j := fun j hj => needA_hi r (by omega) ha hb hj
  have n1 : ∀ j : Int, 4 ≤ j → j < 148 → 0 ≤ needA r p a b m j ∧ needA r p a b m j ≤ 9 * (c + 1) := fun j h1 h2 => by
    have := w5 j h1 h2
    have := w10 j h1 h2
    unfold needA
    split <;> omega
  unfold RP RWm
  unfold rP rFr rTo rHas rFi rOf rLo rEa rLa rAt rNe at *
  simp only [e 0 (by omega), e 1 (by omega), e 2 (by omega), e 3 (by omega)]
  refine ⟨⟨w1, w2, w3, w4, fun j h1 h2 => ?_, fun q t h1 h2 h3 h4 => ?_, fun s h1 h2 => ?_, fun k h1 h2 => ?_, fun k h1 h2 => ?_⟩, fun j h1 h2 => (n1 j h1 h2).2, w11, fun j h1 h2 => ?_, fun j h1 h2 => ?_, fun k h1 h2 => ?_⟩
  · have := n1 j h1 h2; omega
  · have := w6 q t h1 h2 h3 h4
    unfold needA
    rw [if_neg (by omega)]
    exact this
  · have w := w7 s h1 h2
    simp (disch := omega) only [e]
    refine ⟨w.1, w.2.1, w.2.2.1, w.2.2.2.1, fun k h3 h4 => ?_⟩
    rw [e _ (by omega)]
    exact w.2.2.2.2 k h3 h4
  · have w := w8 k h1 h2
    rw [e (188 + 5 * k) (by omega)]
    simp (disch := omega) only [e]
    exact w
  · rw [e _ (by omega)]; exact w9 k h1 h2
  · rw [e _ (by omega)]; exact w12 j h1 h2
  · rw [e _ (by omega)]; exact w13 j h1 h2
  · rw [e _ (by omega)]; exact w14 k h1 h2
