/-! relief -/
set_option maxRecDepth 100000
noncomputable def hOne (r : Int → Int) (p t : Int) : Int := oneIf (0 < shortS r p t)
noncomputable def mxS (r : Int → Int) (h : Int → Int → Int) (p t : Int) : Nat → Int
  | 0 => hOne r p t + h p (t + 1)
  | n + 1 => if ¬ (n : Int) = p ∧ t + r 1 ≤ 48 ∧ mxS r h p t n < h n (t + r 1) then h n (t + r 1) else mxS r h p t n
/-- h is right from the slot t0 on -/
def HTf (r : Int → Int) (h : Int → Int → Int) (t0 : Int) : Prop := (∀ p : Int, 0 ≤ p → p < 3 → h p 48 = 0) ∧ ∀ t p : Int, t0 ≤ t → t < 48 → 0 ≤ p → p < r 0 → h p t = mxS r h p t (r 0).toNat
def HT (r : Int → Int) (h : Int → Int → Int) : Prop := HTf r h 0
theorem mxS_congr {r : Int → Int} {h h' : Int → Int → Int} {p t : Int} (hr : RW r) (hp : 0 ≤ p ∧ p < r 0) (ht : 0 ≤ t ∧ t < 48) (he : ∀ q s : Int, 0 ≤ q → q < r 0 → t < s → s ≤ 48 → h q s = h' q s) : ∀ n : Nat, (n : Int) ≤ r 0 → mxS r h p t n = mxS r h' p t n := by
  intro n
  have hn := hr.n
  induction n with
  | zero => intro _; rw [mxS, mxS, he p (t + 1) hp.1 hp.2 (by omega) (by omega)]
  | succ n ih =>
    intro hl
    rw [mxS, mxS, ih (by omega)]
    by_cases c : t + r 1 ≤ 48
    · rw [he n (t + r 1) (by omega) (by omega) (by omega) c]
    · rw [if_neg (fun q => c q.2.1), if_neg (fun q => c q.2.1)]
theorem HTf.step {r : Int → Int} {h : Int → Int → Int} {t0 : Int} (a : HTf r h (t0 + 1)) (b : ∀ p : Int, 0 ≤ p → p < r 0 → h p t0 = mxS r h p t0 (r 0).toNat) : HTf r h t0 := ⟨a.1, fun t p h1 h2 h3 h4 => by
  by_cases e : t = t0
  · subst e; exact b p h3 h4
  · exact a.2 t p (by omega) h2 h3 h4⟩
theorem HTf_congr {r : Int → Int} {h h' : Int → Int → Int} {t0 : Int} (hr : RW r) (h0 : 0 ≤ t0) (a : HTf r h t0) (he : ∀ q s : Int, 0 ≤ q → q < 3 → t0 ≤ s → s ≤ 48 → h' q s = h q s) (hl : t0 ≤ 48) : HTf r h' t0 := by
  have hn := hr.n
  refine ⟨fun p h1 h2 => by rw [he p 48 h1 h2 hl (by omega)]; exact a.1 p h1 h2, fun t p h1 h2 h3 h4 => ?_⟩
  rw [he p t h3 (by omega) h1 (by omega), a.2 t p h1 h2 h3 h4]
  exact mxS_congr hr ⟨h3, h4⟩ ⟨by omega, h2⟩ (fun q s b1 b2 b3 b4 => (he q s b1 (by omega) (by omega) b4).symm) _ (by omega)
theorem HT_uniq {r : Int → Int} {h h' : Int → Int → Int} (hr : RW r) (a : HT r h) (b : HT r h') : ∀ (n : Nat) (p t : Int), 48 - t ≤ n → 0 ≤ t → t ≤ 48 → 0 ≤ p → p < r 0 → h p t = h' p t := by
  have hn := hr.n
  intro n
  induction n with
  | zero =>
    intro p t h1 h2 h3 h4 h5
    have e : t = 48 := by omega
    subst e
    rw [a.1 p h4 (by omega), b.1 p h4 (by omega)]
  | succ n ih =>
    intro p t h1 h2 h3 h4 h5
    by_cases e : t = 48
    · subst e
      rw [a.1 p h4 (by omega), b.1 p h4 (by omega)]
    · rw [a.2 t p h2 (by omega) h4 h5, b.2 t p h2 (by omega) h4 h5]
      exact mxS_congr hr ⟨h4, h5⟩ ⟨h2, by omega⟩ (fun q s c1 c2 c3 c4 => ih q s (by omega) (by omega) c4 c1 c2) _ (by omega)
theorem hOne_bd (r : Int → Int) (p t : Int) : 0 ≤ hOne r p t ∧ hOne r p t ≤ 1 := oneIf_bd _
theorem mxS_ge (r : Int → Int) (h : Int → Int → Int) (p t : Int) : ∀ n : Nat, hOne r p t + h p (t + 1) ≤ mxS r h p t n ∧ ∀ q : Nat, q < n → ¬ (q : Int) = p → t + r 1 ≤ 48 → h q (t + r 1) ≤ mxS r h p t n := by
  intro n
  induction n with
  | zero => exact ⟨Int.le_refl _, fun q hq => absurd hq (Nat.not_lt_zero _)⟩
  | succ n ih =>
    rw [mxS]
    by_cases c : ¬ (n : Int) = p ∧ t + r 1 ≤ 48 ∧ mxS r h p t n < h n (t + r 1)
    · rw [if_pos c]
      refine ⟨by omega, fun q hq hp hw => ?_⟩
      by_cases e : q = n
      · subst e; exact Int.le_refl _
      · have := ih.2 q (by omega) hp hw; omega
    · rw [if_neg c]
      refine ⟨ih.1, fun q hq hp hw => ?_⟩
      by_cases e : q = n
      · subst e; omega
      · exact ih.2 q (by omega) hp hw
theorem mxS_of (r : Int → Int) (h : Int → Int → Int) (p t : Int) : ∀ n : Nat, mxS r h p t n = hOne r p t + h p (t + 1) ∨ ∃ q : Nat, q < n ∧ ¬ (q : Int) = p ∧ t + r 1 ≤ 48 ∧ mxS r h p t n = h q (t + r 1) := by
  intro n
  induction n with
  | zero => exact Or.inl rfl
  | succ n ih =>
    rw [mxS]
    by_cases c : ¬ (n : Int) = p ∧ t + r 1 ≤ 48 ∧ mxS r h p t n < h n (t + r 1)
    · rw [if_pos c]
      exact Or.inr ⟨n, by omega, c.1, c.2.1, rfl⟩
    · rw [if_neg c]
      rcases ih with ih | ⟨q, h1, h2, h3, h4⟩
      · exact Or.inl ih
      · exact Or.inr ⟨q, by omega, h2, h3, h4⟩
theorem HTf_bd {r : Int → Int} {h : Int → Int → Int} {t0 : Int} (hr : RW r) (h0 : 0 ≤ t0) (a : HTf r h t0) : ∀ (n : Nat) (p t : Int), 48 - t ≤ n → t0 ≤ t → t ≤ 48 → 0 ≤ p → p < r 0 → 0 ≤ h p t ∧ h p t ≤ 48 - t := by
  have hn := hr.n
  intro n
  induction n with
  | zero =>
    intro p t h1 h2 h3 h4 h5
    have e : t = 48 := by omega
    subst e
    rw [a.1 p h4 (by omega)]
    omega
  | succ n ih =>
    intro p t h1 h2 h3 h4 h5
    by_cases e : t = 48
    · subst e
      rw [a.1 p h4 (by omega)]
      omega
    · rw [a.2 t p h2 (by omega) h4 h5]
      have h6 := hOne_bd r p t
      have h7 := ih p (t + 1) (by omega) (by omega) (by omega) h4 h5
      have h8 := (mxS_ge r h p t (r 0).toNat).1
      rcases mxS_of r h p t (r 0).toNat with q | ⟨q, c1, c2, c3, c4⟩
      · omega
      · have h9 := ih q (t + r 1) (by omega) (by omega) (by omega) (by omega) (by omega)
        omega
theorem HTf_bd' {r : Int → Int} {h : Int → Int → Int} {t0 : Int} (hr : RW r) (h0 : 0 ≤ t0) (a : HTf r h t0) {p t : Int} (ht : t0 ≤ t ∧ t ≤ 48) (hp : 0 ≤ p ∧ p < r 0) : 0 ≤ h p t ∧ h p t ≤ 48 - t := HTf_bd hr h0 a (48 - t).toNat p t (by omega) ht.1 ht.2 hp.1 hp.2
theorem mxS_bd {r : Int → Int} {h : Int → Int → Int} {t : Int} (hr : RW r) (h0 : 0 ≤ t ∧ t < 48) (a : HTf r h (t + 1)) {p : Int} (hp : 0 ≤ p ∧ p < r 0) (n : Nat) (hl : (n : Int) ≤ r 0) : 0 ≤ mxS r h p t n ∧ mxS r h p t n ≤ 48 := by
  have hn := hr.n
  have h6 := hOne_bd r p t
  have h7 := HTf_bd' hr (by omega) a (p := p) (t := t + 1) (by omega) hp
  have h8 := (mxS_ge r h p t n).1
  rcases mxS_of r h p t n with q | ⟨q, c1, c2, c3, c4⟩
  · omega
  · have h9 := HTf_bd' hr (by omega) a (p := q) (t := t + r 1) (by omega) (by omega)
    omega
/-- who can stay stays -/
def stS (r : Int → Int) (h : Int → Int → Int) (p t : Int) : Prop := hOne r p t + h p (t + 1) = h p t
def goodQ (r : Int → Int) (h : Int → Int → Int) (p t q : Int) : Prop := ¬ q = p ∧ h q (t + r 1) = h p t ∧ stS r h q (t + r 1)
def isQ (r : Int → Int) (h : Int → Int → Int) (p t q : Int) : Prop := (0 ≤ q ∧ q < r 0) ∧ goodQ r h p t q ∧ ∀ x : Int, 0 ≤ x → x < q → ¬ goodQ r h p t x
theorem HT_mono {r : Int → Int} {h : Int → Int → Int} (a : HT r h) {p t : Int} (ht : 0 ≤ t ∧ t < 48) (hp : 0 ≤ p ∧ p < r 0) : h p (t + 1) ≤ h p t := by
  have h6 := hOne_bd r p t
  have h8 := (mxS_ge r h p t (r 0).toNat).1
  rw [← a.2 t p ht.1 ht.2 hp.1 hp.2] at h8
  omega
theorem HT_mono2 {r : Int → Int} {h : Int → Int → Int} (a : HT r h) {p : Int} (hp : 0 ≤ p ∧ p < r 0) : ∀ (n : Nat) (t : Int), 0 ≤ t → t + n ≤ 48 → h p (t + n) ≤ h p t := by
  intro n
  induction n with
  | zero => intro t _ _; rw [show t + ((0 : Nat) : Int) = t by omega]; exact Int.le_refl _
  | succ n ih =>
    intro t h1 h2
    have e1 := ih t h1 (by omega)
    have e2 := HT_mono a (p := p) (t := t + n) (by omega) hp
    rw [show t + ((n + 1 : Nat) : Int) = t + n + 1 by omega]
    omega
theorem HT_mono3 {r : Int → Int} {h : Int → Int → Int} (a : HT r h) {p t s : Int} (hp : 0 ≤ p ∧ p < r 0) (ht : 0 ≤ t ∧ t ≤ s ∧ s ≤ 48) : h p s ≤ h p t := by
  have := HT_mono2 a hp (s - t).toNat t ht.1 (by omega)
  rwa [show t + ((s - t).toNat : Int) = s by omega] at this
/-- who doesn't stay walks before the end -/
theorem walk_in {r : Int → Int} {h : Int → Int → Int} (hr : RW r) (a : HT r h) {p t : Int} (ht : 0 ≤ t ∧ t < 48) (hp : 0 ≤ p ∧ p < r 0) (hs : ¬ stS r h p t) : t + r 1 < 48 ∧ hOne r p t + h p (t + 1) < h p t ∧ ∃ q : Int, (0 ≤ q ∧ q < r 0) ∧ ¬ q = p ∧ h q (t + r 1) = h p t := by
  have hn := hr.n
  have h6 := hOne_bd r p t
  have h7 := HTf_bd' hr (by omega) a (p := p) (t := t + 1) (by omega) hp
  have h8 := (mxS_ge r h p t (r 0).toNat).1
  have e := a.2 t p ht.1 ht.2 hp.1 hp.2
  unfold stS at hs
  rcases mxS_of r h p t (r 0).toNat with q | ⟨q, c1, c2, c3, c4⟩
  · omega
  · refine ⟨?_, by omega, q, by omega, c2, by omega⟩
    by_cases z : t + r 1 = 48
    · rw [z, a.1 q (by omega) (by omega)] at c4
      omega
    · omega
theorem walk_q {r : Int → Int} {h : Int → Int → Int} (hr : RW r) (a : HT r h) {p t : Int} (ht : 0 ≤ t ∧ t < 48) (hp : 0 ≤ p ∧ p < r 0) (hs : ¬ stS r h p t) : ∃ q : Int, (0 ≤ q ∧ q < r 0) ∧ goodQ r h p t q := by
  have hn := hr.n
  obtain ⟨w1, w2, q, hq, hqp, hqe⟩ := walk_in hr a ht hp hs
  have h6 := hOne_bd r p t
  by_cases c : stS r h q (t + r 1)
  · exact ⟨q, hq, hqp, hqe, c⟩
  · obtain ⟨w3, w4, q2, hq2, hq2p, hq2e⟩ := walk_in hr a (p := q) (t := t + r 1) (by omega) hq c
    have hne : ¬ q2 = p := by
      intro e
      subst e
      have := HT_mono3 a (p := q2) (t := t + 1) (s := t + r 1 + r 1) hq2 (by omega)
      omega
    have hge : h q2 (t + r 1) = h p t := by
      have g1 := HT_mono3 a (p := q2) (t := t + r 1) (s := t + r 1 + r 1) hq2 (by omega)
      have g2 := (mxS_ge r h p t (r 0).toNat).2 q2.toNat (by omega) (by omega) (by omega)
      rw [← a.2 t p ht.1 ht.2 hp.1 hp.2, Int.toNat_of_nonneg hq2.1] at g2
      omega
    by_cases c2 : stS r h q2 (t + r 1)
    · exact ⟨q2, hq2, hne, hge, c2⟩
    · exfalso
      obtain ⟨w5, w6, q3, hq3, hq3p, hq3e⟩ := walk_in hr a (p := q2) (t := t + r 1) (by omega) hq2 c2
      have hne3 : ¬ q3 = p := by
        intro e
        subst e
        have := HT_mono3 a (p := q3) (t := t + 1) (s := t + r 1 + r 1) hq3 (by omega)
        omega
      have hq3q : q3 = q := by omega
      subst hq3q
      have := HT_mono3 a (p := q3) (t := t + r 1 + 1) (s := t + r 1 + r 1) hq3 (by omega)
      have h9 := hOne_bd r q3 (t + r 1)
      omega
def wayR (r : Int → Int) (h : Int → Int → Int) (slot v : Int) : Nat → Int → Int → Prop
  | 0, _, _ => False
  | n + 1, p, t => (slot < t ∧ v = p) ∨ (t ≤ slot ∧ stS r h p t ∧ wayR r h slot v n p (t + 1)) ∨ (t ≤ slot ∧ ¬ stS r h p t ∧ slot < t + r 1 ∧ v = 9) ∨ (t ≤ slot ∧ ¬ stS r h p t ∧ t + r 1 ≤ slot ∧ ∃ q : Int, isQ r h p t q ∧ wayR r h slot v n q (t + r 1))
theorem isQ_uniq {r : Int → Int} {h : Int → Int → Int} {p t a b : Int} (ha : isQ r h p t a) (hb : isQ r h p t b) : a = b := by
  rcases Int.lt_trichotomy a b with q | q | q
  · exact absurd ha.2.1 (hb.2.2 a ha.1.1 q)
  · exact q
  · exact absurd hb.2.1 (ha.2.2 b hb.1.1 q)
theorem wayR_uniq {r : Int → Int} {h : Int → Int → Int} {slot v v' : Int} : ∀ (n m : Nat) (p t : Int), wayR r h slot v n p t → wayR r h slot v' m p t → v = v' := by
  intro n
  induction n with
  | zero => intro m p t h1; exact absurd h1 id
  | succ n ih =>
    intro m p t h1 h2
    cases m with
    | zero => exact absurd h2 id
    | succ m =>
      rcases h1 with ⟨a1, a2⟩ | ⟨a1, a2, a3⟩ | ⟨a1, a2, a3, a4⟩ | ⟨a1, a2, a3, q, a4, a5⟩ <;> rcases h2 with ⟨b1, b2⟩ | ⟨b1, b2, b3⟩ | ⟨b1, b2, b3, b4⟩ | ⟨b1, b2, b3, q', b4, b5⟩
      all_goals first | omega | exact absurd a2 b2 | exact absurd b2 a2 | skip
      · exact ih m _ _ a3 b3
      · have := isQ_uniq a4 b4
        subst this
        exact ih m _ _ a5 b5
/-- a relief's answer -/
def reliefQ (r : Int → Int) (p t v : Int) : Prop :=
  (¬ ((0 ≤ p ∧ p < r 0) ∧ -1 ≤ t ∧ t ≤ 47) ∧ v = -1) ∨ (((0 ≤ p ∧ p < r 0) ∧ -1 ≤ t ∧ t ≤ 47) ∧ ∃ h : Int → Int → Int, HT r h ∧ ((t = -1 ∧ v = h p 0) ∨ (¬ t = -1 ∧ ∃ n : Nat, wayR r h t v n p 0)))
theorem stS_congr {r : Int → Int} {h h' : Int → Int → Int} (he : ∀ p t : Int, 0 ≤ t → t ≤ 48 → 0 ≤ p → p < r 0 → h p t = h' p t) {p t : Int} (ht : 0 ≤ t ∧ t < 48) (hp : 0 ≤ p ∧ p < r 0) : stS r h p t ↔ stS r h' p t := by
  unfold stS
  rw [he p t ht.1 (by omega) hp.1 hp.2, he p (t + 1) (by omega) (by omega) hp.1 hp.2]
theorem isQ_congr {r : Int → Int} {h h' : Int → Int → Int} (hr : RW r) (he : ∀ p t : Int, 0 ≤ t → t ≤ 48 → 0 ≤ p → p < r 0 → h p t = h' p t) {p t q : Int} (ht : 0 ≤ t ∧ t + r 1 < 48) (hp : 0 ≤ p ∧ p < r 0) (a : isQ r h p t q) : isQ r h' p t q := by
  have hn := hr.n
  have key : ∀ x : Int, 0 ≤ x → x < r 0 → (goodQ r h p t x ↔ goodQ r h' p t x) := by
    intro x h1 h2
    unfold goodQ
    rw [he x (t + r 1) (by omega) (by omega) h1 h2, he p t ht.1 (by omega) hp.1 hp.2, stS_congr he (p := x) (t := t + r 1) (by omega) ⟨h1, h2⟩]
  exact ⟨a.1, (key q a.1.1 a.1.2).mp a.2.1, fun x h1 h2 h3 => a.2.2 x h1 h2 ((key x h1 (by have := a.1; omega)).mpr h3)⟩
theorem wayR_congr {r : Int → Int} {h h' : Int → Int → Int} (hr : RW r) (he : ∀ p t : Int, 0 ≤ t → t ≤ 48 → 0 ≤ p → p < r 0 → h p t = h' p t) {slot v : Int} (hs : slot ≤ 47) : ∀ (n : Nat) (p t : Int), 0 ≤ t → 0 ≤ p → p < r 0 → wayR r h slot v n p t → wayR r h' slot v n p t := by
  have hn := hr.n
  intro n
  induction n with
  | zero => intro p t _ _ _ h1; exact absurd h1 id
  | succ n ih =>
    intro p t h1 h2 h3 h4
    rcases h4 with ⟨a1, a2⟩ | ⟨a1, a2, a3⟩ | ⟨a1, a2, a3, a4⟩ | ⟨a1, a2, a3, q, a4, a5⟩
    · exact Or.inl ⟨a1, a2⟩
    · exact Or.inr (Or.inl ⟨a1, (stS_congr he ⟨h1, by omega⟩ ⟨h2, h3⟩).mp a2, ih p (t + 1) (by omega) h2 h3 a3⟩)
    · exact Or.inr (Or.inr (Or.inl ⟨a1, fun z => a2 ((stS_congr he ⟨h1, by omega⟩ ⟨h2, h3⟩).mpr z), a3, a4⟩))
    · exact Or.inr (Or.inr (Or.inr ⟨a1, fun z => a2 ((stS_congr he ⟨h1, by omega⟩ ⟨h2, h3⟩).mpr z), a3, q, isQ_congr hr he ⟨h1, by omega⟩ ⟨h2, h3⟩ a4, ih q (t + r 1) (by omega) a4.1.1 a4.1.2 a5⟩))
theorem reliefQ_uniq {r : Int → Int} (hr : RW r) {p t v v' : Int} (a : reliefQ r p t v) (b : reliefQ r p t v') : v = v' := by
  rcases a with ⟨a1, a2⟩ | ⟨a1, h, a2, a3⟩ <;> rcases b with ⟨b1, b2⟩ | ⟨b1, h', b2, b3⟩
  · omega
  · exact absurd b1 a1
  · exact absurd a1 b1
  · have he : ∀ p t : Int, 0 ≤ t → t ≤ 48 → 0 ≤ p → p < r 0 → h p t = h' p t := fun p t h1 h2 h3 h4 => HT_uniq hr a2 b2 (48 - t).toNat p t (by omega) h1 h2 h3 h4
    rcases a3 with ⟨a3, a4⟩ | ⟨a3, n, a4⟩ <;> rcases b3 with ⟨b3, b4⟩ | ⟨b3, m, b4⟩
    · rw [a4, b4]; exact he p 0 (by omega) (by omega) a1.1.1 a1.1.2
    · exact absurd a3 b3
    · exact absurd b3 a3
    · exact wayR_uniq n m p 0 (wayR_congr hr he (by omega) n p 0 (by omega) a1.1.1 a1.1.2 a4) b4
