/-! READING, without machine: tokens -/
set_option maxRecDepth 100000
/-- a token: where it begins, its kind (0 the end, 1 none, 2 word, 3 number, 4 sign), where it ends, its number -/
abbrev Tk := Int × Int × Int × Int
def Tk.f (t : Tk) : Int := t.1
def Tk.s (t : Tk) : Int := t.2.1
def Tk.e (t : Tk) : Int := t.2.2.1
def Tk.v (t : Tk) : Int := t.2.2.2
def isLt (c : Int) : Prop := 97 ≤ c ∧ c ≤ 122
def isDg (c : Int) : Prop := 48 ≤ c ∧ c ≤ 57
def isAl (c : Int) : Prop := isLt c ∨ isDg c
def isSp (c : Int) : Prop := c = 32 ∨ c = 10
def skipR (T : Int → Int) (n z f : Int) : Prop := z ≤ f ∧ (∀ y : Int, z ≤ y → y < f → y < n ∧ isSp (T y)) ∧ ¬ (f < n ∧ isSp (T f))
def runR (T : Int → Int) (n f e : Int) : Prop := f ≤ e ∧ (∀ y : Int, f ≤ y → y < e → y < n ∧ isAl (T y)) ∧ ¬ (e < n ∧ isAl (T e))
def numV (T : Int → Int) (f e : Int) : Int := if e - f = 0 then 0 else if e - f = 1 then T f - 48 else 10 * (T f - 48) + (T (f + 1) - 48)
def allLt (T : Int → Int) (f e : Int) : Prop := ∀ y : Int, f ≤ y → y < e → isLt (T y)
def allDg (T : Int → Int) (f e : Int) : Prop := ∀ y : Int, f ≤ y → y < e → isDg (T y)
def runTk (T : Int → Int) (f e : Int) (tk : Tk) : Prop := (allLt T f e ∧ tk = ⟨f, 2, e, 0⟩) ∨ (allDg T f e ∧ e - f ≤ 2 ∧ tk = ⟨f, 3, e, numV T f e⟩) ∨ (¬ allLt T f e ∧ ¬ (allDg T f e ∧ e - f ≤ 2) ∧ tk = ⟨f, 1, e, 0⟩)
def tokR (T : Int → Int) (n z : Int) (tk : Tk) : Prop := ∃ f : Int, skipR T n z f ∧
  ((600 < n ∧ 600 ≤ f ∧ tk = ⟨600, 1, f, 0⟩) ∨
  (¬ (600 < n ∧ 600 ≤ f) ∧ n ≤ f ∧ tk = ⟨f, 0, f, 0⟩) ∨
  (¬ (600 < n ∧ 600 ≤ f) ∧ f < n ∧ ¬ isAl (T f) ∧ T f = 59 ∧ tk = ⟨f, 4, f + 1, 0⟩) ∨
  (¬ (600 < n ∧ 600 ≤ f) ∧ f < n ∧ ¬ isAl (T f) ∧ ¬ T f = 59 ∧ tk = ⟨f, 1, f + 1, 0⟩) ∨
  (¬ (600 < n ∧ 600 ≤ f) ∧ f < n ∧ isAl (T f) ∧ ∃ e : Int, runR T n f e ∧ runTk T f e tk))
theorem skipR_uniq {T : Int → Int} {n z a b : Int} (ha : skipR T n z a) (hb : skipR T n z b) : a = b := by
  obtain ⟨a1, a2, a3⟩ := ha
  obtain ⟨b1, b2, b3⟩ := hb
  rcases Int.lt_trichotomy a b with h | h | h
  · exact absurd (b2 a a1 h) a3
  · exact h
  · exact absurd (a2 b b1 h) b3
theorem runR_uniq {T : Int → Int} {n z a b : Int} (ha : runR T n z a) (hb : runR T n z b) : a = b := by
  obtain ⟨a1, a2, a3⟩ := ha
  obtain ⟨b1, b2, b3⟩ := hb
  rcases Int.lt_trichotomy a b with h | h | h
  · exact absurd (b2 a a1 h) a3
  · exact h
  · exact absurd (a2 b b1 h) b3
theorem runTk_uniq {T : Int → Int} {f e : Int} {a b : Tk} (hl : f < e) (ha : runTk T f e a) (hb : runTk T f e b) : a = b := by
  have key : ¬ (allLt T f e ∧ allDg T f e) := fun h => by
    have h1 := h.1 f (Int.le_refl _) hl
    have h2 := h.2 f (Int.le_refl _) hl
    unfold isLt at h1
    unfold isDg at h2
    omega
  rcases ha with ⟨a1, a2⟩ | ⟨a1, a2, a3⟩ | ⟨a1, a2, a3⟩ <;> rcases hb with ⟨b1, b2⟩ | ⟨b1, b2, b3⟩ | ⟨b1, b2, b3⟩
  · rw [a2, b2]
  · exact absurd ⟨a1, b1⟩ key
  · exact absurd a1 b1
  · exact absurd ⟨b1, a1⟩ key
  · rw [a3, b3]
  · exact absurd ⟨a1, a2⟩ b2
  · exact absurd b1 a1
  · exact absurd ⟨b1, b2⟩ a2
  · rw [a3, b3]
theorem runR_pos {T : Int → Int} {n f e : Int} (h : runR T n f e) (hf : f < n) (ha : isAl (T f)) : f < e := by
  obtain ⟨h1, h2, h3⟩ := h
  by_cases c : e = f
  · subst c; exact absurd ⟨hf, ha⟩ h3
  · omega
theorem tokR_uniq {T : Int → Int} {n z : Int} {a b : Tk} (ha : tokR T n z a) (hb : tokR T n z b) : a = b := by
  obtain ⟨f, hf, ha⟩ := ha
  obtain ⟨g, hg, hb⟩ := hb
  have e := skipR_uniq hf hg
  subst e
  rcases ha with ⟨a1, a2, a3⟩ | ⟨a1, a2, a3⟩ | ⟨a1, a2, a3, a4, a5⟩ | ⟨a1, a2, a3, a4, a5⟩ | ⟨a1, a2, a3, x, a4, a5⟩ <;> rcases hb with ⟨b1, b2, b3⟩ | ⟨b1, b2, b3⟩ | ⟨b1, b2, b3, b4, b5⟩ | ⟨b1, b2, b3, b4, b5⟩ | ⟨b1, b2, b3, y, b4, b5⟩
  all_goals first | omega | exact absurd a3 b3 | exact absurd b3 a3 | exact absurd a4 b4 | exact absurd b4 a4 | exact a3.trans b3.symm | exact a5.trans b5.symm | skip
  have e := runR_uniq a4 b4
  subst e
  exact runTk_uniq (runR_pos a4 a2 a3) a5 b5
noncomputable def tokF (T : Int → Int) (n z : Int) : Tk := Classical.epsilon (tokR T n z)
theorem tokF_eq {T : Int → Int} {n z : Int} {tk : Tk} (h : tokR T n z tk) : tokF T n z = tk := tokR_uniq (Classical.epsilon_spec ⟨tk, h⟩) h
/-- a word -/
def isW (T : Int → Int) (tk : Tk) (L : List Int) : Prop := tk.s = 2 ∧ tk.e - tk.f = L.length ∧ ∀ k : Nat, k < L.length → T (tk.f + (k : Int)) = L.getD k 0
def hashN (T : Int → Int) (f : Int) : Nat → Int
  | 0 => 0
  | k + 1 => 27 * hashN T f k + T (f + (k : Int)) - 96
def hashT (T : Int → Int) (f e : Int) : Int := hashN T f (if e - f < 6 then (e - f).toNat else 6)
theorem isW5 {T : Int → Int} {tk : Tk} {a b c d e : Int} : isW T tk [a, b, c, d, e] ↔ tk.s = 2 ∧ tk.e - tk.f = 5 ∧ T tk.f = a ∧ T (tk.f + 1) = b ∧ T (tk.f + 2) = c ∧ T (tk.f + 3) = d ∧ T (tk.f + 4) = e := by
  constructor
  · rintro ⟨h1, h2, h3⟩
    have q0 := h3 0 (by simp)
    have q1 := h3 1 (by simp)
    have q2 := h3 2 (by simp)
    have q3 := h3 3 (by simp)
    have q4 := h3 4 (by simp)
    rw [show tk.f + ((0 : Nat) : Int) = tk.f by omega] at q0
    exact ⟨h1, h2, q0, q1, q2, q3, q4⟩
  · rintro ⟨h1, h2, q0, q1, q2, q3, q4⟩
    refine ⟨h1, h2, fun k hk => ?_⟩
    match k, hk with
    | 0, _ => rw [show tk.f + ((0 : Nat) : Int) = tk.f by omega]; exact q0
    | 1, _ => exact q1
    | 2, _ => exact q2
    | 3, _ => exact q3
    | 4, _ => exact q4
    | n + 5, h => exact absurd h (by show ¬ (n + 5 < 5); omega)
theorem isW4 {T : Int → Int} {tk : Tk} {a b c d : Int} : isW T tk [a, b, c, d] ↔ tk.s = 2 ∧ tk.e - tk.f = 4 ∧ T tk.f = a ∧ T (tk.f + 1) = b ∧ T (tk.f + 2) = c ∧ T (tk.f + 3) = d := by
  constructor
  · rintro ⟨h1, h2, h3⟩
    have q0 := h3 0 (by simp)
    have q1 := h3 1 (by simp)
    have q2 := h3 2 (by simp)
    have q3 := h3 3 (by simp)
    rw [show tk.f + ((0 : Nat) : Int) = tk.f by omega] at q0
    exact ⟨h1, h2, q0, q1, q2, q3⟩
  · rintro ⟨h1, h2, q0, q1, q2, q3⟩
    refine ⟨h1, h2, fun k hk => ?_⟩
    match k, hk with
    | 0, _ => rw [show tk.f + ((0 : Nat) : Int) = tk.f by omega]; exact q0
    | 1, _ => exact q1
    | 2, _ => exact q2
    | 3, _ => exact q3
    | n + 4, h => exact absurd h (by show ¬ (n + 4 < 4); omega)
/-- the hash of all letters, by their number -/
theorem hash_num {T : Int → Int} {f e : Int} (hl : f < e) (ha : allLt T f e) :
   (e - f = 1 ∧ hashT T f e = T f - 96) ∨ (e - f = 2 ∧ hashT T f e = 27 * (T f - 96) + T (f + 1) - 96) ∨ (e - f = 3 ∧ hashT T f e = 27 * (27 * (T f - 96) + T (f + 1) - 96) + T (f + 2) - 96) ∨
   (e - f = 4 ∧ hashT T f e = 27 * (27 * (27 * (T f - 96) + T (f + 1) - 96) + T (f + 2) - 96) + T (f + 3) - 96) ∨ (e - f = 5 ∧ hashT T f e = 27 * (27 * (27 * (27 * (T f - 96) + T (f + 1) - 96) + T (f + 2) - 96) + T (f + 3) - 96) + T (f + 4) - 96) ∨
   (6 ≤ e - f ∧ 14348907 ≤ hashT T f e) := by
  have e0 : T (f + ((0 : Nat) : Int)) = T f := by rw [show f + ((0 : Nat) : Int) = f by omega]
  have e1 : T (f + ((1 : Nat) : Int)) = T (f + 1) := rfl
  have e2 : T (f + ((2 : Nat) : Int)) = T (f + 2) := rfl
  have e3 : T (f + ((3 : Nat) : Int)) = T (f + 3) := rfl
  have e4 : T (f + ((4 : Nat) : Int)) = T (f + 4) := rfl
  have e5 : T (f + ((5 : Nat) : Int)) = T (f + 5) := rfl
  unfold hashT
  by_cases c : e - f < 6
  · rw [if_pos c]
    have : e - f = 1 ∨ e - f = 2 ∨ e - f = 3 ∨ e - f = 4 ∨ e - f = 5 := by omega
    rcases this with q | q | q | q | q <;> rw [q]
    · left; exact ⟨rfl, by show 27 * 0 + T (f + ((0 : Nat) : Int)) - 96 = _; omega⟩
    · right; left; exact ⟨rfl, by show 27 * (27 * 0 + T (f + ((0 : Nat) : Int)) - 96) + T (f + ((1 : Nat) : Int)) - 96 = _; omega⟩
    · right; right; left; exact ⟨rfl, by show 27 * (27 * (27 * 0 + T (f + ((0 : Nat) : Int)) - 96) + T (f + ((1 : Nat) : Int)) - 96) + T (f + ((2 : Nat) : Int)) - 96 = _; omega⟩
    · right; right; right; left; exact ⟨rfl, by show 27 * (27 * (27 * (27 * 0 + T (f + ((0 : Nat) : Int)) - 96) + T (f + ((1 : Nat) : Int)) - 96) + T (f + ((2 : Nat) : Int)) - 96) + T (f + ((3 : Nat) : Int)) - 96 = _; omega⟩
    · right; right; right; right; left; exact ⟨rfl, by show 27 * (27 * (27 * (27 * (27 * 0 + T (f + ((0 : Nat) : Int)) - 96) + T (f + ((1 : Nat) : Int)) - 96) + T (f + ((2 : Nat) : Int)) - 96) + T (f + ((3 : Nat) : Int)) - 96) + T (f + ((4 : Nat) : Int)) - 96 = _; omega⟩
  · rw [if_neg c]
    have l0 := ha f (by omega) (by omega)
    have l1 := ha (f + 1) (by omega) (by omega)
    have l2 := ha (f + 2) (by omega) (by omega)
    have l3 := ha (f + 3) (by omega) (by omega)
    have l4 := ha (f + 4) (by omega) (by omega)
    have l5 := ha (f + 5) (by omega) (by omega)
    unfold isLt at l0 l1 l2 l3 l4 l5
    right; right; right; right; right
    refine ⟨by omega, ?_⟩
    show 14348907 ≤ 27 * (27 * (27 * (27 * (27 * (27 * 0 + T (f + ((0 : Nat) : Int)) - 96) + T (f + ((1 : Nat) : Int)) - 96) + T (f + ((2 : Nat) : Int)) - 96) + T (f + ((3 : Nat) : Int)) - 96) + T (f + ((4 : Nat) : Int)) - 96) + T (f + ((5 : Nat) : Int)) - 96
    omega
def h4W (a b c d : Int) : Int := 729 * (27 * (a - 96) + b - 96) + (27 * (c - 96) + d - 96)
def h5W (a b c d e : Int) : Int := 27 * h4W a b c d + e - 96
theorem isW5_hash {T : Int → Int} {tk : Tk} {a b c d e : Int} (hs : tk.s = 2) (hl : tk.f < tk.e) (ha : allLt T tk.f tk.e) (w : isLt a ∧ isLt b ∧ isLt c ∧ isLt d ∧ isLt e) : isW T tk [a, b, c, d, e] ↔ hashT T tk.f tk.e = h5W a b c d e := by
  rw [isW5]
  unfold isLt at w
  have hh := hash_num hl ha
  have L : ∀ k : Int, 0 ≤ k → k < tk.e - tk.f → 97 ≤ T (tk.f + k) ∧ T (tk.f + k) ≤ 122 := fun k h1 h2 => ha (tk.f + k) (by omega) (by omega)
  have l0 := L 0
  rw [show tk.f + 0 = tk.f by omega] at l0
  have l1 := L 1
  have l2 := L 2
  have l3 := L 3
  have l4 := L 4
  unfold h5W h4W
  constructor
  · rintro ⟨-, h2, q0, q1, q2, q3, q4⟩
    omega
  · intro h
    refine ⟨hs, ?_⟩
    rcases hh with ⟨q, h'⟩ | ⟨q, h'⟩ | ⟨q, h'⟩ | ⟨q, h'⟩ | ⟨q, h'⟩ | ⟨q, h'⟩
    · have := l0 (by omega) (by omega); omega
    · have := l0 (by omega) (by omega); have := l1 (by omega) (by omega); omega
    · have := l0 (by omega) (by omega); have := l1 (by omega) (by omega); have := l2 (by omega) (by omega); omega
    · have := l0 (by omega) (by omega); have := l1 (by omega) (by omega); have := l2 (by omega) (by omega); have := l3 (by omega) (by omega); omega
    · have := l0 (by omega) (by omega); have := l1 (by omega) (by omega); have := l2 (by omega) (by omega); have := l3 (by omega) (by omega); have := l4 (by omega) (by omega); omega
    · omega
theorem isW4_hash {T : Int → Int} {tk : Tk} {a b c d : Int} (hs : tk.s = 2) (hl : tk.f < tk.e) (ha : allLt T tk.f tk.e) (w : isLt a ∧ isLt b ∧ isLt c ∧ isLt d) : isW T tk [a, b, c, d] ↔ hashT T tk.f tk.e = h4W a b c d := by
  rw [isW4]
  unfold isLt at w
  have hh := hash_num hl ha
  have L : ∀ k : Int, 0 ≤ k → k < tk.e - tk.f → 97 ≤ T (tk.f + k) ∧ T (tk.f + k) ≤ 122 := fun k h1 h2 => ha (tk.f + k) (by omega) (by omega)
  have l0 := L 0
  rw [show tk.f + 0 = tk.f by omega] at l0
  have l1 := L 1
  have l2 := L 2
  have l3 := L 3
  have l4 := L 4
  unfold h4W
  constructor
  · rintro ⟨-, h2, q0, q1, q2, q3⟩
    omega
  · intro h
    refine ⟨hs, ?_⟩
    rcases hh with ⟨q, h'⟩ | ⟨q, h'⟩ | ⟨q, h'⟩ | ⟨q, h'⟩ | ⟨q, h'⟩ | ⟨q, h'⟩
    · have := l0 (by omega) (by omega); omega
    · have := l0 (by omega) (by omega); have := l1 (by omega) (by omega); omega
    · have := l0 (by omega) (by omega); have := l1 (by omega) (by omega); have := l2 (by omega) (by omega); omega
    · have := l0 (by omega) (by omega); have := l1 (by omega) (by omega); have := l2 (by omega) (by omega); have := l3 (by omega) (by omega); omega
    · have := l0 (by omega) (by omega); have := l1 (by omega) (by omega); have := l2 (by omega) (by omega); have := l3 (by omega) (by omega); have := l4 (by omega) (by omega); omega
    · omega
theorem hash_bd {T : Int → Int} {f e : Int} (hl : f < e) (ha : allLt T f e) : 0 ≤ hashT T f e ∧ hashT T f e ≤ 1000000000 := by
  have e0 : T (f + ((0 : Nat) : Int)) = T f := by rw [show f + ((0 : Nat) : Int) = f by omega]
  have L : ∀ k : Int, 0 ≤ k → k < e - f → 97 ≤ T (f + k) ∧ T (f + k) ≤ 122 := fun k h1 h2 => ha (f + k) (by omega) (by omega)
  have key : ∀ m : Nat, (m : Int) ≤ e - f → 0 ≤ hashN T f m ∧ hashN T f m < 27 ^ m := by
    intro m
    induction m with
    | zero => intro _; exact ⟨Int.le_refl _, (by decide : (0 : Int) < 27 ^ 0)⟩
    | succ m ih =>
      intro h
      have h1 := ih (by omega)
      have h2 := L m (by omega) (by omega)
      rw [hashN, Int.pow_succ]
      have h3 := h1.1
      have h4 := h1.2
      generalize (27 : Int) ^ m = P at h4 ⊢
      omega
  unfold hashT
  by_cases c : e - f < 6
  · rw [if_pos c]
    have h1 := key (e - f).toNat (by omega)
    have : (e - f).toNat = 1 ∨ (e - f).toNat = 2 ∨ (e - f).toNat = 3 ∨ (e - f).toNat = 4 ∨ (e - f).toNat = 5 := by omega
    rcases this with q | q | q | q | q <;> rw [q] at h1 ⊢ <;> omega
  · rw [if_neg c]
    have h1 := key 6 (by omega)
    omega
