/-! THE LEAST, the reference: a shift gets a slot -/
set_option maxRecDepth 100000
noncomputable def uns (g : Int → Int) : Int := sumI (fun t => oneIf (g t = 0)) 48
def bl01 (g : Int → Int) : Prop := ∀ t : Int, 0 ≤ t → t < 48 → g t = 0 ∨ g t = 1
theorem uns_mono {g h : Int → Int} (hb : bl01 g) (hm : ∀ t : Int, 0 ≤ t → t < 48 → g t = 1 → h t = 1) : uns h ≤ uns g := sumI_mono 48 (fun j h1 h2 => by
  refine oneIf_le (fun q => ?_)
  rcases hb j h1 (by omega) with e | e
  · exact e
  · have := hm j h1 (by omega) e; omega)
theorem uns_set {g : Int → Int} {t : Int} (ht : 0 ≤ t ∧ t < 48) (h0 : g t = 0) : uns (uI g t 1) + 1 ≤ uns g := sumI_lt 48 (s := t) (by omega) (fun j h1 h2 => oneIf_le (fun q => by
  by_cases e : j = t
  · subst e; exact h0
  · rwa [uI_ne _ _ e] at q)) (by rw [uI_eq, oneIf_0 (by omega), oneIf_1 h0]; omega)
theorem uns_0 {g : Int → Int} : uns g ≤ 48 ∧ 0 ≤ uns g := by
  have h := sumI_bd (a := 0) (b := 1) (fun t => oneIf (g t = 0)) 48 (fun j _ _ => oneIf_bd _)
  unfold uns
  omega
def kCons (sp tk σ : Int → Int) : Prop := ∀ t : Int, 0 ≤ t → t < 48 → tk t = cnt8 (fun x => σ x = t) ∧ tk t ≤ pos0 (sp t)
def kVal (r σ : Int → Int) : Prop := ∀ x : Int, 0 ≤ x → x < 8 → σ x = -1 ∨ (x < r 2 ∧ 1 ≤ rHas r x ∧ (0 ≤ σ x ∧ σ x < 48) ∧ winLo r x ≤ σ x ∧ σ x ≤ winHi r x)
def kSucc (r sp σ seen : Int → Int) (s : Int) (tk' σ' : Int → Int) : Prop := (∀ x : Int, 0 ≤ x → x < 8 → ¬ x = s → (σ x = -1 ∨ seen (σ x) = 1) → σ' x = σ x) ∧ kVal r σ' ∧ (0 ≤ σ' s ∧ σ' s < 48) ∧ (∀ x : Int, 0 ≤ x → x < 8 → ¬ x = s → (σ' x = -1 ↔ σ x = -1)) ∧ ∀ t : Int, 0 ≤ t → t < 48 → tk' t = cnt8 (fun x => σ' x = t) + oneIf (σ s = t) ∧ tk' t ≤ pos0 (sp t)
def kFull (sp tk σ : Int → Int) (V : Int → Prop) (t : Int) : Prop := sp t ≤ tk t ∧ ∀ x : Int, 0 ≤ x → x < 8 → σ x = t → V x
def kSub (σ : Int → Int) (s : Int) (V : Int → Prop) : Prop := V s ∧ ∀ x : Int, V x → x = s ∨ ((0 ≤ x ∧ x < 8) ∧ 0 ≤ σ x)
def kClo (r sp seen' : Int → Int) (x : Int) : Prop := ∀ t : Int, 0 ≤ t → t < 48 → winLo r x ≤ t → t ≤ winHi r x → 0 < sp t → seen' t = 1
def kFail (r sp tk σ seen : Int → Int) (s : Int) (seen' : Int → Int) : Prop := ∃ V : Int → Prop, kSub σ s V ∧ (∀ x : Int, V x → kClo r sp seen' x) ∧ ∀ t : Int, 0 ≤ t → t < 48 → seen' t = 1 → seen t = 1 ∨ kFull sp tk σ V t
/-- on the way: slots below t tried -/
def kPart (r sp tk σ seen : Int → Int) (s : Int) (g : Int → Int) (V : Int → Prop) (t : Int) : Prop := kSub σ s V ∧ (∀ x : Int, V x → ¬ x = s → kClo r sp g x) ∧ (∀ u : Int, 0 ≤ u → winLo r s ≤ u → u < t → 0 < sp u → g u = 1) ∧ ∀ u : Int, 0 ≤ u → u < 48 → g u = 1 → seen u = 1 ∨ kFull sp tk σ V u
/-- amid a slot: shifts below x tried -/
def kIn (r sp tk σ seen : Int → Int) (s : Int) (g : Int → Int) (V : Int → Prop) (t x : Int) : Prop := kSub σ s V ∧ (∀ x : Int, V x → ¬ x = s → kClo r sp g x) ∧ (∀ u : Int, 0 ≤ u → winLo r s ≤ u → u < t + 1 → 0 < sp u → g u = 1) ∧ (∀ u : Int, 0 ≤ u → u < 48 → g u = 1 → seen u = 1 ∨ u = t ∨ kFull sp tk σ V u) ∧ ∀ y : Int, 0 ≤ y → y < x → σ y = t → V y
def seenUp (g h : Int → Int) : Prop := ∀ t : Int, 0 ≤ t → t < 48 → g t = 1 → h t = 1
theorem kClo.up {r sp g h : Int → Int} {x : Int} (a : kClo r sp g x) (b : seenUp g h) : kClo r sp h x := fun t h1 h2 h3 h4 h5 => b t h1 h2 (a t h1 h2 h3 h4 h5)
theorem kPart_0 {r sp tk σ seen : Int → Int} {s t : Int} (ht : t = winLo r s) : kPart r sp tk σ seen s seen (fun x => x = s) t := ⟨⟨rfl, fun x h => Or.inl h⟩, fun x h h2 => absurd h h2, fun u h1 h2 h3 => by omega, fun u h1 h2 h3 => Or.inl h3⟩
theorem kPart_skip {r sp tk σ seen : Int → Int} {s t : Int} {g : Int → Int} {V : Int → Prop} (h : kPart r sp tk σ seen s g V t) (hs : g t = 1 ∨ sp t ≤ 0) : kPart r sp tk σ seen s g V (t + 1) := ⟨h.1, h.2.1, fun u h1 h2 h3 h4 => by
  by_cases e : u = t
  · subst e; rcases hs with q | q
    · exact q
    · omega
  · exact h.2.2.1 u h1 h2 (by omega) h4, h.2.2.2⟩
theorem seenUp_set (g : Int → Int) (t : Int) : seenUp g (uI g t 1) := fun u _ _ h3 => by
  by_cases e : u = t
  · subst e; exact uI_eq _ _ _
  · rw [uI_ne _ _ e]; exact h3
theorem kIn_0 {r sp tk σ seen : Int → Int} {s t : Int} {g : Int → Int} {V : Int → Prop} (h : kPart r sp tk σ seen s g V t) : kIn r sp tk σ seen s (uI g t 1) V t 0 := ⟨h.1, fun x h1 h2 => (h.2.1 x h1 h2).up (seenUp_set g t), fun u h1 h2 h3 h4 => by
  by_cases e : u = t
  · subst e; exact uI_eq _ _ _
  · rw [uI_ne _ _ e]; exact h.2.2.1 u h1 h2 (by omega) h4, fun u h1 h2 h3 => by
  by_cases e : u = t
  · exact Or.inr (Or.inl e)
  · rw [uI_ne _ _ e] at h3; exact (h.2.2.2 u h1 h2 h3).elim Or.inl (fun q => Or.inr (Or.inr q)), fun y h1 h2 => by omega⟩
theorem kIn_skip {r sp tk σ seen : Int → Int} {s t x : Int} {g : Int → Int} {V : Int → Prop} (h : kIn r sp tk σ seen s g V t x) (hx : ¬ σ x = t) : kIn r sp tk σ seen s g V t (x + 1) := ⟨h.1, h.2.1, h.2.2.1, h.2.2.2.1, fun y h1 h2 h3 => by
  by_cases e : y = x
  · subst e; exact absurd h3 hx
  · exact h.2.2.2.2 y h1 (by omega) h3⟩
theorem kIn_fail {r sp tk σ seen : Int → Int} {s t x : Int} {g h : Int → Int} {V : Int → Prop} (a : kIn r sp tk σ seen s g V t x) (hx : 0 ≤ x ∧ x < 8) (ht : 0 ≤ t ∧ t < 48) (hσ : σ x = t) (up : seenUp g h) (b : kFail r sp tk σ g x h) : ∃ V' : Int → Prop, kIn r sp tk σ seen s h V' t (x + 1) := by
  obtain ⟨W, ⟨b1, b2⟩, b3, b4⟩ := b
  obtain ⟨⟨a1, a2⟩, a3, a4, a5, a6⟩ := a
  refine ⟨fun y => V y ∨ W y, ⟨Or.inl a1, fun y hy => ?_⟩, fun y hy hn => ?_, fun u h1 h2 h3 h4 => ?_, fun u h1 h2 h3 => ?_, fun y h1 h2 h3 => ?_⟩
  · rcases hy with hy | hy
    · exact a2 y hy
    · rcases b2 y hy with q | q
      · subst q; exact Or.inr ⟨hx, by omega⟩
      · exact Or.inr q
  · rcases hy with hy | hy
    · exact (a3 y hy hn).up up
    · exact b3 y hy
  · have := a4 u h1 h2 h3 h4
    exact up u h1 (by omega) this
  · rcases b4 u h1 h2 h3 with q | ⟨q, q2⟩
    · rcases a5 u h1 h2 q with q | q | ⟨q, q2⟩
      · exact Or.inl q
      · exact Or.inr (Or.inl q)
      · exact Or.inr (Or.inr ⟨q, fun y h4 h5 h6 => Or.inl (q2 y h4 h5 h6)⟩)
    · exact Or.inr (Or.inr ⟨q, fun y h4 h5 h6 => Or.inr (q2 y h4 h5 h6)⟩)
  · by_cases e : y = x
    · subst e; exact Or.inr b1
    · exact Or.inl (a6 y h1 (by omega) h3)
theorem kIn_end {r sp tk σ seen : Int → Int} {s t x : Int} {g : Int → Int} {V : Int → Prop} (h : kIn r sp tk σ seen s g V t x) (hv : kVal r σ) (ht : 0 ≤ t) (hf : sp t ≤ tk t) (hx : r 2 ≤ x) : kPart r sp tk σ seen s g V (t + 1) := ⟨h.1, h.2.1, h.2.2.1, fun u h1 h2 h3 => by
  rcases h.2.2.2.1 u h1 h2 h3 with q | q | q
  · exact Or.inl q
  · subst q
    refine Or.inr ⟨hf, fun y h4 h5 h6 => h.2.2.2.2 y h4 ?_ h6⟩
    rcases hv y h4 h5 with q | q
    · omega
    · omega
  · exact Or.inr q⟩
theorem kPart_end {r sp tk σ seen : Int → Int} {s t : Int} {g : Int → Int} {V : Int → Prop} (h : kPart r sp tk σ seen s g V t) (ht : winHi r s < t) : kFail r sp tk σ seen s g := ⟨V, h.1, fun x hx => by
  by_cases e : x = s
  · subst e; exact fun u h1 h2 h3 h4 h5 => h.2.2.1 u h1 h3 (by omega) h5
  · exact h.2.1 x hx e, h.2.2.2⟩
theorem cnt8_put {σ : Int → Int} {s v u : Int} (hs : 0 ≤ s ∧ s < 8) : cnt8 (fun x => uI σ s v x = u) + oneIf (σ s = u) = cnt8 (fun x => σ x = u) + oneIf (v = u) := by
  have key : ∀ n : Nat, sumI (fun x => oneIf (uI σ s v x = u)) n + (if s < n then oneIf (σ s = u) else 0) = sumI (fun x => oneIf (σ x = u)) n + (if s < n then oneIf (v = u) else 0) := by
    intro n
    induction n with
    | zero => rw [if_neg (by omega), if_neg (by omega)]; rfl
    | succ n ih =>
      rw [sumI, sumI]
      by_cases c : (n : Int) = s
      · subst c
        rw [if_neg (by omega), if_neg (by omega)] at ih
        rw [if_pos (by omega), if_pos (by omega), uI_eq]
        omega
      · rw [uI_ne _ _ c]
        by_cases d : s < n
        · rw [if_pos d, if_pos d] at ih
          rw [if_pos (by omega), if_pos (by omega)]
          omega
        · rw [if_neg d, if_neg d] at ih
          rw [if_neg (by omega), if_neg (by omega)]
          omega
  have h := key 8
  rw [if_pos (by omega), if_pos (by omega)] at h
  exact h
theorem kVal_put {r σ : Int → Int} {s t : Int} (h : kVal r σ) (hs : s < r 2 ∧ 1 ≤ rHas r s) (ht : 0 ≤ t ∧ t < 48) (hw : winLo r s ≤ t ∧ t ≤ winHi r s) : kVal r (uI σ s t) := fun x h1 h2 => by
  by_cases e : x = s
  · subst e; rw [uI_eq]; exact Or.inr ⟨hs.1, hs.2, ht, hw⟩
  · rw [uI_ne _ _ e]; exact h x h1 h2
/-- a slot with room is taken -/
theorem kSucc_free {r sp tk σ seen : Int → Int} {s t : Int} (hs : (0 ≤ s ∧ s < 8) ∧ s < r 2 ∧ 1 ≤ rHas r s) (ht : 0 ≤ t ∧ t < 48) (hw : winLo r s ≤ t ∧ t ≤ winHi r s) (hv : kVal r σ) (hc : kCons sp tk σ) (hf : tk t < sp t) : kSucc r sp σ seen s (uI tk t (tk t + 1)) (uI σ s t) := by
  refine ⟨fun x h1 h2 h3 h4 => uI_ne _ _ h3, kVal_put hv hs.2 ht hw, by rw [uI_eq]; exact ht, fun x h1 h2 h3 => by rw [uI_ne _ _ h3], fun u h1 h2 => ?_⟩
  have hcu := hc u h1 h2
  have hp := cnt8_put (σ := σ) (s := s) (v := t) (u := u) hs.1
  by_cases e : u = t
  · subst e
    rw [uI_eq]
    rw [oneIf_1 (P := u = u) rfl] at hp
    refine ⟨by omega, ?_⟩
    unfold pos0
    rw [if_neg (by have := (cnt8_bd (fun x => σ x = u)).1; omega)]
    omega
  · rw [uI_ne _ _ e]
    rw [oneIf_0 (P := t = u) (fun q => e q.symm)] at hp
    exact ⟨by omega, hcu.2⟩
/-- a slot is taken of one that goes elsewhere -/
theorem kSucc_push {r sp σ seen g tk1 σ1 : Int → Int} {s t x : Int} (hs : (0 ≤ s ∧ s < 8) ∧ s < r 2 ∧ 1 ≤ rHas r s) (ht : 0 ≤ t ∧ t < 48) (hw : winLo r s ≤ t ∧ t ≤ winHi r s) (hx : 0 ≤ x ∧ x < 8) (hxs : ¬ x = s) (hσx : σ x = t) (hσs : σ s = -1 ∨ (0 ≤ σ s ∧ seen (σ s) = 1)) (hst : ¬ seen t = 1) (up : seenUp seen g) (hval : kVal r σ) (h : kSucc r sp σ g x tk1 σ1) : kSucc r sp σ seen s (uI (uI tk1 t (tk1 t - 1)) t (uI tk1 t (tk1 t - 1) t + 1)) (uI σ1 s t) := by
  obtain ⟨h1, h2, h3, h4, h5⟩ := h
  have e0 : uI (uI tk1 t (tk1 t - 1)) t (uI tk1 t (tk1 t - 1) t + 1) = tk1 := by
    funext j
    by_cases e : j = t
    · subst e; rw [uI_eq, uI_eq]; omega
    · rw [uI_ne _ _ e, uI_ne _ _ e]
  rw [e0]
  have up1 : ∀ y : Int, 0 ≤ y → y < 8 → (σ y = -1 ∨ seen (σ y) = 1) → (σ y = -1 ∨ g (σ y) = 1) := fun y q1 q2 q => by
    rcases q with q | q
    · exact Or.inl q
    · rcases hval y q1 q2 with c | c
      · exact Or.inl c
      · exact Or.inr (up _ c.2.2.1.1 c.2.2.1.2 q)
  have hσs' : σ1 s = σ s := h1 s hs.1.1 hs.1.2 (fun q => hxs q.symm) (up1 s hs.1.1 hs.1.2 (hσs.elim Or.inl (fun q => Or.inr q.2)))
  refine ⟨fun y q1 q2 q3 q4 => ?_, kVal_put h2 hs.2 ht hw, by rw [uI_eq]; exact ht, fun y q1 q2 q3 => ?_, fun u q1 q2 => ?_⟩
  · rw [uI_ne _ _ q3]
    by_cases e : y = x
    · subst e
      rw [hσx] at q4
      rcases q4 with q | q
      · omega
      · exact absurd q hst
    · exact h1 y q1 q2 e (up1 y q1 q2 q4)
  · rw [uI_ne _ _ q3]
    by_cases e : y = x
    · subst e; constructor <;> intro q <;> omega
    · exact h4 y q1 q2 e
  · have hp := cnt8_put (σ := σ1) (s := s) (v := t) (u := u) hs.1
    have h6 := h5 u q1 q2
    rw [hσx] at h6
    rw [hσs'] at hp
    exact ⟨by omega, h6.2⟩
theorem uG_swap (G : Nat → Int → Int) {i j : Nat} (a b : Int → Int) (h : i ≠ j) : uG (uG G i a) j b = uG (uG G j b) i a := by
  funext k
  unfold uG
  by_cases e : k = j
  · subst e; rw [if_pos rfl, if_neg (fun q => h q.symm), if_pos rfl]
  · rw [if_neg e, if_neg e]
theorem uG_67 (G : Nat → Int → Int) (a b c a' b' : Int → Int) : uG (uG (uG (uG (uG G 8 c) 6 a) 7 b) 6 a') 7 b' = uG (uG (uG G 8 c) 6 a') 7 b' := by
  rw [uG_swap _ b a' (by decide), uG_uG, uG_uG]
