/-! x: cover laid for a row; trials -/
set_option maxRecDepth 100000
def sameP (r ρ : Int → Int) : Prop := ∀ j : Int, (∀ k : Int, 0 ≤ k → k < 24 → ¬ j = 192 + 5 * k) → ρ j = r j
theorem sameP.refl (r : Int → Int) : sameP r r := fun _ _ => rfl
theorem sameP.put {r ρ : Int → Int} (h : sameP r ρ) {k v : Int} (hk : 0 ≤ k ∧ k < 24) : sameP r (putA ρ k v) := fun j hj => by rw [putA_ne _ _ (hj k hk.1 hk.2)]; exact h j hj
theorem sameP.lo {r ρ : Int → Int} (h : sameP r ρ) {j : Int} (hj : j < 192) : ρ j = r j := h j (fun k h1 h2 => by omega)
theorem sameP.all {r ρ : Int → Int} (h : sameP r ρ) (k : Int) : rOf ρ k = rOf r k ∧ rLo ρ k = rLo r k ∧ rEa ρ k = rEa r k ∧ rLa ρ k = rLa r k ∧ rP ρ k = rP r k ∧ rFr ρ k = rFr r k ∧ rTo ρ k = rTo r k ∧ rHas ρ k = rHas r k :=
  ⟨h _ (fun x _ _ => by omega), h _ (fun x _ _ => by omega), h _ (fun x _ _ => by omega), h _ (fun x _ _ => by omega), h _ (fun x _ _ => by omega), h _ (fun x _ _ => by omega), h _ (fun x _ _ => by omega), h _ (fun x _ _ => by omega)⟩
def laidV (ρ : Int → Int) (f6 : Int) (g2 : Int → Int) : Prop := (∀ j : Int, 0 ≤ j → j < 144 → g2 j = covF ρ j) ∧ f6 = fallS ρ
theorem laidV.fl {r ρ : Int → Int} {f6 : Int} {g2 : Int → Int} (h : laidV ρ f6 g2) (hR : RW ρ) (hs : sameP r ρ) : f6 = flS (neF r) g2 := by
  rw [h.2, ← fallS_flat hR, flS_congr (cv' := covF ρ) h.1]
  exact flS_ne (fun j h1 h2 => hs.lo (by omega))
theorem laidV.bd {ρ : Int → Int} {f6 : Int} {g2 : Int → Int} (h : laidV ρ f6 g2) (hR : RW ρ) : ∀ j : Int, 0 ≤ j → j < 144 → -100 ≤ g2 j ∧ g2 j ≤ 100 := fun j h1 h2 => by
  rw [h.1 j h1 h2]
  have := covF_bd hR j
  omega
theorem laidV_put {r ρ : Int → Int} {f6 : Int} {g2 : Int → Int} (h : laidV ρ f6 g2) (hR : RW ρ) (hs : sameP r ρ) {k t0 : Int} (hk : 0 ≤ k ∧ k < r 3) (h0 : rAt ρ k = 0) (ht : rEa r k ≤ t0 ∧ t0 ≤ rLa r k) : laidV (putA ρ k (t0 + 1)) (flS (neF r) (addC g2 (48 * rP r (rOf r k) + t0) (rLo r k) (-1))) (addC g2 (48 * rP r (rOf r k) + t0) (rLo r k) (-1)) := by
  have q := hs.all k
  have q2 := hs.all (rOf r k)
  have e3 : ρ 3 = r 3 := hs.lo (by omega)
  have h2 := hR.pa2 (k := k) (by omega)
  have hn := hR.n
  have h3 := (hR.pa (k := k) (by omega)).2.1
  have hM := hR.mv (k := k) (v := t0 + 1) (by omega) (Or.inr (by omega))
  have c1 : ∀ j : Int, 0 ≤ j → j < 144 → addC g2 (48 * rP r (rOf r k) + t0) (rLo r k) (-1) j = covF (putA ρ k (t0 + 1)) j := fun j h1 h2 => by
    rw [pz_put hR (by omega) h0 (by omega) ⟨h1, h2⟩, q.1, q.2.1, q2.2.2.2.2.1]
    unfold addC
    rw [h.1 j h1 h2]
  refine ⟨c1, ?_⟩
  rw [← fallS_flat hM, flS_congr (cv' := covF (putA ρ k (t0 + 1))) c1]
  exact flS_ne (fun j h1 h2 => by rw [neF_put hk.1 ⟨h1, h2⟩]; exact (hs.lo (by omega)).symm)
theorem laidV_take {r ρ : Int → Int} {f6 : Int} {g2 : Int → Int} (h : laidV ρ f6 g2) (hR : RW ρ) (hs : sameP r ρ) {k t0 : Int} (hk : 0 ≤ k ∧ k < r 3) (h0 : rAt ρ k = t0 + 1) (ht : 0 ≤ t0) : laidV (putA ρ k 0) (flS (neF r) (addC g2 (48 * rP r (rOf r k) + t0) (rLo r k) 1)) (addC g2 (48 * rP r (rOf r k) + t0) (rLo r k) 1) := by
  have q := hs.all k
  have q2 := hs.all (rOf r k)
  have e3 : ρ 3 = r 3 := hs.lo (by omega)
  have h2 := hR.pa2 (k := k) (by omega)
  have h2b := (hR.pa (k := k) (by omega)).2.2.2
  have hn := hR.n
  have h3 := (hR.pa (k := k) (by omega)).2.1
  have hM := hR.mv (k := k) (v := 0) (by omega) (Or.inl rfl)
  have c1 : ∀ j : Int, 0 ≤ j → j < 144 → addC g2 (48 * rP r (rOf r k) + t0) (rLo r k) 1 j = covF (putA ρ k 0) j := fun j h1 h2 => by
    rw [pz_take hR (by omega) h0 (by omega) ⟨h1, h2⟩, q.1, q.2.1, q2.2.2.2.2.1]
    unfold addC
    rw [h.1 j h1 h2]
  refine ⟨c1, ?_⟩
  rw [← fallS_flat hM, flS_congr (cv' := covF (putA ρ k 0)) c1]
  exact flS_ne (fun j h1 h2 => by rw [neF_put hk.1 ⟨h1, h2⟩]; exact (hs.lo (by omega)).symm)
/-- a row of which only the first z pauses are placed -/
def bareR (r : Int → Int) (z : Int) : Int → Int := fun j => if 192 + 5 * z ≤ j ∧ j < 312 ∧ (j - 192) % 5 = 0 then 0 else r j
theorem bareR_at (r : Int → Int) {z k : Int} (hz : 0 ≤ z) (hk : 0 ≤ k ∧ k < 24) : rAt (bareR r z) k = if k < z then rAt r k else 0 := by
  unfold rAt bareR
  by_cases c : k < z
  · rw [if_pos c, if_neg (by omega)]
  · rw [if_neg c, if_pos (by omega)]
theorem bareR_same (r : Int → Int) {z : Int} (hz : 0 ≤ z) : sameP r (bareR r z) := fun j hj => by
  unfold bareR
  rw [if_neg (fun q => hj ((j - 192) / 5) (by omega) (by omega) (by omega))]
theorem RW_same {r ρ : Int → Int} (h : RW r) (hs : sameP r ρ) (ha : ∀ k : Int, 0 ≤ k → k < 24 → rAt ρ k = 0 ∨ rAt ρ k = rAt r k) : RW ρ := by
  have hn := h.n
  have e : ∀ j : Int, j < 192 → ρ j = r j := fun j hj => hs.lo hj
  refine ⟨by rw [e 0 (by omega)]; exact h.1, by rw [e 1 (by omega)]; exact h.2.1, by rw [e 2 (by omega)]; exact h.2.2.1, by rw [e 3 (by omega)]; exact h.2.2.2.1, fun j h1 h2 => by rw [e j (by omega)]; exact h.2.2.2.2.1 j h1 h2, fun p t h1 h2 h3 h4 => ?_, fun s h1 h2 => ?_, fun k h1 h2 => ?_, fun k h1 h2 => ?_⟩
  · rw [e 0 (by omega)] at h1
    have := h.need0 ⟨h1, h2⟩ ⟨h3, h4⟩
    unfold rNe at this ⊢
    rw [e _ (by omega)]; exact this
  · rw [e 2 (by omega)] at h2
    have q := hs.all s
    have qf : rFi ρ s = rFi r s := e _ (by omega)
    rw [q.2.2.2.2.1, q.2.2.2.2.2.1, q.2.2.2.2.2.2.1, q.2.2.2.2.2.2.2, qf, e 0 (by omega), e 3 (by omega)]
    obtain ⟨a1, a2, a3, a4, a5⟩ := h.2.2.2.2.2.2.1 s h1 h2
    exact ⟨a1, a2, a3, a4, fun k h3 h4 => by rw [(hs.all k).1]; exact a5 k h3 h4⟩
  · rw [e 3 (by omega)] at h2
    have q := hs.all k
    rw [q.1, q.2.1, q.2.2.1, q.2.2.2.1, (hs.all (rOf r k)).2.2.2.2.2.1, (hs.all (rOf r k)).2.2.2.2.2.2.1, e 2 (by omega)]
    obtain ⟨a1, a2, a3, a4⟩ := h.pa ⟨h1, h2⟩
    refine ⟨a1, a2, a3, ?_⟩
    rcases ha k h1 (by omega) with c | c
    · exact Or.inl c
    · rw [c]; exact a4
  · rw [e 3 (by omega)] at h1
    rcases ha k (by omega) h2 with c | c
    · exact c
    · rw [c]; exact h.at0 ⟨h1, h2⟩
theorem bareR_RW {r : Int → Int} (h : RW r) {z : Int} (hz : 0 ≤ z) : RW (bareR r z) := RW_same h (bareR_same r hz) (fun k h1 h2 => by
  rw [bareR_at r hz ⟨h1, h2⟩]
  split
  · exact Or.inr rfl
  · exact Or.inl rfl)
theorem bareR_put (r : Int → Int) {z : Int} (hz : 0 ≤ z ∧ z < 24) : putA (bareR r z) z (rAt r z) = bareR r (z + 1) := by
  funext j
  by_cases c : j = 192 + 5 * z
  · subst c
    show uI _ (192 + 5 * z) _ _ = _
    rw [uI_eq]
    unfold bareR rAt
    rw [if_neg (by omega)]
  · rw [putA_ne _ _ c]
    unfold bareR
    by_cases d : 192 + 5 * z ≤ j ∧ j < 312 ∧ (j - 192) % 5 = 0
    · rw [if_pos d, if_pos (by omega)]
    · rw [if_neg d, if_neg (by omega)]
theorem bareR_skip (r : Int → Int) {z : Int} (hz : 0 ≤ z ∧ z < 24) (h : rAt r z = 0) : bareR r z = bareR r (z + 1) := by
  rw [← bareR_put r hz]
  have e : rAt (bareR r z) z = rAt r z := by rw [bareR_at r hz.1 hz, if_neg (by omega), h]
  rw [← e, putA_self]
theorem bareR_end {r : Int → Int} (h : RW r) {z : Int} (hz : r 3 ≤ z) : bareR r z = r := by
  have hn := h.n
  funext j
  unfold bareR
  by_cases d : 192 + 5 * z ≤ j ∧ j < 312 ∧ (j - 192) % 5 = 0
  · rw [if_pos d]
    have := h.at0 (k := (j - 192) / 5) (by omega)
    unfold rAt at this
    rw [show 192 + 5 * ((j - 192) / 5) = j by omega] at this
    exact this.symm
  · rw [if_neg d]
theorem laidV_0 {r : Int → Int} {du g : Int → Int} (h : RW r) (hd : ∀ j : Int, 0 ≤ j → j < 144 → du j = duF r j) (hg : ∀ j : Int, 0 ≤ j → j < 144 → g j = du j) : laidV (bareR r 0) (flS (neF r) g) g := by
  have hn := h.n
  have hB := bareR_RW h (z := 0) (by omega)
  have hs := bareR_same r (z := 0) (by omega)
  have e3 : bareR r 0 3 = r 3 := hs.lo (by omega)
  have e2 : bareR r 0 2 = r 2 := hs.lo (by omega)
  have c1 : ∀ j : Int, 0 ≤ j → j < 144 → g j = covF (bareR r 0) j := fun j h1 h2 => by
    rw [hg j h1 h2, hd j h1 h2]
    unfold duF covF coverS
    have z1 : pausS (bareR r 0) (j / 48) (j % 48) = 0 := by
      unfold pausS
      rw [e3, show sumI (pzAt (bareR r 0) (j / 48) (j % 48)) (r 3).toNat = sumI (fun _ => 0) (r 3).toNat from sumI_congr _ (fun k h3 h4 => oneIf_0 (fun q => q.2.1 (by rw [bareR_at r (by omega) (by omega), if_neg (by omega)]))), sumI_zero]
    have z2 : dutyS (bareR r 0) (j / 48) (j % 48) = dutyS r (j / 48) (j % 48) := by
      unfold dutyS
      rw [e2]
      refine sumI_congr _ (fun s _ _ => oneIf_congr ?_)
      have q := hs.all s
      rw [q.2.2.2.2.1, q.2.2.2.2.2.1, q.2.2.2.2.2.2.1]
    rw [z1, z2]
    omega
  refine ⟨c1, ?_⟩
  rw [← fallS_flat hB, flS_congr (cv' := covF (bareR r 0)) c1]
  exact flS_ne (fun j h1 h2 => (hs.lo (by omega)).symm)
/-- the least by slots, but for one -/
def fitsN (r : Int → Int) (k n t : Int) : Prop := fitsAt r k t ∧ ¬ t = n
def lsTo (r : Int → Int) (k n t b : Int) : Prop := (b = -1 ∧ ∀ u : Int, u < t → ¬ fitsN r k n u) ∨ (fitsN r k n b ∧ b < t ∧ (∀ u : Int, u < t → fitsN r k n u → scoreS r k b ≤ scoreS r k u) ∧ ∀ u : Int, u < b → fitsN r k n u → scoreS r k b < scoreS r k u)
def isLs (r : Int → Int) (k n b : Int) : Prop := (b = -1 ∧ ∀ u : Int, ¬ fitsN r k n u) ∨ (fitsN r k n b ∧ (∀ u : Int, fitsN r k n u → scoreS r k b ≤ scoreS r k u) ∧ ∀ u : Int, u < b → fitsN r k n u → scoreS r k b < scoreS r k u)
theorem lsTo_0 (r : Int → Int) (k n : Int) : lsTo r k n (rEa r k) (-1) := Or.inl ⟨rfl, fun u hu h => by have := h.1.1.1; omega⟩
theorem lsTo_skip {r : Int → Int} {k n t b : Int} (h : lsTo r k n t b) (hn : ¬ fitsN r k n t) : lsTo r k n (t + 1) b := by
  have key : ∀ u : Int, u < t + 1 → fitsN r k n u → u < t := fun u hu hf => by
    by_cases e : u = t
    · subst e; exact absurd hf hn
    · omega
  rcases h with ⟨h1, h2⟩ | ⟨h1, h2, h4, h5⟩
  · exact Or.inl ⟨h1, fun u hu hf => h2 u (key u hu hf) hf⟩
  · exact Or.inr ⟨h1, by omega, fun u hu hf => h4 u (key u hu hf) hf, h5⟩
theorem lsTo_worse {r : Int → Int} {k n t b : Int} (h : lsTo r k n t b) (hb : ¬ b = -1) (hl : scoreS r k b ≤ scoreS r k t) : lsTo r k n (t + 1) b := by
  rcases h with ⟨h1, h2⟩ | ⟨h1, h2, h4, h5⟩
  · exact absurd h1 hb
  · refine Or.inr ⟨h1, by omega, fun u hu hf => ?_, h5⟩
    by_cases e : u = t
    · subst e; exact hl
    · exact h4 u (by omega) hf
theorem lsTo_better {r : Int → Int} {k n t b : Int} (h : lsTo r k n t b) (hf : fitsN r k n t) (hl : b = -1 ∨ scoreS r k t < scoreS r k b) (h0 : 0 ≤ rEa r k) : lsTo r k n (t + 1) t := by
  have key : ∀ u : Int, u < t → fitsN r k n u → scoreS r k t < scoreS r k u := by
    intro u hu hu2
    rcases h with ⟨h1, h2⟩ | ⟨h1, h2, h4, h5⟩
    · exact absurd hu2 (h2 u hu)
    · have h6 := h4 u hu hu2
      have h7 := h1.1.1.1
      rcases hl with hl | hl
      · omega
      · omega
  refine Or.inr ⟨hf, by omega, fun u hu hu2 => ?_, key⟩
  by_cases e : u = t
  · subst e; exact Int.le_refl _
  · exact Int.le_of_lt (key u (by omega) hu2)
theorem lsTo_end {r : Int → Int} {k n t b : Int} (h : lsTo r k n t b) (ht : rLa r k < t) : isLs r k n b := by
  have key : ∀ u : Int, fitsN r k n u → u < t := fun u hu => by have := hu.1.1.2; omega
  rcases h with ⟨h1, h2⟩ | ⟨h1, h2, h4, h5⟩
  · exact Or.inl ⟨h1, fun u hu => h2 u (key u hu) hu⟩
  · exact Or.inr ⟨h1, fun u hu => h4 u (key u hu) hu, h5⟩
theorem isLs_best {r : Int → Int} {k b : Int} (h0 : 0 ≤ rEa r k) (h : isLs r k (-1) b) : (b = -1 ∧ isBest r k (-2)) ∨ (¬ b = -1 ∧ 0 ≤ b ∧ isBest r k b) := by
  have key : ∀ u : Int, fitsAt r k u → fitsN r k (-1) u := fun u hu => ⟨hu, by have := hu.1.1; omega⟩
  rcases h with ⟨h1, h2⟩ | ⟨h1, h4, h5⟩
  · exact Or.inl ⟨h1, Or.inl ⟨rfl, fun u hu => h2 u (key u hu)⟩⟩
  · have := h1.1.1.1
    exact Or.inr ⟨h1.2, by omega, Or.inr ⟨h1.1, fun u hu => h4 u (key u hu), fun u hu hf => h5 u hu (key u hf)⟩⟩
theorem lsTo_bd {r : Int → Int} (h0 : RW r) {k n t b : Int} (hk : 0 ≤ k ∧ k < r 3) (h : lsTo r k n t b) : b = -1 ∨ (rEa r k ≤ b ∧ b ≤ rLa r k ∧ fitsAt r k b) := by
  rcases h with ⟨h1, h2⟩ | ⟨h1, h2, h4, h5⟩
  · exact Or.inl h1
  · exact Or.inr ⟨h1.1.1.1, h1.1.1.2, h1.1⟩
theorem betTo_lskip {r : Int → Int} {x b l : Int} (h : betTo r x (rEa r x) b l) (ha : ∀ u : Int, cand r x u → l ≤ scoreS r x u) : betTo r (x + 1) (rEa r (x + 1)) b l := by
  refine betTo_on h (fun y u hb => ?_) (fun y u hc hb => ?_)
  · rcases hb with hb | hb
    · exact Or.inl (by omega)
    · exact Or.inl (by omega)
  · by_cases e : y = x
    · subst e; exact Or.inr (ha u hc)
    · left
      have := hc.2.2.2.1.1
      rcases hb with hb | hb
      · exact Or.inl (by omega)
      · have e2 := hb.1; subst e2; exact absurd hb.2 (by omega)
theorem betTo_ltake {r : Int → Int} {x b l s : Int} (h : betTo r x (rEa r x) b l) (hc : cand r x s) (ha : ∀ u : Int, cand r x u → scoreS r x s ≤ scoreS r x u) (hb : ∀ u : Int, u < s → cand r x u → scoreS r x s < scoreS r x u) (hl : scoreS r x s < l) : betTo r (x + 1) (rEa r (x + 1)) (100 * x + s) (scoreS r x s) := by
  have h0 : l ≤ fallS r ∧ ∀ y u : Int, cand r y u → bef y u x (rEa r x) → l ≤ scoreS r y u := by
    rcases h with ⟨h1, h2, h3⟩ | ⟨y, v, h1, h2, h3, h4, h5, h6, h7⟩
    · exact ⟨by omega, h3⟩
    · exact ⟨by omega, h6⟩
  have key : ∀ y u : Int, cand r y u → y < x → l ≤ scoreS r y u := fun y u h1 h2 => h0.2 y u h1 (Or.inl h2)
  refine Or.inr ⟨x, s, rfl, hc, Or.inl (by omega), rfl, by omega, fun y u h1 h2 => ?_, fun y u h1 h2 => ?_⟩
  · by_cases e : y = x
    · subst e; exact ha u h1
    · have h3 := h1.2.2.2.1.1
      have h4 : y < x := by
        rcases h2 with h2 | h2
        · omega
        · have e2 := h2.1; subst e2; exact absurd h2.2 (by omega)
      have := key y u h1 h4
      omega
  · rcases h2 with h2 | h2
    · have := key y u h1 h2; omega
    · have e2 := h2.1
      subst e2
      exact hb u h2.2 h1
