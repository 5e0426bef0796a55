/-! THE LEAST, the reference: all shifts -/
set_option maxRecDepth 100000
def keepG (G G1 : Nat → Int → Int) : Prop := G1 1 = G 1 ∧ G1 2 = G 2 ∧ G1 4 = G 4
theorem k_match {r sp tk σ : Int → Int} {p : Int} {A : Int → Prop} (hc : kCons sp tk σ) (hv : kVal r σ) (hA : ∀ x : Int, 0 ≤ x → x < 8 → (A x ↔ 0 ≤ σ x)) (hsp : ∀ t : Int, 0 ≤ t → t < 48 → sp t = spareS r p t) : matchS (winLo r) (winHi r) (capS r p) A := by
  refine ⟨σ, fun x h1 h2 h3 => ?_, fun t h1 h2 => ?_⟩
  · have := (hA x h1 h2).mp h3
    rcases hv x h1 h2 with q | q
    · omega
    · exact q.2.2
  · have h3 := hc t h1 h2
    have h4 : cnt8 (fun s => A s ∧ σ s = t) ≤ cnt8 (fun x => σ x = t) := cnt8_mono (fun x _ _ q => q.2)
    unfold capS
    rw [← hsp t h1 h2]
    omega
theorem k_nomatch {r sp tk σ seen seen' : Int → Int} {p s : Int} {A : Int → Prop} (hs : 0 ≤ s ∧ s < 8) (hc : kCons sp tk σ) (hA : ∀ x : Int, 0 ≤ x → x < 8 → (A x ↔ 0 ≤ σ x)) (hsA : ¬ A s) (hsp : ∀ t : Int, 0 ≤ t → t < 48 → sp t = spareS r p t) (h0 : ∀ t : Int, 0 ≤ t → t < 48 → seen t = 0) (hf : kFail r sp tk σ seen s seen') : ¬ matchS (winLo r) (winHi r) (capS r p) (fun x => A x ∨ x = s) := by
  obtain ⟨V, ⟨v1, v2⟩, v3, v4⟩ := hf
  have hcap : ∀ t : Int, 0 ≤ t → t < 48 → capS r p t = pos0 (sp t) := fun t h1 h2 => by unfold capS; rw [hsp t h1 h2]
  refine hall_fail (σ := σ) (V := V) (R := fun t => seen' t = 1) hs hsA v1 (fun x h1 h2 h3 => ?_) (fun x h1 h2 h3 t h4 h5 h6 h7 h8 => v3 x h3 t h4 h5 h6 h7 ?_) (fun t h1 h2 h3 => ?_)
  · rcases v2 x h3 with q | q
    · exact Or.inl q
    · exact Or.inr ((hA x h1 h2).mpr q.2)
  · rw [hcap t h4 h5] at h8
    unfold pos0 at h8
    split at h8 <;> omega
  · rcases v4 t h1 h2 h3 with q | ⟨q, q2⟩
    · have := h0 t h1 h2; omega
    · have h6 := hc t h1 h2
      have e : cnt8 (fun x => σ x = t) = cnt8 (fun x => (A x ∧ V x) ∧ σ x = t) := cnt8_congr (fun x h4 h5 => ⟨fun z => ⟨⟨(hA x h4 h5).mpr (by omega), q2 x h4 h5 z⟩, z⟩, fun z => z.2⟩)
      rw [hcap t h1 h2, ← e, ← h6.1]
      have := (cnt8_bd (fun x => σ x = t)).1
      unfold pos0
      split <;> omega
theorem acc_skip {r : Int → Int} {p s u : Int} {A : Int → Prop} (h0 : 0 ≤ s) (h : accR r p s.toNat A u) (hp : ¬ rP r s = p) : accR r p (s + 1).toNat A u := by
  rw [show (s + 1).toNat = s.toNat + 1 by omega]
  exact ⟨A, u, h, Or.inl ⟨by rw [Int.toNat_of_nonneg h0]; exact hp, rfl, rfl⟩⟩
theorem acc_ok {r : Int → Int} {p s u : Int} {A : Int → Prop} (h0 : 0 ≤ s) (h : accR r p s.toNat A u) (hp : rP r s = p) (hm : matchS (winLo r) (winHi r) (capS r p) (fun x => A x ∨ x = s)) : accR r p (s + 1).toNat (fun x => A x ∨ x = s) u := by
  rw [show (s + 1).toNat = s.toNat + 1 by omega]
  exact ⟨A, u, h, Or.inr (Or.inl (by rw [Int.toNat_of_nonneg h0]; exact ⟨hp, hm, rfl, rfl⟩))⟩
theorem acc_no {r : Int → Int} {p s u : Int} {A : Int → Prop} (h0 : 0 ≤ s) (h : accR r p s.toNat A u) (hp : rP r s = p) (hm : ¬ matchS (winLo r) (winHi r) (capS r p) (fun x => A x ∨ x = s)) : accR r p (s + 1).toNat A (u + 1) := by
  rw [show (s + 1).toNat = s.toNat + 1 by omega]
  exact ⟨A, u, h, Or.inr (Or.inr (by rw [Int.toNat_of_nonneg h0]; exact ⟨hp, hm, rfl, rfl⟩))⟩
/-- between shifts: who is in, and where -/
def kSt (r : Int → Int) (p : Int) (sp tk σ : Int → Int) (s u : Int) (A : Int → Prop) : Prop := accR r p s.toNat A u ∧ (∀ x : Int, 0 ≤ x → x < 8 → (A x ↔ 0 ≤ σ x)) ∧ (∀ x : Int, A x → x < s) ∧ kCons sp tk σ ∧ kVal r σ ∧ (0 ≤ u ∧ u ≤ s)
theorem kSt_skip {r : Int → Int} {p : Int} {sp tk σ : Int → Int} {s u : Int} {A : Int → Prop} (h0 : 0 ≤ s) (h : kSt r p sp tk σ s u A) (hp : ¬ rP r s = p) : kSt r p sp tk σ (s + 1) u A := ⟨acc_skip h0 h.1 hp, h.2.1, fun x q => by have := h.2.2.1 x q; omega, h.2.2.2.1, h.2.2.2.2.1, by have := h.2.2.2.2.2; omega⟩
theorem kSt_ok {r : Int → Int} {p : Int} {sp tk σ seen tk' σ' : Int → Int} {s u : Int} {A : Int → Prop} (h0 : 0 ≤ s ∧ s < 8) (hsp : ∀ t : Int, 0 ≤ t → t < 48 → sp t = spareS r p t) (h : kSt r p sp tk σ s u A) (hp : rP r s = p) (hS : kSucc r sp σ seen s tk' σ') : kSt r p sp tk' σ' (s + 1) u (fun x => A x ∨ x = s) := by
  obtain ⟨a1, a2, a3, a4, a5, a6⟩ := h
  obtain ⟨s1, s2, s3, s4, s5⟩ := hS
  have hσs : σ s = -1 := by
    rcases a5 s h0.1 h0.2 with q | q
    · exact q
    · have := a3 s ((a2 s h0.1 h0.2).mpr (by omega)); omega
  have hc : kCons sp tk' σ' := fun t h1 h2 => by
    have h5 := s5 t h1 h2
    rw [oneIf_0 (P := σ s = t) (by omega)] at h5
    exact ⟨by omega, h5.2⟩
  have hA : ∀ x : Int, 0 ≤ x → x < 8 → ((A x ∨ x = s) ↔ 0 ≤ σ' x) := fun x h1 h2 => by
    by_cases e : x = s
    · subst e; exact ⟨fun _ => s3.1, fun _ => Or.inr rfl⟩
    · have h4 := s4 x h1 h2 e
      have h6 := a2 x h1 h2
      have h7 := a5 x h1 h2
      have h8 := s2 x h1 h2
      constructor
      · rintro (q | q)
        · have := h6.mp q
          rcases h8 with z | z
          · have := h4.mp z; omega
          · omega
        · exact absurd q e
      · intro q
        refine Or.inl (h6.mpr ?_)
        rcases h7 with z | z
        · have := h4.mpr z; omega
        · omega
  exact ⟨acc_ok h0.1 a1 hp (k_match hc s2 hA hsp), hA, fun x q => by
    rcases q with q | q
    · have := a3 x q; omega
    · omega, hc, s2, by omega⟩
theorem kSt_no {r : Int → Int} {p : Int} {sp tk σ seen seen' : Int → Int} {s u : Int} {A : Int → Prop} (h0 : 0 ≤ s ∧ s < 8) (hsp : ∀ t : Int, 0 ≤ t → t < 48 → sp t = spareS r p t) (h : kSt r p sp tk σ s u A) (hp : rP r s = p) (hz : ∀ t : Int, 0 ≤ t → t < 48 → seen t = 0) (hF : kFail r sp tk σ seen s seen') : kSt r p sp tk σ (s + 1) (u + 1) A := by
  obtain ⟨a1, a2, a3, a4, a5, a6⟩ := h
  exact ⟨acc_no h0.1 a1 hp (k_nomatch h0 a4 a2 (fun q => by have := a3 s q; omega) hsp hz hF), a2, fun x q => by have := a3 x q; omega, a4, a5, by omega⟩
theorem kSt_0 {r sp tk σ : Int → Int} {p : Int} (h6 : ∀ t : Int, 0 ≤ t → t < 48 → tk t = 0) (h7 : ∀ x : Int, 0 ≤ x → x < 8 → σ x = -1) : kSt r p sp tk σ 0 0 (fun _ => False) := ⟨⟨rfl, rfl⟩, fun x h1 h2 => by rw [h7 x h1 h2]; constructor <;> intro q; exact absurd q id; omega, fun x q => absurd q id, fun t h1 h2 => by
  have e : cnt8 (fun x => σ x = t) = sumI (fun _ => 0) 8 := sumI_congr 8 (fun x h3 h4 => oneIf_0 (fun q => by have q : σ x = t := q; have := h7 x h3 (by omega); omega))
  rw [h6 t h1 h2, e, sumI_zero]
  refine ⟨rfl, ?_⟩
  unfold pos0
  split <;> omega, fun x h1 h2 => Or.inl (h7 x h1 h2), by omega⟩
theorem lackS_step {r : Int → Int} {p t : Int} (ht : 0 ≤ t) : sumI (fun t => pos0 (rNe r p t - dutyS r p t)) (t + 1).toNat = sumI (fun t => pos0 (rNe r p t - dutyS r p t)) t.toNat + pos0 (- spareS r p t) := by
  rw [sumI_step _ ht]
  unfold spareS
  congr 2
  omega
theorem spareS_bd {r : Int → Int} {p t : Int} (h : RW r) (hp : 0 ≤ p ∧ p < 3) (ht : 0 ≤ t ∧ t < 48) : -90 ≤ spareS r p t ∧ spareS r p t ≤ 8 := by
  have h1 := dutyS_bd h p t
  have h2 := h.need hp ht
  unfold spareS
  omega
