/-! x: undo takes a kept array for its own -/
set_option maxRecDepth 100000
theorem br_undo {Γ : bk_G} {D : bk_D} {R : Room} {own : String} {cc : ByteArray} {tb : List ExceptionTableEntry} {k n : Nat} {L : List (Option Value)} {st : List Value} {pc : Nat} {o : Nat} {a b sa pa : Nat → Nat} {F : Nat → Int} {G : Nat → Int → Int} {bk : Int → Option Nat} {r : Int → Int} {P : Nat → Int} {du : Int → Int} {ba : Nat → Nat} {hist : Int → Int → Int} {um : Int} {ex : gC} (hu : 0 < um)
    (kk : bk_V Γ D R own cc tb k n (xw o (fun k => if k = 7 then ba (um - 1).toNat else a k) F (uG G 7 (fun z => rAt (hist (um - 1)) z - 1)) bk b sa pa r P du (hbF ba hist (um - 1)) ex) L st pc) : bk_V Γ D R own cc tb k n (gset (xw o a F G bk b sa pa r P du (hbF ba hist um) ex) 0 0 (some (o, bO 0 ((xF a b F).set 4 (.ref (ba (um - 1).toNat)))))) L st pc := by
  refine br_by (fun i _ => if i = 7 then 15 else i) (fun i j => if i = 7 then (um - 1).toNat else j) (fun i j q h => ?_) (fun i j i' j' q q' ha hb h1 h2 => ?_) kk
  · by_cases c : i = 7
    · subst c
      rw [if_pos rfl, if_pos rfl, gset_ne _ _ (by omega), xw_15]
      unfold hbF
      rw [if_pos (by omega), show (((um - 1).toNat : Nat) : Int) = um - 1 by omega]
      unfold xw at h
      rw [if_pos (by omega)] at h
      by_cases c0 : j = 0
      · rw [if_pos c0] at h; exact h
      · rw [if_neg c0] at h; cases h
    · rw [if_neg c, if_neg c]
      unfold xw at h
      by_cases c8 : i < 8
      · rw [if_pos c8] at h
        by_cases c0 : j = 0
        · rw [if_pos c0] at h
          subst c0
          match i, c8, c, h with
          | 0, _, _, h => exact h
          | 1, _, _, h => exact h
          | 2, _, _, h => exact h
          | 3, _, _, h => exact h
          | 4, _, _, h => exact h
          | 5, _, _, h => exact h
          | 6, _, _, h => exact h
          | 7, _, c, _ => exact absurd rfl c
          | m + 8, c8, _, _ => exact absurd c8 (by omega)
        · rw [if_neg c0] at h; cases h
      · rw [if_neg c8] at h
        rw [gset_ne _ _ (by omega)]
        unfold xw
        rw [if_neg c8]
        by_cases c15 : i < 15
        · rw [if_pos c15] at h ⊢; exact h
        · rw [if_neg c15] at h ⊢
          by_cases d : i = 15
          · rw [if_pos d] at h ⊢
            unfold hbF at h ⊢
            by_cases e : (j : Int) < um - 1
            · rw [if_pos e] at h; rw [if_pos (by omega)]; exact h
            · rw [if_neg e] at h; cases h
          · rw [if_neg d] at h ⊢; exact h
  · have h7 : ∀ (j : Nat) (q : Nat × bE), xw o (fun k => if k = 7 then ba (um - 1).toNat else a k) F (uG G 7 (fun z => rAt (hist (um - 1)) z - 1)) bk b sa pa r P du (hbF ba hist (um - 1)) ex 7 j = some q → j = 0 := fun j q h => by
      unfold xw at h
      rw [if_pos (by omega)] at h
      by_cases c0 : j = 0
      · exact c0
      · rw [if_neg c0] at h; cases h
    have h15 : ∀ (j : Nat) (q : Nat × bE), xw o (fun k => if k = 7 then ba (um - 1).toNat else a k) F (uG G 7 (fun z => rAt (hist (um - 1)) z - 1)) bk b sa pa r P du (hbF ba hist (um - 1)) ex 15 j = some q → (j : Int) < um - 1 := fun j q h => by
      rw [xw_15] at h
      unfold hbF at h
      by_cases e : (j : Int) < um - 1
      · exact e
      · rw [if_neg e] at h; cases h
    by_cases c : i = 7
    · by_cases c' : i' = 7
      · subst c; subst c'
        exact ⟨rfl, (h7 _ _ ha).trans (h7 _ _ hb).symm⟩
      · rw [if_pos c, if_neg c'] at h1 h2
        subst h1
        have := h15 _ _ hb
        omega
    · by_cases c' : i' = 7
      · rw [if_neg c, if_pos c'] at h1 h2
        subst h1
        have := h15 _ _ ha
        omega
      · rw [if_neg c, if_neg c'] at h1 h2
        exact ⟨h1, h2⟩
