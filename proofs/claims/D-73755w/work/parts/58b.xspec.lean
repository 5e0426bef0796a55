/-! x: its whole state -/
set_option maxRecDepth 100000
theorem shF_same {r r' : Int → Int} (h : sameP r r') {k : Int} (hk : 0 ≤ k ∧ k < 8) : shF r' k = shF r k := by
  have q := h.all k
  have e : rFi r' k = rFi r k := h.lo (by omega)
  unfold shF shFi
  rw [q.2.2.2.2.1, q.2.2.2.2.2.1, q.2.2.2.2.2.2.1, q.2.2.2.2.2.2.2, e]
theorem paF_same {r r' : Int → Int} (h : sameP r r') (k : Int) : paF r' k = paF r k := by
  have q := h.all k
  unfold paF
  rw [q.1, q.2.1, q.2.2.1, q.2.2.2.1]
theorem xw_row {o : Nat} {a b sa pa : Nat → Nat} {F : Nat → Int} {G : Nat → Int → Int} {bk : Int → Option Nat} {r r' : Int → Int} {P : Nat → Int} {du : Int → Int} {hb : Nat → Option (Nat × bE)} {ex : gC} (hs : sameP r r') (h2 : P 2 ≤ 8) : gset (xw o a F G bk b sa pa r P du hb ex) 11 0 (some (b 3, bI 144 (fun z => r' (4 + z)))) = xw o a F G bk b sa pa r' P du hb ex := by
  funext i j
  unfold gset xw
  by_cases hi : i = 11 ∧ j = 0
  · obtain ⟨rfl, rfl⟩ := hi
    rfl
  · rw [if_neg hi]
    by_cases h8 : i < 8
    · rw [if_pos h8, if_pos h8]
    · rw [if_neg h8, if_neg h8]
      by_cases h15 : i < 15
      · rw [if_pos h15, if_pos h15]
        obtain ⟨m, hm⟩ : ∃ m, m = i - 8 := ⟨_, rfl⟩
        rw [← hm]
        match m, hm with
        | 0, _ => rfl
        | 1, _ => rfl
        | 2, _ => rfl
        | 3, hm =>
          show (if j = 0 then _ else none) = (if j = 0 then _ else none)
          rw [if_neg (by omega), if_neg (by omega)]
        | 4, _ => rfl
        | 5, _ =>
          show (if (j : Int) < P 2 then some (sa j, bO 5 (shF r j)) else none) = (if (j : Int) < P 2 then some (sa j, bO 5 (shF r' j)) else none)
          by_cases c : (j : Int) < P 2
          · rw [if_pos c, if_pos c, shF_same hs ⟨by omega, by omega⟩]
          · rw [if_neg c, if_neg c]
        | 6, _ =>
          show (if (j : Int) < P 3 then some (pa j, bO 6 (paF r j)) else none) = (if (j : Int) < P 3 then some (pa j, bO 6 (paF r' j)) else none)
          rw [paF_same hs]
        | n + 7, _ => rfl
      · rw [if_neg h15, if_neg h15]
theorem br_row {Γ : bk_G} {D : bk_D} {R : Room} {own : String} {cc : ByteArray} {tb : List ExceptionTableEntry} {k n : Nat} {L : List (Option Value)} {st : List Value} {pc : Nat} {o : Nat} {a b sa pa : Nat → Nat} {F : Nat → Int} {G : Nat → Int → Int} {bk : Int → Option Nat} {r : Int → Int} {P : Nat → Int} {du : Int → Int} {hb : Nat → Option (Nat × bE)} {ex : gC} (r' : Int → Int) (hs : sameP r r') (h2 : P 2 ≤ 8) (kk : bk_V Γ D R own cc tb k n (xw o a F G bk b sa pa r' P du hb ex) L st pc) : bk_V Γ D R own cc tb k n (xw o a F G bk b sa pa r P du hb ex) L st pc :=
  br_arr (i := 11) (j := 0) (N := 144) (f := fun z => r (4 + z)) (f' := fun z => r' (4 + z)) rfl (fun z q1 q2 => (hs.lo (by omega)).symm) (by rw [xw_row hs h2]; exact kk)
theorem xPl_same {r r' : Int → Int} {P : Nat → Int} {du : Int → Int} (h : xPl r P du) (hs : sameP r r') : xPl r' P du := by
  obtain ⟨⟨h0, h1, h2, h3⟩, hd⟩ := h
  refine ⟨⟨by rw [h0]; exact (hs.lo (by omega)).symm, by rw [h1]; exact (hs.lo (by omega)).symm, by rw [h2]; exact (hs.lo (by omega)).symm, by rw [h3]; exact (hs.lo (by omega)).symm⟩, fun j q1 q2 => ?_⟩
  rw [hd j q1 q2]
  unfold duF dutyS
  rw [hs.lo (show (2 : Int) < 192 by omega)]
  refine sumI_congr _ (fun s _ _ => oneIf_congr ?_)
  have q := hs.all s
  rw [q.2.2.2.2.1, q.2.2.2.2.2.1, q.2.2.2.2.2.2.1]
theorem atOK_put {r : Int → Int} {G : Nat → Int → Int} (h : atOK r G) {k v : Int} (hk : 0 ≤ k ∧ k < 24) : atOK (putA r k v) (uG G 7 (uI (G 7) k (v - 1))) := fun x h1 h2 => by
  show uI (G 7) k (v - 1) x = _
  by_cases e : x = k
  · subst e; rw [uI_eq, putA_At]
  · rw [uI_ne _ _ e, putA_At' _ _ _ e]; exact h x h1 h2
def sb (z : Int) : Int := if z < 128 then z else z - 256
/-- a BreakSetter's state: the row, how many rows are kept and which, the tape and how much of it, the last fault -/
def XS (o : Nat) (ex : gC) (r : Int → Int) (um : Int) (hist : Int → Int → Int) (tp : Int → Int) (len flt : Int) (w : gC) : Prop :=
  ∃ (a b sa pa : Nat → Nat) (F : Nat → Int) (G : Nat → Int → Int) (bk : Int → Option Nat) (P : Nat → Int) (du : Int → Int) (ba : Nat → Nat), w = xw o a F G bk b sa pa r P du (hbF ba hist um) ex ∧ xPl r P du ∧ atOK r G ∧ bkOK bk ba um ∧ F 11 = um ∧ F 1 = len ∧ F 12 = flt ∧ (∀ z : Int, 0 ≤ z → z < len → G 1 z = sb (tp z)) ∧ (0 ≤ um ∧ um ≤ 10) ∧ (0 ≤ len ∧ len ≤ 640)
def RV (r : Int → Int) : Prop := ∀ k : Int, 0 ≤ k → k < r 3 → ¬ rAt r k = 0 → fitsAt r k (rAt r k - 1)
theorem placeS_x {r : Int → Int} {s q : Int} (hR : RW r) (hV : RV r) (h : ¬ (whyQ r s q = 0 ∧ ¬ rAt r s - 1 = q)) : placeS r s q = if whyQ r s q = 0 then -1 else whyQ r s q := by
  unfold placeS
  by_cases zv : (0 ≤ s ∧ s < r 3) ∧ (0 ≤ q ∧ q ≤ 47)
  · have e : whyQ r s q = whyS r s q := by unfold whyQ; rw [if_pos zv]
    have hps := hR.pa2 (k := s) zv.1
    rw [e] at h ⊢
    by_cases c : rAt r s - 1 = q
    · have hw : whyS r s q = 0 := by
        rw [← c]
        exact whyS_0 (hV s zv.1.1 zv.1.2 (by omega))
      rw [if_neg (fun z => z.2.2 c), if_pos hw]
    · rw [if_pos ⟨zv.1, zv.2, c⟩, if_neg (fun z => h ⟨z, c⟩)]
  · have e : whyQ r s q = -1 := by unfold whyQ; rw [if_neg zv]
    rw [if_neg (fun z => zv ⟨z.1, z.2.1⟩), e, if_neg (by omega)]
