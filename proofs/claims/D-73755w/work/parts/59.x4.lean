/-! X: acts -/
set_option maxRecDepth 100000
theorem ct_x_remembers {D : bk_D} {o : Nat} {a b sa pa : Nat → Nat} {F : Nat → Int} {G : Nat → Int → Int} {bk : Int → Option Nat} {r : Int → Int} {P : Nat → Int} {du : Int → Int} {hb : Nat → Option (Nat × bE)} {ex : gC} {ba : Nat → Nat} {hist : Int → Int → Int} {um : Int} (hu : 0 ≤ um ∧ um ≤ 10) (hum : F 11 = um) (hbk : bkOK bk ba um) (hR : RW r) (hpl : xPl r P du) (hA : atOK r G) : bk_K D yX1_remembers (.code yX1_remembers cX1_remembers 1 none) ({ frames := 2, cells := 1, slots := 24, locals := 79 }) [.ref o] (xw o a F G bk b sa pa r P du (hbF ba hist um) ex) (bk_pv fun w => ∃ (ba2 : Nat → Nat) (bk2 : Int → Option Nat), w = (xw o a (uF F 11 (pushU um)) G bk2 b sa pa r P du (hbF ba2 (pushH hist um r) (pushU um)) ex) ∧ bkOK bk2 ba2 (pushU um)) bk_nox := by
  refine bk_ofV (own := "BreakSetter") (L0 := [some (.ref o)]) (by decide) rfl (Nat.le_of_ble_eq_true rfl) rfl bk_ov (fun Γ hct hret hthr => ?_)
  have hn := hR.n
  obtain ⟨⟨p0, p1, p2, p3⟩, hdu⟩ := id hpl
  refine br_aload_0 dX1_remembers_0 ?_
  refine br_xg_X1_149 (v := F 11) rfl dX1_remembers_1 ?_
  refine br_bipush dX1_remembers_4 (by decide) ?_
  refine br_icmp_ne (tgt := 34) dX1_remembers_6 (by decide) (by omega) (fun c6 => ?_) (fun c6 => ?_)
  · have hu10 : ¬ um = 10 := by omega
    refine br_aload_0 dX1_remembers_34 ?_
    refine br_xg_X1_42 dX1_remembers_35 ?_
    refine br_aload_0 dX1_remembers_38 ?_
    refine br_xg_X1_149 (v := F 11) rfl dX1_remembers_39 ?_
    refine br_topi (y := um) (by omega) ?_
    refine br_aload_0 dX1_remembers_42 ?_
    refine br_xg_X1_24 dX1_remembers_43 ?_
    skip
    refine br_clone (i := 7) (j := 0) (N := 24) (f := G 7) 15 (um : Int).toNat rfl q1010 q1011 q551 q552 q1012 q1013 ⟨Nat.le_of_ble_eq_true rfl, Nat.le_of_ble_eq_true rfl⟩ (Nat.le_of_ble_eq_true rfl) (Nat.le_of_ble_eq_true rfl) (Nat.le_of_ble_eq_true rfl) dX1_remembers_46 (fun qn => ?_)
    refine br_arr (i := 15) (j := (um : Int).toNat) (f := G 7) (f' := fun z => rAt r z - 1) (gset_eq _ _ _ _) (fun z q1 q2 => hA z q1 (by omega)) ?_
    refine bk_V.world (w' := (xw o a F G bk b sa pa r P du (hbF (fun j => if j = (um : Int).toNat then qn else (ba) j) (pushH (hist) um r) (um + 1)) ex)) (by rw [gset_gset, xw_hb, hbF_push (by omega)]) ?_
    have hcl : (xw o a F G bk b sa pa r P du (hbF (fun j => if j = (um : Int).toNat then qn else (ba) j) (pushH (hist) um r) (um + 1)) ex) 15 (um : Int).toNat = some (qn, bI 24 (fun z => rAt r z - 1)) := by
      rw [xw_15, ← hbF_push (by omega)]
      exact if_pos rfl
    refine br_castI (i := 15) (j := (um : Int).toNat) hcl q177 dX1_remembers_49 ?_
    refine br_aast5 (i := 6) (j := 0) (i2 := 15) (j2 := (um : Int).toNat) (N := 10) (f := bk) rfl hcl (by omega) (by decide) dX1_remembers_52 ?_
    refine bk_V.world (w' := (xw o a F G (uQ (bk) um (some qn)) b sa pa r P du (hbF (fun j => if j = (um : Int).toNat then qn else (ba) j) (pushH (hist) um r) (um + 1)) ex)) xw_bk ?_
    refine br_aload_0 dX1_remembers_53 ?_
    refine br_dup dX1_remembers_54 rfl ?_
    refine br_xg_X1_149 (v := F 11) rfl dX1_remembers_55 ?_
    refine br_iconst dX1_remembers_58 ?_
    refine br_iadd dX1_remembers_59 ?_
    refine br_xp_X1_149 dX1_remembers_60 ?_
    exact br_return dX1_remembers_63 (by decide) (by decide) (hret _ _ (⟨rfl, _, _, by rw [show pushU um = um + 1 by unfold pushU; rw [if_neg hu10], hum], by rw [show pushU um = um + 1 by unfold pushU; rw [if_neg hu10]]; exact bkOK_push hbk (by omega)⟩))
  · have hu10 : um = 10 := by omega
    refine br_aload_0 dX1_remembers_9 ?_
    refine br_xg_X1_42 dX1_remembers_10 ?_
    refine br_iconst dX1_remembers_13 ?_
    refine br_aload_0 dX1_remembers_14 ?_
    refine br_xg_X1_42 dX1_remembers_15 ?_
    refine br_iconst dX1_remembers_18 ?_
    refine br_bipush dX1_remembers_19 (by decide) ?_
    refine br_copyQ5 (i := 6) (j := 0) (i2 := 6) (j2 := 0) (Nf := 10) (Ng := 10) (f := bk) (g := bk) rfl rfl (fun z q1 q2 y q3 => ?_) q248 q250 q249 q99 (by omega) (by decide) ⟨Nat.le_of_ble_eq_true rfl, Nat.le_of_ble_eq_true rfl⟩ (Nat.le_of_ble_eq_true rfl) dX1_remembers_21 ?_
    · rw [hbk z (by omega) (by omega)] at q3
      cases q3
      exact ⟨15, z.toNat, 24, _, (if_pos (by omega) : hbF ba hist um z.toNat = _)⟩
    refine bk_V.world (w' := (xw o a F G (cpyQ bk bk 1 0 9) b sa pa r P du (hbF ba hist um) ex)) xw_bk ?_
    refine br_by (w' := (xw o a F G (cpyQ bk bk 1 0 9) b sa pa r P du (hbF (fun j => ba (j + 1)) (fun k => hist (k + 1)) 9) ex)) (fun i _ => i) (fun i j => if i = 15 then j + 1 else j) (fun i j q h => ?_) (fun i j i' j' q q' _ _ h1 h2 => ?_) ?_
    · by_cases c : i = 15
      · subst c
        rw [xw_15] at h
        rw [if_pos rfl, xw_15]
        unfold hbF at h ⊢
        by_cases d : (j : Int) < 9
        · rw [if_pos d] at h
          rw [if_pos (by omega)]
          exact h
        · rw [if_neg d] at h; cases h
      · rw [if_neg c]
        unfold xw at h ⊢
        rw [if_neg c] at h ⊢
        exact h
    · have h1 : i = i' := h1
      subst h1
      refine ⟨rfl, ?_⟩
      by_cases c : i = 15
      · rw [if_pos c, if_pos c] at h2; omega
      · rw [if_neg c, if_neg c] at h2; exact h2
    have hbk9 := bkOK_shift (bk := bk) (ba := ba) (by rw [show (10 : Int) = um by omega]; exact hbk)
    refine br_aload_0 dX1_remembers_24 ?_
    refine br_dup dX1_remembers_25 rfl ?_
    refine br_xg_X1_149 (v := F 11) rfl dX1_remembers_26 ?_
    refine br_iconst dX1_remembers_29 ?_
    refine br_isub dX1_remembers_30 ?_
    refine br_xp_X1_149 dX1_remembers_31 ?_
    refine br_aload_0 dX1_remembers_34 ?_
    refine br_xg_X1_42 dX1_remembers_35 ?_
    refine br_aload_0 dX1_remembers_38 ?_
    refine br_xg_X1_149 (v := (F 11) - 1) rfl dX1_remembers_39 ?_
    refine br_topi (y := 9) (by omega) ?_
    refine br_aload_0 dX1_remembers_42 ?_
    refine br_xg_X1_24 dX1_remembers_43 ?_
    skip
    refine br_clone (i := 7) (j := 0) (N := 24) (f := G 7) 15 (9 : Int).toNat rfl q1010 q1011 q551 q552 q1012 q1013 ⟨Nat.le_of_ble_eq_true rfl, Nat.le_of_ble_eq_true rfl⟩ (Nat.le_of_ble_eq_true rfl) (Nat.le_of_ble_eq_true rfl) (Nat.le_of_ble_eq_true rfl) dX1_remembers_46 (fun qn => ?_)
    refine br_arr (i := 15) (j := (9 : Int).toNat) (f := G 7) (f' := fun z => rAt r z - 1) (gset_eq _ _ _ _) (fun z q1 q2 => hA z q1 (by omega)) ?_
    refine bk_V.world (w' := (xw o a (uF F 11 ((F 11) - 1)) G (cpyQ bk bk 1 0 9) b sa pa r P du (hbF (fun j => if j = (9 : Int).toNat then qn else (fun j => ba (j + 1)) j) (pushH (fun k => hist (k + 1)) 9 r) (9 + 1)) ex)) (by rw [gset_gset, xw_hb, hbF_push (by omega)]) ?_
    have hcl : (xw o a (uF F 11 ((F 11) - 1)) G (cpyQ bk bk 1 0 9) b sa pa r P du (hbF (fun j => if j = (9 : Int).toNat then qn else (fun j => ba (j + 1)) j) (pushH (fun k => hist (k + 1)) 9 r) (9 + 1)) ex) 15 (9 : Int).toNat = some (qn, bI 24 (fun z => rAt r z - 1)) := by
      rw [xw_15, ← hbF_push (by omega)]
      exact if_pos rfl
    refine br_castI (i := 15) (j := (9 : Int).toNat) hcl q177 dX1_remembers_49 ?_
    refine br_aast5 (i := 6) (j := 0) (i2 := 15) (j2 := (9 : Int).toNat) (N := 10) (f := cpyQ bk bk 1 0 9) rfl hcl (by omega) (by decide) dX1_remembers_52 ?_
    refine bk_V.world (w' := (xw o a (uF F 11 ((F 11) - 1)) G (uQ (cpyQ bk bk 1 0 9) 9 (some qn)) b sa pa r P du (hbF (fun j => if j = (9 : Int).toNat then qn else (fun j => ba (j + 1)) j) (pushH (fun k => hist (k + 1)) 9 r) (9 + 1)) ex)) xw_bk ?_
    refine br_aload_0 dX1_remembers_53 ?_
    refine br_dup dX1_remembers_54 rfl ?_
    refine br_xg_X1_149 (v := (F 11) - 1) rfl dX1_remembers_55 ?_
    refine br_iconst dX1_remembers_58 ?_
    refine br_iadd dX1_remembers_59 ?_
    refine br_xp_X1_149 dX1_remembers_60 ?_
    refine bk_V.world (w' := (xw o a (uF F 11 (((F 11) - 1) + 1)) G (uQ (cpyQ bk bk 1 0 9) 9 (some qn)) b sa pa r P du (hbF (fun j => if j = (9 : Int).toNat then qn else (fun j => ba (j + 1)) j) (pushH (fun k => hist (k + 1)) 9 r) (9 + 1)) ex)) (congrArg (fun F9 => (xw o a F9 G (uQ (cpyQ bk bk 1 0 9) 9 (some qn)) b sa pa r P du (hbF (fun j => if j = (9 : Int).toNat then qn else (fun j => ba (j + 1)) j) (pushH (fun k => hist (k + 1)) 9 r) (9 + 1)) ex)) (uF_uF _ _ _ _)) ?_
    exact br_return dX1_remembers_63 (by decide) (by decide) (hret _ _ (⟨rfl, _, _, by rw [show F 11 - 1 + 1 = pushU um by unfold pushU; rw [if_pos hu10]; omega, pushH_full, show pushU um = 9 + 1 by unfold pushU; rw [if_pos hu10]; rfl, hu10], by rw [show pushU um = 9 + 1 by unfold pushU; rw [if_pos hu10]; rfl]; exact bkOK_push hbk9 (by omega)⟩))

theorem ct_x_place {D : bk_D} {o : Nat} {ex : gC} {r : Int → Int} {um : Int} {hist : Int → Int → Int} {tp : Int → Int} {len flt : Int} {w : gC} (h : XS o ex r um hist tp len flt w) (hR : RW r) {s q : Int} (hs : -2147483648 ≤ s ∧ s < 2147483648) (hq : -2147483648 ≤ q ∧ q < 2147483648) (hV : RV r) : bk_K D yX1_place (.code yX1_place cX1_place 4 (some (FieldType.int))) ({ frames := 3, cells := 1, slots := 24, locals := 99 }) [.ref o, .int (iI s), .int (iI q)] w (bk_pi fun v w' => (placeOk r s q ∧ v = 0 ∧ XS o ex (putA r s (q + 1)) (pushU um) (pushH hist um r) tp len flt w') ∨ (¬ placeOk r s q ∧ v = placeS r s q ∧ XS o ex r um hist tp len flt w')) bk_nox := by
  obtain ⟨a, b, sa, pa, F, G, bk, P, du, ba, rfl, hpl, hA, hbk, hum, hlen, hflt, htp, hu, hln⟩ := h
  have hn := hR.n
  obtain ⟨⟨p0, p1, p2, p3⟩, hdu⟩ := id hpl
  refine bk_ofV (own := "BreakSetter") (L0 := [some (.ref o), some (.int (iI s)), some (.int (iI q)), none]) (by decide) rfl (Nat.le_of_ble_eq_true rfl) rfl bk_oi (fun Γ hct hret hthr => ?_)
  have hw := whyS_bd r s q
  have hwq : whyQ r s q = 0 ↔ (0 ≤ s ∧ s < r 3) ∧ (0 ≤ q ∧ q ≤ 47) ∧ whyS r s q = 0 := by
    unfold whyQ
    split <;> omega
  have hwq2 : whyQ r s q = -1 ∨ ((0 ≤ s ∧ s < r 3) ∧ (0 ≤ q ∧ q ≤ 47) ∧ whyQ r s q = whyS r s q) := by
    unfold whyQ
    split <;> omega
  have hwq3 : ¬ ((0 ≤ s ∧ s < r 3) ∧ (0 ≤ q ∧ q ≤ 47)) → whyQ r s q = -1 := fun z => by
    unfold whyQ
    rw [if_neg z]
  have hvp : ¬ ((0 ≤ s ∧ s < r 3) ∧ ¬ rAt r s = 0 ∧ rAt r s - 1 = q) ∨ whyS r s q = 0 := by
    by_cases z : (0 ≤ s ∧ s < r 3) ∧ ¬ rAt r s = 0 ∧ rAt r s - 1 = q
    · right
      rw [← z.2.2]
      exact whyS_0 (hV s z.1.1 z.1.2 z.2.1)
    · exact Or.inl z
  refine br_aload_0 dX1_place_0 ?_
  refine br_iload_1 dX1_place_1 ?_
  refine br_iload_2 dX1_place_2 ?_
  refine br_VF2 (i := 0) (j := 0) (ct_x_why (by omega) (by omega) hR hpl hA) lk_X1_175 ⟨Nat.le_of_ble_eq_true rfl, Nat.le_of_ble_eq_true rfl⟩ ⟨Nat.le_of_ble_eq_true rfl, Nat.le_of_ble_eq_true rfl⟩ rfl rfl (Nat.le_of_ble_eq_true rfl) dX1_place_3 ?_
  refine br_istore_3 dX1_place_6 rfl ?_
  refine br_iload_3 dX1_place_7 ?_
  refine br_if_ne (tgt := 21) dX1_place_8 (by decide) (by omega) (fun c8 => ?_) (fun c8 => ?_)
  · refine br_iload_3 dX1_place_21 ?_
    refine br_if_ne (tgt := 29) dX1_place_22 (by decide) (by omega) (fun c22 => ?_) (fun q => absurd q (by omega))
    refine br_iload_3 dX1_place_29 ?_
    exact br_ireturn dX1_place_30 (by decide) (by decide) (hret _ _ (⟨_, rfl, Or.inr ⟨by unfold placeOk; omega, (by rw [placeS_x hR hV (fun z => by omega)]; exact (if_neg c8).symm), ⟨a, b, sa, pa, _, _, bk, P, du, ba, rfl, hpl, hA, hbk, hum, hlen, hflt, htp, hu, hln⟩⟩⟩))
  · have hz := hwq.mp c8
    have hps := hR.pa2 (k := s) (by omega)
    have has := hA s (by omega) (by omega)
    refine br_aload_0 dX1_place_11 ?_
    refine br_xg_X1_24 dX1_place_12 ?_
    refine br_iload_1 dX1_place_15 ?_
    refine br_xl_7 (v := G 7 s) (by omega) rfl dX1_place_16 ?_
    refine br_iload_2 dX1_place_17 ?_
    refine br_icmp_ne (tgt := 31) dX1_place_18 (by decide) (by omega) (fun c18 => ?_) (fun c18 => ?_)
    · refine br_aload_0 dX1_place_31 ?_
      refine br_Vv0 (i := 0) (j := 0) (ct_x_remembers (hb := hbF ba hist um) (hist := hist) hu (show F 11 = um from hum) hbk hR hpl hA) lk_X1_231 ⟨Nat.le_of_ble_eq_true rfl, Nat.le_of_ble_eq_true rfl⟩ ⟨Nat.le_of_ble_eq_true rfl, Nat.le_of_ble_eq_true rfl⟩ rfl rfl (Nat.le_of_ble_eq_true rfl) dX1_place_32 (fun w_ hw_ => ?_)
      obtain ⟨ba2, bk2, rfl, hbk2⟩ := hw_
      have hpu := pushU_bd hu
      refine br_aload_0 dX1_place_35 ?_
      refine br_xg_X1_24 dX1_place_36 ?_
      refine br_iload_1 dX1_place_39 ?_
      refine br_iload_2 dX1_place_40 ?_
      refine br_xs_7 (by omega) dX1_place_41 ?_
      refine br_iconst dX1_place_42 ?_
      refine br_row (putA r s (q + 1)) ((sameP.refl r).put (by omega)) (by omega) ?_
      exact br_ireturn dX1_place_43 (by decide) (by decide) (hret _ _ (⟨_, rfl, Or.inl ⟨by unfold placeOk; omega, rfl, ⟨a, b, sa, pa, _, _, bk2, P, du, ba2, rfl, xPl_same hpl ((sameP.refl r).put (by omega)), by have := atOK_put hA (k := s) (v := q + 1) (by omega); rw [show q + 1 - 1 = q by omega] at this; exact this, hbk2, rfl, hlen, hflt, htp, by omega, hln⟩⟩⟩))
    · refine br_iload_3 dX1_place_21 ?_
      refine br_if_ne (tgt := 29) dX1_place_22 (by decide) (by omega) (fun q => absurd q (by omega)) (fun c22 => ?_)
      refine br_iconst dX1_place_25 ?_
      refine br_goto (tgt := 30) dX1_place_26 (by decide) ?_
      exact br_ireturn dX1_place_30 (by decide) (by decide) (hret _ _ (⟨_, rfl, Or.inr ⟨by unfold placeOk; omega, (by rw [placeS_x hR hV (fun z => by omega)]; exact (if_pos c8).symm), ⟨a, b, sa, pa, _, _, bk, P, du, ba, rfl, hpl, hA, hbk, hum, hlen, hflt, htp, hu, hln⟩⟩⟩))

theorem ct_x_take {D : bk_D} {o : Nat} {ex : gC} {r : Int → Int} {um : Int} {hist : Int → Int → Int} {tp : Int → Int} {len flt : Int} {w : gC} (h : XS o ex r um hist tp len flt w) (hR : RW r) {s : Int} (hs : -2147483648 ≤ s ∧ s < 2147483648) : bk_K D yX1_take (.code yX1_take cX1_take 3 (some (FieldType.int))) ({ frames := 3, cells := 1, slots := 24, locals := 99 }) [.ref o, .int (iI s)] w (bk_pi fun v w' => (takeOk r s ∧ v = rAt r s - 1 ∧ XS o ex (putA r s 0) (pushU um) (pushH hist um r) tp len flt w') ∨ (¬ takeOk r s ∧ v = -1 ∧ XS o ex r um hist tp len flt w')) bk_nox := by
  obtain ⟨a, b, sa, pa, F, G, bk, P, du, ba, rfl, hpl, hA, hbk, hum, hlen, hflt, htp, hu, hln⟩ := h
  have hn := hR.n
  obtain ⟨⟨p0, p1, p2, p3⟩, hdu⟩ := id hpl
  refine bk_ofV (own := "BreakSetter") (L0 := [some (.ref o), some (.int (iI s)), none]) (by decide) rfl (Nat.le_of_ble_eq_true rfl) rfl bk_oi (fun Γ hct hret hthr => ?_)
  refine br_aload_0 dX1_take_0 ?_
  refine br_iload_1 dX1_take_1 ?_
  refine br_VZ1 (i := 0) (j := 0) (ct_x_isPause (by omega) hR hpl hA) lk_X1_165 ⟨Nat.le_of_ble_eq_true rfl, Nat.le_of_ble_eq_true rfl⟩ ⟨Nat.le_of_ble_eq_true rfl, Nat.le_of_ble_eq_true rfl⟩ rfl rfl (Nat.le_of_ble_eq_true rfl) dX1_take_2 (fun c2 => ?_) (fun c2 => ?_)
  · refine br_if_eq (tgt := 18) dX1_take_5 (by decide) (by decide) (fun q => absurd q (by decide)) (fun _ => ?_)
    refine br_aload_0 dX1_take_8 ?_
    refine br_xg_X1_24 dX1_take_9 ?_
    have hps := hR.pa2 (k := s) (by omega)
    have has := hA s (by omega) (by omega)
    refine br_iload_1 dX1_take_12 ?_
    refine br_xl_7 (v := G 7 s) (by omega) rfl dX1_take_13 ?_
    refine br_iconst dX1_take_14 ?_
    refine br_icmp_ne (tgt := 20) dX1_take_15 (by decide) (by omega) (fun c15 => ?_) (fun c15 => ?_)
    · refine br_aload_0 dX1_take_20 ?_
      refine br_Vv0 (i := 0) (j := 0) (ct_x_remembers (hb := hbF ba hist um) (hist := hist) hu (show F 11 = um from hum) hbk hR hpl hA) lk_X1_231 ⟨Nat.le_of_ble_eq_true rfl, Nat.le_of_ble_eq_true rfl⟩ ⟨Nat.le_of_ble_eq_true rfl, Nat.le_of_ble_eq_true rfl⟩ rfl rfl (Nat.le_of_ble_eq_true rfl) dX1_take_21 (fun w_ hw_ => ?_)
      obtain ⟨ba2, bk2, rfl, hbk2⟩ := hw_
      have hpu := pushU_bd hu
      refine br_aload_0 dX1_take_24 ?_
      refine br_xg_X1_24 dX1_take_25 ?_
      refine br_iload_1 dX1_take_28 ?_
      refine br_xl_7 (v := G 7 s) (by omega) rfl dX1_take_29 ?_
      refine br_istore_2 dX1_take_30 rfl ?_
      refine br_aload_0 dX1_take_31 ?_
      refine br_xg_X1_24 dX1_take_32 ?_
      refine br_iload_1 dX1_take_35 ?_
      refine br_iconst dX1_take_36 ?_
      refine br_xs_7 (by omega) dX1_take_37 ?_
      refine br_row (putA r s 0) ((sameP.refl r).put (by omega)) (by omega) ?_
      refine br_iload_2 dX1_take_38 ?_
      exact br_ireturn dX1_take_39 (by decide) (by decide) (hret _ _ (⟨_, by rw [has], Or.inl ⟨by unfold takeOk; omega, rfl, ⟨a, b, sa, pa, _, _, bk2, P, du, ba2, rfl, xPl_same hpl ((sameP.refl r).put (by omega)), by have := atOK_put hA (k := s) (v := 0) (by omega); exact this, hbk2, rfl, hlen, hflt, htp, by omega, hln⟩⟩⟩))
    · refine br_iconst dX1_take_18 ?_
      exact br_ireturn dX1_take_19 (by decide) (by decide) (hret _ _ (⟨_, rfl, Or.inr ⟨by unfold takeOk; omega, rfl, ⟨a, b, sa, pa, _, _, bk, P, du, ba, rfl, hpl, hA, hbk, hum, hlen, hflt, htp, hu, hln⟩⟩⟩))
  · refine br_if_eq (tgt := 18) dX1_take_5 (by decide) (by decide) (fun _ => ?_) (fun q => absurd q (by decide))
    refine br_iconst dX1_take_18 ?_
    exact br_ireturn dX1_take_19 (by decide) (by decide) (hret _ _ (⟨_, rfl, Or.inr ⟨by unfold takeOk; omega, rfl, ⟨a, b, sa, pa, _, _, bk, P, du, ba, rfl, hpl, hA, hbk, hum, hlen, hflt, htp, hu, hln⟩⟩⟩))

