/-! X: acts -/
set_option maxRecDepth 100000
theorem ct_x_remembers {D : bk_D} {o : Nat} {a b sa pa : Nat → Nat} {F : Nat → Int} {G : Nat → Int → Int} {bk : Int → Option Nat} {r : Int → Int} {P : Nat → Int} {du : Int → Int} {hb : Nat → Option (Nat × bE)} {ex : gC} {ba : Nat → Nat} {hist : Int → Int → Int} {um : Int} (hu : 0 ≤ um ∧ um ≤ 10) (hum : F 11 = um) (hbk : bkOK bk ba um) (hR : RW r) (hpl : xPl r P du) (hA : atOK r G) : bk_K D yX1_remembers (.code yX1_remembers cX1_remembers 1 none) ({ frames := 2, cells := 1, slots := 24, locals := 79 }) [.ref o] (xw o a F G bk b sa pa r P du (hbF ba hist um) ex) (bk_pv fun w => ∃ (ba2 : Nat → Nat) (bk2 : Int → Option Nat), w = (xw o a (uF F 11 (pushU um)) G bk2 b sa pa r P du (hbF ba2 (pushH hist um r) (pushU um)) ex) ∧ bkOK bk2 ba2 (pushU um)) bk_nox := by
  refine bk_ofV (own := "BreakSetter") (L0 := [some (.ref o)]) (by decide) rfl (Nat.le_of_ble_eq_true rfl) rfl bk_ov (fun Γ hct hret hthr => ?_)
  have hn := hR.n
  obtain ⟨⟨p0, p1, p2, p3⟩, hdu⟩ := id hpl
  refine br_aload_0 dX1_remembers_0 ?_
  refine br_xg_X1_149 (v := F 11) rfl dX1_remembers_1 ?_
  refine br_bipush dX1_remembers_4 (by decide) ?_
  refine br_icmp_ne (tgt := 34) dX1_remembers_6 (by decide) (by omega) (fun c6 => ?_) (fun c6 => ?_)
  · have hu10 : ¬ um = 10 := by omega
    refine br_aload_0 dX1_remembers_34 ?_
    refine br_xg_X1_42 dX1_remembers_35 ?_
    refine br_aload_0 dX1_remembers_38 ?_
    refine br_xg_X1_149 (v := F 11) rfl dX1_remembers_39 ?_
    refine br_topi (y := um) (by omega) ?_
    refine br_aload_0 dX1_remembers_42 ?_
    refine br_xg_X1_24 dX1_remembers_43 ?_
    skip
    refine br_clone (i := 7) (j := 0) (N := 24) (f := G 7) 15 (um : Int).toNat rfl q1010 q1011 q551 q552 q1012 q1013 ⟨Nat.le_of_ble_eq_true rfl, Nat.le_of_ble_eq_true rfl⟩ (Nat.le_of_ble_eq_true rfl) (Nat.le_of_ble_eq_true rfl) (Nat.le_of_ble_eq_true rfl) dX1_remembers_46 (fun qn => ?_)
    refine br_arr (i := 15) (j := (um : Int).toNat) (f := G 7) (f' := fun z => rAt r z - 1) (gset_eq _ _ _ _) (fun z q1 q2 => hA z q1 (by omega)) ?_
    refine bk_V.world (w' := (xw o a F G bk b sa pa r P du (hbF (fun j => if j = (um : Int).toNat then qn else (ba) j) (pushH (hist) um r) (um + 1)) ex)) (by rw [gset_gset, xw_hb, hbF_push (by omega)]) ?_
    have hcl : (xw o a F G bk b sa pa r P du (hbF (fun j => if j = (um : Int).toNat then qn else (ba) j) (pushH (hist) um r) (um + 1)) ex) 15 (um : Int).toNat = some (qn, bI 24 (fun z => rAt r z - 1)) := by
      rw [xw_15, ← hbF_push (by omega)]
      exact if_pos rfl
    refine br_castI (i := 15) (j := (um : Int).toNat) hcl q177 dX1_remembers_49 ?_
    refine br_aast5 (i := 6) (j := 0) (i2 := 15) (j2 := (um : Int).toNat) (N := 10) (f := bk) rfl hcl (by omega) (by decide) dX1_remembers_52 ?_
    refine bk_V.world (w' := (xw o a F G (uQ (bk) um (some qn)) b sa pa r P du (hbF (fun j => if j = (um : Int).toNat then qn else (ba) j) (pushH (hist) um r) (um + 1)) ex)) xw_bk ?_
    refine br_aload_0 dX1_remembers_53 ?_
    refine br_dup dX1_remembers_54 rfl ?_
    refine br_xg_X1_149 (v := F 11) rfl dX1_remembers_55 ?_
    refine br_iconst dX1_remembers_58 ?_
    refine br_iadd dX1_remembers_59 ?_
    refine br_xp_X1_149 dX1_remembers_60 ?_
    exact br_return dX1_remembers_63 (by decide) (by decide) (hret _ _ (⟨rfl, _, _, by rw [show pushU um = um + 1 by unfold pushU; rw [if_neg hu10], hum], by rw [show pushU um = um + 1 by unfold pushU; rw [if_neg hu10]]; exact bkOK_push hbk (by omega)⟩))
  · have hu10 : um = 10 := by omega
    refine br_aload_0 dX1_remembers_9 ?_
    refine br_xg_X1_42 dX1_remembers_10 ?_
    refine br_iconst dX1_remembers_13 ?_
    refine br_aload_0 dX1_remembers_14 ?_
    refine br_xg_X1_42 dX1_remembers_15 ?_
    refine br_iconst dX1_remembers_18 ?_
    refine br_bipush dX1_remembers_19 (by decide) ?_
    refine br_copyQ5 (i := 6) (j := 0) (i2 := 6) (j2 := 0) (Nf := 10) (Ng := 10) (f := bk) (g := bk) rfl rfl (fun z q1 q2 y q3 => ?_) q248 q250 q249 q99 (by omega) (by decide) ⟨Nat.le_of_ble_eq_true rfl, Nat.le_of_ble_eq_true rfl⟩ (Nat.le_of_ble_eq_true rfl) dX1_remembers_21 ?_
    · rw [hbk z (by omega) (by omega)] at q3
      cases q3
      exact ⟨15, z.toNat, 24, _, (if_pos (by omega) : hbF ba hist um z.toNat = _)⟩
    refine bk_V.world (w' := (xw o a F G (cpyQ bk bk 1 0 9) b sa pa r P du (hbF ba hist um) ex)) xw_bk ?_
    refine br_by (w' := (xw o a F G (cpyQ bk bk 1 0 9) b sa pa r P du (hbF (fun j => ba (j + 1)) (fun k => hist (k + 1)) 9) ex)) (fun i _ => i) (fun i j => if i = 15 then j + 1 else j) (fun i j q h => ?_) (fun i j i' j' q q' _ _ h1 h2 => ?_) ?_
    · by_cases c : i = 15
      · subst c
        rw [xw_15] at h
        rw [if_pos rfl, xw_15]
        unfold hbF at h ⊢
        by_cases d : (j : Int) < 9
        · rw [if_pos d] at h
          rw [if_pos (by omega)]
          exact h
        · rw [if_neg d] at h; cases h
      · rw [if_neg c]
        unfold xw at h ⊢
        rw [if_neg c] at h ⊢
        exact h
    · have h1 : i = i' := h1
      subst h1
      refine ⟨rfl, ?_⟩
      by_cases c : i = 15
      · rw [if_pos c, if_pos c] at h2; omega
      · rw [if_neg c, if_neg c] at h2; exact h2
    have hbk9 := bkOK_shift (bk := bk) (ba := ba) (by rw [show (10 : Int) = um by omega]; exact hbk)
    refine br_aload_0 dX1_remembers_24 ?_
    refine br_dup dX1_remembers_25 rfl ?_
    refine br_xg_X1_149 (v := F 11) rfl dX1_remembers_26 ?_
    refine br_iconst dX1_remembers_29 ?_
    refine br_isub dX1_remembers_30 ?_
    refine br_xp_X1_149 dX1_remembers_31 ?_
    refine br_aload_0 dX1_remembers_34 ?_
    refine br_xg_X1_42 dX1_remembers_35 ?_
    refine br_aload_0 dX1_remembers_38 ?_
    refine br_xg_X1_149 (v := (F 11) - 1) rfl dX1_remembers_39 ?_
    refine br_topi (y := 9) (by omega) ?_
    refine br_aload_0 dX1_remembers_42 ?_
    refine br_xg_X1_24 dX1_remembers_43 ?_
    skip
    refine br_clone (i := 7) (j := 0) (N := 24) (f := G 7) 15 (9 : Int).toNat rfl q1010 q1011 q551 q552 q1012 q1013 ⟨Nat.le_of_ble_eq_true rfl, Nat.le_of_ble_eq_true rfl⟩ (Nat.le_of_ble_eq_true rfl) (Nat.le_of_ble_eq_true rfl) (Nat.le_of_ble_eq_true rfl) dX1_remembers_46 (fun qn => ?_)
    refine br_arr (i := 15) (j := (9 : Int).toNat) (f := G 7) (f' := fun z => rAt r z - 1) (gset_eq _ _ _ _) (fun z q1 q2 => hA z q1 (by omega)) ?_
    refine bk_V.world (w' := (xw o a (uF F 11 ((F 11) - 1)) G (cpyQ bk bk 1 0 9) b sa pa r P du (hbF (fun j => if j = (9 : Int).toNat then qn else (fun j => ba (j + 1)) j) (pushH (fun k => hist (k + 1)) 9 r) (9 + 1)) ex)) (by rw [gset_gset, xw_hb, hbF_push (by omega)]) ?_
    have hcl : (xw o a (uF F 11 ((F 11) - 1)) G (cpyQ bk bk 1 0 9) b sa pa r P du (hbF (fun j => if j = (9 : Int).toNat then qn else (fun j => ba (j + 1)) j) (pushH (fun k => hist (k + 1)) 9 r) (9 + 1)) ex) 15 (9 : Int).toNat = some (qn, bI 24 (fun z => rAt r z - 1)) := by
      rw [xw_15, ← hbF_push (by omega)]
      exact if_pos rfl
    refine br_castI (i := 15) (j := (9 : Int).toNat) hcl q177 dX1_remembers_49 ?_
    refine br_aast5 (i := 6) (j := 0) (i2 := 15) (j2 := (9 : Int).toNat) (N := 10) (f := cpyQ bk bk 1 0 9) rfl hcl (by omega) (by decide) dX1_remembers_52 ?_
    refine bk_V.world (w' := (xw o a (uF F 11 ((F 11) - 1)) G (uQ (cpyQ bk bk 1 0 9) 9 (some qn)) b sa pa r P du (hbF (fun j => if j = (9 : Int).toNat then qn else (fun j => ba (j + 1)) j) (pushH (fun k => hist (k + 1)) 9 r) (9 + 1)) ex)) xw_bk ?_
    refine br_aload_0 dX1_remembers_53 ?_
    refine br_dup dX1_remembers_54 rfl ?_
    refine br_xg_X1_149 (v := (F 11) - 1) rfl dX1_remembers_55 ?_
    refine br_iconst dX1_remembers_58 ?_
    refine br_iadd dX1_remembers_59 ?_
    refine br_xp_X1_149 dX1_remembers_60 ?_
    refine bk_V.world (w' := (xw o a (uF F 11 (((F 11) - 1) + 1)) G (uQ (cpyQ bk bk 1 0 9) 9 (some qn)) b sa pa r P du (hbF (fun j => if j = (9 : Int).toNat then qn else (fun j => ba (j + 1)) j) (pushH (fun k => hist (k + 1)) 9 r) (9 + 1)) ex)) (congrArg (fun F9 => (xw o a F9 G (uQ (cpyQ bk bk 1 0 9) 9 (some qn)) b sa pa r P du (hbF (fun j => if j = (9 : Int).toNat then qn else (fun j => ba (j + 1)) j) (pushH (fun k => hist (k + 1)) 9 r) (9 + 1)) ex)) (uF_uF _ _ _ _)) ?_
    exact br_return dX1_remembers_63 (by decide) (by decide) (hret _ _ (⟨rfl, _, _, by rw [show F 11 - 1 + 1 = pushU um by unfold pushU; rw [if_pos hu10]; omega, pushH_full, show pushU um = 9 + 1 by unfold pushU; rw [if_pos hu10]; rfl, hu10], by rw [show pushU um = 9 + 1 by unfold pushU; rw [if_pos hu10]; rfl]; exact bkOK_push hbk9 (by omega)⟩))

theorem ct_x_place {D : bk_D} {o : Nat} {ex : gC} {r : Int → Int} {um : Int} {hist : Int → Int → Int} {tp : Int → Int} {len flt : Int} {w : gC} (h : XS o ex r um hist tp len flt w) (hR : RW r) {s q : Int} (hs : -2147483648 ≤ s ∧ s < 2147483648) (hq : -2147483648 ≤ q ∧ q < 2147483648) (hV : RV r) : bk_K D yX1_place (.code yX1_place cX1_place 4 (some (FieldType.int))) ({ frames := 3, cells := 1, slots := 24, locals := 99 }) [.ref o, .int (iI s), .int (iI q)] w (bk_pi fun v w' => (placeOk r s q ∧ v = 0 ∧ XS o ex (putA r s (q + 1)) (pushU um) (pushH hist um r) tp len flt w') ∨ (¬ placeOk r s q ∧ v = placeS r s q ∧ XS o ex r um hist tp len flt w')) bk_nox := by
  obtain ⟨a, b, sa, pa, F, G, bk, P, du, ba, rfl, hpl, hA, hbk, hum, hlen, hflt, htp, hu, hln⟩ := h
  have hn := hR.n
  obtain ⟨⟨p0, p1, p2, p3⟩, hdu⟩ := id hpl
  refine bk_ofV (own := "BreakSetter") (L0 := [some (.ref o), some (.int (iI s)), some (.int (iI q)), none]) (by decide) rfl (Nat.le_of_ble_eq_true rfl) rfl bk_oi (fun Γ hct hret hthr => ?_)
  have hw := whyS_bd r s q
  have hwq : whyQ r s q = 0 ↔ (0 ≤ s ∧ s < r 3) ∧ (0 ≤ q ∧ q ≤ 47) ∧ whyS r s q = 0 := by
    unfold whyQ
    split <;> omega
  have hwq2 : whyQ r s q = -1 ∨ ((0 ≤ s ∧ s < r 3) ∧ (0 ≤ q ∧ q ≤ 47) ∧ whyQ r s q = whyS r s q) := by
    unfold whyQ
    split <;> omega
  have hwq3 : ¬ ((0 ≤ s ∧ s < r 3) ∧ (0 ≤ q ∧ q ≤ 47)) → whyQ r s q = -1 := fun z => by
    unfold whyQ
    rw [if_neg z]
  have hvp : ¬ ((0 ≤ s ∧ s < r 3) ∧ ¬ rAt r s = 0 ∧ rAt r s - 1 = q) ∨ whyS r s q = 0 := by
    by_cases z : (0 ≤ s ∧ s < r 3) ∧ ¬ rAt r s = 0 ∧ rAt r s - 1 = q
    · right
      rw [← z.2.2]
      exact whyS_0 (hV s z.1.1 z.1.2 z.2.1)
    · exact Or.inl z
  refine br_aload_0 dX1_place_0 ?_
  refine br_iload_1 dX1_place_1 ?_
  refine br_iload_2 dX1_place_2 ?_
  refine br_VF2 (i := 0) (j := 0) (ct_x_why (by omega) (by omega) hR hpl hA) lk_X1_175 ⟨Nat.le_of_ble_eq_true rfl, Nat.le_of_ble_eq_true rfl⟩ ⟨Nat.le_of_ble_eq_true rfl, Nat.le_of_ble_eq_true rfl⟩ rfl rfl (Nat.le_of_ble_eq_true rfl) dX1_place_3 ?_
  refine br_istore_3 dX1_place_6 rfl ?_
  refine br_iload_3 dX1_place_7 ?_
  refine br_if_ne (tgt := 21) dX1_place_8 (by decide) (by omega) (fun c8 => ?_) (fun c8 => ?_)
  · refine br_iload_3 dX1_place_21 ?_
    refine br_if_ne (tgt := 29) dX1_place_22 (by decide) (by omega) (fun c22 => ?_) (fun q => absurd q (by omega))
    refine br_iload_3 dX1_place_29 ?_
    exact br_ireturn dX1_place_30 (by decide) (by decide) (hret _ _ (⟨_, rfl, Or.inr ⟨by unfold placeOk; omega, (by rw [placeS_x hR hV (fun z => by omega)]; exact (if_neg c8).symm), ⟨a, b, sa, pa, _, _, bk, P, du, ba, rfl, hpl, hA, hbk, hum, hlen, hflt, htp, hu, hln⟩⟩⟩))
  · have hz := hwq.mp c8
    have hps := hR.pa2 (k := s) (by omega)
    have has := hA s (by omega) (by omega)
    refine br_aload_0 dX1_place_11 ?_
    refine br_xg_X1_24 dX1_place_12 ?_
    refine br_iload_1 dX1_place_15 ?_
    refine br_xl_7 (v := G 7 s) (by omega) rfl dX1_place_16 ?_
    refine br_iload_2 dX1_place_17 ?_
    refine br_icmp_ne (tgt := 31) dX1_place_18 (by decide) (by omega) (fun c18 => ?_) (fun c18 => ?_)
    · refine br_aload_0 dX1_place_31 ?_
      refine br_Vv0 (i := 0) (j := 0) (ct_x_remembers (hb := hbF ba hist um) (hist := hist) hu (show F 11 = um from hum) hbk hR hpl hA) lk_X1_231 ⟨Nat.le_of_ble_eq_true rfl, Nat.le_of_ble_eq_true rfl⟩ ⟨Nat.le_of_ble_eq_true rfl, Nat.le_of_ble_eq_true rfl⟩ rfl rfl (Nat.le_of_ble_eq_true rfl) dX1_place_32 (fun w_ hw_ => ?_)
      obtain ⟨ba2, bk2, rfl, hbk2⟩ := hw_
      have hpu := pushU_bd hu
      refine br_aload_0 dX1_place_35 ?_
      refine br_xg_X1_24 dX1_place_36 ?_
      refine br_iload_1 dX1_place_39 ?_
      refine br_iload_2 dX1_place_40 ?_
      refine br_xs_7 (by omega) dX1_place_41 ?_
      refine br_iconst dX1_place_42 ?_
      refine br_row (putA r s (q + 1)) ((sameP.refl r).put (by omega)) (by omega) ?_
      exact br_ireturn dX1_place_43 (by decide) (by decide) (hret _ _ (⟨_, rfl, Or.inl ⟨by unfold placeOk; omega, rfl, ⟨a, b, sa, pa, _, _, bk2, P, du, ba2, rfl, xPl_same hpl ((sameP.refl r).put (by omega)), by have := atOK_put hA (k := s) (v := q + 1) (by omega); rw [show q + 1 - 1 = q by omega] at this; exact this, hbk2, rfl, hlen, hflt, htp, by omega, hln⟩⟩⟩))
    · refine br_iload_3 dX1_place_21 ?_
      refine br_if_ne (tgt := 29) dX1_place_22 (by decide) (by omega) (fun q => absurd q (by omega)) (fun c22 => ?_)
      refine br_iconst dX1_place_25 ?_
      refine br_goto (tgt := 30) dX1_place_26 (by decide) ?_
      exact br_ireturn dX1_place_30 (by decide) (by decide) (hret _ _ (⟨_, rfl, Or.inr ⟨by unfold placeOk; omega, (by rw [placeS_x hR hV (fun z => by omega)]; exact (if_pos c8).symm), ⟨a, b, sa, pa, _, _, bk, P, du, ba, rfl, hpl, hA, hbk, hum, hlen, hflt, htp, hu, hln⟩⟩⟩))

theorem ct_x_take {D : bk_D} {o : Nat} {ex : gC} {r : Int → Int} {um : Int} {hist : Int → Int → Int} {tp : Int → Int} {len flt : Int} {w : gC} (h : XS o ex r um hist tp len flt w) (hR : RW r) {s : Int} (hs : -2147483648 ≤ s ∧ s < 2147483648) : bk_K D yX1_take (.code yX1_take cX1_take 3 (some (FieldType.int))) ({ frames := 3, cells := 1, slots := 24, locals := 99 }) [.ref o, .int (iI s)] w (bk_pi fun v w' => (takeOk r s ∧ v = rAt r s - 1 ∧ XS o ex (putA r s 0) (pushU um) (pushH hist um r) tp len flt w') ∨ (¬ takeOk r s ∧ v = -1 ∧ XS o ex r um hist tp len flt w')) bk_nox := by
  obtain ⟨a, b, sa, pa, F, G, bk, P, du, ba, rfl, hpl, hA, hbk, hum, hlen, hflt, htp, hu, hln⟩ := h
  have hn := hR.n
  obtain ⟨⟨p0, p1, p2, p3⟩, hdu⟩ := id hpl
  refine bk_ofV (own := "BreakSetter") (L0 := [some (.ref o), some (.int (iI s)), none]) (by decide) rfl (Nat.le_of_ble_eq_true rfl) rfl bk_oi (fun Γ hct hret hthr => ?_)
  refine br_aload_0 dX1_take_0 ?_
  refine br_iload_1 dX1_take_1 ?_
  refine br_VZ1 (i := 0) (j := 0) (ct_x_isPause (by omega) hR hpl hA) lk_X1_165 ⟨Nat.le_of_ble_eq_true rfl, Nat.le_of_ble_eq_true rfl⟩ ⟨Nat.le_of_ble_eq_true rfl, Nat.le_of_ble_eq_true rfl⟩ rfl rfl (Nat.le_of_ble_eq_true rfl) dX1_take_2 (fun c2 => ?_) (fun c2 => ?_)
  · refine br_if_eq (tgt := 18) dX1_take_5 (by decide) (by decide) (fun q => absurd q (by decide)) (fun _ => ?_)
    refine br_aload_0 dX1_take_8 ?_
    refine br_xg_X1_24 dX1_take_9 ?_
    have hps := hR.pa2 (k := s) (by omega)
    have has := hA s (by omega) (by omega)
    refine br_iload_1 dX1_take_12 ?_
    refine br_xl_7 (v := G 7 s) (by omega) rfl dX1_take_13 ?_
    refine br_iconst dX1_take_14 ?_
    refine br_icmp_ne (tgt := 20) dX1_take_15 (by decide) (by omega) (fun c15 => ?_) (fun c15 => ?_)
    · refine br_aload_0 dX1_take_20 ?_
      refine br_Vv0 (i := 0) (j := 0) (ct_x_remembers (hb := hbF ba hist um) (hist := hist) hu (show F 11 = um from hum) hbk hR hpl hA) lk_X1_231 ⟨Nat.le_of_ble_eq_true rfl, Nat.le_of_ble_eq_true rfl⟩ ⟨Nat.le_of_ble_eq_true rfl, Nat.le_of_ble_eq_true rfl⟩ rfl rfl (Nat.le_of_ble_eq_true rfl) dX1_take_21 (fun w_ hw_ => ?_)
      obtain ⟨ba2, bk2, rfl, hbk2⟩ := hw_
      have hpu := pushU_bd hu
      refine br_aload_0 dX1_take_24 ?_
      refine br_xg_X1_24 dX1_take_25 ?_
      refine br_iload_1 dX1_take_28 ?_
      refine br_xl_7 (v := G 7 s) (by omega) rfl dX1_take_29 ?_
      refine br_istore_2 dX1_take_30 rfl ?_
      refine br_aload_0 dX1_take_31 ?_
      refine br_xg_X1_24 dX1_take_32 ?_
      refine br_iload_1 dX1_take_35 ?_
      refine br_iconst dX1_take_36 ?_
      refine br_xs_7 (by omega) dX1_take_37 ?_
      refine br_row (putA r s 0) ((sameP.refl r).put (by omega)) (by omega) ?_
      refine br_iload_2 dX1_take_38 ?_
      exact br_ireturn dX1_take_39 (by decide) (by decide) (hret _ _ (⟨_, by rw [has], Or.inl ⟨by unfold takeOk; omega, rfl, ⟨a, b, sa, pa, _, _, bk2, P, du, ba2, rfl, xPl_same hpl ((sameP.refl r).put (by omega)), by have := atOK_put hA (k := s) (v := 0) (by omega); exact this, hbk2, rfl, hlen, hflt, htp, by omega, hln⟩⟩⟩))
    · refine br_iconst dX1_take_18 ?_
      exact br_ireturn dX1_take_19 (by decide) (by decide) (hret _ _ (⟨_, rfl, Or.inr ⟨by unfold takeOk; omega, rfl, ⟨a, b, sa, pa, _, _, bk, P, du, ba, rfl, hpl, hA, hbk, hum, hlen, hflt, htp, hu, hln⟩⟩⟩))
  · refine br_if_eq (tgt := 18) dX1_take_5 (by decide) (by decide) (fun _ => ?_) (fun q => absurd q (by decide))
    refine br_iconst dX1_take_18 ?_
    exact br_ireturn dX1_take_19 (by decide) (by decide) (hret _ _ (⟨_, rfl, Or.inr ⟨by unfold takeOk; omega, rfl, ⟨a, b, sa, pa, _, _, bk, P, du, ba, rfl, hpl, hA, hbk, hum, hlen, hflt, htp, hu, hln⟩⟩⟩))

theorem ct_x_fill {D : bk_D} {o : Nat} {ex : gC} {r : Int → Int} {um : Int} {hist : Int → Int → Int} {tp : Int → Int} {len flt : Int} {w : gC} (h : XS o ex r um hist tp len flt w) (hR : RW r) (h16 : ex 16 0 = none) : bk_K D yX1_fill (.code yX1_fill cX1_fill 3 (some (FieldType.int))) ({ frames := 6, cells := 25, slots := 96, locals := 139 }) [.ref o] w (bk_pi fun v w' => ∃ r' : Int → Int, fillR r (r 3).toNat r' v ∧ XS o ex r' (pushU um) (pushH hist um r) tp len flt w') bk_nox := by
  obtain ⟨a, b, sa, pa, F, G, bk, P, du, ba, rfl, hpl, hA, hbk, hum, hlen, hflt, htp, hu, hln⟩ := h
  have hn := hR.n
  obtain ⟨⟨p0, p1, p2, p3⟩, hdu⟩ := id hpl
  refine bk_ofV (own := "BreakSetter") (L0 := [some (.ref o), none, none]) (by decide) rfl (Nat.le_of_ble_eq_true rfl) rfl bk_oi (fun Γ hct hret hthr => ?_)
  refine br_aload_0 dX1_fill_0 ?_
  refine br_Vv0 (i := 0) (j := 0) (ct_x_remembers (hb := hbF ba hist um) (hist := hist) hu (show F 11 = um from hum) hbk hR hpl hA) lk_X1_231 ⟨Nat.le_of_ble_eq_true rfl, Nat.le_of_ble_eq_true rfl⟩ ⟨Nat.le_of_ble_eq_true rfl, Nat.le_of_ble_eq_true rfl⟩ rfl rfl (Nat.le_of_ble_eq_true rfl) dX1_fill_1 (fun w_ hw_ => ?_)
  obtain ⟨ba2, bk2, rfl, hbk2⟩ := hw_
  have hpu := pushU_bd hu
  refine br_iconst dX1_fill_4 ?_
  refine br_istore_1 dX1_fill_5 rfl ?_
  refine br_iconst dX1_fill_6 ?_
  refine br_istore_2 dX1_fill_7 rfl ?_
  refine bk_V.widen (k' := 1 + (0 : Int).toNat) (n' := 24 + 3 * (0 : Int).toNat) (by dsimp only; omega) (by dsimp only; omega) ?_
  have lp8 : ∀ (mm8 : Nat) (r1 : Int → Int) (c : Int) (x : Int) (F1 : Nat → Int) (G1 : Nat → Int → Int), (r 3 - x).toNat < mm8 → (0 ≤ x ∧ x ≤ r 3) → (fillR r x.toNat r1 c) → (sameP r r1) → (atOK r1 G1) → (F1 11 = pushU um ∧ F1 1 = len ∧ F1 12 = flt ∧ G1 1 = G 1) → bk_V Γ D ({ frames := 6, cells := 25, slots := 96, locals := 139 }) "BreakSetter" cX1_fill [] (1 + x.toNat) (24 + 3 * x.toNat) (xw o a F1 G1 bk2 b sa pa r1 P du (hbF ba2 (pushH hist um r) (pushU um)) ex) [some (.ref o), some (.int (iI c)), some (.int (iI x))] [] 8 := by
    intro mm8
    induction mm8 with
    | zero => intro r1 c x F1 G1 hm8; exact absurd hm8 (Nat.not_lt_zero _)
    | succ mm8 ih8 =>
      intro r1 c x F1 G1 hm8 h1 h2 hsm hA1 kx
      have hpl1 := xPl_same hpl hsm
      obtain ⟨⟨q0, q1, q2, q3⟩, hdu1⟩ := id hpl1
      obtain ⟨hR1, hr3, hc0⟩ := fillR_RWx hR h1 h2
      refine br_iload_2 dX1_fill_8 ?_
      refine br_aload_0 dX1_fill_9 ?_
      refine br_xg_X1_16 dX1_fill_10 ?_
      refine br_xg_X1_67 (v := P 3) rfl dX1_fill_13 ?_
      refine br_icmp_ge (tgt := 66) dX1_fill_16 (by decide) (by omega) (fun c16 => ?_) (fun c16 => ?_)
      · refine br_iload_1 dX1_fill_66 ?_
        exact br_ireturn dX1_fill_67 (by dsimp only; omega) (by dsimp only; omega) (hret _ _ (⟨_, rfl, r1, by rw [show (r 3) = x by omega]; exact h2, ⟨a, b, sa, pa, _, _, bk2, P, du, ba2, rfl, hpl1, hA1, hbk2, kx.1, kx.2.1, kx.2.2.1, (fun z e1 e2 => by rw [kx.2.2.2]; exact htp z e1 e2), by omega, hln⟩⟩))
      · have hax := hA1 x (by omega) (by omega)
        have hpx := hR1.pa2 (k := x) (by omega)
        refine br_aload_0 dX1_fill_19 ?_
        refine br_xg_X1_24 dX1_fill_20 ?_
        refine br_iload_2 dX1_fill_23 ?_
        refine br_xl_7 (v := G1 7 x) (by omega) rfl dX1_fill_24 ?_
        refine br_iconst dX1_fill_25 ?_
        refine br_icmp_eq (tgt := 32) dX1_fill_26 (by decide) (by omega) (fun c26 => ?_) (fun c26 => ?_)
        · refine br_aload_0 dX1_fill_32 ?_
          refine br_Vv0 (i := 0) (j := 0) (ct_x_laysCover hR1 hpl1 hA1) lk_X1_143 ⟨Nat.le_of_ble_eq_true rfl, Nat.le_of_ble_eq_true rfl⟩ ⟨by dsimp only; omega, by dsimp only; omega⟩ rfl rfl (Nat.le_of_ble_eq_true rfl) dX1_fill_33 (fun w_ hw_ => ?_)
          obtain ⟨f33, g33, rfl, hL33⟩ := hw_
          refine br_aload_0 dX1_fill_36 ?_
          refine br_xg_X1_24 dX1_fill_37 ?_
          refine br_iload_2 dX1_fill_40 ?_
          refine br_aload_0 dX1_fill_41 ?_
          refine br_iload_2 dX1_fill_42 ?_
          refine br_Wi1 (i := 0) (j := 0) (ct_x_bestOf (k0 := x) (show 0 ≤ x ∧ x < r1 3 from by omega) hR1 hpl1 (show atOK r1 (uG G1 2 g33) from hA1) hL33 h16) lk_X1_194 ⟨Nat.le_of_ble_eq_true rfl, Nat.le_of_ble_eq_true rfl⟩ ⟨by dsimp only; omega, by dsimp only; omega⟩ rfl rfl (Nat.le_of_ble_eq_true rfl) dX1_fill_43 (fun v43 w_ hw_ => ?_)
          obtain ⟨hv43, hvb43, f43, g43, rfl, hL43⟩ := hw_
          refine bk_V.world (w' := (xw o a (uF F1 6 f43) (uG G1 2 g43) bk2 b sa pa r1 P du (hbF ba2 (pushH hist um r) (pushU um)) ex)) (by first | rw [uF_uF, uG_uG] | rw [uF_uF] | rw [uG_uG]) ?_
          have hbest := isLs_best hpx.1.1 hv43
          refine br_xs_7 (by omega) dX1_fill_46 ?_
          refine br_aload_0 dX1_fill_47 ?_
          refine br_xg_X1_24 dX1_fill_48 ?_
          refine br_iload_2 dX1_fill_51 ?_
          refine br_xl_7 (v := (uI (G1 7) x v43) x) (by omega) rfl dX1_fill_52 ?_
          refine br_topi (y := v43) (uI_eq _ _ _) ?_
          refine br_iconst dX1_fill_53 ?_
          refine br_icmp_eq (tgt := 60) dX1_fill_54 (by decide) (by omega) (fun c54 => ?_) (fun c54 => ?_)
          · refine br_iinc_2 dX1_fill_60 rfl ?_
            refine br_goto (tgt := 8) dX1_fill_63 (by decide) ?_
            refine bk_V.widen (k' := 1 + (x + 1).toNat) (n' := 24 + 3 * (x + 1).toNat) (by first | omega | (dsimp only; omega)) (by first | omega | (dsimp only; omega)) ?_
            have hN9 := fillR_s2 h1.1 h2 (show rAt r1 x = 0 from by omega) (hbest.resolve_right (fun q => by have := q.1; omega)).2
            have hS9 := hsm
            have hA9 : atOK r1 (uG (uG G1 2 g43) 7 (uI (G1 7) x v43)) := fun z e1 e2 => by
              show uI (G1 7) x v43 z = _
              by_cases e : z = x
              · subst e; rw [uI_eq]; omega
              · rw [uI_ne _ _ e]; exact hA1 z e1 e2
            exact ih8 _ _ _ _ _ (by omega) (by omega) hN9 hS9 hA9 kx
          · refine br_iinc_1 dX1_fill_57 rfl ?_
            refine br_iinc_2 dX1_fill_60 rfl ?_
            refine br_goto (tgt := 8) dX1_fill_63 (by decide) ?_
            refine bk_V.widen (k' := 1 + (x + 1).toNat) (n' := 24 + 3 * (x + 1).toNat) (by first | omega | (dsimp only; omega)) (by first | omega | (dsimp only; omega)) ?_
            have hbb := (hbest.resolve_left (fun q => by have := q.1; omega)).2.2
            have hN9 := fillR_s3 h1.1 h2 (show rAt r1 x = 0 from by omega) hbb (by omega)
            have hS9 := hsm.put (k := x) (v := v43 + 1) (by omega)
            have hA9 : atOK (putA r1 x (v43 + 1)) (uG (uG G1 2 g43) 7 (uI (G1 7) x v43)) := by
              have := atOK_put (G := uG G1 2 g43) (show atOK r1 (uG G1 2 g43) from hA1) (k := x) (v := v43 + 1) (by omega)
              rw [show v43 + 1 - 1 = v43 by omega] at this
              exact this
            refine br_row (putA r1 x (v43 + 1)) ((sameP.refl r1).put (by omega)) (by omega) ?_
            exact ih8 _ _ _ _ _ (by omega) (by omega) hN9 hS9 hA9 kx
        · refine br_goto (tgt := 60) dX1_fill_29 (by decide) ?_
          refine br_iinc_2 dX1_fill_60 rfl ?_
          refine br_goto (tgt := 8) dX1_fill_63 (by decide) ?_
          refine bk_V.widen (k' := 1 + (x + 1).toNat) (n' := 24 + 3 * (x + 1).toNat) (by first | omega | (dsimp only; omega)) (by first | omega | (dsimp only; omega)) ?_
          have hN9 := fillR_s1 h1.1 h2 (show ¬ rAt r1 x = 0 from by omega)
          have hS9 := hsm
          have hA9 := hA1
          exact ih8 _ _ _ _ _ (by omega) (by omega) hN9 hS9 hA9 kx
  exact lp8 _ _ _ _ _ _ (Nat.lt_succ_self _) (by omega) ⟨rfl, rfl⟩ (sameP.refl r) hA ⟨rfl, hlen, hflt, rfl⟩

theorem ct_x_settle {D : bk_D} {o : Nat} {ex : gC} {r : Int → Int} {um : Int} {hist : Int → Int → Int} {tp : Int → Int} {len flt : Int} {w : gC} (h : XS o ex r um hist tp len flt w) (hR : RW r) (h16 : ex 16 0 = none) : bk_K D yX1_settle (.code yX1_settle cX1_settle 3 (some (FieldType.int))) ({ frames := 6, cells := 985, slots := 2976, locals := 142 }) [.ref o] w (bk_pi fun v w' => (isBetter r (-2) ∧ v = -1 ∧ XS o ex r um hist tp len flt w') ∨ ∃ (bs : Int) (r' : Int → Int), isBetter r bs ∧ ¬ bs = -2 ∧ (0 ≤ v ∧ v ≤ 40) ∧ setR r v.toNat r' ∧ (v = 40 ∨ isBetter r' (-2)) ∧ XS o ex r' (pushU um) (pushH hist um r) tp len flt w') bk_nox := by
  obtain ⟨a, b, sa, pa, F, G, bk, P, du, ba, rfl, hpl, hA, hbk, hum, hlen, hflt, htp, hu, hln⟩ := h
  have hn := hR.n
  obtain ⟨⟨p0, p1, p2, p3⟩, hdu⟩ := id hpl
  refine bk_ofV (own := "BreakSetter") (L0 := [some (.ref o), none, none]) (by decide) rfl (Nat.le_of_ble_eq_true rfl) rfl bk_oi (fun Γ hct hret hthr => ?_)
  refine br_aload_0 dX1_settle_0 ?_
  refine br_Wi0 (i := 0) (j := 0) (ct_x_betterNow hR hpl hA h16) lk_X1_198 ⟨Nat.le_of_ble_eq_true rfl, Nat.le_of_ble_eq_true rfl⟩ ⟨Nat.le_of_ble_eq_true rfl, Nat.le_of_ble_eq_true rfl⟩ rfl rfl (Nat.le_of_ble_eq_true rfl) dX1_settle_1 (fun v1 w_ hw_ => ?_)
  obtain ⟨hv1, f1, g1, rfl, hL1⟩ := hw_
  refine br_istore_1 dX1_settle_4 rfl ?_
  refine br_iload_1 dX1_settle_5 ?_
  refine br_bipush dX1_settle_6 (by decide) ?_
  refine br_icmp_ne (tgt := 13) dX1_settle_8 (by decide) (by omega) (fun c8 => ?_) (fun c8 => ?_)
  · refine br_aload_0 dX1_settle_13 ?_
    refine br_Vv0 (i := 0) (j := 0) (ct_x_remembers (hb := hbF ba hist um) (hist := hist) hu (show F 11 = um from hum) hbk hR hpl (show atOK r (uG G 2 g1) from hA)) lk_X1_231 ⟨Nat.le_of_ble_eq_true rfl, Nat.le_of_ble_eq_true rfl⟩ ⟨by dsimp only; omega, by dsimp only; omega⟩ rfl rfl (Nat.le_of_ble_eq_true rfl) dX1_settle_14 (fun w_ hw_ => ?_)
    obtain ⟨ba2, bk2, rfl, hbk2⟩ := hw_
    have hpu := pushU_bd hu
    refine br_iconst dX1_settle_17 ?_
    refine br_istore_2 dX1_settle_18 rfl ?_
    refine bk_V.widen (k' := 25 + 24 * (0 : Int).toNat) (n' := 96 + 72 * (0 : Int).toNat) (by dsimp only; omega) (by dsimp only; omega) ?_
    have lp19 : ∀ (mm19 : Nat) (r1 : Int → Int) (bs : Int) (c : Int) (F1 : Nat → Int) (G1 : Nat → Int → Int), (40 - c).toNat < mm19 → (0 ≤ c ∧ c ≤ 40) → (setR r c.toNat r1) → (isBetter r1 bs ∧ -2 ≤ bs ∧ bs < 2400) → (sameP r r1) → (atOK r1 G1) → (F1 11 = pushU um ∧ F1 1 = len ∧ F1 12 = flt ∧ G1 1 = G 1) → bk_V Γ D ({ frames := 6, cells := 985, slots := 2976, locals := 142 }) "BreakSetter" cX1_settle [] (25 + 24 * c.toNat) (96 + 72 * c.toNat) (xw o a F1 G1 bk2 b sa pa r1 P du (hbF ba2 (pushH hist um r) (pushU um)) ex) [some (.ref o), some (.int (iI bs)), some (.int (iI c))] [] 19 := by
      intro mm19
      induction mm19 with
      | zero => intro r1 bs c F1 G1 hm19; exact absurd hm19 (Nat.not_lt_zero _)
      | succ mm19 ih19 =>
        intro r1 bs c F1 G1 hm19 h1 h2 h3 hsm hA1 kx
        have hpl1 := xPl_same hpl hsm
        obtain ⟨⟨q0, q1, q2, q3⟩, hdu1⟩ := id hpl1
        obtain ⟨hR1, hr3⟩ := setR_RW hR _ _ h2
        refine br_iload_1 dX1_settle_19 ?_
        refine br_bipush dX1_settle_20 (by decide) ?_
        refine br_icmp_eq (tgt := 55) dX1_settle_22 (by decide) (by omega) (fun c22 => ?_) (fun c22 => ?_)
        · have e22 : bs = -2 := c22
          refine br_iload_2 dX1_settle_55 ?_
          exact br_ireturn dX1_settle_56 (by dsimp only; omega) (by dsimp only; omega) (hret _ _ (⟨_, rfl, Or.inr ⟨v1, r1, hv1.1, by assumption, h1, h2, (by first | exact Or.inr (by have := h3.1; rwa [e22] at this) | exact Or.inl (by omega)), ⟨a, b, sa, pa, _, _, bk2, P, du, ba2, rfl, hpl1, hA1, hbk2, kx.1, kx.2.1, kx.2.2.1, (fun z e1 e2 => by rw [kx.2.2.2]; exact htp z e1 e2), by omega, hln⟩⟩⟩))
        · refine br_iload_2 dX1_settle_25 ?_
          refine br_bipush dX1_settle_26 (by decide) ?_
          refine br_icmp_ge (tgt := 55) dX1_settle_28 (by decide) (by omega) (fun c28 => ?_) (fun c28 => ?_)
          · refine br_iload_2 dX1_settle_55 ?_
            exact br_ireturn dX1_settle_56 (by dsimp only; omega) (by dsimp only; omega) (hret _ _ (⟨_, rfl, Or.inr ⟨v1, r1, hv1.1, by assumption, h1, h2, (by first | exact Or.inr (by have := h3.1; rwa [e22] at this) | exact Or.inl (by omega)), ⟨a, b, sa, pa, _, _, bk2, P, du, ba2, rfl, hpl1, hA1, hbk2, kx.1, kx.2.1, kx.2.2.1, (fun z e1 e2 => by rw [kx.2.2.2]; exact htp z e1 e2), by omega, hln⟩⟩⟩))
          · obtain ⟨hbc, hb0⟩ := isBetter_at hR1 h3.1 c22
            have hbk := cand_bd hR1 hbc
            have hR2 : RW (putA r1 (bs / 100) (bs % 100 + 1)) := (setR_RW hR (c.toNat + 1) _ ⟨r1, bs, h2, h3.1, c22, rfl⟩).1
            refine br_aload_0 dX1_settle_31 ?_
            refine br_xg_X1_24 dX1_settle_32 ?_
            refine br_iload_1 dX1_settle_35 ?_
            refine br_bipush dX1_settle_36 (by decide) ?_
            refine br_idiv dX1_settle_38 (by omega) ?_
            refine br_iload_1 dX1_settle_39 ?_
            refine br_bipush dX1_settle_40 (by decide) ?_
            refine br_irem dX1_settle_42 (by omega) ?_
            refine br_xs_7 (by omega) dX1_settle_43 ?_
            have hS9 := hsm.put (k := bs / 100) (v := bs % 100 + 1) (by omega)
            have hpl2 := xPl_same hpl hS9
            have hA9 : atOK (putA r1 (bs / 100) (bs % 100 + 1)) (uG G1 7 (uI (G1 7) (bs / 100) (bs % 100))) := by
              have := atOK_put hA1 (k := bs / 100) (v := bs % 100 + 1) (by omega)
              rw [show bs % 100 + 1 - 1 = bs % 100 by omega] at this
              exact this
            refine br_row (putA r1 (bs / 100) (bs % 100 + 1)) ((sameP.refl r1).put (by omega)) (by omega) ?_
            refine br_iinc_2 dX1_settle_44 rfl ?_
            refine br_aload_0 dX1_settle_47 ?_
            refine br_Wi0 (i := 0) (j := 0) (ct_x_betterNow hR2 hpl2 (show atOK (putA r1 (bs / 100) (bs % 100 + 1)) (uG G1 7 (uI (G1 7) (bs / 100) (bs % 100))) from hA9) h16) lk_X1_198 ⟨Nat.le_of_ble_eq_true rfl, Nat.le_of_ble_eq_true rfl⟩ ⟨by dsimp only; omega, by dsimp only; omega⟩ rfl rfl (Nat.le_of_ble_eq_true rfl) dX1_settle_48 (fun v48 w_ hw_ => ?_)
            obtain ⟨hv48, f48, g48, rfl, hL48⟩ := hw_
            refine br_istore_1 dX1_settle_51 rfl ?_
            refine br_goto (tgt := 19) dX1_settle_52 (by decide) ?_
            refine bk_V.widen (k' := 25 + 24 * (c + 1).toNat) (n' := 96 + 72 * (c + 1).toNat) (by dsimp only; omega) (by dsimp only; omega) ?_
            exact ih19 _ _ _ _ _ (by omega) (by omega) (setR_s h1.1 h2 h3.1 c22) hv48 hS9 hA9 kx
    exact lp19 _ _ _ _ _ _ (Nat.lt_succ_self _) (by omega) rfl hv1 (sameP.refl r) hA ⟨rfl, hlen, hflt, rfl⟩
  · subst c8
    refine br_iconst dX1_settle_11 ?_
    exact br_ireturn dX1_settle_12 (by dsimp only; omega) (by dsimp only; omega) (hret _ _ (⟨_, rfl, Or.inl ⟨hv1.1, rfl, ⟨a, b, sa, pa, _, _, bk, P, du, ba, rfl, hpl, hA, hbk, hum, hlen, hflt, htp, hu, hln⟩⟩⟩))

theorem ct_x_undo {D : bk_D} {o : Nat} {ex : gC} {r : Int → Int} {um : Int} {hist : Int → Int → Int} {tp : Int → Int} {len flt : Int} {w : gC} (h : XS o ex r um hist tp len flt w) (hR : RW r) (hS : 0 < um → sameP r (hist (um - 1))) : bk_K D yX1_undo (.code yX1_undo cX1_undo 1 (some (FieldType.int))) ({ frames := 0, cells := 0, slots := 0, locals := 0 }) [.ref o] w (bk_pi fun v w' => (um = 0 ∧ v = -1 ∧ XS o ex r um hist tp len flt w') ∨ (¬ um = 0 ∧ v = um - 1 ∧ XS o ex (hist (um - 1)) (um - 1) hist tp len flt w')) bk_nox := by
  obtain ⟨a, b, sa, pa, F, G, bk, P, du, ba, rfl, hpl, hA, hbk, hum, hlen, hflt, htp, hu, hln⟩ := h
  have hn := hR.n
  obtain ⟨⟨p0, p1, p2, p3⟩, hdu⟩ := id hpl
  refine bk_ofV (own := "BreakSetter") (L0 := [some (.ref o)]) (by decide) rfl (Nat.le_of_ble_eq_true rfl) rfl bk_oi (fun Γ hct hret hthr => ?_)
  refine br_aload_0 dX1_undo_0 ?_
  refine br_xg_X1_149 (v := F 11) rfl dX1_undo_1 ?_
  refine br_if_ne (tgt := 9) dX1_undo_4 (by decide) (by omega) (fun c4 => ?_) (fun c4 => ?_)
  · refine br_aload_0 dX1_undo_9 ?_
    refine br_dup dX1_undo_10 rfl ?_
    refine br_xg_X1_149 (v := F 11) rfl dX1_undo_11 ?_
    refine br_iconst dX1_undo_14 ?_
    refine br_isub dX1_undo_15 ?_
    refine br_xp_X1_149 dX1_undo_16 ?_
    refine br_aload_0 dX1_undo_19 ?_
    refine br_aload_0 dX1_undo_20 ?_
    refine br_xg_X1_42 dX1_undo_21 ?_
    refine br_aload_0 dX1_undo_24 ?_
    refine br_xg_X1_149 (v := (F 11) - 1) rfl dX1_undo_25 ?_
    refine br_aald5 (i := 6) (j := 0) (N := 10) (f := bk) rfl (by omega) (by decide) dX1_undo_28 ?_
    rw [show bk (F 11 - 1) = some (ba (um - 1).toNat) from by rw [hum]; exact hbk _ (by omega) (by omega)]
    refine br_putf (i := 0) (j := 0) (fs := xF a b (uF F 11 ((F 11) - 1))) (ty := .array .int) (ty0 := tyX1) rfl rfl in_X1 tyX1_ok nmX1 4 (by decide) q186 rfl rfl rfl rfl rfl (by simp [xF]) dX1_undo_29 ?_
    refine br_undo (by omega) ?_
    refine br_row (hist (um - 1)) (hS (by omega)) (by omega) ?_
    refine br_aload_0 dX1_undo_32 ?_
    refine br_xg_X1_149 (v := (F 11) - 1) rfl dX1_undo_33 ?_
    exact br_ireturn dX1_undo_36 (by decide) (by decide) (hret _ _ (⟨_, rfl, Or.inr ⟨by omega, by rw [hum], _, b, sa, pa, _, _, bk, P, du, ba, rfl, xPl_same hpl (hS (by omega)), (fun k e1 e2 => rfl), (fun k e1 e2 => hbk k e1 (by omega)), (show F 11 - 1 = um - 1 from by omega), hlen, hflt, htp, by omega, hln⟩⟩))
  · refine br_iconst dX1_undo_7 ?_
    exact br_ireturn dX1_undo_8 (by decide) (by decide) (hret _ _ (⟨_, rfl, Or.inl ⟨by omega, rfl, ⟨a, b, sa, pa, _, _, bk, P, du, ba, rfl, hpl, hA, hbk, hum, hlen, hflt, htp, hu, hln⟩⟩⟩))

