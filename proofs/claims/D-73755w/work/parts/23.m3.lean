/-! MODEL: acts -/
set_option maxRecDepth 100000
theorem ct_m_snap {D : bk_D} {o : Nat} {a : Nat → Nat} {F : Nat → Int} {wd : Int} {G : Nat → Int → Int} {ex : gC} {hist : Int → Int → Int} (hu : 0 ≤ F 14 ∧ F 14 ≤ 10) (hs : snOK (G 4) (F 14) hist) : bk_K D yX3_snap (.code yX3_snap cX3_snap 2 none) ({ frames := 0, cells := 0, slots := 0, locals := 0 }) [.ref o] (mw o a F wd G ex) (bk_pv fun w => ∃ g4 : Int → Int, w = mw o a (uF F 14 (pushU (F 14))) wd (uG G 4 g4) ex ∧ snOK g4 (pushU (F 14)) (pushH hist (F 14) (G 2))) bk_nox := by
  refine bk_ofV (own := "BreakSetterModel") (L0 := [some (.ref o), none]) (by decide) rfl (Nat.le_of_ble_eq_true rfl) rfl bk_ov (fun Γ hct hret hthr => ?_)
  refine br_aload_0 dX3_snap_0 ?_
  refine br_mg_14 (v := F 14) rfl dX3_snap_1 ?_
  refine br_bipush dX3_snap_4 (by decide) ?_
  refine br_icmp_ne (tgt := 50) dX3_snap_6 (by decide) (by omega) (fun c6 => ?_) (fun c6 => ?_)
  · have c6 : ¬ F 14 = 10 := c6
    refine br_iconst dX3_snap_50 ?_
    refine br_istore_1 dX3_snap_51 rfl ?_
    refine bk_V.world (w' := (mw o a F wd (uG G 4 (G 4)) ex)) (by rw [uG_self]) ?_
    have lp52 : ∀ (mm52 : Nat) (g2 : Int → Int) (z : Int), (308 - z).toNat < mm52 → (0 ≤ z ∧ z ≤ 308) → (∀ y : Int, 308 * (F 14) ≤ y → y < 308 * (F 14) + z → g2 y = G 2 (y - 308 * (F 14))) → (∀ y : Int, y < 308 * (F 14) → g2 y = G 4 y) → bk_V Γ D ({ frames := 0, cells := 0, slots := 0, locals := 0 }) "BreakSetterModel" cX3_snap [] 0 0 (mw o a F wd (uG G 4 g2) ex) [some (.ref o), some (.int (iI z))] [] 52 := by
      intro mm52
      induction mm52 with
      | zero => intro g2 z hm52; exact absurd hm52 (Nat.not_lt_zero _)
      | succ mm52 ih52 =>
        intro g2 z hm52 i1 i2 i3
        refine br_iload_1 dX3_snap_52 ?_
        refine br_sipush dX3_snap_53 (by decide) ?_
        refine br_icmp_ge (tgt := 86) dX3_snap_56 (by decide) (by omega) (fun c56 => ?_) (fun c56 => ?_)
        · refine br_aload_0 dX3_snap_86 ?_
          refine br_dup dX3_snap_87 rfl ?_
          refine br_mg_14 (v := F 14) rfl dX3_snap_88 ?_
          refine br_iconst dX3_snap_91 ?_
          refine br_iadd dX3_snap_92 ?_
          refine br_mp_14 dX3_snap_93 ?_
          exact br_return dX3_snap_96 (by decide) (by decide) (hret _ _ (⟨rfl, g2, by rw [show pushU (F 14) = F 14 + 1 by unfold pushU; rw [if_neg c6]], snOK_pushB c6 hu hs (fun y a b => i2 y a (by omega)) i3⟩))
        · refine br_aload_0 dX3_snap_59 ?_
          refine br_mg_13 dX3_snap_60 ?_
          refine br_sipush dX3_snap_63 (by decide) ?_
          refine br_aload_0 dX3_snap_66 ?_
          refine br_mg_14 (v := F 14) rfl dX3_snap_67 ?_
          refine br_imul dX3_snap_70 ?_
          refine br_iload_1 dX3_snap_71 ?_
          refine br_iadd dX3_snap_72 ?_
          refine br_aload_0 dX3_snap_73 ?_
          refine br_mg_11 dX3_snap_74 ?_
          refine br_iload_1 dX3_snap_77 ?_
          refine br_ml_2 (v := G 2 z) (by omega) rfl dX3_snap_78 ?_
          refine br_ms_4 (by omega) dX3_snap_79 ?_
          refine bk_V.world (w' := (mw o a F wd (uG G 4 (uI g2 ((308 * (F 14)) + z) (G 2 z))) ex)) (congrArg (fun G9 => mw o a F wd G9 ex) (uG_uG _ _ _ _)) ?_
          refine br_iinc_1 dX3_snap_80 rfl ?_
          refine br_goto (tgt := 52) dX3_snap_83 (by decide) ?_
          exact ih52 _ _ (by omega) (by omega) (fun y q1 q2 => by
  by_cases e : y = 308 * (F 14) + z
  · subst e; rw [uI_eq]; congr 1; omega
  · rw [uI_ne _ _ e]; exact i2 y q1 (by omega)) (fun y q1 => by rw [uI_ne _ _ (by omega)]; exact i3 y q1)
    exact lp52 _ _ _ (Nat.lt_succ_self _) (by omega) (fun y _ _ => by omega) (fun y _ => rfl)
  · have c6 : F 14 = 10 := c6
    refine br_iconst dX3_snap_9 ?_
    refine br_istore_1 dX3_snap_10 rfl ?_
    refine bk_V.world (w' := (mw o a F wd (uG G 4 (G 4)) ex)) (by rw [uG_self]) ?_
    have lp11 : ∀ (mm11 : Nat) (g : Int → Int) (z : Int), (2772 - z).toNat < mm11 → (0 ≤ z ∧ z ≤ 2772) → (∀ y : Int, 0 ≤ y → y < z → g y = G 4 (y + 308)) → (∀ y : Int, z ≤ y → g y = G 4 y) → bk_V Γ D ({ frames := 0, cells := 0, slots := 0, locals := 0 }) "BreakSetterModel" cX3_snap [] 0 0 (mw o a F wd (uG G 4 g) ex) [some (.ref o), some (.int (iI z))] [] 11 := by
      intro mm11
      induction mm11 with
      | zero => intro g z hm11; exact absurd hm11 (Nat.not_lt_zero _)
      | succ mm11 ih11 =>
        intro g z hm11 h1 h2 h3
        refine br_iload_1 dX3_snap_11 ?_
        refine br_sipush dX3_snap_12 (by decide) ?_
        refine br_icmp_ge (tgt := 40) dX3_snap_15 (by decide) (by omega) (fun c15 => ?_) (fun c15 => ?_)
        · refine br_aload_0 dX3_snap_40 ?_
          refine br_dup dX3_snap_41 rfl ?_
          refine br_mg_14 (v := F 14) rfl dX3_snap_42 ?_
          refine br_iconst dX3_snap_45 ?_
          refine br_isub dX3_snap_46 ?_
          refine br_mp_14 dX3_snap_47 ?_
          refine br_iconst dX3_snap_50 ?_
          refine br_istore_1 dX3_snap_51 rfl ?_
          have lp52 : ∀ (mm52 : Nat) (g2 : Int → Int) (z : Int), (308 - z).toNat < mm52 → (0 ≤ z ∧ z ≤ 308) → (∀ y : Int, 308 * ((F 14) - 1) ≤ y → y < 308 * ((F 14) - 1) + z → g2 y = G 2 (y - 308 * ((F 14) - 1))) → (∀ y : Int, y < 308 * ((F 14) - 1) → g2 y = g y) → bk_V Γ D ({ frames := 0, cells := 0, slots := 0, locals := 0 }) "BreakSetterModel" cX3_snap [] 0 0 (mw o a (uF F 14 ((F 14) - 1)) wd (uG G 4 g2) ex) [some (.ref o), some (.int (iI z))] [] 52 := by
            intro mm52
            induction mm52 with
            | zero => intro g2 z hm52; exact absurd hm52 (Nat.not_lt_zero _)
            | succ mm52 ih52 =>
              intro g2 z hm52 i1 i2 i3
              refine br_iload_1 dX3_snap_52 ?_
              refine br_sipush dX3_snap_53 (by decide) ?_
              refine br_icmp_ge (tgt := 86) dX3_snap_56 (by decide) (by omega) (fun c56 => ?_) (fun c56 => ?_)
              · refine br_aload_0 dX3_snap_86 ?_
                refine br_dup dX3_snap_87 rfl ?_
                refine br_mg_14 (v := (F 14) - 1) rfl dX3_snap_88 ?_
                refine br_iconst dX3_snap_91 ?_
                refine br_iadd dX3_snap_92 ?_
                refine br_mp_14 dX3_snap_93 ?_
                refine bk_V.world (w' := (mw o a (uF F 14 (((F 14) - 1) + 1)) wd (uG G 4 g2) ex)) (congrArg (fun F9 => mw o a F9 wd (uG G 4 g2) ex) (uF_uF _ _ _ _)) ?_
                exact br_return dX3_snap_96 (by decide) (by decide) (hret _ _ (⟨rfl, g2, by rw [show pushU (F 14) = F 14 - 1 + 1 by unfold pushU; rw [if_pos c6]; omega], snOK_pushA c6 hs (fun y a b => h2 y a (by omega)) (fun y a b => i2 y a (by omega)) i3⟩))
              · refine br_aload_0 dX3_snap_59 ?_
                refine br_mg_13 dX3_snap_60 ?_
                refine br_sipush dX3_snap_63 (by decide) ?_
                refine br_aload_0 dX3_snap_66 ?_
                refine br_mg_14 (v := (F 14) - 1) rfl dX3_snap_67 ?_
                refine br_imul dX3_snap_70 ?_
                refine br_iload_1 dX3_snap_71 ?_
                refine br_iadd dX3_snap_72 ?_
                refine br_aload_0 dX3_snap_73 ?_
                refine br_mg_11 dX3_snap_74 ?_
                refine br_iload_1 dX3_snap_77 ?_
                refine br_ml_2 (v := G 2 z) (by omega) rfl dX3_snap_78 ?_
                refine br_ms_4 (by omega) dX3_snap_79 ?_
                refine bk_V.world (w' := (mw o a (uF F 14 ((F 14) - 1)) wd (uG G 4 (uI g2 ((308 * ((F 14) - 1)) + z) (G 2 z))) ex)) (congrArg (fun G9 => mw o a (uF F 14 ((F 14) - 1)) wd G9 ex) (uG_uG _ _ _ _)) ?_
                refine br_iinc_1 dX3_snap_80 rfl ?_
                refine br_goto (tgt := 52) dX3_snap_83 (by decide) ?_
                exact ih52 _ _ (by omega) (by omega) (fun y q1 q2 => by
  by_cases e : y = 308 * ((F 14) - 1) + z
  · subst e; rw [uI_eq]; congr 1; omega
  · rw [uI_ne _ _ e]; exact i2 y q1 (by omega)) (fun y q1 => by rw [uI_ne _ _ (by omega)]; exact i3 y q1)
          exact lp52 _ _ _ (Nat.lt_succ_self _) (by omega) (fun y _ _ => by omega) (fun y _ => rfl)
        · refine br_aload_0 dX3_snap_18 ?_
          refine br_mg_13 dX3_snap_19 ?_
          refine br_iload_1 dX3_snap_22 ?_
          refine br_aload_0 dX3_snap_23 ?_
          refine br_mg_13 dX3_snap_24 ?_
          refine br_iload_1 dX3_snap_27 ?_
          refine br_sipush dX3_snap_28 (by decide) ?_
          refine br_iadd dX3_snap_31 ?_
          refine br_ml_4 (v := g (z + 308)) (by omega) rfl dX3_snap_32 ?_
          refine br_ms_4 (by omega) dX3_snap_33 ?_
          refine bk_V.world (w' := (mw o a F wd (uG G 4 (uI g z (g (z + 308)))) ex)) (congrArg (fun G9 => mw o a F wd G9 ex) (uG_uG _ _ _ _)) ?_
          refine br_iinc_1 dX3_snap_34 rfl ?_
          refine br_goto (tgt := 11) dX3_snap_37 (by decide) ?_
          exact ih11 _ _ (by omega) (by omega) (fun y q1 q2 => by
  by_cases e : y = z
  · subst e; rw [uI_eq]; exact h3 _ (by omega)
  · rw [uI_ne _ _ e]; exact h2 y q1 (by omega)) (fun y q1 => by rw [uI_ne _ _ (by omega)]; exact h3 y (by omega))
    exact lp11 _ _ _ (Nat.lt_succ_self _) (by omega) (fun y _ _ => by omega) (fun y _ => rfl)

theorem ct_m_place {D : bk_D} {o : Nat} {a : Nat → Nat} {ex : gC} {r : Int → Int} {um : Int} {hist : Int → Int → Int} {tp : Int → Int} {len flt th : Int} {w : gC} (h : MS o a ex r um hist tp len flt th w) {s q : Int} (hs : -2147483648 ≤ s ∧ s < 2147483648) (hq : -2147483648 ≤ q ∧ q < 2147483648) (hR : RW r) : bk_K D yX3_place (.code yX3_place cX3_place 4 (some (FieldType.int))) ({ frames := 3, cells := 0, slots := 0, locals := 66 }) [.ref o, .int (iI s), .int (iI q)] w (bk_pi fun v w' => (placeOk r s q ∧ v = 0 ∧ MS o a ex (putA r s (q + 1)) (pushU um) (pushH hist um r) tp len flt 0 w') ∨ (¬ placeOk r s q ∧ v = placeS r s q ∧ MS o a ex r um hist tp len flt 0 w')) bk_nox := by
  obtain ⟨F, wd, G, rfl, rfl, rfl, rfl, rfl, rfl, hs, htp, hu, hln⟩ := h
  refine bk_ofV (own := "BreakSetterModel") (L0 := [some (.ref o), some (.int (iI s)), some (.int (iI q)), none]) (by decide) rfl (Nat.le_of_ble_eq_true rfl) rfl bk_oi (fun Γ hct hret hthr => ?_)
  have hn := hR.n
  have hw := whyS_bd (G 2) s q
  refine br_aload_0 dX3_place_0 ?_
  refine br_iconst dX3_place_1 ?_
  refine br_mp_0 dX3_place_2 ?_
  refine br_aload_0 dX3_place_5 ?_
  refine br_iload_1 dX3_place_6 ?_
  refine br_VZ1 (i := 40) (j := 0) (ct_m_isPause (by omega) hR) lk_X3_203 ⟨Nat.le_of_ble_eq_true rfl, Nat.le_of_ble_eq_true rfl⟩ ⟨Nat.le_of_ble_eq_true rfl, Nat.le_of_ble_eq_true rfl⟩ rfl rfl (Nat.le_of_ble_eq_true rfl) dX3_place_7 (fun c7 => ?_) (fun c7 => ?_)
  · refine br_if_eq (tgt := 29) dX3_place_10 (by decide) (by decide) (fun q => absurd q (by decide)) (fun _ => ?_)
    refine br_iload_2 dX3_place_13 ?_
    refine br_SZ1 (ct_m_isSlot (by omega)) lk_X3_209 ⟨Nat.le_of_ble_eq_true rfl, Nat.le_of_ble_eq_true rfl⟩ ⟨Nat.le_of_ble_eq_true rfl, Nat.le_of_ble_eq_true rfl⟩  (Nat.le_of_ble_eq_true rfl) dX3_place_14 (fun c14 => ?_) (fun c14 => ?_)
    · refine br_if_eq (tgt := 29) dX3_place_17 (by decide) (by decide) (fun q => absurd q (by decide)) (fun _ => ?_)
      have hs1 := hR.pa2 (k := s) (by omega)
      refine br_aload_0 dX3_place_20 ?_
      refine br_iload_1 dX3_place_21 ?_
      refine br_VF1 (i := 40) (j := 0) (ct_m_placeOf (by omega)) lk_X3_162 ⟨Nat.le_of_ble_eq_true rfl, Nat.le_of_ble_eq_true rfl⟩ ⟨Nat.le_of_ble_eq_true rfl, Nat.le_of_ble_eq_true rfl⟩ rfl rfl (Nat.le_of_ble_eq_true rfl) dX3_place_22 ?_
      refine br_topi (y := rAt (G 2) s - 1) rfl ?_
      refine br_iload_2 dX3_place_25 ?_
      refine br_icmp_ne (tgt := 31) dX3_place_26 (by decide) (by omega) (fun c26 => ?_) (fun c26 => ?_)
      · refine br_aload_0 dX3_place_31 ?_
        refine br_iload_1 dX3_place_32 ?_
        refine br_iload_2 dX3_place_33 ?_
        refine br_VF2 (i := 40) (j := 0) (ct_m_whyNot (show 0 ≤ s ∧ s < G 2 3 from by omega) (by omega) hR) lk_X3_191 ⟨Nat.le_of_ble_eq_true rfl, Nat.le_of_ble_eq_true rfl⟩ ⟨Nat.le_of_ble_eq_true rfl, Nat.le_of_ble_eq_true rfl⟩ rfl rfl (Nat.le_of_ble_eq_true rfl) dX3_place_34 ?_
        refine br_topi (y := whyS (G 2) s q) rfl ?_
        refine br_istore_3 dX3_place_37 rfl ?_
        refine br_iload_3 dX3_place_38 ?_
        refine br_if_le (tgt := 44) dX3_place_39 (by decide) (by omega) (fun c39 => ?_) (fun c39 => ?_)
        · refine br_aload_0 dX3_place_44 ?_
          refine br_Vv0 (i := 40) (j := 0) (ct_m_snap hu hs) lk_X3_233 ⟨Nat.le_of_ble_eq_true rfl, Nat.le_of_ble_eq_true rfl⟩ ⟨Nat.le_of_ble_eq_true rfl, Nat.le_of_ble_eq_true rfl⟩ rfl rfl (Nat.le_of_ble_eq_true rfl) dX3_place_45 (fun w_ hw_ => ?_)
          obtain ⟨g4, rfl, hsn⟩ := hw_
          refine br_aload_0 dX3_place_48 ?_
          refine br_iload_1 dX3_place_49 ?_
          refine br_iload_2 dX3_place_50 ?_
          refine br_Vv2 (i := 40) (j := 0) (ct_m_lies (by omega)) lk_X3_183 ⟨Nat.le_of_ble_eq_true rfl, Nat.le_of_ble_eq_true rfl⟩ ⟨Nat.le_of_ble_eq_true rfl, Nat.le_of_ble_eq_true rfl⟩ rfl rfl (Nat.le_of_ble_eq_true rfl) dX3_place_51 (fun w_ hw_ => ?_)
          subst hw_
          refine br_iconst dX3_place_54 ?_
          exact br_ireturn dX3_place_55 (by decide) (by decide) (hret _ _ (⟨_, rfl, Or.inl ⟨by unfold placeOk; omega, rfl, ⟨_, _, _, rfl, rfl, rfl, rfl, rfl, rfl, hsn, htp, by have := pushU_bd hu; omega, hln⟩⟩⟩))
        · refine br_iload_3 dX3_place_42 ?_
          exact br_ireturn dX3_place_43 (by decide) (by decide) (hret _ _ (⟨_, rfl, Or.inr ⟨by unfold placeOk; omega, by unfold placeS; rw [if_pos (by omega)], ⟨_, _, _, rfl, rfl, rfl, rfl, rfl, rfl, hs, htp, hu, hln⟩⟩⟩))
      · refine br_iconst dX3_place_29 ?_
        exact br_ireturn dX3_place_30 (by decide) (by decide) (hret _ _ (⟨_, rfl, Or.inr ⟨by unfold placeOk; omega, by unfold placeS; rw [if_neg (by omega)], ⟨_, _, _, rfl, rfl, rfl, rfl, rfl, rfl, hs, htp, hu, hln⟩⟩⟩))
    · refine br_if_eq (tgt := 29) dX3_place_17 (by decide) (by decide) (fun _ => ?_) (fun q => absurd q (by decide))
      refine br_iconst dX3_place_29 ?_
      exact br_ireturn dX3_place_30 (by decide) (by decide) (hret _ _ (⟨_, rfl, Or.inr ⟨by unfold placeOk; omega, by unfold placeS; rw [if_neg (by omega)], ⟨_, _, _, rfl, rfl, rfl, rfl, rfl, rfl, hs, htp, hu, hln⟩⟩⟩))
  · refine br_if_eq (tgt := 29) dX3_place_10 (by decide) (by decide) (fun _ => ?_) (fun q => absurd q (by decide))
    refine br_iconst dX3_place_29 ?_
    exact br_ireturn dX3_place_30 (by decide) (by decide) (hret _ _ (⟨_, rfl, Or.inr ⟨by unfold placeOk; omega, by unfold placeS; rw [if_neg (by omega)], ⟨_, _, _, rfl, rfl, rfl, rfl, rfl, rfl, hs, htp, hu, hln⟩⟩⟩))

theorem ct_m_take {D : bk_D} {o : Nat} {a : Nat → Nat} {ex : gC} {r : Int → Int} {um : Int} {hist : Int → Int → Int} {tp : Int → Int} {len flt th : Int} {w : gC} (h : MS o a ex r um hist tp len flt th w) {s : Int} (hs : -2147483648 ≤ s ∧ s < 2147483648) (hR : RW r) : bk_K D yX3_take (.code yX3_take cX3_take 3 (some (FieldType.int))) ({ frames := 2, cells := 0, slots := 0, locals := 43 }) [.ref o, .int (iI s)] w (bk_pi fun v w' => (takeOk r s ∧ v = rAt r s - 1 ∧ MS o a ex (putA r s 0) (pushU um) (pushH hist um r) tp len flt 0 w') ∨ (¬ takeOk r s ∧ v = -1 ∧ MS o a ex r um hist tp len flt 0 w')) bk_nox := by
  obtain ⟨F, wd, G, rfl, rfl, rfl, rfl, rfl, rfl, hs, htp, hu, hln⟩ := h
  refine bk_ofV (own := "BreakSetterModel") (L0 := [some (.ref o), some (.int (iI s)), none]) (by decide) rfl (Nat.le_of_ble_eq_true rfl) rfl bk_oi (fun Γ hct hret hthr => ?_)
  have hn := hR.n
  refine br_aload_0 dX3_take_0 ?_
  refine br_iconst dX3_take_1 ?_
  refine br_mp_0 dX3_take_2 ?_
  refine br_aload_0 dX3_take_5 ?_
  refine br_iload_1 dX3_take_6 ?_
  refine br_VZ1 (i := 40) (j := 0) (ct_m_isPause (by omega) hR) lk_X3_203 ⟨Nat.le_of_ble_eq_true rfl, Nat.le_of_ble_eq_true rfl⟩ ⟨Nat.le_of_ble_eq_true rfl, Nat.le_of_ble_eq_true rfl⟩ rfl rfl (Nat.le_of_ble_eq_true rfl) dX3_take_7 (fun c7 => ?_) (fun c7 => ?_)
  · refine br_if_eq (tgt := 22) dX3_take_10 (by decide) (by decide) (fun q => absurd q (by decide)) (fun _ => ?_)
    have hs1 := hR.pa2 (k := s) (by omega)
    refine br_aload_0 dX3_take_13 ?_
    refine br_iload_1 dX3_take_14 ?_
    refine br_VF1 (i := 40) (j := 0) (ct_m_placeOf (by omega)) lk_X3_162 ⟨Nat.le_of_ble_eq_true rfl, Nat.le_of_ble_eq_true rfl⟩ ⟨Nat.le_of_ble_eq_true rfl, Nat.le_of_ble_eq_true rfl⟩ rfl rfl (Nat.le_of_ble_eq_true rfl) dX3_take_15 ?_
    refine br_topi (y := rAt (G 2) s - 1) rfl ?_
    refine br_iconst dX3_take_18 ?_
    refine br_icmp_ne (tgt := 24) dX3_take_19 (by decide) (by omega) (fun c19 => ?_) (fun c19 => ?_)
    · refine br_aload_0 dX3_take_24 ?_
      refine br_Vv0 (i := 40) (j := 0) (ct_m_snap hu hs) lk_X3_233 ⟨Nat.le_of_ble_eq_true rfl, Nat.le_of_ble_eq_true rfl⟩ ⟨Nat.le_of_ble_eq_true rfl, Nat.le_of_ble_eq_true rfl⟩ rfl rfl (Nat.le_of_ble_eq_true rfl) dX3_take_25 (fun w_ hw_ => ?_)
      obtain ⟨g4, rfl, hsn⟩ := hw_
      refine br_aload_0 dX3_take_28 ?_
      refine br_iload_1 dX3_take_29 ?_
      refine br_VF1 (i := 40) (j := 0) (ct_m_placeOf (by omega)) lk_X3_162 ⟨Nat.le_of_ble_eq_true rfl, Nat.le_of_ble_eq_true rfl⟩ ⟨Nat.le_of_ble_eq_true rfl, Nat.le_of_ble_eq_true rfl⟩ rfl rfl (Nat.le_of_ble_eq_true rfl) dX3_take_30 ?_
      refine br_topi (y := rAt (G 2) s - 1) rfl ?_
      refine br_istore_2 dX3_take_33 rfl ?_
      refine br_aload_0 dX3_take_34 ?_
      refine br_iload_1 dX3_take_35 ?_
      refine br_iconst dX3_take_36 ?_
      refine br_Vv2 (i := 40) (j := 0) (ct_m_lies (by omega)) lk_X3_183 ⟨Nat.le_of_ble_eq_true rfl, Nat.le_of_ble_eq_true rfl⟩ ⟨Nat.le_of_ble_eq_true rfl, Nat.le_of_ble_eq_true rfl⟩ rfl rfl (Nat.le_of_ble_eq_true rfl) dX3_take_37 (fun w_ hw_ => ?_)
      subst hw_
      refine br_iload_2 dX3_take_40 ?_
      exact br_ireturn dX3_take_41 (by decide) (by decide) (hret _ _ (⟨_, rfl, Or.inl ⟨by unfold takeOk; omega, rfl, ⟨_, _, _, rfl, rfl, rfl, rfl, rfl, rfl, hsn, htp, by have := pushU_bd hu; omega, hln⟩⟩⟩))
    · refine br_iconst dX3_take_22 ?_
      exact br_ireturn dX3_take_23 (by decide) (by decide) (hret _ _ (⟨_, rfl, Or.inr ⟨by unfold takeOk; omega, rfl, ⟨_, _, _, rfl, rfl, rfl, rfl, rfl, rfl, hs, htp, hu, hln⟩⟩⟩))
  · refine br_if_eq (tgt := 22) dX3_take_10 (by decide) (by decide) (fun _ => ?_) (fun q => absurd q (by decide))
    refine br_iconst dX3_take_22 ?_
    exact br_ireturn dX3_take_23 (by decide) (by decide) (hret _ _ (⟨_, rfl, Or.inr ⟨by unfold takeOk; omega, rfl, ⟨_, _, _, rfl, rfl, rfl, rfl, rfl, rfl, hs, htp, hu, hln⟩⟩⟩))

theorem ct_m_fill {D : bk_D} {o : Nat} {a : Nat → Nat} {ex : gC} {r : Int → Int} {um : Int} {hist : Int → Int → Int} {tp : Int → Int} {len flt th : Int} {w : gC} (h : MS o a ex r um hist tp len flt th w) (hR : RW r) : bk_K D yX3_fill (.code yX3_fill cX3_fill 4 (some (FieldType.int))) ({ frames := 9, cells := 0, slots := 0, locals := 206 }) [.ref o] w (bk_pi fun v w' => ∃ r' : Int → Int, fillR r (r 3).toNat r' v ∧ MS o a ex r' (pushU um) (pushH hist um r) tp len flt 0 w') bk_nox := by
  obtain ⟨F, wd, G, rfl, rfl, rfl, rfl, rfl, rfl, hs, htp, hu, hln⟩ := h
  refine bk_ofV (own := "BreakSetterModel") (L0 := [some (.ref o), none, none, none]) (by decide) rfl (Nat.le_of_ble_eq_true rfl) rfl bk_oi (fun Γ hct hret hthr => ?_)
  have hn := hR.n
  refine br_aload_0 dX3_fill_0 ?_
  refine br_iconst dX3_fill_1 ?_
  refine br_mp_0 dX3_fill_2 ?_
  refine br_aload_0 dX3_fill_5 ?_
  refine br_Vv0 (i := 40) (j := 0) (ct_m_snap hu hs) lk_X3_233 ⟨Nat.le_of_ble_eq_true rfl, Nat.le_of_ble_eq_true rfl⟩ ⟨Nat.le_of_ble_eq_true rfl, Nat.le_of_ble_eq_true rfl⟩ rfl rfl (Nat.le_of_ble_eq_true rfl) dX3_fill_6 (fun w_ hw_ => ?_)
  obtain ⟨g4, rfl, hsn⟩ := hw_
  refine br_iconst dX3_fill_9 ?_
  refine br_istore_1 dX3_fill_10 rfl ?_
  refine br_iconst dX3_fill_11 ?_
  refine br_istore_2 dX3_fill_12 rfl ?_
  refine bk_V.world (w' := (mw o a (uF (uF F 0 0) 14 (pushU (F 14))) wd (uG (uG G 4 g4) 2 (G 2)) ex)) (congrArg (fun G9 => mw o a (uF (uF F 0 0) 14 (pushU (F 14))) wd G9 ex) (uG_same rfl)) ?_
  have lp13 : ∀ (mm13 : Nat) (r1 : Int → Int) (c : Int) (x : Int), (G 2 3 - x).toNat < mm13 → (0 ≤ x ∧ x ≤ G 2 3) → (fillR (G 2) x.toNat r1 c) → bk_V Γ D ({ frames := 9, cells := 0, slots := 0, locals := 206 }) "BreakSetterModel" cX3_fill [] 0 0 (mw o a (uF (uF F 0 0) 14 (pushU (F 14))) wd (uG (uG G 4 g4) 2 r1) ex) [some (.ref o), some (.int (iI c)), some (.int (iI x)), none] [] 13 := by
    intro mm13
    induction mm13 with
    | zero => intro r1 c x hm13; exact absurd hm13 (Nat.not_lt_zero _)
    | succ mm13 ih13 =>
      intro r1 c x hm13 h1 h2
      obtain ⟨hR1, hr3, hc0⟩ := fillR_RWx hR h1 h2
      refine br_iload_2 dX3_fill_13 ?_
      refine br_aload_0 dX3_fill_14 ?_
      refine br_mg_11 dX3_fill_15 ?_
      refine br_iconst dX3_fill_18 ?_
      refine br_ml_2 (v := r1 3) (by omega) rfl dX3_fill_19 ?_
      refine br_icmp_ge (tgt := 65) dX3_fill_20 (by decide) (by omega) (fun c20 => ?_) (fun c20 => ?_)
      · refine br_iload_1 dX3_fill_65 ?_
        exact br_ireturn dX3_fill_66 (by decide) (by decide) (hret _ _ (⟨_, rfl, r1, by rw [show (G 2 3) = x by omega]; exact h2, ⟨_, _, _, rfl, rfl, rfl, rfl, rfl, rfl, hsn, htp, by have := pushU_bd hu; omega, hln⟩⟩))
      · have hs1 := hR1.pa2 (k := x) (by omega)
        refine br_aload_0 dX3_fill_23 ?_
        refine br_iload_2 dX3_fill_24 ?_
        refine br_VF1 (i := 40) (j := 0) (ct_m_placeOf (by omega)) lk_X3_162 ⟨Nat.le_of_ble_eq_true rfl, Nat.le_of_ble_eq_true rfl⟩ ⟨Nat.le_of_ble_eq_true rfl, Nat.le_of_ble_eq_true rfl⟩ rfl rfl (Nat.le_of_ble_eq_true rfl) dX3_fill_25 ?_
        refine br_topi (y := rAt r1 x - 1) rfl ?_
        refine br_iconst dX3_fill_28 ?_
        refine br_icmp_eq (tgt := 35) dX3_fill_29 (by decide) (by omega) (fun c29 => ?_) (fun c29 => ?_)
        · refine br_aload_0 dX3_fill_35 ?_
          refine br_iload_2 dX3_fill_36 ?_
          refine br_Vi1 (i := 40) (j := 0) (ct_m_bestOf (show 0 ≤ x ∧ x < r1 3 from by omega) hR1) lk_X3_212 ⟨Nat.le_of_ble_eq_true rfl, Nat.le_of_ble_eq_true rfl⟩ ⟨Nat.le_of_ble_eq_true rfl, Nat.le_of_ble_eq_true rfl⟩ rfl rfl (Nat.le_of_ble_eq_true rfl) dX3_fill_37 (fun v37 w_ hw_ => ?_)
          obtain ⟨hb37, rfl⟩ := hw_
          refine br_istore_3 dX3_fill_40 rfl ?_
          refine br_iload_3 dX3_fill_41 ?_
          refine br_bipush dX3_fill_42 (by decide) ?_
          refine br_icmp_ne (tgt := 50) dX3_fill_44 (by decide) (by omega) (fun c44 => ?_) (fun c44 => ?_)
          · refine br_aload_0 dX3_fill_50 ?_
            refine br_iload_2 dX3_fill_51 ?_
            refine br_iload_3 dX3_fill_52 ?_
            refine br_Vv2 (i := 40) (j := 0) (ct_m_lies (by omega)) lk_X3_183 ⟨Nat.le_of_ble_eq_true rfl, Nat.le_of_ble_eq_true rfl⟩ ⟨Nat.le_of_ble_eq_true rfl, Nat.le_of_ble_eq_true rfl⟩ rfl rfl (Nat.le_of_ble_eq_true rfl) dX3_fill_53 (fun w_ hw_ => ?_)
            subst hw_
            refine bk_V.world (w' := (mw o a (uF (uF F 0 0) 14 (pushU (F 14))) wd (uG (uG G 4 g4) 2 (putA r1 x (v37 + 1))) ex)) (congrArg (fun G9 => mw o a (uF (uF F 0 0) 14 (pushU (F 14))) wd G9 ex) (uG_uG _ _ _ _)) ?_
            refine br_iinc_1 dX3_fill_56 rfl ?_
            refine br_iinc_2 dX3_fill_59 rfl ?_
            refine br_goto (tgt := 13) dX3_fill_62 (by decide) ?_
            refine br_fg_3 ?_
            exact ih13 _ _ _ (by omega) (by omega) (by first | exact fillR_s1 (by omega) h2 (by omega) | exact fillR_s2 (by omega) h2 (by omega) hb37.1 | exact fillR_s3 (by omega) h2 (by omega) hb37.1 (by omega))
          · subst c44
            refine br_goto (tgt := 59) dX3_fill_47 (by decide) ?_
            refine br_iinc_2 dX3_fill_59 rfl ?_
            refine br_goto (tgt := 13) dX3_fill_62 (by decide) ?_
            refine br_fg_3 ?_
            exact ih13 _ _ _ (by omega) (by omega) (by first | exact fillR_s1 (by omega) h2 (by omega) | exact fillR_s2 (by omega) h2 (by omega) hb37.1 | exact fillR_s3 (by omega) h2 (by omega) hb37.1 (by omega))
        · refine br_goto (tgt := 59) dX3_fill_32 (by decide) ?_
          refine br_iinc_2 dX3_fill_59 rfl ?_
          refine br_goto (tgt := 13) dX3_fill_62 (by decide) ?_
          exact ih13 _ _ _ (by omega) (by omega) (by first | exact fillR_s1 (by omega) h2 (by omega) | exact fillR_s2 (by omega) h2 (by omega) hb37.1 | exact fillR_s3 (by omega) h2 (by omega) hb37.1 (by omega))
  exact lp13 _ _ _ _ (Nat.lt_succ_self _) (by omega) ⟨rfl, rfl⟩

theorem ct_m_settle {D : bk_D} {o : Nat} {a : Nat → Nat} {ex : gC} {r : Int → Int} {um : Int} {hist : Int → Int → Int} {tp : Int → Int} {len flt th : Int} {w : gC} (h : MS o a ex r um hist tp len flt th w) (hR : RW r) : bk_K D yX3_settle (.code yX3_settle cX3_settle 3 (some (FieldType.int))) ({ frames := 9, cells := 0, slots := 0, locals := 206 }) [.ref o] w (bk_pi fun v w' => (isBetter r (-2) ∧ v = -1 ∧ MS o a ex r um hist tp len flt 0 w') ∨ ∃ (b : Int) (r' : Int → Int), isBetter r b ∧ ¬ b = -2 ∧ (0 ≤ v ∧ v ≤ 40) ∧ setR r v.toNat r' ∧ (v = 40 ∨ isBetter r' (-2)) ∧ MS o a ex r' (pushU um) (pushH hist um r) tp len flt 0 w') bk_nox := by
  obtain ⟨F, wd, G, rfl, rfl, rfl, rfl, rfl, rfl, hs, htp, hu, hln⟩ := h
  refine bk_ofV (own := "BreakSetterModel") (L0 := [some (.ref o), none, none]) (by decide) rfl (Nat.le_of_ble_eq_true rfl) rfl bk_oi (fun Γ hct hret hthr => ?_)
  have hn := hR.n
  refine br_aload_0 dX3_settle_0 ?_
  refine br_iconst dX3_settle_1 ?_
  refine br_mp_0 dX3_settle_2 ?_
  refine br_aload_0 dX3_settle_5 ?_
  refine br_Vi0 (i := 40) (j := 0) (ct_m_betterNow hR) lk_X3_215 ⟨Nat.le_of_ble_eq_true rfl, Nat.le_of_ble_eq_true rfl⟩ ⟨Nat.le_of_ble_eq_true rfl, Nat.le_of_ble_eq_true rfl⟩ rfl rfl (Nat.le_of_ble_eq_true rfl) dX3_settle_6 (fun v6 w_ hw_ => ?_)
  obtain ⟨hb6, rfl⟩ := hw_
  refine br_istore_1 dX3_settle_9 rfl ?_
  refine br_iload_1 dX3_settle_10 ?_
  refine br_bipush dX3_settle_11 (by decide) ?_
  refine br_icmp_ne (tgt := 18) dX3_settle_13 (by decide) (by omega) (fun c13 => ?_) (fun c13 => ?_)
  · refine br_aload_0 dX3_settle_18 ?_
    refine br_Vv0 (i := 40) (j := 0) (ct_m_snap hu hs) lk_X3_233 ⟨Nat.le_of_ble_eq_true rfl, Nat.le_of_ble_eq_true rfl⟩ ⟨Nat.le_of_ble_eq_true rfl, Nat.le_of_ble_eq_true rfl⟩ rfl rfl (Nat.le_of_ble_eq_true rfl) dX3_settle_19 (fun w_ hw_ => ?_)
    obtain ⟨g4, rfl, hsn⟩ := hw_
    refine br_iconst dX3_settle_22 ?_
    refine br_istore_2 dX3_settle_23 rfl ?_
    refine bk_V.world (w' := (mw o a (uF (uF F 0 0) 14 (pushU (F 14))) wd (uG (uG G 4 g4) 2 (G 2)) ex)) (congrArg (fun G9 => mw o a (uF (uF F 0 0) 14 (pushU (F 14))) wd G9 ex) (uG_same rfl)) ?_
    have lp24 : ∀ (mm24 : Nat) (r1 : Int → Int) (b : Int) (c : Int), (40 - c).toNat < mm24 → (0 ≤ c ∧ c ≤ 40) → (setR (G 2) c.toNat r1) → (isBetter r1 b ∧ -2 ≤ b ∧ b < 2400) → bk_V Γ D ({ frames := 9, cells := 0, slots := 0, locals := 206 }) "BreakSetterModel" cX3_settle [] 0 0 (mw o a (uF (uF F 0 0) 14 (pushU (F 14))) wd (uG (uG G 4 g4) 2 r1) ex) [some (.ref o), some (.int (iI b)), some (.int (iI c))] [] 24 := by
      intro mm24
      induction mm24 with
      | zero => intro r1 b c hm24; exact absurd hm24 (Nat.not_lt_zero _)
      | succ mm24 ih24 =>
        intro r1 b c hm24 h1 h2 h3
        obtain ⟨hR1, hr3⟩ := setR_RW hR _ _ h2
        refine br_iload_1 dX3_settle_24 ?_
        refine br_bipush dX3_settle_25 (by decide) ?_
        refine br_icmp_eq (tgt := 59) dX3_settle_27 (by decide) (by omega) (fun c27 => ?_) (fun c27 => ?_)
        · have e27 : b = -2 := c27
          refine br_iload_2 dX3_settle_59 ?_
          exact br_ireturn dX3_settle_60 (by decide) (by decide) (hret _ _ (⟨_, rfl, Or.inr ⟨v6, r1, hb6.1, by assumption, h1, h2, (by first | exact Or.inr (by have := h3.1; rwa [e27] at this) | exact Or.inl (by omega)), ⟨_, _, _, rfl, rfl, rfl, rfl, rfl, rfl, hsn, htp, by have := pushU_bd hu; omega, hln⟩⟩⟩))
        · obtain ⟨hbc, hb0⟩ := isBetter_at hR1 h3.1 c27
          have hbk := cand_bd hR1 hbc
          have hR2 : RW (putA r1 (b / 100) (b % 100 + 1)) := (setR_RW hR (c.toNat + 1) _ ⟨r1, b, h2, h3.1, c27, rfl⟩).1
          refine br_iload_2 dX3_settle_30 ?_
          refine br_bipush dX3_settle_31 (by decide) ?_
          refine br_icmp_ge (tgt := 59) dX3_settle_33 (by decide) (by omega) (fun c33 => ?_) (fun c33 => ?_)
          · refine br_iload_2 dX3_settle_59 ?_
            exact br_ireturn dX3_settle_60 (by decide) (by decide) (hret _ _ (⟨_, rfl, Or.inr ⟨v6, r1, hb6.1, by assumption, h1, h2, (by first | exact Or.inr (by have := h3.1; rwa [e27] at this) | exact Or.inl (by omega)), ⟨_, _, _, rfl, rfl, rfl, rfl, rfl, rfl, hsn, htp, by have := pushU_bd hu; omega, hln⟩⟩⟩))
          · refine br_aload_0 dX3_settle_36 ?_
            refine br_iload_1 dX3_settle_37 ?_
            refine br_bipush dX3_settle_38 (by decide) ?_
            refine br_idiv dX3_settle_40 (by omega) ?_
            refine br_iload_1 dX3_settle_41 ?_
            refine br_bipush dX3_settle_42 (by decide) ?_
            refine br_irem dX3_settle_44 (by omega) ?_
            refine br_Vv2 (i := 40) (j := 0) (ct_m_lies (by omega)) lk_X3_183 ⟨Nat.le_of_ble_eq_true rfl, Nat.le_of_ble_eq_true rfl⟩ ⟨Nat.le_of_ble_eq_true rfl, Nat.le_of_ble_eq_true rfl⟩ rfl rfl (Nat.le_of_ble_eq_true rfl) dX3_settle_45 (fun w_ hw_ => ?_)
            subst hw_
            refine bk_V.world (w' := (mw o a (uF (uF F 0 0) 14 (pushU (F 14))) wd (uG (uG G 4 g4) 2 (putA r1 (b / 100) (b % 100 + 1))) ex)) (congrArg (fun G9 => mw o a (uF (uF F 0 0) 14 (pushU (F 14))) wd G9 ex) (uG_uG _ _ _ _)) ?_
            refine br_iinc_2 dX3_settle_48 rfl ?_
            refine br_aload_0 dX3_settle_51 ?_
            refine br_Vi0 (i := 40) (j := 0) (ct_m_betterNow hR2) lk_X3_215 ⟨Nat.le_of_ble_eq_true rfl, Nat.le_of_ble_eq_true rfl⟩ ⟨Nat.le_of_ble_eq_true rfl, Nat.le_of_ble_eq_true rfl⟩ rfl rfl (Nat.le_of_ble_eq_true rfl) dX3_settle_52 (fun v52 w_ hw_ => ?_)
            obtain ⟨hb52, rfl⟩ := hw_
            refine br_istore_1 dX3_settle_55 rfl ?_
            refine br_goto (tgt := 24) dX3_settle_56 (by decide) ?_
            exact ih24 _ _ _ (by omega) (by omega) (setR_s h1.1 h2 h3.1 c27) hb52
    exact lp24 _ _ _ _ (Nat.lt_succ_self _) (by omega) rfl hb6
  · subst c13
    refine br_iconst dX3_settle_16 ?_
    exact br_ireturn dX3_settle_17 (by decide) (by decide) (hret _ _ (⟨_, rfl, Or.inl ⟨hb6.1, rfl, ⟨_, _, _, rfl, rfl, rfl, rfl, rfl, rfl, hs, htp, hu, hln⟩⟩⟩))

theorem ct_m_undo {D : bk_D} {o : Nat} {a : Nat → Nat} {ex : gC} {r : Int → Int} {um : Int} {hist : Int → Int → Int} {tp : Int → Int} {len flt th : Int} {w : gC} (h : MS o a ex r um hist tp len flt th w)  : bk_K D yX3_undo (.code yX3_undo cX3_undo 2 (some (FieldType.int))) ({ frames := 0, cells := 0, slots := 0, locals := 0 }) [.ref o] w (bk_pi fun v w' => (um = 0 ∧ v = -1 ∧ MS o a ex r um hist tp len flt 0 w') ∨ (¬ um = 0 ∧ v = um - 1 ∧ MS o a ex (hist (um - 1)) (um - 1) hist tp len flt 0 w')) bk_nox := by
  obtain ⟨F, wd, G, rfl, rfl, rfl, rfl, rfl, rfl, hs, htp, hu, hln⟩ := h
  refine bk_ofV (own := "BreakSetterModel") (L0 := [some (.ref o), none]) (by decide) rfl (Nat.le_of_ble_eq_true rfl) rfl bk_oi (fun Γ hct hret hthr => ?_)
  refine br_aload_0 dX3_undo_0 ?_
  refine br_iconst dX3_undo_1 ?_
  refine br_mp_0 dX3_undo_2 ?_
  refine br_aload_0 dX3_undo_5 ?_
  refine br_mg_14 (v := F 14) rfl dX3_undo_6 ?_
  refine br_if_ne (tgt := 14) dX3_undo_9 (by decide) (by omega) (fun c9 => ?_) (fun c9 => ?_)
  · refine br_aload_0 dX3_undo_14 ?_
    refine br_dup dX3_undo_15 rfl ?_
    refine br_mg_14 (v := F 14) rfl dX3_undo_16 ?_
    refine br_iconst dX3_undo_19 ?_
    refine br_isub dX3_undo_20 ?_
    refine br_mp_14 dX3_undo_21 ?_
    refine br_iconst dX3_undo_24 ?_
    refine br_istore_1 dX3_undo_25 rfl ?_
    refine bk_V.world (w' := (mw o a (uF (uF F 0 0) 14 ((F 14) - 1)) wd (uG G 2 (G 2)) ex)) (congrArg (fun G9 => mw o a (uF (uF F 0 0) 14 ((F 14) - 1)) wd G9 ex) (uG_same rfl)) ?_
    have lp26 : ∀ (mm26 : Nat) (g : Int → Int) (z : Int), (308 - z).toNat < mm26 → (0 ≤ z ∧ z ≤ 308) → (∀ y : Int, 0 ≤ y → y < z → g y = hist (F 14 - 1) y) → bk_V Γ D ({ frames := 0, cells := 0, slots := 0, locals := 0 }) "BreakSetterModel" cX3_undo [] 0 0 (mw o a (uF (uF F 0 0) 14 ((F 14) - 1)) wd (uG G 2 g) ex) [some (.ref o), some (.int (iI z))] [] 26 := by
      intro mm26
      induction mm26 with
      | zero => intro g z hm26; exact absurd hm26 (Nat.not_lt_zero _)
      | succ mm26 ih26 =>
        intro g z hm26 h1 h2
        refine br_iload_1 dX3_undo_26 ?_
        refine br_sipush dX3_undo_27 (by decide) ?_
        refine br_icmp_ge (tgt := 60) dX3_undo_30 (by decide) (by omega) (fun c30 => ?_) (fun c30 => ?_)
        · refine br_mext2 (f' := hist (F 14 - 1)) (fun y q1 q2 => h2 y q1 (by omega)) ?_
          refine br_aload_0 dX3_undo_60 ?_
          refine br_mg_14 (v := (F 14) - 1) rfl dX3_undo_61 ?_
          exact br_ireturn dX3_undo_64 (by decide) (by decide) (hret _ _ (⟨_, rfl, Or.inr ⟨by omega, rfl, ⟨_, _, _, rfl, rfl, rfl, rfl, rfl, rfl, fun i j q1 q2 q3 q4 => hs i j q1 (by omega) q3 q4, htp, by omega, hln⟩⟩⟩))
        · refine br_aload_0 dX3_undo_33 ?_
          refine br_mg_11 dX3_undo_34 ?_
          refine br_iload_1 dX3_undo_37 ?_
          refine br_aload_0 dX3_undo_38 ?_
          refine br_mg_13 dX3_undo_39 ?_
          refine br_sipush dX3_undo_42 (by decide) ?_
          refine br_aload_0 dX3_undo_45 ?_
          refine br_mg_14 (v := (F 14) - 1) rfl dX3_undo_46 ?_
          refine br_imul dX3_undo_49 ?_
          refine br_iload_1 dX3_undo_50 ?_
          refine br_iadd dX3_undo_51 ?_
          refine br_ml_4 (v := G 4 ((308 * ((F 14) - 1)) + z)) (by omega) rfl dX3_undo_52 ?_
          refine br_ms_2 (by omega) dX3_undo_53 ?_
          refine bk_V.world (w' := (mw o a (uF (uF F 0 0) 14 ((F 14) - 1)) wd (uG G 2 (uI g z (G 4 ((308 * ((F 14) - 1)) + z)))) ex)) (congrArg (fun G9 => mw o a (uF (uF F 0 0) 14 ((F 14) - 1)) wd G9 ex) (uG_uG _ _ _ _)) ?_
          refine br_iinc_1 dX3_undo_54 rfl ?_
          refine br_goto (tgt := 26) dX3_undo_57 (by decide) ?_
          exact ih26 _ _ (by omega) (by omega) (fun y q1 q2 => by
  by_cases e : y = z
  · subst e; rw [uI_eq]; exact hs _ _ (by omega) (by omega) (by omega) (by omega)
  · rw [uI_ne _ _ e]; exact h2 y q1 (by omega))
    exact lp26 _ _ _ (Nat.lt_succ_self _) (by omega) (fun y _ _ => by omega)
  · refine br_iconst dX3_undo_12 ?_
    exact br_ireturn dX3_undo_13 (by decide) (by decide) (hret _ _ (⟨_, rfl, Or.inl ⟨by omega, rfl, ⟨_, _, _, rfl, rfl, rfl, rfl, rfl, rfl, hs, htp, hu, hln⟩⟩⟩))

theorem ct_m_lays {D : bk_D} {o : Nat} {a : Nat → Nat} {F : Nat → Int} {wd : Int} {G : Nat → Int → Int} {ex : gC} {v : Int} (hv : -2147483648 ≤ v ∧ v < 2147483648) (hl : 0 ≤ F 2 ∧ F 2 ≤ 636) : bk_K D yX3_lays (.code yX3_lays cX3_lays 3 none) ({ frames := 0, cells := 0, slots := 0, locals := 0 }) [.ref o, .int (iI v)] (mw o a F wd G ex) (bk_pv fun w => ∃ g1 : Int → Int, w = mw o a (uF F 2 (F 2 + 4)) wd (uG G 1 g1) ex ∧ laysOK (G 1) g1 (F 2) v) bk_nox := by
  refine bk_ofV (own := "BreakSetterModel") (L0 := [some (.ref o), some (.int (iI v)), none]) (by decide) rfl (Nat.le_of_ble_eq_true rfl) rfl bk_ov (fun Γ hct hret hthr => ?_)
  refine br_bipush dX3_lays_0 (by decide) ?_
  refine br_istore_2 dX3_lays_2 rfl ?_
  refine bk_V.world (w' := (mw o a (uF F 2 (F 2)) wd (uG G 1 (G 1)) ex)) (by rw [uG_self, uF_self]) ?_
  have lp3 : ∀ (mm3 : Nat) (g : Int → Int) (z : Int) (q : Int), (z + 8).toNat < mm3 → (z = 24 ∨ z = 16 ∨ z = 8 ∨ z = 0 ∨ z = -8) → (z = 24 - 8 * (q - F 2)) → ((∀ y : Int, y < F 2 → g y = G 1 y) ∧ ∀ i : Int, 0 ≤ i → i < q - F 2 → g (F 2 + i) = wordB v i) → bk_V Γ D ({ frames := 0, cells := 0, slots := 0, locals := 0 }) "BreakSetterModel" cX3_lays [] 0 0 (mw o a (uF F 2 q) wd (uG G 1 g) ex) [some (.ref o), some (.int (iI v)), some (.int (iI z))] [] 3 := by
    intro mm3
    induction mm3 with
    | zero => intro g z q hm3; exact absurd hm3 (Nat.not_lt_zero _)
    | succ mm3 ih3 =>
      intro g z q hm3 h1 h3 h2
      refine br_iload_2 dX3_lays_3 ?_
      refine br_if_lt (tgt := 39) dX3_lays_4 (by decide) (by omega) (fun c4 => ?_) (fun c4 => ?_)
      · exact br_return dX3_lays_39 (by decide) (by decide) (hret _ _ (⟨rfl, g, by rw [show q = F 2 + 4 by omega], h2.1, fun i q1 q2 => h2.2 i q1 (by omega)⟩))
      · have hz : z = 24 ∨ z = 16 ∨ z = 8 ∨ z = 0 := by omega
        refine br_aload_0 dX3_lays_7 ?_
        refine br_mg_1 dX3_lays_8 ?_
        refine br_aload_0 dX3_lays_11 ?_
        refine br_mg_2 (v := q) rfl dX3_lays_12 ?_
        refine br_iload_1 dX3_lays_15 ?_
        refine br_iload_2 dX3_lays_16 ?_
        refine br_iushr (z := ((iI v).toUInt32 >>> ((iI z).toUInt32 &&& Int32.toUInt32 31)).toInt32.toInt) dX3_lays_17 (Int32.ofInt_toInt _).symm ?_
        refine br_sipush dX3_lays_18 (by decide) ?_
        refine br_iand (z := byteS v z) dX3_lays_21 (byte_m hz) ?_
        refine br_ms_1 (by omega) dX3_lays_22 ?_
        refine bk_V.world (w' := (mw o a (uF F 2 q) wd (uG G 1 (uI g q (byteS v z))) ex)) (congrArg (fun G9 => mw o a (uF F 2 q) wd G9 ex) (uG_uG _ _ _ _)) ?_
        refine br_aload_0 dX3_lays_23 ?_
        refine br_dup dX3_lays_24 rfl ?_
        refine br_mg_2 (v := q) rfl dX3_lays_25 ?_
        refine br_iconst dX3_lays_28 ?_
        refine br_iadd dX3_lays_29 ?_
        refine br_mp_2 dX3_lays_30 ?_
        refine bk_V.world (w' := (mw o a (uF F 2 (q + 1)) wd (uG G 1 (uI g q (byteS v z))) ex)) (congrArg (fun F9 => mw o a F9 wd (uG G 1 (uI g q (byteS v z))) ex) (uF_uF _ _ _ _)) ?_
        refine br_iinc_2 dX3_lays_33 rfl ?_
        refine br_goto (tgt := 3) dX3_lays_36 (by decide) ?_
        exact ih3 _ _ _ (by omega) (by omega) (by omega) ⟨fun y q1 => by rw [uI_ne _ _ (by omega)]; exact h2.1 y q1, fun i q1 q2 => by
  by_cases e : i = q - F 2
  · rw [show F 2 + i = q by omega, uI_eq]; unfold wordB; congr 1; omega
  · rw [uI_ne _ _ (by omega)]; exact h2.2 i q1 (by omega)⟩
  exact lp3 _ _ _ _ (Nat.lt_succ_self _) (by omega) (by omega) ⟨fun y _ => rfl, fun i _ _ => by omega⟩

theorem ct_m_feed {D : bk_D} {o : Nat} {a : Nat → Nat} {ex : gC} {r : Int → Int} {um : Int} {hist : Int → Int → Int} {tp : Int → Int} {len flt th : Int} {w : gC} (h : MS o a ex r um hist tp len flt th w) {v0 v1 v2 v3 v4 : Int} (hv0 : -2147483648 ≤ v0 ∧ v0 < 2147483648) (hv1 : -2147483648 ≤ v1 ∧ v1 < 2147483648) (hv2 : -2147483648 ≤ v2 ∧ v2 < 2147483648) (hv3 : -2147483648 ≤ v3 ∧ v3 < 2147483648) (hv4 : -2147483648 ≤ v4 ∧ v4 < 2147483648) : bk_K D yX3_feed (.code yX3_feed cX3_feed 6 (some (FieldType.int))) ({ frames := 1, cells := 0, slots := 0, locals := 22 }) [.ref o, .int (iI v0), .int (iI v1), .int (iI v2), .int (iI v3), .int (iI v4)] w (bk_pi fun v w' => (len ≤ 620 ∧ v = len + 20 ∧ MS o a ex r um hist (feedT tp len v0 v1 v2 v3 v4) (len + 20) flt 0 w') ∨ (620 < len ∧ v = -1 ∧ MS o a ex r um hist tp len flt 0 w')) bk_nox := by
  obtain ⟨F, wd, G, rfl, rfl, rfl, rfl, rfl, rfl, hs, htp, hu, hln⟩ := h
  refine bk_ofV (own := "BreakSetterModel") (L0 := [some (.ref o), some (.int (iI v0)), some (.int (iI v1)), some (.int (iI v2)), some (.int (iI v3)), some (.int (iI v4))]) (by decide) rfl (Nat.le_of_ble_eq_true rfl) rfl bk_oi (fun Γ hct hret hthr => ?_)
  refine br_aload_0 dX3_feed_0 ?_
  refine br_iconst dX3_feed_1 ?_
  refine br_mp_0 dX3_feed_2 ?_
  refine br_aload_0 dX3_feed_5 ?_
  refine br_mg_2 (v := F 2) rfl dX3_feed_6 ?_
  refine br_bipush dX3_feed_9 (by decide) ?_
  refine br_iadd dX3_feed_11 ?_
  refine br_sipush dX3_feed_12 (by decide) ?_
  refine br_icmp_le (tgt := 20) dX3_feed_15 (by decide) (by omega) (fun c15 => ?_) (fun c15 => ?_)
  · refine br_aload_0 dX3_feed_20 ?_
    refine br_iload_1 dX3_feed_21 ?_
    refine br_Vv1 (i := 40) (j := 0) (ct_m_lays (by assumption) (show 0 ≤ F 2 ∧ F 2 ≤ 636 from by omega)) lk_X3_14 ⟨Nat.le_of_ble_eq_true rfl, Nat.le_of_ble_eq_true rfl⟩ ⟨Nat.le_of_ble_eq_true rfl, Nat.le_of_ble_eq_true rfl⟩ rfl rfl (Nat.le_of_ble_eq_true rfl) dX3_feed_22 (fun w_ hw_ => ?_)
    obtain ⟨g22, rfl, hg22⟩ := hw_
    refine br_aload_0 dX3_feed_25 ?_
    refine br_iload_2 dX3_feed_26 ?_
    refine br_Vv1 (i := 40) (j := 0) (ct_m_lays (by assumption) (show 0 ≤ F 2 + 4 ∧ F 2 + 4 ≤ 636 from by omega)) lk_X3_14 ⟨Nat.le_of_ble_eq_true rfl, Nat.le_of_ble_eq_true rfl⟩ ⟨Nat.le_of_ble_eq_true rfl, Nat.le_of_ble_eq_true rfl⟩ rfl rfl (Nat.le_of_ble_eq_true rfl) dX3_feed_27 (fun w_ hw_ => ?_)
    obtain ⟨g27, rfl, hg27⟩ := hw_
    refine br_aload_0 dX3_feed_30 ?_
    refine br_iload_3 dX3_feed_31 ?_
    refine br_Vv1 (i := 40) (j := 0) (ct_m_lays (by assumption) (show 0 ≤ F 2 + 4 + 4 ∧ F 2 + 4 + 4 ≤ 636 from by omega)) lk_X3_14 ⟨Nat.le_of_ble_eq_true rfl, Nat.le_of_ble_eq_true rfl⟩ ⟨Nat.le_of_ble_eq_true rfl, Nat.le_of_ble_eq_true rfl⟩ rfl rfl (Nat.le_of_ble_eq_true rfl) dX3_feed_32 (fun w_ hw_ => ?_)
    obtain ⟨g32, rfl, hg32⟩ := hw_
    refine br_aload_0 dX3_feed_35 ?_
    refine br_iload_4 dX3_feed_36 ?_
    refine br_Vv1 (i := 40) (j := 0) (ct_m_lays (by assumption) (show 0 ≤ F 2 + 4 + 4 + 4 ∧ F 2 + 4 + 4 + 4 ≤ 636 from by omega)) lk_X3_14 ⟨Nat.le_of_ble_eq_true rfl, Nat.le_of_ble_eq_true rfl⟩ ⟨Nat.le_of_ble_eq_true rfl, Nat.le_of_ble_eq_true rfl⟩ rfl rfl (Nat.le_of_ble_eq_true rfl) dX3_feed_38 (fun w_ hw_ => ?_)
    obtain ⟨g38, rfl, hg38⟩ := hw_
    refine br_aload_0 dX3_feed_41 ?_
    refine br_iload_5 dX3_feed_42 ?_
    refine br_Vv1 (i := 40) (j := 0) (ct_m_lays (by assumption) (show 0 ≤ F 2 + 4 + 4 + 4 + 4 ∧ F 2 + 4 + 4 + 4 + 4 ≤ 636 from by omega)) lk_X3_14 ⟨Nat.le_of_ble_eq_true rfl, Nat.le_of_ble_eq_true rfl⟩ ⟨Nat.le_of_ble_eq_true rfl, Nat.le_of_ble_eq_true rfl⟩ rfl rfl (Nat.le_of_ble_eq_true rfl) dX3_feed_44 (fun w_ hw_ => ?_)
    obtain ⟨g44, rfl, hg44⟩ := hw_
    refine br_aload_0 dX3_feed_47 ?_
    refine br_mg_2 (v := F 2 + 4 + 4 + 4 + 4 + 4) rfl dX3_feed_48 ?_
    exact br_ireturn dX3_feed_51 (by decide) (by decide) (hret _ _ (⟨F 2 + 20, by rw [show F 2 + 20 = F 2 + 4 + 4 + 4 + 4 + 4 by omega], Or.inl ⟨by omega, rfl, ⟨_, _, _, rfl, rfl, rfl, (show F 2 + 4 + 4 + 4 + 4 + 4 = F 2 + 20 by omega), rfl, rfl, hs, feedT_ok htp hg22 hg27 hg32 hg38 hg44, hu, by omega⟩⟩⟩))
  · refine br_iconst dX3_feed_18 ?_
    exact br_ireturn dX3_feed_19 (by decide) (by decide) (hret _ _ (⟨_, rfl, Or.inr ⟨by omega, rfl, ⟨_, _, _, rfl, rfl, rfl, rfl, rfl, rfl, hs, htp, hu, hln⟩⟩⟩))

