/-! MODEL: questions -/
set_option maxRecDepth 100000
theorem ct_m_scoreAt {D : bk_D} {o : Nat} {a : Nat → Nat} {F : Nat → Int} {wd : Int} {G : Nat → Int → Int} {ex : gC} {k0 t : Int} (hk : 0 ≤ k0 ∧ k0 < G 2 3) (ht : inWin (G 2) k0 t) (hR : RW (G 2)) : bk_K D yX3_scoreAt (.code yX3_scoreAt cX3_scoreAt 5 (some (FieldType.int))) ({ frames := 7, cells := 0, slots := 0, locals := 157 }) [.ref o, .int (iI k0), .int (iI t)] (mw o a F wd G ex) (bk_pf (scoreS (G 2) k0 t) (mw o a F wd G ex)) bk_nox := by
  refine bk_ofV (own := "BreakSetterModel") (L0 := [some (.ref o), some (.int (iI k0)), some (.int (iI t)), none, none]) (by decide) rfl (Nat.le_of_ble_eq_true rfl) rfl bk_oi (fun Γ hct hret hthr => ?_)
  have hn := hR.n
  have hk1 := hR.pa2 hk
  have hR1 : RW (putA (G 2) k0 (t + 1)) := hR.mv hk (Or.inr ⟨by have := ht.1; omega, by have := ht.2; omega⟩)
  have ht1 := ht.1
  have ht2 := ht.2
  refine br_aload_0 dX3_scoreAt_0 ?_
  refine br_iload_1 dX3_scoreAt_1 ?_
  refine br_VF1 (i := 40) (j := 0) (ct_m_placeOf (by omega)) lk_X3_162 ⟨Nat.le_of_ble_eq_true rfl, Nat.le_of_ble_eq_true rfl⟩ ⟨Nat.le_of_ble_eq_true rfl, Nat.le_of_ble_eq_true rfl⟩ rfl rfl (Nat.le_of_ble_eq_true rfl) dX3_scoreAt_2 ?_
  refine br_istore_3 dX3_scoreAt_5 rfl ?_
  refine br_aload_0 dX3_scoreAt_6 ?_
  refine br_iload_1 dX3_scoreAt_7 ?_
  refine br_iload_2 dX3_scoreAt_8 ?_
  refine br_Vv2 (i := 40) (j := 0) (ct_m_lies (by omega)) lk_X3_183 ⟨Nat.le_of_ble_eq_true rfl, Nat.le_of_ble_eq_true rfl⟩ ⟨Nat.le_of_ble_eq_true rfl, Nat.le_of_ble_eq_true rfl⟩ rfl rfl (Nat.le_of_ble_eq_true rfl) dX3_scoreAt_9 (fun w_ hw_ => ?_)
  subst hw_
  refine br_aload_0 dX3_scoreAt_12 ?_
  refine br_VF0 (i := 40) (j := 0) (ct_m_shortfall hR1) lk_X3_187 ⟨Nat.le_of_ble_eq_true rfl, Nat.le_of_ble_eq_true rfl⟩ ⟨Nat.le_of_ble_eq_true rfl, Nat.le_of_ble_eq_true rfl⟩ rfl rfl (Nat.le_of_ble_eq_true rfl) dX3_scoreAt_13 ?_
  refine br_topi (y := fallS (putA (G 2) k0 (t + 1))) rfl ?_
  refine br_istore_4 dX3_scoreAt_16 rfl ?_
  refine br_aload_0 dX3_scoreAt_18 ?_
  refine br_iload_1 dX3_scoreAt_19 ?_
  refine br_iload_3 dX3_scoreAt_20 ?_
  refine br_Vv2 (i := 40) (j := 0) (ct_m_lies (by omega)) lk_X3_183 ⟨Nat.le_of_ble_eq_true rfl, Nat.le_of_ble_eq_true rfl⟩ ⟨Nat.le_of_ble_eq_true rfl, Nat.le_of_ble_eq_true rfl⟩ rfl rfl (Nat.le_of_ble_eq_true rfl) dX3_scoreAt_21 (fun w_ hw_ => ?_)
  subst hw_
  refine bk_V.world (w' := (mw o a F wd (uG G 2 (putA (putA (G 2) k0 (t + 1)) k0 (rAt (G 2) k0 - 1 + 1))) ex)) (congrArg (fun G9 => mw o a F wd G9 ex) (uG_uG _ _ _ _)) ?_
  refine bk_V.world (w' := mw o a F wd G ex) (by rw [putA_putA, show rAt (G 2) k0 - 1 + 1 = rAt (G 2) k0 by omega, putA_self, uG_self]) ?_
  refine br_iload_4 dX3_scoreAt_24 ?_
  exact br_ireturn dX3_scoreAt_26 (by decide) (by decide) (hret _ _ (bk_f rfl))

theorem ct_m_bestOf {D : bk_D} {o : Nat} {a : Nat → Nat} {F : Nat → Int} {wd : Int} {G : Nat → Int → Int} {ex : gC} {k0 : Int} (hk : 0 ≤ k0 ∧ k0 < G 2 3) (hR : RW (G 2)) : bk_K D yX3_bestOf (.code yX3_bestOf cX3_bestOf 6 (some (FieldType.int))) ({ frames := 8, cells := 0, slots := 0, locals := 181 }) [.ref o, .int (iI k0)] (mw o a F wd G ex) (bk_pi fun b w => (isBest (G 2) k0 b ∧ -2 ≤ b ∧ b < 48) ∧ w = (mw o a F wd G ex)) bk_nox := by
  refine bk_ofV (own := "BreakSetterModel") (L0 := [some (.ref o), some (.int (iI k0)), none, none, none, none]) (by decide) rfl (Nat.le_of_ble_eq_true rfl) rfl bk_oi (fun Γ hct hret hthr => ?_)
  have hn := hR.n
  have hk1 := hR.pa2 hk
  have hk2 := (hR.pa hk).2.1
  refine br_bipush dX3_bestOf_0 (by decide) ?_
  refine br_istore_2 dX3_bestOf_2 rfl ?_
  refine br_iconst dX3_bestOf_3 ?_
  refine br_istore_3 dX3_bestOf_4 rfl ?_
  refine br_aload_0 dX3_bestOf_5 ?_
  refine br_iload_1 dX3_bestOf_6 ?_
  refine br_iconst dX3_bestOf_7 ?_
  refine br_VF2 (i := 40) (j := 0) (ct_m_its_2 (by omega)) lk_X3_155 ⟨Nat.le_of_ble_eq_true rfl, Nat.le_of_ble_eq_true rfl⟩ ⟨Nat.le_of_ble_eq_true rfl, Nat.le_of_ble_eq_true rfl⟩ rfl rfl (Nat.le_of_ble_eq_true rfl) dX3_bestOf_8 ?_
  refine br_istore_4 dX3_bestOf_11 rfl ?_
  have lp13 : ∀ (mm13 : Nat) (b : Int) (l : Int) (t : Int), (rLa (G 2) k0 + 1 - t).toNat < mm13 → (rEa (G 2) k0 ≤ t ∧ t ≤ rLa (G 2) k0 + 1) → (bestTo (G 2) k0 t b l) → bk_V Γ D ({ frames := 8, cells := 0, slots := 0, locals := 181 }) "BreakSetterModel" cX3_bestOf [] 0 0 (mw o a F wd G ex) [some (.ref o), some (.int (iI k0)), some (.int (iI b)), some (.int (iI l)), some (.int (iI t)), none] [] 13 := by
    intro mm13
    induction mm13 with
    | zero => intro b l t hm13; exact absurd hm13 (Nat.not_lt_zero _)
    | succ mm13 ih13 =>
      intro b l t hm13 h1 h2
      have h3 := bestTo_bd hR hk h2
      refine br_iload_4 dX3_bestOf_13 ?_
      refine br_aload_0 dX3_bestOf_15 ?_
      refine br_iload_1 dX3_bestOf_16 ?_
      refine br_iconst dX3_bestOf_17 ?_
      refine br_VF2 (i := 40) (j := 0) (ct_m_its_3 (by omega)) lk_X3_155 ⟨Nat.le_of_ble_eq_true rfl, Nat.le_of_ble_eq_true rfl⟩ ⟨Nat.le_of_ble_eq_true rfl, Nat.le_of_ble_eq_true rfl⟩ rfl rfl (Nat.le_of_ble_eq_true rfl) dX3_bestOf_18 ?_
      refine br_icmp_gt (tgt := 73) dX3_bestOf_21 (by decide) (by omega) (fun c21 => ?_) (fun c21 => ?_)
      · refine br_iload_2 dX3_bestOf_73 ?_
        exact br_ireturn dX3_bestOf_74 (by decide) (by decide) (hret _ _ (⟨_, rfl, ⟨bestTo_end h2 (by omega), by omega, by omega⟩, rfl⟩))
      · have hw := whyS_bd (G 2) k0 t
        have hsc := scoreS_bd hR hk (t := t) (by unfold inWin; omega)
        refine br_aload_0 dX3_bestOf_24 ?_
        refine br_iload_1 dX3_bestOf_25 ?_
        refine br_iload_4 dX3_bestOf_26 ?_
        refine br_VF2 (i := 40) (j := 0) (ct_m_whyNot (show 0 ≤ k0 ∧ k0 < G 2 3 from by omega) (by omega) hR) lk_X3_191 ⟨Nat.le_of_ble_eq_true rfl, Nat.le_of_ble_eq_true rfl⟩ ⟨Nat.le_of_ble_eq_true rfl, Nat.le_of_ble_eq_true rfl⟩ rfl rfl (Nat.le_of_ble_eq_true rfl) dX3_bestOf_28 ?_
        refine br_if_le (tgt := 37) dX3_bestOf_31 (by decide) (by omega) (fun c31 => ?_) (fun c31 => ?_)
        · refine br_aload_0 dX3_bestOf_37 ?_
          refine br_iload_1 dX3_bestOf_38 ?_
          refine br_iload_4 dX3_bestOf_39 ?_
          refine br_VF2 (i := 40) (j := 0) (ct_m_scoreAt (show 0 ≤ k0 ∧ k0 < G 2 3 from by omega) (by unfold inWin; omega) hR) lk_X3_194 ⟨Nat.le_of_ble_eq_true rfl, Nat.le_of_ble_eq_true rfl⟩ ⟨Nat.le_of_ble_eq_true rfl, Nat.le_of_ble_eq_true rfl⟩ rfl rfl (Nat.le_of_ble_eq_true rfl) dX3_bestOf_41 ?_
          refine br_istore_5 dX3_bestOf_44 rfl ?_
          refine br_iload_2 dX3_bestOf_46 ?_
          refine br_bipush dX3_bestOf_47 (by decide) ?_
          refine br_icmp_eq (tgt := 61) dX3_bestOf_49 (by decide) (by omega) (fun c49 => ?_) (fun c49 => ?_)
          · refine br_iload_5 dX3_bestOf_61 ?_
            refine br_istore_3 dX3_bestOf_63 rfl ?_
            refine br_iload_4 dX3_bestOf_64 ?_
            refine br_istore_2 dX3_bestOf_66 rfl ?_
            refine br_iinc_4 dX3_bestOf_67 rfl ?_
            refine br_goto (tgt := 13) dX3_bestOf_70 (by decide) ?_
            refine br_fg_5 ?_
            exact ih13 _ _ _ (by omega) (by omega) (by first | exact bestTo_skip h2 (fun q => by have := whyS_0 q; omega) | exact bestTo_worse h2 (by omega) (by omega) | exact bestTo_better (by omega) h2 (whyS_fits.mp (by omega)) (by omega))
          · refine br_iload_5 dX3_bestOf_52 ?_
            refine br_iload_3 dX3_bestOf_54 ?_
            refine br_icmp_lt (tgt := 61) dX3_bestOf_55 (by decide) (by omega) (fun c55 => ?_) (fun c55 => ?_)
            · refine br_iload_5 dX3_bestOf_61 ?_
              refine br_istore_3 dX3_bestOf_63 rfl ?_
              refine br_iload_4 dX3_bestOf_64 ?_
              refine br_istore_2 dX3_bestOf_66 rfl ?_
              refine br_iinc_4 dX3_bestOf_67 rfl ?_
              refine br_goto (tgt := 13) dX3_bestOf_70 (by decide) ?_
              refine br_fg_5 ?_
              exact ih13 _ _ _ (by omega) (by omega) (by first | exact bestTo_skip h2 (fun q => by have := whyS_0 q; omega) | exact bestTo_worse h2 (by omega) (by omega) | exact bestTo_better (by omega) h2 (whyS_fits.mp (by omega)) (by omega))
            · refine br_goto (tgt := 67) dX3_bestOf_58 (by decide) ?_
              refine br_iinc_4 dX3_bestOf_67 rfl ?_
              refine br_goto (tgt := 13) dX3_bestOf_70 (by decide) ?_
              refine br_fg_5 ?_
              exact ih13 _ _ _ (by omega) (by omega) (by first | exact bestTo_skip h2 (fun q => by have := whyS_0 q; omega) | exact bestTo_worse h2 (by omega) (by omega) | exact bestTo_better (by omega) h2 (whyS_fits.mp (by omega)) (by omega))
        · refine br_goto (tgt := 67) dX3_bestOf_34 (by decide) ?_
          refine br_iinc_4 dX3_bestOf_67 rfl ?_
          refine br_goto (tgt := 13) dX3_bestOf_70 (by decide) ?_
          exact ih13 _ _ _ (by omega) (by omega) (by first | exact bestTo_skip h2 (fun q => by have := whyS_0 q; omega) | exact bestTo_worse h2 (by omega) (by omega) | exact bestTo_better (by omega) h2 (whyS_fits.mp (by omega)) (by omega))
  exact lp13 _ _ _ _ (Nat.lt_succ_self _) (by omega) (bestTo_0 _ _ _)

theorem ct_m_betterNow {D : bk_D} {o : Nat} {a : Nat → Nat} {F : Nat → Int} {wd : Int} {G : Nat → Int → Int} {ex : gC} (hR : RW (G 2)) : bk_K D yX3_betterNow (.code yX3_betterNow cX3_betterNow 6 (some (FieldType.int))) ({ frames := 8, cells := 0, slots := 0, locals := 181 }) [.ref o] (mw o a F wd G ex) (bk_pi fun b w => (isBetter (G 2) b ∧ -2 ≤ b ∧ b < 2400) ∧ w = (mw o a F wd G ex)) bk_nox := by
  refine bk_ofV (own := "BreakSetterModel") (L0 := [some (.ref o), none, none, none, none, none]) (by decide) rfl (Nat.le_of_ble_eq_true rfl) rfl bk_oi (fun Γ hct hret hthr => ?_)
  have hn := hR.n
  have hf := fallS_bd hR
  refine br_aload_0 dX3_betterNow_0 ?_
  refine br_VF0 (i := 40) (j := 0) (ct_m_shortfall hR) lk_X3_187 ⟨Nat.le_of_ble_eq_true rfl, Nat.le_of_ble_eq_true rfl⟩ ⟨Nat.le_of_ble_eq_true rfl, Nat.le_of_ble_eq_true rfl⟩ rfl rfl (Nat.le_of_ble_eq_true rfl) dX3_betterNow_1 ?_
  refine br_istore_1 dX3_betterNow_4 rfl ?_
  refine br_bipush dX3_betterNow_5 (by decide) ?_
  refine br_istore_2 dX3_betterNow_7 rfl ?_
  refine br_iconst dX3_betterNow_8 ?_
  refine br_istore_3 dX3_betterNow_9 rfl ?_
  have lp10 : ∀ (mm10 : Nat) (l : Int) (b : Int) (x : Int), (G 2 3 - x).toNat < mm10 → (0 ≤ x ∧ x ≤ G 2 3) → (betTo (G 2) x (rEa (G 2) x) b l) → bk_V Γ D ({ frames := 8, cells := 0, slots := 0, locals := 181 }) "BreakSetterModel" cX3_betterNow [] 0 0 (mw o a F wd G ex) [some (.ref o), some (.int (iI l)), some (.int (iI b)), some (.int (iI x)), none, none] [] 10 := by
    intro mm10
    induction mm10 with
    | zero => intro l b x hm10; exact absurd hm10 (Nat.not_lt_zero _)
    | succ mm10 ih10 =>
      intro l b x hm10 h1 h2
      have h3 := betTo_bd hR h2
      refine br_iload_3 dX3_betterNow_10 ?_
      refine br_aload_0 dX3_betterNow_11 ?_
      refine br_mg_11 dX3_betterNow_12 ?_
      refine br_iconst dX3_betterNow_15 ?_
      refine br_ml_2 (v := G 2 3) (by omega) rfl dX3_betterNow_16 ?_
      refine br_icmp_ge (tgt := 112) dX3_betterNow_17 (by decide) (by omega) (fun c17 => ?_) (fun c17 => ?_)
      · refine br_iload_2 dX3_betterNow_112 ?_
        exact br_ireturn dX3_betterNow_113 (by decide) (by decide) (hret _ _ (⟨_, rfl, ⟨betTo_end h2 (by omega), by omega, by omega⟩, rfl⟩))
      · have hk1 := hR.pa2 (k := x) (by omega)
        have hk2 := (hR.pa (k := x) (by omega)).2.1
        refine br_aload_0 dX3_betterNow_20 ?_
        refine br_iload_3 dX3_betterNow_21 ?_
        refine br_iconst dX3_betterNow_22 ?_
        refine br_VF2 (i := 40) (j := 0) (ct_m_its_2 (by omega)) lk_X3_155 ⟨Nat.le_of_ble_eq_true rfl, Nat.le_of_ble_eq_true rfl⟩ ⟨Nat.le_of_ble_eq_true rfl, Nat.le_of_ble_eq_true rfl⟩ rfl rfl (Nat.le_of_ble_eq_true rfl) dX3_betterNow_23 ?_
        refine br_istore_4 dX3_betterNow_26 rfl ?_
        have lp28 : ∀ (mm28 : Nat) (l : Int) (b : Int) (t : Int), (rLa (G 2) x + 1 - t).toNat < mm28 → (rEa (G 2) x ≤ t ∧ t ≤ rLa (G 2) x + 1) → (betTo (G 2) x t b l) → bk_V Γ D ({ frames := 8, cells := 0, slots := 0, locals := 181 }) "BreakSetterModel" cX3_betterNow [] 0 0 (mw o a F wd G ex) [some (.ref o), some (.int (iI l)), some (.int (iI b)), some (.int (iI x)), some (.int (iI t)), none] [] 28 := by
          intro mm28
          induction mm28 with
          | zero => intro l b t hm28; exact absurd hm28 (Nat.not_lt_zero _)
          | succ mm28 ih28 =>
            intro l b t hm28 g1 g2
            have g3 := betTo_bd hR g2
            refine br_iload_4 dX3_betterNow_28 ?_
            refine br_aload_0 dX3_betterNow_30 ?_
            refine br_iload_3 dX3_betterNow_31 ?_
            refine br_iconst dX3_betterNow_32 ?_
            refine br_VF2 (i := 40) (j := 0) (ct_m_its_3 (by omega)) lk_X3_155 ⟨Nat.le_of_ble_eq_true rfl, Nat.le_of_ble_eq_true rfl⟩ ⟨Nat.le_of_ble_eq_true rfl, Nat.le_of_ble_eq_true rfl⟩ rfl rfl (Nat.le_of_ble_eq_true rfl) dX3_betterNow_33 ?_
            refine br_icmp_gt (tgt := 106) dX3_betterNow_36 (by decide) (by omega) (fun c36 => ?_) (fun c36 => ?_)
            · refine br_iinc_3 dX3_betterNow_106 rfl ?_
              refine br_goto (tgt := 10) dX3_betterNow_109 (by decide) ?_
              refine br_fg_4 ?_
              exact ih10 _ _ _ (by omega) (by omega) (betTo_next g2 (by omega) (by omega))
            · have hw := whyS_bd (G 2) x t
              have hsc := scoreS_bd hR (k := x) (t := t) (by omega) (by unfold inWin; omega)
              refine br_aload_0 dX3_betterNow_39 ?_
              refine br_iload_3 dX3_betterNow_40 ?_
              refine br_VF1 (i := 40) (j := 0) (ct_m_placeOf (by omega)) lk_X3_162 ⟨Nat.le_of_ble_eq_true rfl, Nat.le_of_ble_eq_true rfl⟩ ⟨Nat.le_of_ble_eq_true rfl, Nat.le_of_ble_eq_true rfl⟩ rfl rfl (Nat.le_of_ble_eq_true rfl) dX3_betterNow_41 ?_
              refine br_iconst dX3_betterNow_44 ?_
              refine br_icmp_eq (tgt := 106) dX3_betterNow_45 (by decide) (by omega) (fun c45 => ?_) (fun c45 => ?_)
              · refine br_iinc_3 dX3_betterNow_106 rfl ?_
                refine br_goto (tgt := 10) dX3_betterNow_109 (by decide) ?_
                refine br_fg_4 ?_
                exact ih10 _ _ _ (by omega) (by omega) (betTo_next g2 (by omega) (by omega))
              · refine br_iload_4 dX3_betterNow_48 ?_
                refine br_aload_0 dX3_betterNow_50 ?_
                refine br_iload_3 dX3_betterNow_51 ?_
                refine br_VF1 (i := 40) (j := 0) (ct_m_placeOf (by omega)) lk_X3_162 ⟨Nat.le_of_ble_eq_true rfl, Nat.le_of_ble_eq_true rfl⟩ ⟨Nat.le_of_ble_eq_true rfl, Nat.le_of_ble_eq_true rfl⟩ rfl rfl (Nat.le_of_ble_eq_true rfl) dX3_betterNow_52 ?_
                refine br_icmp_eq (tgt := 100) dX3_betterNow_55 (by decide) (by omega) (fun c55 => ?_) (fun c55 => ?_)
                · refine br_iinc_4 dX3_betterNow_100 rfl ?_
                  refine br_goto (tgt := 28) dX3_betterNow_103 (by decide) ?_
                  exact ih28 _ _ _ (by omega) (by omega) (by first | exact betTo_skip g2 (fun q => by have := whyS_0 q.2.2.2; omega) | exact betTo_skip g2 (fun q => by have := q.2.2.1; omega) | exact betTo_worse g2 (by omega) | exact betTo_better g2 ⟨by omega, by omega, by omega, whyS_fits.mp (by omega)⟩ (by omega))
                · refine br_aload_0 dX3_betterNow_58 ?_
                  refine br_iload_3 dX3_betterNow_59 ?_
                  refine br_iload_4 dX3_betterNow_60 ?_
                  refine br_VF2 (i := 40) (j := 0) (ct_m_whyNot (show 0 ≤ x ∧ x < G 2 3 from by omega) (by omega) hR) lk_X3_191 ⟨Nat.le_of_ble_eq_true rfl, Nat.le_of_ble_eq_true rfl⟩ ⟨Nat.le_of_ble_eq_true rfl, Nat.le_of_ble_eq_true rfl⟩ rfl rfl (Nat.le_of_ble_eq_true rfl) dX3_betterNow_62 ?_
                  refine br_if_le (tgt := 71) dX3_betterNow_65 (by decide) (by omega) (fun c65 => ?_) (fun c65 => ?_)
                  · refine br_aload_0 dX3_betterNow_71 ?_
                    refine br_iload_3 dX3_betterNow_72 ?_
                    refine br_iload_4 dX3_betterNow_73 ?_
                    refine br_VF2 (i := 40) (j := 0) (ct_m_scoreAt (show 0 ≤ x ∧ x < G 2 3 from by omega) (by unfold inWin; omega) hR) lk_X3_194 ⟨Nat.le_of_ble_eq_true rfl, Nat.le_of_ble_eq_true rfl⟩ ⟨Nat.le_of_ble_eq_true rfl, Nat.le_of_ble_eq_true rfl⟩ rfl rfl (Nat.le_of_ble_eq_true rfl) dX3_betterNow_75 ?_
                    refine br_istore_5 dX3_betterNow_78 rfl ?_
                    refine br_iload_5 dX3_betterNow_80 ?_
                    refine br_iload_1 dX3_betterNow_82 ?_
                    refine br_icmp_lt (tgt := 89) dX3_betterNow_83 (by decide) (by omega) (fun c83 => ?_) (fun c83 => ?_)
                    · refine br_iload_5 dX3_betterNow_89 ?_
                      refine br_istore_1 dX3_betterNow_91 rfl ?_
                      refine br_bipush dX3_betterNow_92 (by decide) ?_
                      refine br_iload_3 dX3_betterNow_94 ?_
                      refine br_imul dX3_betterNow_95 ?_
                      refine br_iload_4 dX3_betterNow_96 ?_
                      refine br_iadd dX3_betterNow_98 ?_
                      refine br_istore_2 dX3_betterNow_99 rfl ?_
                      refine br_iinc_4 dX3_betterNow_100 rfl ?_
                      refine br_goto (tgt := 28) dX3_betterNow_103 (by decide) ?_
                      refine br_fg_5 ?_
                      exact ih28 _ _ _ (by omega) (by omega) (by first | exact betTo_skip g2 (fun q => by have := whyS_0 q.2.2.2; omega) | exact betTo_skip g2 (fun q => by have := q.2.2.1; omega) | exact betTo_worse g2 (by omega) | exact betTo_better g2 ⟨by omega, by omega, by omega, whyS_fits.mp (by omega)⟩ (by omega))
                    · refine br_goto (tgt := 100) dX3_betterNow_86 (by decide) ?_
                      refine br_iinc_4 dX3_betterNow_100 rfl ?_
                      refine br_goto (tgt := 28) dX3_betterNow_103 (by decide) ?_
                      refine br_fg_5 ?_
                      exact ih28 _ _ _ (by omega) (by omega) (by first | exact betTo_skip g2 (fun q => by have := whyS_0 q.2.2.2; omega) | exact betTo_skip g2 (fun q => by have := q.2.2.1; omega) | exact betTo_worse g2 (by omega) | exact betTo_better g2 ⟨by omega, by omega, by omega, whyS_fits.mp (by omega)⟩ (by omega))
                  · refine br_goto (tgt := 100) dX3_betterNow_68 (by decide) ?_
                    refine br_iinc_4 dX3_betterNow_100 rfl ?_
                    refine br_goto (tgt := 28) dX3_betterNow_103 (by decide) ?_
                    exact ih28 _ _ _ (by omega) (by omega) (by first | exact betTo_skip g2 (fun q => by have := whyS_0 q.2.2.2; omega) | exact betTo_skip g2 (fun q => by have := q.2.2.1; omega) | exact betTo_worse g2 (by omega) | exact betTo_better g2 ⟨by omega, by omega, by omega, whyS_fits.mp (by omega)⟩ (by omega))
        exact lp28 _ _ _ _ (Nat.lt_succ_self _) (by omega) h2
  exact lp10 _ _ _ _ (Nat.lt_succ_self _) (by omega) betTo_0

theorem ct_m_thrown {D : bk_D} {o : Nat} {a : Nat → Nat} {F : Nat → Int} {wd : Int} {G : Nat → Int → Int} {ex : gC}  : bk_K D yX3_thrown (.code yX3_thrown cX3_thrown 1 (some (FieldType.int))) ({ frames := 0, cells := 0, slots := 0, locals := 0 }) [.ref o] (mw o a F wd G ex) (bk_pf (F 0) (mw o a F wd G ex)) bk_nox := by
  refine bk_ofV (own := "BreakSetterModel") (L0 := [some (.ref o)]) (by decide) rfl (Nat.le_of_ble_eq_true rfl) rfl bk_oi (fun Γ hct hret hthr => ?_)
  refine br_aload_0 dX3_thrown_0 ?_
  refine br_mg_0 (v := F 0) rfl dX3_thrown_1 ?_
  exact br_ireturn dX3_thrown_4 (by decide) (by decide) (hret _ _ (bk_f rfl))

theorem ct_m_refuse {D : bk_D} {o : Nat} {a : Nat → Nat} {F : Nat → Int} {wd : Int} {G : Nat → Int → Int} {ex : gC}  : bk_K D yX3_refuse (.code yX3_refuse cX3_refuse 1 (some (FieldType.int))) ({ frames := 0, cells := 0, slots := 0, locals := 0 }) [.ref o] (mw o a F wd G ex) (bk_pf 0 (mw o a (uF F 0 1) wd G ex)) bk_nox := by
  refine bk_ofV (own := "BreakSetterModel") (L0 := [some (.ref o)]) (by decide) rfl (Nat.le_of_ble_eq_true rfl) rfl bk_oi (fun Γ hct hret hthr => ?_)
  refine br_aload_0 dX3_refuse_0 ?_
  refine br_iconst dX3_refuse_1 ?_
  refine br_mp_0 dX3_refuse_2 ?_
  refine br_iconst dX3_refuse_5 ?_
  exact br_ireturn dX3_refuse_6 (by decide) (by decide) (hret _ _ (bk_f rfl))

theorem ct_m_now {D : bk_D} {o : Nat} {a : Nat → Nat} {F : Nat → Int} {wd : Int} {G : Nat → Int → Int} {ex : gC} {q : Int} (hq : -2147483648 ≤ q ∧ q < 2147483648) (hR : RW (G 2)) : bk_K D yX3_now (.code yX3_now cX3_now 2 (some (FieldType.int))) ({ frames := 7, cells := 0, slots := 0, locals := 157 }) [.ref o, .int (iI q)] (mw o a F wd G ex) (bk_pf (nowS (G 2) (F 14) (F 2) q) (mw o a (uF F 0 0) wd G ex)) bk_nox := by
  refine bk_ofV (own := "BreakSetterModel") (L0 := [some (.ref o), some (.int (iI q))]) (by decide) rfl (Nat.le_of_ble_eq_true rfl) rfl bk_oi (fun Γ hct hret hthr => ?_)
  refine br_aload_0 dX3_now_0 ?_
  refine br_iconst dX3_now_1 ?_
  refine br_mp_0 dX3_now_2 ?_
  refine br_iload_1 dX3_now_5 ?_
  by_cases hsw : q < 0 ∨ 7 < q
  · refine br_tabOut (tgt := 100) dX3_now_6 (by omega) hsw (by decide) ?_
    refine br_iconst dX3_now_100 ?_
    exact br_ireturn dX3_now_101 (by decide) (by decide) (hret _ _ (bk_f (by simp only [nowS]; repeat (first | rw [if_neg (by omega)] | rfl))))
  · have hsw2 : q = 0 ∨ q = 1 ∨ q = 2 ∨ q = 3 ∨ q = 4 ∨ q = 5 ∨ q = 6 ∨ q = 7 := by omega
    rcases hsw2 with hsw2 | hsw2 | hsw2 | hsw2 | hsw2 | hsw2 | hsw2 | hsw2
    · refine br_tabIn (off := 46) (tgt := 52) dX3_now_6 (by omega) (by omega) (by omega) (by rw [hsw2]; rfl) (by decide) ?_
      refine br_aload_0 dX3_now_52 ?_
      refine br_mg_11 dX3_now_53 ?_
      refine br_iconst dX3_now_56 ?_
      refine br_ml_2 (v := G 2 0) (by omega) rfl dX3_now_57 ?_
      exact br_ireturn dX3_now_58 (by decide) (by decide) (hret _ _ (bk_f (by subst hsw2; rfl)))
    · refine br_tabIn (off := 53) (tgt := 59) dX3_now_6 (by omega) (by omega) (by omega) (by rw [hsw2]; rfl) (by decide) ?_
      refine br_aload_0 dX3_now_59 ?_
      refine br_mg_11 dX3_now_60 ?_
      refine br_iconst dX3_now_63 ?_
      refine br_ml_2 (v := G 2 2) (by omega) rfl dX3_now_64 ?_
      exact br_ireturn dX3_now_65 (by decide) (by decide) (hret _ _ (bk_f (by subst hsw2; rfl)))
    · refine br_tabIn (off := 60) (tgt := 66) dX3_now_6 (by omega) (by omega) (by omega) (by rw [hsw2]; rfl) (by decide) ?_
      refine br_aload_0 dX3_now_66 ?_
      refine br_mg_11 dX3_now_67 ?_
      refine br_iconst dX3_now_70 ?_
      refine br_ml_2 (v := G 2 3) (by omega) rfl dX3_now_71 ?_
      exact br_ireturn dX3_now_72 (by decide) (by decide) (hret _ _ (bk_f (by subst hsw2; rfl)))
    · refine br_tabIn (off := 67) (tgt := 73) dX3_now_6 (by omega) (by omega) (by omega) (by rw [hsw2]; rfl) (by decide) ?_
      refine br_aload_0 dX3_now_73 ?_
      refine br_VF0 (i := 40) (j := 0) (ct_m_placed hR) lk_X3_197 ⟨Nat.le_of_ble_eq_true rfl, Nat.le_of_ble_eq_true rfl⟩ ⟨Nat.le_of_ble_eq_true rfl, Nat.le_of_ble_eq_true rfl⟩ rfl rfl (Nat.le_of_ble_eq_true rfl) dX3_now_74 ?_
      refine br_topi (y := placedS (G 2)) rfl ?_
      exact br_ireturn dX3_now_77 (by decide) (by decide) (hret _ _ (bk_f (by subst hsw2; rfl)))
    · refine br_tabIn (off := 72) (tgt := 78) dX3_now_6 (by omega) (by omega) (by omega) (by rw [hsw2]; rfl) (by decide) ?_
      refine br_aload_0 dX3_now_78 ?_
      refine br_VF0 (i := 40) (j := 0) (ct_m_shortfall hR) lk_X3_187 ⟨Nat.le_of_ble_eq_true rfl, Nat.le_of_ble_eq_true rfl⟩ ⟨Nat.le_of_ble_eq_true rfl, Nat.le_of_ble_eq_true rfl⟩ rfl rfl (Nat.le_of_ble_eq_true rfl) dX3_now_79 ?_
      refine br_topi (y := fallS (G 2)) rfl ?_
      exact br_ireturn dX3_now_82 (by decide) (by decide) (hret _ _ (bk_f (by subst hsw2; rfl)))
    · refine br_tabIn (off := 77) (tgt := 83) dX3_now_6 (by omega) (by omega) (by omega) (by rw [hsw2]; rfl) (by decide) ?_
      refine br_aload_0 dX3_now_83 ?_
      refine br_mg_11 dX3_now_84 ?_
      refine br_iconst dX3_now_87 ?_
      refine br_ml_2 (v := G 2 1) (by omega) rfl dX3_now_88 ?_
      exact br_ireturn dX3_now_89 (by decide) (by decide) (hret _ _ (bk_f (by subst hsw2; rfl)))
    · refine br_tabIn (off := 84) (tgt := 90) dX3_now_6 (by omega) (by omega) (by omega) (by rw [hsw2]; rfl) (by decide) ?_
      refine br_aload_0 dX3_now_90 ?_
      refine br_mg_14 (v := F 14) rfl dX3_now_91 ?_
      exact br_ireturn dX3_now_94 (by decide) (by decide) (hret _ _ (bk_f (by subst hsw2; rfl)))
    · refine br_tabIn (off := 89) (tgt := 95) dX3_now_6 (by omega) (by omega) (by omega) (by rw [hsw2]; rfl) (by decide) ?_
      refine br_aload_0 dX3_now_95 ?_
      refine br_mg_2 (v := F 2) rfl dX3_now_96 ?_
      exact br_ireturn dX3_now_99 (by decide) (by decide) (hret _ _ (bk_f (by subst hsw2; rfl)))

theorem ct_m_shift {D : bk_D} {o : Nat} {a : Nat → Nat} {F : Nat → Int} {wd : Int} {G : Nat → Int → Int} {ex : gC} {s q : Int} (hs : -2147483648 ≤ s ∧ s < 2147483648) (hq : -2147483648 ≤ q ∧ q < 2147483648) (hR : RW (G 2)) : bk_K D yX3_shift (.code yX3_shift cX3_shift 3 (some (FieldType.int))) ({ frames := 1, cells := 0, slots := 0, locals := 22 }) [.ref o, .int (iI s), .int (iI q)] (mw o a F wd G ex) (bk_pi fun v w => (shiftOk (G 2) s q ∧ v = shiftS (G 2) s q ∧ w = mw o a (uF F 0 0) wd G ex) ∨ (¬ shiftOk (G 2) s q ∧ w = mw o a (uF F 0 1) wd G ex)) bk_nox := by
  refine bk_ofV (own := "BreakSetterModel") (L0 := [some (.ref o), some (.int (iI s)), some (.int (iI q))]) (by decide) rfl (Nat.le_of_ble_eq_true rfl) rfl bk_oi (fun Γ hct hret hthr => ?_)
  have hn := hR.n
  refine br_aload_0 dX3_shift_0 ?_
  refine br_iconst dX3_shift_1 ?_
  refine br_mp_0 dX3_shift_2 ?_
  refine br_iload_1 dX3_shift_5 ?_
  refine br_iconst dX3_shift_6 ?_
  refine br_aload_0 dX3_shift_7 ?_
  refine br_mg_11 dX3_shift_8 ?_
  refine br_iconst dX3_shift_11 ?_
  refine br_ml_2 (v := G 2 2) (by omega) rfl dX3_shift_12 ?_
  refine br_iconst dX3_shift_13 ?_
  refine br_isub dX3_shift_14 ?_
  refine br_SZ3 (ct_m_isIn (by omega)) lk_X3_102 ⟨Nat.le_of_ble_eq_true rfl, Nat.le_of_ble_eq_true rfl⟩ ⟨Nat.le_of_ble_eq_true rfl, Nat.le_of_ble_eq_true rfl⟩  (Nat.le_of_ble_eq_true rfl) dX3_shift_15 (fun c15 => ?_) (fun c15 => ?_)
  · refine br_if_eq (tgt := 30) dX3_shift_18 (by decide) (by decide) (fun q => absurd q (by decide)) (fun _ => ?_)
    refine br_iload_2 dX3_shift_21 ?_
    refine br_iconst dX3_shift_22 ?_
    refine br_iconst dX3_shift_23 ?_
    refine br_SZ3 (ct_m_isIn (by omega)) lk_X3_102 ⟨Nat.le_of_ble_eq_true rfl, Nat.le_of_ble_eq_true rfl⟩ ⟨Nat.le_of_ble_eq_true rfl, Nat.le_of_ble_eq_true rfl⟩  (Nat.le_of_ble_eq_true rfl) dX3_shift_24 (fun c24 => ?_) (fun c24 => ?_)
    · refine br_if_ne (tgt := 35) dX3_shift_27 (by decide) (by decide) (fun _ => ?_) (fun q => absurd q (by decide))
      refine br_iload_2 dX3_shift_35 ?_
      refine br_iconst dX3_shift_36 ?_
      refine br_icmp_ne (tgt := 53) dX3_shift_37 (by decide) (by omega) (fun c37 => ?_) (fun c37 => ?_)
      · refine br_aload_0 dX3_shift_53 ?_
        refine br_iload_1 dX3_shift_54 ?_
        refine br_iload_2 dX3_shift_55 ?_
        refine br_VF2 (i := 40) (j := 0) (ct_m_duty (by omega)) lk_X3_159 ⟨Nat.le_of_ble_eq_true rfl, Nat.le_of_ble_eq_true rfl⟩ ⟨Nat.le_of_ble_eq_true rfl, Nat.le_of_ble_eq_true rfl⟩ rfl rfl (Nat.le_of_ble_eq_true rfl) dX3_shift_56 ?_
        refine br_topi (y := (G 2) (148 + 5 * s + q)) rfl ?_
        exact br_ireturn dX3_shift_59 (by decide) (by decide) (hret _ _ (⟨_, rfl, Or.inl ⟨by unfold shiftOk; omega, (by unfold shiftS; rw [if_neg (by omega)]), rfl⟩⟩))
      · refine br_aload_0 dX3_shift_40 ?_
        refine br_iload_1 dX3_shift_41 ?_
        refine br_iconst dX3_shift_42 ?_
        refine br_VF2 (i := 40) (j := 0) (ct_m_duty_3 (by omega)) lk_X3_159 ⟨Nat.le_of_ble_eq_true rfl, Nat.le_of_ble_eq_true rfl⟩ ⟨Nat.le_of_ble_eq_true rfl, Nat.le_of_ble_eq_true rfl⟩ rfl rfl (Nat.le_of_ble_eq_true rfl) dX3_shift_43 ?_
        refine br_topi (y := rHas (G 2) s) rfl ?_
        have hs1 := hR.sh (s := s) (by omega)
        refine br_if_ne (tgt := 53) dX3_shift_46 (by decide) (by omega) (fun c46 => ?_) (fun c46 => ?_)
        · refine br_aload_0 dX3_shift_53 ?_
          refine br_iload_1 dX3_shift_54 ?_
          refine br_iload_2 dX3_shift_55 ?_
          refine br_VF2 (i := 40) (j := 0) (ct_m_duty (by omega)) lk_X3_159 ⟨Nat.le_of_ble_eq_true rfl, Nat.le_of_ble_eq_true rfl⟩ ⟨Nat.le_of_ble_eq_true rfl, Nat.le_of_ble_eq_true rfl⟩ rfl rfl (Nat.le_of_ble_eq_true rfl) dX3_shift_56 ?_
          refine br_topi (y := (G 2) (148 + 5 * s + q)) rfl ?_
          exact br_ireturn dX3_shift_59 (by decide) (by decide) (hret _ _ (⟨_, rfl, Or.inl ⟨by unfold shiftOk; omega, (by unfold shiftS; rw [if_neg (by omega)]), rfl⟩⟩))
        · refine br_iconst dX3_shift_49 ?_
          refine br_goto (tgt := 59) dX3_shift_50 (by decide) ?_
          exact br_ireturn dX3_shift_59 (by decide) (by decide) (hret _ _ (⟨_, rfl, Or.inl ⟨by unfold shiftOk; omega, (by unfold shiftS; rw [if_pos (by omega)]), rfl⟩⟩))
    · refine br_if_ne (tgt := 35) dX3_shift_27 (by decide) (by decide) (fun q => absurd q (by decide)) (fun _ => ?_)
      refine br_aload_0 dX3_shift_30 ?_
      refine br_Vi0 (i := 40) (j := 0) ct_m_refuse lk_X3_200 ⟨Nat.le_of_ble_eq_true rfl, Nat.le_of_ble_eq_true rfl⟩ ⟨Nat.le_of_ble_eq_true rfl, Nat.le_of_ble_eq_true rfl⟩ rfl rfl (Nat.le_of_ble_eq_true rfl) dX3_shift_31 (fun v_ w_ hw_ => ?_)
      obtain ⟨rfl, rfl⟩ := hw_
      refine bk_V.world (w' := (mw o a (uF F 0 1) wd G ex)) (congrArg (fun F9 => mw o a F9 wd G ex) (uF_uF _ _ _ _)) ?_
      exact br_ireturn dX3_shift_34 (by decide) (by decide) (hret _ _ (⟨_, rfl, Or.inr ⟨by unfold shiftOk; omega, rfl⟩⟩))
  · refine br_if_eq (tgt := 30) dX3_shift_18 (by decide) (by decide) (fun _ => ?_) (fun q => absurd q (by decide))
    refine br_aload_0 dX3_shift_30 ?_
    refine br_Vi0 (i := 40) (j := 0) ct_m_refuse lk_X3_200 ⟨Nat.le_of_ble_eq_true rfl, Nat.le_of_ble_eq_true rfl⟩ ⟨Nat.le_of_ble_eq_true rfl, Nat.le_of_ble_eq_true rfl⟩ rfl rfl (Nat.le_of_ble_eq_true rfl) dX3_shift_31 (fun v_ w_ hw_ => ?_)
    obtain ⟨rfl, rfl⟩ := hw_
    refine bk_V.world (w' := (mw o a (uF F 0 1) wd G ex)) (congrArg (fun F9 => mw o a F9 wd G ex) (uF_uF _ _ _ _)) ?_
    exact br_ireturn dX3_shift_34 (by decide) (by decide) (hret _ _ (⟨_, rfl, Or.inr ⟨by unfold shiftOk; omega, rfl⟩⟩))

theorem ct_m_pause {D : bk_D} {o : Nat} {a : Nat → Nat} {F : Nat → Int} {wd : Int} {G : Nat → Int → Int} {ex : gC} {s q : Int} (hs : -2147483648 ≤ s ∧ s < 2147483648) (hq : -2147483648 ≤ q ∧ q < 2147483648) (hR : RW (G 2)) : bk_K D yX3_pause (.code yX3_pause cX3_pause 3 (some (FieldType.int))) ({ frames := 2, cells := 0, slots := 0, locals := 43 }) [.ref o, .int (iI s), .int (iI q)] (mw o a F wd G ex) (bk_pi fun v w => (pauseOk (G 2) s q ∧ v = pauseS (G 2) s q ∧ w = mw o a (uF F 0 0) wd G ex) ∨ (¬ pauseOk (G 2) s q ∧ w = mw o a (uF F 0 1) wd G ex)) bk_nox := by
  refine bk_ofV (own := "BreakSetterModel") (L0 := [some (.ref o), some (.int (iI s)), some (.int (iI q))]) (by decide) rfl (Nat.le_of_ble_eq_true rfl) rfl bk_oi (fun Γ hct hret hthr => ?_)
  have hn := hR.n
  refine br_aload_0 dX3_pause_0 ?_
  refine br_iconst dX3_pause_1 ?_
  refine br_mp_0 dX3_pause_2 ?_
  refine br_aload_0 dX3_pause_5 ?_
  refine br_iload_1 dX3_pause_6 ?_
  refine br_VZ1 (i := 40) (j := 0) (ct_m_isPause (by omega) hR) lk_X3_203 ⟨Nat.le_of_ble_eq_true rfl, Nat.le_of_ble_eq_true rfl⟩ ⟨Nat.le_of_ble_eq_true rfl, Nat.le_of_ble_eq_true rfl⟩ rfl rfl (Nat.le_of_ble_eq_true rfl) dX3_pause_7 (fun c7 => ?_) (fun c7 => ?_)
  · refine br_if_eq (tgt := 22) dX3_pause_10 (by decide) (by decide) (fun q => absurd q (by decide)) (fun _ => ?_)
    refine br_iload_2 dX3_pause_13 ?_
    refine br_iconst dX3_pause_14 ?_
    refine br_iconst dX3_pause_15 ?_
    refine br_SZ3 (ct_m_isIn (by omega)) lk_X3_102 ⟨Nat.le_of_ble_eq_true rfl, Nat.le_of_ble_eq_true rfl⟩ ⟨Nat.le_of_ble_eq_true rfl, Nat.le_of_ble_eq_true rfl⟩  (Nat.le_of_ble_eq_true rfl) dX3_pause_16 (fun c16 => ?_) (fun c16 => ?_)
    · refine br_if_ne (tgt := 27) dX3_pause_19 (by decide) (by decide) (fun _ => ?_) (fun q => absurd q (by decide))
      refine br_iload_2 dX3_pause_27 ?_
      refine br_iconst dX3_pause_28 ?_
      refine br_icmp_ne (tgt := 40) dX3_pause_29 (by decide) (by omega) (fun c29 => ?_) (fun c29 => ?_)
      · refine br_aload_0 dX3_pause_40 ?_
        refine br_iload_1 dX3_pause_41 ?_
        refine br_iload_2 dX3_pause_42 ?_
        refine br_VF2 (i := 40) (j := 0) (ct_m_its (by omega)) lk_X3_155 ⟨Nat.le_of_ble_eq_true rfl, Nat.le_of_ble_eq_true rfl⟩ ⟨Nat.le_of_ble_eq_true rfl, Nat.le_of_ble_eq_true rfl⟩ rfl rfl (Nat.le_of_ble_eq_true rfl) dX3_pause_43 ?_
        refine br_topi (y := (G 2) (188 + 5 * s + q)) rfl ?_
        exact br_ireturn dX3_pause_46 (by decide) (by decide) (hret _ _ (⟨_, rfl, Or.inl ⟨by unfold pauseOk; omega, (by unfold pauseS; rw [if_neg (by omega)]), rfl⟩⟩))
      · refine br_aload_0 dX3_pause_32 ?_
        refine br_iload_1 dX3_pause_33 ?_
        refine br_VF1 (i := 40) (j := 0) (ct_m_placeOf (by omega)) lk_X3_162 ⟨Nat.le_of_ble_eq_true rfl, Nat.le_of_ble_eq_true rfl⟩ ⟨Nat.le_of_ble_eq_true rfl, Nat.le_of_ble_eq_true rfl⟩ rfl rfl (Nat.le_of_ble_eq_true rfl) dX3_pause_34 ?_
        refine br_topi (y := rAt (G 2) s - 1) rfl ?_
        refine br_goto (tgt := 46) dX3_pause_37 (by decide) ?_
        exact br_ireturn dX3_pause_46 (by decide) (by decide) (hret _ _ (⟨_, rfl, Or.inl ⟨by unfold pauseOk; omega, (by unfold pauseS; rw [if_pos (by omega)]), rfl⟩⟩))
    · refine br_if_ne (tgt := 27) dX3_pause_19 (by decide) (by decide) (fun q => absurd q (by decide)) (fun _ => ?_)
      refine br_aload_0 dX3_pause_22 ?_
      refine br_Vi0 (i := 40) (j := 0) ct_m_refuse lk_X3_200 ⟨Nat.le_of_ble_eq_true rfl, Nat.le_of_ble_eq_true rfl⟩ ⟨Nat.le_of_ble_eq_true rfl, Nat.le_of_ble_eq_true rfl⟩ rfl rfl (Nat.le_of_ble_eq_true rfl) dX3_pause_23 (fun v_ w_ hw_ => ?_)
      obtain ⟨rfl, rfl⟩ := hw_
      refine bk_V.world (w' := (mw o a (uF F 0 1) wd G ex)) (congrArg (fun F9 => mw o a F9 wd G ex) (uF_uF _ _ _ _)) ?_
      exact br_ireturn dX3_pause_26 (by decide) (by decide) (hret _ _ (⟨_, rfl, Or.inr ⟨by unfold pauseOk; omega, rfl⟩⟩))
  · refine br_if_eq (tgt := 22) dX3_pause_10 (by decide) (by decide) (fun _ => ?_) (fun q => absurd q (by decide))
    refine br_aload_0 dX3_pause_22 ?_
    refine br_Vi0 (i := 40) (j := 0) ct_m_refuse lk_X3_200 ⟨Nat.le_of_ble_eq_true rfl, Nat.le_of_ble_eq_true rfl⟩ ⟨Nat.le_of_ble_eq_true rfl, Nat.le_of_ble_eq_true rfl⟩ rfl rfl (Nat.le_of_ble_eq_true rfl) dX3_pause_23 (fun v_ w_ hw_ => ?_)
    obtain ⟨rfl, rfl⟩ := hw_
    refine bk_V.world (w' := (mw o a (uF F 0 1) wd G ex)) (congrArg (fun F9 => mw o a F9 wd G ex) (uF_uF _ _ _ _)) ?_
    exact br_ireturn dX3_pause_26 (by decide) (by decide) (hret _ _ (⟨_, rfl, Or.inr ⟨by unfold pauseOk; omega, rfl⟩⟩))

theorem ct_m_slot {D : bk_D} {o : Nat} {a : Nat → Nat} {F : Nat → Int} {wd : Int} {G : Nat → Int → Int} {ex : gC} {s q u : Int} (hs : -2147483648 ≤ s ∧ s < 2147483648) (hq : -2147483648 ≤ q ∧ q < 2147483648) (hu : -2147483648 ≤ u ∧ u < 2147483648) (hR : RW (G 2)) : bk_K D yX3_slot (.code yX3_slot cX3_slot 4 (some (FieldType.int))) ({ frames := 5, cells := 0, slots := 0, locals := 112 }) [.ref o, .int (iI s), .int (iI q), .int (iI u)] (mw o a F wd G ex) (bk_pf (slotS (G 2) s q u) (mw o a (uF F 0 0) wd G ex)) bk_nox := by
  refine bk_ofV (own := "BreakSetterModel") (L0 := [some (.ref o), some (.int (iI s)), some (.int (iI q)), some (.int (iI u))]) (by decide) rfl (Nat.le_of_ble_eq_true rfl) rfl bk_oi (fun Γ hct hret hthr => ?_)
  have hn := hR.n
  refine br_aload_0 dX3_slot_0 ?_
  refine br_iconst dX3_slot_1 ?_
  refine br_mp_0 dX3_slot_2 ?_
  refine br_aload_0 dX3_slot_5 ?_
  refine br_iload_1 dX3_slot_6 ?_
  refine br_VZ1 (i := 40) (j := 0) (ct_m_isPost (by omega) hR) lk_X3_206 ⟨Nat.le_of_ble_eq_true rfl, Nat.le_of_ble_eq_true rfl⟩ ⟨Nat.le_of_ble_eq_true rfl, Nat.le_of_ble_eq_true rfl⟩ rfl rfl (Nat.le_of_ble_eq_true rfl) dX3_slot_7 (fun c7 => ?_) (fun c7 => ?_)
  · refine br_if_eq (tgt := 20) dX3_slot_10 (by decide) (by decide) (fun q => absurd q (by decide)) (fun _ => ?_)
    refine br_iload_2 dX3_slot_13 ?_
    refine br_SZ1 (ct_m_isSlot (by omega)) lk_X3_209 ⟨Nat.le_of_ble_eq_true rfl, Nat.le_of_ble_eq_true rfl⟩ ⟨Nat.le_of_ble_eq_true rfl, Nat.le_of_ble_eq_true rfl⟩  (Nat.le_of_ble_eq_true rfl) dX3_slot_14 (fun c14 => ?_) (fun c14 => ?_)
    · refine br_if_ne (tgt := 22) dX3_slot_17 (by decide) (by decide) (fun _ => ?_) (fun q => absurd q (by decide))
      refine br_iload_3 dX3_slot_22 ?_
      refine br_if_ne (tgt := 35) dX3_slot_23 (by decide) (by omega) (fun c23 => ?_) (fun c23 => ?_)
      · refine br_iload_3 dX3_slot_35 ?_
        refine br_iconst dX3_slot_36 ?_
        refine br_icmp_ne (tgt := 49) dX3_slot_37 (by decide) (by omega) (fun c37 => ?_) (fun c37 => ?_)
        · refine br_iload_3 dX3_slot_49 ?_
          refine br_iconst dX3_slot_50 ?_
          refine br_icmp_ne (tgt := 63) dX3_slot_51 (by decide) (by omega) (fun c51 => ?_) (fun c51 => ?_)
          · refine br_iconst dX3_slot_63 ?_
            exact br_ireturn dX3_slot_64 (by decide) (by decide) (hret _ _ (bk_f (by unfold slotS; rw [if_pos (by omega)]; rw [if_neg (by omega), if_neg (by omega), if_neg (by omega)])))
          · refine br_aload_0 dX3_slot_54 ?_
            refine br_iload_1 dX3_slot_55 ?_
            refine br_iload_2 dX3_slot_56 ?_
            refine br_VF2 (i := 40) (j := 0) (ct_m_shortOf (by omega) (by omega) hR) lk_X3_177 ⟨Nat.le_of_ble_eq_true rfl, Nat.le_of_ble_eq_true rfl⟩ ⟨Nat.le_of_ble_eq_true rfl, Nat.le_of_ble_eq_true rfl⟩ rfl rfl (Nat.le_of_ble_eq_true rfl) dX3_slot_57 ?_
            refine br_topi (y := shortS (G 2) s q) rfl ?_
            refine br_goto (tgt := 64) dX3_slot_60 (by decide) ?_
            exact br_ireturn dX3_slot_64 (by decide) (by decide) (hret _ _ (bk_f (by unfold slotS; rw [if_pos (by omega)]; rw [if_neg (by omega), if_neg (by omega), if_pos (by omega)])))
        · refine br_aload_0 dX3_slot_40 ?_
          refine br_iload_1 dX3_slot_41 ?_
          refine br_iload_2 dX3_slot_42 ?_
          refine br_VF2 (i := 40) (j := 0) (ct_m_coverOf (by omega) (by omega) hR) lk_X3_174 ⟨Nat.le_of_ble_eq_true rfl, Nat.le_of_ble_eq_true rfl⟩ ⟨Nat.le_of_ble_eq_true rfl, Nat.le_of_ble_eq_true rfl⟩ rfl rfl (Nat.le_of_ble_eq_true rfl) dX3_slot_43 ?_
          refine br_topi (y := coverS (G 2) s q) rfl ?_
          refine br_goto (tgt := 64) dX3_slot_46 (by decide) ?_
          exact br_ireturn dX3_slot_64 (by decide) (by decide) (hret _ _ (bk_f (by unfold slotS; rw [if_pos (by omega)]; rw [if_neg (by omega), if_pos (by omega)])))
      · refine br_aload_0 dX3_slot_26 ?_
        refine br_iload_1 dX3_slot_27 ?_
        refine br_iload_2 dX3_slot_28 ?_
        refine br_VF2 (i := 40) (j := 0) (ct_m_needOf (by omega) (by omega)) lk_X3_171 ⟨Nat.le_of_ble_eq_true rfl, Nat.le_of_ble_eq_true rfl⟩ ⟨Nat.le_of_ble_eq_true rfl, Nat.le_of_ble_eq_true rfl⟩ rfl rfl (Nat.le_of_ble_eq_true rfl) dX3_slot_29 ?_
        refine br_topi (y := rNe (G 2) s q) rfl ?_
        refine br_goto (tgt := 64) dX3_slot_32 (by decide) ?_
        exact br_ireturn dX3_slot_64 (by decide) (by decide) (hret _ _ (bk_f (by unfold slotS; rw [if_pos (by omega)]; rw [if_pos (by omega)])))
    · refine br_if_ne (tgt := 22) dX3_slot_17 (by decide) (by decide) (fun q => absurd q (by decide)) (fun _ => ?_)
      refine br_iconst dX3_slot_20 ?_
      exact br_ireturn dX3_slot_21 (by decide) (by decide) (hret _ _ (bk_f (by unfold slotS; rw [if_neg (by omega)])))
  · refine br_if_eq (tgt := 20) dX3_slot_10 (by decide) (by decide) (fun _ => ?_) (fun q => absurd q (by decide))
    refine br_iconst dX3_slot_20 ?_
    exact br_ireturn dX3_slot_21 (by decide) (by decide) (hret _ _ (bk_f (by unfold slotS; rw [if_neg (by omega)])))

theorem ct_m_why {D : bk_D} {o : Nat} {a : Nat → Nat} {F : Nat → Int} {wd : Int} {G : Nat → Int → Int} {ex : gC} {s q : Int} (hs : -2147483648 ≤ s ∧ s < 2147483648) (hq : -2147483648 ≤ q ∧ q < 2147483648) (hR : RW (G 2)) : bk_K D yX3_why (.code yX3_why cX3_why 3 (some (FieldType.int))) ({ frames := 3, cells := 0, slots := 0, locals := 66 }) [.ref o, .int (iI s), .int (iI q)] (mw o a F wd G ex) (bk_pf (whyQ (G 2) s q) (mw o a (uF F 0 0) wd G ex)) bk_nox := by
  refine bk_ofV (own := "BreakSetterModel") (L0 := [some (.ref o), some (.int (iI s)), some (.int (iI q))]) (by decide) rfl (Nat.le_of_ble_eq_true rfl) rfl bk_oi (fun Γ hct hret hthr => ?_)
  have hn := hR.n
  refine br_aload_0 dX3_why_0 ?_
  refine br_iconst dX3_why_1 ?_
  refine br_mp_0 dX3_why_2 ?_
  refine br_aload_0 dX3_why_5 ?_
  refine br_iload_1 dX3_why_6 ?_
  refine br_VZ1 (i := 40) (j := 0) (ct_m_isPause (by omega) hR) lk_X3_203 ⟨Nat.le_of_ble_eq_true rfl, Nat.le_of_ble_eq_true rfl⟩ ⟨Nat.le_of_ble_eq_true rfl, Nat.le_of_ble_eq_true rfl⟩ rfl rfl (Nat.le_of_ble_eq_true rfl) dX3_why_7 (fun c7 => ?_) (fun c7 => ?_)
  · refine br_if_eq (tgt := 29) dX3_why_10 (by decide) (by decide) (fun q => absurd q (by decide)) (fun _ => ?_)
    refine br_iload_2 dX3_why_13 ?_
    refine br_SZ1 (ct_m_isSlot (by omega)) lk_X3_209 ⟨Nat.le_of_ble_eq_true rfl, Nat.le_of_ble_eq_true rfl⟩ ⟨Nat.le_of_ble_eq_true rfl, Nat.le_of_ble_eq_true rfl⟩  (Nat.le_of_ble_eq_true rfl) dX3_why_14 (fun c14 => ?_) (fun c14 => ?_)
    · refine br_if_eq (tgt := 29) dX3_why_17 (by decide) (by decide) (fun q => absurd q (by decide)) (fun _ => ?_)
      refine br_aload_0 dX3_why_20 ?_
      refine br_iload_1 dX3_why_21 ?_
      refine br_iload_2 dX3_why_22 ?_
      refine br_VF2 (i := 40) (j := 0) (ct_m_whyNot (show 0 ≤ s ∧ s < G 2 3 from by omega) (by omega) hR) lk_X3_191 ⟨Nat.le_of_ble_eq_true rfl, Nat.le_of_ble_eq_true rfl⟩ ⟨Nat.le_of_ble_eq_true rfl, Nat.le_of_ble_eq_true rfl⟩ rfl rfl (Nat.le_of_ble_eq_true rfl) dX3_why_23 ?_
      refine br_topi (y := whyS (G 2) s q) rfl ?_
      refine br_goto (tgt := 30) dX3_why_26 (by decide) ?_
      exact br_ireturn dX3_why_30 (by decide) (by decide) (hret _ _ (bk_f (by unfold whyQ; rw [if_pos (by omega)])))
    · refine br_if_eq (tgt := 29) dX3_why_17 (by decide) (by decide) (fun _ => ?_) (fun q => absurd q (by decide))
      refine br_iconst dX3_why_29 ?_
      exact br_ireturn dX3_why_30 (by decide) (by decide) (hret _ _ (bk_f (by unfold whyQ; rw [if_neg (by omega)])))
  · refine br_if_eq (tgt := 29) dX3_why_10 (by decide) (by decide) (fun _ => ?_) (fun q => absurd q (by decide))
    refine br_iconst dX3_why_29 ?_
    exact br_ireturn dX3_why_30 (by decide) (by decide) (hret _ _ (bk_f (by unfold whyQ; rw [if_neg (by omega)])))

theorem ct_m_would {D : bk_D} {o : Nat} {a : Nat → Nat} {F : Nat → Int} {wd : Int} {G : Nat → Int → Int} {ex : gC} {s q : Int} (hs : -2147483648 ≤ s ∧ s < 2147483648) (hq : -2147483648 ≤ q ∧ q < 2147483648) (hR : RW (G 2)) : bk_K D yX3_would (.code yX3_would cX3_would 3 (some (FieldType.int))) ({ frames := 8, cells := 0, slots := 0, locals := 181 }) [.ref o, .int (iI s), .int (iI q)] (mw o a F wd G ex) (bk_pf (wouldQ (G 2) s q) (mw o a (uF F 0 0) wd G ex)) bk_nox := by
  refine bk_ofV (own := "BreakSetterModel") (L0 := [some (.ref o), some (.int (iI s)), some (.int (iI q))]) (by decide) rfl (Nat.le_of_ble_eq_true rfl) rfl bk_oi (fun Γ hct hret hthr => ?_)
  have hn := hR.n
  have hw := whyS_bd (G 2) s q
  refine br_aload_0 dX3_would_0 ?_
  refine br_iconst dX3_would_1 ?_
  refine br_mp_0 dX3_would_2 ?_
  refine br_aload_0 dX3_would_5 ?_
  refine br_iload_1 dX3_would_6 ?_
  refine br_VZ1 (i := 40) (j := 0) (ct_m_isPause (by omega) hR) lk_X3_203 ⟨Nat.le_of_ble_eq_true rfl, Nat.le_of_ble_eq_true rfl⟩ ⟨Nat.le_of_ble_eq_true rfl, Nat.le_of_ble_eq_true rfl⟩ rfl rfl (Nat.le_of_ble_eq_true rfl) dX3_would_7 (fun c7 => ?_) (fun c7 => ?_)
  · refine br_if_eq (tgt := 38) dX3_would_10 (by decide) (by decide) (fun q => absurd q (by decide)) (fun _ => ?_)
    refine br_iload_2 dX3_would_13 ?_
    refine br_SZ1 (ct_m_isSlot (by omega)) lk_X3_209 ⟨Nat.le_of_ble_eq_true rfl, Nat.le_of_ble_eq_true rfl⟩ ⟨Nat.le_of_ble_eq_true rfl, Nat.le_of_ble_eq_true rfl⟩  (Nat.le_of_ble_eq_true rfl) dX3_would_14 (fun c14 => ?_) (fun c14 => ?_)
    · refine br_if_eq (tgt := 38) dX3_would_17 (by decide) (by decide) (fun q => absurd q (by decide)) (fun _ => ?_)
      refine br_aload_0 dX3_would_20 ?_
      refine br_iload_1 dX3_would_21 ?_
      refine br_iload_2 dX3_would_22 ?_
      refine br_VF2 (i := 40) (j := 0) (ct_m_whyNot (show 0 ≤ s ∧ s < G 2 3 from by omega) (by omega) hR) lk_X3_191 ⟨Nat.le_of_ble_eq_true rfl, Nat.le_of_ble_eq_true rfl⟩ ⟨Nat.le_of_ble_eq_true rfl, Nat.le_of_ble_eq_true rfl⟩ rfl rfl (Nat.le_of_ble_eq_true rfl) dX3_would_23 ?_
      refine br_topi (y := whyS (G 2) s q) rfl ?_
      refine br_if_ne (tgt := 38) dX3_would_26 (by decide) (by omega) (fun c26 => ?_) (fun c26 => ?_)
      · refine br_iconst dX3_would_38 ?_
        exact br_ireturn dX3_would_39 (by decide) (by decide) (hret _ _ (bk_f (by unfold wouldQ; rw [if_neg (by omega)])))
      · refine br_aload_0 dX3_would_29 ?_
        refine br_iload_1 dX3_would_30 ?_
        refine br_iload_2 dX3_would_31 ?_
        refine br_VF2 (i := 40) (j := 0) (ct_m_scoreAt (show 0 ≤ s ∧ s < G 2 3 from by omega) (whyS_fits.mp (by assumption)).1 hR) lk_X3_194 ⟨Nat.le_of_ble_eq_true rfl, Nat.le_of_ble_eq_true rfl⟩ ⟨Nat.le_of_ble_eq_true rfl, Nat.le_of_ble_eq_true rfl⟩ rfl rfl (Nat.le_of_ble_eq_true rfl) dX3_would_32 ?_
        refine br_topi (y := scoreS (G 2) s q) rfl ?_
        refine br_goto (tgt := 39) dX3_would_35 (by decide) ?_
        exact br_ireturn dX3_would_39 (by decide) (by decide) (hret _ _ (bk_f (by unfold wouldQ; rw [if_pos (by omega)])))
    · refine br_if_eq (tgt := 38) dX3_would_17 (by decide) (by decide) (fun _ => ?_) (fun q => absurd q (by decide))
      refine br_iconst dX3_would_38 ?_
      exact br_ireturn dX3_would_39 (by decide) (by decide) (hret _ _ (bk_f (by unfold wouldQ; rw [if_neg (by omega)])))
  · refine br_if_eq (tgt := 38) dX3_would_10 (by decide) (by decide) (fun _ => ?_) (fun q => absurd q (by decide))
    refine br_iconst dX3_would_38 ?_
    exact br_ireturn dX3_would_39 (by decide) (by decide) (hret _ _ (bk_f (by unfold wouldQ; rw [if_neg (by omega)])))

theorem ct_m_best {D : bk_D} {o : Nat} {a : Nat → Nat} {F : Nat → Int} {wd : Int} {G : Nat → Int → Int} {ex : gC} {s : Int} (hs : -2147483648 ≤ s ∧ s < 2147483648) (hR : RW (G 2)) : bk_K D yX3_best (.code yX3_best cX3_best 2 (some (FieldType.int))) ({ frames := 9, cells := 0, slots := 0, locals := 206 }) [.ref o, .int (iI s)] (mw o a F wd G ex) (bk_pi fun v w => bestQ (G 2) s v ∧ w = (mw o a (uF F 0 0) wd G ex)) bk_nox := by
  refine bk_ofV (own := "BreakSetterModel") (L0 := [some (.ref o), some (.int (iI s))]) (by decide) rfl (Nat.le_of_ble_eq_true rfl) rfl bk_oi (fun Γ hct hret hthr => ?_)
  have hn := hR.n
  refine br_aload_0 dX3_best_0 ?_
  refine br_iconst dX3_best_1 ?_
  refine br_mp_0 dX3_best_2 ?_
  refine br_aload_0 dX3_best_5 ?_
  refine br_iload_1 dX3_best_6 ?_
  refine br_VZ1 (i := 40) (j := 0) (ct_m_isPause (by omega) hR) lk_X3_203 ⟨Nat.le_of_ble_eq_true rfl, Nat.le_of_ble_eq_true rfl⟩ ⟨Nat.le_of_ble_eq_true rfl, Nat.le_of_ble_eq_true rfl⟩ rfl rfl (Nat.le_of_ble_eq_true rfl) dX3_best_7 (fun c7 => ?_) (fun c7 => ?_)
  · refine br_if_eq (tgt := 21) dX3_best_10 (by decide) (by decide) (fun q => absurd q (by decide)) (fun _ => ?_)
    refine br_aload_0 dX3_best_13 ?_
    refine br_iload_1 dX3_best_14 ?_
    refine br_Vi1 (i := 40) (j := 0) (ct_m_bestOf (show 0 ≤ s ∧ s < G 2 3 from by omega) hR) lk_X3_212 ⟨Nat.le_of_ble_eq_true rfl, Nat.le_of_ble_eq_true rfl⟩ ⟨Nat.le_of_ble_eq_true rfl, Nat.le_of_ble_eq_true rfl⟩ rfl rfl (Nat.le_of_ble_eq_true rfl) dX3_best_15 (fun v15 w_ hw_ => ?_)
    obtain ⟨hb15, rfl⟩ := hw_
    refine br_goto (tgt := 22) dX3_best_18 (by decide) ?_
    exact br_ireturn dX3_best_22 (by decide) (by decide) (hret _ _ (⟨_, rfl, Or.inl ⟨by omega, hb15.1⟩, rfl⟩))
  · refine br_if_eq (tgt := 21) dX3_best_10 (by decide) (by decide) (fun _ => ?_) (fun q => absurd q (by decide))
    refine br_iconst dX3_best_21 ?_
    exact br_ireturn dX3_best_22 (by decide) (by decide) (hret _ _ (⟨_, rfl, Or.inr ⟨by omega, rfl⟩, rfl⟩))

theorem ct_m_better {D : bk_D} {o : Nat} {a : Nat → Nat} {F : Nat → Int} {wd : Int} {G : Nat → Int → Int} {ex : gC} (hR : RW (G 2)) : bk_K D yX3_better (.code yX3_better cX3_better 1 (some (FieldType.int))) ({ frames := 9, cells := 0, slots := 0, locals := 206 }) [.ref o] (mw o a F wd G ex) (bk_pi fun v w => isBetter (G 2) v ∧ w = (mw o a (uF F 0 0) wd G ex)) bk_nox := by
  refine bk_ofV (own := "BreakSetterModel") (L0 := [some (.ref o)]) (by decide) rfl (Nat.le_of_ble_eq_true rfl) rfl bk_oi (fun Γ hct hret hthr => ?_)
  refine br_aload_0 dX3_better_0 ?_
  refine br_iconst dX3_better_1 ?_
  refine br_mp_0 dX3_better_2 ?_
  refine br_aload_0 dX3_better_5 ?_
  refine br_Vi0 (i := 40) (j := 0) (ct_m_betterNow hR) lk_X3_215 ⟨Nat.le_of_ble_eq_true rfl, Nat.le_of_ble_eq_true rfl⟩ ⟨Nat.le_of_ble_eq_true rfl, Nat.le_of_ble_eq_true rfl⟩ rfl rfl (Nat.le_of_ble_eq_true rfl) dX3_better_6 (fun v6 w_ hw_ => ?_)
  obtain ⟨hb6, rfl⟩ := hw_
  exact br_ireturn dX3_better_9 (by decide) (by decide) (hret _ _ (⟨_, rfl, hb6.1, rfl⟩))

theorem ct_m_worst {D : bk_D} {o : Nat} {a : Nat → Nat} {F : Nat → Int} {wd : Int} {G : Nat → Int → Int} {ex : gC} (hR : RW (G 2)) : bk_K D yX3_worst (.code yX3_worst cX3_worst 4 (some (FieldType.int))) ({ frames := 6, cells := 0, slots := 0, locals := 135 }) [.ref o] (mw o a F wd G ex) (bk_pi fun v w => (∃ l, worstTo (G 2) 48 v l) ∧ w = (mw o a (uF F 0 0) wd G ex)) bk_nox := by
  refine bk_ofV (own := "BreakSetterModel") (L0 := [some (.ref o), none, none, none]) (by decide) rfl (Nat.le_of_ble_eq_true rfl) rfl bk_oi (fun Γ hct hret hthr => ?_)
  have hn := hR.n
  refine br_aload_0 dX3_worst_0 ?_
  refine br_iconst dX3_worst_1 ?_
  refine br_mp_0 dX3_worst_2 ?_
  refine br_iconst dX3_worst_5 ?_
  refine br_istore_1 dX3_worst_6 rfl ?_
  refine br_iconst dX3_worst_7 ?_
  refine br_istore_2 dX3_worst_8 rfl ?_
  refine br_iconst dX3_worst_9 ?_
  refine br_istore_3 dX3_worst_10 rfl ?_
  have lp11 : ∀ (mm11 : Nat) (b : Int) (l : Int) (t : Int), (48 - t).toNat < mm11 → (0 ≤ t ∧ t ≤ 48) → (worstTo (G 2) t b l) → (0 ≤ l ∧ l ≤ 342) → bk_V Γ D ({ frames := 6, cells := 0, slots := 0, locals := 135 }) "BreakSetterModel" cX3_worst [] 0 0 (mw o a (uF F 0 0) wd G ex) [some (.ref o), some (.int (iI b)), some (.int (iI l)), some (.int (iI t))] [] 11 := by
    intro mm11
    induction mm11 with
    | zero => intro b l t hm11; exact absurd hm11 (Nat.not_lt_zero _)
    | succ mm11 ih11 =>
      intro b l t hm11 h1 h2 h3
      refine br_iload_3 dX3_worst_11 ?_
      refine br_bipush dX3_worst_12 (by decide) ?_
      refine br_icmp_ge (tgt := 43) dX3_worst_14 (by decide) (by omega) (fun c14 => ?_) (fun c14 => ?_)
      · refine br_iload_1 dX3_worst_43 ?_
        exact br_ireturn dX3_worst_44 (by decide) (by decide) (hret _ _ (⟨_, rfl, ⟨l, by rw [show (48 : Int) = t by omega]; exact h2⟩, rfl⟩))
      · have hsb := shortIn_bd hR (t := t) (by omega)
        refine br_aload_0 dX3_worst_17 ?_
        refine br_iload_3 dX3_worst_18 ?_
        refine br_VF1 (i := 40) (j := 0) (ct_m_shortIn (by omega) hR) lk_X3_180 ⟨Nat.le_of_ble_eq_true rfl, Nat.le_of_ble_eq_true rfl⟩ ⟨Nat.le_of_ble_eq_true rfl, Nat.le_of_ble_eq_true rfl⟩ rfl rfl (Nat.le_of_ble_eq_true rfl) dX3_worst_19 ?_
        refine br_topi (y := shortIn (G 2) t) rfl ?_
        refine br_iload_2 dX3_worst_22 ?_
        refine br_icmp_gt (tgt := 29) dX3_worst_23 (by decide) (by omega) (fun c23 => ?_) (fun c23 => ?_)
        · refine br_aload_0 dX3_worst_29 ?_
          refine br_iload_3 dX3_worst_30 ?_
          refine br_VF1 (i := 40) (j := 0) (ct_m_shortIn (by omega) hR) lk_X3_180 ⟨Nat.le_of_ble_eq_true rfl, Nat.le_of_ble_eq_true rfl⟩ ⟨Nat.le_of_ble_eq_true rfl, Nat.le_of_ble_eq_true rfl⟩ rfl rfl (Nat.le_of_ble_eq_true rfl) dX3_worst_31 ?_
          refine br_topi (y := shortIn (G 2) t) rfl ?_
          refine br_istore_2 dX3_worst_34 rfl ?_
          refine br_iload_3 dX3_worst_35 ?_
          refine br_istore_1 dX3_worst_36 rfl ?_
          refine br_iinc_3 dX3_worst_37 rfl ?_
          refine br_goto (tgt := 11) dX3_worst_40 (by decide) ?_
          exact ih11 _ _ _ (by omega) (by omega) (by first | exact worstTo_skip h2 (by omega) | exact worstTo_new (by omega) h2 (by omega)) (by omega)
        · refine br_goto (tgt := 37) dX3_worst_26 (by decide) ?_
          refine br_iinc_3 dX3_worst_37 rfl ?_
          refine br_goto (tgt := 11) dX3_worst_40 (by decide) ?_
          exact ih11 _ _ _ (by omega) (by omega) (by first | exact worstTo_skip h2 (by omega) | exact worstTo_new (by omega) h2 (by omega)) (by omega)
  exact lp11 _ _ _ _ (Nat.lt_succ_self _) (by omega) (worstTo_0 _) (by omega)

theorem ct_m_fault {D : bk_D} {o : Nat} {a : Nat → Nat} {F : Nat → Int} {wd : Int} {G : Nat → Int → Int} {ex : gC}  : bk_K D yX3_fault (.code yX3_fault cX3_fault 1 (some (FieldType.int))) ({ frames := 0, cells := 0, slots := 0, locals := 0 }) [.ref o] (mw o a F wd G ex) (bk_pf (F 8) (mw o a (uF F 0 0) wd G ex)) bk_nox := by
  refine bk_ofV (own := "BreakSetterModel") (L0 := [some (.ref o)]) (by decide) rfl (Nat.le_of_ble_eq_true rfl) rfl bk_oi (fun Γ hct hret hthr => ?_)
  refine br_aload_0 dX3_fault_0 ?_
  refine br_iconst dX3_fault_1 ?_
  refine br_mp_0 dX3_fault_2 ?_
  refine br_aload_0 dX3_fault_5 ?_
  refine br_mg_8 (v := F 8) rfl dX3_fault_6 ?_
  exact br_ireturn dX3_fault_9 (by decide) (by decide) (hret _ _ (bk_f rfl))

theorem ct_m_end {D : bk_D} {o : Nat} {a : Nat → Nat} {F : Nat → Int} {wd : Int} {G : Nat → Int → Int} {ex : gC} {v : Int} (hv : -2147483648 ≤ v ∧ v < 2147483648) (hl : 0 ≤ F 2 ∧ F 2 ≤ 640) : bk_K D yX3_end (.code yX3_end cX3_end 2 (some (FieldType.boolean))) ({ frames := 0, cells := 0, slots := 0, locals := 0 }) [.ref o, .int (iI v)] (mw o a F wd G ex) (bk_pi fun b w => (b = 1 ∧ (0 ≤ v ∧ v ≤ F 2) ∧ w = mw o a (uF (uF F 0 0) 2 v) wd G ex) ∨ (b = 0 ∧ ¬ (0 ≤ v ∧ v ≤ F 2) ∧ w = mw o a (uF F 0 0) wd G ex)) bk_nox := by
  refine bk_ofV (own := "BreakSetterModel") (L0 := [some (.ref o), some (.int (iI v))]) (by decide) rfl (Nat.le_of_ble_eq_true rfl) rfl (bk_oz (by rintro r w (h | h); exact Or.inr h.1; exact Or.inl h.1)) (fun Γ hct hret hthr => ?_)
  refine br_aload_0 dX3_end_0 ?_
  refine br_iconst dX3_end_1 ?_
  refine br_mp_0 dX3_end_2 ?_
  refine br_iload_1 dX3_end_5 ?_
  refine br_if_lt (tgt := 17) dX3_end_6 (by decide) (by omega) (fun c6 => ?_) (fun c6 => ?_)
  · refine br_iconst dX3_end_17 ?_
    exact br_ireturn dX3_end_18 (by decide) (by decide) (hret _ _ (⟨_, rfl, Or.inr ⟨rfl, by omega, rfl⟩⟩))
  · refine br_iload_1 dX3_end_9 ?_
    refine br_aload_0 dX3_end_10 ?_
    refine br_mg_2 (v := F 2) rfl dX3_end_11 ?_
    refine br_icmp_le (tgt := 19) dX3_end_14 (by decide) (by omega) (fun c14 => ?_) (fun c14 => ?_)
    · refine br_aload_0 dX3_end_19 ?_
      refine br_iload_1 dX3_end_20 ?_
      refine br_mp_2 dX3_end_21 ?_
      refine br_iconst dX3_end_24 ?_
      exact br_ireturn dX3_end_25 (by decide) (by decide) (hret _ _ (⟨_, rfl, Or.inl ⟨rfl, by omega, rfl⟩⟩))
    · refine br_iconst dX3_end_17 ?_
      exact br_ireturn dX3_end_18 (by decide) (by decide) (hret _ _ (⟨_, rfl, Or.inr ⟨rfl, by omega, rfl⟩⟩))

