/-! MODEL: relief -/
set_option maxRecDepth 100000
theorem ct_m_helpsAt {D : bk_D} {o : Nat} {a : Nat → Nat} {F : Nat → Int} {wd : Int} {G : Nat → Int → Int} {ex : gC} {p t : Int} (hp : 0 ≤ p ∧ p < 3) (ht : 0 ≤ t ∧ t < 48) (hR : RW (G 2)) : bk_K D yX3_helpsAt (.code yX3_helpsAt cX3_helpsAt 3 (some (FieldType.int))) ({ frames := 5, cells := 0, slots := 0, locals := 112 }) [.ref o, .int (iI p), .int (iI t)] (mw o a F wd G ex) (bk_pf (hOne (G 2) p t) (mw o a F wd G ex)) bk_nox := by
  refine bk_ofV (own := "BreakSetterModel") (L0 := [some (.ref o), some (.int (iI p)), some (.int (iI t))]) (by decide) rfl (Nat.le_of_ble_eq_true rfl) rfl bk_oi (fun Γ hct hret hthr => ?_)
  have hs := shortS_bd hR hp ht
  refine br_aload_0 dX3_helpsAt_0 ?_
  refine br_iload_1 dX3_helpsAt_1 ?_
  refine br_iload_2 dX3_helpsAt_2 ?_
  refine br_VF2 (i := 40) (j := 0) (ct_m_shortOf (by omega) (by omega) hR) lk_X3_177 ⟨Nat.le_of_ble_eq_true rfl, Nat.le_of_ble_eq_true rfl⟩ ⟨Nat.le_of_ble_eq_true rfl, Nat.le_of_ble_eq_true rfl⟩ rfl rfl (Nat.le_of_ble_eq_true rfl) dX3_helpsAt_3 ?_
  refine br_if_le (tgt := 13) dX3_helpsAt_6 (by decide) (by omega) (fun c6 => ?_) (fun c6 => ?_)
  · refine br_iconst dX3_helpsAt_13 ?_
    exact br_ireturn dX3_helpsAt_14 (by decide) (by decide) (hret _ _ (bk_f (by unfold hOne; rw [oneIf_0 (by omega)])))
  · refine br_iconst dX3_helpsAt_9 ?_
    refine br_goto (tgt := 14) dX3_helpsAt_10 (by decide) ?_
    exact br_ireturn dX3_helpsAt_14 (by decide) (by decide) (hret _ _ (bk_f (by unfold hOne; rw [oneIf_1 (by omega)])))

theorem ct_m_stays {D : bk_D} {o : Nat} {a : Nat → Nat} {F : Nat → Int} {wd : Int} {G : Nat → Int → Int} {ex : gC} {p t : Int} (hp : 0 ≤ p ∧ p < 3) (ht : 0 ≤ t ∧ t < 48) (hR : RW (G 2)) : bk_K D yX3_stays (.code yX3_stays cX3_stays 3 (some (FieldType.int))) ({ frames := 6, cells := 0, slots := 0, locals := 134 }) [.ref o, .int (iI p), .int (iI t)] (mw o a F wd G ex) (bk_pf (hOne (G 2) p t + hv (G 9) p (t + 1)) (mw o a F wd G ex)) bk_nox := by
  refine bk_ofV (own := "BreakSetterModel") (L0 := [some (.ref o), some (.int (iI p)), some (.int (iI t))]) (by decide) rfl (Nat.le_of_ble_eq_true rfl) rfl bk_oi (fun Γ hct hret hthr => ?_)
  refine br_aload_0 dX3_stays_0 ?_
  refine br_iload_1 dX3_stays_1 ?_
  refine br_iload_2 dX3_stays_2 ?_
  refine br_VF2 (i := 40) (j := 0) (ct_m_helpsAt (by omega) (by omega) hR) lk_X3_221 ⟨Nat.le_of_ble_eq_true rfl, Nat.le_of_ble_eq_true rfl⟩ ⟨Nat.le_of_ble_eq_true rfl, Nat.le_of_ble_eq_true rfl⟩ rfl rfl (Nat.le_of_ble_eq_true rfl) dX3_stays_3 ?_
  refine br_aload_0 dX3_stays_6 ?_
  refine br_mg_22 dX3_stays_7 ?_
  refine br_bipush dX3_stays_10 (by decide) ?_
  refine br_iload_1 dX3_stays_12 ?_
  refine br_imul dX3_stays_13 ?_
  refine br_iload_2 dX3_stays_14 ?_
  refine br_iadd dX3_stays_15 ?_
  refine br_iconst dX3_stays_16 ?_
  refine br_iadd dX3_stays_17 ?_
  refine br_ml_9 (v := G 9 (((49 * p) + t) + 1)) (by omega) rfl dX3_stays_18 ?_
  refine br_iadd dX3_stays_19 ?_
  exact br_ireturn dX3_stays_20 (by decide) (by decide) (hret _ _ (bk_f (by unfold hv; congr 2; omega)))

theorem ct_m_laysHelps {D : bk_D} {o : Nat} {a : Nat → Nat} {F : Nat → Int} {wd : Int} {G : Nat → Int → Int} {ex : gC} (hR : RW (G 2)) : bk_K D yX3_laysHelps (.code yX3_laysHelps cX3_laysHelps 5 none) ({ frames := 7, cells := 0, slots := 0, locals := 156 }) [.ref o] (mw o a F wd G ex) (bk_pv fun w => ∃ g : Int → Int, w = mw o a F wd (uG G 9 g) ex ∧ HT (G 2) (hv g)) bk_nox := by
  refine bk_ofV (own := "BreakSetterModel") (L0 := [some (.ref o), none, none, none, none]) (by decide) rfl (Nat.le_of_ble_eq_true rfl) rfl bk_ov (fun Γ hct hret hthr => ?_)
  have hn := hR.n
  refine br_iconst dX3_laysHelps_0 ?_
  refine br_istore_1 dX3_laysHelps_1 rfl ?_
  refine bk_V.world (w' := (mw o a F wd (uG G 9 (G 9)) ex)) (by rw [uG_self]) ?_
  have lp2 : ∀ (mm2 : Nat) (g : Int → Int) (p : Int), (3 - p).toNat < mm2 → (0 ≤ p ∧ p ≤ 3) → (∀ y : Int, 0 ≤ y → y < p → hv g y 48 = 0) → bk_V Γ D ({ frames := 7, cells := 0, slots := 0, locals := 156 }) "BreakSetterModel" cX3_laysHelps [] 0 0 (mw o a F wd (uG G 9 g) ex) [some (.ref o), some (.int (iI p)), none, none, none] [] 2 := by
    intro mm2
    induction mm2 with
    | zero => intro g p hm2; exact absurd hm2 (Nat.not_lt_zero _)
    | succ mm2 ih2 =>
      intro g p hm2 h1 h2
      refine br_iload_1 dX3_laysHelps_2 ?_
      refine br_iconst dX3_laysHelps_3 ?_
      refine br_icmp_ge (tgt := 26) dX3_laysHelps_4 (by decide) (by omega) (fun c4 => ?_) (fun c4 => ?_)
      · refine br_bipush dX3_laysHelps_26 (by decide) ?_
        refine br_istore_1 dX3_laysHelps_28 rfl ?_
        have lp29 : ∀ (mm29 : Nat) (g : Int → Int) (t : Int), (t + 1).toNat < mm29 → (-1 ≤ t ∧ t ≤ 47) → (HTf (G 2) (hv g) (t + 1)) → bk_V Γ D ({ frames := 7, cells := 0, slots := 0, locals := 156 }) "BreakSetterModel" cX3_laysHelps [] 0 0 (mw o a F wd (uG G 9 g) ex) [some (.ref o), some (.int (iI t)), none, none, none] [] 29 := by
          intro mm29
          induction mm29 with
          | zero => intro g t hm29; exact absurd hm29 (Nat.not_lt_zero _)
          | succ mm29 ih29 =>
            intro g t hm29 h1 h2
            refine br_iload_1 dX3_laysHelps_29 ?_
            refine br_if_lt (tgt := 158) dX3_laysHelps_30 (by decide) (by omega) (fun c30 => ?_) (fun c30 => ?_)
            · exact br_return dX3_laysHelps_158 (by decide) (by decide) (hret _ _ (⟨rfl, g, rfl, by rw [show t + 1 = 0 by omega] at h2; exact h2⟩))
            · refine br_iconst dX3_laysHelps_33 ?_
              refine br_istore_2 dX3_laysHelps_34 rfl ?_
              have lp35 : ∀ (mm35 : Nat) (g : Int → Int) (p : Int), (G 2 0 - p).toNat < mm35 → (0 ≤ p ∧ p ≤ G 2 0) → (HTf (G 2) (hv g) (t + 1)) → (∀ y : Int, 0 ≤ y → y < p → hv g y t = mxS (G 2) (hv g) y t (G 2 0).toNat) → bk_V Γ D ({ frames := 7, cells := 0, slots := 0, locals := 156 }) "BreakSetterModel" cX3_laysHelps [] 0 0 (mw o a F wd (uG G 9 g) ex) [some (.ref o), some (.int (iI t)), some (.int (iI p)), none, none] [] 35 := by
                intro mm35
                induction mm35 with
                | zero => intro g p hm35; exact absurd hm35 (Nat.not_lt_zero _)
                | succ mm35 ih35 =>
                  intro g p hm35 g1 g2 g3
                  refine br_iload_2 dX3_laysHelps_35 ?_
                  refine br_aload_0 dX3_laysHelps_36 ?_
                  refine br_mg_11 dX3_laysHelps_37 ?_
                  refine br_iconst dX3_laysHelps_40 ?_
                  refine br_ml_2 (v := G 2 0) (by omega) rfl dX3_laysHelps_41 ?_
                  refine br_icmp_ge (tgt := 152) dX3_laysHelps_42 (by decide) (by omega) (fun c42 => ?_) (fun c42 => ?_)
                  · refine br_iinc_1 dX3_laysHelps_152 rfl ?_
                    refine br_goto (tgt := 29) dX3_laysHelps_155 (by decide) ?_
                    refine br_fg_2 ?_
                    exact ih29 _ _ (by omega) (by omega) (by rw [show t + -1 + 1 = t by omega]; exact HTf.step g2 (fun y q1 q2 => g3 y q1 (by omega)))
                  · refine br_aload_0 dX3_laysHelps_45 ?_
                    refine br_iload_2 dX3_laysHelps_46 ?_
                    refine br_iload_1 dX3_laysHelps_47 ?_
                    refine br_VF2 (i := 40) (j := 0) (ct_m_stays (by omega) (by omega) hR) lk_X3_224 ⟨Nat.le_of_ble_eq_true rfl, Nat.le_of_ble_eq_true rfl⟩ ⟨Nat.le_of_ble_eq_true rfl, Nat.le_of_ble_eq_true rfl⟩ rfl rfl (Nat.le_of_ble_eq_true rfl) dX3_laysHelps_48 ?_
                    refine br_topi (y := hOne (G 2) p t + hv g p (t + 1)) rfl ?_
                    refine br_istore_3 dX3_laysHelps_51 rfl ?_
                    refine br_iconst dX3_laysHelps_52 ?_
                    refine br_istore_4 dX3_laysHelps_53 rfl ?_
                    have lp55 : ∀ (mm55 : Nat) (v : Int) (q : Int), (G 2 0 - q).toNat < mm55 → (0 ≤ q ∧ q ≤ G 2 0) → (v = mxS (G 2) (hv g) p t q.toNat) → bk_V Γ D ({ frames := 7, cells := 0, slots := 0, locals := 156 }) "BreakSetterModel" cX3_laysHelps [] 0 0 (mw o a F wd (uG G 9 g) ex) [some (.ref o), some (.int (iI t)), some (.int (iI p)), some (.int (iI v)), some (.int (iI q))] [] 55 := by
                      intro mm55
                      induction mm55 with
                      | zero => intro v q hm55; exact absurd hm55 (Nat.not_lt_zero _)
                      | succ mm55 ih55 =>
                        intro v q hm55 k1 k2
                        have k3 := mxS_bd hR (t := t) (p := p) (by omega) g2 (by omega) q.toNat (by omega)
                        rw [← k2] at k3
                        refine br_iload_4 dX3_laysHelps_55 ?_
                        refine br_aload_0 dX3_laysHelps_57 ?_
                        refine br_mg_11 dX3_laysHelps_58 ?_
                        refine br_iconst dX3_laysHelps_61 ?_
                        refine br_ml_2 (v := G 2 0) (by omega) rfl dX3_laysHelps_62 ?_
                        refine br_icmp_ge (tgt := 134) dX3_laysHelps_63 (by decide) (by omega) (fun c63 => ?_) (fun c63 => ?_)
                        · refine br_aload_0 dX3_laysHelps_134 ?_
                          refine br_mg_22 dX3_laysHelps_135 ?_
                          refine br_bipush dX3_laysHelps_138 (by decide) ?_
                          refine br_iload_2 dX3_laysHelps_140 ?_
                          refine br_imul dX3_laysHelps_141 ?_
                          refine br_iload_1 dX3_laysHelps_142 ?_
                          refine br_iadd dX3_laysHelps_143 ?_
                          refine br_iload_3 dX3_laysHelps_144 ?_
                          refine br_ms_9 (by omega) dX3_laysHelps_145 ?_
                          refine bk_V.world (w' := (mw o a F wd (uG G 9 (uI g ((49 * p) + t) v)) ex)) (congrArg (fun G9 => mw o a F wd G9 ex) (uG_uG _ _ _ _)) ?_
                          refine br_iinc_2 dX3_laysHelps_146 rfl ?_
                          refine br_goto (tgt := 35) dX3_laysHelps_149 (by decide) ?_
                          refine br_fg_3 ?_
                          refine br_fg_4 ?_
                          have hput := HT_put hR (t := t) (p := p) (v := v) (by omega) (by omega) g2 g3 (by
                            by_cases c : q = G 2 0
                            · rw [← c]; exact k2
                            · rw [k2, mxS_far (by omega), mxS_far (by omega)])
                          exact ih35 _ _ (by omega) (by omega) hput.1 hput.2
                        · refine br_iload_1 dX3_laysHelps_66 ?_
                          refine br_aload_0 dX3_laysHelps_67 ?_
                          refine br_mg_11 dX3_laysHelps_68 ?_
                          refine br_iconst dX3_laysHelps_71 ?_
                          refine br_ml_2 (v := G 2 1) (by omega) rfl dX3_laysHelps_72 ?_
                          refine br_iadd dX3_laysHelps_73 ?_
                          refine br_bipush dX3_laysHelps_74 (by decide) ?_
                          refine br_icmp_gt (tgt := 134) dX3_laysHelps_76 (by decide) (by omega) (fun c76 => ?_) (fun c76 => ?_)
                          · refine br_aload_0 dX3_laysHelps_134 ?_
                            refine br_mg_22 dX3_laysHelps_135 ?_
                            refine br_bipush dX3_laysHelps_138 (by decide) ?_
                            refine br_iload_2 dX3_laysHelps_140 ?_
                            refine br_imul dX3_laysHelps_141 ?_
                            refine br_iload_1 dX3_laysHelps_142 ?_
                            refine br_iadd dX3_laysHelps_143 ?_
                            refine br_iload_3 dX3_laysHelps_144 ?_
                            refine br_ms_9 (by omega) dX3_laysHelps_145 ?_
                            refine bk_V.world (w' := (mw o a F wd (uG G 9 (uI g ((49 * p) + t) v)) ex)) (congrArg (fun G9 => mw o a F wd G9 ex) (uG_uG _ _ _ _)) ?_
                            refine br_iinc_2 dX3_laysHelps_146 rfl ?_
                            refine br_goto (tgt := 35) dX3_laysHelps_149 (by decide) ?_
                            refine br_fg_3 ?_
                            refine br_fg_4 ?_
                            have hput := HT_put hR (t := t) (p := p) (v := v) (by omega) (by omega) g2 g3 (by
                              by_cases c : q = G 2 0
                              · rw [← c]; exact k2
                              · rw [k2, mxS_far (by omega), mxS_far (by omega)])
                            exact ih35 _ _ (by omega) (by omega) hput.1 hput.2
                          · have k4 := HTf_bd' hR (by omega) g2 (p := q) (t := t + G 2 1) (by omega) (by omega)
                            have e4 : g (49 * q + t + G 2 1) = hv g q (t + G 2 1) := congrArg g (by omega)
                            refine br_iload_4 dX3_laysHelps_79 ?_
                            refine br_iload_2 dX3_laysHelps_81 ?_
                            refine br_icmp_eq (tgt := 128) dX3_laysHelps_82 (by decide) (by omega) (fun c82 => ?_) (fun c82 => ?_)
                            · refine br_iinc_4 dX3_laysHelps_128 rfl ?_
                              refine br_goto (tgt := 55) dX3_laysHelps_131 (by decide) ?_
                              exact ih55 _ _ (by omega) (by omega) (by first | exact mxS_no k1.1 k2 (fun z => by omega) | exact (e4.trans (mxS_up k1.1 k2 ⟨by omega, by omega, by omega⟩)))
                            · refine br_aload_0 dX3_laysHelps_85 ?_
                              refine br_mg_22 dX3_laysHelps_86 ?_
                              refine br_bipush dX3_laysHelps_89 (by decide) ?_
                              refine br_iload_4 dX3_laysHelps_91 ?_
                              refine br_imul dX3_laysHelps_93 ?_
                              refine br_iload_1 dX3_laysHelps_94 ?_
                              refine br_iadd dX3_laysHelps_95 ?_
                              refine br_aload_0 dX3_laysHelps_96 ?_
                              refine br_mg_11 dX3_laysHelps_97 ?_
                              refine br_iconst dX3_laysHelps_100 ?_
                              refine br_ml_2 (v := G 2 1) (by omega) rfl dX3_laysHelps_101 ?_
                              refine br_iadd dX3_laysHelps_102 ?_
                              refine br_ml_9 (v := g (((49 * q) + t) + (G 2 1))) (by omega) rfl dX3_laysHelps_103 ?_
                              refine br_iload_3 dX3_laysHelps_104 ?_
                              refine br_icmp_le (tgt := 128) dX3_laysHelps_105 (by decide) (by omega) (fun c105 => ?_) (fun c105 => ?_)
                              · refine br_iinc_4 dX3_laysHelps_128 rfl ?_
                                refine br_goto (tgt := 55) dX3_laysHelps_131 (by decide) ?_
                                exact ih55 _ _ (by omega) (by omega) (by first | exact mxS_no k1.1 k2 (fun z => by omega) | exact (e4.trans (mxS_up k1.1 k2 ⟨by omega, by omega, by omega⟩)))
                              · refine br_aload_0 dX3_laysHelps_108 ?_
                                refine br_mg_22 dX3_laysHelps_109 ?_
                                refine br_bipush dX3_laysHelps_112 (by decide) ?_
                                refine br_iload_4 dX3_laysHelps_114 ?_
                                refine br_imul dX3_laysHelps_116 ?_
                                refine br_iload_1 dX3_laysHelps_117 ?_
                                refine br_iadd dX3_laysHelps_118 ?_
                                refine br_aload_0 dX3_laysHelps_119 ?_
                                refine br_mg_11 dX3_laysHelps_120 ?_
                                refine br_iconst dX3_laysHelps_123 ?_
                                refine br_ml_2 (v := G 2 1) (by omega) rfl dX3_laysHelps_124 ?_
                                refine br_iadd dX3_laysHelps_125 ?_
                                refine br_ml_9 (v := g (((49 * q) + t) + (G 2 1))) (by omega) rfl dX3_laysHelps_126 ?_
                                refine br_istore_3 dX3_laysHelps_127 rfl ?_
                                refine br_iinc_4 dX3_laysHelps_128 rfl ?_
                                refine br_goto (tgt := 55) dX3_laysHelps_131 (by decide) ?_
                                exact ih55 _ _ (by omega) (by omega) (by first | exact mxS_no k1.1 k2 (fun z => by omega) | exact (e4.trans (mxS_up k1.1 k2 ⟨by omega, by omega, by omega⟩)))
                    exact lp55 _ _ _ (Nat.lt_succ_self _) (by omega) rfl
              exact lp35 _ _ _ (Nat.lt_succ_self _) (by omega) h2 (fun y _ _ => by omega)
        exact lp29 _ _ _ (Nat.lt_succ_self _) (by omega) ⟨fun y q1 q2 => h2 y q1 (by omega), fun t p q1 q2 => by omega⟩
      · refine br_aload_0 dX3_laysHelps_7 ?_
        refine br_mg_22 dX3_laysHelps_8 ?_
        refine br_bipush dX3_laysHelps_11 (by decide) ?_
        refine br_iload_1 dX3_laysHelps_13 ?_
        refine br_imul dX3_laysHelps_14 ?_
        refine br_bipush dX3_laysHelps_15 (by decide) ?_
        refine br_iadd dX3_laysHelps_17 ?_
        refine br_iconst dX3_laysHelps_18 ?_
        refine br_ms_9 (by omega) dX3_laysHelps_19 ?_
        refine bk_V.world (w' := (mw o a F wd (uG G 9 (uI g ((49 * p) + 48) 0)) ex)) (congrArg (fun G9 => mw o a F wd G9 ex) (uG_uG _ _ _ _)) ?_
        refine br_iinc_1 dX3_laysHelps_20 rfl ?_
        refine br_goto (tgt := 2) dX3_laysHelps_23 (by decide) ?_
        exact ih2 _ _ (by omega) (by omega) (fun y q1 q2 => by
  by_cases e : y = p
  · subst e; exact hv_uI_eq g y 48 0
  · rw [hv_uI_ne g 0 (by omega)]; exact h2 y q1 (by omega))
  exact lp2 _ _ _ (Nat.lt_succ_self _) (by omega) (fun y _ _ => by omega)

theorem ct_m_wayAt {D : bk_D} {o : Nat} {a : Nat → Nat} {F : Nat → Int} {wd : Int} {G : Nat → Int → Int} {ex : gC} {post slot : Int} (hp : 0 ≤ post ∧ post < G 2 0) (hs : 0 ≤ slot ∧ slot ≤ 47) (hR : RW (G 2)) (hT : HT (G 2) (hv (G 9))) : bk_K D yX3_wayAt (.code yX3_wayAt cX3_wayAt 7 (some (FieldType.int))) ({ frames := 7, cells := 0, slots := 0, locals := 156 }) [.ref o, .int (iI post), .int (iI slot)] (mw o a F wd G ex) (bk_pi fun v w => (∃ n : Nat, wayR (G 2) (hv (G 9)) slot v n post 0) ∧ w = (mw o a F wd G ex)) bk_nox := by
  refine bk_ofV (own := "BreakSetterModel") (L0 := [some (.ref o), some (.int (iI post)), some (.int (iI slot)), none, none, none, none]) (by decide) rfl (Nat.le_of_ble_eq_true rfl) rfl bk_oi (fun Γ hct hret hthr => ?_)
  have hn := hR.n
  refine br_iload_1 dX3_wayAt_0 ?_
  refine br_istore_3 dX3_wayAt_1 rfl ?_
  refine br_iconst dX3_wayAt_2 ?_
  refine br_istore_4 dX3_wayAt_3 rfl ?_
  have lp5 : ∀ (mm5 : Nat) (p : Int) (t : Int), (48 - t).toNat < mm5 → ((0 ≤ p ∧ p < G 2 0) ∧ 0 ≤ t ∧ t ≤ 48) → (∀ v : Int, (∃ n : Nat, wayR (G 2) (hv (G 9)) slot v n p t) → ∃ n : Nat, wayR (G 2) (hv (G 9)) slot v n post 0) → bk_V Γ D ({ frames := 7, cells := 0, slots := 0, locals := 156 }) "BreakSetterModel" cX3_wayAt [] 0 0 (mw o a F wd G ex) [some (.ref o), some (.int (iI post)), some (.int (iI slot)), some (.int (iI p)), some (.int (iI t)), none, none] [] 5 := by
    intro mm5
    induction mm5 with
    | zero => intro p t hm5; exact absurd hm5 (Nat.not_lt_zero _)
    | succ mm5 ih5 =>
      intro p t hm5 h1 h2
      refine br_iload_4 dX3_wayAt_5 ?_
      refine br_iload_2 dX3_wayAt_7 ?_
      refine br_icmp_gt (tgt := 123) dX3_wayAt_8 (by decide) (by omega) (fun c8 => ?_) (fun c8 => ?_)
      · refine br_iload_3 dX3_wayAt_123 ?_
        exact br_ireturn dX3_wayAt_124 (by decide) (by decide) (hret _ _ (⟨_, rfl, h2 _ ⟨1, Or.inl ⟨by omega, rfl⟩⟩, rfl⟩))
      · have b1 := HTf_bd' hR (by omega) hT (p := p) (t := t) (by omega) h1.1
        have b2 := HTf_bd' hR (by omega) hT (p := p) (t := t + 1) (by omega) h1.1
        have b3 := hOne_bd (G 2) p t
        have e3 : G 9 (49 * p + t) = hv (G 9) p t := rfl
        refine br_aload_0 dX3_wayAt_11 ?_
        refine br_mg_22 dX3_wayAt_12 ?_
        refine br_bipush dX3_wayAt_15 (by decide) ?_
        refine br_iload_3 dX3_wayAt_17 ?_
        refine br_imul dX3_wayAt_18 ?_
        refine br_iload_4 dX3_wayAt_19 ?_
        refine br_iadd dX3_wayAt_21 ?_
        refine br_ml_9 (v := G 9 ((49 * p) + t)) (by omega) rfl dX3_wayAt_22 ?_
        refine br_istore_5 dX3_wayAt_23 rfl ?_
        refine br_aload_0 dX3_wayAt_25 ?_
        refine br_iload_3 dX3_wayAt_26 ?_
        refine br_iload_4 dX3_wayAt_27 ?_
        refine br_VF2 (i := 40) (j := 0) (ct_m_stays (by omega) (by omega) hR) lk_X3_224 ⟨Nat.le_of_ble_eq_true rfl, Nat.le_of_ble_eq_true rfl⟩ ⟨Nat.le_of_ble_eq_true rfl, Nat.le_of_ble_eq_true rfl⟩ rfl rfl (Nat.le_of_ble_eq_true rfl) dX3_wayAt_29 ?_
        refine br_iload_5 dX3_wayAt_32 ?_
        refine br_icmp_ne (tgt := 51) dX3_wayAt_34 (by decide) (by omega) (fun c34 => ?_) (fun c34 => ?_)
        · have hst : ¬ stS (G 2) (hv (G 9)) p t := by unfold stS; omega
          refine br_iload_4 dX3_wayAt_51 ?_
          refine br_aload_0 dX3_wayAt_53 ?_
          refine br_mg_11 dX3_wayAt_54 ?_
          refine br_iconst dX3_wayAt_57 ?_
          refine br_ml_2 (v := G 2 1) (by omega) rfl dX3_wayAt_58 ?_
          refine br_iadd dX3_wayAt_59 ?_
          refine br_istore_4 dX3_wayAt_60 rfl ?_
          refine br_iload_2 dX3_wayAt_62 ?_
          refine br_iload_4 dX3_wayAt_63 ?_
          refine br_icmp_ge (tgt := 71) dX3_wayAt_65 (by decide) (by omega) (fun c65 => ?_) (fun c65 => ?_)
          · refine br_iconst dX3_wayAt_71 ?_
            refine br_istore_6 dX3_wayAt_72 rfl ?_
            obtain ⟨q0, hq0, hg0⟩ := walk_q hR hT (by omega) h1.1 hst
            have lp74 : ∀ (mm74 : Nat) (q : Int), (3 - q).toNat < mm74 → (0 ≤ q) → (∀ x : Int, 0 ≤ x → x < q → ¬ goodQ (G 2) (hv (G 9)) p t x) → bk_V Γ D ({ frames := 7, cells := 0, slots := 0, locals := 156 }) "BreakSetterModel" cX3_wayAt [] 0 0 (mw o a F wd G ex) [some (.ref o), some (.int (iI post)), some (.int (iI slot)), some (.int (iI p)), some (.int (iI (t + (G 2 1)))), some (.int (iI (G 9 ((49 * p) + t)))), some (.int (iI q))] [] 74 := by
              intro mm74
              induction mm74 with
              | zero => intro q hm74; exact absurd hm74 (Nat.not_lt_zero _)
              | succ mm74 ih74 =>
                intro q hm74 k1 k2
                have k3 : q ≤ q0 := by
                  by_cases c : q0 < q
                  · exact absurd hg0 (k2 q0 hq0.1 c)
                  · omega
                have k4 := HTf_bd' hR (by omega) hT (p := q) (t := t + G 2 1) (by omega) (by omega)
                have k5 := HTf_bd' hR (by omega) hT (p := q) (t := t + G 2 1 + 1) (by omega) (by omega)
                have k6 := hOne_bd (G 2) q (t + G 2 1)
                have e4 : G 9 (49 * q + (t + G 2 1)) = hv (G 9) q (t + G 2 1) := rfl
                refine br_iload_6 dX3_wayAt_74 ?_
                refine br_iload_3 dX3_wayAt_76 ?_
                refine br_icmp_eq (tgt := 111) dX3_wayAt_77 (by decide) (by omega) (fun c77 => ?_) (fun c77 => ?_)
                · refine br_iinc_6 dX3_wayAt_111 rfl ?_
                  refine br_goto (tgt := 74) dX3_wayAt_114 (by decide) ?_
                  have hbad : ¬ goodQ (G 2) (hv (G 9)) p t q := fun z => by
                    have z1 := z.1
                    have z2 := z.2.1
                    have z3 := z.2.2
                    unfold stS at z3
                    omega
                  exact ih74 _ (by omega) (by omega) (fun x q1 q2 => by
  by_cases e : x = q
  · subst e; exact hbad
  · exact k2 x q1 (by omega))
                · refine br_aload_0 dX3_wayAt_80 ?_
                  refine br_mg_22 dX3_wayAt_81 ?_
                  refine br_bipush dX3_wayAt_84 (by decide) ?_
                  refine br_iload_6 dX3_wayAt_86 ?_
                  refine br_imul dX3_wayAt_88 ?_
                  refine br_iload_4 dX3_wayAt_89 ?_
                  refine br_iadd dX3_wayAt_91 ?_
                  refine br_ml_9 (v := G 9 ((49 * q) + (t + (G 2 1)))) (by omega) rfl dX3_wayAt_92 ?_
                  refine br_iload_5 dX3_wayAt_93 ?_
                  refine br_icmp_ne (tgt := 111) dX3_wayAt_95 (by decide) (by omega) (fun c95 => ?_) (fun c95 => ?_)
                  · refine br_iinc_6 dX3_wayAt_111 rfl ?_
                    refine br_goto (tgt := 74) dX3_wayAt_114 (by decide) ?_
                    have hbad : ¬ goodQ (G 2) (hv (G 9)) p t q := fun z => by
                      have z1 := z.1
                      have z2 := z.2.1
                      have z3 := z.2.2
                      unfold stS at z3
                      omega
                    exact ih74 _ (by omega) (by omega) (fun x q1 q2 => by
  by_cases e : x = q
  · subst e; exact hbad
  · exact k2 x q1 (by omega))
                  · refine br_aload_0 dX3_wayAt_98 ?_
                    refine br_iload_6 dX3_wayAt_99 ?_
                    refine br_iload_4 dX3_wayAt_101 ?_
                    refine br_VF2 (i := 40) (j := 0) (ct_m_stays (by omega) (by omega) hR) lk_X3_224 ⟨Nat.le_of_ble_eq_true rfl, Nat.le_of_ble_eq_true rfl⟩ ⟨Nat.le_of_ble_eq_true rfl, Nat.le_of_ble_eq_true rfl⟩ rfl rfl (Nat.le_of_ble_eq_true rfl) dX3_wayAt_103 ?_
                    refine br_iload_5 dX3_wayAt_106 ?_
                    refine br_icmp_eq (tgt := 117) dX3_wayAt_108 (by decide) (by omega) (fun c108 => ?_) (fun c108 => ?_)
                    · have hgd : goodQ (G 2) (hv (G 9)) p t q := ⟨by omega, by omega, by unfold stS; omega⟩
                      refine br_iload_6 dX3_wayAt_117 ?_
                      refine br_istore_3 dX3_wayAt_119 rfl ?_
                      refine br_goto (tgt := 5) dX3_wayAt_120 (by decide) ?_
                      refine br_fg_5 ?_
                      refine br_fg_6 ?_
                      exact ih5 _ _ (by omega) (by omega) (by first | exact fun v ⟨n, h⟩ => h2 v ⟨n + 1, Or.inr (Or.inl ⟨by omega, hst, h⟩)⟩ | exact fun v ⟨n, h⟩ => h2 v ⟨n + 1, Or.inr (Or.inr (Or.inr ⟨by omega, hst, by omega, _, ⟨by omega, hgd, k2⟩, h⟩))⟩)
                    · refine br_iinc_6 dX3_wayAt_111 rfl ?_
                      refine br_goto (tgt := 74) dX3_wayAt_114 (by decide) ?_
                      have hbad : ¬ goodQ (G 2) (hv (G 9)) p t q := fun z => by
                        have z1 := z.1
                        have z2 := z.2.1
                        have z3 := z.2.2
                        unfold stS at z3
                        omega
                      exact ih74 _ (by omega) (by omega) (fun x q1 q2 => by
  by_cases e : x = q
  · subst e; exact hbad
  · exact k2 x q1 (by omega))
            exact lp74 _ _ (Nat.lt_succ_self _) (by omega) (fun x _ _ => by omega)
          · refine br_bipush dX3_wayAt_68 (by decide) ?_
            exact br_ireturn dX3_wayAt_70 (by decide) (by decide) (hret _ _ (⟨_, rfl, h2 _ ⟨1, Or.inr (Or.inr (Or.inl ⟨by omega, hst, by omega, rfl⟩))⟩, rfl⟩))
        · have hst : stS (G 2) (hv (G 9)) p t := by unfold stS; omega
          refine br_iload_4 dX3_wayAt_37 ?_
          refine br_iload_2 dX3_wayAt_39 ?_
          refine br_icmp_ne (tgt := 45) dX3_wayAt_40 (by decide) (by omega) (fun c40 => ?_) (fun c40 => ?_)
          · refine br_iinc_4 dX3_wayAt_45 rfl ?_
            refine br_goto (tgt := 5) dX3_wayAt_48 (by decide) ?_
            refine br_fg_5 ?_
            exact ih5 _ _ (by omega) (by omega) (by first | exact fun v ⟨n, h⟩ => h2 v ⟨n + 1, Or.inr (Or.inl ⟨by omega, hst, h⟩)⟩ | exact fun v ⟨n, h⟩ => h2 v ⟨n + 1, Or.inr (Or.inr (Or.inr ⟨by omega, hst, by omega, _, ⟨by omega, hgd, k2⟩, h⟩))⟩)
          · refine br_iload_3 dX3_wayAt_43 ?_
            exact br_ireturn dX3_wayAt_44 (by decide) (by decide) (hret _ _ (⟨_, rfl, h2 _ ⟨2, Or.inr (Or.inl ⟨by omega, hst, Or.inl ⟨by omega, rfl⟩⟩)⟩, rfl⟩))
  exact lp5 _ _ _ (Nat.lt_succ_self _) (by omega) (fun v h => h)

theorem ct_m_relief {D : bk_D} {o : Nat} {a : Nat → Nat} {F : Nat → Int} {wd : Int} {G : Nat → Int → Int} {ex : gC} {p t : Int} (hp : -2147483648 ≤ p ∧ p < 2147483648) (ht : -2147483648 ≤ t ∧ t < 2147483648) (hR : RW (G 2)) : bk_K D yX3_relief (.code yX3_relief cX3_relief 3 (some (FieldType.int))) ({ frames := 8, cells := 0, slots := 0, locals := 182 }) [.ref o, .int (iI p), .int (iI t)] (mw o a F wd G ex) (bk_pi fun v w => reliefQ (G 2) p t v ∧ ∃ g : Int → Int, w = mw o a (uF F 0 0) wd (uG G 9 g) ex) bk_nox := by
  refine bk_ofV (own := "BreakSetterModel") (L0 := [some (.ref o), some (.int (iI p)), some (.int (iI t))]) (by decide) rfl (Nat.le_of_ble_eq_true rfl) rfl bk_oi (fun Γ hct hret hthr => ?_)
  have hn := hR.n
  refine br_aload_0 dX3_relief_0 ?_
  refine br_iconst dX3_relief_1 ?_
  refine br_mp_0 dX3_relief_2 ?_
  refine br_aload_0 dX3_relief_5 ?_
  refine br_iload_1 dX3_relief_6 ?_
  refine br_VZ1 (i := 40) (j := 0) (ct_m_isPost (by omega) hR) lk_X3_206 ⟨Nat.le_of_ble_eq_true rfl, Nat.le_of_ble_eq_true rfl⟩ ⟨Nat.le_of_ble_eq_true rfl, Nat.le_of_ble_eq_true rfl⟩ rfl rfl (Nat.le_of_ble_eq_true rfl) dX3_relief_7 (fun c7 => ?_) (fun c7 => ?_)
  · refine br_if_eq (tgt := 25) dX3_relief_10 (by decide) (by decide) (fun q => absurd q (by decide)) (fun _ => ?_)
    refine br_iload_2 dX3_relief_13 ?_
    refine br_iconst dX3_relief_14 ?_
    refine br_icmp_eq (tgt := 27) dX3_relief_15 (by decide) (by omega) (fun c15 => ?_) (fun c15 => ?_)
    · refine br_aload_0 dX3_relief_27 ?_
      refine br_Vv0 (i := 40) (j := 0) (ct_m_laysHelps hR) lk_X3_227 ⟨Nat.le_of_ble_eq_true rfl, Nat.le_of_ble_eq_true rfl⟩ ⟨Nat.le_of_ble_eq_true rfl, Nat.le_of_ble_eq_true rfl⟩ rfl rfl (Nat.le_of_ble_eq_true rfl) dX3_relief_28 (fun w_ hw_ => ?_)
      obtain ⟨g9, rfl, hT⟩ := hw_
      refine br_iload_2 dX3_relief_31 ?_
      refine br_iconst dX3_relief_32 ?_
      refine br_icmp_ne (tgt := 48) dX3_relief_33 (by decide) (by omega) (fun c33 => ?_) (fun c33 => ?_)
      · refine br_aload_0 dX3_relief_48 ?_
        refine br_iload_1 dX3_relief_49 ?_
        refine br_iload_2 dX3_relief_50 ?_
        refine br_Vi2 (i := 40) (j := 0) (ct_m_wayAt (show 0 ≤ p ∧ p < G 2 0 from by omega) (by omega) hR hT) lk_X3_230 ⟨Nat.le_of_ble_eq_true rfl, Nat.le_of_ble_eq_true rfl⟩ ⟨Nat.le_of_ble_eq_true rfl, Nat.le_of_ble_eq_true rfl⟩ rfl rfl (Nat.le_of_ble_eq_true rfl) dX3_relief_51 (fun v51 w_ hw_ => ?_)
        obtain ⟨hb51, rfl⟩ := hw_
        exact br_ireturn dX3_relief_54 (by decide) (by decide) (hret _ _ (⟨_, rfl, Or.inr ⟨by omega, hv g9, hT, Or.inr ⟨by omega, hb51⟩⟩, g9, rfl⟩))
      · refine br_aload_0 dX3_relief_36 ?_
        refine br_mg_22 dX3_relief_37 ?_
        refine br_bipush dX3_relief_40 (by decide) ?_
        refine br_iload_1 dX3_relief_42 ?_
        refine br_imul dX3_relief_43 ?_
        refine br_ml_9 (v := g9 (49 * p)) (by omega) rfl dX3_relief_44 ?_
        refine br_goto (tgt := 54) dX3_relief_45 (by decide) ?_
        exact br_ireturn dX3_relief_54 (by decide) (by decide) (hret _ _ (⟨_, rfl, Or.inr ⟨by omega, hv g9, hT, Or.inl ⟨by omega, congrArg g9 (by omega)⟩⟩, g9, rfl⟩))
    · refine br_iload_2 dX3_relief_18 ?_
      refine br_SZ1 (ct_m_isSlot (by omega)) lk_X3_209 ⟨Nat.le_of_ble_eq_true rfl, Nat.le_of_ble_eq_true rfl⟩ ⟨Nat.le_of_ble_eq_true rfl, Nat.le_of_ble_eq_true rfl⟩  (Nat.le_of_ble_eq_true rfl) dX3_relief_19 (fun c19 => ?_) (fun c19 => ?_)
      · refine br_if_ne (tgt := 27) dX3_relief_22 (by decide) (by decide) (fun _ => ?_) (fun q => absurd q (by decide))
        refine br_aload_0 dX3_relief_27 ?_
        refine br_Vv0 (i := 40) (j := 0) (ct_m_laysHelps hR) lk_X3_227 ⟨Nat.le_of_ble_eq_true rfl, Nat.le_of_ble_eq_true rfl⟩ ⟨Nat.le_of_ble_eq_true rfl, Nat.le_of_ble_eq_true rfl⟩ rfl rfl (Nat.le_of_ble_eq_true rfl) dX3_relief_28 (fun w_ hw_ => ?_)
        obtain ⟨g9, rfl, hT⟩ := hw_
        refine br_iload_2 dX3_relief_31 ?_
        refine br_iconst dX3_relief_32 ?_
        refine br_icmp_ne (tgt := 48) dX3_relief_33 (by decide) (by omega) (fun c33 => ?_) (fun c33 => ?_)
        · refine br_aload_0 dX3_relief_48 ?_
          refine br_iload_1 dX3_relief_49 ?_
          refine br_iload_2 dX3_relief_50 ?_
          refine br_Vi2 (i := 40) (j := 0) (ct_m_wayAt (show 0 ≤ p ∧ p < G 2 0 from by omega) (by omega) hR hT) lk_X3_230 ⟨Nat.le_of_ble_eq_true rfl, Nat.le_of_ble_eq_true rfl⟩ ⟨Nat.le_of_ble_eq_true rfl, Nat.le_of_ble_eq_true rfl⟩ rfl rfl (Nat.le_of_ble_eq_true rfl) dX3_relief_51 (fun v51 w_ hw_ => ?_)
          obtain ⟨hb51, rfl⟩ := hw_
          exact br_ireturn dX3_relief_54 (by decide) (by decide) (hret _ _ (⟨_, rfl, Or.inr ⟨by omega, hv g9, hT, Or.inr ⟨by omega, hb51⟩⟩, g9, rfl⟩))
        · refine br_aload_0 dX3_relief_36 ?_
          refine br_mg_22 dX3_relief_37 ?_
          refine br_bipush dX3_relief_40 (by decide) ?_
          refine br_iload_1 dX3_relief_42 ?_
          refine br_imul dX3_relief_43 ?_
          refine br_ml_9 (v := g9 (49 * p)) (by omega) rfl dX3_relief_44 ?_
          refine br_goto (tgt := 54) dX3_relief_45 (by decide) ?_
          exact br_ireturn dX3_relief_54 (by decide) (by decide) (hret _ _ (⟨_, rfl, Or.inr ⟨by omega, hv g9, hT, Or.inl ⟨by omega, congrArg g9 (by omega)⟩⟩, g9, rfl⟩))
      · refine br_if_ne (tgt := 27) dX3_relief_22 (by decide) (by decide) (fun q => absurd q (by decide)) (fun _ => ?_)
        refine br_iconst dX3_relief_25 ?_
        exact br_ireturn dX3_relief_26 (by decide) (by decide) (hret _ _ (⟨_, rfl, Or.inl ⟨by omega, rfl⟩, G 9, by rw [uG_self]⟩))
  · refine br_if_eq (tgt := 25) dX3_relief_10 (by decide) (by decide) (fun _ => ?_) (fun q => absurd q (by decide))
    refine br_iconst dX3_relief_25 ?_
    exact br_ireturn dX3_relief_26 (by decide) (by decide) (hret _ _ (⟨_, rfl, Or.inl ⟨by omega, rfl⟩, G 9, by rw [uG_self]⟩))

