/-! X: slots, worst, relief -/
set_option maxRecDepth 100000
theorem ct_x_slot {D : bk_D} {o : Nat} {a b sa pa : Nat → Nat} {F : Nat → Int} {G : Nat → Int → Int} {bk : Int → Option Nat} {r : Int → Int} {P : Nat → Int} {du : Int → Int} {hb : Nat → Option (Nat × bE)} {ex : gC} {s q u : Int} (hs : -2147483648 ≤ s ∧ s < 2147483648) (hq : -2147483648 ≤ q ∧ q < 2147483648) (hu : -2147483648 ≤ u ∧ u < 2147483648) (hR : RW r) (hpl : xPl r P du) (hA : atOK r G) : bk_K D yX1_slot (.code yX1_slot cX1_slot 5 (some (FieldType.int))) ({ frames := 4, cells := 0, slots := 0, locals := 100 }) [.ref o, .int (iI s), .int (iI q), .int (iI u)] (xw o a F G bk b sa pa r P du hb ex) (bk_pi fun v w => v = slotS r s q u ∧ ∃ (f6 : Int) (g2 : Int → Int), w = (xw o a (uF F 6 f6) (uG G 2 g2) bk b sa pa r P du hb ex)) bk_nox := by
  refine bk_ofV (own := "BreakSetter") (L0 := [some (.ref o), some (.int (iI s)), some (.int (iI q)), some (.int (iI u)), none]) (by decide) rfl (Nat.le_of_ble_eq_true rfl) rfl bk_oi (fun Γ hct hret hthr => ?_)
  have hn := hR.n
  obtain ⟨⟨p0, p1, p2, p3⟩, hdu⟩ := id hpl
  refine br_aload_0 dX1_slot_0 ?_
  refine br_iload_1 dX1_slot_1 ?_
  refine br_VZ1 (i := 0) (j := 0) (ct_x_isPost (by omega) hR hpl hA) lk_X1_169 ⟨Nat.le_of_ble_eq_true rfl, Nat.le_of_ble_eq_true rfl⟩ ⟨Nat.le_of_ble_eq_true rfl, Nat.le_of_ble_eq_true rfl⟩ rfl rfl (Nat.le_of_ble_eq_true rfl) dX1_slot_2 (fun c2 => ?_) (fun c2 => ?_)
  · refine br_if_eq (tgt := 15) dX1_slot_5 (by decide) (by decide) (fun q => absurd q (by decide)) (fun _ => ?_)
    refine br_iload_2 dX1_slot_8 ?_
    refine br_SZ1 (ct_x_isSlot (by omega)) lk_X1_172 ⟨Nat.le_of_ble_eq_true rfl, Nat.le_of_ble_eq_true rfl⟩ ⟨Nat.le_of_ble_eq_true rfl, Nat.le_of_ble_eq_true rfl⟩  (Nat.le_of_ble_eq_true rfl) dX1_slot_9 (fun c9 => ?_) (fun c9 => ?_)
    · refine br_if_ne (tgt := 17) dX1_slot_12 (by decide) (by decide) (fun _ => ?_) (fun q => absurd q (by decide))
      refine br_aload_0 dX1_slot_17 ?_
      refine br_Vv0 (i := 0) (j := 0) (ct_x_laysCover hR hpl hA) lk_X1_143 ⟨Nat.le_of_ble_eq_true rfl, Nat.le_of_ble_eq_true rfl⟩ ⟨Nat.le_of_ble_eq_true rfl, Nat.le_of_ble_eq_true rfl⟩ rfl rfl (Nat.le_of_ble_eq_true rfl) dX1_slot_18 (fun w_ hw_ => ?_)
      obtain ⟨f18, g18, rfl, hL18⟩ := hw_
      have hcv := hL18.1 (48 * s + q) (by omega) (by omega)
      rw [cov_at (by omega)] at hcv
      have hne := ne_at r s q
      have hnb := hR.need (p := s) (t := q) (by omega) (by omega)
      have hcb := coverS_bd hR s q
      refine br_bipush dX1_slot_21 (by decide) ?_
      refine br_iload_1 dX1_slot_23 ?_
      refine br_imul dX1_slot_24 ?_
      refine br_iload_2 dX1_slot_25 ?_
      refine br_iadd dX1_slot_26 ?_
      refine br_istore_4 dX1_slot_27 rfl ?_
      refine br_iload_3 dX1_slot_29 ?_
      refine br_if_ne (tgt := 46) dX1_slot_30 (by decide) (by omega) (fun c30 => ?_) (fun c30 => ?_)
      · refine br_iload_3 dX1_slot_46 ?_
        refine br_iconst dX1_slot_47 ?_
        refine br_icmp_ne (tgt := 61) dX1_slot_48 (by decide) (by omega) (fun c48 => ?_) (fun c48 => ?_)
        · refine br_iload_3 dX1_slot_61 ?_
          refine br_iconst dX1_slot_62 ?_
          refine br_icmp_ne (tgt := 89) dX1_slot_63 (by decide) (by omega) (fun c63 => ?_) (fun c63 => ?_)
          · refine br_iconst dX1_slot_89 ?_
            exact br_ireturn dX1_slot_90 (by decide) (by decide) (hret _ _ (⟨_, rfl, by unfold slotS; rw [if_pos (by omega)]; rw [if_neg (by omega), if_neg (by omega), if_neg (by omega)], f18, g18, rfl⟩))
          · refine br_aload_0 dX1_slot_66 ?_
            refine br_xg_X1_16 dX1_slot_67 ?_
            refine br_xg_X1_88 dX1_slot_70 ?_
            refine br_iload_4 dX1_slot_73 ?_
            refine br_xl_need (v := r (4 + ((48 * s) + q))) (by omega) rfl dX1_slot_75 ?_
            refine br_aload_0 dX1_slot_76 ?_
            refine br_xg_X1_28 dX1_slot_77 ?_
            refine br_iload_4 dX1_slot_80 ?_
            refine br_xl_2 (v := g18 ((48 * s) + q)) (by omega) rfl dX1_slot_82 ?_
            refine br_SF2 (ct_x_shortOf (by omega) (by omega)) lk_X1_91 ⟨Nat.le_of_ble_eq_true rfl, Nat.le_of_ble_eq_true rfl⟩ ⟨Nat.le_of_ble_eq_true rfl, Nat.le_of_ble_eq_true rfl⟩  (Nat.le_of_ble_eq_true rfl) dX1_slot_83 ?_
            refine br_topi (y := pos0 (r (4 + ((48 * s) + q)) - (g18 ((48 * s) + q)))) rfl ?_
            refine br_goto (tgt := 90) dX1_slot_86 (by decide) ?_
            exact br_ireturn dX1_slot_90 (by decide) (by decide) (hret _ _ (⟨_, rfl, by unfold slotS; rw [if_pos (by omega)]; rw [if_neg (by omega), if_neg (by omega), if_pos (by omega), hne, hcv]; rfl, f18, g18, rfl⟩))
        · refine br_aload_0 dX1_slot_51 ?_
          refine br_xg_X1_28 dX1_slot_52 ?_
          refine br_iload_4 dX1_slot_55 ?_
          refine br_xl_2 (v := g18 ((48 * s) + q)) (by omega) rfl dX1_slot_57 ?_
          refine br_goto (tgt := 90) dX1_slot_58 (by decide) ?_
          exact br_ireturn dX1_slot_90 (by decide) (by decide) (hret _ _ (⟨_, rfl, by unfold slotS; rw [if_pos (by omega)]; rw [if_neg (by omega), if_pos (by omega), hcv], f18, g18, rfl⟩))
      · refine br_aload_0 dX1_slot_33 ?_
        refine br_xg_X1_16 dX1_slot_34 ?_
        refine br_xg_X1_88 dX1_slot_37 ?_
        refine br_iload_4 dX1_slot_40 ?_
        refine br_xl_need (v := r (4 + ((48 * s) + q))) (by omega) rfl dX1_slot_42 ?_
        refine br_goto (tgt := 90) dX1_slot_43 (by decide) ?_
        exact br_ireturn dX1_slot_90 (by decide) (by decide) (hret _ _ (⟨_, rfl, by unfold slotS; rw [if_pos (by omega)]; rw [if_pos (by omega), hne], f18, g18, rfl⟩))
    · refine br_if_ne (tgt := 17) dX1_slot_12 (by decide) (by decide) (fun q => absurd q (by decide)) (fun _ => ?_)
      refine br_iconst dX1_slot_15 ?_
      exact br_ireturn dX1_slot_16 (by decide) (by decide) (hret _ _ (⟨_, rfl, by unfold slotS; rw [if_neg (by omega)], F 6, G 2, by rw [uF_self, uG_self]⟩))
  · refine br_if_eq (tgt := 15) dX1_slot_5 (by decide) (by decide) (fun _ => ?_) (fun q => absurd q (by decide))
    refine br_iconst dX1_slot_15 ?_
    exact br_ireturn dX1_slot_16 (by decide) (by decide) (hret _ _ (⟨_, rfl, by unfold slotS; rw [if_neg (by omega)], F 6, G 2, by rw [uF_self, uG_self]⟩))

theorem ct_x_now {D : bk_D} {o : Nat} {a b sa pa : Nat → Nat} {F : Nat → Int} {G : Nat → Int → Int} {bk : Int → Option Nat} {r : Int → Int} {P : Nat → Int} {du : Int → Int} {hb : Nat → Option (Nat × bE)} {ex : gC} {q : Int} (hq : -2147483648 ≤ q ∧ q < 2147483648) (hR : RW r) (hpl : xPl r P du) (hA : atOK r G) : bk_K D yX1_now (.code yX1_now cX1_now 2 (some (FieldType.int))) ({ frames := 4, cells := 0, slots := 0, locals := 100 }) [.ref o, .int (iI q)] (xw o a F G bk b sa pa r P du hb ex) (bk_pi fun v w => v = nowS r (F 11) (F 1) q ∧ ∃ (f6 : Int) (g2 : Int → Int), w = (xw o a (uF F 6 f6) (uG G 2 g2) bk b sa pa r P du hb ex)) bk_nox := by
  refine bk_ofV (own := "BreakSetter") (L0 := [some (.ref o), some (.int (iI q))]) (by decide) rfl (Nat.le_of_ble_eq_true rfl) rfl bk_oi (fun Γ hct hret hthr => ?_)
  have hn := hR.n
  obtain ⟨⟨p0, p1, p2, p3⟩, hdu⟩ := id hpl
  refine br_iload_1 dX1_now_0 ?_
  by_cases hsw : q < 0 ∨ 7 < q
  · refine br_tabOut (tgt := 104) dX1_now_1 (by omega) hsw (by decide) ?_
    refine br_iconst dX1_now_104 ?_
    exact br_ireturn dX1_now_105 (by decide) (by decide) (hret _ _ (⟨_, rfl, by simp only [nowS]; repeat (first | rw [if_neg (by omega)] | rfl), F 6, G 2, by rw [uF_self, uG_self]⟩))
  · have hsw2 : q = 0 ∨ q = 1 ∨ q = 2 ∨ q = 3 ∨ q = 4 ∨ q = 5 ∨ q = 6 ∨ q = 7 := by omega
    rcases hsw2 with hsw2 | hsw2 | hsw2 | hsw2 | hsw2 | hsw2 | hsw2 | hsw2
    · refine br_tabIn (off := 47) (tgt := 48) dX1_now_1 (by omega) (by omega) (by omega) (by rw [hsw2]; rfl) (by decide) ?_
      refine br_aload_0 dX1_now_48 ?_
      refine br_xg_X1_16 dX1_now_49 ?_
      refine br_xg_X1_60 (v := P 0) rfl dX1_now_52 ?_
      exact br_ireturn dX1_now_55 (by decide) (by decide) (hret _ _ (⟨_, by rw [p0], by subst hsw2; rfl, F 6, G 2, by rw [uF_self, uG_self]⟩))
    · refine br_tabIn (off := 55) (tgt := 56) dX1_now_1 (by omega) (by omega) (by omega) (by rw [hsw2]; rfl) (by decide) ?_
      refine br_aload_0 dX1_now_56 ?_
      refine br_xg_X1_16 dX1_now_57 ?_
      refine br_xg_X1_137 (v := P 2) rfl dX1_now_60 ?_
      exact br_ireturn dX1_now_63 (by decide) (by decide) (hret _ _ (⟨_, by rw [p2], by subst hsw2; rfl, F 6, G 2, by rw [uF_self, uG_self]⟩))
    · refine br_tabIn (off := 63) (tgt := 64) dX1_now_1 (by omega) (by omega) (by omega) (by rw [hsw2]; rfl) (by decide) ?_
      refine br_aload_0 dX1_now_64 ?_
      refine br_xg_X1_16 dX1_now_65 ?_
      refine br_xg_X1_67 (v := P 3) rfl dX1_now_68 ?_
      exact br_ireturn dX1_now_71 (by decide) (by decide) (hret _ _ (⟨_, by rw [p3], by subst hsw2; rfl, F 6, G 2, by rw [uF_self, uG_self]⟩))
    · refine br_tabIn (off := 71) (tgt := 72) dX1_now_1 (by omega) (by omega) (by omega) (by rw [hsw2]; rfl) (by decide) ?_
      refine br_aload_0 dX1_now_72 ?_
      refine br_VF0 (i := 0) (j := 0) (ct_x_placed hR hpl hA) lk_X1_139 ⟨Nat.le_of_ble_eq_true rfl, Nat.le_of_ble_eq_true rfl⟩ ⟨Nat.le_of_ble_eq_true rfl, Nat.le_of_ble_eq_true rfl⟩ rfl rfl (Nat.le_of_ble_eq_true rfl) dX1_now_73 ?_
      exact br_ireturn dX1_now_76 (by decide) (by decide) (hret _ _ (⟨_, rfl, by subst hsw2; rfl, F 6, G 2, by rw [uF_self, uG_self]⟩))
    · refine br_tabIn (off := 76) (tgt := 77) dX1_now_1 (by omega) (by omega) (by omega) (by rw [hsw2]; rfl) (by decide) ?_
      refine br_aload_0 dX1_now_77 ?_
      refine br_Vv0 (i := 0) (j := 0) (ct_x_laysCover hR hpl hA) lk_X1_143 ⟨Nat.le_of_ble_eq_true rfl, Nat.le_of_ble_eq_true rfl⟩ ⟨Nat.le_of_ble_eq_true rfl, Nat.le_of_ble_eq_true rfl⟩ rfl rfl (Nat.le_of_ble_eq_true rfl) dX1_now_78 (fun w_ hw_ => ?_)
      obtain ⟨f78, g78, rfl, hL78⟩ := hw_
      refine br_aload_0 dX1_now_81 ?_
      refine br_xg_X1_85 (v := f78) rfl dX1_now_82 ?_
      exact br_ireturn dX1_now_85 (by decide) (by decide) (hret _ _ (⟨_, rfl, by subst hsw2; exact hL78.2, f78, g78, rfl⟩))
    · refine br_tabIn (off := 85) (tgt := 86) dX1_now_1 (by omega) (by omega) (by omega) (by rw [hsw2]; rfl) (by decide) ?_
      refine br_aload_0 dX1_now_86 ?_
      refine br_xg_X1_16 dX1_now_87 ?_
      refine br_xg_X1_146 (v := P 1) rfl dX1_now_90 ?_
      exact br_ireturn dX1_now_93 (by decide) (by decide) (hret _ _ (⟨_, by rw [p1], by subst hsw2; rfl, F 6, G 2, by rw [uF_self, uG_self]⟩))
    · refine br_tabIn (off := 93) (tgt := 94) dX1_now_1 (by omega) (by omega) (by omega) (by rw [hsw2]; rfl) (by decide) ?_
      refine br_aload_0 dX1_now_94 ?_
      refine br_xg_X1_149 (v := F 11) rfl dX1_now_95 ?_
      exact br_ireturn dX1_now_98 (by decide) (by decide) (hret _ _ (⟨_, rfl, by subst hsw2; rfl, F 6, G 2, by rw [uF_self, uG_self]⟩))
    · refine br_tabIn (off := 98) (tgt := 99) dX1_now_1 (by omega) (by omega) (by omega) (by rw [hsw2]; rfl) (by decide) ?_
      refine br_aload_0 dX1_now_99 ?_
      refine br_xg_X1_46 (v := F 1) rfl dX1_now_100 ?_
      exact br_ireturn dX1_now_103 (by decide) (by decide) (hret _ _ (⟨_, rfl, by subst hsw2; rfl, F 6, G 2, by rw [uF_self, uG_self]⟩))

theorem ct_x_worst {D : bk_D} {o : Nat} {a b sa pa : Nat → Nat} {F : Nat → Int} {G : Nat → Int → Int} {bk : Int → Option Nat} {r : Int → Int} {P : Nat → Int} {du : Int → Int} {hb : Nat → Option (Nat × bE)} {ex : gC} (hR : RW r) (hpl : xPl r P du) (hA : atOK r G) : bk_K D yX1_worst (.code yX1_worst cX1_worst 6 (some (FieldType.int))) ({ frames := 4, cells := 0, slots := 0, locals := 100 }) [.ref o] (xw o a F G bk b sa pa r P du hb ex) (bk_pi fun v w => (∃ l, worstTo r 48 v l) ∧ ∃ (f6 : Int) (g2 : Int → Int), w = (xw o a (uF F 6 f6) (uG G 2 g2) bk b sa pa r P du hb ex)) bk_nox := by
  refine bk_ofV (own := "BreakSetter") (L0 := [some (.ref o), none, none, none, none, none]) (by decide) rfl (Nat.le_of_ble_eq_true rfl) rfl bk_oi (fun Γ hct hret hthr => ?_)
  have hn := hR.n
  obtain ⟨⟨p0, p1, p2, p3⟩, hdu⟩ := id hpl
  refine br_aload_0 dX1_worst_0 ?_
  refine br_Vv0 (i := 0) (j := 0) (ct_x_laysCover hR hpl hA) lk_X1_143 ⟨Nat.le_of_ble_eq_true rfl, Nat.le_of_ble_eq_true rfl⟩ ⟨Nat.le_of_ble_eq_true rfl, Nat.le_of_ble_eq_true rfl⟩ rfl rfl (Nat.le_of_ble_eq_true rfl) dX1_worst_1 (fun w_ hw_ => ?_)
  obtain ⟨f1, g1, rfl, hL1⟩ := hw_
  refine br_iconst dX1_worst_4 ?_
  refine br_istore_1 dX1_worst_5 rfl ?_
  refine br_iconst dX1_worst_6 ?_
  refine br_istore_2 dX1_worst_7 rfl ?_
  refine br_iconst dX1_worst_8 ?_
  refine br_istore_3 dX1_worst_9 rfl ?_
  have lp10 : ∀ (mm10 : Nat) (bs : Int) (l : Int) (t : Int), (48 - t).toNat < mm10 → (0 ≤ t ∧ t ≤ 48) → (worstTo r t bs l) → (0 ≤ l ∧ l ≤ 342) → bk_V Γ D ({ frames := 4, cells := 0, slots := 0, locals := 100 }) "BreakSetter" cX1_worst [] 0 0 (xw o a (uF F 6 f1) (uG G 2 g1) bk b sa pa r P du hb ex) [some (.ref o), some (.int (iI bs)), some (.int (iI l)), some (.int (iI t)), none, none] [] 10 := by
    intro mm10
    induction mm10 with
    | zero => intro bs l t hm10; exact absurd hm10 (Nat.not_lt_zero _)
    | succ mm10 ih10 =>
      intro bs l t hm10 h1 h2 h3
      refine br_iload_3 dX1_worst_10 ?_
      refine br_bipush dX1_worst_11 (by decide) ?_
      refine br_icmp_ge (tgt := 95) dX1_worst_13 (by decide) (by omega) (fun c13 => ?_) (fun c13 => ?_)
      · refine br_iload_1 dX1_worst_95 ?_
        exact br_ireturn dX1_worst_96 (by decide) (by decide) (hret _ _ (⟨_, rfl, ⟨l, by rw [show (48 : Int) = t by omega]; exact h2⟩, f1, g1, rfl⟩))
      · refine br_iconst dX1_worst_16 ?_
        refine br_istore_4 dX1_worst_17 rfl ?_
        refine br_iconst dX1_worst_19 ?_
        refine br_istore_5 dX1_worst_20 rfl ?_
        have lp22 : ∀ (mm22 : Nat) (m : Int) (z : Int), (r 0 - z).toNat < mm22 → (0 ≤ z ∧ z ≤ r 0) → (m = sumI (fun p => shortS r p t) z.toNat) → bk_V Γ D ({ frames := 4, cells := 0, slots := 0, locals := 100 }) "BreakSetter" cX1_worst [] 0 0 (xw o a (uF F 6 f1) (uG G 2 g1) bk b sa pa r P du hb ex) [some (.ref o), some (.int (iI bs)), some (.int (iI l)), some (.int (iI t)), some (.int (iI m)), some (.int (iI z))] [] 22 := by
          intro mm22
          induction mm22 with
          | zero => intro m z hm22; exact absurd hm22 (Nat.not_lt_zero _)
          | succ mm22 ih22 =>
            intro m z hm22 k1 k2
            refine br_iload_5 dX1_worst_22 ?_
            refine br_aload_0 dX1_worst_24 ?_
            refine br_xg_X1_16 dX1_worst_25 ?_
            refine br_xg_X1_60 (v := P 0) rfl dX1_worst_28 ?_
            refine br_icmp_ge (tgt := 75) dX1_worst_31 (by decide) (by omega) (fun c31 => ?_) (fun c31 => ?_)
            · have hsb := shortIn_bd hR (t := t) (by omega)
              have hsm : m = shortIn r t := by rw [k2, show z = r 0 by omega]; rfl
              refine br_iload_4 dX1_worst_75 ?_
              refine br_iload_2 dX1_worst_77 ?_
              refine br_icmp_gt (tgt := 84) dX1_worst_78 (by decide) (by omega) (fun c78 => ?_) (fun c78 => ?_)
              · refine br_iload_3 dX1_worst_84 ?_
                refine br_istore_1 dX1_worst_85 rfl ?_
                refine br_iload_4 dX1_worst_86 ?_
                refine br_istore_2 dX1_worst_88 rfl ?_
                refine br_iinc_3 dX1_worst_89 rfl ?_
                refine br_goto (tgt := 10) dX1_worst_92 (by decide) ?_
                refine br_fg_4 ?_
                refine br_fg_5 ?_
                exact ih10 _ _ _ (by omega) (by omega) (by first | exact worstTo_skip h2 (by omega) | exact (by rw [hsm]; exact worstTo_new (by omega) h2 (by omega))) (by omega)
              · refine br_goto (tgt := 89) dX1_worst_81 (by decide) ?_
                refine br_iinc_3 dX1_worst_89 rfl ?_
                refine br_goto (tgt := 10) dX1_worst_92 (by decide) ?_
                refine br_fg_4 ?_
                refine br_fg_5 ?_
                exact ih10 _ _ _ (by omega) (by omega) (by first | exact worstTo_skip h2 (by omega) | exact (by rw [hsm]; exact worstTo_new (by omega) h2 (by omega))) (by omega)
            · have hcv := hL1.1 (48 * z + t) (by omega) (by omega)
              rw [cov_at (by omega)] at hcv
              have hne := ne_at r z t
              have hnb := hR.need (p := z) (t := t) (by omega) (by omega)
              have hcb := coverS_bd hR z t
              have hsz : pos0 (r (4 + (48 * z + t)) - g1 (48 * z + t)) = shortS r z t := by rw [hne, hcv]; rfl
              refine br_iload_4 dX1_worst_34 ?_
              refine br_aload_0 dX1_worst_36 ?_
              refine br_xg_X1_16 dX1_worst_37 ?_
              refine br_xg_X1_88 dX1_worst_40 ?_
              refine br_bipush dX1_worst_43 (by decide) ?_
              refine br_iload_5 dX1_worst_45 ?_
              refine br_imul dX1_worst_47 ?_
              refine br_iload_3 dX1_worst_48 ?_
              refine br_iadd dX1_worst_49 ?_
              refine br_xl_need (v := r (4 + ((48 * z) + t))) (by omega) rfl dX1_worst_50 ?_
              refine br_aload_0 dX1_worst_51 ?_
              refine br_xg_X1_28 dX1_worst_52 ?_
              refine br_bipush dX1_worst_55 (by decide) ?_
              refine br_iload_5 dX1_worst_57 ?_
              refine br_imul dX1_worst_59 ?_
              refine br_iload_3 dX1_worst_60 ?_
              refine br_iadd dX1_worst_61 ?_
              refine br_xl_2 (v := g1 ((48 * z) + t)) (by omega) rfl dX1_worst_62 ?_
              refine br_SF2 (ct_x_shortOf (by omega) (by omega)) lk_X1_91 ⟨Nat.le_of_ble_eq_true rfl, Nat.le_of_ble_eq_true rfl⟩ ⟨Nat.le_of_ble_eq_true rfl, Nat.le_of_ble_eq_true rfl⟩  (Nat.le_of_ble_eq_true rfl) dX1_worst_63 ?_
              refine br_topi (y := pos0 (r (4 + ((48 * z) + t)) - (g1 ((48 * z) + t)))) rfl ?_
              refine br_iadd dX1_worst_66 ?_
              refine br_istore_4 dX1_worst_67 rfl ?_
              refine br_iinc_5 dX1_worst_69 rfl ?_
              refine br_goto (tgt := 22) dX1_worst_72 (by decide) ?_
              exact ih22 _ _ (by omega) (by omega) (by rw [sumI_step _ k1.1, k2, hsz])
        exact lp22 _ _ _ (Nat.lt_succ_self _) (by omega) rfl
  exact lp10 _ _ _ _ (Nat.lt_succ_self _) (by omega) (worstTo_0 _) (by omega)

theorem ct_x_helpsFrom {D : bk_D} {o : Nat} {a b sa pa : Nat → Nat} {F : Nat → Int} {G : Nat → Int → Int} {bk : Int → Option Nat} {r : Int → Int} {P : Nat → Int} {du : Int → Int} {hb : Nat → Option (Nat × bE)} {ex : gC} {t p : Int} (ht : 0 ≤ t ∧ t ≤ 100) (hp : 0 ≤ p ∧ p < 3) : bk_K D yX1_helpsFrom (.code yX1_helpsFrom cX1_helpsFrom 3 (some (FieldType.int))) ({ frames := 1, cells := 0, slots := 0, locals := 21 }) [.ref o, .int (iI t), .int (iI p)] (xw o a F G bk b sa pa r P du hb ex) (bk_pf (hx (G 5) p (m48 t)) (xw o a F G bk b sa pa r P du hb ex)) bk_nox := by
  refine bk_ofV (own := "BreakSetter") (L0 := [some (.ref o), some (.int (iI t)), some (.int (iI p))]) (by decide) rfl (Nat.le_of_ble_eq_true rfl) rfl bk_oi (fun Γ hct hret hthr => ?_)
  refine br_aload_0 dX1_helpsFrom_0 ?_
  refine br_xg_X1_38 dX1_helpsFrom_1 ?_
  refine br_iconst dX1_helpsFrom_4 ?_
  refine br_bipush dX1_helpsFrom_5 (by decide) ?_
  refine br_iload_1 dX1_helpsFrom_7 ?_
  refine br_min q973 q557 q100 q558 ⟨Nat.le_of_ble_eq_true rfl, Nat.le_of_ble_eq_true rfl⟩ ⟨Nat.le_of_ble_eq_true rfl, Nat.le_of_ble_eq_true rfl⟩ (by omega) (by omega) (Nat.le_of_ble_eq_true rfl) dX1_helpsFrom_8 ?_
  refine br_imul dX1_helpsFrom_11 ?_
  refine br_iload_2 dX1_helpsFrom_12 ?_
  refine br_iadd dX1_helpsFrom_13 ?_
  refine br_xl_5 (v := G 5 ((3 * (if t < 48 then t else 48)) + p)) (by split <;> omega) rfl dX1_helpsFrom_14 ?_
  exact br_ireturn dX1_helpsFrom_15 (by decide) (by decide) (hret _ _ (bk_f (by unfold hx m48; rfl)))

theorem ct_x_byStaying {D : bk_D} {o : Nat} {a b sa pa : Nat → Nat} {F : Nat → Int} {G : Nat → Int → Int} {bk : Int → Option Nat} {r : Int → Int} {P : Nat → Int} {du : Int → Int} {hb : Nat → Option (Nat × bE)} {ex : gC} {t p : Int} (ht : 0 ≤ t ∧ t < 48) (hp : 0 ≤ p ∧ p < 3) (hR : RW r) (hL : laidV r (F 6) (G 2)) : bk_K D yX1_byStaying (.code yX1_byStaying cX1_byStaying 4 (some (FieldType.int))) ({ frames := 2, cells := 0, slots := 0, locals := 43 }) [.ref o, .int (iI t), .int (iI p)] (xw o a F G bk b sa pa r P du hb ex) (bk_pf (hOne r p t + hx (G 5) p (t + 1)) (xw o a F G bk b sa pa r P du hb ex)) bk_nox := by
  refine bk_ofV (own := "BreakSetter") (L0 := [some (.ref o), some (.int (iI t)), some (.int (iI p)), none]) (by decide) rfl (Nat.le_of_ble_eq_true rfl) rfl bk_oi (fun Γ hct hret hthr => ?_)
  have hcv := hL.1 (48 * p + t) (by omega) (by omega)
  rw [cov_at (by omega)] at hcv
  have hne := ne_at r p t
  have hnb := hR.need (p := p) (t := t) (by omega) (by omega)
  have hcb := coverS_bd hR p t
  have hsz : pos0 (r (4 + (48 * p + t)) - G 2 (48 * p + t)) = shortS r p t := by rw [hne, hcv]; rfl
  have hsb := shortS_bd hR hp ht
  refine br_bipush dX1_byStaying_0 (by decide) ?_
  refine br_iload_2 dX1_byStaying_2 ?_
  refine br_imul dX1_byStaying_3 ?_
  refine br_iload_1 dX1_byStaying_4 ?_
  refine br_iadd dX1_byStaying_5 ?_
  refine br_istore_3 dX1_byStaying_6 rfl ?_
  refine br_aload_0 dX1_byStaying_7 ?_
  refine br_xg_X1_16 dX1_byStaying_8 ?_
  refine br_xg_X1_88 dX1_byStaying_11 ?_
  refine br_iload_3 dX1_byStaying_14 ?_
  refine br_xl_need (v := r (4 + ((48 * p) + t))) (by omega) rfl dX1_byStaying_15 ?_
  refine br_aload_0 dX1_byStaying_16 ?_
  refine br_xg_X1_28 dX1_byStaying_17 ?_
  refine br_iload_3 dX1_byStaying_20 ?_
  refine br_xl_2 (v := G 2 ((48 * p) + t)) (by omega) rfl dX1_byStaying_21 ?_
  refine br_SF2 (ct_x_shortOf (by omega) (by omega)) lk_X1_91 ⟨Nat.le_of_ble_eq_true rfl, Nat.le_of_ble_eq_true rfl⟩ ⟨Nat.le_of_ble_eq_true rfl, Nat.le_of_ble_eq_true rfl⟩  (Nat.le_of_ble_eq_true rfl) dX1_byStaying_22 ?_
  refine br_if_le (tgt := 32) dX1_byStaying_25 (by decide) (by omega) (fun c25 => ?_) (fun c25 => ?_)
  · refine br_iconst dX1_byStaying_32 ?_
    refine br_aload_0 dX1_byStaying_33 ?_
    refine br_iload_1 dX1_byStaying_34 ?_
    refine br_iconst dX1_byStaying_35 ?_
    refine br_iadd dX1_byStaying_36 ?_
    refine br_iload_2 dX1_byStaying_37 ?_
    refine br_VF2 (i := 0) (j := 0) (ct_x_helpsFrom (by omega) (by omega)) lk_X1_215 ⟨Nat.le_of_ble_eq_true rfl, Nat.le_of_ble_eq_true rfl⟩ ⟨Nat.le_of_ble_eq_true rfl, Nat.le_of_ble_eq_true rfl⟩ rfl rfl (Nat.le_of_ble_eq_true rfl) dX1_byStaying_38 ?_
    refine br_iadd dX1_byStaying_41 ?_
    exact br_ireturn dX1_byStaying_42 (by decide) (by decide) (hret _ _ (bk_f (by rw [m48_le (by omega)]; unfold hOne; rw [oneIf_0 (by omega)])))
  · refine br_iconst dX1_byStaying_28 ?_
    refine br_goto (tgt := 33) dX1_byStaying_29 (by decide) ?_
    refine br_aload_0 dX1_byStaying_33 ?_
    refine br_iload_1 dX1_byStaying_34 ?_
    refine br_iconst dX1_byStaying_35 ?_
    refine br_iadd dX1_byStaying_36 ?_
    refine br_iload_2 dX1_byStaying_37 ?_
    refine br_VF2 (i := 0) (j := 0) (ct_x_helpsFrom (by omega) (by omega)) lk_X1_215 ⟨Nat.le_of_ble_eq_true rfl, Nat.le_of_ble_eq_true rfl⟩ ⟨Nat.le_of_ble_eq_true rfl, Nat.le_of_ble_eq_true rfl⟩ rfl rfl (Nat.le_of_ble_eq_true rfl) dX1_byStaying_38 ?_
    refine br_iadd dX1_byStaying_41 ?_
    exact br_ireturn dX1_byStaying_42 (by decide) (by decide) (hret _ _ (bk_f (by rw [m48_le (by omega)]; unfold hOne; rw [oneIf_1 (by omega)])))

theorem ct_x_stays {D : bk_D} {o : Nat} {a b sa pa : Nat → Nat} {F : Nat → Int} {G : Nat → Int → Int} {bk : Int → Option Nat} {r : Int → Int} {P : Nat → Int} {du : Int → Int} {hb : Nat → Option (Nat × bE)} {ex : gC} {t p : Int} (ht : 0 ≤ t ∧ t < 48) (hp : 0 ≤ p ∧ p < 3) (hR : RW r) (hL : laidV r (F 6) (G 2)) (hb5 : ∀ u : Int, 0 ≤ u → u ≤ 48 → 0 ≤ hx (G 5) p u ∧ hx (G 5) p u ≤ 100) : bk_K D yX1_stays (.code yX1_stays cX1_stays 3 (some (FieldType.boolean))) ({ frames := 3, cells := 0, slots := 0, locals := 66 }) [.ref o, .int (iI t), .int (iI p)] (xw o a F G bk b sa pa r P du hb ex) (bk_pz (stS r (hx (G 5)) p t) (xw o a F G bk b sa pa r P du hb ex)) bk_nox := by
  refine bk_ofV (own := "BreakSetter") (L0 := [some (.ref o), some (.int (iI t)), some (.int (iI p))]) (by decide) rfl (Nat.le_of_ble_eq_true rfl) rfl bk_ozz (fun Γ hct hret hthr => ?_)
  have h5a := hb5 t (by omega) (by omega)
  have h5b := hb5 (t + 1) (by omega) (by omega)
  have ho := hOne_bd r p t
  have hm := m48_le (t := t) (by omega)
  refine br_iload_1 dX1_stays_0 ?_
  refine br_bipush dX1_stays_1 (by decide) ?_
  refine br_icmp_ge (tgt := 21) dX1_stays_3 (by decide) (by omega) (fun q => absurd q (by omega)) (fun c3 => ?_)
  refine br_aload_0 dX1_stays_6 ?_
  refine br_iload_1 dX1_stays_7 ?_
  refine br_iload_2 dX1_stays_8 ?_
  refine br_VF2 (i := 0) (j := 0) (ct_x_byStaying (by omega) (by omega) hR hL) lk_X1_218 ⟨Nat.le_of_ble_eq_true rfl, Nat.le_of_ble_eq_true rfl⟩ ⟨Nat.le_of_ble_eq_true rfl, Nat.le_of_ble_eq_true rfl⟩ rfl rfl (Nat.le_of_ble_eq_true rfl) dX1_stays_9 ?_
  refine br_aload_0 dX1_stays_12 ?_
  refine br_iload_1 dX1_stays_13 ?_
  refine br_iload_2 dX1_stays_14 ?_
  refine br_VF2 (i := 0) (j := 0) (ct_x_helpsFrom (by omega) (by omega)) lk_X1_215 ⟨Nat.le_of_ble_eq_true rfl, Nat.le_of_ble_eq_true rfl⟩ ⟨Nat.le_of_ble_eq_true rfl, Nat.le_of_ble_eq_true rfl⟩ rfl rfl (Nat.le_of_ble_eq_true rfl) dX1_stays_15 ?_
  refine br_topi (y := hx (G 5) p t) (by rw [hm]) ?_
  refine br_icmp_ne (tgt := 25) dX1_stays_18 (by decide) (by omega) (fun c18 => ?_) (fun c18 => ?_)
  · refine br_iconst dX1_stays_25 ?_
    exact br_ireturn dX1_stays_26 (by decide) (by decide) (hret _ _ (bk_z0 (by unfold stS; omega)))
  · refine br_iconst dX1_stays_21 ?_
    refine br_goto (tgt := 26) dX1_stays_22 (by decide) ?_
    exact br_ireturn dX1_stays_26 (by decide) (by decide) (hret _ _ (bk_z1 (by unfold stS; omega)))

theorem ct_x_laysHelps {D : bk_D} {o : Nat} {a b sa pa : Nat → Nat} {F : Nat → Int} {G : Nat → Int → Int} {bk : Int → Option Nat} {r : Int → Int} {P : Nat → Int} {du : Int → Int} {hb : Nat → Option (Nat × bE)} {ex : gC} (hR : RW r) (hpl : xPl r P du) (hA : atOK r G) : bk_K D yX1_laysHelps (.code yX1_laysHelps cX1_laysHelps 5 none) ({ frames := 4, cells := 0, slots := 0, locals := 100 }) [.ref o] (xw o a F G bk b sa pa r P du hb ex) (bk_pv fun w => ∃ (f6 : Int) (g2 g5 : Int → Int), w = (xw o a (uF F 6 f6) (uG (uG G 2 g2) 5 g5) bk b sa pa r P du hb ex) ∧ laidV r f6 g2 ∧ HT r (hx g5)) bk_nox := by
  refine bk_ofV (own := "BreakSetter") (L0 := [some (.ref o), none, none, none, none]) (by decide) rfl (Nat.le_of_ble_eq_true rfl) rfl bk_ov (fun Γ hct hret hthr => ?_)
  have hn := hR.n
  obtain ⟨⟨p0, p1, p2, p3⟩, hdu⟩ := id hpl
  refine br_aload_0 dX1_laysHelps_0 ?_
  refine br_Vv0 (i := 0) (j := 0) (ct_x_laysCover hR hpl hA) lk_X1_143 ⟨Nat.le_of_ble_eq_true rfl, Nat.le_of_ble_eq_true rfl⟩ ⟨Nat.le_of_ble_eq_true rfl, Nat.le_of_ble_eq_true rfl⟩ rfl rfl (Nat.le_of_ble_eq_true rfl) dX1_laysHelps_1 (fun w_ hw_ => ?_)
  obtain ⟨f1, g1, rfl, hL1⟩ := hw_
  refine br_iconst dX1_laysHelps_4 ?_
  refine br_istore_1 dX1_laysHelps_5 rfl ?_
  refine bk_V.world (w' := (xw o a (uF F 6 f1) (uG (uG G 2 g1) 5 (G 5)) bk b sa pa r P du hb ex)) (congrArg (fun G9 => (xw o a (uF F 6 f1) G9 bk b sa pa r P du hb ex)) (by rw [show uG (uG G 2 g1) 5 (G 5) = uG G 2 g1 from (uG_same rfl).symm])) ?_
  have lp6 : ∀ (mm6 : Nat) (g : Int → Int) (p : Int), (3 - p).toNat < mm6 → (0 ≤ p ∧ p ≤ 3) → (∀ y : Int, 0 ≤ y → y < p → hx g y 48 = 0) → bk_V Γ D ({ frames := 4, cells := 0, slots := 0, locals := 100 }) "BreakSetter" cX1_laysHelps [] 0 0 (xw o a (uF F 6 f1) (uG (uG G 2 g1) 5 g) bk b sa pa r P du hb ex) [some (.ref o), some (.int (iI p)), none, none, none] [] 6 := by
    intro mm6
    induction mm6 with
    | zero => intro g p hm6; exact absurd hm6 (Nat.not_lt_zero _)
    | succ mm6 ih6 =>
      intro g p hm6 h1 h2
      refine br_iload_1 dX1_laysHelps_6 ?_
      refine br_iconst dX1_laysHelps_7 ?_
      refine br_icmp_ge (tgt := 28) dX1_laysHelps_8 (by decide) (by omega) (fun c8 => ?_) (fun c8 => ?_)
      · refine br_bipush dX1_laysHelps_28 (by decide) ?_
        refine br_istore_1 dX1_laysHelps_30 rfl ?_
        have lp31 : ∀ (mm31 : Nat) (g : Int → Int) (t : Int), (t + 1).toNat < mm31 → (-1 ≤ t ∧ t ≤ 47) → (HTf r (hx g) (t + 1)) → bk_V Γ D ({ frames := 4, cells := 0, slots := 0, locals := 100 }) "BreakSetter" cX1_laysHelps [] 0 0 (xw o a (uF F 6 f1) (uG (uG G 2 g1) 5 g) bk b sa pa r P du hb ex) [some (.ref o), some (.int (iI t)), none, none, none] [] 31 := by
          intro mm31
          induction mm31 with
          | zero => intro g t hm31; exact absurd hm31 (Nat.not_lt_zero _)
          | succ mm31 ih31 =>
            intro g t hm31 h1 h2
            refine br_iload_1 dX1_laysHelps_31 ?_
            refine br_if_lt (tgt := 125) dX1_laysHelps_32 (by decide) (by omega) (fun c32 => ?_) (fun c32 => ?_)
            · exact br_return dX1_laysHelps_125 (by decide) (by decide) (hret _ _ (⟨rfl, f1, g1, g, rfl, hL1, by rw [show t + 1 = 0 by omega] at h2; exact h2⟩))
            · refine br_iconst dX1_laysHelps_35 ?_
              refine br_istore_2 dX1_laysHelps_36 rfl ?_
              have lp37 : ∀ (mm37 : Nat) (g : Int → Int) (p : Int), (r 0 - p).toNat < mm37 → (0 ≤ p ∧ p ≤ r 0) → (HTf r (hx g) (t + 1)) → (∀ y : Int, 0 ≤ y → y < p → hx g y t = mxS r (hx g) y t (r 0).toNat) → bk_V Γ D ({ frames := 4, cells := 0, slots := 0, locals := 100 }) "BreakSetter" cX1_laysHelps [] 0 0 (xw o a (uF F 6 f1) (uG (uG G 2 g1) 5 g) bk b sa pa r P du hb ex) [some (.ref o), some (.int (iI t)), some (.int (iI p)), none, none] [] 37 := by
                intro mm37
                induction mm37 with
                | zero => intro g p hm37; exact absurd hm37 (Nat.not_lt_zero _)
                | succ mm37 ih37 =>
                  intro g p hm37 g1_ g2 g3
                  refine br_iload_2 dX1_laysHelps_37 ?_
                  refine br_aload_0 dX1_laysHelps_38 ?_
                  refine br_xg_X1_16 dX1_laysHelps_39 ?_
                  refine br_xg_X1_60 (v := P 0) rfl dX1_laysHelps_42 ?_
                  refine br_icmp_ge (tgt := 119) dX1_laysHelps_45 (by decide) (by omega) (fun c45 => ?_) (fun c45 => ?_)
                  · refine br_iinc_1 dX1_laysHelps_119 rfl ?_
                    refine br_goto (tgt := 31) dX1_laysHelps_122 (by decide) ?_
                    refine br_fg_2 ?_
                    exact ih31 _ _ (by omega) (by omega) (by rw [show t + -1 + 1 = t by omega]; exact HTf.step g2 (fun y q1 q2 => g3 y q1 (by omega)))
                  · refine br_aload_0 dX1_laysHelps_48 ?_
                    refine br_iload_1 dX1_laysHelps_49 ?_
                    refine br_iload_2 dX1_laysHelps_50 ?_
                    refine br_VF2 (i := 0) (j := 0) (ct_x_byStaying (by omega) (by omega) hR hL1) lk_X1_218 ⟨Nat.le_of_ble_eq_true rfl, Nat.le_of_ble_eq_true rfl⟩ ⟨Nat.le_of_ble_eq_true rfl, Nat.le_of_ble_eq_true rfl⟩ rfl rfl (Nat.le_of_ble_eq_true rfl) dX1_laysHelps_51 ?_
                    refine br_topi (y := hOne r p t + hx g p (t + 1)) rfl ?_
                    refine br_istore_3 dX1_laysHelps_54 rfl ?_
                    refine br_iconst dX1_laysHelps_55 ?_
                    refine br_istore_4 dX1_laysHelps_56 rfl ?_
                    have lp58 : ∀ (mm58 : Nat) (v : Int) (q : Int), (r 0 - q).toNat < mm58 → (0 ≤ q ∧ q ≤ r 0) → (v = mxS r (hx g) p t q.toNat) → bk_V Γ D ({ frames := 4, cells := 0, slots := 0, locals := 100 }) "BreakSetter" cX1_laysHelps [] 0 0 (xw o a (uF F 6 f1) (uG (uG G 2 g1) 5 g) bk b sa pa r P du hb ex) [some (.ref o), some (.int (iI t)), some (.int (iI p)), some (.int (iI v)), some (.int (iI q))] [] 58 := by
                      intro mm58
                      induction mm58 with
                      | zero => intro v q hm58; exact absurd hm58 (Nat.not_lt_zero _)
                      | succ mm58 ih58 =>
                        intro v q hm58 k1 k2
                        have k3 := mxS_bd hR (t := t) (p := p) (by omega) g2 (by omega) q.toNat (by omega)
                        rw [← k2] at k3
                        refine br_iload_4 dX1_laysHelps_58 ?_
                        refine br_aload_0 dX1_laysHelps_60 ?_
                        refine br_xg_X1_16 dX1_laysHelps_61 ?_
                        refine br_xg_X1_60 (v := P 0) rfl dX1_laysHelps_64 ?_
                        refine br_icmp_ge (tgt := 102) dX1_laysHelps_67 (by decide) (by omega) (fun c67 => ?_) (fun c67 => ?_)
                        · refine br_aload_0 dX1_laysHelps_102 ?_
                          refine br_xg_X1_38 dX1_laysHelps_103 ?_
                          refine br_iconst dX1_laysHelps_106 ?_
                          refine br_iload_1 dX1_laysHelps_107 ?_
                          refine br_imul dX1_laysHelps_108 ?_
                          refine br_iload_2 dX1_laysHelps_109 ?_
                          refine br_iadd dX1_laysHelps_110 ?_
                          refine br_iload_3 dX1_laysHelps_111 ?_
                          refine br_xs_5 (by omega) dX1_laysHelps_112 ?_
                          refine bk_V.world (w' := (xw o a (uF F 6 f1) (uG (uG G 2 g1) 5 (uI g ((3 * t) + p) v)) bk b sa pa r P du hb ex)) (congrArg (fun G9 => (xw o a (uF F 6 f1) G9 bk b sa pa r P du hb ex)) (uG_uG _ _ _ _)) ?_
                          refine br_iinc_2 dX1_laysHelps_113 rfl ?_
                          refine br_goto (tgt := 37) dX1_laysHelps_116 (by decide) ?_
                          refine br_fg_3 ?_
                          refine br_fg_4 ?_
                          have hput := HT_putx hR (t := t) (p := p) (v := v) (by omega) (by omega) g2 g3 (by rw [k2, show q = r 0 by omega])
                          exact ih37 _ _ (by omega) (by omega) hput.1 hput.2
                        · refine br_iload_4 dX1_laysHelps_70 ?_
                          refine br_iload_2 dX1_laysHelps_72 ?_
                          refine br_icmp_eq (tgt := 96) dX1_laysHelps_73 (by decide) (by omega) (fun c73 => ?_) (fun c73 => ?_)
                          · refine br_iinc_4 dX1_laysHelps_96 rfl ?_
                            refine br_goto (tgt := 58) dX1_laysHelps_99 (by decide) ?_
                            exact ih58 _ _ (by omega) (by omega) (by first | exact mxS_no k1.1 k2 (fun z => by omega) | (rw [p1]; exact mxS_upx hR (by omega) (by omega) (by omega) g2 k2 (by omega)))
                          · have k4 : 0 ≤ hx g q (m48 (t + P 1)) ∧ hx g q (m48 (t + P 1)) ≤ 48 := by
                              have hm : m48 (t + P 1) = (if t + P 1 < 48 then t + P 1 else 48) := rfl
                              have := HTf_bd' hR (by omega) g2 (p := q) (t := m48 (t + P 1)) (by rw [hm]; split <;> omega) (by omega)
                              have : 0 ≤ m48 (t + P 1) := by rw [hm]; split <;> omega
                              omega
                            refine br_iload_3 dX1_laysHelps_76 ?_
                            refine br_aload_0 dX1_laysHelps_77 ?_
                            refine br_iload_1 dX1_laysHelps_78 ?_
                            refine br_aload_0 dX1_laysHelps_79 ?_
                            refine br_xg_X1_16 dX1_laysHelps_80 ?_
                            refine br_xg_X1_146 (v := P 1) rfl dX1_laysHelps_83 ?_
                            refine br_iadd dX1_laysHelps_86 ?_
                            refine br_iload_4 dX1_laysHelps_87 ?_
                            refine br_VF2 (i := 0) (j := 0) (ct_x_helpsFrom (by omega) (by omega)) lk_X1_215 ⟨Nat.le_of_ble_eq_true rfl, Nat.le_of_ble_eq_true rfl⟩ ⟨Nat.le_of_ble_eq_true rfl, Nat.le_of_ble_eq_true rfl⟩ rfl rfl (Nat.le_of_ble_eq_true rfl) dX1_laysHelps_89 ?_
                            refine br_topi (y := hx g q (m48 (t + (P 1)))) rfl ?_
                            refine br_max q254 q255 q100 q256 ⟨Nat.le_of_ble_eq_true rfl, Nat.le_of_ble_eq_true rfl⟩ ⟨Nat.le_of_ble_eq_true rfl, Nat.le_of_ble_eq_true rfl⟩ (by omega) (by omega) (Nat.le_of_ble_eq_true rfl) dX1_laysHelps_92 ?_
                            refine br_istore_3 dX1_laysHelps_95 rfl ?_
                            refine br_iinc_4 dX1_laysHelps_96 rfl ?_
                            refine br_goto (tgt := 58) dX1_laysHelps_99 (by decide) ?_
                            exact ih58 _ _ (by omega) (by omega) (by first | exact mxS_no k1.1 k2 (fun z => by omega) | (rw [p1]; exact mxS_upx hR (by omega) (by omega) (by omega) g2 k2 (by omega)))
                    exact lp58 _ _ _ (Nat.lt_succ_self _) (by omega) rfl
              exact lp37 _ _ _ (Nat.lt_succ_self _) (by omega) h2 (fun y _ _ => by omega)
        exact lp31 _ _ _ (Nat.lt_succ_self _) (by omega) ⟨fun y q1 q2 => h2 y q1 (by omega), fun t p q1 q2 => by omega⟩
      · refine br_aload_0 dX1_laysHelps_11 ?_
        refine br_xg_X1_38 dX1_laysHelps_12 ?_
        refine br_sipush dX1_laysHelps_15 (by decide) ?_
        refine br_iload_1 dX1_laysHelps_18 ?_
        refine br_iadd dX1_laysHelps_19 ?_
        refine br_iconst dX1_laysHelps_20 ?_
        refine br_xs_5 (by omega) dX1_laysHelps_21 ?_
        refine bk_V.world (w' := (xw o a (uF F 6 f1) (uG (uG G 2 g1) 5 (uI g (144 + p) 0)) bk b sa pa r P du hb ex)) (congrArg (fun G9 => (xw o a (uF F 6 f1) G9 bk b sa pa r P du hb ex)) (uG_uG _ _ _ _)) ?_
        refine br_iinc_1 dX1_laysHelps_22 rfl ?_
        refine br_goto (tgt := 6) dX1_laysHelps_25 (by decide) ?_
        exact ih6 _ _ (by omega) (by omega) (fun y q1 q2 => by
  by_cases e : y = p
  · subst e; exact uI_eq _ _ _
  · show uI g (144 + p) 0 (3 * 48 + y) = 0
    rw [uI_ne _ _ (by omega)]; exact h2 y q1 (by omega))
  exact lp6 _ _ _ (Nat.lt_succ_self _) (by omega) (fun y _ _ => by omega)

theorem ct_x_relief {D : bk_D} {o : Nat} {a b sa pa : Nat → Nat} {F : Nat → Int} {G : Nat → Int → Int} {bk : Int → Option Nat} {r : Int → Int} {P : Nat → Int} {du : Int → Int} {hb : Nat → Option (Nat × bE)} {ex : gC} {p t : Int} (hp : -2147483648 ≤ p ∧ p < 2147483648) (ht : -2147483648 ≤ t ∧ t < 2147483648) (hR : RW r) (hpl : xPl r P du) (hA : atOK r G) : bk_K D yX1_relief (.code yX1_relief cX1_relief 6 (some (FieldType.int))) ({ frames := 5, cells := 0, slots := 0, locals := 124 }) [.ref o, .int (iI p), .int (iI t)] (xw o a F G bk b sa pa r P du hb ex) (bk_pi fun v w => reliefQ r p t v ∧ ∃ (f6 : Int) (g2 g5 : Int → Int), w = (xw o a (uF F 6 f6) (uG (uG G 2 g2) 5 g5) bk b sa pa r P du hb ex)) bk_nox := by
  refine bk_ofV (own := "BreakSetter") (L0 := [some (.ref o), some (.int (iI p)), some (.int (iI t)), none, none, none]) (by decide) rfl (Nat.le_of_ble_eq_true rfl) rfl bk_oi (fun Γ hct hret hthr => ?_)
  have hn := hR.n
  obtain ⟨⟨p0, p1, p2, p3⟩, hdu⟩ := id hpl
  refine br_aload_0 dX1_relief_0 ?_
  refine br_iload_1 dX1_relief_1 ?_
  refine br_VZ1 (i := 0) (j := 0) (ct_x_isPost (by omega) hR hpl hA) lk_X1_169 ⟨Nat.le_of_ble_eq_true rfl, Nat.le_of_ble_eq_true rfl⟩ ⟨Nat.le_of_ble_eq_true rfl, Nat.le_of_ble_eq_true rfl⟩ rfl rfl (Nat.le_of_ble_eq_true rfl) dX1_relief_2 (fun c2 => ?_) (fun c2 => ?_)
  · refine br_if_eq (tgt := 20) dX1_relief_5 (by decide) (by decide) (fun q => absurd q (by decide)) (fun _ => ?_)
    refine br_iload_2 dX1_relief_8 ?_
    refine br_iconst dX1_relief_9 ?_
    refine br_icmp_eq (tgt := 22) dX1_relief_10 (by decide) (by omega) (fun c10 => ?_) (fun c10 => ?_)
    · refine br_aload_0 dX1_relief_22 ?_
      refine br_Vv0 (i := 0) (j := 0) (ct_x_laysHelps hR hpl hA) lk_X1_221 ⟨Nat.le_of_ble_eq_true rfl, Nat.le_of_ble_eq_true rfl⟩ ⟨Nat.le_of_ble_eq_true rfl, Nat.le_of_ble_eq_true rfl⟩ rfl rfl (Nat.le_of_ble_eq_true rfl) dX1_relief_23 (fun w_ hw_ => ?_)
      obtain ⟨f23, g23, h23, rfl, hL23, hT⟩ := hw_
      refine br_iload_2 dX1_relief_26 ?_
      refine br_iconst dX1_relief_27 ?_
      refine br_icmp_ne (tgt := 38) dX1_relief_28 (by decide) (by omega) (fun c28 => ?_) (fun c28 => ?_)
      · refine br_iload_1 dX1_relief_38 ?_
        refine br_istore_3 dX1_relief_39 rfl ?_
        refine br_iconst dX1_relief_40 ?_
        refine br_istore_4 dX1_relief_41 rfl ?_
        have lp43 : ∀ (mm43 : Nat) (y : Int) (u : Int), (48 - u).toNat < mm43 → ((0 ≤ y ∧ y < r 0) ∧ 0 ≤ u ∧ u ≤ 48) → (∀ v : Int, (∃ n : Nat, wayR r (hx h23) t v n y u) → ∃ n : Nat, wayR r (hx h23) t v n p 0) → bk_V Γ D ({ frames := 5, cells := 0, slots := 0, locals := 124 }) "BreakSetter" cX1_relief [] 0 0 (xw o a (uF F 6 f23) (uG (uG G 2 g23) 5 h23) bk b sa pa r P du hb ex) [some (.ref o), some (.int (iI p)), some (.int (iI t)), some (.int (iI y)), some (.int (iI u)), none] [] 43 := by
          intro mm43
          induction mm43 with
          | zero => intro y u hm43; exact absurd hm43 (Nat.not_lt_zero _)
          | succ mm43 ih43 =>
            intro y u hm43 h1 h2
            refine br_iload_4 dX1_relief_43 ?_
            refine br_iload_2 dX1_relief_45 ?_
            refine br_icmp_gt (tgt := 160) dX1_relief_46 (by decide) (by omega) (fun c46 => ?_) (fun c46 => ?_)
            · refine br_iload_3 dX1_relief_160 ?_
              exact br_ireturn dX1_relief_161 (by decide) (by decide) (hret _ _ (⟨_, rfl, Or.inr ⟨by omega, hx h23, hT, Or.inr ⟨by omega, h2 _ ⟨1, Or.inl ⟨by omega, rfl⟩⟩⟩⟩, f23, g23, h23, rfl⟩))
            · refine br_aload_0 dX1_relief_49 ?_
              refine br_iload_4 dX1_relief_50 ?_
              refine br_iload_3 dX1_relief_52 ?_
              refine br_VZ2 (i := 0) (j := 0) (ct_x_stays (t := u) (p := y) (F := uF F 6 f23) (G := uG (uG G 2 g23) 5 h23) (by omega) (by omega) hR hL23 (fun u q1 q2 => by have := HTf_bd' hR (by omega) hT (p := y) (t := u) ⟨q1, q2⟩ (by omega); show 0 ≤ hx h23 y u ∧ hx h23 y u ≤ 100; omega)) lk_X1_224 ⟨Nat.le_of_ble_eq_true rfl, Nat.le_of_ble_eq_true rfl⟩ ⟨Nat.le_of_ble_eq_true rfl, Nat.le_of_ble_eq_true rfl⟩ rfl rfl (Nat.le_of_ble_eq_true rfl) dX1_relief_53 (fun c53 => ?_) (fun c53 => ?_)
              · refine br_if_eq (tgt := 65) dX1_relief_56 (by decide) (by decide) (fun q => absurd q (by decide)) (fun _ => ?_)
                refine br_iinc_4 dX1_relief_59 rfl ?_
                refine br_goto (tgt := 43) dX1_relief_62 (by decide) ?_
                exact ih43 _ _ (by omega) (by omega) (by first | exact fun v ⟨n, h⟩ => h2 v ⟨n + 1, Or.inr (Or.inl ⟨by omega, c53, h⟩)⟩ | (rw [p1]; exact fun v ⟨n, h⟩ => h2 v ⟨n + 1, Or.inr (Or.inr (Or.inr ⟨by omega, c53, by omega, _, ⟨by omega, hgd, k2⟩, h⟩))⟩))
              · refine br_if_eq (tgt := 65) dX1_relief_56 (by decide) (by decide) (fun _ => ?_) (fun q => absurd q (by decide))
                refine br_iconst dX1_relief_65 ?_
                refine br_istore_5 dX1_relief_66 rfl ?_
                obtain ⟨q0, hq0, hg0⟩ := walk_q hR hT (by omega) h1.1 c53
                have hwi := (walk_in hR hT (by omega) h1.1 c53).1
                have lp68 : ∀ (mm68 : Nat) (q : Int), (3 - q).toNat < mm68 → (0 ≤ q) → (∀ x : Int, 0 ≤ x → x < q → ¬ goodQ r (hx h23) y u x) → bk_V Γ D ({ frames := 5, cells := 0, slots := 0, locals := 124 }) "BreakSetter" cX1_relief [] 0 0 (xw o a (uF F 6 f23) (uG (uG G 2 g23) 5 h23) bk b sa pa r P du hb ex) [some (.ref o), some (.int (iI p)), some (.int (iI t)), some (.int (iI y)), some (.int (iI u)), some (.int (iI q))] [] 68 := by
                  intro mm68
                  induction mm68 with
                  | zero => intro q hm68; exact absurd hm68 (Nat.not_lt_zero _)
                  | succ mm68 ih68 =>
                    intro q hm68 k1 k2
                    have k3 : q ≤ q0 := by
                      by_cases c : q0 < q
                      · exact absurd hg0 (k2 q0 hq0.1 c)
                      · omega
                    have k4 := HTf_bd' hR (by omega) hT (p := q) (t := u + r 1) (by omega) (by omega)
                    have k5 := HTf_bd' hR (by omega) hT (p := y) (t := u) (by omega) (by omega)
                    have hm1 := m48_le (t := u + P 1) (by omega)
                    have hm2 := m48_le (t := u) (by omega)
                    have e41 : hx h23 q (m48 (u + P 1)) = hx h23 q (u + r 1) := by rw [hm1, p1]
                    have e42 : hx h23 y (m48 u) = hx h23 y u := by rw [hm2]
                    refine br_iload_5 dX1_relief_68 ?_
                    refine br_iload_3 dX1_relief_70 ?_
                    refine br_icmp_eq (tgt := 119) dX1_relief_71 (by decide) (by omega) (fun c71 => ?_) (fun c71 => ?_)
                    · refine br_iinc_5 dX1_relief_119 rfl ?_
                      refine br_goto (tgt := 68) dX1_relief_122 (by decide) ?_
                      have hbad : ¬ goodQ r (hx h23) y u q := fun z => by
                        first | exact absurd z.1 (by omega) | exact absurd z.2.1 (by omega) | (rw [p1] at c113; exact absurd z.2.2 c113)
                      exact ih68 _ (by omega) (by omega) (fun x q1 q2 => by
  by_cases e : x = q
  · subst e; exact hbad
  · exact k2 x q1 (by omega))
                    · refine br_aload_0 dX1_relief_74 ?_
                      refine br_iload_4 dX1_relief_75 ?_
                      refine br_aload_0 dX1_relief_77 ?_
                      refine br_xg_X1_16 dX1_relief_78 ?_
                      refine br_xg_X1_146 (v := P 1) rfl dX1_relief_81 ?_
                      refine br_iadd dX1_relief_84 ?_
                      refine br_iload_5 dX1_relief_85 ?_
                      refine br_VF2 (i := 0) (j := 0) (ct_x_helpsFrom (by omega) (by omega)) lk_X1_215 ⟨Nat.le_of_ble_eq_true rfl, Nat.le_of_ble_eq_true rfl⟩ ⟨Nat.le_of_ble_eq_true rfl, Nat.le_of_ble_eq_true rfl⟩ rfl rfl (Nat.le_of_ble_eq_true rfl) dX1_relief_87 ?_
                      refine br_topi (y := hx h23 q (m48 (u + (P 1)))) rfl ?_
                      refine br_aload_0 dX1_relief_90 ?_
                      refine br_iload_4 dX1_relief_91 ?_
                      refine br_iload_3 dX1_relief_93 ?_
                      refine br_VF2 (i := 0) (j := 0) (ct_x_helpsFrom (by omega) (by omega)) lk_X1_215 ⟨Nat.le_of_ble_eq_true rfl, Nat.le_of_ble_eq_true rfl⟩ ⟨Nat.le_of_ble_eq_true rfl, Nat.le_of_ble_eq_true rfl⟩ rfl rfl (Nat.le_of_ble_eq_true rfl) dX1_relief_94 ?_
                      refine br_topi (y := hx h23 y (m48 (u))) rfl ?_
                      refine br_icmp_ne (tgt := 119) dX1_relief_97 (by decide) (by omega) (fun c97 => ?_) (fun c97 => ?_)
                      · refine br_iinc_5 dX1_relief_119 rfl ?_
                        refine br_goto (tgt := 68) dX1_relief_122 (by decide) ?_
                        have hbad : ¬ goodQ r (hx h23) y u q := fun z => by
                          first | exact absurd z.1 (by omega) | exact absurd z.2.1 (by omega) | (rw [p1] at c113; exact absurd z.2.2 c113)
                        exact ih68 _ (by omega) (by omega) (fun x q1 q2 => by
  by_cases e : x = q
  · subst e; exact hbad
  · exact k2 x q1 (by omega))
                      · refine br_aload_0 dX1_relief_100 ?_
                        refine br_iload_4 dX1_relief_101 ?_
                        refine br_aload_0 dX1_relief_103 ?_
                        refine br_xg_X1_16 dX1_relief_104 ?_
                        refine br_xg_X1_146 (v := P 1) rfl dX1_relief_107 ?_
                        refine br_iadd dX1_relief_110 ?_
                        refine br_iload_5 dX1_relief_111 ?_
                        refine br_VZ2 (i := 0) (j := 0) (ct_x_stays (t := u + (P 1)) (p := q) (F := uF F 6 f23) (G := uG (uG G 2 g23) 5 h23) (by omega) (by omega) hR hL23 (fun u q1 q2 => by have := HTf_bd' hR (by omega) hT (p := q) (t := u) ⟨q1, q2⟩ (by omega); show 0 ≤ hx h23 q u ∧ hx h23 q u ≤ 100; omega)) lk_X1_224 ⟨Nat.le_of_ble_eq_true rfl, Nat.le_of_ble_eq_true rfl⟩ ⟨Nat.le_of_ble_eq_true rfl, Nat.le_of_ble_eq_true rfl⟩ rfl rfl (Nat.le_of_ble_eq_true rfl) dX1_relief_113 (fun c113 => ?_) (fun c113 => ?_)
                        · have hgd : goodQ r (hx h23) y u q := ⟨by omega, by omega, by rw [← p1]; exact c113⟩
                          refine br_if_ne (tgt := 125) dX1_relief_116 (by decide) (by decide) (fun _ => ?_) (fun q => absurd q (by decide))
                          refine br_iload_4 dX1_relief_125 ?_
                          refine br_aload_0 dX1_relief_127 ?_
                          refine br_xg_X1_16 dX1_relief_128 ?_
                          refine br_xg_X1_146 (v := P 1) rfl dX1_relief_131 ?_
                          refine br_iadd dX1_relief_134 ?_
                          refine br_iload_2 dX1_relief_135 ?_
                          refine br_icmp_le (tgt := 142) dX1_relief_136 (by decide) (by omega) (fun c136 => ?_) (fun c136 => ?_)
                          · refine br_iload_4 dX1_relief_142 ?_
                            refine br_aload_0 dX1_relief_144 ?_
                            refine br_xg_X1_16 dX1_relief_145 ?_
                            refine br_xg_X1_146 (v := P 1) rfl dX1_relief_148 ?_
                            refine br_iadd dX1_relief_151 ?_
                            refine br_istore_4 dX1_relief_152 rfl ?_
                            refine br_iload_5 dX1_relief_154 ?_
                            refine br_istore_3 dX1_relief_156 rfl ?_
                            refine br_goto (tgt := 43) dX1_relief_157 (by decide) ?_
                            refine br_fg_5 ?_
                            exact ih43 _ _ (by omega) (by omega) (by first | exact fun v ⟨n, h⟩ => h2 v ⟨n + 1, Or.inr (Or.inl ⟨by omega, c53, h⟩)⟩ | (rw [p1]; exact fun v ⟨n, h⟩ => h2 v ⟨n + 1, Or.inr (Or.inr (Or.inr ⟨by omega, c53, by omega, _, ⟨by omega, hgd, k2⟩, h⟩))⟩))
                          · refine br_bipush dX1_relief_139 (by decide) ?_
                            exact br_ireturn dX1_relief_141 (by decide) (by decide) (hret _ _ (⟨_, rfl, Or.inr ⟨by omega, hx h23, hT, Or.inr ⟨by omega, h2 _ ⟨1, Or.inr (Or.inr (Or.inl ⟨by omega, c53, by omega, rfl⟩))⟩⟩⟩, f23, g23, h23, rfl⟩))
                        · refine br_if_ne (tgt := 125) dX1_relief_116 (by decide) (by decide) (fun q => absurd q (by decide)) (fun _ => ?_)
                          refine br_iinc_5 dX1_relief_119 rfl ?_
                          refine br_goto (tgt := 68) dX1_relief_122 (by decide) ?_
                          have hbad : ¬ goodQ r (hx h23) y u q := fun z => by
                            first | exact absurd z.1 (by omega) | exact absurd z.2.1 (by omega) | (rw [p1] at c113; exact absurd z.2.2 c113)
                          exact ih68 _ (by omega) (by omega) (fun x q1 q2 => by
  by_cases e : x = q
  · subst e; exact hbad
  · exact k2 x q1 (by omega))
                exact lp68 _ _ (Nat.lt_succ_self _) (by omega) (fun x _ _ => by omega)
        exact lp43 _ _ _ (Nat.lt_succ_self _) (by omega) (fun v h => h)
      · refine br_aload_0 dX1_relief_31 ?_
        refine br_iconst dX1_relief_32 ?_
        refine br_iload_1 dX1_relief_33 ?_
        refine br_VF2 (i := 0) (j := 0) (ct_x_helpsFrom (by omega) (by omega)) lk_X1_215 ⟨Nat.le_of_ble_eq_true rfl, Nat.le_of_ble_eq_true rfl⟩ ⟨Nat.le_of_ble_eq_true rfl, Nat.le_of_ble_eq_true rfl⟩ rfl rfl (Nat.le_of_ble_eq_true rfl) dX1_relief_34 ?_
        refine br_topi (y := hx h23 p (m48 (0))) rfl ?_
        exact br_ireturn dX1_relief_37 (by decide) (by decide) (hret _ _ (⟨_, rfl, Or.inr ⟨by omega, hx h23, hT, Or.inl ⟨by omega, by rw [m48_le (by omega)]⟩⟩, f23, g23, h23, rfl⟩))
    · refine br_iload_2 dX1_relief_13 ?_
      refine br_SZ1 (ct_x_isSlot (by omega)) lk_X1_172 ⟨Nat.le_of_ble_eq_true rfl, Nat.le_of_ble_eq_true rfl⟩ ⟨Nat.le_of_ble_eq_true rfl, Nat.le_of_ble_eq_true rfl⟩  (Nat.le_of_ble_eq_true rfl) dX1_relief_14 (fun c14 => ?_) (fun c14 => ?_)
      · refine br_if_ne (tgt := 22) dX1_relief_17 (by decide) (by decide) (fun _ => ?_) (fun q => absurd q (by decide))
        refine br_aload_0 dX1_relief_22 ?_
        refine br_Vv0 (i := 0) (j := 0) (ct_x_laysHelps hR hpl hA) lk_X1_221 ⟨Nat.le_of_ble_eq_true rfl, Nat.le_of_ble_eq_true rfl⟩ ⟨Nat.le_of_ble_eq_true rfl, Nat.le_of_ble_eq_true rfl⟩ rfl rfl (Nat.le_of_ble_eq_true rfl) dX1_relief_23 (fun w_ hw_ => ?_)
        obtain ⟨f23, g23, h23, rfl, hL23, hT⟩ := hw_
        refine br_iload_2 dX1_relief_26 ?_
        refine br_iconst dX1_relief_27 ?_
        refine br_icmp_ne (tgt := 38) dX1_relief_28 (by decide) (by omega) (fun c28 => ?_) (fun c28 => ?_)
        · refine br_iload_1 dX1_relief_38 ?_
          refine br_istore_3 dX1_relief_39 rfl ?_
          refine br_iconst dX1_relief_40 ?_
          refine br_istore_4 dX1_relief_41 rfl ?_
          have lp43 : ∀ (mm43 : Nat) (y : Int) (u : Int), (48 - u).toNat < mm43 → ((0 ≤ y ∧ y < r 0) ∧ 0 ≤ u ∧ u ≤ 48) → (∀ v : Int, (∃ n : Nat, wayR r (hx h23) t v n y u) → ∃ n : Nat, wayR r (hx h23) t v n p 0) → bk_V Γ D ({ frames := 5, cells := 0, slots := 0, locals := 124 }) "BreakSetter" cX1_relief [] 0 0 (xw o a (uF F 6 f23) (uG (uG G 2 g23) 5 h23) bk b sa pa r P du hb ex) [some (.ref o), some (.int (iI p)), some (.int (iI t)), some (.int (iI y)), some (.int (iI u)), none] [] 43 := by
            intro mm43
            induction mm43 with
            | zero => intro y u hm43; exact absurd hm43 (Nat.not_lt_zero _)
            | succ mm43 ih43 =>
              intro y u hm43 h1 h2
              refine br_iload_4 dX1_relief_43 ?_
              refine br_iload_2 dX1_relief_45 ?_
              refine br_icmp_gt (tgt := 160) dX1_relief_46 (by decide) (by omega) (fun c46 => ?_) (fun c46 => ?_)
              · refine br_iload_3 dX1_relief_160 ?_
                exact br_ireturn dX1_relief_161 (by decide) (by decide) (hret _ _ (⟨_, rfl, Or.inr ⟨by omega, hx h23, hT, Or.inr ⟨by omega, h2 _ ⟨1, Or.inl ⟨by omega, rfl⟩⟩⟩⟩, f23, g23, h23, rfl⟩))
              · refine br_aload_0 dX1_relief_49 ?_
                refine br_iload_4 dX1_relief_50 ?_
                refine br_iload_3 dX1_relief_52 ?_
                refine br_VZ2 (i := 0) (j := 0) (ct_x_stays (t := u) (p := y) (F := uF F 6 f23) (G := uG (uG G 2 g23) 5 h23) (by omega) (by omega) hR hL23 (fun u q1 q2 => by have := HTf_bd' hR (by omega) hT (p := y) (t := u) ⟨q1, q2⟩ (by omega); show 0 ≤ hx h23 y u ∧ hx h23 y u ≤ 100; omega)) lk_X1_224 ⟨Nat.le_of_ble_eq_true rfl, Nat.le_of_ble_eq_true rfl⟩ ⟨Nat.le_of_ble_eq_true rfl, Nat.le_of_ble_eq_true rfl⟩ rfl rfl (Nat.le_of_ble_eq_true rfl) dX1_relief_53 (fun c53 => ?_) (fun c53 => ?_)
                · refine br_if_eq (tgt := 65) dX1_relief_56 (by decide) (by decide) (fun q => absurd q (by decide)) (fun _ => ?_)
                  refine br_iinc_4 dX1_relief_59 rfl ?_
                  refine br_goto (tgt := 43) dX1_relief_62 (by decide) ?_
                  exact ih43 _ _ (by omega) (by omega) (by first | exact fun v ⟨n, h⟩ => h2 v ⟨n + 1, Or.inr (Or.inl ⟨by omega, c53, h⟩)⟩ | (rw [p1]; exact fun v ⟨n, h⟩ => h2 v ⟨n + 1, Or.inr (Or.inr (Or.inr ⟨by omega, c53, by omega, _, ⟨by omega, hgd, k2⟩, h⟩))⟩))
                · refine br_if_eq (tgt := 65) dX1_relief_56 (by decide) (by decide) (fun _ => ?_) (fun q => absurd q (by decide))
                  refine br_iconst dX1_relief_65 ?_
                  refine br_istore_5 dX1_relief_66 rfl ?_
                  obtain ⟨q0, hq0, hg0⟩ := walk_q hR hT (by omega) h1.1 c53
                  have hwi := (walk_in hR hT (by omega) h1.1 c53).1
                  have lp68 : ∀ (mm68 : Nat) (q : Int), (3 - q).toNat < mm68 → (0 ≤ q) → (∀ x : Int, 0 ≤ x → x < q → ¬ goodQ r (hx h23) y u x) → bk_V Γ D ({ frames := 5, cells := 0, slots := 0, locals := 124 }) "BreakSetter" cX1_relief [] 0 0 (xw o a (uF F 6 f23) (uG (uG G 2 g23) 5 h23) bk b sa pa r P du hb ex) [some (.ref o), some (.int (iI p)), some (.int (iI t)), some (.int (iI y)), some (.int (iI u)), some (.int (iI q))] [] 68 := by
                    intro mm68
                    induction mm68 with
                    | zero => intro q hm68; exact absurd hm68 (Nat.not_lt_zero _)
                    | succ mm68 ih68 =>
                      intro q hm68 k1 k2
                      have k3 : q ≤ q0 := by
                        by_cases c : q0 < q
                        · exact absurd hg0 (k2 q0 hq0.1 c)
                        · omega
                      have k4 := HTf_bd' hR (by omega) hT (p := q) (t := u + r 1) (by omega) (by omega)
                      have k5 := HTf_bd' hR (by omega) hT (p := y) (t := u) (by omega) (by omega)
                      have hm1 := m48_le (t := u + P 1) (by omega)
                      have hm2 := m48_le (t := u) (by omega)
                      have e41 : hx h23 q (m48 (u + P 1)) = hx h23 q (u + r 1) := by rw [hm1, p1]
                      have e42 : hx h23 y (m48 u) = hx h23 y u := by rw [hm2]
                      refine br_iload_5 dX1_relief_68 ?_
                      refine br_iload_3 dX1_relief_70 ?_
                      refine br_icmp_eq (tgt := 119) dX1_relief_71 (by decide) (by omega) (fun c71 => ?_) (fun c71 => ?_)
                      · refine br_iinc_5 dX1_relief_119 rfl ?_
                        refine br_goto (tgt := 68) dX1_relief_122 (by decide) ?_
                        have hbad : ¬ goodQ r (hx h23) y u q := fun z => by
                          first | exact absurd z.1 (by omega) | exact absurd z.2.1 (by omega) | (rw [p1] at c113; exact absurd z.2.2 c113)
                        exact ih68 _ (by omega) (by omega) (fun x q1 q2 => by
  by_cases e : x = q
  · subst e; exact hbad
  · exact k2 x q1 (by omega))
                      · refine br_aload_0 dX1_relief_74 ?_
                        refine br_iload_4 dX1_relief_75 ?_
                        refine br_aload_0 dX1_relief_77 ?_
                        refine br_xg_X1_16 dX1_relief_78 ?_
                        refine br_xg_X1_146 (v := P 1) rfl dX1_relief_81 ?_
                        refine br_iadd dX1_relief_84 ?_
                        refine br_iload_5 dX1_relief_85 ?_
                        refine br_VF2 (i := 0) (j := 0) (ct_x_helpsFrom (by omega) (by omega)) lk_X1_215 ⟨Nat.le_of_ble_eq_true rfl, Nat.le_of_ble_eq_true rfl⟩ ⟨Nat.le_of_ble_eq_true rfl, Nat.le_of_ble_eq_true rfl⟩ rfl rfl (Nat.le_of_ble_eq_true rfl) dX1_relief_87 ?_
                        refine br_topi (y := hx h23 q (m48 (u + (P 1)))) rfl ?_
                        refine br_aload_0 dX1_relief_90 ?_
                        refine br_iload_4 dX1_relief_91 ?_
                        refine br_iload_3 dX1_relief_93 ?_
                        refine br_VF2 (i := 0) (j := 0) (ct_x_helpsFrom (by omega) (by omega)) lk_X1_215 ⟨Nat.le_of_ble_eq_true rfl, Nat.le_of_ble_eq_true rfl⟩ ⟨Nat.le_of_ble_eq_true rfl, Nat.le_of_ble_eq_true rfl⟩ rfl rfl (Nat.le_of_ble_eq_true rfl) dX1_relief_94 ?_
                        refine br_topi (y := hx h23 y (m48 (u))) rfl ?_
                        refine br_icmp_ne (tgt := 119) dX1_relief_97 (by decide) (by omega) (fun c97 => ?_) (fun c97 => ?_)
                        · refine br_iinc_5 dX1_relief_119 rfl ?_
                          refine br_goto (tgt := 68) dX1_relief_122 (by decide) ?_
                          have hbad : ¬ goodQ r (hx h23) y u q := fun z => by
                            first | exact absurd z.1 (by omega) | exact absurd z.2.1 (by omega) | (rw [p1] at c113; exact absurd z.2.2 c113)
                          exact ih68 _ (by omega) (by omega) (fun x q1 q2 => by
  by_cases e : x = q
  · subst e; exact hbad
  · exact k2 x q1 (by omega))
                        · refine br_aload_0 dX1_relief_100 ?_
                          refine br_iload_4 dX1_relief_101 ?_
                          refine br_aload_0 dX1_relief_103 ?_
                          refine br_xg_X1_16 dX1_relief_104 ?_
                          refine br_xg_X1_146 (v := P 1) rfl dX1_relief_107 ?_
                          refine br_iadd dX1_relief_110 ?_
                          refine br_iload_5 dX1_relief_111 ?_
                          refine br_VZ2 (i := 0) (j := 0) (ct_x_stays (t := u + (P 1)) (p := q) (F := uF F 6 f23) (G := uG (uG G 2 g23) 5 h23) (by omega) (by omega) hR hL23 (fun u q1 q2 => by have := HTf_bd' hR (by omega) hT (p := q) (t := u) ⟨q1, q2⟩ (by omega); show 0 ≤ hx h23 q u ∧ hx h23 q u ≤ 100; omega)) lk_X1_224 ⟨Nat.le_of_ble_eq_true rfl, Nat.le_of_ble_eq_true rfl⟩ ⟨Nat.le_of_ble_eq_true rfl, Nat.le_of_ble_eq_true rfl⟩ rfl rfl (Nat.le_of_ble_eq_true rfl) dX1_relief_113 (fun c113 => ?_) (fun c113 => ?_)
                          · have hgd : goodQ r (hx h23) y u q := ⟨by omega, by omega, by rw [← p1]; exact c113⟩
                            refine br_if_ne (tgt := 125) dX1_relief_116 (by decide) (by decide) (fun _ => ?_) (fun q => absurd q (by decide))
                            refine br_iload_4 dX1_relief_125 ?_
                            refine br_aload_0 dX1_relief_127 ?_
                            refine br_xg_X1_16 dX1_relief_128 ?_
                            refine br_xg_X1_146 (v := P 1) rfl dX1_relief_131 ?_
                            refine br_iadd dX1_relief_134 ?_
                            refine br_iload_2 dX1_relief_135 ?_
                            refine br_icmp_le (tgt := 142) dX1_relief_136 (by decide) (by omega) (fun c136 => ?_) (fun c136 => ?_)
                            · refine br_iload_4 dX1_relief_142 ?_
                              refine br_aload_0 dX1_relief_144 ?_
                              refine br_xg_X1_16 dX1_relief_145 ?_
                              refine br_xg_X1_146 (v := P 1) rfl dX1_relief_148 ?_
                              refine br_iadd dX1_relief_151 ?_
                              refine br_istore_4 dX1_relief_152 rfl ?_
                              refine br_iload_5 dX1_relief_154 ?_
                              refine br_istore_3 dX1_relief_156 rfl ?_
                              refine br_goto (tgt := 43) dX1_relief_157 (by decide) ?_
                              refine br_fg_5 ?_
                              exact ih43 _ _ (by omega) (by omega) (by first | exact fun v ⟨n, h⟩ => h2 v ⟨n + 1, Or.inr (Or.inl ⟨by omega, c53, h⟩)⟩ | (rw [p1]; exact fun v ⟨n, h⟩ => h2 v ⟨n + 1, Or.inr (Or.inr (Or.inr ⟨by omega, c53, by omega, _, ⟨by omega, hgd, k2⟩, h⟩))⟩))
                            · refine br_bipush dX1_relief_139 (by decide) ?_
                              exact br_ireturn dX1_relief_141 (by decide) (by decide) (hret _ _ (⟨_, rfl, Or.inr ⟨by omega, hx h23, hT, Or.inr ⟨by omega, h2 _ ⟨1, Or.inr (Or.inr (Or.inl ⟨by omega, c53, by omega, rfl⟩))⟩⟩⟩, f23, g23, h23, rfl⟩))
                          · refine br_if_ne (tgt := 125) dX1_relief_116 (by decide) (by decide) (fun q => absurd q (by decide)) (fun _ => ?_)
                            refine br_iinc_5 dX1_relief_119 rfl ?_
                            refine br_goto (tgt := 68) dX1_relief_122 (by decide) ?_
                            have hbad : ¬ goodQ r (hx h23) y u q := fun z => by
                              first | exact absurd z.1 (by omega) | exact absurd z.2.1 (by omega) | (rw [p1] at c113; exact absurd z.2.2 c113)
                            exact ih68 _ (by omega) (by omega) (fun x q1 q2 => by
  by_cases e : x = q
  · subst e; exact hbad
  · exact k2 x q1 (by omega))
                  exact lp68 _ _ (Nat.lt_succ_self _) (by omega) (fun x _ _ => by omega)
          exact lp43 _ _ _ (Nat.lt_succ_self _) (by omega) (fun v h => h)
        · refine br_aload_0 dX1_relief_31 ?_
          refine br_iconst dX1_relief_32 ?_
          refine br_iload_1 dX1_relief_33 ?_
          refine br_VF2 (i := 0) (j := 0) (ct_x_helpsFrom (by omega) (by omega)) lk_X1_215 ⟨Nat.le_of_ble_eq_true rfl, Nat.le_of_ble_eq_true rfl⟩ ⟨Nat.le_of_ble_eq_true rfl, Nat.le_of_ble_eq_true rfl⟩ rfl rfl (Nat.le_of_ble_eq_true rfl) dX1_relief_34 ?_
          refine br_topi (y := hx h23 p (m48 (0))) rfl ?_
          exact br_ireturn dX1_relief_37 (by decide) (by decide) (hret _ _ (⟨_, rfl, Or.inr ⟨by omega, hx h23, hT, Or.inl ⟨by omega, by rw [m48_le (by omega)]⟩⟩, f23, g23, h23, rfl⟩))
      · refine br_if_ne (tgt := 22) dX1_relief_17 (by decide) (by decide) (fun q => absurd q (by decide)) (fun _ => ?_)
        refine br_iconst dX1_relief_20 ?_
        exact br_ireturn dX1_relief_21 (by decide) (by decide) (hret _ _ (⟨_, rfl, Or.inl ⟨by omega, rfl⟩, F 6, G 2, G 5, by rw [uF_self, uG_self, uG_self]⟩))
  · refine br_if_eq (tgt := 20) dX1_relief_5 (by decide) (by decide) (fun _ => ?_) (fun q => absurd q (by decide))
    refine br_iconst dX1_relief_20 ?_
    exact br_ireturn dX1_relief_21 (by decide) (by decide) (hret _ _ (⟨_, rfl, Or.inl ⟨by omega, rfl⟩, F 6, G 2, G 5, by rw [uF_self, uG_self, uG_self]⟩))

