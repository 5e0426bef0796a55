/-! X: leaves -/
set_option maxRecDepth 100000
theorem ct_x_isIn {D : bk_D} {w : gC} {v x y : Int} (h : (-2147483648 ≤ v ∧ v < 2147483648) ∧ (-2147483648 ≤ x ∧ x < 2147483648) ∧ (-2147483648 ≤ y ∧ y < 2147483648)) : bk_K D yX1_isIn (.code yX1_isIn cX1_isIn 3 (some (FieldType.boolean))) ({ frames := 0, cells := 0, slots := 0, locals := 0 }) [.int (iI v), .int (iI x), .int (iI y)] w (bk_pz (x ≤ v ∧ v ≤ y) w) bk_nox := by
  refine bk_ofV (own := "BreakSetter") (L0 := [some (.int (iI v)), some (.int (iI x)), some (.int (iI y))]) (by decide) rfl (Nat.le_of_ble_eq_true rfl) rfl bk_ozz (fun Γ hct hret hthr => ?_)
  refine br_iload_0 dX1_isIn_0 ?_
  refine br_iload_1 dX1_isIn_1 ?_
  refine br_icmp_lt (tgt := 14) dX1_isIn_2 (by decide) (by omega) (fun c2 => ?_) (fun c2 => ?_)
  · refine br_iconst dX1_isIn_14 ?_
    exact br_ireturn dX1_isIn_15 (by decide) (by decide) (hret _ _ (bk_z0 (by omega)))
  · refine br_iload_0 dX1_isIn_5 ?_
    refine br_iload_2 dX1_isIn_6 ?_
    refine br_icmp_gt (tgt := 14) dX1_isIn_7 (by decide) (by omega) (fun c7 => ?_) (fun c7 => ?_)
    · refine br_iconst dX1_isIn_14 ?_
      exact br_ireturn dX1_isIn_15 (by decide) (by decide) (hret _ _ (bk_z0 (by omega)))
    · refine br_iconst dX1_isIn_10 ?_
      refine br_goto (tgt := 15) dX1_isIn_11 (by decide) ?_
      exact br_ireturn dX1_isIn_15 (by decide) (by decide) (hret _ _ (bk_z1 (by omega)))

theorem ct_x_isSlot {D : bk_D} {w : gC} {v : Int} (h : -2147483648 ≤ v ∧ v < 2147483648) : bk_K D yX1_isSlot (.code yX1_isSlot cX1_isSlot 1 (some (FieldType.boolean))) ({ frames := 1, cells := 0, slots := 0, locals := 22 }) [.int (iI v)] w (bk_pz (0 ≤ v ∧ v ≤ 47) w) bk_nox := by
  refine bk_ofV (own := "BreakSetter") (L0 := [some (.int (iI v))]) (by decide) rfl (Nat.le_of_ble_eq_true rfl) rfl bk_ozz (fun Γ hct hret hthr => ?_)
  refine br_iload_0 dX1_isSlot_0 ?_
  refine br_iconst dX1_isSlot_1 ?_
  refine br_bipush dX1_isSlot_2 (by decide) ?_
  refine br_SZ3 (ct_x_isIn (by omega)) lk_X1_63 ⟨Nat.le_of_ble_eq_true rfl, Nat.le_of_ble_eq_true rfl⟩ ⟨Nat.le_of_ble_eq_true rfl, Nat.le_of_ble_eq_true rfl⟩  (Nat.le_of_ble_eq_true rfl) dX1_isSlot_4 (fun c4 => ?_) (fun c4 => ?_)
  · exact br_ireturn dX1_isSlot_7 (by decide) (by decide) (hret _ _ (bk_z1 (by omega)))
  · exact br_ireturn dX1_isSlot_7 (by decide) (by decide) (hret _ _ (bk_z0 (by omega)))

theorem ct_x_isPost {D : bk_D} {o : Nat} {a b sa pa : Nat → Nat} {F : Nat → Int} {G : Nat → Int → Int} {bk : Int → Option Nat} {r : Int → Int} {P : Nat → Int} {du : Int → Int} {hb : Nat → Option (Nat × bE)} {ex : gC} {v : Int} (hv : -2147483648 ≤ v ∧ v < 2147483648) (hR : RW r) (hpl : xPl r P du) (hA : atOK r G) : bk_K D yX1_isPost (.code yX1_isPost cX1_isPost 2 (some (FieldType.boolean))) ({ frames := 1, cells := 0, slots := 0, locals := 22 }) [.ref o, .int (iI v)] (xw o a F G bk b sa pa r P du hb ex) (bk_pz (0 ≤ v ∧ v < r 0) (xw o a F G bk b sa pa r P du hb ex)) bk_nox := by
  refine bk_ofV (own := "BreakSetter") (L0 := [some (.ref o), some (.int (iI v))]) (by decide) rfl (Nat.le_of_ble_eq_true rfl) rfl bk_ozz (fun Γ hct hret hthr => ?_)
  have hn := hR.n
  obtain ⟨⟨p0, p1, p2, p3⟩, hdu⟩ := id hpl
  refine br_iload_1 dX1_isPost_0 ?_
  refine br_iconst dX1_isPost_1 ?_
  refine br_aload_0 dX1_isPost_2 ?_
  refine br_xg_X1_16 dX1_isPost_3 ?_
  refine br_xg_X1_60 (v := P 0) rfl dX1_isPost_6 ?_
  refine br_iconst dX1_isPost_9 ?_
  refine br_isub dX1_isPost_10 ?_
  refine br_SZ3 (ct_x_isIn (by omega)) lk_X1_63 ⟨Nat.le_of_ble_eq_true rfl, Nat.le_of_ble_eq_true rfl⟩ ⟨Nat.le_of_ble_eq_true rfl, Nat.le_of_ble_eq_true rfl⟩  (Nat.le_of_ble_eq_true rfl) dX1_isPost_11 (fun c11 => ?_) (fun c11 => ?_)
  · exact br_ireturn dX1_isPost_14 (by decide) (by decide) (hret _ _ (bk_z1 (by omega)))
  · exact br_ireturn dX1_isPost_14 (by decide) (by decide) (hret _ _ (bk_z0 (by omega)))

theorem ct_x_isPause {D : bk_D} {o : Nat} {a b sa pa : Nat → Nat} {F : Nat → Int} {G : Nat → Int → Int} {bk : Int → Option Nat} {r : Int → Int} {P : Nat → Int} {du : Int → Int} {hb : Nat → Option (Nat × bE)} {ex : gC} {v : Int} (hv : -2147483648 ≤ v ∧ v < 2147483648) (hR : RW r) (hpl : xPl r P du) (hA : atOK r G) : bk_K D yX1_isPause (.code yX1_isPause cX1_isPause 2 (some (FieldType.boolean))) ({ frames := 1, cells := 0, slots := 0, locals := 22 }) [.ref o, .int (iI v)] (xw o a F G bk b sa pa r P du hb ex) (bk_pz (0 ≤ v ∧ v < r 3) (xw o a F G bk b sa pa r P du hb ex)) bk_nox := by
  refine bk_ofV (own := "BreakSetter") (L0 := [some (.ref o), some (.int (iI v))]) (by decide) rfl (Nat.le_of_ble_eq_true rfl) rfl bk_ozz (fun Γ hct hret hthr => ?_)
  have hn := hR.n
  obtain ⟨⟨p0, p1, p2, p3⟩, hdu⟩ := id hpl
  refine br_iload_1 dX1_isPause_0 ?_
  refine br_iconst dX1_isPause_1 ?_
  refine br_aload_0 dX1_isPause_2 ?_
  refine br_xg_X1_16 dX1_isPause_3 ?_
  refine br_xg_X1_67 (v := P 3) rfl dX1_isPause_6 ?_
  refine br_iconst dX1_isPause_9 ?_
  refine br_isub dX1_isPause_10 ?_
  refine br_SZ3 (ct_x_isIn (by omega)) lk_X1_63 ⟨Nat.le_of_ble_eq_true rfl, Nat.le_of_ble_eq_true rfl⟩ ⟨Nat.le_of_ble_eq_true rfl, Nat.le_of_ble_eq_true rfl⟩  (Nat.le_of_ble_eq_true rfl) dX1_isPause_11 (fun c11 => ?_) (fun c11 => ?_)
  · exact br_ireturn dX1_isPause_14 (by decide) (by decide) (hret _ _ (bk_z1 (by omega)))
  · exact br_ireturn dX1_isPause_14 (by decide) (by decide) (hret _ _ (bk_z0 (by omega)))

theorem ct_x_shortOf {D : bk_D} {w : gC} {u v : Int} (h : -1000 ≤ u ∧ u ≤ 1000) (hv : -1000 ≤ v ∧ v ≤ 1000) : bk_K D yX1_shortOf (.code yX1_shortOf cX1_shortOf 2 (some (FieldType.int))) ({ frames := 1, cells := 0, slots := 0, locals := 21 }) [.int (iI u), .int (iI v)] w (bk_pf (pos0 (u - v)) w) bk_nox := by
  refine bk_ofV (own := "BreakSetter") (L0 := [some (.int (iI u)), some (.int (iI v))]) (by decide) rfl (Nat.le_of_ble_eq_true rfl) rfl bk_oi (fun Γ hct hret hthr => ?_)
  refine br_iconst dX1_shortOf_0 ?_
  refine br_iload_0 dX1_shortOf_1 ?_
  refine br_iload_1 dX1_shortOf_2 ?_
  refine br_isub dX1_shortOf_3 ?_
  refine br_max q254 q255 q100 q256 ⟨Nat.le_of_ble_eq_true rfl, Nat.le_of_ble_eq_true rfl⟩ ⟨Nat.le_of_ble_eq_true rfl, Nat.le_of_ble_eq_true rfl⟩ (by omega) (by omega) (Nat.le_of_ble_eq_true rfl) dX1_shortOf_4 ?_
  exact br_ireturn dX1_shortOf_7 (by decide) (by decide) (hret _ _ (bk_f (by unfold pos0; split <;> split <;> omega)))

theorem ct_x_touches {D : bk_D} {o : Nat} {a b sa pa : Nat → Nat} {F : Nat → Int} {G : Nat → Int → Int} {bk : Int → Option Nat} {r : Int → Int} {P : Nat → Int} {du : Int → Int} {hb : Nat → Option (Nat × bE)} {ex : gC} {z y u v : Int} (hz : 0 ≤ z ∧ z < P 3) (hy : 0 ≤ y ∧ y < P 3) (hu : -1000 ≤ u ∧ u ≤ 1000) (hv : -1000 ≤ v ∧ v ≤ 1000) (h1 : -1000 ≤ rLo r z ∧ rLo r z ≤ 1000) (h2 : -1000 ≤ rLo r y ∧ rLo r y ≤ 1000) : bk_K D yX7_touches (.code yX7_touches cX7_touches 4 (some (FieldType.boolean))) ({ frames := 0, cells := 0, slots := 0, locals := 0 }) [.ref (pa z.toNat), .int (iI u), .ref (pa y.toNat), .int (iI v)] (xw o a F G bk b sa pa r P du hb ex) (bk_pz (u ≤ v + rLo r y ∧ v ≤ u + rLo r z) (xw o a F G bk b sa pa r P du hb ex)) bk_nox := by
  refine bk_ofV (own := "BreakSetter$Pause") (L0 := [some (.ref (pa z.toNat)), some (.int (iI u)), some (.ref (pa y.toNat)), some (.int (iI v))]) (by decide) rfl (Nat.le_of_ble_eq_true rfl) rfl bk_ozz (fun Γ hct hret hthr => ?_)
  refine br_iload_1 dX7_touches_0 ?_
  refine br_iload_3 dX7_touches_1 ?_
  refine br_aload_2 dX7_touches_2 ?_
  refine br_xg_X7_13 (by omega) (v := rLo r y) rfl dX7_touches_3 ?_
  refine br_iadd dX7_touches_6 ?_
  refine br_icmp_gt (tgt := 24) dX7_touches_7 (by decide) (by omega) (fun c7 => ?_) (fun c7 => ?_)
  · refine br_iconst dX7_touches_24 ?_
    exact br_ireturn dX7_touches_25 (by decide) (by decide) (hret _ _ (bk_z0 (by omega)))
  · refine br_iload_3 dX7_touches_10 ?_
    refine br_iload_1 dX7_touches_11 ?_
    refine br_aload_0 dX7_touches_12 ?_
    refine br_xg_X7_13 (by omega) (v := rLo r z) rfl dX7_touches_13 ?_
    refine br_iadd dX7_touches_16 ?_
    refine br_icmp_gt (tgt := 24) dX7_touches_17 (by decide) (by omega) (fun c17 => ?_) (fun c17 => ?_)
    · refine br_iconst dX7_touches_24 ?_
      exact br_ireturn dX7_touches_25 (by decide) (by decide) (hret _ _ (bk_z0 (by omega)))
    · refine br_iconst dX7_touches_20 ?_
      refine br_goto (tgt := 25) dX7_touches_21 (by decide) ?_
      exact br_ireturn dX7_touches_25 (by decide) (by decide) (hret _ _ (bk_z1 (by omega)))

theorem ct_x_whyNot {D : bk_D} {o : Nat} {a b sa pa : Nat → Nat} {F : Nat → Int} {G : Nat → Int → Int} {bk : Int → Option Nat} {r : Int → Int} {P : Nat → Int} {du : Int → Int} {hb : Nat → Option (Nat × bE)} {ex : gC} {k0 t : Int} (hk : 0 ≤ k0 ∧ k0 < r 3) (ht : 0 ≤ t ∧ t < 48) (hR : RW r) (hpl : xPl r P du) (hA : atOK r G) : bk_K D yX1_whyNot (.code yX1_whyNot cX1_whyNot 5 (some (FieldType.int))) ({ frames := 1, cells := 0, slots := 0, locals := 23 }) [.ref o, .int (iI k0), .int (iI t)] (xw o a F G bk b sa pa r P du hb ex) (bk_pf (whyS r k0 t) (xw o a F G bk b sa pa r P du hb ex)) bk_nox := by
  refine bk_ofV (own := "BreakSetter") (L0 := [some (.ref o), some (.int (iI k0)), some (.int (iI t)), none, none]) (by decide) rfl (Nat.le_of_ble_eq_true rfl) rfl bk_oi (fun Γ hct hret hthr => ?_)
  have hn := hR.n
  obtain ⟨⟨p0, p1, p2, p3⟩, hdu⟩ := id hpl
  have hk1 := hR.pa2 hk
  have hk2 := hR.pa hk
  refine br_aload_0 dX1_whyNot_0 ?_
  refine br_xg_X1_16 dX1_whyNot_1 ?_
  refine br_xg_X1_98 dX1_whyNot_4 ?_
  refine br_iload_1 dX1_whyNot_7 ?_
  refine br_xl_pa (by omega) (by omega) dX1_whyNot_8 ?_
  refine br_astore_3 dX1_whyNot_9 rfl ?_
  refine br_iload_2 dX1_whyNot_10 ?_
  refine br_aload_3 dX1_whyNot_11 ?_
  refine br_xg_X1_118 (by omega) (v := rEa r k0) rfl dX1_whyNot_12 ?_
  refine br_aload_3 dX1_whyNot_15 ?_
  refine br_xg_X1_121 (by omega) (v := rLa r k0) rfl dX1_whyNot_16 ?_
  refine br_SZ3 (ct_x_isIn (by omega)) lk_X1_63 ⟨Nat.le_of_ble_eq_true rfl, Nat.le_of_ble_eq_true rfl⟩ ⟨Nat.le_of_ble_eq_true rfl, Nat.le_of_ble_eq_true rfl⟩  (Nat.le_of_ble_eq_true rfl) dX1_whyNot_19 (fun c19 => ?_) (fun c19 => ?_)
  · refine br_if_ne (tgt := 27) dX1_whyNot_22 (by decide) (by decide) (fun _ => ?_) (fun q => absurd q (by decide))
    refine br_iconst dX1_whyNot_27 ?_
    refine br_istore_4 dX1_whyNot_28 rfl ?_
    have lp30 : ∀ (mm30 : Nat) (x : Int), (r 3 - x).toNat < mm30 → (0 ≤ x ∧ x ≤ r 3) → (∀ z : Int, 0 ≤ z → z < x → ¬ clash r k0 t z) → bk_V Γ D ({ frames := 1, cells := 0, slots := 0, locals := 23 }) "BreakSetter" cX1_whyNot [] 0 0 (xw o a F G bk b sa pa r P du hb ex) [some (.ref o), some (.int (iI k0)), some (.int (iI t)), some (.ref (pa k0.toNat)), some (.int (iI x))] [] 30 := by
      intro mm30
      induction mm30 with
      | zero => intro x hm30; exact absurd hm30 (Nat.not_lt_zero _)
      | succ mm30 ih30 =>
        intro x hm30 h1 h2
        refine br_iload_4 dX1_whyNot_30 ?_
        refine br_aload_0 dX1_whyNot_32 ?_
        refine br_xg_X1_16 dX1_whyNot_33 ?_
        refine br_xg_X1_67 (v := P 3) rfl dX1_whyNot_36 ?_
        refine br_icmp_ge (tgt := 112) dX1_whyNot_39 (by decide) (by omega) (fun c39 => ?_) (fun c39 => ?_)
        · refine br_iconst dX1_whyNot_112 ?_
          exact br_ireturn dX1_whyNot_113 (by decide) (by decide) (hret _ _ (bk_f ((whyS_0 ⟨by assumption, fun z h3 h4 => h2 z h3 (by omega)⟩).symm)))
        · have hs := hR.pa2 (k := x) (by omega)
          have hs2 := hR.pa (k := x) (by omega)
          have hax := hA x (by omega) (by omega)
          refine br_iload_4 dX1_whyNot_42 ?_
          refine br_iload_1 dX1_whyNot_44 ?_
          refine br_icmp_eq (tgt := 106) dX1_whyNot_45 (by decide) (by omega) (fun c45 => ?_) (fun c45 => ?_)
          · refine br_iinc_4 dX1_whyNot_106 rfl ?_
            refine br_goto (tgt := 30) dX1_whyNot_109 (by decide) ?_
            exact ih30 _ (by omega) (by omega) (fun z hz1 hz2 => by
  by_cases e : z = x
  · subst e; unfold clash; omega
  · exact h2 z hz1 (by omega))
          · refine br_aload_0 dX1_whyNot_48 ?_
            refine br_xg_X1_24 dX1_whyNot_49 ?_
            refine br_iload_4 dX1_whyNot_52 ?_
            refine br_xl_7 (v := G 7 x) (by omega) rfl dX1_whyNot_54 ?_
            refine br_iconst dX1_whyNot_55 ?_
            refine br_icmp_eq (tgt := 106) dX1_whyNot_56 (by decide) (by omega) (fun c56 => ?_) (fun c56 => ?_)
            · refine br_iinc_4 dX1_whyNot_106 rfl ?_
              refine br_goto (tgt := 30) dX1_whyNot_109 (by decide) ?_
              exact ih30 _ (by omega) (by omega) (fun z hz1 hz2 => by
  by_cases e : z = x
  · subst e; unfold clash; omega
  · exact h2 z hz1 (by omega))
            · refine br_aload_0 dX1_whyNot_59 ?_
              refine br_xg_X1_16 dX1_whyNot_60 ?_
              refine br_xg_X1_98 dX1_whyNot_63 ?_
              refine br_iload_4 dX1_whyNot_66 ?_
              refine br_xl_pa (by omega) (by omega) dX1_whyNot_68 ?_
              refine br_xg_X1_106 (by omega) (v := rOf r x) rfl dX1_whyNot_69 ?_
              refine br_aload_3 dX1_whyNot_72 ?_
              refine br_xg_X1_106 (by omega) (v := rOf r k0) rfl dX1_whyNot_73 ?_
              refine br_icmp_ne (tgt := 106) dX1_whyNot_76 (by decide) (by omega) (fun c76 => ?_) (fun c76 => ?_)
              · refine br_iinc_4 dX1_whyNot_106 rfl ?_
                refine br_goto (tgt := 30) dX1_whyNot_109 (by decide) ?_
                exact ih30 _ (by omega) (by omega) (fun z hz1 hz2 => by
  by_cases e : z = x
  · subst e; unfold clash; omega
  · exact h2 z hz1 (by omega))
              · refine br_aload_3 dX1_whyNot_79 ?_
                refine br_iload_2 dX1_whyNot_80 ?_
                refine br_aload_0 dX1_whyNot_81 ?_
                refine br_xg_X1_16 dX1_whyNot_82 ?_
                refine br_xg_X1_98 dX1_whyNot_85 ?_
                refine br_iload_4 dX1_whyNot_88 ?_
                refine br_xl_pa (by omega) (by omega) dX1_whyNot_90 ?_
                refine br_aload_0 dX1_whyNot_91 ?_
                refine br_xg_X1_24 dX1_whyNot_92 ?_
                refine br_iload_4 dX1_whyNot_95 ?_
                refine br_xl_7 (v := G 7 x) (by omega) rfl dX1_whyNot_97 ?_
                refine br_VZ3 (i := 14) (j := Int.toNat k0) (ct_x_touches (z := k0) (y := x) (by omega) (by omega) (by omega) (by omega) (by omega) (by omega)) lk_X1_124 ⟨Nat.le_of_ble_eq_true rfl, Nat.le_of_ble_eq_true rfl⟩ ⟨Nat.le_of_ble_eq_true rfl, Nat.le_of_ble_eq_true rfl⟩ (xw_pa (by omega)) rfl (Nat.le_of_ble_eq_true rfl) dX1_whyNot_98 (fun c98 => ?_) (fun c98 => ?_)
                · refine br_if_eq (tgt := 106) dX1_whyNot_101 (by decide) (by decide) (fun q => absurd q (by decide)) (fun _ => ?_)
                  refine br_iconst dX1_whyNot_104 ?_
                  exact br_ireturn dX1_whyNot_105 (by decide) (by decide) (hret _ _ (bk_f ((whyS_2 (x := x) (by assumption) (by omega) (by unfold clash; omega)).symm)))
                · refine br_if_eq (tgt := 106) dX1_whyNot_101 (by decide) (by decide) (fun _ => ?_) (fun q => absurd q (by decide))
                  refine br_iinc_4 dX1_whyNot_106 rfl ?_
                  refine br_goto (tgt := 30) dX1_whyNot_109 (by decide) ?_
                  exact ih30 _ (by omega) (by omega) (fun z hz1 hz2 => by
  by_cases e : z = x
  · subst e; unfold clash; omega
  · exact h2 z hz1 (by omega))
    exact lp30 _ _ (Nat.lt_succ_self _) (by omega) (fun z _ _ => by omega)
  · refine br_if_ne (tgt := 27) dX1_whyNot_22 (by decide) (by decide) (fun q => absurd q (by decide)) (fun _ => ?_)
    refine br_iconst dX1_whyNot_25 ?_
    exact br_ireturn dX1_whyNot_26 (by decide) (by decide) (hret _ _ (bk_f ((whyS_1 (by unfold inWin; omega)).symm)))

theorem ct_x_why {D : bk_D} {o : Nat} {a b sa pa : Nat → Nat} {F : Nat → Int} {G : Nat → Int → Int} {bk : Int → Option Nat} {r : Int → Int} {P : Nat → Int} {du : Int → Int} {hb : Nat → Option (Nat × bE)} {ex : gC} {s q : Int} (hs : -2147483648 ≤ s ∧ s < 2147483648) (hq : -2147483648 ≤ q ∧ q < 2147483648) (hR : RW r) (hpl : xPl r P du) (hA : atOK r G) : bk_K D yX1_why (.code yX1_why cX1_why 3 (some (FieldType.int))) ({ frames := 2, cells := 0, slots := 0, locals := 47 }) [.ref o, .int (iI s), .int (iI q)] (xw o a F G bk b sa pa r P du hb ex) (bk_pf (whyQ r s q) (xw o a F G bk b sa pa r P du hb ex)) bk_nox := by
  refine bk_ofV (own := "BreakSetter") (L0 := [some (.ref o), some (.int (iI s)), some (.int (iI q))]) (by decide) rfl (Nat.le_of_ble_eq_true rfl) rfl bk_oi (fun Γ hct hret hthr => ?_)
  have hn := hR.n
  obtain ⟨⟨p0, p1, p2, p3⟩, hdu⟩ := id hpl
  refine br_aload_0 dX1_why_0 ?_
  refine br_iload_1 dX1_why_1 ?_
  refine br_VZ1 (i := 0) (j := 0) (ct_x_isPause (by omega) hR hpl hA) lk_X1_165 ⟨Nat.le_of_ble_eq_true rfl, Nat.le_of_ble_eq_true rfl⟩ ⟨Nat.le_of_ble_eq_true rfl, Nat.le_of_ble_eq_true rfl⟩ rfl rfl (Nat.le_of_ble_eq_true rfl) dX1_why_2 (fun c2 => ?_) (fun c2 => ?_)
  · refine br_if_eq (tgt := 24) dX1_why_5 (by decide) (by decide) (fun q => absurd q (by decide)) (fun _ => ?_)
    refine br_iload_2 dX1_why_8 ?_
    refine br_SZ1 (ct_x_isSlot (by omega)) lk_X1_172 ⟨Nat.le_of_ble_eq_true rfl, Nat.le_of_ble_eq_true rfl⟩ ⟨Nat.le_of_ble_eq_true rfl, Nat.le_of_ble_eq_true rfl⟩  (Nat.le_of_ble_eq_true rfl) dX1_why_9 (fun c9 => ?_) (fun c9 => ?_)
    · refine br_if_eq (tgt := 24) dX1_why_12 (by decide) (by decide) (fun q => absurd q (by decide)) (fun _ => ?_)
      refine br_aload_0 dX1_why_15 ?_
      refine br_iload_1 dX1_why_16 ?_
      refine br_iload_2 dX1_why_17 ?_
      refine br_VF2 (i := 0) (j := 0) (ct_x_whyNot (show 0 ≤ s ∧ s < r 3 from by omega) (by omega) hR hpl hA) lk_X1_128 ⟨Nat.le_of_ble_eq_true rfl, Nat.le_of_ble_eq_true rfl⟩ ⟨Nat.le_of_ble_eq_true rfl, Nat.le_of_ble_eq_true rfl⟩ rfl rfl (Nat.le_of_ble_eq_true rfl) dX1_why_18 ?_
      refine br_goto (tgt := 25) dX1_why_21 (by decide) ?_
      exact br_ireturn dX1_why_25 (by decide) (by decide) (hret _ _ (bk_f (by unfold whyQ; rw [if_pos (by omega)])))
    · refine br_if_eq (tgt := 24) dX1_why_12 (by decide) (by decide) (fun _ => ?_) (fun q => absurd q (by decide))
      refine br_iconst dX1_why_24 ?_
      exact br_ireturn dX1_why_25 (by decide) (by decide) (hret _ _ (bk_f (by unfold whyQ; rw [if_neg (by omega)])))
  · refine br_if_eq (tgt := 24) dX1_why_5 (by decide) (by decide) (fun _ => ?_) (fun q => absurd q (by decide))
    refine br_iconst dX1_why_24 ?_
    exact br_ireturn dX1_why_25 (by decide) (by decide) (hret _ _ (bk_f (by unfold whyQ; rw [if_neg (by omega)])))

theorem ct_x_fault {D : bk_D} {o : Nat} {a b sa pa : Nat → Nat} {F : Nat → Int} {G : Nat → Int → Int} {bk : Int → Option Nat} {r : Int → Int} {P : Nat → Int} {du : Int → Int} {hb : Nat → Option (Nat × bE)} {ex : gC}  : bk_K D yX1_fault (.code yX1_fault cX1_fault 1 (some (FieldType.int))) ({ frames := 0, cells := 0, slots := 0, locals := 0 }) [.ref o] (xw o a F G bk b sa pa r P du hb ex) (bk_pf (F 12) (xw o a F G bk b sa pa r P du hb ex)) bk_nox := by
  refine bk_ofV (own := "BreakSetter") (L0 := [some (.ref o)]) (by decide) rfl (Nat.le_of_ble_eq_true rfl) rfl bk_oi (fun Γ hct hret hthr => ?_)
  refine br_aload_0 dX1_fault_0 ?_
  refine br_xg_X1_237 (v := F 12) rfl dX1_fault_1 ?_
  exact br_ireturn dX1_fault_4 (by decide) (by decide) (hret _ _ (bk_f rfl))

theorem ct_x_end {D : bk_D} {o : Nat} {a b sa pa : Nat → Nat} {F : Nat → Int} {G : Nat → Int → Int} {bk : Int → Option Nat} {r : Int → Int} {P : Nat → Int} {du : Int → Int} {hb : Nat → Option (Nat × bE)} {ex : gC} {v : Int} (hv : -2147483648 ≤ v ∧ v < 2147483648) (hl : 0 ≤ F 1 ∧ F 1 ≤ 640) : bk_K D yX1_end (.code yX1_end cX1_end 2 (some (FieldType.boolean))) ({ frames := 0, cells := 0, slots := 0, locals := 0 }) [.ref o, .int (iI v)] (xw o a F G bk b sa pa r P du hb ex) (bk_pi fun q w => (q = 1 ∧ (0 ≤ v ∧ v ≤ F 1) ∧ w = xw o a (uF F 1 v) G bk b sa pa r P du hb ex) ∨ (q = 0 ∧ ¬ (0 ≤ v ∧ v ≤ F 1) ∧ w = xw o a F G bk b sa pa r P du hb ex)) bk_nox := by
  refine bk_ofV (own := "BreakSetter") (L0 := [some (.ref o), some (.int (iI v))]) (by decide) rfl (Nat.le_of_ble_eq_true rfl) rfl (bk_oz (by rintro r w (h | h); exact Or.inr h.1; exact Or.inl h.1)) (fun Γ hct hret hthr => ?_)
  refine br_iload_1 dX1_end_0 ?_
  refine br_if_lt (tgt := 12) dX1_end_1 (by decide) (by omega) (fun c1 => ?_) (fun c1 => ?_)
  · refine br_iconst dX1_end_12 ?_
    exact br_ireturn dX1_end_13 (by decide) (by decide) (hret _ _ (⟨_, rfl, Or.inr ⟨rfl, by omega, rfl⟩⟩))
  · refine br_iload_1 dX1_end_4 ?_
    refine br_aload_0 dX1_end_5 ?_
    refine br_xg_X1_46 (v := F 1) rfl dX1_end_6 ?_
    refine br_icmp_le (tgt := 14) dX1_end_9 (by decide) (by omega) (fun c9 => ?_) (fun c9 => ?_)
    · refine br_aload_0 dX1_end_14 ?_
      refine br_iload_1 dX1_end_15 ?_
      refine br_xp_X1_46 dX1_end_16 ?_
      refine br_iconst dX1_end_19 ?_
      exact br_ireturn dX1_end_20 (by decide) (by decide) (hret _ _ (⟨_, rfl, Or.inl ⟨rfl, by omega, rfl⟩⟩))
    · refine br_iconst dX1_end_12 ?_
      exact br_ireturn dX1_end_13 (by decide) (by decide) (hret _ _ (⟨_, rfl, Or.inr ⟨rfl, by omega, rfl⟩⟩))

theorem ct_x_placed {D : bk_D} {o : Nat} {a b sa pa : Nat → Nat} {F : Nat → Int} {G : Nat → Int → Int} {bk : Int → Option Nat} {r : Int → Int} {P : Nat → Int} {du : Int → Int} {hb : Nat → Option (Nat × bE)} {ex : gC} (hR : RW r) (hpl : xPl r P du) (hA : atOK r G) : bk_K D yX1_placed (.code yX1_placed cX1_placed 6 (some (FieldType.int))) ({ frames := 0, cells := 0, slots := 0, locals := 0 }) [.ref o] (xw o a F G bk b sa pa r P du hb ex) (bk_pf (placedS r) (xw o a F G bk b sa pa r P du hb ex)) bk_nox := by
  refine bk_ofV (own := "BreakSetter") (L0 := [some (.ref o), none, none, none, none, none]) (by decide) rfl (Nat.le_of_ble_eq_true rfl) rfl bk_oi (fun Γ hct hret hthr => ?_)
  have hn := hR.n
  obtain ⟨⟨p0, p1, p2, p3⟩, hdu⟩ := id hpl
  refine br_iconst dX1_placed_0 ?_
  refine br_istore_1 dX1_placed_1 rfl ?_
  refine br_aload_0 dX1_placed_2 ?_
  refine br_xg_X1_24 dX1_placed_3 ?_
  refine br_astore_2 dX1_placed_6 rfl ?_
  refine br_aload_2 dX1_placed_7 ?_
  refine br_alen (i := 7) (j := 0) (t := 0) (x := (24, .inl (fun j : Nat => iI (G 7 (j : Int))))) (ty := .int) rfl rfl dX1_placed_8 ?_
  refine br_topi (y := 24) rfl ?_
  refine br_istore_3 dX1_placed_9 rfl ?_
  refine br_iconst dX1_placed_10 ?_
  refine br_istore_4 dX1_placed_11 rfl ?_
  have lp13 : ∀ (mm13 : Nat) (m : Int) (s : Int), (24 - s).toNat < mm13 → (0 ≤ s ∧ s ≤ 24) → (m = sumI (fun k => oneIf (¬ rAt r k = 0)) s.toNat) → bk_V Γ D ({ frames := 0, cells := 0, slots := 0, locals := 0 }) "BreakSetter" cX1_placed [] 0 0 (xw o a F G bk b sa pa r P du hb ex) [some (.ref o), some (.int (iI m)), some (.ref (a 7)), some (.int (iI 24)), some (.int (iI s)), none] [] 13 := by
    intro mm13
    induction mm13 with
    | zero => intro m s hm13; exact absurd hm13 (Nat.not_lt_zero _)
    | succ mm13 ih13 =>
      intro m s hm13 h1 h2
      refine br_iload_4 dX1_placed_13 ?_
      refine br_iload_3 dX1_placed_15 ?_
      refine br_icmp_ge (tgt := 40) dX1_placed_16 (by decide) (by omega) (fun c16 => ?_) (fun c16 => ?_)
      · refine br_iload_1 dX1_placed_40 ?_
        exact br_ireturn dX1_placed_41 (by decide) (by decide) (hret _ _ (bk_f (by rw [h2, show s = 24 by omega]; exact placedS_24 hR)))
      · have hax := hA s (by omega) (by omega)
        have hrb : 0 ≤ rAt r s ∧ rAt r s ≤ 48 := by
          by_cases c : s < r 3
          · exact (hR.pa2 (k := s) (by omega)).2
          · rw [hR.at0 (k := s) (by omega)]; omega
        refine br_aload_2 dX1_placed_19 ?_
        refine br_iload_4 dX1_placed_20 ?_
        refine br_xl_7 (v := G 7 s) (by omega) rfl dX1_placed_22 ?_
        refine br_istore_5 dX1_placed_23 rfl ?_
        refine br_iload_5 dX1_placed_25 ?_
        refine br_iconst dX1_placed_27 ?_
        refine br_icmp_eq (tgt := 34) dX1_placed_28 (by decide) (by omega) (fun c28 => ?_) (fun c28 => ?_)
        · refine br_iinc_4 dX1_placed_34 rfl ?_
          refine br_goto (tgt := 13) dX1_placed_37 (by decide) ?_
          refine br_fg_5 ?_
          exact ih13 _ _ (by omega) (by omega) (by rw [sumI_step _ h1.1, ← h2]; first | rw [oneIf_1 (by omega)] | (rw [oneIf_0 (by omega)]; omega))
        · refine br_iinc_1 dX1_placed_31 rfl ?_
          refine br_iinc_4 dX1_placed_34 rfl ?_
          refine br_goto (tgt := 13) dX1_placed_37 (by decide) ?_
          refine br_fg_5 ?_
          exact ih13 _ _ (by omega) (by omega) (by rw [sumI_step _ h1.1, ← h2]; first | rw [oneIf_1 (by omega)] | (rw [oneIf_0 (by omega)]; omega))
  exact lp13 _ _ _ (Nat.lt_succ_self _) (by omega) rfl

