/-! X: cover, trials -/
set_option maxRecDepth 100000
theorem ct_x_shifts {D : bk_D} {o : Nat} {a b sa pa : Nat → Nat} {F : Nat → Int} {G : Nat → Int → Int} {bk : Int → Option Nat} {r : Int → Int} {P : Nat → Int} {du : Int → Int} {hb : Nat → Option (Nat × bE)} {ex : gC} {k0 t0 bb : Int} (hk : 0 ≤ k0 ∧ k0 < r 3) (ht : 0 ≤ t0 ∧ t0 + rLo r k0 ≤ 48) (hbb : -1 ≤ bb ∧ bb ≤ 1) (hR : RW r) (hpl : xPl r P du) (hsf : F 6 = flS (neF r) (G 2)) (hG : ∀ j : Int, 0 ≤ j → j < 144 → -100 ≤ G 2 j ∧ G 2 j ≤ 100) : bk_K D yX1_shifts (.code yX1_shifts cX1_shifts 7 none) ({ frames := 2, cells := 0, slots := 0, locals := 42 }) [.ref o, .int (iI k0), .int (iI t0), .int (iI bb)] (xw o a F G bk b sa pa r P du hb ex) (bk_pv fun w => w = (xw o a (uF F 6 (flS (neF r) (addC (G 2) (48 * rP r (rOf r k0) + t0) (rLo r k0) bb))) (uG G 2 (addC (G 2) (48 * rP r (rOf r k0) + t0) (rLo r k0) bb)) bk b sa pa r P du hb ex)) bk_nox := by
  refine bk_ofV (own := "BreakSetter") (L0 := [some (.ref o), some (.int (iI k0)), some (.int (iI t0)), some (.int (iI bb)), none, none, none]) (by decide) rfl (Nat.le_of_ble_eq_true rfl) rfl bk_ov (fun Γ hct hret hthr => ?_)
  have hn := hR.n
  obtain ⟨⟨p0, p1, p2, p3⟩, hdu⟩ := id hpl
  have hk1 := hR.pa2 hk
  have hk2 := hR.pa hk
  have hk3 := hR.sh hk2.1
  refine br_aload_0 dX1_shifts_0 ?_
  refine br_xg_X1_16 dX1_shifts_1 ?_
  refine br_xg_X1_98 dX1_shifts_4 ?_
  refine br_iload_1 dX1_shifts_7 ?_
  refine br_xl_pa (by omega) (by omega) dX1_shifts_8 ?_
  refine br_astore_4 dX1_shifts_9 rfl ?_
  refine br_bipush dX1_shifts_11 (by decide) ?_
  refine br_aload_0 dX1_shifts_13 ?_
  refine br_xg_X1_16 dX1_shifts_14 ?_
  refine br_xg_X1_102 dX1_shifts_17 ?_
  refine br_aload_4 dX1_shifts_20 ?_
  refine br_xg_X1_106 (by omega) (v := rOf r k0) rfl dX1_shifts_22 ?_
  refine br_xl_sh (by omega) (by omega) dX1_shifts_25 ?_
  refine br_xg_X1_110 (by omega) (v := rP r (rOf r k0)) rfl dX1_shifts_26 ?_
  refine br_imul dX1_shifts_29 ?_
  refine br_iload_2 dX1_shifts_30 ?_
  refine br_iadd dX1_shifts_31 ?_
  refine br_istore_5 dX1_shifts_32 rfl ?_
  refine br_iload_5 dX1_shifts_34 ?_
  refine br_istore_6 dX1_shifts_36 rfl ?_
  refine bk_V.world (w' := (xw o a (uF F 6 (flS (neF r) (addC (G 2) (48 * rP r (rOf r k0) + t0) ((48 * rP r (rOf r k0) + t0) - (48 * rP r (rOf r k0) + t0)) bb))) (uG G 2 (addC (G 2) (48 * rP r (rOf r k0) + t0) ((48 * rP r (rOf r k0) + t0) - (48 * rP r (rOf r k0) + t0)) bb)) bk b sa pa r P du hb ex)) (by rw [Int.sub_self, ← addC_0, ← hsf, uG_self, uF_self]) ?_
  have lp38 : ∀ (mm38 : Nat) (z : Int), ((48 * rP r (rOf r k0) + t0) + rLo r k0 - z).toNat < mm38 → ((48 * rP r (rOf r k0) + t0) ≤ z ∧ z ≤ (48 * rP r (rOf r k0) + t0) + rLo r k0) → bk_V Γ D ({ frames := 2, cells := 0, slots := 0, locals := 42 }) "BreakSetter" cX1_shifts [] 0 0 (xw o a (uF F 6 (flS (neF r) (addC (G 2) (48 * rP r (rOf r k0) + t0) (z - (48 * rP r (rOf r k0) + t0)) bb))) (uG G 2 (addC (G 2) (48 * rP r (rOf r k0) + t0) (z - (48 * rP r (rOf r k0) + t0)) bb)) bk b sa pa r P du hb ex) [some (.ref o), some (.int (iI k0)), some (.int (iI t0)), some (.int (iI bb)), some (.ref (pa k0.toNat)), some (.int (iI ((48 * (rP r (rOf r k0))) + t0))), some (.int (iI z))] [] 38 := by
    intro mm38
    induction mm38 with
    | zero => intro z hm38; exact absurd hm38 (Nat.not_lt_zero _)
    | succ mm38 ih38 =>
      intro z hm38 h1
      have hgz := fun j (q1 : 0 ≤ j) (q2 : j < 144) => addC_bd (f := (48 * rP r (rOf r k0) + t0)) (m := z - (48 * rP r (rOf r k0) + t0)) (hG j q1 q2) hbb
      refine br_iload_6 dX1_shifts_38 ?_
      refine br_iload_5 dX1_shifts_40 ?_
      refine br_aload_4 dX1_shifts_42 ?_
      refine br_xg_X1_115 (by omega) (v := rLo r k0) rfl dX1_shifts_44 ?_
      refine br_iadd dX1_shifts_47 ?_
      refine br_icmp_ge (tgt := 126) dX1_shifts_48 (by decide) (by omega) (fun c48 => ?_) (fun c48 => ?_)
      · exact br_return dX1_shifts_126 (by decide) (by decide) (hret _ _ (⟨rfl, by rw [show z = (48 * rP r (rOf r k0) + t0) + rLo r k0 by omega, show (48 * rP r (rOf r k0) + t0) + rLo r k0 - (48 * rP r (rOf r k0) + t0) = rLo r k0 by omega]⟩))
      · have hgb := hgz z (by omega) (by omega)
        have hnz : 0 ≤ r (4 + z) ∧ r (4 + z) ≤ 90 := hR.2.2.2.2.1 (4 + z) (by omega) (by omega)
        refine br_aload_0 dX1_shifts_51 ?_
        refine br_dup dX1_shifts_52 rfl ?_
        refine br_xg_X1_85 (v := flS (neF r) (addC (G 2) (48 * rP r (rOf r k0) + t0) (z - (48 * rP r (rOf r k0) + t0)) bb)) rfl dX1_shifts_53 ?_
        refine br_aload_0 dX1_shifts_56 ?_
        refine br_xg_X1_16 dX1_shifts_57 ?_
        refine br_xg_X1_88 dX1_shifts_60 ?_
        refine br_iload_6 dX1_shifts_63 ?_
        refine br_xl_need (v := r (4 + z)) (by omega) rfl dX1_shifts_65 ?_
        refine br_aload_0 dX1_shifts_66 ?_
        refine br_xg_X1_28 dX1_shifts_67 ?_
        refine br_iload_6 dX1_shifts_70 ?_
        refine br_xl_2 (v := (addC (G 2) (48 * rP r (rOf r k0) + t0) (z - (48 * rP r (rOf r k0) + t0)) bb) z) (by omega) rfl dX1_shifts_72 ?_
        refine br_SF2 (ct_x_shortOf (by omega) (by omega)) lk_X1_91 ⟨Nat.le_of_ble_eq_true rfl, Nat.le_of_ble_eq_true rfl⟩ ⟨Nat.le_of_ble_eq_true rfl, Nat.le_of_ble_eq_true rfl⟩  (Nat.le_of_ble_eq_true rfl) dX1_shifts_73 ?_
        refine br_topi (y := pos0 (r (4 + z) - ((addC (G 2) (48 * rP r (rOf r k0) + t0) (z - (48 * rP r (rOf r k0) + t0)) bb) z))) rfl ?_
        refine br_isub dX1_shifts_76 ?_
        refine br_xp_X1_85 dX1_shifts_77 ?_
        refine bk_V.world (w' := (xw o a (uF F 6 ((flS (neF r) (addC (G 2) (48 * rP r (rOf r k0) + t0) (z - (48 * rP r (rOf r k0) + t0)) bb)) - (pos0 (r (4 + z) - ((addC (G 2) (48 * rP r (rOf r k0) + t0) (z - (48 * rP r (rOf r k0) + t0)) bb) z))))) (uG G 2 (addC (G 2) (48 * rP r (rOf r k0) + t0) (z - (48 * rP r (rOf r k0) + t0)) bb)) bk b sa pa r P du hb ex)) (congrArg (fun F9 => (xw o a F9 (uG G 2 (addC (G 2) (48 * rP r (rOf r k0) + t0) (z - (48 * rP r (rOf r k0) + t0)) bb)) bk b sa pa r P du hb ex)) (uF_uF _ _ _ _)) ?_
        refine br_aload_0 dX1_shifts_80 ?_
        refine br_xg_X1_28 dX1_shifts_81 ?_
        refine br_iload_6 dX1_shifts_84 ?_
        refine br_dup2 dX1_shifts_86 rfl rfl ?_
        refine br_xl_2 (v := (addC (G 2) (48 * rP r (rOf r k0) + t0) (z - (48 * rP r (rOf r k0) + t0)) bb) z) (by omega) rfl dX1_shifts_87 ?_
        refine br_iload_3 dX1_shifts_88 ?_
        refine br_iadd dX1_shifts_89 ?_
        refine br_xs_2 (by omega) dX1_shifts_90 ?_
        refine bk_V.world (w' := (xw o a (uF F 6 ((flS (neF r) (addC (G 2) (48 * rP r (rOf r k0) + t0) (z - (48 * rP r (rOf r k0) + t0)) bb)) - (pos0 (r (4 + z) - ((addC (G 2) (48 * rP r (rOf r k0) + t0) (z - (48 * rP r (rOf r k0) + t0)) bb) z))))) (uG G 2 (uI (addC (G 2) (48 * rP r (rOf r k0) + t0) (z - (48 * rP r (rOf r k0) + t0)) bb) z (((addC (G 2) (48 * rP r (rOf r k0) + t0) (z - (48 * rP r (rOf r k0) + t0)) bb) z) + bb))) bk b sa pa r P du hb ex)) (congrArg (fun G9 => (xw o a (uF F 6 ((flS (neF r) (addC (G 2) (48 * rP r (rOf r k0) + t0) (z - (48 * rP r (rOf r k0) + t0)) bb)) - (pos0 (r (4 + z) - ((addC (G 2) (48 * rP r (rOf r k0) + t0) (z - (48 * rP r (rOf r k0) + t0)) bb) z))))) G9 bk b sa pa r P du hb ex)) (uG_uG _ _ _ _)) ?_
        refine br_aload_0 dX1_shifts_91 ?_
        refine br_dup dX1_shifts_92 rfl ?_
        refine br_xg_X1_85 (v := (flS (neF r) (addC (G 2) (48 * rP r (rOf r k0) + t0) (z - (48 * rP r (rOf r k0) + t0)) bb)) - (pos0 (r (4 + z) - ((addC (G 2) (48 * rP r (rOf r k0) + t0) (z - (48 * rP r (rOf r k0) + t0)) bb) z)))) rfl dX1_shifts_93 ?_
        refine br_aload_0 dX1_shifts_96 ?_
        refine br_xg_X1_16 dX1_shifts_97 ?_
        refine br_xg_X1_88 dX1_shifts_100 ?_
        refine br_iload_6 dX1_shifts_103 ?_
        refine br_xl_need (v := r (4 + z)) (by omega) rfl dX1_shifts_105 ?_
        refine br_aload_0 dX1_shifts_106 ?_
        have hu9 : addC (G 2) (48 * rP r (rOf r k0) + t0) (z - (48 * rP r (rOf r k0) + t0)) bb z + bb = uI (addC (G 2) (48 * rP r (rOf r k0) + t0) (z - (48 * rP r (rOf r k0) + t0)) bb) z (addC (G 2) (48 * rP r (rOf r k0) + t0) (z - (48 * rP r (rOf r k0) + t0)) bb z + bb) z := (uI_eq _ _ _).symm
        refine br_xg_X1_28 dX1_shifts_107 ?_
        refine br_iload_6 dX1_shifts_110 ?_
        refine br_xl_2 (v := (uI (addC (G 2) (48 * rP r (rOf r k0) + t0) (z - (48 * rP r (rOf r k0) + t0)) bb) z (((addC (G 2) (48 * rP r (rOf r k0) + t0) (z - (48 * rP r (rOf r k0) + t0)) bb) z) + bb)) z) (by omega) rfl dX1_shifts_112 ?_
        refine br_SF2 (ct_x_shortOf (by omega) (by omega)) lk_X1_91 ⟨Nat.le_of_ble_eq_true rfl, Nat.le_of_ble_eq_true rfl⟩ ⟨Nat.le_of_ble_eq_true rfl, Nat.le_of_ble_eq_true rfl⟩  (Nat.le_of_ble_eq_true rfl) dX1_shifts_113 ?_
        refine br_topi (y := pos0 (r (4 + z) - ((uI (addC (G 2) (48 * rP r (rOf r k0) + t0) (z - (48 * rP r (rOf r k0) + t0)) bb) z (((addC (G 2) (48 * rP r (rOf r k0) + t0) (z - (48 * rP r (rOf r k0) + t0)) bb) z) + bb)) z))) rfl ?_
        refine br_iadd dX1_shifts_116 ?_
        refine br_xp_X1_85 dX1_shifts_117 ?_
        refine bk_V.world (w' := (xw o a (uF F 6 (((flS (neF r) (addC (G 2) (48 * rP r (rOf r k0) + t0) (z - (48 * rP r (rOf r k0) + t0)) bb)) - (pos0 (r (4 + z) - ((addC (G 2) (48 * rP r (rOf r k0) + t0) (z - (48 * rP r (rOf r k0) + t0)) bb) z)))) + (pos0 (r (4 + z) - ((uI (addC (G 2) (48 * rP r (rOf r k0) + t0) (z - (48 * rP r (rOf r k0) + t0)) bb) z (((addC (G 2) (48 * rP r (rOf r k0) + t0) (z - (48 * rP r (rOf r k0) + t0)) bb) z) + bb)) z))))) (uG G 2 (uI (addC (G 2) (48 * rP r (rOf r k0) + t0) (z - (48 * rP r (rOf r k0) + t0)) bb) z (((addC (G 2) (48 * rP r (rOf r k0) + t0) (z - (48 * rP r (rOf r k0) + t0)) bb) z) + bb))) bk b sa pa r P du hb ex)) (congrArg (fun F9 => (xw o a F9 (uG G 2 (uI (addC (G 2) (48 * rP r (rOf r k0) + t0) (z - (48 * rP r (rOf r k0) + t0)) bb) z (((addC (G 2) (48 * rP r (rOf r k0) + t0) (z - (48 * rP r (rOf r k0) + t0)) bb) z) + bb))) bk b sa pa r P du hb ex)) (uF_uF _ _ _ _)) ?_
        refine br_iinc_6 dX1_shifts_120 rfl ?_
        refine br_goto (tgt := 38) dX1_shifts_123 (by decide) ?_
        have hg9 := addC_s (cv := G 2) (f := (48 * rP r (rOf r k0) + t0)) (z := z) (b := bb) (by omega)
        have hf9 := flS_up (ne := neF r) (cv := addC (G 2) (48 * rP r (rOf r k0) + t0) (z - (48 * rP r (rOf r k0) + t0)) bb) (z := z) (v := addC (G 2) (48 * rP r (rOf r k0) + t0) (z - (48 * rP r (rOf r k0) + t0)) bb z + bb) (by omega)
        rw [hg9] at hf9
        refine bk_V.world (w' := (xw o a (uF F 6 (flS (neF r) (addC (G 2) (48 * rP r (rOf r k0) + t0) (z + 1 - (48 * rP r (rOf r k0) + t0)) bb))) (uG G 2 (addC (G 2) (48 * rP r (rOf r k0) + t0) (z + 1 - (48 * rP r (rOf r k0) + t0)) bb)) bk b sa pa r P du hb ex)) (by rw [hf9, ← hg9, uI_eq]; rfl) ?_
        exact ih38 _ (by omega) (by omega)
  exact lp38 _ _ (Nat.lt_succ_self _) (by omega)

theorem ct_x_laysCover {D : bk_D} {o : Nat} {a b sa pa : Nat → Nat} {F : Nat → Int} {G : Nat → Int → Int} {bk : Int → Option Nat} {r : Int → Int} {P : Nat → Int} {du : Int → Int} {hb : Nat → Option (Nat × bE)} {ex : gC} (hR : RW r) (hpl : xPl r P du) (hA : atOK r G) : bk_K D yX1_laysCover (.code yX1_laysCover cX1_laysCover 2 none) ({ frames := 3, cells := 0, slots := 0, locals := 79 }) [.ref o] (xw o a F G bk b sa pa r P du hb ex) (bk_pv fun w => ∃ (f6 : Int) (g2 : Int → Int), w = (xw o a (uF F 6 f6) (uG G 2 g2) bk b sa pa r P du hb ex) ∧ laidV r f6 g2) bk_nox := by
  refine bk_ofV (own := "BreakSetter") (L0 := [some (.ref o), none]) (by decide) rfl (Nat.le_of_ble_eq_true rfl) rfl bk_ov (fun Γ hct hret hthr => ?_)
  have hn := hR.n
  obtain ⟨⟨p0, p1, p2, p3⟩, hdu⟩ := id hpl
  refine br_aload_0 dX1_laysCover_0 ?_
  refine br_xg_X1_16 dX1_laysCover_1 ?_
  refine br_xg_X1_76 dX1_laysCover_4 ?_
  refine br_iconst dX1_laysCover_7 ?_
  refine br_aload_0 dX1_laysCover_8 ?_
  refine br_xg_X1_28 dX1_laysCover_9 ?_
  refine br_iconst dX1_laysCover_12 ?_
  refine br_sipush dX1_laysCover_13 (by decide) ?_
  refine br_copyI (i := 12) (j := 0) (i2 := 2) (j2 := 0) (Nf := 144) (Ng := 144) (f := du) (g := G 2) rfl rfl q248 q250 q249 q99 (by omega) (by decide) ⟨Nat.le_of_ble_eq_true rfl, Nat.le_of_ble_eq_true rfl⟩ (Nat.le_of_ble_eq_true rfl) dX1_laysCover_16 ?_
  refine bk_V.world (w' := (xw o a F (uG G 2 (cpy du (G 2) 0 0 144)) bk b sa pa r P du hb ex)) (xw_G2 (cpy du (G 2) 0 0 144)) ?_
  have hcp : ∀ j : Int, 0 ≤ j → j < 144 → (cpy du (G 2) 0 0 144) j = du j := fun j q1 q2 => by
    unfold cpy
    rw [if_pos (by omega)]
    congr 1
    omega
  refine br_aload_0 dX1_laysCover_19 ?_
  refine br_iconst dX1_laysCover_20 ?_
  refine br_xp_X1_85 dX1_laysCover_21 ?_
  refine br_iconst dX1_laysCover_24 ?_
  refine br_istore_1 dX1_laysCover_25 rfl ?_
  obtain ⟨gd, hgd⟩ : ∃ g, g = cpy du (G 2) 0 0 144 := ⟨_, rfl⟩
  rw [← hgd] at hcp ⊢
  refine bk_V.world (w' := (xw o a (uF F 6 (sumI (fun j => pos0 (neF r j - gd j)) (0 : Int).toNat)) (uG G 2 gd) bk b sa pa r P du hb ex)) rfl ?_
  have lp26 : ∀ (mm26 : Nat) (z : Int), (144 - z).toNat < mm26 → (0 ≤ z ∧ z ≤ 144) → bk_V Γ D ({ frames := 3, cells := 0, slots := 0, locals := 79 }) "BreakSetter" cX1_laysCover [] 0 0 (xw o a (uF F 6 (sumI (fun j => pos0 (neF r j - gd j)) z.toNat)) (uG G 2 gd) bk b sa pa r P du hb ex) [some (.ref o), some (.int (iI z))] [] 26 := by
    intro mm26
    induction mm26 with
    | zero => intro z hm26; exact absurd hm26 (Nat.not_lt_zero _)
    | succ mm26 ih26 =>
      intro z hm26 h1
      refine br_iload_1 dX1_laysCover_26 ?_
      refine br_sipush dX1_laysCover_27 (by decide) ?_
      refine br_icmp_ge (tgt := 66) dX1_laysCover_30 (by decide) (by omega) (fun c30 => ?_) (fun c30 => ?_)
      · refine br_iconst dX1_laysCover_66 ?_
        refine br_istore_1 dX1_laysCover_67 rfl ?_
        refine bk_V.world (w' := (xw o a (uF F 6 (flS (neF r) gd)) (uG G 2 gd) bk b sa pa r P du hb ex)) (by rw [show z = 144 by omega]; rfl) ?_
        have lp68 : ∀ (mm68 : Nat) (z : Int) (f6 : Int) (g2 : Int → Int), (r 3 - z).toNat < mm68 → (0 ≤ z ∧ z ≤ r 3) → (laidV (bareR r z) f6 g2) → bk_V Γ D ({ frames := 3, cells := 0, slots := 0, locals := 79 }) "BreakSetter" cX1_laysCover [] 0 0 (xw o a (uF F 6 f6) (uG G 2 g2) bk b sa pa r P du hb ex) [some (.ref o), some (.int (iI z))] [] 68 := by
          intro mm68
          induction mm68 with
          | zero => intro z f6 g2 hm68; exact absurd hm68 (Nat.not_lt_zero _)
          | succ mm68 ih68 =>
            intro z f6 g2 hm68 k1 hL0
            refine br_iload_1 dX1_laysCover_68 ?_
            refine br_aload_0 dX1_laysCover_69 ?_
            refine br_xg_X1_16 dX1_laysCover_70 ?_
            refine br_xg_X1_67 (v := P 3) rfl dX1_laysCover_73 ?_
            refine br_icmp_ge (tgt := 107) dX1_laysCover_76 (by decide) (by omega) (fun c76 => ?_) (fun c76 => ?_)
            · exact br_return dX1_laysCover_107 (by decide) (by decide) (hret _ _ (⟨rfl, f6, g2, rfl, by rw [bareR_end hR (z := z) (by omega)] at hL0; exact hL0⟩))
            · have hax := hA z (by omega) (by omega)
              have hpz := hR.pa2 (k := z) (by omega)
              have hpz2 := hR.pa (k := z) (by omega)
              have hbe : bareR r z 3 = r 3 := (bareR_same r k1.1).lo (by omega)
              have hbe1 := (bareR_same r k1.1).all z
              refine br_aload_0 dX1_laysCover_79 ?_
              refine br_xg_X1_24 dX1_laysCover_80 ?_
              refine br_iload_1 dX1_laysCover_83 ?_
              refine br_xl_7 (v := G 7 z) (by omega) rfl dX1_laysCover_84 ?_
              refine br_iconst dX1_laysCover_85 ?_
              refine br_icmp_eq (tgt := 101) dX1_laysCover_86 (by decide) (by omega) (fun c86 => ?_) (fun c86 => ?_)
              · refine br_iinc_1 dX1_laysCover_101 rfl ?_
                refine br_goto (tgt := 68) dX1_laysCover_104 (by decide) ?_
                have hN9 : laidV (bareR r (z + 1)) f6 g2 := by rw [← bareR_skip r (by omega) (by omega)]; exact hL0
                exact ih68 _ _ _ (by omega) (by omega) hN9
              · refine br_aload_0 dX1_laysCover_89 ?_
                refine br_iload_1 dX1_laysCover_90 ?_
                refine br_aload_0 dX1_laysCover_91 ?_
                refine br_xg_X1_24 dX1_laysCover_92 ?_
                refine br_iload_1 dX1_laysCover_95 ?_
                refine br_xl_7 (v := G 7 z) (by omega) rfl dX1_laysCover_96 ?_
                refine br_iconst dX1_laysCover_97 ?_
                refine br_Vv3 (i := 0) (j := 0) (ct_x_shifts (k0 := z) (t0 := G 7 z) (bb := (-1)) (by omega) (by omega) (by omega) hR hpl (hL0.fl (bareR_RW hR k1.1) (bareR_same r k1.1)) (hL0.bd (bareR_RW hR k1.1))) lk_X1_94 ⟨Nat.le_of_ble_eq_true rfl, Nat.le_of_ble_eq_true rfl⟩ ⟨Nat.le_of_ble_eq_true rfl, Nat.le_of_ble_eq_true rfl⟩ rfl rfl (Nat.le_of_ble_eq_true rfl) dX1_laysCover_98 (fun w_ hw_ => ?_)
                subst hw_
                have hL98 := laidV_put hL0 (bareR_RW hR k1.1) (bareR_same r k1.1) (k := z) (t0 := G 7 z) (by omega) (by rw [bareR_at r k1.1 (by omega), if_neg (by omega)]) (by omega)
                have hR98 : RW (putA (bareR r z) z (G 7 z + 1)) := (bareR_RW hR k1.1).mv (by omega) (Or.inr (by omega))
                have hS98 : sameP r (putA (bareR r z) z (G 7 z + 1)) := (bareR_same r k1.1).put (by omega)
                obtain ⟨g98, hg98⟩ : ∃ g, g = addC g2 (48 * rP r (rOf r z) + (G 7 z)) (rLo r z) (-1) := ⟨_, rfl⟩
                rw [← hg98] at hL98
                obtain ⟨f98, hf98⟩ : ∃ f, f = flS (neF r) g98 := ⟨_, rfl⟩
                rw [← hf98] at hL98
                refine bk_V.world (w' := (xw o a (uF F 6 f98) (uG G 2 g98) bk b sa pa r P du hb ex)) (by subst hf98; subst hg98; first | rfl | (rw [uF_uF]; rfl) | (rw [uG_uG]; rfl) | (rw [uF_uF, uG_uG]; rfl) | rw [uF_uF, uG_uG]) ?_
                refine br_iinc_1 dX1_laysCover_101 rfl ?_
                refine br_goto (tgt := 68) dX1_laysCover_104 (by decide) ?_
                have hN9 : laidV (bareR r (z + 1)) f98 g98 := by
                  rw [← bareR_put r (z := z) (by omega), show rAt r z = G 7 z + 1 by omega]
                  exact hL98
                exact ih68 _ _ _ (by omega) (by omega) hN9
        exact lp68 _ _ _ _ (Nat.lt_succ_self _) (by omega) (laidV_0 hR hdu hcp)
      · have hcz := hcp z (by omega) (by omega)
        have hdz := hdu z (by omega) (by omega)
        have hduty := dutyS_bd hR (z / 48) (z % 48)
        have hnz : 0 ≤ r (4 + z) ∧ r (4 + z) ≤ 90 := hR.2.2.2.2.1 (4 + z) (by omega) (by omega)
        have hdf : duF r z = dutyS r (z / 48) (z % 48) := rfl
        refine br_aload_0 dX1_laysCover_33 ?_
        refine br_dup dX1_laysCover_34 rfl ?_
        refine br_xg_X1_85 (v := sumI (fun j => pos0 (neF r j - gd j)) z.toNat) rfl dX1_laysCover_35 ?_
        refine br_aload_0 dX1_laysCover_38 ?_
        refine br_xg_X1_16 dX1_laysCover_39 ?_
        refine br_xg_X1_88 dX1_laysCover_42 ?_
        refine br_iload_1 dX1_laysCover_45 ?_
        refine br_xl_need (v := r (4 + z)) (by omega) rfl dX1_laysCover_46 ?_
        refine br_aload_0 dX1_laysCover_47 ?_
        refine br_xg_X1_28 dX1_laysCover_48 ?_
        refine br_iload_1 dX1_laysCover_51 ?_
        refine br_xl_2 (v := gd z) (by omega) rfl dX1_laysCover_52 ?_
        refine br_SF2 (ct_x_shortOf (by omega) (by omega)) lk_X1_91 ⟨Nat.le_of_ble_eq_true rfl, Nat.le_of_ble_eq_true rfl⟩ ⟨Nat.le_of_ble_eq_true rfl, Nat.le_of_ble_eq_true rfl⟩  (Nat.le_of_ble_eq_true rfl) dX1_laysCover_53 ?_
        refine br_topi (y := pos0 (r (4 + z) - (gd z))) rfl ?_
        refine br_iadd dX1_laysCover_56 ?_
        refine br_xp_X1_85 dX1_laysCover_57 ?_
        refine bk_V.world (w' := (xw o a (uF F 6 ((sumI (fun j => pos0 (neF r j - gd j)) z.toNat) + (pos0 (r (4 + z) - (gd z))))) (uG G 2 gd) bk b sa pa r P du hb ex)) (congrArg (fun F9 => (xw o a F9 (uG G 2 gd) bk b sa pa r P du hb ex)) (uF_uF _ _ _ _)) ?_
        refine br_iinc_1 dX1_laysCover_60 rfl ?_
        refine br_goto (tgt := 26) dX1_laysCover_63 (by decide) ?_
        refine bk_V.world (w' := (xw o a (uF F 6 (sumI (fun j => pos0 (neF r j - gd j)) (z + 1).toNat)) (uG G 2 gd) bk b sa pa r P du hb ex)) (by rw [sumI_step _ h1.1]; rfl) ?_
        exact ih26 _ (by omega) (by omega)
  exact lp26 _ _ (Nat.lt_succ_self _) (by omega)

theorem ct_x_trial {D : bk_D} {o : Nat} {a b sa pa : Nat → Nat} {F : Nat → Int} {G : Nat → Int → Int} {bk : Int → Option Nat} {r : Int → Int} {P : Nat → Int} {du : Int → Int} {hb : Nat → Option (Nat × bE)} {ex : gC} {tr : Nat} {k0 : Int} (hk : 0 ≤ k0 ∧ k0 < r 3) (hR : RW r) (hpl : xPl r P du) (hA : atOK r G) (hL : laidV r (F 6) (G 2)) : bk_K D yX8_init (.code yX8_init cX8_init 3 none) ({ frames := 3, cells := 0, slots := 0, locals := 68 }) [.ref tr, .ref o, .int (iI k0)] (xw o a F G bk b sa pa r P du hb (exU ex tr [.int 0, .int 0, .null])) (bk_pv fun w => ∃ (f6 : Int) (g2 : Int → Int), w = (xw o a (uF F 6 f6) (uG G 2 g2) bk b sa pa r P du hb (exT ex tr o k0 (rAt r k0 - 1))) ∧ laidV (putA r k0 0) f6 g2) bk_nox := by
  refine bk_ofV (own := "BreakSetter$Trial") (L0 := [some (.ref tr), some (.ref o), some (.int (iI k0))]) (by decide) rfl (Nat.le_of_ble_eq_true rfl) rfl bk_ov (fun Γ hct hret hthr => ?_)
  have hn := hR.n
  obtain ⟨⟨p0, p1, p2, p3⟩, hdu⟩ := id hpl
  have hax := hA k0 (by omega) (by omega)
  have hk1 := hR.pa2 hk
  have hk2 := hR.pa hk
  refine br_aload_0 dX8_init_0 ?_
  refine br_aload_1 dX8_init_1 ?_
  refine br_xpF_X8_3 (hct rfl) (Nat.le_of_ble_eq_true rfl) dX8_init_2 ?_
  refine bk_V.world (w' := (xw o a F G bk b sa pa r P du hb (exU ex tr [.int 0, .int 0, .ref o]))) rfl ?_
  refine br_aload_0 dX8_init_5 ?_
  refine br_obj0 q302 q117 q118 ⟨Nat.le_of_ble_eq_true rfl, Nat.le_of_ble_eq_true rfl⟩ (Nat.le_of_ble_eq_true rfl) dX8_init_6 ?_
  refine br_aload_0 dX8_init_9 ?_
  refine br_iload_2 dX8_init_10 ?_
  refine br_xpF_X8_15 (hct rfl) (Nat.le_of_ble_eq_true rfl) dX8_init_11 ?_
  refine bk_V.world (w' := (xw o a F G bk b sa pa r P du hb (exU ex tr [.int (iI k0), .int 0, .ref o]))) rfl ?_
  refine br_aload_0 dX8_init_14 ?_
  refine br_aload_1 dX8_init_15 ?_
  refine br_xg_X8_19 dX8_init_16 ?_
  refine br_iload_2 dX8_init_19 ?_
  refine br_xl_7 (v := G 7 k0) (by omega) rfl dX8_init_20 ?_
  refine br_xpF_X8_23 (hct rfl) (Nat.le_of_ble_eq_true rfl) dX8_init_21 ?_
  refine bk_V.world (w' := (xw o a F G bk b sa pa r P du hb (exU ex tr [.int (iI k0), .int (iI (G 7 k0)), .ref o]))) rfl ?_
  refine bk_V.world (w' := (xw o a F G bk b sa pa r P du hb (exT ex tr o k0 (G 7 k0)))) rfl ?_
  refine br_aload_0 dX8_init_24 ?_
  refine br_xg_X8_23 dX8_init_25 ?_
  refine br_iconst dX8_init_28 ?_
  refine br_icmp_eq (tgt := 42) dX8_init_29 (by decide) (by omega) (fun c29 => ?_) (fun c29 => ?_)
  · exact br_return dX8_init_42 (by decide) (by decide) (hret _ _ (⟨rfl, F 6, G 2, by rw [← hax, uF_self, uG_self], by rw [show (0 : Int) = rAt r k0 by omega, putA_self]; exact hL⟩))
  · refine br_aload_1 dX8_init_32 ?_
    refine br_iload_2 dX8_init_33 ?_
    refine br_aload_0 dX8_init_34 ?_
    refine br_xg_X8_23 dX8_init_35 ?_
    refine br_iconst dX8_init_38 ?_
    refine br_VNv3 (i := 0) (j := 0) (ct_x_shifts (k0 := k0) (t0 := G 7 k0) (bb := 1) (by omega) (by omega) (by omega) hR hpl (hL.fl hR (sameP.refl r)) (hL.bd hR)) lk_X8_26 ⟨Nat.le_of_ble_eq_true rfl, Nat.le_of_ble_eq_true rfl⟩ ⟨Nat.le_of_ble_eq_true rfl, Nat.le_of_ble_eq_true rfl⟩ rfl rfl (Nat.le_of_ble_eq_true rfl) dX8_init_39 (fun w_ hw_ => ?_)
    subst hw_
    have hL39 := laidV_take hL hR (sameP.refl r) (k := k0) (t0 := G 7 k0) (by omega) (by omega) (by omega)
    have hR39 : RW (putA r k0 0) := hR.mv (by omega) (Or.inl rfl)
    have hS39 : sameP r (putA r k0 0) := (sameP.refl r).put (by omega)
    obtain ⟨g39, hg39⟩ : ∃ g, g = addC (G 2) (48 * rP r (rOf r k0) + (G 7 k0)) (rLo r k0) 1 := ⟨_, rfl⟩
    rw [← hg39] at hL39
    obtain ⟨f39, hf39⟩ : ∃ f, f = flS (neF r) g39 := ⟨_, rfl⟩
    rw [← hf39] at hL39
    refine bk_V.world (w' := (xw o a (uF F 6 f39) (uG G 2 g39) bk b sa pa r P du hb (exT ex tr o k0 (G 7 k0)))) (by subst hf39; subst hg39; first | rfl | (rw [uF_uF]; rfl) | (rw [uG_uG]; rfl) | (rw [uF_uF, uG_uG]; rfl) | rw [uF_uF, uG_uG]) ?_
    exact br_return dX8_init_42 (by decide) (by decide) (hret _ _ (⟨rfl, f39, g39, by rw [← hax], hL39⟩))

theorem ct_x_by {D : bk_D} {o : Nat} {a b sa pa : Nat → Nat} {F : Nat → Int} {G : Nat → Int → Int} {bk : Int → Option Nat} {r : Int → Int} {P : Nat → Int} {du : Int → Int} {hb : Nat → Option (Nat × bE)} {ex : gC} {tr : Nat} {q t0 : Int} {k0 : Int} (hk : 0 ≤ k0 ∧ k0 < r 3) (hR : RW r) (hpl : xPl r P du) {ρ : Int → Int} (hρ : RW ρ) (hs : sameP r ρ) (hL : laidV ρ (F 6) (G 2)) (h0 : rAt ρ k0 = 0) (ht : rEa r k0 ≤ t0 ∧ t0 ≤ rLa r k0) : bk_K D yX8_by (.code yX8_by cX8_by 3 (some (FieldType.int))) ({ frames := 3, cells := 0, slots := 0, locals := 68 }) [.ref tr, .int (iI t0)] (xw o a F G bk b sa pa r P du hb (exT ex tr o k0 q)) (bk_pi fun v w => v = fallS (putA ρ k0 (t0 + 1)) ∧ ∃ (f6 : Int) (g2 : Int → Int), w = (xw o a (uF F 6 f6) (uG G 2 g2) bk b sa pa r P du hb (exT ex tr o k0 q)) ∧ laidV (ρ) f6 g2) bk_nox := by
  refine bk_ofV (own := "BreakSetter$Trial") (L0 := [some (.ref tr), some (.int (iI t0)), none]) (by decide) rfl (Nat.le_of_ble_eq_true rfl) rfl bk_oi (fun Γ hct hret hthr => ?_)
  have hn := hR.n
  obtain ⟨⟨p0, p1, p2, p3⟩, hdu⟩ := id hpl
  have hk1 := hR.pa2 hk
  have hk2 := (hR.pa hk).2.1
  have e3 : ρ 3 = r 3 := hs.lo (by omega)
  have e9 := hs.all k0
  refine br_aload_0 dX8_by_0 ?_
  refine br_xg_X8_3 dX8_by_1 ?_
  refine br_aload_0 dX8_by_4 ?_
  refine br_xg_X8_15 dX8_by_5 ?_
  refine br_iload_1 dX8_by_8 ?_
  refine br_iconst dX8_by_9 ?_
  refine br_VNv3 (i := 0) (j := 0) (ct_x_shifts (k0 := k0) (t0 := t0) (bb := (-1)) (by omega) (by omega) (by omega) hR hpl (hL.fl hρ hs) (hL.bd hρ)) lk_X8_26 ⟨Nat.le_of_ble_eq_true rfl, Nat.le_of_ble_eq_true rfl⟩ ⟨Nat.le_of_ble_eq_true rfl, Nat.le_of_ble_eq_true rfl⟩ rfl rfl (Nat.le_of_ble_eq_true rfl) dX8_by_10 (fun w_ hw_ => ?_)
  subst hw_
  have hL10 := laidV_put hL hρ hs (k := k0) (t0 := t0) (by omega) (by omega) (by omega)
  have hR10 : RW (putA (ρ) k0 (t0 + 1)) := hρ.mv (by omega) (Or.inr (by omega))
  have hS10 : sameP r (putA (ρ) k0 (t0 + 1)) := hs.put (by omega)
  obtain ⟨g10, hg10⟩ : ∃ g, g = addC (G 2) (48 * rP r (rOf r k0) + t0) (rLo r k0) (-1) := ⟨_, rfl⟩
  rw [← hg10] at hL10
  obtain ⟨f10, hf10⟩ : ∃ f, f = flS (neF r) g10 := ⟨_, rfl⟩
  rw [← hf10] at hL10
  refine bk_V.world (w' := (xw o a (uF F 6 f10) (uG G 2 g10) bk b sa pa r P du hb (exT ex tr o k0 q))) (by subst hf10; subst hg10; first | rfl | (rw [uF_uF]; rfl) | (rw [uG_uG]; rfl) | (rw [uF_uF, uG_uG]; rfl) | rw [uF_uF, uG_uG]) ?_
  refine br_aload_0 dX8_by_13 ?_
  refine br_xg_X8_3 dX8_by_14 ?_
  refine br_xg_X8_30 (v := f10) rfl dX8_by_17 ?_
  refine br_istore_2 dX8_by_20 rfl ?_
  refine br_aload_0 dX8_by_21 ?_
  refine br_xg_X8_3 dX8_by_22 ?_
  refine br_aload_0 dX8_by_25 ?_
  refine br_xg_X8_15 dX8_by_26 ?_
  refine br_iload_1 dX8_by_29 ?_
  refine br_iconst dX8_by_30 ?_
  have e10 : putA ρ k0 (t0 + 1) 3 = r 3 := (hs.put (by omega)).lo (by omega)
  refine br_VNv3 (i := 0) (j := 0) (ct_x_shifts (k0 := k0) (t0 := t0) (bb := 1) (by omega) (by omega) (by omega) hR hpl (hL10.fl hR10 hS10) (hL10.bd hR10)) lk_X8_26 ⟨Nat.le_of_ble_eq_true rfl, Nat.le_of_ble_eq_true rfl⟩ ⟨Nat.le_of_ble_eq_true rfl, Nat.le_of_ble_eq_true rfl⟩ rfl rfl (Nat.le_of_ble_eq_true rfl) dX8_by_31 (fun w_ hw_ => ?_)
  subst hw_
  have hL31 := laidV_take hL10 hR10 hS10 (k := k0) (t0 := t0) (by omega) (putA_At _ _ _) (by omega)
  have hR31 : RW (putA (putA (ρ) k0 (t0 + 1)) k0 0) := hR10.mv (by omega) (Or.inl rfl)
  have hS31 : sameP r (putA (putA (ρ) k0 (t0 + 1)) k0 0) := hS10.put (by omega)
  obtain ⟨g31, hg31⟩ : ∃ g, g = addC g10 (48 * rP r (rOf r k0) + t0) (rLo r k0) 1 := ⟨_, rfl⟩
  rw [← hg31] at hL31
  obtain ⟨f31, hf31⟩ : ∃ f, f = flS (neF r) g31 := ⟨_, rfl⟩
  rw [← hf31] at hL31
  refine bk_V.world (w' := (xw o a (uF F 6 f31) (uG G 2 g31) bk b sa pa r P du hb (exT ex tr o k0 q))) (by subst hf31; subst hg31; first | rfl | (rw [uF_uF]; rfl) | (rw [uG_uG]; rfl) | (rw [uF_uF, uG_uG]; rfl) | rw [uF_uF, uG_uG]) ?_
  refine br_iload_2 dX8_by_34 ?_
  exact br_ireturn dX8_by_35 (by decide) (by decide) (hret _ _ (⟨_, rfl, hL10.2, f31, g31, rfl, by rw [putA_putA, ← h0, putA_self] at hL31; exact hL31⟩))

theorem ct_x_close {D : bk_D} {o : Nat} {a b sa pa : Nat → Nat} {F : Nat → Int} {G : Nat → Int → Int} {bk : Int → Option Nat} {r : Int → Int} {P : Nat → Int} {du : Int → Int} {hb : Nat → Option (Nat × bE)} {ex : gC} {tr : Nat} {k0 : Int} (hk : 0 ≤ k0 ∧ k0 < r 3) (hR : RW r) (hpl : xPl r P du) (hA : atOK r G) (hL : laidV (putA r k0 0) (F 6) (G 2)) : bk_K D yX8_close (.code yX8_close cX8_close 1 none) ({ frames := 3, cells := 0, slots := 0, locals := 68 }) [.ref tr] (xw o a F G bk b sa pa r P du hb (exT ex tr o k0 (rAt r k0 - 1))) (bk_pv fun w => ∃ (f6 : Int) (g2 : Int → Int), w = (xw o a (uF F 6 f6) (uG G 2 g2) bk b sa pa r P du hb (exT ex tr o k0 (rAt r k0 - 1))) ∧ laidV r f6 g2) bk_nox := by
  refine bk_ofV (own := "BreakSetter$Trial") (L0 := [some (.ref tr)]) (by decide) rfl (Nat.le_of_ble_eq_true rfl) rfl bk_ov (fun Γ hct hret hthr => ?_)
  have hn := hR.n
  obtain ⟨⟨p0, p1, p2, p3⟩, hdu⟩ := id hpl
  have hk1 := hR.pa2 hk
  have hk2 := hR.pa hk
  have hz : rAt (putA r k0 0) k0 = 0 := putA_At _ _ _
  have e10 : putA r k0 0 3 = r 3 := putA_lo _ _ _ (by omega) (by omega)
  have e9 := ((sameP.refl r).put (k := k0) (v := 0) (by omega)).all k0
  refine br_aload_0 dX8_close_0 ?_
  refine br_xg_X8_23 dX8_close_1 ?_
  refine br_iconst dX8_close_4 ?_
  refine br_icmp_eq (tgt := 24) dX8_close_5 (by decide) (by omega) (fun c5 => ?_) (fun c5 => ?_)
  · exact br_return dX8_close_24 (by decide) (by decide) (hret _ _ (⟨rfl, F 6, G 2, by rw [uF_self, uG_self], by have hq : putA r k0 0 = r := (by rw [show (0 : Int) = rAt r k0 by omega, putA_self]); rw [hq] at hL; exact hL⟩))
  · refine br_aload_0 dX8_close_8 ?_
    refine br_xg_X8_3 dX8_close_9 ?_
    refine br_aload_0 dX8_close_12 ?_
    refine br_xg_X8_15 dX8_close_13 ?_
    refine br_aload_0 dX8_close_16 ?_
    refine br_xg_X8_23 dX8_close_17 ?_
    refine br_iconst dX8_close_20 ?_
    refine br_VNv3 (i := 0) (j := 0) (ct_x_shifts (k0 := k0) (t0 := rAt r k0 - 1) (bb := (-1)) (by omega) (by omega) (by omega) hR hpl (hL.fl (hR.mv hk (Or.inl rfl)) ((sameP.refl r).put (by omega))) (hL.bd (hR.mv hk (Or.inl rfl)))) lk_X8_26 ⟨Nat.le_of_ble_eq_true rfl, Nat.le_of_ble_eq_true rfl⟩ ⟨Nat.le_of_ble_eq_true rfl, Nat.le_of_ble_eq_true rfl⟩ rfl rfl (Nat.le_of_ble_eq_true rfl) dX8_close_21 (fun w_ hw_ => ?_)
    subst hw_
    have hL21 := laidV_put hL (hR.mv hk (Or.inl rfl)) ((sameP.refl r).put (by omega)) (k := k0) (t0 := rAt r k0 - 1) (by omega) (by omega) (by omega)
    have hR21 : RW (putA (putA r k0 0) k0 (rAt r k0 - 1 + 1)) := (hR.mv hk (Or.inl rfl)).mv (by omega) (Or.inr (by omega))
    have hS21 : sameP r (putA (putA r k0 0) k0 (rAt r k0 - 1 + 1)) := ((sameP.refl r).put (by omega)).put (by omega)
    obtain ⟨g21, hg21⟩ : ∃ g, g = addC (G 2) (48 * rP r (rOf r k0) + (rAt r k0 - 1)) (rLo r k0) (-1) := ⟨_, rfl⟩
    rw [← hg21] at hL21
    obtain ⟨f21, hf21⟩ : ∃ f, f = flS (neF r) g21 := ⟨_, rfl⟩
    rw [← hf21] at hL21
    refine bk_V.world (w' := (xw o a (uF F 6 f21) (uG G 2 g21) bk b sa pa r P du hb (exT ex tr o k0 (rAt r k0 - 1)))) (by subst hf21; subst hg21; first | rfl | (rw [uF_uF]; rfl) | (rw [uG_uG]; rfl) | (rw [uF_uF, uG_uG]; rfl) | rw [uF_uF, uG_uG]) ?_
    exact br_return dX8_close_24 (by decide) (by decide) (hret _ _ (⟨rfl, f21, g21, rfl, by rw [putA_putA, show rAt r k0 - 1 + 1 = rAt r k0 by omega, putA_self] at hL21; exact hL21⟩))

theorem xw_drop {Γ : bk_G} {D : bk_D} {R : Room} {own : String} {cc : ByteArray} {tb : List ExceptionTableEntry} {k n : Nat} {L : List (Option Value)} {st : List Value} {pc : Nat} {o : Nat} {a b sa pa : Nat → Nat} {F : Nat → Int} {G : Nat → Int → Int} {bk : Int → Option Nat} {r : Int → Int} {P : Nat → Int} {du : Int → Int} {hb : Nat → Option (Nat × bE)} {ex : gC} {tr o2 : Nat} {p q : Int} (h16 : ex 16 0 = none) (kk : bk_V Γ D R own cc tb k n (xw o a F G bk b sa pa r P du hb ex) L st pc) : bk_V Γ D R own cc tb k n (xw o a F G bk b sa pa r P du hb (exT ex tr o2 p q)) L st pc := by
  refine bk_V.sub (fun i j c h => ?_) kk
  unfold xw at h ⊢
  by_cases h1 : i < 8
  · rw [if_pos h1] at h ⊢; exact h
  · rw [if_neg h1] at h ⊢
    by_cases h2 : i < 15
    · rw [if_pos h2] at h ⊢; exact h
    · rw [if_neg h2] at h ⊢
      by_cases h3 : i = 15
      · rw [if_pos h3] at h ⊢; exact h
      · rw [if_neg h3] at h ⊢
        unfold exT gset
        by_cases h4 : i = 16 ∧ j = 0
        · rw [h4.1, h4.2, h16] at h; cases h
        · rw [if_neg h4]; exact h
theorem fsX8_ok : ∀ j, j < 3 → defaultValue (tyX8 j) = vp_V [Value.int 0, .int 0, .null] j := by
  intro j hj
  match j, hj with
  | 0, _ => rfl
  | 1, _ => rfl
  | 2, _ => rfl
  | j + 3, h => exact absurd h (by omega)
theorem ct_x_leastSlot {D : bk_D} {o : Nat} {a b sa pa : Nat → Nat} {F : Nat → Int} {G : Nat → Int → Int} {bk : Int → Option Nat} {r : Int → Int} {P : Nat → Int} {du : Int → Int} {hb : Nat → Option (Nat × bE)} {ex : gC} {tr : Nat} {q0 n0 : Int} {k0 : Int} (hk : 0 ≤ k0 ∧ k0 < r 3) (hn0 : -1 ≤ n0 ∧ n0 ≤ 47) (hR : RW r) (hpl : xPl r P du) (hA : atOK r G) (hL : laidV (putA r k0 0) (F 6) (G 2)) : bk_K D yX1_leastSlot (.code yX1_leastSlot cX1_leastSlot 6 (some (FieldType.int))) ({ frames := 4, cells := 0, slots := 0, locals := 90 }) [.ref o, .int (iI k0), .int (iI n0), .ref tr] (xw o a F G bk b sa pa r P du hb (exT ex tr o k0 q0)) (bk_pi fun v w => (isLs r k0 n0 v ∧ (v = -1 ∨ (rEa r k0 ≤ v ∧ v ≤ rLa r k0 ∧ fitsAt r k0 v))) ∧ ∃ (f6 : Int) (g2 : Int → Int), w = (xw o a (uF F 6 f6) (uG G 2 g2) bk b sa pa r P du hb (exT ex tr o k0 q0)) ∧ laidV (putA r k0 0) f6 g2) bk_nox := by
  refine bk_ofV (own := "BreakSetter") (L0 := [some (.ref o), some (.int (iI k0)), some (.int (iI n0)), some (.ref tr), none, none]) (by decide) rfl (Nat.le_of_ble_eq_true rfl) rfl bk_oi (fun Γ hct hret hthr => ?_)
  have hn := hR.n
  obtain ⟨⟨p0, p1, p2, p3⟩, hdu⟩ := id hpl
  have hk1 := hR.pa2 hk
  have hk2 := (hR.pa hk).2.1
  have hρ : RW (putA r k0 0) := hR.mv hk (Or.inl rfl)
  have hs : sameP r (putA r k0 0) := (sameP.refl r).put (by omega)
  have h00 : rAt (putA r k0 0) k0 = 0 := putA_At _ _ _
  have hsb := fun (u : Int) (q : inWin r k0 u) => scoreS_bd hR hk q
  refine br_iconst dX1_leastSlot_0 ?_
  refine br_istore_4 dX1_leastSlot_1 rfl ?_
  refine br_aload_0 dX1_leastSlot_3 ?_
  refine br_xg_X1_16 dX1_leastSlot_4 ?_
  refine br_xg_X1_98 dX1_leastSlot_7 ?_
  refine br_iload_1 dX1_leastSlot_10 ?_
  refine br_xl_pa (by omega) (by omega) dX1_leastSlot_11 ?_
  refine br_xg_X1_118 (by omega) (v := rEa r k0) rfl dX1_leastSlot_12 ?_
  refine br_istore_5 dX1_leastSlot_15 rfl ?_
  refine bk_V.world (w' := (xw o a (uF F 6 (F 6)) (uG G 2 (G 2)) bk b sa pa r P du hb (exT ex tr o k0 q0))) (by rw [uF_self, uG_self]) ?_
  have lp17 : ∀ (mm17 : Nat) (bs : Int) (t : Int) (f6 : Int) (g2 : Int → Int), (rLa r k0 + 1 - t).toNat < mm17 → (rEa r k0 ≤ t ∧ t ≤ rLa r k0 + 1) → (lsTo r k0 n0 t bs) → (laidV (putA r k0 0) f6 g2) → bk_V Γ D ({ frames := 4, cells := 0, slots := 0, locals := 90 }) "BreakSetter" cX1_leastSlot [] 0 0 (xw o a (uF F 6 f6) (uG G 2 g2) bk b sa pa r P du hb (exT ex tr o k0 q0)) [some (.ref o), some (.int (iI k0)), some (.int (iI n0)), some (.ref tr), some (.int (iI bs)), some (.int (iI t))] [] 17 := by
    intro mm17
    induction mm17 with
    | zero => intro bs t f6 g2 hm17; exact absurd hm17 (Nat.not_lt_zero _)
    | succ mm17 ih17 =>
      intro bs t f6 g2 hm17 h1 h2 hL0
      have hbd := lsTo_bd hR hk h2
      refine br_iload_5 dX1_leastSlot_17 ?_
      refine br_aload_0 dX1_leastSlot_19 ?_
      refine br_xg_X1_16 dX1_leastSlot_20 ?_
      refine br_xg_X1_98 dX1_leastSlot_23 ?_
      refine br_iload_1 dX1_leastSlot_26 ?_
      refine br_xl_pa (by omega) (by omega) dX1_leastSlot_27 ?_
      refine br_xg_X1_121 (by omega) (v := rLa r k0) rfl dX1_leastSlot_28 ?_
      refine br_icmp_gt (tgt := 81) dX1_leastSlot_31 (by decide) (by omega) (fun c31 => ?_) (fun c31 => ?_)
      · refine br_iload_4 dX1_leastSlot_81 ?_
        exact br_ireturn dX1_leastSlot_83 (by decide) (by decide) (hret _ _ (⟨_, rfl, ⟨lsTo_end h2 (by omega), hbd⟩, f6, g2, rfl, hL0⟩))
      · have hw := whyS_bd r k0 t
        refine br_iload_5 dX1_leastSlot_34 ?_
        refine br_iload_2 dX1_leastSlot_36 ?_
        refine br_icmp_eq (tgt := 75) dX1_leastSlot_37 (by decide) (by omega) (fun c37 => ?_) (fun c37 => ?_)
        · refine br_iinc_5 dX1_leastSlot_75 rfl ?_
          refine br_goto (tgt := 17) dX1_leastSlot_78 (by decide) ?_
          have hN9 : lsTo r k0 n0 (t + 1) bs := (by first | exact lsTo_skip h2 (fun q => by have := q.2; omega) | exact lsTo_skip h2 (fun q => by have := whyS_0 q.1; omega) | exact lsTo_worse h2 (by omega) (by rw [← e59, ← e65]; omega))
          exact ih17 _ _ _ _ (by omega) (by omega) hN9 hL0
        · refine br_aload_0 dX1_leastSlot_40 ?_
          refine br_iload_1 dX1_leastSlot_41 ?_
          refine br_iload_5 dX1_leastSlot_42 ?_
          refine br_VF2 (i := 0) (j := 0) (ct_x_whyNot (show 0 ≤ k0 ∧ k0 < r 3 from by omega) (by omega) hR hpl (show atOK r (uG G 2 g2) from hA)) lk_X1_128 ⟨Nat.le_of_ble_eq_true rfl, Nat.le_of_ble_eq_true rfl⟩ ⟨Nat.le_of_ble_eq_true rfl, Nat.le_of_ble_eq_true rfl⟩ rfl rfl (Nat.le_of_ble_eq_true rfl) dX1_leastSlot_44 ?_
          refine br_topi (y := whyS r k0 t) rfl ?_
          refine br_if_ne (tgt := 75) dX1_leastSlot_47 (by decide) (by omega) (fun c47 => ?_) (fun c47 => ?_)
          · refine br_iinc_5 dX1_leastSlot_75 rfl ?_
            refine br_goto (tgt := 17) dX1_leastSlot_78 (by decide) ?_
            have hN9 : lsTo r k0 n0 (t + 1) bs := (by first | exact lsTo_skip h2 (fun q => by have := q.2; omega) | exact lsTo_skip h2 (fun q => by have := whyS_0 q.1; omega) | exact lsTo_worse h2 (by omega) (by rw [← e59, ← e65]; omega))
            exact ih17 _ _ _ _ (by omega) (by omega) hN9 hL0
          · have hwt := whyS_fits.mp c47
            refine br_iload_4 dX1_leastSlot_50 ?_
            refine br_iconst dX1_leastSlot_52 ?_
            refine br_icmp_eq (tgt := 71) dX1_leastSlot_53 (by decide) (by omega) (fun c53 => ?_) (fun c53 => ?_)
            · refine br_iload_5 dX1_leastSlot_71 ?_
              refine br_istore_4 dX1_leastSlot_73 rfl ?_
              refine br_iinc_5 dX1_leastSlot_75 rfl ?_
              refine br_goto (tgt := 17) dX1_leastSlot_78 (by decide) ?_
              have hN9 : lsTo r k0 n0 (t + 1) t := (by first | exact lsTo_better h2 ⟨whyS_fits.mp (by omega), by omega⟩ (Or.inl (by omega)) (by omega) | exact lsTo_better h2 ⟨whyS_fits.mp (by omega), by omega⟩ (Or.inr (by rw [← e59, ← e65]; omega)) (by omega))
              exact ih17 _ _ _ _ (by omega) (by omega) hN9 hL0
            · have hbf := hbd.resolve_left c53
              refine br_aload_3 dX1_leastSlot_56 ?_
              refine br_iload_5 dX1_leastSlot_57 ?_
              refine br_Vi1 (i := 16) (j := 0) (ct_x_by (tr := tr) (k0 := k0) (t0 := t) (by omega) hR hpl hρ hs hL0 h00 (by omega)) lk_X1_131 ⟨Nat.le_of_ble_eq_true rfl, Nat.le_of_ble_eq_true rfl⟩ ⟨Nat.le_of_ble_eq_true rfl, Nat.le_of_ble_eq_true rfl⟩ rfl rfl (Nat.le_of_ble_eq_true rfl) dX1_leastSlot_59 (fun v59 w_ hw_ => ?_)
              obtain ⟨hv59, f59, g59, rfl, hL59⟩ := hw_
              refine bk_V.world (w' := (xw o a (uF F 6 f59) (uG G 2 g59) bk b sa pa r P du hb (exT ex tr o k0 q0))) (by rw [uF_uF, uG_uG]) ?_
              have e59 : v59 = scoreS r k0 t := by rw [hv59, putA_putA]; rfl
              have hs59 := hsb t ⟨by omega, by omega⟩
              refine br_aload_3 dX1_leastSlot_62 ?_
              refine br_iload_4 dX1_leastSlot_63 ?_
              refine br_Vi1 (i := 16) (j := 0) (ct_x_by (tr := tr) (k0 := k0) (t0 := bs) (by omega) hR hpl hρ hs hL59 h00 (by omega)) lk_X1_131 ⟨Nat.le_of_ble_eq_true rfl, Nat.le_of_ble_eq_true rfl⟩ ⟨Nat.le_of_ble_eq_true rfl, Nat.le_of_ble_eq_true rfl⟩ rfl rfl (Nat.le_of_ble_eq_true rfl) dX1_leastSlot_65 (fun v65 w_ hw_ => ?_)
              obtain ⟨hv65, f65, g65, rfl, hL65⟩ := hw_
              refine bk_V.world (w' := (xw o a (uF F 6 f65) (uG G 2 g65) bk b sa pa r P du hb (exT ex tr o k0 q0))) (by rw [uF_uF, uG_uG]) ?_
              have e65 : v65 = scoreS r k0 bs := by rw [hv65, putA_putA]; rfl
              have hs65 := hsb bs ⟨by omega, by omega⟩
              refine br_icmp_ge (tgt := 75) dX1_leastSlot_68 (by decide) (by omega) (fun c68 => ?_) (fun c68 => ?_)
              · refine br_iinc_5 dX1_leastSlot_75 rfl ?_
                refine br_goto (tgt := 17) dX1_leastSlot_78 (by decide) ?_
                have hN9 : lsTo r k0 n0 (t + 1) bs := (by first | exact lsTo_skip h2 (fun q => by have := q.2; omega) | exact lsTo_skip h2 (fun q => by have := whyS_0 q.1; omega) | exact lsTo_worse h2 (by omega) (by rw [← e59, ← e65]; omega))
                exact ih17 _ _ _ _ (by omega) (by omega) hN9 hL65
              · refine br_iload_5 dX1_leastSlot_71 ?_
                refine br_istore_4 dX1_leastSlot_73 rfl ?_
                refine br_iinc_5 dX1_leastSlot_75 rfl ?_
                refine br_goto (tgt := 17) dX1_leastSlot_78 (by decide) ?_
                have hN9 : lsTo r k0 n0 (t + 1) t := (by first | exact lsTo_better h2 ⟨whyS_fits.mp (by omega), by omega⟩ (Or.inl (by omega)) (by omega) | exact lsTo_better h2 ⟨whyS_fits.mp (by omega), by omega⟩ (Or.inr (by rw [← e59, ← e65]; omega)) (by omega))
                exact ih17 _ _ _ _ (by omega) (by omega) hN9 hL65
  exact lp17 _ _ _ _ _ (Nat.lt_succ_self _) (by omega) (lsTo_0 _ _ _) hL

theorem ct_x_bestOf {D : bk_D} {o : Nat} {a b sa pa : Nat → Nat} {F : Nat → Int} {G : Nat → Int → Int} {bk : Int → Option Nat} {r : Int → Int} {P : Nat → Int} {du : Int → Int} {hb : Nat → Option (Nat × bE)} {ex : gC} {k0 : Int} (hk : 0 ≤ k0 ∧ k0 < r 3) (hR : RW r) (hpl : xPl r P du) (hA : atOK r G) (hL : laidV r (F 6) (G 2)) (h16 : ex 16 0 = none) : bk_K D yX1_bestOf (.codeWith yX1_bestOf cX1_bestOf 5 (some (FieldType.int)) [(10, 18, 24, 184), (25, 29, 32, 184)]) ({ frames := 5, cells := 1, slots := 3, locals := 115 }) [.ref o, .int (iI k0)] (xw o a F G bk b sa pa r P du hb ex) (bk_pi fun v w => isLs r k0 (-1) v ∧ (v = -1 ∨ (0 ≤ v ∧ v ≤ 47)) ∧ ∃ (f6 : Int) (g2 : Int → Int), w = (xw o a (uF F 6 f6) (uG G 2 g2) bk b sa pa r P du hb ex) ∧ laidV r f6 g2) bk_nox := by
  refine bk_ofVW (own := "BreakSetter") (L0 := [some (.ref o), some (.int (iI k0)), none, none, none]) (by decide) rfl (Nat.le_of_ble_eq_true rfl) rfl bk_oi (fun Γ hct hret hthr => ?_)
  have hn := hR.n
  obtain ⟨⟨p0, p1, p2, p3⟩, hdu⟩ := id hpl
  have hk1 := hR.pa2 hk
  have hk2 := (hR.pa hk).2.1
  refine br_new (ci := 7) (fs := [.int 0, .int 0, .null]) 16 0 rfl in_X8 tyX8_ok q297 q298 q102 fsX8_ok (Nat.le_of_ble_eq_true rfl) (Nat.le_of_ble_eq_true rfl) dX1_bestOf_0 (fun tr => ?_)
  refine bk_V.world (w' := (xw o a F G bk b sa pa r P du hb (exU ex tr [.int 0, .int 0, .null]))) (xw_ex 16 0 (by decide) _) ?_
  refine br_dup dX1_bestOf_3 rfl ?_
  refine br_aload_0 dX1_bestOf_4 ?_
  refine br_iload_1 dX1_bestOf_5 ?_
  refine br_Iv2 (ct_x_trial (ex := ex) (tr := tr) (show 0 ≤ k0 ∧ k0 < r 3 from by omega) hR hpl hA hL) lk_X1_178 ⟨Nat.le_of_ble_eq_true rfl, Nat.le_of_ble_eq_true rfl⟩ ⟨Nat.le_of_ble_eq_true rfl, Nat.le_of_ble_eq_true rfl⟩  (Nat.le_of_ble_eq_true rfl) dX1_bestOf_6 (fun w_ hw_ => ?_)
  obtain ⟨f6, g6, rfl, hL6⟩ := hw_
  have hR6 : RW (putA r k0 0) := hR.mv (by omega) (Or.inl rfl)
  have hS6 : sameP r (putA r k0 0) := (sameP.refl r).put (by omega)
  have hz6 : rAt (putA r k0 0) k0 = 0 := putA_At _ _ _
  refine br_astore_2 dX1_bestOf_9 rfl ?_
  refine br_aload_0 dX1_bestOf_10 ?_
  refine br_iload_1 dX1_bestOf_11 ?_
  refine br_iconst dX1_bestOf_12 ?_
  refine br_aload_2 dX1_bestOf_13 ?_
  refine br_Vi3 (i := 0) (j := 0) (ct_x_leastSlot (tr := tr) (k0 := k0) (n0 := -1) (ex := ex) (by omega) (by omega) hR hpl (show atOK r (uG G 2 g6) from hA) hL6) lk_X1_190 ⟨Nat.le_of_ble_eq_true rfl, Nat.le_of_ble_eq_true rfl⟩ ⟨Nat.le_of_ble_eq_true rfl, Nat.le_of_ble_eq_true rfl⟩ rfl rfl (Nat.le_of_ble_eq_true rfl) dX1_bestOf_14 (fun v14 w_ hw_ => ?_)
  obtain ⟨hv14, f14, g14, rfl, hL14⟩ := hw_
  refine bk_V.world (w' := (xw o a (uF F 6 f14) (uG G 2 g14) bk b sa pa r P du hb (exT ex tr o k0 (rAt r k0 - 1)))) (by rw [uF_uF, uG_uG]) ?_
  refine br_istore_3 dX1_bestOf_17 rfl ?_
  refine br_aload_2 dX1_bestOf_18 ?_
  refine br_Vv0 (i := 16) (j := 0) (ct_x_close (tr := tr) (k0 := k0) (by omega) hR hpl (show atOK r (uG G 2 g14) from hA) hL14) lk_X1_181 ⟨Nat.le_of_ble_eq_true rfl, Nat.le_of_ble_eq_true rfl⟩ ⟨Nat.le_of_ble_eq_true rfl, Nat.le_of_ble_eq_true rfl⟩ rfl rfl (Nat.le_of_ble_eq_true rfl) dX1_bestOf_19 (fun w_ hw_ => ?_)
  obtain ⟨f19, g19, rfl, hL19⟩ := hw_
  refine bk_V.world (w' := (xw o a (uF F 6 f19) (uG G 2 g19) bk b sa pa r P du hb (exT ex tr o k0 (rAt r k0 - 1)))) (by rw [uF_uF, uG_uG]) ?_
  refine xw_drop h16 ?_
  refine br_iload_3 dX1_bestOf_22 ?_
  exact br_ireturn dX1_bestOf_23 (by decide) (by decide) (hret _ _ (⟨_, rfl, hv14.1, by have := hv14.2; omega, f19, g19, rfl, hL19⟩))

theorem ct_x_would {D : bk_D} {o : Nat} {a b sa pa : Nat → Nat} {F : Nat → Int} {G : Nat → Int → Int} {bk : Int → Option Nat} {r : Int → Int} {P : Nat → Int} {du : Int → Int} {hb : Nat → Option (Nat × bE)} {ex : gC} {s q : Int} (hs : -2147483648 ≤ s ∧ s < 2147483648) (hq : -2147483648 ≤ q ∧ q < 2147483648) (hR : RW r) (hpl : xPl r P du) (hA : atOK r G) (h16 : ex 16 0 = none) : bk_K D yX1_would (.codeWith yX1_would cX1_would 6 (some (FieldType.int)) [(25, 32, 39, 184), (41, 45, 48, 184)]) ({ frames := 4, cells := 1, slots := 3, locals := 100 }) [.ref o, .int (iI s), .int (iI q)] (xw o a F G bk b sa pa r P du hb ex) (bk_pi fun v w => v = wouldQ r s q ∧ ∃ (f6 : Int) (g2 : Int → Int), w = (xw o a (uF F 6 f6) (uG G 2 g2) bk b sa pa r P du hb ex)) bk_nox := by
  refine bk_ofVW (own := "BreakSetter") (L0 := [some (.ref o), some (.int (iI s)), some (.int (iI q)), none, none, none]) (by decide) rfl (Nat.le_of_ble_eq_true rfl) rfl bk_oi (fun Γ hct hret hthr => ?_)
  have hn := hR.n
  obtain ⟨⟨p0, p1, p2, p3⟩, hdu⟩ := id hpl
  have hw := whyS_bd r s q
  have hwq : whyQ r s q = 0 ↔ (0 ≤ s ∧ s < r 3) ∧ (0 ≤ q ∧ q ≤ 47) ∧ whyS r s q = 0 := by
    unfold whyQ
    split <;> omega
  have hwb : -1 ≤ whyQ r s q ∧ whyQ r s q ≤ 2 := by
    unfold whyQ
    split <;> omega
  refine br_aload_0 dX1_would_0 ?_
  refine br_iload_1 dX1_would_1 ?_
  refine br_iload_2 dX1_would_2 ?_
  refine br_VF2 (i := 0) (j := 0) (ct_x_why (by omega) (by omega) hR hpl hA) lk_X1_175 ⟨Nat.le_of_ble_eq_true rfl, Nat.le_of_ble_eq_true rfl⟩ ⟨Nat.le_of_ble_eq_true rfl, Nat.le_of_ble_eq_true rfl⟩ rfl rfl (Nat.le_of_ble_eq_true rfl) dX1_would_3 ?_
  refine br_if_eq (tgt := 11) dX1_would_6 (by decide) (by omega) (fun c6 => ?_) (fun c6 => ?_)
  · have hW := hwq.mp (by omega)
    have hfit := whyS_fits.mp hW.2.2
    have hpa := hR.pa2 hW.1
    have hin1 := hfit.1.1
    have hin2 := hfit.1.2
    have hlo := (hR.pa hW.1).2.1
    refine br_aload_0 dX1_would_11 ?_
    refine br_Vv0 (i := 0) (j := 0) (ct_x_laysCover hR hpl hA) lk_X1_143 ⟨Nat.le_of_ble_eq_true rfl, Nat.le_of_ble_eq_true rfl⟩ ⟨Nat.le_of_ble_eq_true rfl, Nat.le_of_ble_eq_true rfl⟩ rfl rfl (Nat.le_of_ble_eq_true rfl) dX1_would_12 (fun w_ hw_ => ?_)
    obtain ⟨f12, g12, rfl, hL12⟩ := hw_
    refine br_new (ci := 7) (fs := [.int 0, .int 0, .null]) 16 0 rfl in_X8 tyX8_ok q297 q298 q102 fsX8_ok (Nat.le_of_ble_eq_true rfl) (Nat.le_of_ble_eq_true rfl) dX1_would_15 (fun tr => ?_)
    refine bk_V.world (w' := (xw o a (uF F 6 f12) (uG G 2 g12) bk b sa pa r P du hb (exU ex tr [.int 0, .int 0, .null]))) (xw_ex 16 0 (by decide) _) ?_
    refine br_dup dX1_would_18 rfl ?_
    refine br_aload_0 dX1_would_19 ?_
    refine br_iload_1 dX1_would_20 ?_
    refine br_Iv2 (ct_x_trial (ex := ex) (tr := tr) (show 0 ≤ s ∧ s < r 3 from by omega) hR hpl (show atOK r (uG G 2 g12) from hA) hL12) lk_X1_178 ⟨Nat.le_of_ble_eq_true rfl, Nat.le_of_ble_eq_true rfl⟩ ⟨Nat.le_of_ble_eq_true rfl, Nat.le_of_ble_eq_true rfl⟩  (Nat.le_of_ble_eq_true rfl) dX1_would_21 (fun w_ hw_ => ?_)
    obtain ⟨f21, g21, rfl, hL21⟩ := hw_
    have hR21 : RW (putA r s 0) := hR.mv (by omega) (Or.inl rfl)
    have hS21 : sameP r (putA r s 0) := (sameP.refl r).put (by omega)
    have hz21 : rAt (putA r s 0) s = 0 := putA_At _ _ _
    refine bk_V.world (w' := (xw o a (uF F 6 f21) (uG G 2 g21) bk b sa pa r P du hb (exT ex tr o s (rAt r s - 1)))) (by first | rw [uF_uF, uG_uG] | rw [uF_uF] | rw [uG_uG]) ?_
    have h00 : rAt (putA r s 0) s = 0 := putA_At _ _ _
    refine br_astore_3 dX1_would_24 rfl ?_
    refine br_aload_3 dX1_would_25 ?_
    refine br_iload_2 dX1_would_26 ?_
    refine br_Vi1 (i := 16) (j := 0) (ct_x_by (tr := tr) (k0 := s) (t0 := q) (by omega) hR hpl hR21 hS21 hL21 h00 (by omega)) lk_X1_131 ⟨Nat.le_of_ble_eq_true rfl, Nat.le_of_ble_eq_true rfl⟩ ⟨Nat.le_of_ble_eq_true rfl, Nat.le_of_ble_eq_true rfl⟩ rfl rfl (Nat.le_of_ble_eq_true rfl) dX1_would_27 (fun v27 w_ hw_ => ?_)
    obtain ⟨hv27, f27, g27, rfl, hL27⟩ := hw_
    refine bk_V.world (w' := (xw o a (uF F 6 f27) (uG G 2 g27) bk b sa pa r P du hb (exT ex tr o s (rAt r s - 1)))) (by rw [uF_uF, uG_uG]) ?_
    refine br_istore_4 dX1_would_30 rfl ?_
    refine br_aload_3 dX1_would_32 ?_
    refine br_Vv0 (i := 16) (j := 0) (ct_x_close (tr := tr) (k0 := s) (by omega) hR hpl (show atOK r (uG G 2 g27) from hA) hL27) lk_X1_181 ⟨Nat.le_of_ble_eq_true rfl, Nat.le_of_ble_eq_true rfl⟩ ⟨Nat.le_of_ble_eq_true rfl, Nat.le_of_ble_eq_true rfl⟩ rfl rfl (Nat.le_of_ble_eq_true rfl) dX1_would_33 (fun w_ hw_ => ?_)
    obtain ⟨f33, g33, rfl, hL33⟩ := hw_
    refine bk_V.world (w' := (xw o a (uF F 6 f33) (uG G 2 g33) bk b sa pa r P du hb (exT ex tr o s (rAt r s - 1)))) (by rw [uF_uF, uG_uG]) ?_
    refine xw_drop h16 ?_
    refine br_iload_4 dX1_would_36 ?_
    exact br_ireturn dX1_would_38 (by decide) (by decide) (hret _ _ (⟨_, rfl, by rw [hv27, putA_putA]; unfold wouldQ; rw [if_pos (by omega)]; rfl, f33, g33, rfl⟩))
  · refine br_iconst dX1_would_9 ?_
    exact br_ireturn dX1_would_10 (by decide) (by decide) (hret _ _ (⟨_, rfl, by unfold wouldQ; rw [if_neg (by omega)], F 6, G 2, by rw [uF_self, uG_self]⟩))

theorem ct_x_best {D : bk_D} {o : Nat} {a b sa pa : Nat → Nat} {F : Nat → Int} {G : Nat → Int → Int} {bk : Int → Option Nat} {r : Int → Int} {P : Nat → Int} {du : Int → Int} {hb : Nat → Option (Nat × bE)} {ex : gC} {s : Int} (hs : -2147483648 ≤ s ∧ s < 2147483648) (hR : RW r) (hpl : xPl r P du) (hA : atOK r G) (h16 : ex 16 0 = none) : bk_K D yX1_best (.code yX1_best cX1_best 3 (some (FieldType.int))) ({ frames := 6, cells := 1, slots := 3, locals := 139 }) [.ref o, .int (iI s)] (xw o a F G bk b sa pa r P du hb ex) (bk_pi fun v w => bestQ r s v ∧ ∃ (f6 : Int) (g2 : Int → Int), w = (xw o a (uF F 6 f6) (uG G 2 g2) bk b sa pa r P du hb ex)) bk_nox := by
  refine bk_ofV (own := "BreakSetter") (L0 := [some (.ref o), some (.int (iI s)), none]) (by decide) rfl (Nat.le_of_ble_eq_true rfl) rfl bk_oi (fun Γ hct hret hthr => ?_)
  have hn := hR.n
  obtain ⟨⟨p0, p1, p2, p3⟩, hdu⟩ := id hpl
  refine br_aload_0 dX1_best_0 ?_
  refine br_iload_1 dX1_best_1 ?_
  refine br_VZ1 (i := 0) (j := 0) (ct_x_isPause (by omega) hR hpl hA) lk_X1_165 ⟨Nat.le_of_ble_eq_true rfl, Nat.le_of_ble_eq_true rfl⟩ ⟨Nat.le_of_ble_eq_true rfl, Nat.le_of_ble_eq_true rfl⟩ rfl rfl (Nat.le_of_ble_eq_true rfl) dX1_best_2 (fun c2 => ?_) (fun c2 => ?_)
  · refine br_if_ne (tgt := 10) dX1_best_5 (by decide) (by decide) (fun _ => ?_) (fun q => absurd q (by decide))
    have hpa := hR.pa2 (k := s) (by omega)
    refine br_aload_0 dX1_best_10 ?_
    refine br_Vv0 (i := 0) (j := 0) (ct_x_laysCover hR hpl hA) lk_X1_143 ⟨Nat.le_of_ble_eq_true rfl, Nat.le_of_ble_eq_true rfl⟩ ⟨Nat.le_of_ble_eq_true rfl, Nat.le_of_ble_eq_true rfl⟩ rfl rfl (Nat.le_of_ble_eq_true rfl) dX1_best_11 (fun w_ hw_ => ?_)
    obtain ⟨f11, g11, rfl, hL11⟩ := hw_
    refine br_aload_0 dX1_best_14 ?_
    refine br_iload_1 dX1_best_15 ?_
    refine br_Wi1 (i := 0) (j := 0) (ct_x_bestOf (k0 := s) (show 0 ≤ s ∧ s < r 3 from by omega) hR hpl (show atOK r (uG G 2 g11) from hA) hL11 h16) lk_X1_194 ⟨Nat.le_of_ble_eq_true rfl, Nat.le_of_ble_eq_true rfl⟩ ⟨Nat.le_of_ble_eq_true rfl, Nat.le_of_ble_eq_true rfl⟩ rfl rfl (Nat.le_of_ble_eq_true rfl) dX1_best_16 (fun v16 w_ hw_ => ?_)
    obtain ⟨hv16, hvb16, f16, g16, rfl, hL16⟩ := hw_
    refine bk_V.world (w' := (xw o a (uF F 6 f16) (uG G 2 g16) bk b sa pa r P du hb ex)) (by first | rw [uF_uF, uG_uG] | rw [uF_uF] | rw [uG_uG]) ?_
    have hb := isLs_best hpa.1.1 hv16
    refine br_istore_2 dX1_best_19 rfl ?_
    refine br_iload_2 dX1_best_20 ?_
    refine br_iconst dX1_best_21 ?_
    refine br_icmp_ne (tgt := 30) dX1_best_22 (by decide) (by omega) (fun c22 => ?_) (fun c22 => ?_)
    · refine br_iload_2 dX1_best_30 ?_
      exact br_ireturn dX1_best_31 (by decide) (by decide) (hret _ _ (⟨_, rfl, Or.inl ⟨by omega, (hb.resolve_left (fun q => by omega)).2.2⟩, f16, g16, rfl⟩))
    · refine br_bipush dX1_best_25 (by decide) ?_
      refine br_goto (tgt := 31) dX1_best_27 (by decide) ?_
      exact br_ireturn dX1_best_31 (by decide) (by decide) (hret _ _ (⟨_, rfl, Or.inl ⟨by omega, (hb.resolve_right (fun q => by omega)).2⟩, f16, g16, rfl⟩))
  · refine br_if_ne (tgt := 10) dX1_best_5 (by decide) (by decide) (fun q => absurd q (by decide)) (fun _ => ?_)
    refine br_iconst dX1_best_8 ?_
    exact br_ireturn dX1_best_9 (by decide) (by decide) (hret _ _ (⟨_, rfl, Or.inr ⟨by omega, rfl⟩, F 6, G 2, by rw [uF_self, uG_self]⟩))

theorem ct_x_betterNow {D : bk_D} {o : Nat} {a b sa pa : Nat → Nat} {F : Nat → Int} {G : Nat → Int → Int} {bk : Int → Option Nat} {r : Int → Int} {P : Nat → Int} {du : Int → Int} {hb : Nat → Option (Nat × bE)} {ex : gC} (hR : RW r) (hpl : xPl r P du) (hA : atOK r G) (h16 : ex 16 0 = none) : bk_K D yX1_betterNow (.codeWith yX1_betterNow cX1_betterNow 8 (some (FieldType.int)) [(53, 90, 117, 184), (98, 109, 117, 184), (119, 124, 127, 184)]) ({ frames := 5, cells := 24, slots := 72, locals := 115 }) [.ref o] (xw o a F G bk b sa pa r P du hb ex) (bk_pi fun v w => (isBetter r v ∧ -2 ≤ v ∧ v < 2400) ∧ ∃ (f6 : Int) (g2 : Int → Int), w = (xw o a (uF F 6 f6) (uG G 2 g2) bk b sa pa r P du hb ex) ∧ laidV r f6 g2) bk_nox := by
  refine bk_ofVW (own := "BreakSetter") (L0 := [some (.ref o), none, none, none, none, none, none, none]) (by decide) rfl (Nat.le_of_ble_eq_true rfl) rfl bk_oi (fun Γ hct hret hthr => ?_)
  have hn := hR.n
  obtain ⟨⟨p0, p1, p2, p3⟩, hdu⟩ := id hpl
  have hf := fallS_bd hR
  refine br_aload_0 dX1_betterNow_0 ?_
  refine br_Vv0 (i := 0) (j := 0) (ct_x_laysCover hR hpl hA) lk_X1_143 ⟨Nat.le_of_ble_eq_true rfl, Nat.le_of_ble_eq_true rfl⟩ ⟨Nat.le_of_ble_eq_true rfl, Nat.le_of_ble_eq_true rfl⟩ rfl rfl (Nat.le_of_ble_eq_true rfl) dX1_betterNow_1 (fun w_ hw_ => ?_)
  obtain ⟨f1, g1, rfl, hL1⟩ := hw_
  refine br_aload_0 dX1_betterNow_4 ?_
  refine br_xg_X1_85 (v := f1) rfl dX1_betterNow_5 ?_
  refine br_istore_1 dX1_betterNow_8 rfl ?_
  refine br_bipush dX1_betterNow_9 (by decide) ?_
  refine br_istore_2 dX1_betterNow_11 rfl ?_
  refine br_iconst dX1_betterNow_12 ?_
  refine br_istore_3 dX1_betterNow_13 rfl ?_
  refine bk_V.widen (k' := (0 : Int).toNat) (n' := 3 * (0 : Int).toNat) (by dsimp only; omega) (by dsimp only; omega) ?_
  have lp14 : ∀ (mm14 : Nat) (lv : Int) (bs : Int) (x : Int) (f6 : Int) (g2 : Int → Int), (r 3 - x).toNat < mm14 → (0 ≤ x ∧ x ≤ r 3) → (betTo r x (rEa r x) bs lv) → (laidV r f6 g2) → bk_V Γ D ({ frames := 5, cells := 24, slots := 72, locals := 115 }) "BreakSetter" cX1_betterNow (tableOf [(53, 90, 117, 184), (98, 109, 117, 184), (119, 124, 127, 184)]) x.toNat (3 * x.toNat) (xw o a (uF F 6 f6) (uG G 2 g2) bk b sa pa r P du hb ex) [some (.ref o), some (.int (iI lv)), some (.int (iI bs)), some (.int (iI x)), none, none, none, none] [] 14 := by
    intro mm14
    induction mm14 with
    | zero => intro lv bs x f6 g2 hm14; exact absurd hm14 (Nat.not_lt_zero _)
    | succ mm14 ih14 =>
      intro lv bs x f6 g2 hm14 h1 h2 hL0
      have hbd := betTo_bd hR h2
      refine br_iload_3 dX1_betterNow_14 ?_
      refine br_aload_0 dX1_betterNow_15 ?_
      refine br_xg_X1_16 dX1_betterNow_16 ?_
      refine br_xg_X1_67 (v := P 3) rfl dX1_betterNow_19 ?_
      refine br_icmp_ge (tgt := 145) dX1_betterNow_22 (by decide) (by omega) (fun c22 => ?_) (fun c22 => ?_)
      · refine br_iload_2 dX1_betterNow_145 ?_
        exact br_ireturn dX1_betterNow_146 (by dsimp only; omega) (by dsimp only; omega) (hret _ _ (⟨_, rfl, ⟨betTo_end h2 (by omega), by omega, by omega⟩, f6, g2, rfl, hL0⟩))
      · have hax := hA x (by omega) (by omega)
        have hk1 := hR.pa2 (k := x) (by omega)
        have hk2 := (hR.pa (k := x) (by omega)).2.1
        refine br_aload_0 dX1_betterNow_25 ?_
        refine br_xg_X1_24 dX1_betterNow_26 ?_
        refine br_iload_3 dX1_betterNow_29 ?_
        refine br_xl_7 (v := G 7 x) (by omega) rfl dX1_betterNow_30 ?_
        refine br_istore_4 dX1_betterNow_31 rfl ?_
        refine br_iload_4 dX1_betterNow_33 ?_
        refine br_iconst dX1_betterNow_35 ?_
        refine br_icmp_ne (tgt := 42) dX1_betterNow_36 (by decide) (by omega) (fun c36 => ?_) (fun c36 => ?_)
        · refine br_new (ci := 7) (fs := [.int 0, .int 0, .null]) 16 0 rfl in_X8 tyX8_ok q297 q298 q102 fsX8_ok (by dsimp only; omega) (by dsimp only; omega) dX1_betterNow_42 (fun tr => ?_)
          refine bk_V.world (w' := (xw o a (uF F 6 f6) (uG G 2 g2) bk b sa pa r P du hb (exU ex tr [.int 0, .int 0, .null]))) (xw_ex 16 0 (by decide) _) ?_
          refine br_dup dX1_betterNow_45 rfl ?_
          refine br_aload_0 dX1_betterNow_46 ?_
          refine br_iload_3 dX1_betterNow_47 ?_
          refine br_Iv2 (ct_x_trial (ex := ex) (tr := tr) (show 0 ≤ x ∧ x < r 3 from by omega) hR hpl (show atOK r (uG G 2 g2) from hA) hL0) lk_X1_178 ⟨Nat.le_of_ble_eq_true rfl, Nat.le_of_ble_eq_true rfl⟩ ⟨by dsimp only; omega, by dsimp only; omega⟩  (Nat.le_of_ble_eq_true rfl) dX1_betterNow_48 (fun w_ hw_ => ?_)
          obtain ⟨f48, g48, rfl, hL48⟩ := hw_
          have hR48 : RW (putA r x 0) := hR.mv (by omega) (Or.inl rfl)
          have hS48 : sameP r (putA r x 0) := (sameP.refl r).put (by omega)
          have hz48 : rAt (putA r x 0) x = 0 := putA_At _ _ _
          refine bk_V.world (w' := (xw o a (uF F 6 f48) (uG G 2 g48) bk b sa pa r P du hb (exT ex tr o x (rAt r x - 1)))) (by first | rw [uF_uF, uG_uG] | rw [uF_uF] | rw [uG_uG]) ?_
          have h00 : rAt (putA r x 0) x = 0 := putA_At _ _ _
          refine br_astore_5 dX1_betterNow_51 rfl ?_
          refine br_aload_0 dX1_betterNow_53 ?_
          refine br_iload_3 dX1_betterNow_54 ?_
          refine br_iload_4 dX1_betterNow_55 ?_
          refine br_aload_5 dX1_betterNow_57 ?_
          refine br_Vi3 (i := 0) (j := 0) (ct_x_leastSlot (tr := tr) (k0 := x) (n0 := G 7 x) (ex := ex) (by omega) (by omega) hR hpl (show atOK r (uG G 2 g48) from hA) hL48) lk_X1_190 ⟨Nat.le_of_ble_eq_true rfl, Nat.le_of_ble_eq_true rfl⟩ ⟨by dsimp only; omega, by dsimp only; omega⟩ rfl rfl (Nat.le_of_ble_eq_true rfl) dX1_betterNow_59 (fun v59 w_ hw_ => ?_)
          obtain ⟨hv59, f59, g59, rfl, hL59⟩ := hw_
          refine bk_V.world (w' := (xw o a (uF F 6 f59) (uG G 2 g59) bk b sa pa r P du hb (exT ex tr o x (rAt r x - 1)))) (by rw [uF_uF, uG_uG]) ?_
          refine br_istore_6 dX1_betterNow_62 rfl ?_
          refine br_iload_6 dX1_betterNow_64 ?_
          refine br_iconst dX1_betterNow_66 ?_
          refine br_icmp_ne (tgt := 75) dX1_betterNow_67 (by decide) (by omega) (fun c67 => ?_) (fun c67 => ?_)
          · obtain ⟨hfn, hall, hbef⟩ := hv59.1.resolve_left (fun q => by have := q.1; omega)
            have hvb := hv59.2.resolve_left c67
            refine br_aload_5 dX1_betterNow_75 ?_
            refine br_iload_6 dX1_betterNow_77 ?_
            refine br_Vi1 (i := 16) (j := 0) (ct_x_by (tr := tr) (k0 := x) (t0 := v59) (by omega) hR hpl hR48 hS48 hL59 h00 (by omega)) lk_X1_131 ⟨Nat.le_of_ble_eq_true rfl, Nat.le_of_ble_eq_true rfl⟩ ⟨by dsimp only; omega, by dsimp only; omega⟩ rfl rfl (Nat.le_of_ble_eq_true rfl) dX1_betterNow_79 (fun v79 w_ hw_ => ?_)
            obtain ⟨hv79, f79, g79, rfl, hL79⟩ := hw_
            refine bk_V.world (w' := (xw o a (uF F 6 f79) (uG G 2 g79) bk b sa pa r P du hb (exT ex tr o x (rAt r x - 1)))) (by rw [uF_uF, uG_uG]) ?_
            have e79 : v79 = scoreS r x v59 := by rw [hv79, putA_putA]; rfl
            have hsb := scoreS_bd hR (k := x) (t := v59) (by omega) hvb.2.2.1
            refine br_istore_7 dX1_betterNow_82 rfl ?_
            refine br_iload_7 dX1_betterNow_84 ?_
            refine br_iload_1 dX1_betterNow_86 ?_
            refine br_icmp_lt (tgt := 98) dX1_betterNow_87 (by decide) (by omega) (fun c87 => ?_) (fun c87 => ?_)
            · refine br_iload_7 dX1_betterNow_98 ?_
              refine br_istore_1 dX1_betterNow_100 rfl ?_
              refine br_bipush dX1_betterNow_101 (by decide) ?_
              refine br_iload_3 dX1_betterNow_103 ?_
              refine br_imul dX1_betterNow_104 ?_
              refine br_iload_6 dX1_betterNow_105 ?_
              refine br_iadd dX1_betterNow_107 ?_
              refine br_istore_2 dX1_betterNow_108 rfl ?_
              refine br_aload_5 dX1_betterNow_109 ?_
              refine br_Vv0 (i := 16) (j := 0) (ct_x_close (tr := tr) (k0 := x) (by omega) hR hpl (show atOK r (uG G 2 g79) from hA) hL79) lk_X1_181 ⟨Nat.le_of_ble_eq_true rfl, Nat.le_of_ble_eq_true rfl⟩ ⟨by dsimp only; omega, by dsimp only; omega⟩ rfl rfl (Nat.le_of_ble_eq_true rfl) dX1_betterNow_111 (fun w_ hw_ => ?_)
              obtain ⟨f111, g111, rfl, hL111⟩ := hw_
              refine bk_V.world (w' := (xw o a (uF F 6 f111) (uG G 2 g111) bk b sa pa r P du hb (exT ex tr o x (rAt r x - 1)))) (by rw [uF_uF, uG_uG]) ?_
              refine br_goto (tgt := 139) dX1_betterNow_114 (by decide) ?_
              refine xw_drop h16 ?_
              refine br_iinc_3 dX1_betterNow_139 rfl ?_
              refine br_goto (tgt := 14) dX1_betterNow_142 (by decide) ?_
              refine br_fg_4 ?_
              refine br_fg_5 ?_
              refine br_fg_6 ?_
              refine br_fg_7 ?_
              refine bk_V.widen (k' := (x + 1).toNat) (n' := 3 * (x + 1).toNat) (by first | omega | (dsimp only; omega)) (by first | omega | (dsimp only; omega)) ?_
              have hN9 : betTo r (x + 1) (rEa r (x + 1)) ((100 * x) + v59) v79 := by
                rw [e79]
                exact betTo_ltake h2 ⟨by omega, by omega, by have := hfn.2; omega, hfn.1⟩ (fun u hc => hall u ⟨hc.2.2.2, by have := hc.2.2.1; omega⟩) (fun u hu hc => hbef u hu ⟨hc.2.2.2, by have := hc.2.2.1; omega⟩) (by omega)
              exact ih14 _ _ _ _ _ (by omega) (by omega) hN9 hL111
            · refine br_aload_5 dX1_betterNow_90 ?_
              refine br_Vv0 (i := 16) (j := 0) (ct_x_close (tr := tr) (k0 := x) (by omega) hR hpl (show atOK r (uG G 2 g79) from hA) hL79) lk_X1_181 ⟨Nat.le_of_ble_eq_true rfl, Nat.le_of_ble_eq_true rfl⟩ ⟨by dsimp only; omega, by dsimp only; omega⟩ rfl rfl (Nat.le_of_ble_eq_true rfl) dX1_betterNow_92 (fun w_ hw_ => ?_)
              obtain ⟨f92, g92, rfl, hL92⟩ := hw_
              refine bk_V.world (w' := (xw o a (uF F 6 f92) (uG G 2 g92) bk b sa pa r P du hb (exT ex tr o x (rAt r x - 1)))) (by rw [uF_uF, uG_uG]) ?_
              refine br_goto (tgt := 139) dX1_betterNow_95 (by decide) ?_
              refine xw_drop h16 ?_
              refine br_iinc_3 dX1_betterNow_139 rfl ?_
              refine br_goto (tgt := 14) dX1_betterNow_142 (by decide) ?_
              refine br_fg_4 ?_
              refine br_fg_5 ?_
              refine br_fg_6 ?_
              refine br_fg_7 ?_
              refine bk_V.widen (k' := (x + 1).toNat) (n' := 3 * (x + 1).toNat) (by first | omega | (dsimp only; omega)) (by first | omega | (dsimp only; omega)) ?_
              have hN9 : betTo r (x + 1) (rEa r (x + 1)) bs lv := betTo_lskip h2 (fun u hc => by have := hall u ⟨hc.2.2.2, by have := hc.2.2.1; omega⟩; omega)
              exact ih14 _ _ _ _ _ (by omega) (by omega) hN9 hL92
          · have hnone := (hv59.1.resolve_right (fun q => by have := q.1.1.1.1; omega)).2
            refine br_ldc (z := 1000000) q958 (by decide) dX1_betterNow_70 ?_
            refine br_goto (tgt := 82) dX1_betterNow_72 (by decide) ?_
            refine br_istore_7 dX1_betterNow_82 rfl ?_
            refine br_iload_7 dX1_betterNow_84 ?_
            refine br_iload_1 dX1_betterNow_86 ?_
            refine br_icmp_lt (tgt := 98) dX1_betterNow_87 (by decide) (by omega) (fun q => absurd q (by omega)) (fun c87 => ?_)
            refine br_aload_5 dX1_betterNow_90 ?_
            refine br_Vv0 (i := 16) (j := 0) (ct_x_close (tr := tr) (k0 := x) (by omega) hR hpl (show atOK r (uG G 2 g59) from hA) hL59) lk_X1_181 ⟨Nat.le_of_ble_eq_true rfl, Nat.le_of_ble_eq_true rfl⟩ ⟨by dsimp only; omega, by dsimp only; omega⟩ rfl rfl (Nat.le_of_ble_eq_true rfl) dX1_betterNow_92 (fun w_ hw_ => ?_)
            obtain ⟨f92, g92, rfl, hL92⟩ := hw_
            refine bk_V.world (w' := (xw o a (uF F 6 f92) (uG G 2 g92) bk b sa pa r P du hb (exT ex tr o x (rAt r x - 1)))) (by rw [uF_uF, uG_uG]) ?_
            refine br_goto (tgt := 139) dX1_betterNow_95 (by decide) ?_
            refine xw_drop h16 ?_
            refine br_iinc_3 dX1_betterNow_139 rfl ?_
            refine br_goto (tgt := 14) dX1_betterNow_142 (by decide) ?_
            refine br_fg_4 ?_
            refine br_fg_5 ?_
            refine br_fg_6 ?_
            refine br_fg_7 ?_
            refine bk_V.widen (k' := (x + 1).toNat) (n' := 3 * (x + 1).toNat) (by first | omega | (dsimp only; omega)) (by first | omega | (dsimp only; omega)) ?_
            have hN9 : betTo r (x + 1) (rEa r (x + 1)) bs lv := betTo_lskip h2 (fun u hc => absurd ⟨hc.2.2.2, by have := hc.2.2.1; omega⟩ (hnone u))
            exact ih14 _ _ _ _ _ (by omega) (by omega) hN9 hL92
        · refine br_goto (tgt := 139) dX1_betterNow_39 (by decide) ?_
          refine br_iinc_3 dX1_betterNow_139 rfl ?_
          refine br_goto (tgt := 14) dX1_betterNow_142 (by decide) ?_
          refine br_fg_4 ?_
          refine bk_V.widen (k' := (x + 1).toNat) (n' := 3 * (x + 1).toNat) (by first | omega | (dsimp only; omega)) (by first | omega | (dsimp only; omega)) ?_
          have hN9 : betTo r (x + 1) (rEa r (x + 1)) bs lv := betTo_lskip h2 (fun u hc => absurd (show rAt r x = 0 from by omega) hc.2.1)
          exact ih14 _ _ _ _ _ (by omega) (by omega) hN9 hL0
  exact lp14 _ _ _ _ _ _ (Nat.lt_succ_self _) (by omega) (by rw [hL1.2]; exact betTo_0) hL1

theorem ct_x_better {D : bk_D} {o : Nat} {a b sa pa : Nat → Nat} {F : Nat → Int} {G : Nat → Int → Int} {bk : Int → Option Nat} {r : Int → Int} {P : Nat → Int} {du : Int → Int} {hb : Nat → Option (Nat × bE)} {ex : gC} (hR : RW r) (hpl : xPl r P du) (hA : atOK r G) (h16 : ex 16 0 = none) : bk_K D yX1_better (.code yX1_better cX1_better 1 (some (FieldType.int))) ({ frames := 6, cells := 24, slots := 72, locals := 142 }) [.ref o] (xw o a F G bk b sa pa r P du hb ex) (bk_pi fun v w => isBetter r v ∧ ∃ (f6 : Int) (g2 : Int → Int), w = (xw o a (uF F 6 f6) (uG G 2 g2) bk b sa pa r P du hb ex)) bk_nox := by
  refine bk_ofV (own := "BreakSetter") (L0 := [some (.ref o)]) (by decide) rfl (Nat.le_of_ble_eq_true rfl) rfl bk_oi (fun Γ hct hret hthr => ?_)
  refine br_aload_0 dX1_better_0 ?_
  refine br_Wi0 (i := 0) (j := 0) (ct_x_betterNow hR hpl hA h16) lk_X1_198 ⟨Nat.le_of_ble_eq_true rfl, Nat.le_of_ble_eq_true rfl⟩ ⟨Nat.le_of_ble_eq_true rfl, Nat.le_of_ble_eq_true rfl⟩ rfl rfl (Nat.le_of_ble_eq_true rfl) dX1_better_1 (fun v1 w_ hw_ => ?_)
  obtain ⟨hv1, f1, g1, rfl, hL1⟩ := hw_
  exact br_ireturn dX1_better_4 (by decide) (by decide) (hret _ _ (⟨_, rfl, hv1.1, f1, g1, rfl⟩))

