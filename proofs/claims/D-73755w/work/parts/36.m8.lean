/-! MODEL: text -/
set_option maxRecDepth 100000
theorem ct_m_text {D : bk_D} {o : Nat} {a : Nat → Nat} {ex : gC} {r : Int → Int} {um : Int} {hist : Int → Int → Int} {T : Int → Int} {n flt th : Int} {w : gC} (h : MS o a ex r um hist T n flt th w) (hTb : ∀ z : Int, 0 ≤ z → z < n → 0 ≤ T z ∧ T z < 256) : bk_K D yX3_text (.code yX3_text cX3_text 2 (some (FieldType.int))) ({ frames := 7, cells := 0, slots := 0, locals := 153 }) [.ref o] w (bk_pi fun v w' => (∃ (r2 : Int → Int) (l2 : Int), textF T n = .ok (r2, l2) ∧ v = l2 ∧ RP 10 r2 ∧ (0 ≤ l2 ∧ l2 ≤ 30) ∧ MS o a ex r2 0 hist T 0 0 0 w') ∨ (∃ k p : Int, textF T n = .error (k, p) ∧ v = -1 - p ∧ MS o a ex r um hist T 0 k 0 w')) bk_nox := by
  obtain ⟨F, wd, G, rfl, rfl, rfl, rfl, rfl, rfl, hs, htp, hu, hln⟩ := h
  obtain ⟨n, hn⟩ : ∃ n, n = F 2 := ⟨_, rfl⟩
  rw [← hn] at hTb htp ⊢
  refine bk_ofV (own := "BreakSetterModel") (L0 := [some (.ref o), none]) (by decide) rfl (Nat.le_of_ble_eq_true rfl) rfl bk_oi (fun Γ hct hret hthr => ?_)
  refine br_aload_0 dX3_text_0 ?_
  refine br_iconst dX3_text_1 ?_
  refine br_mp_0 dX3_text_2 ?_
  refine br_aload_0 dX3_text_5 ?_
  refine br_aload_0 dX3_text_6 ?_
  refine br_mg_2 (v := F 2) rfl dX3_text_7 ?_
  refine br_mp_3 dX3_text_10 ?_
  refine br_aload_0 dX3_text_13 ?_
  refine br_iconst dX3_text_14 ?_
  refine br_mp_2 dX3_text_15 ?_
  refine br_aload_0 dX3_text_18 ?_
  refine br_iconst dX3_text_19 ?_
  refine br_mp_8 dX3_text_20 ?_
  refine br_aload_0 dX3_text_23 ?_
  refine br_iconst dX3_text_24 ?_
  refine br_mp_4 dX3_text_25 ?_
  refine br_aload_0 dX3_text_28 ?_
  refine br_iconst dX3_text_29 ?_
  refine br_mp_16 dX3_text_30 ?_
  refine br_aload_0 dX3_text_33 ?_
  refine br_iconst dX3_text_34 ?_
  refine br_mp_17 dX3_text_35 ?_
  refine br_iconst dX3_text_38 ?_
  refine br_istore_1 dX3_text_39 rfl ?_
  refine bk_V.world (w' := (mw o a (uF (uF (uF (uF (uF (uF (uF F 0 0) 3 (F 2)) 2 0) 8 0) 4 0) 16 0) 17 0) wd (uG G 3 (G 3)) ex)) (by rw [uG_self]) ?_
  have lp40 : ∀ (mm40 : Nat) (g : Int → Int) (z : Int), (308 - z).toNat < mm40 → (0 ≤ z ∧ z ≤ 308) → (∀ y : Int, 0 ≤ y → y < z → g y = 0) → bk_V Γ D ({ frames := 7, cells := 0, slots := 0, locals := 153 }) "BreakSetterModel" cX3_text [] 0 0 (mw o a (uF (uF (uF (uF (uF (uF (uF F 0 0) 3 (F 2)) 2 0) 8 0) 4 0) 16 0) 17 0) wd (uG G 3 g) ex) [some (.ref o), some (.int (iI z))] [] 40 := by
    intro mm40
    induction mm40 with
    | zero => intro g z hm40; exact absurd hm40 (Nat.not_lt_zero _)
    | succ mm40 ih40 =>
      intro g z hm40 h1 h2
      refine br_iload_1 dX3_text_40 ?_
      refine br_sipush dX3_text_41 (by decide) ?_
      refine br_icmp_ge (tgt := 60) dX3_text_44 (by decide) (by omega) (fun c44 => ?_) (fun c44 => ?_)
      · refine br_mext 3 308 rfl (mw_G3 (fun _ => 0)) (fun y q1 q2 => h2 y q1 (by omega)) ?_
        refine bk_V.world (w' := (mw o a (uF (uF (uF (uF (uF (uF (uF F 0 0) 3 (F 2)) 2 0) 8 0) 4 0) 16 0) 17 0) wd (uG G 3 (fun _ => 0)) ex)) (congrArg (fun G9 => mw o a (uF (uF (uF (uF (uF (uF (uF F 0 0) 3 (F 2)) 2 0) 8 0) 4 0) 16 0) 17 0) wd G9 ex) (uG_uG _ _ _ _)) ?_
        have hT : mT T (G 1) n := ⟨fun y q1 q2 => ⟨htp y q1 q2, hTb y q1 q2⟩, by rw [hn]; exact hln⟩
        refine br_aload_0 dX3_text_60 ?_
        refine br_Vv0 (i := 40) (j := 0) (ct_m_go (G := uG G 3 (fun _ => 0)) (T := T) (n := n) hT (show F 2 = n from by omega) (show (0 : Int) ≤ 0 ∧ (0 : Int) ≤ n from by omega)) lk_X3_109 ⟨Nat.le_of_ble_eq_true rfl, Nat.le_of_ble_eq_true rfl⟩ ⟨Nat.le_of_ble_eq_true rfl, Nat.le_of_ble_eq_true rfl⟩ rfl rfl (Nat.le_of_ble_eq_true rfl) dX3_text_61 (fun w_ hw_ => ?_)
        obtain ⟨F61, wd61, rfl, hk_, hp_⟩ := hw_
        obtain ⟨t61, ht61⟩ : ∃ t, t = tokF T n 0 := ⟨_, rfl⟩
        have hk61 : mTk T n F61 wd61 t61 := by
          have q : mTk T n F61 wd61 (tokF T n (0)) := hk_
          rw [← ht61] at q
          exact q
        have k610 : F61 0 = 0 := hp_.1
        have k612 : F61 2 = 0 := hp_.2.1
        have k613 : F61 3 = F 2 := hp_.2.2.1
        have k618 : F61 8 = 0 := hp_.2.2.2.1
        have k619 : F61 9 = F 9 := hp_.2.2.2.2.1
        have k6114 : F61 14 = F 14 := hp_.2.2.2.2.2.1
        have k6116 : F61 16 = 0 := hp_.2.2.2.2.2.2.1
        have k6117 : F61 17 = 0 := hp_.2.2.2.2.2.2.2.1
        obtain ⟨m6, m5, m4, m3, m2, ms, mf, me⟩ := id hk61
        refine br_aload_0 dX3_text_64 ?_
        refine br_Vi0 (i := 40) (j := 0) (ct_m_readWhole (G := G) (T := T) (n := n) (x0 := 0) (x2 := 0) (x14 := F 14) (tk := t61) (r := fun _ => 0) (nd := 0) (ln := 0) hT ⟨_, _, rfl, hk61, (show F61 0 = 0 from by omega), (show F61 2 = 0 from by omega), (show F61 3 = n from by omega), (show F61 14 = F 14 from by omega), (show F61 16 = 0 from by omega), (show F61 17 = 0 from by omega), (show F61 8 = 0 from by omega)⟩ rfl ⟨rfl, rfl⟩) lk_X3_149 ⟨Nat.le_of_ble_eq_true rfl, Nat.le_of_ble_eq_true rfl⟩ ⟨Nat.le_of_ble_eq_true rfl, Nat.le_of_ble_eq_true rfl⟩ rfl rfl (Nat.le_of_ble_eq_true rfl) dX3_text_65 (fun v65 w_ hw_ => ?_)
        rcases hw_ with ⟨rfl, r65, l65, ⟨F65, wd65, rfl, hp_⟩, hRP_, hl_, hE_⟩ | ⟨rfl, k65, p65, hp_, hE_⟩
        · skip
          have e17 : F65 17 = l65 := hp_.2.2.2.1
          have EF8 : F65 8 = 0 := hp_.2.2.2.2
          have e0 : F65 0 = 0 := hp_.1
          have e2 : F65 2 = 0 := hp_.2.1
          have e14 : F65 14 = F 14 := hp_.2.2.1
          refine br_if_ne (tgt := 78) dX3_text_68 (by decide) (by decide) (fun _ => ?_) (fun q => absurd q (by decide))
          refine br_iconst dX3_text_78 ?_
          refine br_istore_1 dX3_text_79 rfl ?_
          refine bk_V.world (w' := (mw o a F65 wd65 (uG (uG G 3 r65) 2 (G 2)) ex)) (congrArg (fun G9 => mw o a F65 wd65 G9 ex) (uG_same rfl)) ?_
          have lp80 : ∀ (mm80 : Nat) (g : Int → Int) (z : Int), (308 - z).toNat < mm80 → (0 ≤ z ∧ z ≤ 308) → (∀ y : Int, 0 ≤ y → y < z → g y = r65 y) → bk_V Γ D ({ frames := 7, cells := 0, slots := 0, locals := 153 }) "BreakSetterModel" cX3_text [] 0 0 (mw o a F65 wd65 (uG (uG G 3 r65) 2 g) ex) [some (.ref o), some (.int (iI z))] [] 80 := by
            intro mm80
            induction mm80 with
            | zero => intro g z hm80; exact absurd hm80 (Nat.not_lt_zero _)
            | succ mm80 ih80 =>
              intro g z hm80 h1 h3
              refine br_iload_1 dX3_text_80 ?_
              refine br_sipush dX3_text_81 (by decide) ?_
              refine br_icmp_ge (tgt := 105) dX3_text_84 (by decide) (by omega) (fun c84 => ?_) (fun c84 => ?_)
              · refine br_mext2 (f' := r65) (fun y q1 q2 => h3 y q1 (by omega)) ?_
                refine bk_V.world (w' := (mw o a F65 wd65 (uG (uG G 3 r65) 2 r65) ex)) (congrArg (fun G9 => mw o a F65 wd65 G9 ex) (uG_uG _ _ _ _)) ?_
                refine br_aload_0 dX3_text_105 ?_
                refine br_iconst dX3_text_106 ?_
                refine br_mp_14 dX3_text_107 ?_
                refine br_aload_0 dX3_text_110 ?_
                refine br_mg_17 (v := F65 17) rfl dX3_text_111 ?_
                exact br_ireturn dX3_text_114 (by decide) (by decide) (hret _ _ (⟨_, rfl, Or.inl ⟨r65, l65, by unfold textF; rw [← ht61]; exact hE_, e17, hRP_, hl_, _, _, _, rfl, rfl, rfl, e2, EF8, e0, fun i j q1 q2 => absurd q2 (by omega), fun y q1 q2 => absurd q2 (by omega), by omega, by omega⟩⟩))
              · refine br_aload_0 dX3_text_87 ?_
                refine br_mg_11 dX3_text_88 ?_
                refine br_iload_1 dX3_text_91 ?_
                refine br_aload_0 dX3_text_92 ?_
                refine br_mg_12 dX3_text_93 ?_
                refine br_iload_1 dX3_text_96 ?_
                refine br_ml_3 (v := r65 z) (by omega) rfl dX3_text_97 ?_
                refine br_ms_2 (by omega) dX3_text_98 ?_
                refine bk_V.world (w' := (mw o a F65 wd65 (uG (uG G 3 r65) 2 (uI g z (r65 z))) ex)) (congrArg (fun G9 => mw o a F65 wd65 G9 ex) (uG_uG _ _ _ _)) ?_
                refine br_iinc_1 dX3_text_99 rfl ?_
                refine br_goto (tgt := 80) dX3_text_102 (by decide) ?_
                exact ih80 _ _ (by omega) (by omega) (fun y q1 q2 => by
  by_cases e : y = z
  · subst e; exact uI_eq _ _ _
  · rw [uI_ne _ _ e]; exact h3 y q1 (by omega))
          exact lp80 _ _ _ (Nat.lt_succ_self _) (by omega) (fun y _ _ => by omega)
        · skip
          obtain ⟨F65, wd65, g65, rfl, e8_, e9_, e0, e2, e14⟩ := hp_
          refine br_if_ne (tgt := 78) dX3_text_68 (by decide) (by decide) (fun q => absurd q (by decide)) (fun _ => ?_)
          refine br_iconst dX3_text_71 ?_
          refine br_aload_0 dX3_text_72 ?_
          refine br_mg_9 (v := F65 9) rfl dX3_text_73 ?_
          refine br_isub dX3_text_76 ?_
          exact br_ireturn dX3_text_77 (by decide) (by decide) (hret _ _ (⟨_, by rw [e9_], Or.inr ⟨k65, p65, by unfold textF; rw [← ht61]; exact hE_, rfl, _, _, _, rfl, rfl, e14, e2, e8_, e0, hs, fun y q1 q2 => absurd q2 (by omega), hu, by omega⟩⟩))
      · refine br_aload_0 dX3_text_47 ?_
        refine br_mg_12 dX3_text_48 ?_
        refine br_iload_1 dX3_text_51 ?_
        refine br_iconst dX3_text_52 ?_
        refine br_ms_3 (by omega) dX3_text_53 ?_
        refine bk_V.world (w' := (mw o a (uF (uF (uF (uF (uF (uF (uF F 0 0) 3 (F 2)) 2 0) 8 0) 4 0) 16 0) 17 0) wd (uG G 3 (uI g z 0)) ex)) (congrArg (fun G9 => mw o a (uF (uF (uF (uF (uF (uF (uF F 0 0) 3 (F 2)) 2 0) 8 0) 4 0) 16 0) 17 0) wd G9 ex) (uG_uG _ _ _ _)) ?_
        refine br_iinc_1 dX3_text_54 rfl ?_
        refine br_goto (tgt := 40) dX3_text_57 (by decide) ?_
        exact ih40 _ _ (by omega) (by omega) (fun y q1 q2 => by
  by_cases e : y = z
  · subst e; exact uI_eq _ _ _
  · rw [uI_ne _ _ e]; exact h2 y q1 (by omega))
  exact lp40 _ _ _ (Nat.lt_succ_self _) (by omega) (fun y _ _ => by omega)

