/-! MODEL: lines -/
set_option maxRecDepth 100000
theorem ct_m_two {D : bk_D} {w : gC} {u v1 : Int} (hu : -2147483648 ≤ u ∧ u < 2147483648) (hv1 : -2147483648 ≤ v1 ∧ v1 < 2147483648) : bk_K D yX3_two (.code yX3_two cX3_two 2 (some (FieldType.long))) ({ frames := 0, cells := 0, slots := 0, locals := 0 }) [.int (iI u), .int (iI v1)] w (bk_pl fun v w2 => v = 27 * (u - 96) + v1 - 96 ∧ w2 = w) bk_nox := by
  refine bk_ofV (own := "BreakSetterModel") (L0 := [some (.int (iI u)), some (.int (iI v1))]) (by decide) rfl (Nat.le_of_ble_eq_true rfl) rfl bk_ol (fun Γ hct hret hthr => ?_)
  refine br_ldc2 (z := 27) q1386 (by decide) dX3_two_0 ?_
  refine br_iload_0 dX3_two_3 ?_
  refine br_i2l dX3_two_4 (by omega) ?_
  refine br_ldc2 (z := 96) q1387 (by decide) dX3_two_5 ?_
  refine br_lsub dX3_two_8 ?_
  refine br_lmul dX3_two_9 ?_
  refine br_iload_1 dX3_two_10 ?_
  refine br_i2l dX3_two_11 (by omega) ?_
  refine br_ladd dX3_two_12 ?_
  refine br_ldc2 (z := 96) q1387 (by decide) dX3_two_13 ?_
  refine br_lsub dX3_two_16 ?_
  exact br_lreturn dX3_two_17 (by decide) (by decide) (hret _ _ (⟨_, rfl, rfl, rfl⟩))

theorem ct_m_four {D : bk_D} {w : gC} {u v1 v2 v3 : Int} (hu : -2147483648 ≤ u ∧ u < 2147483648) (hv1 : -2147483648 ≤ v1 ∧ v1 < 2147483648) (hv2 : -2147483648 ≤ v2 ∧ v2 < 2147483648) (hv3 : -2147483648 ≤ v3 ∧ v3 < 2147483648) : bk_K D yX3_four (.code yX3_four cX3_four 4 (some (FieldType.long))) ({ frames := 1, cells := 0, slots := 0, locals := 21 }) [.int (iI u), .int (iI v1), .int (iI v2), .int (iI v3)] w (bk_pl fun v w2 => v = h4W u v1 v2 v3 ∧ w2 = w) bk_nox := by
  refine bk_ofV (own := "BreakSetterModel") (L0 := [some (.int (iI u)), some (.int (iI v1)), some (.int (iI v2)), some (.int (iI v3))]) (by decide) rfl (Nat.le_of_ble_eq_true rfl) rfl bk_ol (fun Γ hct hret hthr => ?_)
  refine br_ldc2 (z := 729) q1402 (by decide) dX3_four_0 ?_
  refine br_iload_0 dX3_four_3 ?_
  refine br_iload_1 dX3_four_4 ?_
  refine br_Sl2 (ct_m_two (by omega) (by omega)) lk_X3_54 ⟨Nat.le_of_ble_eq_true rfl, Nat.le_of_ble_eq_true rfl⟩ ⟨Nat.le_of_ble_eq_true rfl, Nat.le_of_ble_eq_true rfl⟩  (Nat.le_of_ble_eq_true rfl) dX3_four_5 (fun v5 w_ hw_ => ?_)
  obtain ⟨rfl, rfl⟩ := hw_
  refine br_lmul dX3_four_8 ?_
  refine br_iload_2 dX3_four_9 ?_
  refine br_iload_3 dX3_four_10 ?_
  refine br_Sl2 (ct_m_two (by omega) (by omega)) lk_X3_54 ⟨Nat.le_of_ble_eq_true rfl, Nat.le_of_ble_eq_true rfl⟩ ⟨Nat.le_of_ble_eq_true rfl, Nat.le_of_ble_eq_true rfl⟩  (Nat.le_of_ble_eq_true rfl) dX3_four_11 (fun v11 w_ hw_ => ?_)
  obtain ⟨rfl, rfl⟩ := hw_
  refine br_ladd dX3_four_14 ?_
  exact br_lreturn dX3_four_15 (by decide) (by decide) (hret _ _ (⟨_, rfl, rfl, rfl⟩))

theorem ct_m_five {D : bk_D} {w : gC} {u v1 v2 v3 v4 : Int} (hu : -2147483648 ≤ u ∧ u < 2147483648) (hv1 : -2147483648 ≤ v1 ∧ v1 < 2147483648) (hv2 : -2147483648 ≤ v2 ∧ v2 < 2147483648) (hv3 : -2147483648 ≤ v3 ∧ v3 < 2147483648) (hv4 : -2147483648 ≤ v4 ∧ v4 < 2147483648) : bk_K D yX3_five (.code yX3_five cX3_five 5 (some (FieldType.long))) ({ frames := 2, cells := 0, slots := 0, locals := 44 }) [.int (iI u), .int (iI v1), .int (iI v2), .int (iI v3), .int (iI v4)] w (bk_pl fun v w2 => v = h5W u v1 v2 v3 v4 ∧ w2 = w) bk_nox := by
  refine bk_ofV (own := "BreakSetterModel") (L0 := [some (.int (iI u)), some (.int (iI v1)), some (.int (iI v2)), some (.int (iI v3)), some (.int (iI v4))]) (by decide) rfl (Nat.le_of_ble_eq_true rfl) rfl bk_ol (fun Γ hct hret hthr => ?_)
  refine br_ldc2 (z := 27) q1386 (by decide) dX3_five_0 ?_
  refine br_iload_0 dX3_five_3 ?_
  refine br_iload_1 dX3_five_4 ?_
  refine br_iload_2 dX3_five_5 ?_
  refine br_iload_3 dX3_five_6 ?_
  refine br_Sl4 (ct_m_four (by omega) (by omega) (by omega) (by omega)) lk_X3_58 ⟨Nat.le_of_ble_eq_true rfl, Nat.le_of_ble_eq_true rfl⟩ ⟨Nat.le_of_ble_eq_true rfl, Nat.le_of_ble_eq_true rfl⟩  (Nat.le_of_ble_eq_true rfl) dX3_five_7 (fun v7 w_ hw_ => ?_)
  obtain ⟨rfl, rfl⟩ := hw_
  refine br_lmul dX3_five_10 ?_
  refine br_iload_4 dX3_five_11 ?_
  refine br_i2l dX3_five_13 (by omega) ?_
  refine br_ladd dX3_five_14 ?_
  refine br_ldc2 (z := 96) q1387 (by decide) dX3_five_15 ?_
  refine br_lsub dX3_five_18 ?_
  exact br_lreturn dX3_five_19 (by decide) (by decide) (hret _ _ (⟨_, rfl, rfl, rfl⟩))

theorem ct_m_isWord {D : bk_D} {o : Nat} {a : Nat → Nat} {F : Nat → Int} {wd : Int} {G : Nat → Int → Int} {ex : gC} {Q : Prop} {v : Int} (hq : Q ↔ (F 6 = 2 ∧ wd = v)) (h6 : 0 ≤ F 6 ∧ F 6 ≤ 4) (hb : F 6 = 2 → 0 ≤ wd ∧ wd ≤ 1000000000) (hv : 0 ≤ v ∧ v ≤ 1000000000) : bk_K D yX3_isWord (.code yX3_isWord cX3_isWord 3 (some (FieldType.boolean))) ({ frames := 0, cells := 0, slots := 0, locals := 0 }) [.ref o, .long (jL v)] (mw o a F wd G ex) (bk_pz Q (mw o a F wd G ex)) bk_nox := by
  refine bk_ofV (own := "BreakSetterModel") (L0 := [some (.ref o), some (.long (jL v)), none]) (by decide) rfl (Nat.le_of_ble_eq_true rfl) rfl bk_ozz (fun Γ hct hret hthr => ?_)
  refine br_aload_0 dX3_isWord_0 ?_
  refine br_mg_6 (v := F 6) rfl dX3_isWord_1 ?_
  refine br_iconst dX3_isWord_4 ?_
  refine br_icmp_ne (tgt := 21) dX3_isWord_5 (by decide) (by omega) (fun c5 => ?_) (fun c5 => ?_)
  · refine br_iconst dX3_isWord_21 ?_
    exact br_ireturn dX3_isWord_22 (by decide) (by decide) (hret _ _ (bk_z0 (by rw [hq]; omega)))
  · have hb2 := hb c5
    refine br_aload_0 dX3_isWord_8 ?_
    refine br_mg_10 dX3_isWord_9 ?_
    refine br_lload_1 dX3_isWord_12 ?_
    refine br_lcmp dX3_isWord_13 (by omega) (by omega) (fun z13 hz13 hc13 => ?_)
    refine br_if_ne (tgt := 21) dX3_isWord_14 (by decide) (by omega) (fun c14 => ?_) (fun c14 => ?_)
    · refine br_iconst dX3_isWord_21 ?_
      exact br_ireturn dX3_isWord_22 (by decide) (by decide) (hret _ _ (bk_z0 (by rw [hq]; omega)))
    · refine br_iconst dX3_isWord_17 ?_
      refine br_goto (tgt := 22) dX3_isWord_18 (by decide) ?_
      exact br_ireturn dX3_isWord_22 (by decide) (by decide) (hret _ _ (bk_z1 (by rw [hq]; omega)))

theorem ct_m_bad {D : bk_D} {o : Nat} {a : Nat → Nat} {F : Nat → Int} {wd : Int} {G : Nat → Int → Int} {ex : gC} {u : Int} (h6 : 0 ≤ F 6 ∧ F 6 ≤ 4) : bk_K D yX3_bad (.code yX3_bad cX3_bad 2 (some (FieldType.boolean))) ({ frames := 0, cells := 0, slots := 0, locals := 0 }) [.ref o, .int (iI u)] (mw o a F wd G ex) (bk_pi fun v w => v = 0 ∧ ∃ kd : Int, ((F 6 = 1 ∧ kd = 1) ∨ (¬ F 6 = 1 ∧ kd = u)) ∧ w = mw o a (uF (uF F 8 kd) 9 (F 5)) wd G ex) bk_nox := by
  refine bk_ofV (own := "BreakSetterModel") (L0 := [some (.ref o), some (.int (iI u))]) (by decide) rfl (Nat.le_of_ble_eq_true rfl) rfl (bk_oz (by rintro r w h; exact Or.inl h.1)) (fun Γ hct hret hthr => ?_)
  refine br_aload_0 dX3_bad_0 ?_
  refine br_aload_0 dX3_bad_1 ?_
  refine br_mg_6 (v := F 6) rfl dX3_bad_2 ?_
  refine br_iconst dX3_bad_5 ?_
  refine br_icmp_ne (tgt := 13) dX3_bad_6 (by decide) (by omega) (fun c6 => ?_) (fun c6 => ?_)
  · refine br_iload_1 dX3_bad_13 ?_
    refine br_mp_8 dX3_bad_14 ?_
    refine br_aload_0 dX3_bad_17 ?_
    refine br_aload_0 dX3_bad_18 ?_
    refine br_mg_5 (v := F 5) rfl dX3_bad_19 ?_
    refine br_mp_9 dX3_bad_22 ?_
    refine br_iconst dX3_bad_25 ?_
    exact br_ireturn dX3_bad_26 (by decide) (by decide) (hret _ _ (⟨_, rfl, rfl, _, Or.inr ⟨by omega, rfl⟩, rfl⟩))
  · refine br_iconst dX3_bad_9 ?_
    refine br_goto (tgt := 14) dX3_bad_10 (by decide) ?_
    refine br_mp_8 dX3_bad_14 ?_
    refine br_aload_0 dX3_bad_17 ?_
    refine br_aload_0 dX3_bad_18 ?_
    refine br_mg_5 (v := F 5) rfl dX3_bad_19 ?_
    refine br_mp_9 dX3_bad_22 ?_
    refine br_iconst dX3_bad_25 ?_
    exact br_ireturn dX3_bad_26 (by decide) (by decide) (hret _ _ (⟨_, rfl, rfl, _, Or.inl ⟨by omega, rfl⟩, rfl⟩))

theorem ct_m_takes {D : bk_D} {o : Nat} {a : Nat → Nat} {F : Nat → Int} {wd : Int} {G : Nat → Int → Int} {ex : gC} {T : Int → Int} {n : Int} {tk : Tk} (hT : mT T (G 1) n) (hn : F 3 = n) (hk : mTk T n F wd tk) {lo hi : Int} (hlo : -2147483648 ≤ lo ∧ lo < 2147483648) (hhi : -2147483648 ≤ hi ∧ hi < 2147483648) : bk_K D yX3_takes (.code yX3_takes cX3_takes 3 (some (FieldType.boolean))) ({ frames := 2, cells := 0, slots := 0, locals := 45 }) [.ref o, .int (iI lo), .int (iI hi)] (mw o a F wd G ex) (bk_pi fun v w => (v = 1 ∧ (tk.s = 3 ∧ lo ≤ tk.v ∧ tk.v ≤ hi) ∧ ∃ (F' : Nat → Int) (wd' : Int), w = mw o a F' wd' G ex ∧ mTk T n F' wd' (tokF T n tk.e) ∧ mKq F F' ∧ F' 15 = tk.v) ∨ (v = 0 ∧ ∃ kd : Int, (∀ K, numK T n lo hi tk K = .error (kd, tk.f)) ∧ ∃ F' : Nat → Int, w = mw o a F' wd G ex ∧ F' 8 = kd ∧ F' 9 = tk.f ∧ F' 0 = F 0 ∧ F' 2 = F 2 ∧ F' 14 = F 14)) bk_nox := by
  refine bk_ofV (own := "BreakSetterModel") (L0 := [some (.ref o), some (.int (iI lo)), some (.int (iI hi))]) (by decide) rfl (Nat.le_of_ble_eq_true rfl) rfl (bk_oz (by rintro r w (h | h); exact Or.inr h.1; exact Or.inl h.1)) (fun Γ hct hret hthr => ?_)
  obtain ⟨m6, m5, m4, m3, m2, ms, mf, me⟩ := id hk
  refine br_aload_0 dX3_takes_0 ?_
  refine br_mg_6 (v := F 6) rfl dX3_takes_1 ?_
  refine br_iconst dX3_takes_4 ?_
  refine br_icmp_eq (tgt := 14) dX3_takes_5 (by decide) (by omega) (fun c5 => ?_) (fun c5 => ?_)
  · have m7 := m3 (by omega)
    refine br_aload_0 dX3_takes_14 ?_
    refine br_mg_7 (v := F 7) rfl dX3_takes_15 ?_
    refine br_iload_1 dX3_takes_18 ?_
    refine br_iload_2 dX3_takes_19 ?_
    refine br_SZ3 (ct_m_isIn (by omega)) lk_X3_102 ⟨Nat.le_of_ble_eq_true rfl, Nat.le_of_ble_eq_true rfl⟩ ⟨Nat.le_of_ble_eq_true rfl, Nat.le_of_ble_eq_true rfl⟩  (Nat.le_of_ble_eq_true rfl) dX3_takes_20 (fun c20 => ?_) (fun c20 => ?_)
    · refine br_if_ne (tgt := 32) dX3_takes_23 (by decide) (by decide) (fun _ => ?_) (fun q => absurd q (by decide))
      refine br_aload_0 dX3_takes_32 ?_
      refine br_aload_0 dX3_takes_33 ?_
      refine br_mg_7 (v := F 7) rfl dX3_takes_34 ?_
      refine br_mp_15 dX3_takes_37 ?_
      refine br_aload_0 dX3_takes_40 ?_
      refine br_Vv0 (i := 40) (j := 0) (ct_m_go (G := G) (T := T) (n := n) hT (show F 3 = n from by omega) (show 0 ≤ F 4 ∧ F 4 ≤ n from by omega)) lk_X3_109 ⟨Nat.le_of_ble_eq_true rfl, Nat.le_of_ble_eq_true rfl⟩ ⟨Nat.le_of_ble_eq_true rfl, Nat.le_of_ble_eq_true rfl⟩ rfl rfl (Nat.le_of_ble_eq_true rfl) dX3_takes_41 (fun w_ hw_ => ?_)
      obtain ⟨F41, wd41, rfl, hk_, hp_⟩ := hw_
      obtain ⟨t41, ht41⟩ : ∃ t, t = tokF T n tk.e := ⟨_, rfl⟩
      have hk41 : mTk T n F41 wd41 t41 := by
        have q : mTk T n F41 wd41 (tokF T n (F 4)) := hk_
        rw [m4, ← ht41] at q
        exact q
      obtain ⟨k410, k412, k413, k418, k419, k4114, k4116, k4117⟩ : mKq F F41 := ⟨hp_.1, hp_.2.1, hp_.2.2.1, hp_.2.2.2.1, hp_.2.2.2.2.1, hp_.2.2.2.2.2.1, hp_.2.2.2.2.2.2.1, hp_.2.2.2.2.2.2.2.1⟩
      have k4115 : F41 15 = F 7 := hp_.2.2.2.2.2.2.2.2
      obtain ⟨m6, m5, m4, m3, m2, ms, mf, me⟩ := id hk41
      have hg : F41 15 = tk.v := k4115.trans m7.1
      refine br_iconst dX3_takes_44 ?_
      exact br_ireturn dX3_takes_45 (by decide) (by decide) (hret _ _ (⟨_, rfl, Or.inl ⟨rfl, ⟨by omega, by omega, by omega⟩, _, _, rfl, by rw [← ht41]; exact hk41, ⟨k410, k412, k413, k418, k419, k4114, k4116, k4117⟩, hg⟩⟩))
    · refine br_if_ne (tgt := 32) dX3_takes_23 (by decide) (by decide) (fun q => absurd q (by decide)) (fun _ => ?_)
      refine br_aload_0 dX3_takes_26 ?_
      refine br_iconst dX3_takes_27 ?_
      refine br_Vi1 (i := 40) (j := 0) (ct_m_bad (by omega)) lk_X3_99 ⟨Nat.le_of_ble_eq_true rfl, Nat.le_of_ble_eq_true rfl⟩ ⟨Nat.le_of_ble_eq_true rfl, Nat.le_of_ble_eq_true rfl⟩ rfl rfl (Nat.le_of_ble_eq_true rfl) dX3_takes_28 (fun v28 w_ hw_ => ?_)
      obtain ⟨rfl, kd28, hkd28, rfl⟩ := hw_
      exact br_ireturn dX3_takes_31 (by decide) (by decide) (hret _ _ (⟨_, rfl, Or.inr ⟨rfl, 2, fun K => numK_2 (by omega) (by omega) K, _, rfl, (show kd28 = 2 from by omega), m5, rfl, rfl, rfl⟩⟩))
  · refine br_aload_0 dX3_takes_8 ?_
    refine br_iconst dX3_takes_9 ?_
    refine br_Vi1 (i := 40) (j := 0) (ct_m_bad (by omega)) lk_X3_99 ⟨Nat.le_of_ble_eq_true rfl, Nat.le_of_ble_eq_true rfl⟩ ⟨Nat.le_of_ble_eq_true rfl, Nat.le_of_ble_eq_true rfl⟩ rfl rfl (Nat.le_of_ble_eq_true rfl) dX3_takes_10 (fun v10 w_ hw_ => ?_)
    obtain ⟨rfl, kd10, hkd10, rfl⟩ := hw_
    exact br_ireturn dX3_takes_13 (by decide) (by decide) (hret _ _ (⟨_, rfl, Or.inr ⟨rfl, 1, fun K => numK_1 (by omega) K, _, rfl, (show kd10 = 1 from by omega), m5, rfl, rfl, rfl⟩⟩))

theorem ct_m_told {D : bk_D} {o : Nat} {a : Nat → Nat} {F : Nat → Int} {wd : Int} {G : Nat → Int → Int} {ex : gC} {T : Int → Int} {n : Int} {tk : Tk} (hT : mT T (G 1) n) (hn : F 3 = n) (hk : mTk T n F wd tk) {p : Int} (hp : 0 ≤ p ∧ p < 308) {lo hi : Int} (hlo : -2147483648 ≤ lo ∧ lo < 2147483648) (hhi : -2147483648 ≤ hi ∧ hi < 2147483648) : bk_K D yX3_told (.code yX3_told cX3_told 4 (some (FieldType.boolean))) ({ frames := 3, cells := 0, slots := 0, locals := 67 }) [.ref o, .int (iI p), .int (iI lo), .int (iI hi)] (mw o a F wd G ex) (bk_pi fun v w => (v = 1 ∧ (tk.s = 3 ∧ lo ≤ tk.v ∧ tk.v ≤ hi) ∧ ∃ (F' : Nat → Int) (wd' : Int), w = mw o a F' wd' (uG G 3 (uI (G 3) p tk.v)) ex ∧ mTk T n F' wd' (tokF T n tk.e) ∧ mKq F F') ∨ (v = 0 ∧ ∃ kd : Int, (∀ K, numK T n lo hi tk K = .error (kd, tk.f)) ∧ ∃ F' : Nat → Int, w = mw o a F' wd G ex ∧ F' 8 = kd ∧ F' 9 = tk.f ∧ F' 0 = F 0 ∧ F' 2 = F 2 ∧ F' 14 = F 14)) bk_nox := by
  refine bk_ofV (own := "BreakSetterModel") (L0 := [some (.ref o), some (.int (iI p)), some (.int (iI lo)), some (.int (iI hi))]) (by decide) rfl (Nat.le_of_ble_eq_true rfl) rfl (bk_oz (by rintro r w (h | h); exact Or.inr h.1; exact Or.inl h.1)) (fun Γ hct hret hthr => ?_)
  obtain ⟨m6, m5, m4, m3, m2, ms, mf, me⟩ := id hk
  refine br_aload_0 dX3_told_0 ?_
  refine br_iload_2 dX3_told_1 ?_
  refine br_iload_3 dX3_told_2 ?_
  refine br_Vi2 (i := 40) (j := 0) (ct_m_takes (G := G) (T := T) (n := n) hT (show F 3 = n from by omega) hk (by omega) (by omega)) lk_X3_112 ⟨Nat.le_of_ble_eq_true rfl, Nat.le_of_ble_eq_true rfl⟩ ⟨Nat.le_of_ble_eq_true rfl, Nat.le_of_ble_eq_true rfl⟩ rfl rfl (Nat.le_of_ble_eq_true rfl) dX3_told_3 (fun v3 w_ hw_ => ?_)
  rcases hw_ with ⟨rfl, q3, F3, wd3, rfl, hk3, hp_, hg3⟩ | ⟨rfl, kd3, hK_, F3, rfl, e8_, e9_, hp_⟩
  · skip
    obtain ⟨t3, ht3⟩ : ∃ t, t = tokF T n tk.e := ⟨_, rfl⟩
    rw [← ht3] at hk3
    obtain ⟨k30, k32, k33, k38, k39, k314, k316, k317⟩ : mKq F F3 := hp_
    obtain ⟨m6, m5, m4, m3, m2, ms, mf, me⟩ := id hk3
    have vb3 := q3.2
    refine br_if_ne (tgt := 11) dX3_told_6 (by decide) (by decide) (fun _ => ?_) (fun q => absurd q (by decide))
    refine br_aload_0 dX3_told_11 ?_
    refine br_mg_12 dX3_told_12 ?_
    refine br_iload_1 dX3_told_15 ?_
    refine br_aload_0 dX3_told_16 ?_
    refine br_mg_15 (v := F3 15) rfl dX3_told_17 ?_
    refine br_ms_3 (by omega) dX3_told_20 ?_
    refine br_iconst dX3_told_21 ?_
    exact br_ireturn dX3_told_22 (by decide) (by decide) (hret _ _ (⟨_, rfl, Or.inl ⟨rfl, q3, _, _, by rw [hg3], by rw [← ht3]; exact hk3, k30, k32, k33, k38, k39, k314, k316, k317⟩⟩))
  · skip
    obtain ⟨k30, k32, k314⟩ : F3 0 = F 0 ∧ F3 2 = F 2 ∧ F3 14 = F 14 := hp_
    refine br_if_ne (tgt := 11) dX3_told_6 (by decide) (by decide) (fun q => absurd q (by decide)) (fun _ => ?_)
    refine br_iconst dX3_told_9 ?_
    exact br_ireturn dX3_told_10 (by decide) (by decide) (hret _ _ (⟨_, rfl, Or.inr ⟨rfl, kd3, hK_, _, rfl, e8_, e9_, k30, k32, k314⟩⟩))

theorem ct_m_readEnd {D : bk_D} {o : Nat} {a : Nat → Nat} {G : Nat → Int → Int} {ex : gC} {T : Int → Int} {n x0 x2 x14 : Int} {tk : Tk} {r : Int → Int} {nd ln : Int} {w : gC} (hT : mT T (G 1) n) (h : PSt o a G ex T n x0 x2 x14 tk r nd ln w)  : bk_K D yX3_readEnd (.code yX3_readEnd cX3_readEnd 1 (some (FieldType.boolean))) ({ frames := 2, cells := 0, slots := 0, locals := 45 }) [.ref o] w (bk_pi fun v w2 => (v = 1 ∧ tk.s = 4 ∧ PSt o a G ex T n x0 x2 x14 (tokF T n tk.e) r nd ln w2) ∨ (v = 0 ∧ ¬ tk.s = 4 ∧ PErr o a G ex x0 x2 x14 1 tk.f w2)) bk_nox := by
  obtain ⟨F, wd, rfl, hk, e0, e2, e3, e14, e16, e17⟩ := h
  obtain ⟨m6, m5, m4, m3, m2, ms, mf, me⟩ := id hk
  refine bk_ofV (own := "BreakSetterModel") (L0 := [some (.ref o)]) (by decide) rfl (Nat.le_of_ble_eq_true rfl) rfl (bk_oz (by rintro r w (h | h); exact Or.inr h.1; exact Or.inl h.1)) (fun Γ hct hret hthr => ?_)
  refine br_aload_0 dX3_readEnd_0 ?_
  refine br_mg_6 (v := F 6) rfl dX3_readEnd_1 ?_
  refine br_iconst dX3_readEnd_4 ?_
  refine br_icmp_eq (tgt := 14) dX3_readEnd_5 (by decide) (by omega) (fun c5 => ?_) (fun c5 => ?_)
  · refine br_aload_0 dX3_readEnd_14 ?_
    refine br_Vv0 (i := 40) (j := 0) (ct_m_go (G := uG G 3 r) (T := T) (n := n) hT (show F 3 = n from by omega) (show 0 ≤ F 4 ∧ F 4 ≤ n from by omega)) lk_X3_109 ⟨Nat.le_of_ble_eq_true rfl, Nat.le_of_ble_eq_true rfl⟩ ⟨Nat.le_of_ble_eq_true rfl, Nat.le_of_ble_eq_true rfl⟩ rfl rfl (Nat.le_of_ble_eq_true rfl) dX3_readEnd_15 (fun w_ hw_ => ?_)
    obtain ⟨F15, wd15, rfl, hk_, hp_⟩ := hw_
    obtain ⟨t15, ht15⟩ : ∃ t, t = tokF T n tk.e := ⟨_, rfl⟩
    have hk15 : mTk T n F15 wd15 t15 := by
      have q : mTk T n F15 wd15 (tokF T n (F 4)) := hk_
      rw [m4, ← ht15] at q
      exact q
    obtain ⟨k150, k152, k153, k158, k159, k1514, k1516, k1517⟩ : mKq F F15 := ⟨hp_.1, hp_.2.1, hp_.2.2.1, hp_.2.2.2.1, hp_.2.2.2.2.1, hp_.2.2.2.2.2.1, hp_.2.2.2.2.2.2.1, hp_.2.2.2.2.2.2.2.1⟩
    have k1515 : F15 15 = F 15 := hp_.2.2.2.2.2.2.2.2
    obtain ⟨m6, m5, m4, m3, m2, ms, mf, me⟩ := id hk15
    refine br_iconst dX3_readEnd_18 ?_
    exact br_ireturn dX3_readEnd_19 (by decide) (by decide) (hret _ _ (⟨_, rfl, Or.inl ⟨rfl, by omega, _, _, rfl, by rw [← ht15]; exact hk15, by omega, by omega, by omega, by omega, by omega, by omega, by omega⟩⟩))
  · refine br_aload_0 dX3_readEnd_8 ?_
    refine br_iconst dX3_readEnd_9 ?_
    refine br_Vi1 (i := 40) (j := 0) (ct_m_bad (by omega)) lk_X3_99 ⟨Nat.le_of_ble_eq_true rfl, Nat.le_of_ble_eq_true rfl⟩ ⟨Nat.le_of_ble_eq_true rfl, Nat.le_of_ble_eq_true rfl⟩ rfl rfl (Nat.le_of_ble_eq_true rfl) dX3_readEnd_10 (fun v10 w_ hw_ => ?_)
    obtain ⟨rfl, kd10, hkd10, rfl⟩ := hw_
    exact br_ireturn dX3_readEnd_13 (by decide) (by decide) (hret _ _ (⟨_, rfl, Or.inr ⟨rfl, by omega, ⟨_, _, _, rfl, (show kd10 = 1 from by omega), m5, e0, e2, e14⟩⟩⟩))

theorem wq_of {T : Int → Int} {n : Int} {F : Nat → Int} {wd : Int} {tk : Tk} {P : Prop} {v : Int} (hk : mTk T n F wd tk) (hs : P → tk.s = 2) (hh : tk.s = 2 → tk.f < tk.e → allLt T tk.f tk.e → (P ↔ hashT T tk.f tk.e = v)) : P ↔ (F 6 = 2 ∧ wd = v) := by
  have h6 := hk.1
  have h2 := hk.2.2.2.2.1
  constructor
  · intro p
    have s := hs p
    have q := h2 s
    exact ⟨h6.trans s, q.1.trans ((hh s q.2.2 q.2.1).mp p)⟩
  · rintro ⟨q1, q2⟩
    have s := h6.symm.trans q1
    have q := h2 s
    exact (hh s q.2.2 q.2.1).mpr (q.1.symm.trans q2)
theorem wNeed_q {T : Int → Int} {n : Int} {F : Nat → Int} {wd : Int} {tk : Tk} (hk : mTk T n F wd tk) : isW T tk wNeed ↔ (F 6 = 2 ∧ wd = h4W 110 101 101 100) := wq_of hk (fun p => p.1) (fun s l al => isW4_hash s l al (by unfold isLt; omega))
theorem wPosts_q {T : Int → Int} {n : Int} {F : Nat → Int} {wd : Int} {tk : Tk} (hk : mTk T n F wd tk) : isW T tk wPosts ↔ (F 6 = 2 ∧ wd = h5W 112 111 115 116 115) := wq_of hk (fun p => p.1) (fun s l al => isW5_hash s l al (by unfold isLt; omega))
theorem wShift_q {T : Int → Int} {n : Int} {F : Nat → Int} {wd : Int} {tk : Tk} (hk : mTk T n F wd tk) : isW T tk wShift ↔ (F 6 = 2 ∧ wd = h5W 115 104 105 102 116) := wq_of hk (fun p => p.1) (fun s l al => isW5_hash s l al (by unfold isLt; omega))
theorem wPause_q {T : Int → Int} {n : Int} {F : Nat → Int} {wd : Int} {tk : Tk} (hk : mTk T n F wd tk) : isW T tk wPause ↔ (F 6 = 2 ∧ wd = h5W 112 97 117 115 101) := wq_of hk (fun p => p.1) (fun s l al => isW5_hash s l al (by unfold isLt; omega))
theorem ct_m_readPosts {D : bk_D} {o : Nat} {a : Nat → Nat} {G : Nat → Int → Int} {ex : gC} {T : Int → Int} {n x0 x2 x14 : Int} {tk : Tk} {r : Int → Int} {nd ln : Int} {w : gC} (hT : mT T (G 1) n) (h : PSt o a G ex T n x0 x2 x14 tk r nd ln w) (hr : r = fun _ => 0) : bk_K D yX3_readPosts (.code yX3_readPosts cX3_readPosts 1 (some (FieldType.boolean))) ({ frames := 4, cells := 0, slots := 0, locals := 90 }) [.ref o] w (bk_pi fun v w2 => (v = 1 ∧ ∃ (tk2 : Tk) (r2 : Int → Int), PSt o a G ex T n x0 x2 x14 tk2 r2 nd ln w2 ∧ RP 0 r2 ∧ r2 2 = 0 ∧ ∀ K, postsK T n tk r K = K tk2 r2) ∨ (v = 0 ∧ ∃ kd p : Int, PErr o a G ex x0 x2 x14 kd p w2 ∧ ∀ K, postsK T n tk r K = .error (kd, p))) bk_nox := by
  obtain ⟨F, wd, rfl, hk, e0, e2, e3, e14, e16, e17⟩ := h
  obtain ⟨m6, m5, m4, m3, m2, ms, mf, me⟩ := id hk
  refine bk_ofV (own := "BreakSetterModel") (L0 := [some (.ref o)]) (by decide) rfl (Nat.le_of_ble_eq_true rfl) rfl (bk_oz (by rintro r w (h | h); exact Or.inr h.1; exact Or.inl h.1)) (fun Γ hct hret hthr => ?_)
  refine br_aload_0 dX3_readPosts_0 ?_
  refine br_bipush dX3_readPosts_1 (by decide) ?_
  refine br_bipush dX3_readPosts_3 (by decide) ?_
  refine br_bipush dX3_readPosts_5 (by decide) ?_
  refine br_bipush dX3_readPosts_7 (by decide) ?_
  refine br_bipush dX3_readPosts_9 (by decide) ?_
  refine br_Sl5 (ct_m_five (by omega) (by omega) (by omega) (by omega) (by omega)) lk_X3_116 ⟨Nat.le_of_ble_eq_true rfl, Nat.le_of_ble_eq_true rfl⟩ ⟨Nat.le_of_ble_eq_true rfl, Nat.le_of_ble_eq_true rfl⟩  (Nat.le_of_ble_eq_true rfl) dX3_readPosts_11 (fun v11 w_ hw_ => ?_)
  obtain ⟨rfl, rfl⟩ := hw_
  refine br_VZ1 (i := 40) (j := 0) (ct_m_isWord (Q := isW T tk wPosts) (wPosts_q hk) (by omega) (fun q_ => by have h_ := hk.2.2.2.2.1 (hk.1.symm.trans q_); rw [h_.1]; exact hash_bd h_.2.2 h_.2.1) (by unfold h5W; unfold h4W; omega)) lk_X3_120 ⟨Nat.le_of_ble_eq_true rfl, Nat.le_of_ble_eq_true rfl⟩ ⟨Nat.le_of_ble_eq_true rfl, Nat.le_of_ble_eq_true rfl⟩ rfl rfl (Nat.le_of_ble_eq_true rfl) dX3_readPosts_14 (fun c14 => ?_) (fun c14 => ?_)
  · refine br_if_ne (tgt := 26) dX3_readPosts_17 (by decide) (by decide) (fun _ => ?_) (fun q => absurd q (by decide))
    refine br_aload_0 dX3_readPosts_26 ?_
    refine br_Vv0 (i := 40) (j := 0) (ct_m_go (G := uG G 3 r) (T := T) (n := n) hT (show F 3 = n from by omega) (show 0 ≤ F 4 ∧ F 4 ≤ n from by omega)) lk_X3_109 ⟨Nat.le_of_ble_eq_true rfl, Nat.le_of_ble_eq_true rfl⟩ ⟨Nat.le_of_ble_eq_true rfl, Nat.le_of_ble_eq_true rfl⟩ rfl rfl (Nat.le_of_ble_eq_true rfl) dX3_readPosts_27 (fun w_ hw_ => ?_)
    obtain ⟨F27, wd27, rfl, hk_, hp_⟩ := hw_
    obtain ⟨t27, ht27⟩ : ∃ t, t = tokF T n tk.e := ⟨_, rfl⟩
    have hk27 : mTk T n F27 wd27 t27 := by
      have q : mTk T n F27 wd27 (tokF T n (F 4)) := hk_
      rw [m4, ← ht27] at q
      exact q
    obtain ⟨k270, k272, k273, k278, k279, k2714, k2716, k2717⟩ : mKq F F27 := ⟨hp_.1, hp_.2.1, hp_.2.2.1, hp_.2.2.2.1, hp_.2.2.2.2.1, hp_.2.2.2.2.2.1, hp_.2.2.2.2.2.2.1, hp_.2.2.2.2.2.2.2.1⟩
    have k2715 : F27 15 = F 15 := hp_.2.2.2.2.2.2.2.2
    obtain ⟨m6, m5, m4, m3, m2, ms, mf, me⟩ := id hk27
    refine br_aload_0 dX3_readPosts_30 ?_
    refine br_iconst dX3_readPosts_31 ?_
    refine br_iconst dX3_readPosts_32 ?_
    refine br_iconst dX3_readPosts_33 ?_
    refine br_Vi3 (i := 40) (j := 0) (ct_m_told (G := uG G 3 r) (T := T) (n := n) hT (show F27 3 = n from by omega) hk27 (by omega) (by omega) (by omega)) lk_X3_124 ⟨Nat.le_of_ble_eq_true rfl, Nat.le_of_ble_eq_true rfl⟩ ⟨Nat.le_of_ble_eq_true rfl, Nat.le_of_ble_eq_true rfl⟩ rfl rfl (Nat.le_of_ble_eq_true rfl) dX3_readPosts_34 (fun v34 w_ hw_ => ?_)
    rcases hw_ with ⟨rfl, q34, F34, wd34, rfl, hk34, hp_⟩ | ⟨rfl, kd34, hK_, F34, rfl, e8_, e9_, hp_⟩
    · skip
      obtain ⟨t34, ht34⟩ : ∃ t, t = tokF T n t27.e := ⟨_, rfl⟩
      rw [← ht34] at hk34
      obtain ⟨k340, k342, k343, k348, k349, k3414, k3416, k3417⟩ : mKq F27 F34 := hp_
      obtain ⟨m6, m5, m4, m3, m2, ms, mf, me⟩ := id hk34
      have vb34 := q34.2
      refine bk_V.world (w' := (mw o a F34 wd34 (uG G 3 (uI r 0 t27.v)) ex)) (congrArg (fun G9 => mw o a F34 wd34 G9 ex) (uG_uG _ _ _ _)) ?_
      refine br_if_eq (tgt := 61) dX3_readPosts_37 (by decide) (by decide) (fun q => absurd q (by decide)) (fun _ => ?_)
      refine br_aload_0 dX3_readPosts_40 ?_
      refine br_iconst dX3_readPosts_41 ?_
      refine br_iconst dX3_readPosts_42 ?_
      refine br_iconst dX3_readPosts_43 ?_
      refine br_Vi3 (i := 40) (j := 0) (ct_m_told (G := uG G 3 (uI r 0 t27.v)) (T := T) (n := n) hT (show F34 3 = n from by omega) hk34 (by omega) (by omega) (by omega)) lk_X3_124 ⟨Nat.le_of_ble_eq_true rfl, Nat.le_of_ble_eq_true rfl⟩ ⟨Nat.le_of_ble_eq_true rfl, Nat.le_of_ble_eq_true rfl⟩ rfl rfl (Nat.le_of_ble_eq_true rfl) dX3_readPosts_44 (fun v44 w_ hw_ => ?_)
      rcases hw_ with ⟨rfl, q44, F44, wd44, rfl, hk44, hp_⟩ | ⟨rfl, kd44, hK_, F44, rfl, e8_, e9_, hp_⟩
      · skip
        obtain ⟨t44, ht44⟩ : ∃ t, t = tokF T n t34.e := ⟨_, rfl⟩
        rw [← ht44] at hk44
        obtain ⟨k440, k442, k443, k448, k449, k4414, k4416, k4417⟩ : mKq F34 F44 := hp_
        obtain ⟨m6, m5, m4, m3, m2, ms, mf, me⟩ := id hk44
        have vb44 := q44.2
        refine bk_V.world (w' := (mw o a F44 wd44 (uG G 3 (uI (uI r 0 t27.v) 1 t34.v)) ex)) (congrArg (fun G9 => mw o a F44 wd44 G9 ex) (uG_uG _ _ _ _)) ?_
        refine br_if_eq (tgt := 61) dX3_readPosts_47 (by decide) (by decide) (fun q => absurd q (by decide)) (fun _ => ?_)
        refine br_aload_0 dX3_readPosts_50 ?_
        refine br_Vi0 (i := 40) (j := 0) (ct_m_readEnd (G := G) (T := T) (n := n) (x0 := x0) (x2 := x2) (x14 := x14) (tk := t44) (r := uI (uI r 0 t27.v) 1 t34.v) (nd := nd) (ln := ln) hT ⟨_, _, rfl, hk44, (show F44 0 = x0 from by omega), (show F44 2 = x2 from by omega), (show F44 3 = n from by omega), (show F44 14 = x14 from by omega), (show F44 16 = nd from by omega), (show F44 17 = ln from by omega), (show F44 8 = 0 from by omega)⟩) lk_X3_127 ⟨Nat.le_of_ble_eq_true rfl, Nat.le_of_ble_eq_true rfl⟩ ⟨Nat.le_of_ble_eq_true rfl, Nat.le_of_ble_eq_true rfl⟩ rfl rfl (Nat.le_of_ble_eq_true rfl) dX3_readPosts_51 (fun v51 w_ hw_ => ?_)
        rcases hw_ with ⟨rfl, q51, hp_⟩ | ⟨rfl, q51, hp_⟩
        · skip
          obtain ⟨F51, wd51, rfl, hk51, e510, e512, e513, e5114, e5116, e5117⟩ := hp_
          obtain ⟨t51, ht51⟩ : ∃ t, t = tokF T n t44.e := ⟨_, rfl⟩
          rw [← ht51] at hk51
          obtain ⟨m6, m5, m4, m3, m2, ms, mf, me⟩ := id hk51
          refine br_if_eq (tgt := 61) dX3_readPosts_54 (by decide) (by decide) (fun q => absurd q (by decide)) (fun _ => ?_)
          refine br_iconst dX3_readPosts_57 ?_
          refine br_goto (tgt := 62) dX3_readPosts_58 (by decide) ?_
          exact br_ireturn dX3_readPosts_62 (by decide) (by decide) (hret _ _ (⟨_, rfl, Or.inl ⟨rfl, t51, uI (uI r 0 t27.v) 1 t34.v, ⟨_, _, rfl, hk51, (show F51 0 = x0 from by omega), (show F51 2 = x2 from by omega), (show F51 3 = n from by omega), (show F51 14 = x14 from by omega), (show F51 16 = nd from by omega), (show F51 17 = ln from by omega), (show F51 8 = 0 from by omega)⟩, RP_0 hr vb34 vb44, (by subst hr; simp (disch := omega) only [uI_ne]), fun K => by unfold postsK; rw [iteP_1 c14, ← ht27, numK_0 q34.1 q34.2, ← ht34, numK_0 q44.1 q44.2, ← ht44, endK_0 q51, ← ht51]⟩⟩))
        · skip
          obtain ⟨F51, wd51, g51, rfl, e8_, e9_, e510, e512, e5114⟩ := hp_
          refine br_if_eq (tgt := 61) dX3_readPosts_54 (by decide) (by decide) (fun _ => ?_) (fun q => absurd q (by decide))
          refine br_iconst dX3_readPosts_61 ?_
          exact br_ireturn dX3_readPosts_62 (by decide) (by decide) (hret _ _ (⟨_, rfl, Or.inr ⟨rfl, 1, t44.f, ⟨_, _, _, rfl, e8_, e9_, by omega, by omega, by omega⟩, fun K => by unfold postsK; rw [iteP_1 c14, ← ht27, numK_0 q34.1 q34.2, ← ht34, numK_0 q44.1 q44.2, ← ht44, endK_1 q51]⟩⟩))
      · skip
        obtain ⟨k440, k442, k4414⟩ : F44 0 = F34 0 ∧ F44 2 = F34 2 ∧ F44 14 = F34 14 := hp_
        refine br_if_eq (tgt := 61) dX3_readPosts_47 (by decide) (by decide) (fun _ => ?_) (fun q => absurd q (by decide))
        refine br_iconst dX3_readPosts_61 ?_
        exact br_ireturn dX3_readPosts_62 (by decide) (by decide) (hret _ _ (⟨_, rfl, Or.inr ⟨rfl, kd44, t34.f, ⟨_, _, _, rfl, e8_, e9_, by omega, by omega, by omega⟩, fun K => by unfold postsK; rw [iteP_1 c14, ← ht27, numK_0 q34.1 q34.2, ← ht34, hK_]⟩⟩))
    · skip
      obtain ⟨k340, k342, k3414⟩ : F34 0 = F27 0 ∧ F34 2 = F27 2 ∧ F34 14 = F27 14 := hp_
      refine br_if_eq (tgt := 61) dX3_readPosts_37 (by decide) (by decide) (fun _ => ?_) (fun q => absurd q (by decide))
      refine br_iconst dX3_readPosts_61 ?_
      exact br_ireturn dX3_readPosts_62 (by decide) (by decide) (hret _ _ (⟨_, rfl, Or.inr ⟨rfl, kd34, t27.f, ⟨_, _, _, rfl, e8_, e9_, by omega, by omega, by omega⟩, fun K => by unfold postsK; rw [iteP_1 c14, ← ht27, hK_]⟩⟩))
  · refine br_if_ne (tgt := 26) dX3_readPosts_17 (by decide) (by decide) (fun q => absurd q (by decide)) (fun _ => ?_)
    refine br_aload_0 dX3_readPosts_20 ?_
    refine br_iconst dX3_readPosts_21 ?_
    refine br_Vi1 (i := 40) (j := 0) (ct_m_bad (by omega)) lk_X3_99 ⟨Nat.le_of_ble_eq_true rfl, Nat.le_of_ble_eq_true rfl⟩ ⟨Nat.le_of_ble_eq_true rfl, Nat.le_of_ble_eq_true rfl⟩ rfl rfl (Nat.le_of_ble_eq_true rfl) dX3_readPosts_22 (fun v22 w_ hw_ => ?_)
    obtain ⟨rfl, kd22, hkd22, rfl⟩ := hw_
    exact br_ireturn dX3_readPosts_25 (by decide) (by decide) (hret _ _ (⟨_, rfl, Or.inr ⟨rfl, kd22, tk.f, ⟨_, _, _, rfl, rfl, m5, e0, e2, e14⟩, fun K => by unfold postsK; rw [iteP_0 c14, show kd22 = 1 by omega]⟩⟩))

theorem ct_m_readNeed {D : bk_D} {o : Nat} {a : Nat → Nat} {G : Nat → Int → Int} {ex : gC} {T : Int → Int} {n x0 x2 x14 : Int} {tk : Tk} {r : Int → Int} {nd ln : Int} {w : gC} (hT : mT T (G 1) n) (h : PSt o a G ex T n x0 x2 x14 tk r nd ln w) (hs : tk.s = 2) (hnd : 0 ≤ nd ∧ nd ≤ 10) (hRP : RP nd r) : bk_K D yX3_readNeed (.code yX3_readNeed cX3_readNeed 5 (some (FieldType.boolean))) ({ frames := 3, cells := 0, slots := 0, locals := 67 }) [.ref o] w (bk_pi fun v w2 => (v = 1 ∧ nd < 10 ∧ ∃ (tk2 : Tk) (r2 : Int → Int), PSt o a G ex T n x0 x2 x14 tk2 r2 (nd + 1) ln w2 ∧ RP (nd + 1) r2 ∧ r2 2 = r 2 ∧ ∀ K, needK T n tk r K = K tk2 r2) ∨ (v = 0 ∧ ∃ kd p : Int, PErr o a G ex x0 x2 x14 kd p w2 ∧ ((nd = 10 ∧ kd = 3 ∧ p = tk.f) ∨ (nd < 10 ∧ ∀ K, needK T n tk r K = .error (kd, p))))) bk_nox := by
  obtain ⟨F, wd, rfl, hk, e0, e2, e3, e14, e16, e17⟩ := h
  obtain ⟨m6, m5, m4, m3, m2, ms, mf, me⟩ := id hk
  refine bk_ofV (own := "BreakSetterModel") (L0 := [some (.ref o), none, none, none, none]) (by decide) rfl (Nat.le_of_ble_eq_true rfl) rfl (bk_oz (by rintro r w (h | h); exact Or.inr h.1; exact Or.inl h.1)) (fun Γ hct hret hthr => ?_)
  have hn := hRP.rw.n
  refine br_aload_0 dX3_readNeed_0 ?_
  refine br_mg_16 (v := F 16) rfl dX3_readNeed_1 ?_
  refine br_bipush dX3_readNeed_4 (by decide) ?_
  refine br_icmp_ne (tgt := 15) dX3_readNeed_6 (by decide) (by omega) (fun c6 => ?_) (fun c6 => ?_)
  · have hc6 : nd < 10 := by omega
    refine br_aload_0 dX3_readNeed_15 ?_
    refine br_Vv0 (i := 40) (j := 0) (ct_m_go (G := uG G 3 r) (T := T) (n := n) hT (show F 3 = n from by omega) (show 0 ≤ F 4 ∧ F 4 ≤ n from by omega)) lk_X3_109 ⟨Nat.le_of_ble_eq_true rfl, Nat.le_of_ble_eq_true rfl⟩ ⟨Nat.le_of_ble_eq_true rfl, Nat.le_of_ble_eq_true rfl⟩ rfl rfl (Nat.le_of_ble_eq_true rfl) dX3_readNeed_16 (fun w_ hw_ => ?_)
    obtain ⟨F16, wd16, rfl, hk_, hp_⟩ := hw_
    obtain ⟨t16, ht16⟩ : ∃ t, t = tokF T n tk.e := ⟨_, rfl⟩
    have hk16 : mTk T n F16 wd16 t16 := by
      have q : mTk T n F16 wd16 (tokF T n (F 4)) := hk_
      rw [m4, ← ht16] at q
      exact q
    obtain ⟨k160, k162, k163, k168, k169, k1614, k1616, k1617⟩ : mKq F F16 := ⟨hp_.1, hp_.2.1, hp_.2.2.1, hp_.2.2.2.1, hp_.2.2.2.2.1, hp_.2.2.2.2.2.1, hp_.2.2.2.2.2.2.1, hp_.2.2.2.2.2.2.2.1⟩
    have k1615 : F16 15 = F 15 := hp_.2.2.2.2.2.2.2.2
    obtain ⟨m6, m5, m4, m3, m2, ms, mf, me⟩ := id hk16
    refine br_aload_0 dX3_readNeed_19 ?_
    refine br_iconst dX3_readNeed_20 ?_
    refine br_aload_0 dX3_readNeed_21 ?_
    refine br_mg_12 dX3_readNeed_22 ?_
    refine br_iconst dX3_readNeed_25 ?_
    refine br_ml_3 (v := r 0) (by omega) rfl dX3_readNeed_26 ?_
    refine br_iconst dX3_readNeed_27 ?_
    refine br_isub dX3_readNeed_28 ?_
    refine br_Vi2 (i := 40) (j := 0) (ct_m_takes (G := uG G 3 r) (T := T) (n := n) hT (show F16 3 = n from by omega) hk16 (by omega) (by omega)) lk_X3_112 ⟨Nat.le_of_ble_eq_true rfl, Nat.le_of_ble_eq_true rfl⟩ ⟨Nat.le_of_ble_eq_true rfl, Nat.le_of_ble_eq_true rfl⟩ rfl rfl (Nat.le_of_ble_eq_true rfl) dX3_readNeed_29 (fun v29 w_ hw_ => ?_)
    rcases hw_ with ⟨rfl, q29, F29, wd29, rfl, hk29, hp_, hg29⟩ | ⟨rfl, kd29, hK_, F29, rfl, e8_, e9_, hp_⟩
    · skip
      obtain ⟨t29, ht29⟩ : ∃ t, t = tokF T n t16.e := ⟨_, rfl⟩
      rw [← ht29] at hk29
      obtain ⟨k290, k292, k293, k298, k299, k2914, k2916, k2917⟩ : mKq F16 F29 := hp_
      obtain ⟨m6, m5, m4, m3, m2, ms, mf, me⟩ := id hk29
      have vb29 := q29.2
      refine br_if_ne (tgt := 37) dX3_readNeed_32 (by decide) (by decide) (fun _ => ?_) (fun q => absurd q (by decide))
      refine br_aload_0 dX3_readNeed_37 ?_
      refine br_mg_15 (v := F29 15) rfl dX3_readNeed_38 ?_
      refine br_topi (y := t16.v) (hg29) ?_
      refine br_istore_1 dX3_readNeed_41 rfl ?_
      refine br_aload_0 dX3_readNeed_42 ?_
      refine br_iconst dX3_readNeed_43 ?_
      refine br_bipush dX3_readNeed_44 (by decide) ?_
      refine br_Vi2 (i := 40) (j := 0) (ct_m_takes (G := uG G 3 r) (T := T) (n := n) hT (show F29 3 = n from by omega) hk29 (by omega) (by omega)) lk_X3_112 ⟨Nat.le_of_ble_eq_true rfl, Nat.le_of_ble_eq_true rfl⟩ ⟨Nat.le_of_ble_eq_true rfl, Nat.le_of_ble_eq_true rfl⟩ rfl rfl (Nat.le_of_ble_eq_true rfl) dX3_readNeed_46 (fun v46 w_ hw_ => ?_)
      rcases hw_ with ⟨rfl, q46, F46, wd46, rfl, hk46, hp_, hg46⟩ | ⟨rfl, kd46, hK_, F46, rfl, e8_, e9_, hp_⟩
      · skip
        obtain ⟨t46, ht46⟩ : ∃ t, t = tokF T n t29.e := ⟨_, rfl⟩
        rw [← ht46] at hk46
        obtain ⟨k460, k462, k463, k468, k469, k4614, k4616, k4617⟩ : mKq F29 F46 := hp_
        obtain ⟨m6, m5, m4, m3, m2, ms, mf, me⟩ := id hk46
        have vb46 := q46.2
        refine br_if_ne (tgt := 54) dX3_readNeed_49 (by decide) (by decide) (fun _ => ?_) (fun q => absurd q (by decide))
        refine br_aload_0 dX3_readNeed_54 ?_
        refine br_mg_15 (v := F46 15) rfl dX3_readNeed_55 ?_
        refine br_topi (y := t29.v) (hg46) ?_
        refine br_istore_2 dX3_readNeed_58 rfl ?_
        refine br_aload_0 dX3_readNeed_59 ?_
        refine br_iload_2 dX3_readNeed_60 ?_
        refine br_bipush dX3_readNeed_61 (by decide) ?_
        refine br_Vi2 (i := 40) (j := 0) (ct_m_takes (G := uG G 3 r) (T := T) (n := n) hT (show F46 3 = n from by omega) hk46 (by omega) (by omega)) lk_X3_112 ⟨Nat.le_of_ble_eq_true rfl, Nat.le_of_ble_eq_true rfl⟩ ⟨Nat.le_of_ble_eq_true rfl, Nat.le_of_ble_eq_true rfl⟩ rfl rfl (Nat.le_of_ble_eq_true rfl) dX3_readNeed_63 (fun v63 w_ hw_ => ?_)
        rcases hw_ with ⟨rfl, q63, F63, wd63, rfl, hk63, hp_, hg63⟩ | ⟨rfl, kd63, hK_, F63, rfl, e8_, e9_, hp_⟩
        · skip
          obtain ⟨t63, ht63⟩ : ∃ t, t = tokF T n t46.e := ⟨_, rfl⟩
          rw [← ht63] at hk63
          obtain ⟨k630, k632, k633, k638, k639, k6314, k6316, k6317⟩ : mKq F46 F63 := hp_
          obtain ⟨m6, m5, m4, m3, m2, ms, mf, me⟩ := id hk63
          have vb63 := q63.2
          refine br_if_ne (tgt := 71) dX3_readNeed_66 (by decide) (by decide) (fun _ => ?_) (fun q => absurd q (by decide))
          refine br_aload_0 dX3_readNeed_71 ?_
          refine br_mg_15 (v := F63 15) rfl dX3_readNeed_72 ?_
          refine br_istore_3 dX3_readNeed_75 rfl ?_
          refine br_aload_0 dX3_readNeed_76 ?_
          refine br_iconst dX3_readNeed_77 ?_
          refine br_bipush dX3_readNeed_78 (by decide) ?_
          refine br_Vi2 (i := 40) (j := 0) (ct_m_takes (G := uG G 3 r) (T := T) (n := n) hT (show F63 3 = n from by omega) hk63 (by omega) (by omega)) lk_X3_112 ⟨Nat.le_of_ble_eq_true rfl, Nat.le_of_ble_eq_true rfl⟩ ⟨Nat.le_of_ble_eq_true rfl, Nat.le_of_ble_eq_true rfl⟩ rfl rfl (Nat.le_of_ble_eq_true rfl) dX3_readNeed_80 (fun v80 w_ hw_ => ?_)
          rcases hw_ with ⟨rfl, q80, F80, wd80, rfl, hk80, hp_, hg80⟩ | ⟨rfl, kd80, hK_, F80, rfl, e8_, e9_, hp_⟩
          · skip
            obtain ⟨t80, ht80⟩ : ∃ t, t = tokF T n t63.e := ⟨_, rfl⟩
            rw [← ht80] at hk80
            obtain ⟨k800, k802, k803, k808, k809, k8014, k8016, k8017⟩ : mKq F63 F80 := hp_
            obtain ⟨m6, m5, m4, m3, m2, ms, mf, me⟩ := id hk80
            have vb80 := q80.2
            refine br_if_ne (tgt := 88) dX3_readNeed_83 (by decide) (by decide) (fun _ => ?_) (fun q => absurd q (by decide))
            refine br_iload_2 dX3_readNeed_88 ?_
            refine br_istore_4 dX3_readNeed_89 rfl ?_
            rw [show (mw o a F80 wd80 (uG G 3 r) ex) = mw o a F80 wd80 (uG G 3 (needA r t16.v t29.v (t29.v - 1) t63.v)) ex from by rw [← needA_0]]
            have lp91 : ∀ (mm91 : Nat) (z : Int), (t46.v + 1 - z).toNat < mm91 → (t29.v ≤ z ∧ z ≤ t46.v + 1) → bk_V Γ D ({ frames := 3, cells := 0, slots := 0, locals := 67 }) "BreakSetterModel" cX3_readNeed [] 0 0 (mw o a F80 wd80 (uG G 3 (needA r t16.v t29.v (z - 1) t63.v)) ex) [some (.ref o), some (.int (iI t16.v)), some (.int (iI t29.v)), some (.int (iI (F63 15))), some (.int (iI z))] [] 91 := by
              intro mm91
              induction mm91 with
              | zero => intro z hm91; exact absurd hm91 (Nat.not_lt_zero _)
              | succ mm91 ih91 =>
                intro z hm91 h1
                refine br_iload_4 dX3_readNeed_91 ?_
                refine br_iload_3 dX3_readNeed_93 ?_
                refine br_icmp_gt (tgt := 124) dX3_readNeed_94 (by decide) (by omega) (fun c94 => ?_) (fun c94 => ?_)
                · refine br_aload_0 dX3_readNeed_124 ?_
                  refine br_dup dX3_readNeed_125 rfl ?_
                  refine br_mg_16 (v := F80 16) rfl dX3_readNeed_126 ?_
                  refine br_iconst dX3_readNeed_129 ?_
                  refine br_iadd dX3_readNeed_130 ?_
                  refine br_mp_16 dX3_readNeed_131 ?_
                  have hRN := RP_need hRP (by omega) (show 0 ≤ t16.v ∧ t16.v < r 0 from by omega) (show 0 ≤ t29.v from by omega) (show t46.v ≤ 47 from by omega) (show 0 ≤ t63.v ∧ t63.v ≤ 9 from by omega)
                  have hR2 := needA_hi r (p := t16.v) (a := t29.v) (b := t46.v) (m := t63.v) (by omega) (by omega) (by omega) (j := 2) (by omega)
                  refine bk_V.world (w' := (mw o a (uF F80 16 ((F80 16) + 1)) wd80 (uG G 3 (needA r t16.v t29.v t46.v t63.v)) ex)) (by rw [show z - 1 = t46.v by omega]) ?_
                  refine br_aload_0 dX3_readNeed_134 ?_
                  refine br_Vi0 (i := 40) (j := 0) (ct_m_readEnd (G := G) (T := T) (n := n) (x0 := x0) (x2 := x2) (x14 := x14) (tk := t80) (r := needA r t16.v t29.v t46.v t63.v) (nd := nd + 1) (ln := ln) hT ⟨_, _, rfl, hk80, (show F80 0 = x0 from by omega), (show F80 2 = x2 from by omega), (show F80 3 = n from by omega), (show F80 14 = x14 from by omega), (show (F80 16) + 1 = nd + 1 from by omega), (show F80 17 = ln from by omega), (show F80 8 = 0 from by omega)⟩) lk_X3_127 ⟨Nat.le_of_ble_eq_true rfl, Nat.le_of_ble_eq_true rfl⟩ ⟨Nat.le_of_ble_eq_true rfl, Nat.le_of_ble_eq_true rfl⟩ rfl rfl (Nat.le_of_ble_eq_true rfl) dX3_readNeed_135 (fun v135 w_ hw_ => ?_)
                  rcases hw_ with ⟨rfl, q135, hp_⟩ | ⟨rfl, q135, hp_⟩
                  · skip
                    obtain ⟨F135, wd135, rfl, hk135, e1350, e1352, e1353, e13514, e13516, e13517⟩ := hp_
                    obtain ⟨t135, ht135⟩ : ∃ t, t = tokF T n t80.e := ⟨_, rfl⟩
                    rw [← ht135] at hk135
                    obtain ⟨m6, m5, m4, m3, m2, ms, mf, me⟩ := id hk135
                    have hPN : PSt o a G ex T n x0 x2 x14 t135 (needA r t16.v t29.v t46.v t63.v) (nd + 1) ln (mw o a F135 wd135 (uG G 3 (needA r t16.v t29.v t46.v t63.v)) ex) := ⟨_, _, rfl, hk135, (show F135 0 = x0 from by omega), (show F135 2 = x2 from by omega), (show F135 3 = n from by omega), (show F135 14 = x14 from by omega), (show F135 16 = nd + 1 from by omega), (show F135 17 = ln from by omega), (show F135 8 = 0 from by omega)⟩
                    have hKN : ∀ K, needK T n tk r K = K t135 (needA r t16.v t29.v t46.v t63.v) := fun K => by unfold needK; rw [← ht16, numK_0 q29.1 q29.2, ← ht29, numK_0 q46.1 q46.2, ← ht46, numK_0 q63.1 q63.2, ← ht63, numK_0 q80.1 q80.2, ← ht80, endK_0 q135, ← ht135]
                    exact br_ireturn dX3_readNeed_138 (by decide) (by decide) (hret _ _ (⟨_, rfl, Or.inl ⟨rfl, hc6, t135, _, hPN, hRN, hR2, hKN⟩⟩))
                  · skip
                    obtain ⟨F135, wd135, g135, rfl, e8_, e9_, e1350, e1352, e13514⟩ := hp_
                    exact br_ireturn dX3_readNeed_138 (by decide) (by decide) (hret _ _ (⟨_, rfl, Or.inr ⟨rfl, 1, t80.f, ⟨_, _, _, rfl, e8_, e9_, by omega, by omega, by omega⟩, Or.inr ⟨by omega, fun K => by unfold needK; rw [← ht16, numK_0 q29.1 q29.2, ← ht29, numK_0 q46.1 q46.2, ← ht46, numK_0 q63.1 q63.2, ← ht63, numK_0 q80.1 q80.2, ← ht80, endK_1 q135]⟩⟩⟩))
                · refine br_aload_0 dX3_readNeed_97 ?_
                  refine br_mg_12 dX3_readNeed_98 ?_
                  refine br_iconst dX3_readNeed_101 ?_
                  refine br_bipush dX3_readNeed_102 (by decide) ?_
                  refine br_iload_1 dX3_readNeed_104 ?_
                  refine br_imul dX3_readNeed_105 ?_
                  refine br_iadd dX3_readNeed_106 ?_
                  refine br_iload_4 dX3_readNeed_107 ?_
                  refine br_iadd dX3_readNeed_109 ?_
                  refine br_dup2 dX3_readNeed_110 rfl rfl ?_
                  refine br_ml_3 (v := (needA r t16.v t29.v (z - 1) t63.v) ((4 + (48 * t16.v)) + z)) (by omega) rfl dX3_readNeed_111 ?_
                  refine br_aload_0 dX3_readNeed_112 ?_
                  refine br_mg_15 (v := F80 15) rfl dX3_readNeed_113 ?_
                  refine br_topi (y := t63.v) (hg80) ?_
                  refine br_iadd dX3_readNeed_116 ?_
                  refine br_ms_3 (by omega) dX3_readNeed_117 ?_
                  refine bk_V.world (w' := (mw o a F80 wd80 (uG G 3 (uI (needA r t16.v t29.v (z - 1) t63.v) ((4 + (48 * t16.v)) + z) (((needA r t16.v t29.v (z - 1) t63.v) ((4 + (48 * t16.v)) + z)) + t63.v))) ex)) (congrArg (fun G9 => mw o a F80 wd80 G9 ex) (uG_uG _ _ _ _)) ?_
                  refine br_iinc_4 dX3_readNeed_118 rfl ?_
                  refine br_goto (tgt := 91) dX3_readNeed_121 (by decide) ?_
                  rw [needA_s (by omega) rfl]
                  exact ih91 _ (by omega) (by omega)
            exact lp91 _ _ (Nat.lt_succ_self _) (by omega)
          · skip
            obtain ⟨k800, k802, k8014⟩ : F80 0 = F63 0 ∧ F80 2 = F63 2 ∧ F80 14 = F63 14 := hp_
            refine br_if_ne (tgt := 88) dX3_readNeed_83 (by decide) (by decide) (fun q => absurd q (by decide)) (fun _ => ?_)
            refine br_iconst dX3_readNeed_86 ?_
            exact br_ireturn dX3_readNeed_87 (by decide) (by decide) (hret _ _ (⟨_, rfl, Or.inr ⟨rfl, kd80, t63.f, ⟨_, _, _, rfl, e8_, e9_, by omega, by omega, by omega⟩, Or.inr ⟨by omega, fun K => by unfold needK; rw [← ht16, numK_0 q29.1 q29.2, ← ht29, numK_0 q46.1 q46.2, ← ht46, numK_0 q63.1 q63.2, ← ht63, hK_]⟩⟩⟩))
        · skip
          obtain ⟨k630, k632, k6314⟩ : F63 0 = F46 0 ∧ F63 2 = F46 2 ∧ F63 14 = F46 14 := hp_
          refine br_if_ne (tgt := 71) dX3_readNeed_66 (by decide) (by decide) (fun q => absurd q (by decide)) (fun _ => ?_)
          refine br_iconst dX3_readNeed_69 ?_
          exact br_ireturn dX3_readNeed_70 (by decide) (by decide) (hret _ _ (⟨_, rfl, Or.inr ⟨rfl, kd63, t46.f, ⟨_, _, _, rfl, e8_, e9_, by omega, by omega, by omega⟩, Or.inr ⟨by omega, fun K => by unfold needK; rw [← ht16, numK_0 q29.1 q29.2, ← ht29, numK_0 q46.1 q46.2, ← ht46, hK_]⟩⟩⟩))
      · skip
        obtain ⟨k460, k462, k4614⟩ : F46 0 = F29 0 ∧ F46 2 = F29 2 ∧ F46 14 = F29 14 := hp_
        refine br_if_ne (tgt := 54) dX3_readNeed_49 (by decide) (by decide) (fun q => absurd q (by decide)) (fun _ => ?_)
        refine br_iconst dX3_readNeed_52 ?_
        exact br_ireturn dX3_readNeed_53 (by decide) (by decide) (hret _ _ (⟨_, rfl, Or.inr ⟨rfl, kd46, t29.f, ⟨_, _, _, rfl, e8_, e9_, by omega, by omega, by omega⟩, Or.inr ⟨by omega, fun K => by unfold needK; rw [← ht16, numK_0 q29.1 q29.2, ← ht29, hK_]⟩⟩⟩))
    · skip
      obtain ⟨k290, k292, k2914⟩ : F29 0 = F16 0 ∧ F29 2 = F16 2 ∧ F29 14 = F16 14 := hp_
      refine br_if_ne (tgt := 37) dX3_readNeed_32 (by decide) (by decide) (fun q => absurd q (by decide)) (fun _ => ?_)
      refine br_iconst dX3_readNeed_35 ?_
      exact br_ireturn dX3_readNeed_36 (by decide) (by decide) (hret _ _ (⟨_, rfl, Or.inr ⟨rfl, kd29, t16.f, ⟨_, _, _, rfl, e8_, e9_, by omega, by omega, by omega⟩, Or.inr ⟨by omega, fun K => by unfold needK; rw [← ht16, hK_]⟩⟩⟩))
  · refine br_aload_0 dX3_readNeed_9 ?_
    refine br_iconst dX3_readNeed_10 ?_
    refine br_Vi1 (i := 40) (j := 0) (ct_m_bad (by omega)) lk_X3_99 ⟨Nat.le_of_ble_eq_true rfl, Nat.le_of_ble_eq_true rfl⟩ ⟨Nat.le_of_ble_eq_true rfl, Nat.le_of_ble_eq_true rfl⟩ rfl rfl (Nat.le_of_ble_eq_true rfl) dX3_readNeed_11 (fun v11 w_ hw_ => ?_)
    obtain ⟨rfl, kd11, hkd11, rfl⟩ := hw_
    exact br_ireturn dX3_readNeed_14 (by decide) (by decide) (hret _ _ (⟨_, rfl, Or.inr ⟨rfl, kd11, tk.f, ⟨_, _, _, rfl, rfl, m5, e0, e2, e14⟩, Or.inl ⟨by omega, by omega, rfl⟩⟩⟩))

theorem ct_m_readPause {D : bk_D} {o : Nat} {a : Nat → Nat} {G : Nat → Int → Int} {ex : gC} {T : Int → Int} {n x0 x2 x14 : Int} {tk : Tk} {r : Int → Int} {nd ln : Int} {w : gC} (hT : mT T (G 1) n) (h : PSt o a G ex T n x0 x2 x14 tk r nd ln w) {s : Int} (hs : tk.s = 2) (hs2 : s = r 2) (hRS : RS r) : bk_K D yX3_readPause (.code yX3_readPause cX3_readPause 3 (some (FieldType.boolean))) ({ frames := 4, cells := 0, slots := 0, locals := 90 }) [.ref o, .int (iI (148 + 5 * s))] w (bk_pi fun v w2 => (v = 1 ∧ rHas r s < 3 ∧ ∃ (tk2 : Tk) (r2 : Int → Int), PSt o a G ex T n x0 x2 x14 tk2 r2 nd ln w2 ∧ RS r2 ∧ r2 2 = r 2 ∧ rHas r2 s = rHas r s + 1 ∧ ∀ K, pauseK T n tk r s K = K tk2 r2) ∨ (v = 0 ∧ ∃ kd p : Int, PErr o a G ex x0 x2 x14 kd p w2 ∧ ((rHas r s = 3 ∧ kd = 3 ∧ p = tk.f) ∨ (rHas r s < 3 ∧ ∀ K, pauseK T n tk r s K = .error (kd, p))))) bk_nox := by
  obtain ⟨F, wd, rfl, hk, e0, e2, e3, e14, e16, e17⟩ := h
  obtain ⟨m6, m5, m4, m3, m2, ms, mf, me⟩ := id hk
  refine bk_ofV (own := "BreakSetterModel") (L0 := [some (.ref o), some (.int (iI (148 + 5 * s))), none]) (by decide) rfl (Nat.le_of_ble_eq_true rfl) rfl (bk_oz (by rintro r w (h | h); exact Or.inr h.1; exact Or.inl h.1)) (fun Γ hct hret hthr => ?_)
  have hb := RS_bd hRS
  rw [← hs2] at hb
  refine br_aload_0 dX3_readPause_0 ?_
  refine br_mg_12 dX3_readPause_1 ?_
  refine br_iload_1 dX3_readPause_4 ?_
  refine br_iconst dX3_readPause_5 ?_
  refine br_iadd dX3_readPause_6 ?_
  refine br_ml_3 (v := r ((148 + 5 * s) + 3)) (by omega) rfl dX3_readPause_7 ?_
  refine br_topi (y := rHas r s) (congrArg r (by omega)) ?_
  refine br_iconst dX3_readPause_8 ?_
  refine br_icmp_ne (tgt := 18) dX3_readPause_9 (by decide) (by omega) (fun c9 => ?_) (fun c9 => ?_)
  · have hc9 : rHas r s < 3 := by omega
    refine br_aload_0 dX3_readPause_18 ?_
    refine br_Vv0 (i := 40) (j := 0) (ct_m_go (G := uG G 3 r) (T := T) (n := n) hT (show F 3 = n from by omega) (show 0 ≤ F 4 ∧ F 4 ≤ n from by omega)) lk_X3_109 ⟨Nat.le_of_ble_eq_true rfl, Nat.le_of_ble_eq_true rfl⟩ ⟨Nat.le_of_ble_eq_true rfl, Nat.le_of_ble_eq_true rfl⟩ rfl rfl (Nat.le_of_ble_eq_true rfl) dX3_readPause_19 (fun w_ hw_ => ?_)
    obtain ⟨F19, wd19, rfl, hk_, hp_⟩ := hw_
    obtain ⟨t19, ht19⟩ : ∃ t, t = tokF T n tk.e := ⟨_, rfl⟩
    have hk19 : mTk T n F19 wd19 t19 := by
      have q : mTk T n F19 wd19 (tokF T n (F 4)) := hk_
      rw [m4, ← ht19] at q
      exact q
    obtain ⟨k190, k192, k193, k198, k199, k1914, k1916, k1917⟩ : mKq F F19 := ⟨hp_.1, hp_.2.1, hp_.2.2.1, hp_.2.2.2.1, hp_.2.2.2.2.1, hp_.2.2.2.2.2.1, hp_.2.2.2.2.2.2.1, hp_.2.2.2.2.2.2.2.1⟩
    have k1915 : F19 15 = F 15 := hp_.2.2.2.2.2.2.2.2
    obtain ⟨m6, m5, m4, m3, m2, ms, mf, me⟩ := id hk19
    refine br_sipush dX3_readPause_22 (by decide) ?_
    refine br_iconst dX3_readPause_25 ?_
    refine br_aload_0 dX3_readPause_26 ?_
    refine br_mg_12 dX3_readPause_27 ?_
    refine br_iconst dX3_readPause_30 ?_
    refine br_ml_3 (v := r 3) (by omega) rfl dX3_readPause_31 ?_
    refine br_imul dX3_readPause_32 ?_
    refine br_iadd dX3_readPause_33 ?_
    refine br_istore_2 dX3_readPause_34 rfl ?_
    refine br_aload_0 dX3_readPause_35 ?_
    refine br_iload_2 dX3_readPause_36 ?_
    refine br_iconst dX3_readPause_37 ?_
    refine br_iadd dX3_readPause_38 ?_
    refine br_iconst dX3_readPause_39 ?_
    refine br_iconst dX3_readPause_40 ?_
    refine br_Vi3 (i := 40) (j := 0) (ct_m_told (G := uG G 3 r) (T := T) (n := n) hT (show F19 3 = n from by omega) hk19 (by omega) (by omega) (by omega)) lk_X3_124 ⟨Nat.le_of_ble_eq_true rfl, Nat.le_of_ble_eq_true rfl⟩ ⟨Nat.le_of_ble_eq_true rfl, Nat.le_of_ble_eq_true rfl⟩ rfl rfl (Nat.le_of_ble_eq_true rfl) dX3_readPause_41 (fun v41 w_ hw_ => ?_)
    rcases hw_ with ⟨rfl, q41, F41, wd41, rfl, hk41, hp_⟩ | ⟨rfl, kd41, hK_, F41, rfl, e8_, e9_, hp_⟩
    · skip
      obtain ⟨t41, ht41⟩ : ∃ t, t = tokF T n t19.e := ⟨_, rfl⟩
      rw [← ht41] at hk41
      obtain ⟨k410, k412, k413, k418, k419, k4114, k4116, k4117⟩ : mKq F19 F41 := hp_
      obtain ⟨m6, m5, m4, m3, m2, ms, mf, me⟩ := id hk41
      have vb41 := q41.2
      refine bk_V.world (w' := (mw o a F41 wd41 (uG G 3 (uI r ((188 + (5 * (r 3))) + 1) t19.v)) ex)) (congrArg (fun G9 => mw o a F41 wd41 G9 ex) (uG_uG _ _ _ _)) ?_
      refine br_if_eq (tgt := 110) dX3_readPause_44 (by decide) (by decide) (fun q => absurd q (by decide)) (fun _ => ?_)
      refine br_aload_0 dX3_readPause_47 ?_
      refine br_iload_2 dX3_readPause_48 ?_
      refine br_iconst dX3_readPause_49 ?_
      refine br_iadd dX3_readPause_50 ?_
      refine br_aload_0 dX3_readPause_51 ?_
      refine br_mg_12 dX3_readPause_52 ?_
      refine br_iload_1 dX3_readPause_55 ?_
      refine br_iconst dX3_readPause_56 ?_
      refine br_iadd dX3_readPause_57 ?_
      refine br_ml_3 (v := (uI r ((188 + (5 * (r 3))) + 1) t19.v) ((148 + 5 * s) + 1)) (by omega) rfl dX3_readPause_58 ?_
      refine br_topi (y := rFr r s) ((uI_ne _ _ (by omega)).trans (congrArg r (by omega))) ?_
      refine br_aload_0 dX3_readPause_59 ?_
      refine br_mg_12 dX3_readPause_60 ?_
      refine br_iload_1 dX3_readPause_63 ?_
      refine br_iconst dX3_readPause_64 ?_
      refine br_iadd dX3_readPause_65 ?_
      refine br_ml_3 (v := (uI r ((188 + (5 * (r 3))) + 1) t19.v) ((148 + 5 * s) + 2)) (by omega) rfl dX3_readPause_66 ?_
      refine br_topi (y := rTo r s) ((uI_ne _ _ (by omega)).trans (congrArg r (by omega))) ?_
      refine br_Vi3 (i := 40) (j := 0) (ct_m_told (G := uG G 3 (uI r ((188 + (5 * (r 3))) + 1) t19.v)) (T := T) (n := n) hT (show F41 3 = n from by omega) hk41 (by omega) (by omega) (by omega)) lk_X3_124 ⟨Nat.le_of_ble_eq_true rfl, Nat.le_of_ble_eq_true rfl⟩ ⟨Nat.le_of_ble_eq_true rfl, Nat.le_of_ble_eq_true rfl⟩ rfl rfl (Nat.le_of_ble_eq_true rfl) dX3_readPause_67 (fun v67 w_ hw_ => ?_)
      rcases hw_ with ⟨rfl, q67, F67, wd67, rfl, hk67, hp_⟩ | ⟨rfl, kd67, hK_, F67, rfl, e8_, e9_, hp_⟩
      · skip
        obtain ⟨t67, ht67⟩ : ∃ t, t = tokF T n t41.e := ⟨_, rfl⟩
        rw [← ht67] at hk67
        obtain ⟨k670, k672, k673, k678, k679, k6714, k6716, k6717⟩ : mKq F41 F67 := hp_
        obtain ⟨m6, m5, m4, m3, m2, ms, mf, me⟩ := id hk67
        have vb67 := q67.2
        refine bk_V.world (w' := (mw o a F67 wd67 (uG G 3 (uI (uI r ((188 + (5 * (r 3))) + 1) t19.v) ((188 + (5 * (r 3))) + 2) t41.v)) ex)) (congrArg (fun G9 => mw o a F67 wd67 G9 ex) (uG_uG _ _ _ _)) ?_
        refine br_if_eq (tgt := 110) dX3_readPause_70 (by decide) (by decide) (fun q => absurd q (by decide)) (fun _ => ?_)
        refine br_aload_0 dX3_readPause_73 ?_
        refine br_iload_2 dX3_readPause_74 ?_
        refine br_iconst dX3_readPause_75 ?_
        refine br_iadd dX3_readPause_76 ?_
        refine br_aload_0 dX3_readPause_77 ?_
        refine br_mg_12 dX3_readPause_78 ?_
        refine br_iload_2 dX3_readPause_81 ?_
        refine br_iconst dX3_readPause_82 ?_
        refine br_iadd dX3_readPause_83 ?_
        refine br_ml_3 (v := (uI (uI r ((188 + (5 * (r 3))) + 1) t19.v) ((188 + (5 * (r 3))) + 2) t41.v) ((188 + (5 * (r 3))) + 2)) (by omega) rfl dX3_readPause_84 ?_
        refine br_topi (y := t41.v) (uI_eq _ _ _) ?_
        refine br_aload_0 dX3_readPause_85 ?_
        refine br_mg_12 dX3_readPause_86 ?_
        refine br_iload_1 dX3_readPause_89 ?_
        refine br_iconst dX3_readPause_90 ?_
        refine br_iadd dX3_readPause_91 ?_
        refine br_ml_3 (v := (uI (uI r ((188 + (5 * (r 3))) + 1) t19.v) ((188 + (5 * (r 3))) + 2) t41.v) ((148 + 5 * s) + 2)) (by omega) rfl dX3_readPause_92 ?_
        refine br_topi (y := rTo r s) ((uI_ne _ _ (by omega)).trans ((uI_ne _ _ (by omega)).trans (congrArg r (by omega)))) ?_
        refine br_aload_0 dX3_readPause_93 ?_
        refine br_mg_12 dX3_readPause_94 ?_
        refine br_iload_2 dX3_readPause_97 ?_
        refine br_iconst dX3_readPause_98 ?_
        refine br_iadd dX3_readPause_99 ?_
        refine br_ml_3 (v := (uI (uI r ((188 + (5 * (r 3))) + 1) t19.v) ((188 + (5 * (r 3))) + 2) t41.v) ((188 + (5 * (r 3))) + 1)) (by omega) rfl dX3_readPause_100 ?_
        refine br_topi (y := t19.v) ((uI_ne _ _ (by omega)).trans (uI_eq _ _ _)) ?_
        refine br_isub dX3_readPause_101 ?_
        refine br_iconst dX3_readPause_102 ?_
        refine br_iadd dX3_readPause_103 ?_
        refine br_Vi3 (i := 40) (j := 0) (ct_m_told (G := uG G 3 (uI (uI r ((188 + (5 * (r 3))) + 1) t19.v) ((188 + (5 * (r 3))) + 2) t41.v)) (T := T) (n := n) hT (show F67 3 = n from by omega) hk67 (by omega) (by omega) (by omega)) lk_X3_124 ⟨Nat.le_of_ble_eq_true rfl, Nat.le_of_ble_eq_true rfl⟩ ⟨Nat.le_of_ble_eq_true rfl, Nat.le_of_ble_eq_true rfl⟩ rfl rfl (Nat.le_of_ble_eq_true rfl) dX3_readPause_104 (fun v104 w_ hw_ => ?_)
        rcases hw_ with ⟨rfl, q104, F104, wd104, rfl, hk104, hp_⟩ | ⟨rfl, kd104, hK_, F104, rfl, e8_, e9_, hp_⟩
        · skip
          obtain ⟨t104, ht104⟩ : ∃ t, t = tokF T n t67.e := ⟨_, rfl⟩
          rw [← ht104] at hk104
          obtain ⟨k1040, k1042, k1043, k1048, k1049, k10414, k10416, k10417⟩ : mKq F67 F104 := hp_
          obtain ⟨m6, m5, m4, m3, m2, ms, mf, me⟩ := id hk104
          have vb104 := q104.2
          refine bk_V.world (w' := (mw o a F104 wd104 (uG G 3 (uI (uI (uI r ((188 + (5 * (r 3))) + 1) t19.v) ((188 + (5 * (r 3))) + 2) t41.v) ((188 + (5 * (r 3))) + 3) t67.v)) ex)) (congrArg (fun G9 => mw o a F104 wd104 G9 ex) (uG_uG _ _ _ _)) ?_
          refine br_if_ne (tgt := 112) dX3_readPause_107 (by decide) (by decide) (fun _ => ?_) (fun q => absurd q (by decide))
          refine br_aload_0 dX3_readPause_112 ?_
          refine br_mg_12 dX3_readPause_113 ?_
          refine br_iload_2 dX3_readPause_116 ?_
          refine br_iconst dX3_readPause_117 ?_
          refine br_iadd dX3_readPause_118 ?_
          refine br_aload_0 dX3_readPause_119 ?_
          refine br_mg_12 dX3_readPause_120 ?_
          refine br_iconst dX3_readPause_123 ?_
          refine br_ml_3 (v := (uI (uI (uI r ((188 + (5 * (r 3))) + 1) t19.v) ((188 + (5 * (r 3))) + 2) t41.v) ((188 + (5 * (r 3))) + 3) t67.v) 2) (by omega) rfl dX3_readPause_124 ?_
          refine br_topi (y := s) ((uI_ne _ _ (by omega)).trans ((uI_ne _ _ (by omega)).trans ((uI_ne _ _ (by omega)).trans hs2.symm))) ?_
          refine br_ms_3 (by omega) dX3_readPause_125 ?_
          refine bk_V.world (w' := (mw o a F104 wd104 (uG G 3 (uI (uI (uI (uI r ((188 + (5 * (r 3))) + 1) t19.v) ((188 + (5 * (r 3))) + 2) t41.v) ((188 + (5 * (r 3))) + 3) t67.v) ((188 + (5 * (r 3))) + 0) s)) ex)) (congrArg (fun G9 => mw o a F104 wd104 G9 ex) (uG_uG _ _ _ _)) ?_
          refine br_aload_0 dX3_readPause_126 ?_
          refine br_mg_12 dX3_readPause_127 ?_
          refine br_iload_1 dX3_readPause_130 ?_
          refine br_iconst dX3_readPause_131 ?_
          refine br_iadd dX3_readPause_132 ?_
          refine br_dup2 dX3_readPause_133 rfl rfl ?_
          refine br_ml_3 (v := (uI (uI (uI (uI r ((188 + (5 * (r 3))) + 1) t19.v) ((188 + (5 * (r 3))) + 2) t41.v) ((188 + (5 * (r 3))) + 3) t67.v) ((188 + (5 * (r 3))) + 0) s) ((148 + 5 * s) + 3)) (by omega) rfl dX3_readPause_134 ?_
          refine br_topi (y := rHas r s) ((uI_ne _ _ (by omega)).trans ((uI_ne _ _ (by omega)).trans ((uI_ne _ _ (by omega)).trans ((uI_ne _ _ (by omega)).trans (congrArg r (by omega)))))) ?_
          refine br_iconst dX3_readPause_135 ?_
          refine br_iadd dX3_readPause_136 ?_
          refine br_ms_3 (by omega) dX3_readPause_137 ?_
          refine bk_V.world (w' := (mw o a F104 wd104 (uG G 3 (uI (uI (uI (uI (uI r ((188 + (5 * (r 3))) + 1) t19.v) ((188 + (5 * (r 3))) + 2) t41.v) ((188 + (5 * (r 3))) + 3) t67.v) ((188 + (5 * (r 3))) + 0) s) ((148 + 5 * s) + 3) ((rHas r s) + 1))) ex)) (congrArg (fun G9 => mw o a F104 wd104 G9 ex) (uG_uG _ _ _ _)) ?_
          refine br_aload_0 dX3_readPause_138 ?_
          refine br_mg_12 dX3_readPause_139 ?_
          refine br_iconst dX3_readPause_142 ?_
          refine br_dup2 dX3_readPause_143 rfl rfl ?_
          refine br_ml_3 (v := (uI (uI (uI (uI (uI r ((188 + (5 * (r 3))) + 1) t19.v) ((188 + (5 * (r 3))) + 2) t41.v) ((188 + (5 * (r 3))) + 3) t67.v) ((188 + (5 * (r 3))) + 0) s) ((148 + 5 * s) + 3) ((rHas r s) + 1)) 3) (by omega) rfl dX3_readPause_144 ?_
          refine br_topi (y := r 3) ((uI_ne _ _ (by omega)).trans ((uI_ne _ _ (by omega)).trans ((uI_ne _ _ (by omega)).trans ((uI_ne _ _ (by omega)).trans (uI_ne _ _ (by omega)))))) ?_
          refine br_iconst dX3_readPause_145 ?_
          refine br_iadd dX3_readPause_146 ?_
          refine br_ms_3 (by omega) dX3_readPause_147 ?_
          refine bk_V.world (w' := (mw o a F104 wd104 (uG G 3 (uI (uI (uI (uI (uI (uI r ((188 + (5 * (r 3))) + 1) t19.v) ((188 + (5 * (r 3))) + 2) t41.v) ((188 + (5 * (r 3))) + 3) t67.v) ((188 + (5 * (r 3))) + 0) s) ((148 + 5 * s) + 3) ((rHas r s) + 1)) 3 ((r 3) + 1))) ex)) (congrArg (fun G9 => mw o a F104 wd104 G9 ex) (uG_uG _ _ _ _)) ?_
          refine bk_V.world (w' := (mw o a F104 wd104 (uG G 3 (pauseA r s t19.v t41.v t67.v)) ex)) (congrArg (fun g9 => mw o a F104 wd104 (uG G 3 g9) ex) (pauseA_eq r s t19.v t41.v t67.v)) ?_
          have hRN : RS (pauseA r s t19.v t41.v t67.v) := by
            subst hs2
            exact RS_pause hRS (by omega) (by omega) (by omega) (by omega)
          have hR2 := pauseA_2 r (s := s) (m := t19.v) (a := t41.v) (b := t67.v) (by omega) (by omega)
          have hRH := pauseA_Has r (s := s) (m := t19.v) (a := t41.v) (b := t67.v) (by omega) (by omega)
          have hPN : PSt o a G ex T n x0 x2 x14 t104 (pauseA r s t19.v t41.v t67.v) nd ln (mw o a F104 wd104 (uG G 3 (pauseA r s t19.v t41.v t67.v)) ex) := ⟨_, _, rfl, hk104, (show F104 0 = x0 from by omega), (show F104 2 = x2 from by omega), (show F104 3 = n from by omega), (show F104 14 = x14 from by omega), (show F104 16 = nd from by omega), (show F104 17 = ln from by omega), (show F104 8 = 0 from by omega)⟩
          have hKN : ∀ K, pauseK T n tk r s K = K t104 (pauseA r s t19.v t41.v t67.v) := fun K => by unfold pauseK; rw [← ht19, numK_0 q41.1 q41.2, ← ht41, numK_0 q67.1 q67.2, ← ht67, numK_0 q104.1 q104.2, ← ht104]
          refine br_iconst dX3_readPause_148 ?_
          exact br_ireturn dX3_readPause_149 (by decide) (by decide) (hret _ _ (⟨_, rfl, Or.inl ⟨rfl, hc9, t104, _, hPN, hRN, hR2, hRH, hKN⟩⟩))
        · skip
          obtain ⟨k1040, k1042, k10414⟩ : F104 0 = F67 0 ∧ F104 2 = F67 2 ∧ F104 14 = F67 14 := hp_
          refine br_if_ne (tgt := 112) dX3_readPause_107 (by decide) (by decide) (fun q => absurd q (by decide)) (fun _ => ?_)
          refine br_iconst dX3_readPause_110 ?_
          exact br_ireturn dX3_readPause_111 (by decide) (by decide) (hret _ _ (⟨_, rfl, Or.inr ⟨rfl, kd104, t67.f, ⟨_, _, _, rfl, e8_, e9_, by omega, by omega, by omega⟩, Or.inr ⟨by omega, fun K => by unfold pauseK; rw [← ht19, numK_0 q41.1 q41.2, ← ht41, numK_0 q67.1 q67.2, ← ht67, hK_]⟩⟩⟩))
      · skip
        obtain ⟨k670, k672, k6714⟩ : F67 0 = F41 0 ∧ F67 2 = F41 2 ∧ F67 14 = F41 14 := hp_
        refine br_if_eq (tgt := 110) dX3_readPause_70 (by decide) (by decide) (fun _ => ?_) (fun q => absurd q (by decide))
        refine br_iconst dX3_readPause_110 ?_
        exact br_ireturn dX3_readPause_111 (by decide) (by decide) (hret _ _ (⟨_, rfl, Or.inr ⟨rfl, kd67, t41.f, ⟨_, _, _, rfl, e8_, e9_, by omega, by omega, by omega⟩, Or.inr ⟨by omega, fun K => by unfold pauseK; rw [← ht19, numK_0 q41.1 q41.2, ← ht41, hK_]⟩⟩⟩))
    · skip
      obtain ⟨k410, k412, k4114⟩ : F41 0 = F19 0 ∧ F41 2 = F19 2 ∧ F41 14 = F19 14 := hp_
      refine br_if_eq (tgt := 110) dX3_readPause_44 (by decide) (by decide) (fun _ => ?_) (fun q => absurd q (by decide))
      refine br_iconst dX3_readPause_110 ?_
      exact br_ireturn dX3_readPause_111 (by decide) (by decide) (hret _ _ (⟨_, rfl, Or.inr ⟨rfl, kd41, t19.f, ⟨_, _, _, rfl, e8_, e9_, by omega, by omega, by omega⟩, Or.inr ⟨by omega, fun K => by unfold pauseK; rw [← ht19, hK_]⟩⟩⟩))
  · refine br_aload_0 dX3_readPause_12 ?_
    refine br_iconst dX3_readPause_13 ?_
    refine br_Vi1 (i := 40) (j := 0) (ct_m_bad (by omega)) lk_X3_99 ⟨Nat.le_of_ble_eq_true rfl, Nat.le_of_ble_eq_true rfl⟩ ⟨Nat.le_of_ble_eq_true rfl, Nat.le_of_ble_eq_true rfl⟩ rfl rfl (Nat.le_of_ble_eq_true rfl) dX3_readPause_14 (fun v14 w_ hw_ => ?_)
    obtain ⟨rfl, kd14, hkd14, rfl⟩ := hw_
    exact br_ireturn dX3_readPause_17 (by decide) (by decide) (hret _ _ (⟨_, rfl, Or.inr ⟨rfl, kd14, tk.f, ⟨_, _, _, rfl, rfl, m5, e0, e2, e14⟩, Or.inl ⟨by omega, by omega, rfl⟩⟩⟩))

theorem ct_m_readShift {D : bk_D} {o : Nat} {a : Nat → Nat} {G : Nat → Int → Int} {ex : gC} {T : Int → Int} {n x0 x2 x14 : Int} {tk : Tk} {r : Int → Int} {nd ln : Int} {w : gC} (hT : mT T (G 1) n) (h : PSt o a G ex T n x0 x2 x14 tk r nd ln w) (hs : tk.s = 2) (hR8 : 0 ≤ r 2 ∧ r 2 ≤ 8) (hRP : RP 10 r) : bk_K D yX3_readShift (.code yX3_readShift cX3_readShift 2 (some (FieldType.boolean))) ({ frames := 5, cells := 0, slots := 0, locals := 112 }) [.ref o] w (bk_pi fun v w2 => (v = 1 ∧ r 2 < 8 ∧ ∃ (tk2 : Tk) (r2 : Int → Int), PSt o a G ex T n x0 x2 x14 tk2 r2 nd ln w2 ∧ RP 10 r2 ∧ r2 2 = r 2 + 1 ∧ ∀ K, shiftK T n tk r K = K tk2 r2) ∨ (v = 0 ∧ ∃ kd p : Int, PErr o a G ex x0 x2 x14 kd p w2 ∧ ((r 2 = 8 ∧ kd = 3 ∧ p = tk.f) ∨ (r 2 < 8 ∧ ∀ K, shiftK T n tk r K = .error (kd, p))))) bk_nox := by
  obtain ⟨F, wd, rfl, hk, e0, e2, e3, e14, e16, e17⟩ := h
  obtain ⟨m6, m5, m4, m3, m2, ms, mf, me⟩ := id hk
  refine bk_ofV (own := "BreakSetterModel") (L0 := [some (.ref o), none]) (by decide) rfl (Nat.le_of_ble_eq_true rfl) rfl (bk_oz (by rintro r w (h | h); exact Or.inr h.1; exact Or.inl h.1)) (fun Γ hct hret hthr => ?_)
  have hn := hRP.rw.n
  refine br_aload_0 dX3_readShift_0 ?_
  refine br_mg_12 dX3_readShift_1 ?_
  refine br_iconst dX3_readShift_4 ?_
  refine br_ml_3 (v := r 2) (by omega) rfl dX3_readShift_5 ?_
  refine br_bipush dX3_readShift_6 (by decide) ?_
  refine br_icmp_ne (tgt := 17) dX3_readShift_8 (by decide) (by omega) (fun c8 => ?_) (fun c8 => ?_)
  · have hc8 : r 2 < 8 := by omega
    refine br_aload_0 dX3_readShift_17 ?_
    refine br_Vv0 (i := 40) (j := 0) (ct_m_go (G := uG G 3 r) (T := T) (n := n) hT (show F 3 = n from by omega) (show 0 ≤ F 4 ∧ F 4 ≤ n from by omega)) lk_X3_109 ⟨Nat.le_of_ble_eq_true rfl, Nat.le_of_ble_eq_true rfl⟩ ⟨Nat.le_of_ble_eq_true rfl, Nat.le_of_ble_eq_true rfl⟩ rfl rfl (Nat.le_of_ble_eq_true rfl) dX3_readShift_18 (fun w_ hw_ => ?_)
    obtain ⟨F18, wd18, rfl, hk_, hp_⟩ := hw_
    obtain ⟨t18, ht18⟩ : ∃ t, t = tokF T n tk.e := ⟨_, rfl⟩
    have hk18 : mTk T n F18 wd18 t18 := by
      have q : mTk T n F18 wd18 (tokF T n (F 4)) := hk_
      rw [m4, ← ht18] at q
      exact q
    obtain ⟨k180, k182, k183, k188, k189, k1814, k1816, k1817⟩ : mKq F F18 := ⟨hp_.1, hp_.2.1, hp_.2.2.1, hp_.2.2.2.1, hp_.2.2.2.2.1, hp_.2.2.2.2.2.1, hp_.2.2.2.2.2.2.1, hp_.2.2.2.2.2.2.2.1⟩
    have k1815 : F18 15 = F 15 := hp_.2.2.2.2.2.2.2.2
    obtain ⟨m6, m5, m4, m3, m2, ms, mf, me⟩ := id hk18
    refine br_sipush dX3_readShift_21 (by decide) ?_
    refine br_iconst dX3_readShift_24 ?_
    refine br_aload_0 dX3_readShift_25 ?_
    refine br_mg_12 dX3_readShift_26 ?_
    refine br_iconst dX3_readShift_29 ?_
    refine br_ml_3 (v := r 2) (by omega) rfl dX3_readShift_30 ?_
    refine br_imul dX3_readShift_31 ?_
    refine br_iadd dX3_readShift_32 ?_
    refine br_istore_1 dX3_readShift_33 rfl ?_
    refine br_aload_0 dX3_readShift_34 ?_
    refine br_iload_1 dX3_readShift_35 ?_
    refine br_iconst dX3_readShift_36 ?_
    refine br_iadd dX3_readShift_37 ?_
    refine br_iconst dX3_readShift_38 ?_
    refine br_aload_0 dX3_readShift_39 ?_
    refine br_mg_12 dX3_readShift_40 ?_
    refine br_iconst dX3_readShift_43 ?_
    refine br_ml_3 (v := r 0) (by omega) rfl dX3_readShift_44 ?_
    refine br_iconst dX3_readShift_45 ?_
    refine br_isub dX3_readShift_46 ?_
    refine br_Vi3 (i := 40) (j := 0) (ct_m_told (G := uG G 3 r) (T := T) (n := n) hT (show F18 3 = n from by omega) hk18 (by omega) (by omega) (by omega)) lk_X3_124 ⟨Nat.le_of_ble_eq_true rfl, Nat.le_of_ble_eq_true rfl⟩ ⟨Nat.le_of_ble_eq_true rfl, Nat.le_of_ble_eq_true rfl⟩ rfl rfl (Nat.le_of_ble_eq_true rfl) dX3_readShift_47 (fun v47 w_ hw_ => ?_)
    rcases hw_ with ⟨rfl, q47, F47, wd47, rfl, hk47, hp_⟩ | ⟨rfl, kd47, hK_, F47, rfl, e8_, e9_, hp_⟩
    · skip
      obtain ⟨t47, ht47⟩ : ∃ t, t = tokF T n t18.e := ⟨_, rfl⟩
      rw [← ht47] at hk47
      obtain ⟨k470, k472, k473, k478, k479, k4714, k4716, k4717⟩ : mKq F18 F47 := hp_
      obtain ⟨m6, m5, m4, m3, m2, ms, mf, me⟩ := id hk47
      have vb47 := q47.2
      refine bk_V.world (w' := (mw o a F47 wd47 (uG G 3 (uI r ((148 + (5 * (r 2))) + 0) t18.v)) ex)) (congrArg (fun G9 => mw o a F47 wd47 G9 ex) (uG_uG _ _ _ _)) ?_
      refine br_if_eq (tgt := 86) dX3_readShift_50 (by decide) (by decide) (fun q => absurd q (by decide)) (fun _ => ?_)
      refine br_aload_0 dX3_readShift_53 ?_
      refine br_iload_1 dX3_readShift_54 ?_
      refine br_iconst dX3_readShift_55 ?_
      refine br_iadd dX3_readShift_56 ?_
      refine br_iconst dX3_readShift_57 ?_
      refine br_bipush dX3_readShift_58 (by decide) ?_
      refine br_Vi3 (i := 40) (j := 0) (ct_m_told (G := uG G 3 (uI r ((148 + (5 * (r 2))) + 0) t18.v)) (T := T) (n := n) hT (show F47 3 = n from by omega) hk47 (by omega) (by omega) (by omega)) lk_X3_124 ⟨Nat.le_of_ble_eq_true rfl, Nat.le_of_ble_eq_true rfl⟩ ⟨Nat.le_of_ble_eq_true rfl, Nat.le_of_ble_eq_true rfl⟩ rfl rfl (Nat.le_of_ble_eq_true rfl) dX3_readShift_60 (fun v60 w_ hw_ => ?_)
      rcases hw_ with ⟨rfl, q60, F60, wd60, rfl, hk60, hp_⟩ | ⟨rfl, kd60, hK_, F60, rfl, e8_, e9_, hp_⟩
      · skip
        obtain ⟨t60, ht60⟩ : ∃ t, t = tokF T n t47.e := ⟨_, rfl⟩
        rw [← ht60] at hk60
        obtain ⟨k600, k602, k603, k608, k609, k6014, k6016, k6017⟩ : mKq F47 F60 := hp_
        obtain ⟨m6, m5, m4, m3, m2, ms, mf, me⟩ := id hk60
        have vb60 := q60.2
        refine bk_V.world (w' := (mw o a F60 wd60 (uG G 3 (uI (uI r ((148 + (5 * (r 2))) + 0) t18.v) ((148 + (5 * (r 2))) + 1) t47.v)) ex)) (congrArg (fun G9 => mw o a F60 wd60 G9 ex) (uG_uG _ _ _ _)) ?_
        refine br_if_eq (tgt := 86) dX3_readShift_63 (by decide) (by decide) (fun q => absurd q (by decide)) (fun _ => ?_)
        refine br_aload_0 dX3_readShift_66 ?_
        refine br_iload_1 dX3_readShift_67 ?_
        refine br_iconst dX3_readShift_68 ?_
        refine br_iadd dX3_readShift_69 ?_
        refine br_aload_0 dX3_readShift_70 ?_
        refine br_mg_12 dX3_readShift_71 ?_
        refine br_iload_1 dX3_readShift_74 ?_
        refine br_iconst dX3_readShift_75 ?_
        refine br_iadd dX3_readShift_76 ?_
        refine br_ml_3 (v := (uI (uI r ((148 + (5 * (r 2))) + 0) t18.v) ((148 + (5 * (r 2))) + 1) t47.v) ((148 + (5 * (r 2))) + 1)) (by omega) rfl dX3_readShift_77 ?_
        refine br_topi (y := t47.v) (uI_eq _ _ _) ?_
        refine br_bipush dX3_readShift_78 (by decide) ?_
        refine br_Vi3 (i := 40) (j := 0) (ct_m_told (G := uG G 3 (uI (uI r ((148 + (5 * (r 2))) + 0) t18.v) ((148 + (5 * (r 2))) + 1) t47.v)) (T := T) (n := n) hT (show F60 3 = n from by omega) hk60 (by omega) (by omega) (by omega)) lk_X3_124 ⟨Nat.le_of_ble_eq_true rfl, Nat.le_of_ble_eq_true rfl⟩ ⟨Nat.le_of_ble_eq_true rfl, Nat.le_of_ble_eq_true rfl⟩ rfl rfl (Nat.le_of_ble_eq_true rfl) dX3_readShift_80 (fun v80 w_ hw_ => ?_)
        rcases hw_ with ⟨rfl, q80, F80, wd80, rfl, hk80, hp_⟩ | ⟨rfl, kd80, hK_, F80, rfl, e8_, e9_, hp_⟩
        · skip
          obtain ⟨t80, ht80⟩ : ∃ t, t = tokF T n t60.e := ⟨_, rfl⟩
          rw [← ht80] at hk80
          obtain ⟨k800, k802, k803, k808, k809, k8014, k8016, k8017⟩ : mKq F60 F80 := hp_
          obtain ⟨m6, m5, m4, m3, m2, ms, mf, me⟩ := id hk80
          have vb80 := q80.2
          refine bk_V.world (w' := (mw o a F80 wd80 (uG G 3 (uI (uI (uI r ((148 + (5 * (r 2))) + 0) t18.v) ((148 + (5 * (r 2))) + 1) t47.v) ((148 + (5 * (r 2))) + 2) t60.v)) ex)) (congrArg (fun G9 => mw o a F80 wd80 G9 ex) (uG_uG _ _ _ _)) ?_
          refine br_if_ne (tgt := 88) dX3_readShift_83 (by decide) (by decide) (fun _ => ?_) (fun q => absurd q (by decide))
          refine br_aload_0 dX3_readShift_88 ?_
          refine br_mg_12 dX3_readShift_89 ?_
          refine br_iload_1 dX3_readShift_92 ?_
          refine br_iconst dX3_readShift_93 ?_
          refine br_iadd dX3_readShift_94 ?_
          refine br_aload_0 dX3_readShift_95 ?_
          refine br_mg_12 dX3_readShift_96 ?_
          refine br_iconst dX3_readShift_99 ?_
          refine br_ml_3 (v := (uI (uI (uI r ((148 + (5 * (r 2))) + 0) t18.v) ((148 + (5 * (r 2))) + 1) t47.v) ((148 + (5 * (r 2))) + 2) t60.v) 3) (by omega) rfl dX3_readShift_100 ?_
          refine br_topi (y := r 3) ((uI_ne _ _ (by omega)).trans ((uI_ne _ _ (by omega)).trans (uI_ne _ _ (by omega)))) ?_
          refine br_ms_3 (by omega) dX3_readShift_101 ?_
          refine bk_V.world (w' := (mw o a F80 wd80 (uG G 3 (uI (uI (uI (uI r ((148 + (5 * (r 2))) + 0) t18.v) ((148 + (5 * (r 2))) + 1) t47.v) ((148 + (5 * (r 2))) + 2) t60.v) ((148 + (5 * (r 2))) + 4) (r 3))) ex)) (congrArg (fun G9 => mw o a F80 wd80 G9 ex) (uG_uG _ _ _ _)) ?_
          refine bk_V.world (w' := (mw o a F80 wd80 (uG G 3 (shiftA r t18.v t47.v t60.v)) ex)) (congrArg (fun g9 => mw o a F80 wd80 (uG G 3 g9) ex) (shiftA_eq r t18.v t47.v t60.v)) ?_
          have hR20 := shiftA_2 r (p := t18.v) (a := t47.v) (b := t60.v) (by omega)
          have hRS0 : RS (shiftA r t18.v t47.v t60.v) := RS_shift hRP (by omega) (by omega) (by omega) (by omega)
          have hH0 : rHas (shiftA r t18.v t47.v t60.v) (r 2) = 0 := by
            have q := hRS0.2.2.2.2.2.1
            rw [hR20] at q
            have q3 : (shiftA r t18.v t47.v t60.v) 3 = r 3 := by unfold shiftA; simp (disch := omega) only [uI_ne]
            have q4 : rFi (shiftA r t18.v t47.v t60.v) (r 2) = r 3 := by unfold rFi shiftA; exact uI_eq _ _ _
            omega
          have hEq0 : ∀ K, shiftK T n tk r K = pausesK T n (r 2) (3 - rHas (shiftA r t18.v t47.v t60.v) (r 2)).toNat t80 (shiftA r t18.v t47.v t60.v) (fun t4 r4 => endK T n t4 fun t5 => K t5 (uI r4 2 (r4 2 + 1))) := fun K => by unfold shiftK; rw [← ht18, numK_0 q47.1 q47.2, ← ht47, numK_0 q60.1 q60.2, ← ht60, numK_0 q80.1 q80.2, ← ht80, hH0]; rfl
          have lp102 : ∀ (mm102 : Nat) (F1 : Nat → Int) (wd1 : Int) (r1 : Int → Int) (t1 : Tk), (3 - rHas r1 (r 2)).toNat < mm102 → (mTk T n F1 wd1 t1) → (F1 0 = x0 ∧ F1 2 = x2 ∧ F1 3 = n ∧ F1 14 = x14 ∧ F1 16 = nd ∧ F1 17 = ln ∧ F1 8 = 0) → (RS r1 ∧ r1 2 = r 2) → (∀ K, shiftK T n tk r K = pausesK T n (r 2) (3 - rHas r1 (r 2)).toNat t1 r1 (fun t4 r4 => endK T n t4 fun t5 => K t5 (uI r4 2 (r4 2 + 1)))) → bk_V Γ D ({ frames := 5, cells := 0, slots := 0, locals := 112 }) "BreakSetterModel" cX3_readShift [] 0 0 (mw o a F1 wd1 (uG G 3 r1) ex) [some (.ref o), some (.int (iI (148 + (5 * (r 2)))))] [] 102 := by
            intro mm102
            induction mm102 with
            | zero => intro F1 wd1 r1 t1 hm102; exact absurd hm102 (Nat.not_lt_zero _)
            | succ mm102 ih102 =>
              intro F1 wd1 r1 t1 hm102 hkL kk hRS hEq
              obtain ⟨m6, m5, m4, m3, m2, ms, mf, me⟩ := id hkL
              have hbL := RS_bd hRS.1
              rw [hRS.2] at hbL
              refine br_aload_0 dX3_readShift_102 ?_
              refine br_bipush dX3_readShift_103 (by decide) ?_
              refine br_bipush dX3_readShift_105 (by decide) ?_
              refine br_bipush dX3_readShift_107 (by decide) ?_
              refine br_bipush dX3_readShift_109 (by decide) ?_
              refine br_bipush dX3_readShift_111 (by decide) ?_
              refine br_Sl5 (ct_m_five (by omega) (by omega) (by omega) (by omega) (by omega)) lk_X3_116 ⟨Nat.le_of_ble_eq_true rfl, Nat.le_of_ble_eq_true rfl⟩ ⟨Nat.le_of_ble_eq_true rfl, Nat.le_of_ble_eq_true rfl⟩  (Nat.le_of_ble_eq_true rfl) dX3_readShift_113 (fun v113 w_ hw_ => ?_)
              obtain ⟨rfl, rfl⟩ := hw_
              refine br_VZ1 (i := 40) (j := 0) (ct_m_isWord (Q := isW T t1 wPause) (wPause_q hkL) (by omega) (fun q_ => by have h_ := hkL.2.2.2.2.1 (hkL.1.symm.trans q_); rw [h_.1]; exact hash_bd h_.2.2 h_.2.1) (by unfold h5W; unfold h4W; omega)) lk_X3_120 ⟨Nat.le_of_ble_eq_true rfl, Nat.le_of_ble_eq_true rfl⟩ ⟨Nat.le_of_ble_eq_true rfl, Nat.le_of_ble_eq_true rfl⟩ rfl rfl (Nat.le_of_ble_eq_true rfl) dX3_readShift_116 (fun c116 => ?_) (fun c116 => ?_)
              · have hW_ := c116
                refine br_if_eq (tgt := 132) dX3_readShift_119 (by decide) (by decide) (fun q => absurd q (by decide)) (fun _ => ?_)
                refine br_aload_0 dX3_readShift_122 ?_
                refine br_iload_1 dX3_readShift_123 ?_
                refine br_Vi1 (i := 40) (j := 0) (ct_m_readPause (G := G) (T := T) (n := n) (x0 := x0) (x2 := x2) (x14 := x14) (tk := t1) (r := r1) (nd := nd) (ln := ln) hT ⟨_, _, rfl, hkL, (show F1 0 = x0 from by omega), (show F1 2 = x2 from by omega), (show F1 3 = n from by omega), (show F1 14 = x14 from by omega), (show F1 16 = nd from by omega), (show F1 17 = ln from by omega), (show F1 8 = 0 from by omega)⟩ (s := r 2) (hW_.1) hRS.2.symm hRS.1) lk_X3_134 ⟨Nat.le_of_ble_eq_true rfl, Nat.le_of_ble_eq_true rfl⟩ ⟨Nat.le_of_ble_eq_true rfl, Nat.le_of_ble_eq_true rfl⟩ rfl rfl (Nat.le_of_ble_eq_true rfl) dX3_readShift_124 (fun v124 w_ hw_ => ?_)
                rcases hw_ with ⟨rfl, h3, t124, r124, hp_, hRS124, h2_, hh_, hK124⟩ | ⟨rfl, kd124, p124, hp_, hE_⟩
                · skip
                  obtain ⟨F124, wd124, rfl, hk124, e1240, e1242, e1243, e12414, e12416, e12417⟩ := hp_
                  refine br_if_ne (tgt := 102) dX3_readShift_127 (by decide) (by decide) (fun _ => ?_) (fun q => absurd q (by decide))
                  exact ih102 _ _ _ _ (by omega) hk124 (by omega) ⟨hRS124, by omega⟩ (fun K => by rw [hEq, pausesK_in hW_ h3, hK124, hh_])
                · skip
                  obtain ⟨F124, wd124, g124, rfl, e8_, e9_, e1240, e1242, e12414⟩ := hp_
                  refine br_if_ne (tgt := 102) dX3_readShift_127 (by decide) (by decide) (fun q => absurd q (by decide)) (fun _ => ?_)
                  refine br_iconst dX3_readShift_130 ?_
                  exact br_ireturn dX3_readShift_131 (by decide) (by decide) (hret _ _ (⟨_, rfl, Or.inr ⟨rfl, kd124, p124, ⟨_, _, _, rfl, e8_, e9_, by omega, by omega, by omega⟩, Or.inr ⟨hc8, hE_.elim (fun a K => (by rw [hEq, pausesK_full hW_ a.1, a.2.1, a.2.2])) (fun a K => (by rw [hEq, pausesK_in hW_ a.1, a.2]))⟩⟩⟩))
              · have hW_ := c116
                refine br_if_eq (tgt := 132) dX3_readShift_119 (by decide) (by decide) (fun _ => ?_) (fun q => absurd q (by decide))
                refine br_aload_0 dX3_readShift_132 ?_
                refine br_mg_12 dX3_readShift_133 ?_
                refine br_iconst dX3_readShift_136 ?_
                refine br_dup2 dX3_readShift_137 rfl rfl ?_
                refine br_ml_3 (v := r1 2) (by omega) rfl dX3_readShift_138 ?_
                refine br_iconst dX3_readShift_139 ?_
                refine br_iadd dX3_readShift_140 ?_
                refine br_ms_3 (by omega) dX3_readShift_141 ?_
                refine bk_V.world (w' := (mw o a F1 wd1 (uG G 3 (uI r1 2 ((r1 2) + 1))) ex)) (congrArg (fun G9 => mw o a F1 wd1 G9 ex) (uG_uG _ _ _ _)) ?_
                refine br_aload_0 dX3_readShift_142 ?_
                refine br_Vi0 (i := 40) (j := 0) (ct_m_readEnd (G := G) (T := T) (n := n) (x0 := x0) (x2 := x2) (x14 := x14) (tk := t1) (r := uI r1 2 ((r1 2) + 1)) (nd := nd) (ln := ln) hT ⟨_, _, rfl, hkL, (show F1 0 = x0 from by omega), (show F1 2 = x2 from by omega), (show F1 3 = n from by omega), (show F1 14 = x14 from by omega), (show F1 16 = nd from by omega), (show F1 17 = ln from by omega), (show F1 8 = 0 from by omega)⟩) lk_X3_127 ⟨Nat.le_of_ble_eq_true rfl, Nat.le_of_ble_eq_true rfl⟩ ⟨Nat.le_of_ble_eq_true rfl, Nat.le_of_ble_eq_true rfl⟩ rfl rfl (Nat.le_of_ble_eq_true rfl) dX3_readShift_143 (fun v143 w_ hw_ => ?_)
                rcases hw_ with ⟨rfl, q143, hp_⟩ | ⟨rfl, q143, hp_⟩
                · skip
                  obtain ⟨F143, wd143, rfl, hk143, e1430, e1432, e1433, e14314, e14316, e14317⟩ := hp_
                  obtain ⟨t143, ht143⟩ : ∃ t, t = tokF T n t1.e := ⟨_, rfl⟩
                  rw [← ht143] at hk143
                  obtain ⟨m6, m5, m4, m3, m2, ms, mf, me⟩ := id hk143
                  have hRN : RP 10 (uI r1 2 (r1 2 + 1)) := RS_end hRS.1 (by rw [hRS.2]; exact hbL.2.2.2.1.2)
                  have hR2 : (uI r1 2 (r1 2 + 1)) 2 = r 2 + 1 := by rw [uI_eq, hRS.2]
                  have hPN : PSt o a G ex T n x0 x2 x14 t143 (uI r1 2 (r1 2 + 1)) nd ln (mw o a F143 wd143 (uG G 3 (uI r1 2 ((r1 2) + 1))) ex) := ⟨_, _, rfl, hk143, (show F143 0 = x0 from by omega), (show F143 2 = x2 from by omega), (show F143 3 = n from by omega), (show F143 14 = x14 from by omega), (show F143 16 = nd from by omega), (show F143 17 = ln from by omega), (show F143 8 = 0 from by omega)⟩
                  have hKN : ∀ K, shiftK T n tk r K = K t143 (uI r1 2 (r1 2 + 1)) := fun K => by rw [hEq, pausesK_out hW_, endK_0 q143, ← ht143]
                  exact br_ireturn dX3_readShift_146 (by decide) (by decide) (hret _ _ (⟨_, rfl, Or.inl ⟨rfl, hc8, t143, _, hPN, hRN, hR2, hKN⟩⟩))
                · skip
                  obtain ⟨F143, wd143, g143, rfl, e8_, e9_, e1430, e1432, e14314⟩ := hp_
                  exact br_ireturn dX3_readShift_146 (by decide) (by decide) (hret _ _ (⟨_, rfl, Or.inr ⟨rfl, 1, t1.f, ⟨_, _, _, rfl, e8_, e9_, by omega, by omega, by omega⟩, Or.inr ⟨hc8, fun K => by rw [hEq, pausesK_out hW_, endK_1 q143]⟩⟩⟩))
          exact lp102 _ _ _ _ _ (Nat.lt_succ_self _) hk80 (by omega) ⟨hRS0, hR20⟩ hEq0
        · skip
          obtain ⟨k800, k802, k8014⟩ : F80 0 = F60 0 ∧ F80 2 = F60 2 ∧ F80 14 = F60 14 := hp_
          refine br_if_ne (tgt := 88) dX3_readShift_83 (by decide) (by decide) (fun q => absurd q (by decide)) (fun _ => ?_)
          refine br_iconst dX3_readShift_86 ?_
          exact br_ireturn dX3_readShift_87 (by decide) (by decide) (hret _ _ (⟨_, rfl, Or.inr ⟨rfl, kd80, t60.f, ⟨_, _, _, rfl, e8_, e9_, by omega, by omega, by omega⟩, Or.inr ⟨by omega, fun K => by unfold shiftK; rw [← ht18, numK_0 q47.1 q47.2, ← ht47, numK_0 q60.1 q60.2, ← ht60, hK_]⟩⟩⟩))
      · skip
        obtain ⟨k600, k602, k6014⟩ : F60 0 = F47 0 ∧ F60 2 = F47 2 ∧ F60 14 = F47 14 := hp_
        refine br_if_eq (tgt := 86) dX3_readShift_63 (by decide) (by decide) (fun _ => ?_) (fun q => absurd q (by decide))
        refine br_iconst dX3_readShift_86 ?_
        exact br_ireturn dX3_readShift_87 (by decide) (by decide) (hret _ _ (⟨_, rfl, Or.inr ⟨rfl, kd60, t47.f, ⟨_, _, _, rfl, e8_, e9_, by omega, by omega, by omega⟩, Or.inr ⟨by omega, fun K => by unfold shiftK; rw [← ht18, numK_0 q47.1 q47.2, ← ht47, hK_]⟩⟩⟩))
    · skip
      obtain ⟨k470, k472, k4714⟩ : F47 0 = F18 0 ∧ F47 2 = F18 2 ∧ F47 14 = F18 14 := hp_
      refine br_if_eq (tgt := 86) dX3_readShift_50 (by decide) (by decide) (fun _ => ?_) (fun q => absurd q (by decide))
      refine br_iconst dX3_readShift_86 ?_
      exact br_ireturn dX3_readShift_87 (by decide) (by decide) (hret _ _ (⟨_, rfl, Or.inr ⟨rfl, kd47, t18.f, ⟨_, _, _, rfl, e8_, e9_, by omega, by omega, by omega⟩, Or.inr ⟨by omega, fun K => by unfold shiftK; rw [← ht18, hK_]⟩⟩⟩))
  · refine br_aload_0 dX3_readShift_11 ?_
    refine br_iconst dX3_readShift_12 ?_
    refine br_Vi1 (i := 40) (j := 0) (ct_m_bad (by omega)) lk_X3_99 ⟨Nat.le_of_ble_eq_true rfl, Nat.le_of_ble_eq_true rfl⟩ ⟨Nat.le_of_ble_eq_true rfl, Nat.le_of_ble_eq_true rfl⟩ rfl rfl (Nat.le_of_ble_eq_true rfl) dX3_readShift_13 (fun v13 w_ hw_ => ?_)
    obtain ⟨rfl, kd13, hkd13, rfl⟩ := hw_
    exact br_ireturn dX3_readShift_16 (by decide) (by decide) (hret _ _ (⟨_, rfl, Or.inr ⟨rfl, kd13, tk.f, ⟨_, _, _, rfl, rfl, m5, e0, e2, e14⟩, Or.inl ⟨by omega, by omega, rfl⟩⟩⟩))

theorem ct_m_readWhole {D : bk_D} {o : Nat} {a : Nat → Nat} {G : Nat → Int → Int} {ex : gC} {T : Int → Int} {n x0 x2 x14 : Int} {tk : Tk} {r : Int → Int} {nd ln : Int} {w : gC} (hT : mT T (G 1) n) (h : PSt o a G ex T n x0 x2 x14 tk r nd ln w) (hr : r = fun _ => 0) (hz : nd = 0 ∧ ln = 0) : bk_K D yX3_readWhole (.code yX3_readWhole cX3_readWhole 1 (some (FieldType.boolean))) ({ frames := 6, cells := 0, slots := 0, locals := 133 }) [.ref o] w (bk_pi fun v w2 => (v = 1 ∧ ∃ (r2 : Int → Int) (ln2 : Int), (∃ (F2 : Nat → Int) (wd2 : Int), w2 = mw o a F2 wd2 (uG G 3 r2) ex ∧ F2 0 = x0 ∧ F2 2 = x2 ∧ F2 14 = x14 ∧ F2 17 = ln2 ∧ F2 8 = 0) ∧ RP 10 r2 ∧ (0 ≤ ln2 ∧ ln2 ≤ 30) ∧ restF T n tk r = .ok (r2, ln2)) ∨ (v = 0 ∧ ∃ kd p : Int, PErr o a G ex x0 x2 x14 kd p w2 ∧ restF T n tk r = .error (kd, p))) bk_nox := by
  obtain ⟨F, wd, rfl, hk, e0, e2, e3, e14, e16, e17⟩ := h
  obtain ⟨m6, m5, m4, m3, m2, ms, mf, me⟩ := id hk
  refine bk_ofV (own := "BreakSetterModel") (L0 := [some (.ref o)]) (by decide) rfl (Nat.le_of_ble_eq_true rfl) rfl (bk_oz (by rintro r w (h | h); exact Or.inr h.1; exact Or.inl h.1)) (fun Γ hct hret hthr => ?_)
  refine br_aload_0 dX3_readWhole_0 ?_
  refine br_Vi0 (i := 40) (j := 0) (ct_m_readPosts (G := G) (T := T) (n := n) (x0 := x0) (x2 := x2) (x14 := x14) (tk := tk) (r := r) (nd := nd) (ln := ln) hT ⟨_, _, rfl, hk, (show F 0 = x0 from by omega), (show F 2 = x2 from by omega), (show F 3 = n from by omega), (show F 14 = x14 from by omega), (show F 16 = nd from by omega), (show F 17 = ln from by omega), (show F 8 = 0 from by omega)⟩ hr) lk_X3_137 ⟨Nat.le_of_ble_eq_true rfl, Nat.le_of_ble_eq_true rfl⟩ ⟨Nat.le_of_ble_eq_true rfl, Nat.le_of_ble_eq_true rfl⟩ rfl rfl (Nat.le_of_ble_eq_true rfl) dX3_readWhole_1 (fun v1 w_ hw_ => ?_)
  rcases hw_ with ⟨rfl, t1, r1, hp_, hRP1, h21, hK1⟩ | ⟨rfl, kd1, p1, hp_, hE_⟩
  · skip
    obtain ⟨F1, wd1, rfl, hk1, e10, e12, e13, e114, e116, e117⟩ := hp_
    refine br_if_ne (tgt := 9) dX3_readWhole_4 (by decide) (by decide) (fun _ => ?_) (fun q => absurd q (by decide))
    refine br_aload_0 dX3_readWhole_9 ?_
    refine br_dup dX3_readWhole_10 rfl ?_
    refine br_mg_17 (v := F1 17) rfl dX3_readWhole_11 ?_
    refine br_iconst dX3_readWhole_14 ?_
    refine br_iadd dX3_readWhole_15 ?_
    refine br_mp_17 dX3_readWhole_16 ?_
    have lp19 : ∀ (mm19 : Nat) (F1 : Nat → Int) (wd1 : Int) (r1 : Int → Int) (t1 : Tk) (nd1 : Int) (ln1 : Int), (10 - nd1).toNat < mm19 → (mTk T n F1 wd1 t1) → (F1 0 = x0 ∧ F1 2 = x2 ∧ F1 3 = n ∧ F1 14 = x14 ∧ F1 8 = 0) → (F1 16 = nd1) → (F1 17 = ln1) → (0 ≤ nd1 ∧ nd1 ≤ 10) → (0 ≤ ln1 ∧ ln1 ≤ 1 + nd1) → (RP nd1 r1) → (r1 2 = 0) → (restF T n tk r = needsK T n (10 - nd1).toNat t1 r1 ln1 (fun t2 r2 l2 => shiftsK T n 8 t2 r2 l2 stopK)) → bk_V Γ D ({ frames := 6, cells := 0, slots := 0, locals := 133 }) "BreakSetterModel" cX3_readWhole [] 0 0 (mw o a F1 wd1 (uG G 3 r1) ex) [some (.ref o)] [] 19 := by
      intro mm19
      induction mm19 with
      | zero => intro F1 wd1 r1 t1 nd1 ln1 hm19; exact absurd hm19 (Nat.not_lt_zero _)
      | succ mm19 ih19 =>
        intro F1 wd1 r1 t1 nd1 ln1 hm19 hkL kk k16 k17 hnd hln hRP hr2 hEq
        obtain ⟨m6, m5, m4, m3, m2, ms, mf, me⟩ := id hkL
        refine br_aload_0 dX3_readWhole_19 ?_
        refine br_bipush dX3_readWhole_20 (by decide) ?_
        refine br_bipush dX3_readWhole_22 (by decide) ?_
        refine br_bipush dX3_readWhole_24 (by decide) ?_
        refine br_bipush dX3_readWhole_26 (by decide) ?_
        refine br_Sl4 (ct_m_four (by omega) (by omega) (by omega) (by omega)) lk_X3_58 ⟨Nat.le_of_ble_eq_true rfl, Nat.le_of_ble_eq_true rfl⟩ ⟨Nat.le_of_ble_eq_true rfl, Nat.le_of_ble_eq_true rfl⟩  (Nat.le_of_ble_eq_true rfl) dX3_readWhole_28 (fun v28 w_ hw_ => ?_)
        obtain ⟨rfl, rfl⟩ := hw_
        refine br_VZ1 (i := 40) (j := 0) (ct_m_isWord (Q := isW T t1 wNeed) (wNeed_q hkL) (by omega) (fun q_ => by have h_ := hkL.2.2.2.2.1 (hkL.1.symm.trans q_); rw [h_.1]; exact hash_bd h_.2.2 h_.2.1) (by unfold h4W; omega)) lk_X3_120 ⟨Nat.le_of_ble_eq_true rfl, Nat.le_of_ble_eq_true rfl⟩ ⟨Nat.le_of_ble_eq_true rfl, Nat.le_of_ble_eq_true rfl⟩ rfl rfl (Nat.le_of_ble_eq_true rfl) dX3_readWhole_31 (fun c31 => ?_) (fun c31 => ?_)
        · have hW_ := c31
          refine br_if_eq (tgt := 59) dX3_readWhole_34 (by decide) (by decide) (fun q => absurd q (by decide)) (fun _ => ?_)
          refine br_aload_0 dX3_readWhole_37 ?_
          refine br_Vi0 (i := 40) (j := 0) (ct_m_readNeed (G := G) (T := T) (n := n) (x0 := x0) (x2 := x2) (x14 := x14) (tk := t1) (r := r1) (nd := nd1) (ln := ln1) hT ⟨_, _, rfl, hkL, (show F1 0 = x0 from by omega), (show F1 2 = x2 from by omega), (show F1 3 = n from by omega), (show F1 14 = x14 from by omega), (show F1 16 = nd1 from by omega), (show F1 17 = ln1 from by omega), (show F1 8 = 0 from by omega)⟩ (hW_.1) hnd hRP) lk_X3_143 ⟨Nat.le_of_ble_eq_true rfl, Nat.le_of_ble_eq_true rfl⟩ ⟨Nat.le_of_ble_eq_true rfl, Nat.le_of_ble_eq_true rfl⟩ rfl rfl (Nat.le_of_ble_eq_true rfl) dX3_readWhole_38 (fun v38 w_ hw_ => ?_)
          rcases hw_ with ⟨rfl, h3, t38, r38, hp_, hRP38, h2_, hK38⟩ | ⟨rfl, kd38, p38, hp_, hE_⟩
          · skip
            obtain ⟨F38, wd38, rfl, hk38, e380, e382, e383, e3814, e3816, e3817⟩ := hp_
            refine br_if_ne (tgt := 46) dX3_readWhole_41 (by decide) (by decide) (fun _ => ?_) (fun q => absurd q (by decide))
            refine br_aload_0 dX3_readWhole_46 ?_
            refine br_dup dX3_readWhole_47 rfl ?_
            refine br_mg_17 (v := F38 17) rfl dX3_readWhole_48 ?_
            refine br_iconst dX3_readWhole_51 ?_
            refine br_iadd dX3_readWhole_52 ?_
            refine br_mp_17 dX3_readWhole_53 ?_
            refine br_goto (tgt := 19) dX3_readWhole_56 (by decide) ?_
            exact ih19 _ _ _ _ _ _ (by omega) hk38 (show F38 0 = x0 ∧ F38 2 = x2 ∧ F38 3 = n ∧ F38 14 = x14 ∧ F38 8 = 0 from by omega) (show F38 16 = nd1 + 1 from by omega) (show F38 17 + 1 = ln1 + 1 from by omega) (by omega) (by omega) hRP38 (by omega) (by rw [hEq, needsK_in hW_ h3, hK38])
          · skip
            obtain ⟨F38, wd38, g38, rfl, e8_, e9_, e380, e382, e3814⟩ := hp_
            refine br_if_ne (tgt := 46) dX3_readWhole_41 (by decide) (by decide) (fun q => absurd q (by decide)) (fun _ => ?_)
            refine br_iconst dX3_readWhole_44 ?_
            exact br_ireturn dX3_readWhole_45 (by decide) (by decide) (hret _ _ (⟨_, rfl, Or.inr ⟨rfl, kd38, p38, ⟨_, _, _, rfl, e8_, e9_, by omega, by omega, by omega⟩, hE_.elim (fun a => (by rw [hEq, needsK_full hW_ a.1, a.2.1, a.2.2])) (fun a => (by rw [hEq, needsK_in hW_ a.1, a.2]))⟩⟩))
        · have hW_ := c31
          refine br_if_eq (tgt := 59) dX3_readWhole_34 (by decide) (by decide) (fun _ => ?_) (fun q => absurd q (by decide))
          have lp59 : ∀ (mm59 : Nat) (F2 : Nat → Int) (wd2 : Int) (r2 : Int → Int) (t2 : Tk) (ln2 : Int), (8 - r2 2).toNat < mm59 → (mTk T n F2 wd2 t2) → (F2 0 = x0 ∧ F2 2 = x2 ∧ F2 3 = n ∧ F2 14 = x14 ∧ F2 8 = 0) → (F2 16 = nd1) → (F2 17 = ln2) → (0 ≤ ln2 ∧ ln2 ≤ 20 + r2 2) → (RP 10 r2) → (0 ≤ r2 2 ∧ r2 2 ≤ 8) → (restF T n tk r = shiftsK T n (8 - r2 2).toNat t2 r2 ln2 stopK) → bk_V Γ D ({ frames := 6, cells := 0, slots := 0, locals := 133 }) "BreakSetterModel" cX3_readWhole [] 0 0 (mw o a F2 wd2 (uG G 3 r2) ex) [some (.ref o)] [] 59 := by
            intro mm59
            induction mm59 with
            | zero => intro F2 wd2 r2 t2 ln2 hm59; exact absurd hm59 (Nat.not_lt_zero _)
            | succ mm59 ih59 =>
              intro F2 wd2 r2 t2 ln2 hm59 hkL2 kk2 k216 k217 hln2 hRP hR8 hEq2
              obtain ⟨m6, m5, m4, m3, m2, ms, mf, me⟩ := id hkL2
              refine br_aload_0 dX3_readWhole_59 ?_
              refine br_bipush dX3_readWhole_60 (by decide) ?_
              refine br_bipush dX3_readWhole_62 (by decide) ?_
              refine br_bipush dX3_readWhole_64 (by decide) ?_
              refine br_bipush dX3_readWhole_66 (by decide) ?_
              refine br_bipush dX3_readWhole_68 (by decide) ?_
              refine br_Sl5 (ct_m_five (by omega) (by omega) (by omega) (by omega) (by omega)) lk_X3_116 ⟨Nat.le_of_ble_eq_true rfl, Nat.le_of_ble_eq_true rfl⟩ ⟨Nat.le_of_ble_eq_true rfl, Nat.le_of_ble_eq_true rfl⟩  (Nat.le_of_ble_eq_true rfl) dX3_readWhole_70 (fun v70 w_ hw_ => ?_)
              obtain ⟨rfl, rfl⟩ := hw_
              refine br_VZ1 (i := 40) (j := 0) (ct_m_isWord (Q := isW T t2 wShift) (wShift_q hkL2) (by omega) (fun q_ => by have h_ := hkL2.2.2.2.2.1 (hkL2.1.symm.trans q_); rw [h_.1]; exact hash_bd h_.2.2 h_.2.1) (by unfold h5W; unfold h4W; omega)) lk_X3_120 ⟨Nat.le_of_ble_eq_true rfl, Nat.le_of_ble_eq_true rfl⟩ ⟨Nat.le_of_ble_eq_true rfl, Nat.le_of_ble_eq_true rfl⟩ rfl rfl (Nat.le_of_ble_eq_true rfl) dX3_readWhole_73 (fun c73 => ?_) (fun c73 => ?_)
              · have hW_ := c73
                refine br_if_eq (tgt := 101) dX3_readWhole_76 (by decide) (by decide) (fun q => absurd q (by decide)) (fun _ => ?_)
                refine br_aload_0 dX3_readWhole_79 ?_
                refine br_Vi0 (i := 40) (j := 0) (ct_m_readShift (G := G) (T := T) (n := n) (x0 := x0) (x2 := x2) (x14 := x14) (tk := t2) (r := r2) (nd := nd1) (ln := ln2) hT ⟨_, _, rfl, hkL2, (show F2 0 = x0 from by omega), (show F2 2 = x2 from by omega), (show F2 3 = n from by omega), (show F2 14 = x14 from by omega), (show F2 16 = nd1 from by omega), (show F2 17 = ln2 from by omega), (show F2 8 = 0 from by omega)⟩ (hW_.1) hR8 hRP) lk_X3_146 ⟨Nat.le_of_ble_eq_true rfl, Nat.le_of_ble_eq_true rfl⟩ ⟨Nat.le_of_ble_eq_true rfl, Nat.le_of_ble_eq_true rfl⟩ rfl rfl (Nat.le_of_ble_eq_true rfl) dX3_readWhole_80 (fun v80 w_ hw_ => ?_)
                rcases hw_ with ⟨rfl, h3, t80, r80, hp_, hRP80, h2_, hK80⟩ | ⟨rfl, kd80, p80, hp_, hE_⟩
                · skip
                  obtain ⟨F80, wd80, rfl, hk80, e800, e802, e803, e8014, e8016, e8017⟩ := hp_
                  refine br_if_ne (tgt := 88) dX3_readWhole_83 (by decide) (by decide) (fun _ => ?_) (fun q => absurd q (by decide))
                  refine br_aload_0 dX3_readWhole_88 ?_
                  refine br_dup dX3_readWhole_89 rfl ?_
                  refine br_mg_17 (v := F80 17) rfl dX3_readWhole_90 ?_
                  refine br_iconst dX3_readWhole_93 ?_
                  refine br_iadd dX3_readWhole_94 ?_
                  refine br_mp_17 dX3_readWhole_95 ?_
                  refine br_goto (tgt := 59) dX3_readWhole_98 (by decide) ?_
                  exact ih59 _ _ _ _ _ (by omega) hk80 (show F80 0 = x0 ∧ F80 2 = x2 ∧ F80 3 = n ∧ F80 14 = x14 ∧ F80 8 = 0 from by omega) (show F80 16 = nd1 from by omega) (show F80 17 + 1 = ln2 + 1 from by omega) (by omega) hRP80 (by omega) (by rw [hEq2, shiftsK_in hW_ h3, hK80, h2_])
                · skip
                  obtain ⟨F80, wd80, g80, rfl, e8_, e9_, e800, e802, e8014⟩ := hp_
                  refine br_if_ne (tgt := 88) dX3_readWhole_83 (by decide) (by decide) (fun q => absurd q (by decide)) (fun _ => ?_)
                  refine br_iconst dX3_readWhole_86 ?_
                  exact br_ireturn dX3_readWhole_87 (by decide) (by decide) (hret _ _ (⟨_, rfl, Or.inr ⟨rfl, kd80, p80, ⟨_, _, _, rfl, e8_, e9_, by omega, by omega, by omega⟩, hE_.elim (fun a => (by rw [hEq2, shiftsK_full hW_ a.1, a.2.1, a.2.2])) (fun a => (by rw [hEq2, shiftsK_in hW_ a.1, a.2]))⟩⟩))
              · have hW_ := c73
                refine br_if_eq (tgt := 101) dX3_readWhole_76 (by decide) (by decide) (fun _ => ?_) (fun q => absurd q (by decide))
                refine br_aload_0 dX3_readWhole_101 ?_
                refine br_mg_6 (v := F2 6) rfl dX3_readWhole_102 ?_
                refine br_if_eq (tgt := 116) dX3_readWhole_105 (by decide) (by omega) (fun c105 => ?_) (fun c105 => ?_)
                · refine br_iconst dX3_readWhole_116 ?_
                  refine br_goto (tgt := 121) dX3_readWhole_117 (by decide) ?_
                  exact br_ireturn dX3_readWhole_121 (by decide) (by decide) (hret _ _ (⟨_, rfl, Or.inl ⟨rfl, _, ln2, ⟨_, _, rfl, by omega, by omega, by omega, by omega, by omega⟩, hRP, by omega, by rw [hEq2, shiftsK_out hW_]; exact if_pos (by omega)⟩⟩))
                · refine br_aload_0 dX3_readWhole_108 ?_
                  refine br_iconst dX3_readWhole_109 ?_
                  refine br_Vi1 (i := 40) (j := 0) (ct_m_bad (by omega)) lk_X3_99 ⟨Nat.le_of_ble_eq_true rfl, Nat.le_of_ble_eq_true rfl⟩ ⟨Nat.le_of_ble_eq_true rfl, Nat.le_of_ble_eq_true rfl⟩ rfl rfl (Nat.le_of_ble_eq_true rfl) dX3_readWhole_110 (fun v110 w_ hw_ => ?_)
                  obtain ⟨rfl, kd110, hkd110, rfl⟩ := hw_
                  refine br_if_eq (tgt := 120) dX3_readWhole_113 (by decide) (by decide) (fun _ => ?_) (fun q => absurd q (by decide))
                  refine br_iconst dX3_readWhole_120 ?_
                  exact br_ireturn dX3_readWhole_121 (by decide) (by decide) (hret _ _ (⟨_, rfl, Or.inr ⟨rfl, kd110, t2.f, ⟨_, _, _, rfl, rfl, m5, (show F2 0 = x0 from by omega), (show F2 2 = x2 from by omega), (show F2 14 = x14 from by omega)⟩, by rw [hEq2, shiftsK_out hW_, show kd110 = 1 by omega]; exact if_neg (by omega)⟩⟩))
          exact lp59 _ _ _ _ _ _ (Nat.lt_succ_self _) hkL kk k16 k17 (by omega) (hRP.mono (by omega)) (by omega) (by rw [hEq, needsK_out hW_, hr2]; rfl)
    exact lp19 _ _ _ _ _ _ _ (Nat.lt_succ_self _) hk1 (show F1 0 = x0 ∧ F1 2 = x2 ∧ F1 3 = n ∧ F1 14 = x14 ∧ F1 8 = 0 from by omega) (show F1 16 = 0 from by omega) (show F1 17 + 1 = 1 from by omega) (by omega) (by omega) hRP1 h21 (by unfold restF; rw [hK1]; rfl)
  · skip
    obtain ⟨F1, wd1, g1, rfl, e8_, e9_, e10, e12, e114⟩ := hp_
    refine br_if_ne (tgt := 9) dX3_readWhole_4 (by decide) (by decide) (fun q => absurd q (by decide)) (fun _ => ?_)
    refine br_iconst dX3_readWhole_7 ?_
    exact br_ireturn dX3_readWhole_8 (by decide) (by decide) (hret _ _ (⟨_, rfl, Or.inr ⟨rfl, kd1, p1, ⟨_, _, _, rfl, e8_, e9_, by omega, by omega, by omega⟩, by unfold restF; rw [hE_]⟩⟩))

