/-! MODEL: the least of a post -/
set_option maxRecDepth 100000
theorem ct_m_least {D : bk_D} {o : Nat} {a : Nat → Nat} {F : Nat → Int} {wd : Int} {G : Nat → Int → Int} {ex : gC} {p : Int} (hp : -2147483648 ≤ p ∧ p < 2147483648) (hR : RW (G 2)) : bk_K D yX3_least (.code yX3_least cX3_least 5 (some (FieldType.int))) ({ frames := 51, cells := 0, slots := 0, locals := 2965 }) [.ref o, .int (iI p)] (mw o a F wd G ex) (bk_pi fun v w => leastQ (G 2) p v ∧ ∃ G' : Nat → Int → Int, w = mw o a (uF F 0 0) wd G' ex ∧ keepG G G') bk_nox := by
  refine bk_ofV (own := "BreakSetterModel") (L0 := [some (.ref o), some (.int (iI p)), none, none, none]) (by decide) rfl (Nat.le_of_ble_eq_true rfl) rfl bk_oi (fun Γ hct hret hthr => ?_)
  have hn := hR.n
  refine br_aload_0 dX3_least_0 ?_
  refine br_iconst dX3_least_1 ?_
  refine br_mp_0 dX3_least_2 ?_
  refine br_aload_0 dX3_least_5 ?_
  refine br_iload_1 dX3_least_6 ?_
  refine br_VZ1 (i := 40) (j := 0) (ct_m_isPost (by omega) hR) lk_X3_206 ⟨Nat.le_of_ble_eq_true rfl, Nat.le_of_ble_eq_true rfl⟩ ⟨Nat.le_of_ble_eq_true rfl, Nat.le_of_ble_eq_true rfl⟩ rfl rfl (Nat.le_of_ble_eq_true rfl) dX3_least_7 (fun c7 => ?_) (fun c7 => ?_)
  · refine br_if_ne (tgt := 15) dX3_least_10 (by decide) (by decide) (fun _ => ?_) (fun q => absurd q (by decide))
    refine br_iconst dX3_least_15 ?_
    refine br_istore_2 dX3_least_16 rfl ?_
    have lp17 : ∀ (mm17 : Nat) (s : Int), (G 2 2 - s).toNat < mm17 → (0 ≤ s ∧ s ≤ G 2 2) → (∀ x : Int, 0 ≤ x → x < s → ¬ badS (G 2) p x) → bk_V Γ D ({ frames := 51, cells := 0, slots := 0, locals := 2965 }) "BreakSetterModel" cX3_least [] 0 0 (mw o a (uF F 0 0) wd G ex) [some (.ref o), some (.int (iI p)), some (.int (iI s)), none, none] [] 17 := by
      intro mm17
      induction mm17 with
      | zero => intro s hm17; exact absurd hm17 (Nat.not_lt_zero _)
      | succ mm17 ih17 =>
        intro s hm17 h1 h2
        refine br_iload_2 dX3_least_17 ?_
        refine br_aload_0 dX3_least_18 ?_
        refine br_mg_11 dX3_least_19 ?_
        refine br_iconst dX3_least_22 ?_
        refine br_ml_2 (v := G 2 2) (by omega) rfl dX3_least_23 ?_
        refine br_icmp_ge (tgt := 70) dX3_least_24 (by decide) (by omega) (fun c24 => ?_) (fun c24 => ?_)
        · refine br_iconst dX3_least_70 ?_
          refine br_istore_2 dX3_least_71 rfl ?_
          refine br_iconst dX3_least_72 ?_
          refine br_istore_3 dX3_least_73 rfl ?_
          have lp74 : ∀ (mm74 : Nat) (G1 : Nat → Int → Int) (n : Int) (t : Int), (48 - t).toNat < mm74 → (keepG G G1) → (0 ≤ t ∧ t ≤ 48) → (∀ u : Int, 0 ≤ u → u < t → G1 5 u = spareS (G 2) p u ∧ G1 6 u = 0) → (n = sumI (fun t => pos0 (rNe (G 2) p t - dutyS (G 2) p t)) t.toNat) → bk_V Γ D ({ frames := 51, cells := 0, slots := 0, locals := 2965 }) "BreakSetterModel" cX3_least [] 0 0 (mw o a (uF F 0 0) wd G1 ex) [some (.ref o), some (.int (iI p)), some (.int (iI n)), some (.int (iI t)), none] [] 74 := by
            intro mm74
            induction mm74 with
            | zero => intro G1 n t hm74; exact absurd hm74 (Nat.not_lt_zero _)
            | succ mm74 ih74 =>
              intro G1 n t hm74 hk h1 h5 hN
              have e2 : G1 2 = G 2 := hk.2.1
              have hR1 : RW (G1 2) := by rw [e2]; exact hR
              have e20 : G1 2 2 = G 2 2 := by rw [e2]
              refine br_iload_3 dX3_least_74 ?_
              refine br_bipush dX3_least_75 (by decide) ?_
              refine br_icmp_ge (tgt := 130) dX3_least_77 (by decide) (by omega) (fun c77 => ?_) (fun c77 => ?_)
              · refine br_iconst dX3_least_130 ?_
                refine br_istore_3 dX3_least_131 rfl ?_
                have lp132 : ∀ (mm132 : Nat) (G1 : Nat → Int → Int) (z : Int), (8 - z).toNat < mm132 → (keepG G G1) → (0 ≤ z ∧ z ≤ 8) → (∀ u : Int, 0 ≤ u → u < 48 → G1 5 u = spareS (G 2) p u ∧ G1 6 u = 0) → (∀ u : Int, 0 ≤ u → u < z → G1 7 u = -1) → bk_V Γ D ({ frames := 51, cells := 0, slots := 0, locals := 2965 }) "BreakSetterModel" cX3_least [] 0 0 (mw o a (uF F 0 0) wd G1 ex) [some (.ref o), some (.int (iI p)), some (.int (iI n)), some (.int (iI z)), none] [] 132 := by
                  intro mm132
                  induction mm132 with
                  | zero => intro G1 z hm132; exact absurd hm132 (Nat.not_lt_zero _)
                  | succ mm132 ih132 =>
                    intro G1 z hm132 hk h1 h5 h7
                    refine br_iload_3 dX3_least_132 ?_
                    refine br_bipush dX3_least_133 (by decide) ?_
                    refine br_icmp_ge (tgt := 151) dX3_least_135 (by decide) (by omega) (fun c135 => ?_) (fun c135 => ?_)
                    · refine br_iconst dX3_least_151 ?_
                      refine br_istore_3 dX3_least_152 rfl ?_
                      have lp153 : ∀ (mm153 : Nat) (G1 : Nat → Int → Int) (n : Int) (s : Int) (u : Int) (A : Int → Prop), (G 2 2 - s).toNat < mm153 → (keepG G G1) → (0 ≤ s ∧ s ≤ G 2 2) → (∀ u : Int, 0 ≤ u → u < 48 → G1 5 u = spareS (G 2) p u) → (n = lackS (G 2) p + u) → (kSt (G 2) p (G1 5) (G1 6) (G1 7) s u A) → bk_V Γ D ({ frames := 51, cells := 0, slots := 0, locals := 2965 }) "BreakSetterModel" cX3_least [] 0 0 (mw o a (uF F 0 0) wd G1 ex) [some (.ref o), some (.int (iI p)), some (.int (iI n)), some (.int (iI s)), none] [] 153 := by
                        intro mm153
                        induction mm153 with
                        | zero => intro G1 n s u A hm153; exact absurd hm153 (Nat.not_lt_zero _)
                        | succ mm153 ih153 =>
                          intro G1 n s u A hm153 hk h1 h5 hN hK
                          have e2 : G1 2 = G 2 := hk.2.1
                          have hR1 : RW (G1 2) := by rw [e2]; exact hR
                          have e20 : G1 2 2 = G 2 2 := by rw [e2]
                          have hsu := hK.2.2.2.2.2
                          refine br_iload_3 dX3_least_153 ?_
                          refine br_aload_0 dX3_least_154 ?_
                          refine br_mg_11 dX3_least_155 ?_
                          refine br_iconst dX3_least_158 ?_
                          refine br_ml_2 (v := G1 2 2) (by omega) rfl dX3_least_159 ?_
                          refine br_icmp_ge (tgt := 217) dX3_least_160 (by decide) (by omega) (fun c160 => ?_) (fun c160 => ?_)
                          · refine br_iload_2 dX3_least_217 ?_
                            exact br_ireturn dX3_least_218 (by decide) (by decide) (hret _ _ (⟨_, rfl, Or.inr (Or.inr ⟨by omega, fun x q => h2 x q.1.1 (by have := q.1.2; omega) q, A, u, by rw [show G 2 2 = s by omega]; exact hK.1, hN⟩), G1, rfl, hk⟩))
                          · have hn1 := hR1.n
                            have hsh1 := hR1.sh (s := s) (by omega)
                            refine br_aload_0 dX3_least_163 ?_
                            refine br_iload_3 dX3_least_164 ?_
                            refine br_iconst dX3_least_165 ?_
                            refine br_VF2 (i := 40) (j := 0) (ct_m_duty_0 (by omega)) lk_X3_159 ⟨Nat.le_of_ble_eq_true rfl, Nat.le_of_ble_eq_true rfl⟩ ⟨Nat.le_of_ble_eq_true rfl, Nat.le_of_ble_eq_true rfl⟩ rfl rfl (Nat.le_of_ble_eq_true rfl) dX3_least_166 ?_
                            refine br_topi (y := rP (G1 2) s) rfl ?_
                            refine br_iload_1 dX3_least_169 ?_
                            refine br_icmp_eq (tgt := 176) dX3_least_170 (by decide) (by omega) (fun c170 => ?_) (fun c170 => ?_)
                            · refine br_iconst dX3_least_176 ?_
                              refine br_istore_4 dX3_least_177 rfl ?_
                              refine bk_V.world (w' := (mw o a (uF F 0 0) wd (uG G1 8 (G1 8)) ex)) (by rw [uG_self]) ?_
                              have lp179 : ∀ (mm179 : Nat) (g : Int → Int) (z : Int), (48 - z).toNat < mm179 → (0 ≤ z ∧ z ≤ 48) → (∀ u : Int, 0 ≤ u → u < z → g u = 0) → bk_V Γ D ({ frames := 51, cells := 0, slots := 0, locals := 2965 }) "BreakSetterModel" cX3_least [] 0 0 (mw o a (uF F 0 0) wd (uG G1 8 g) ex) [some (.ref o), some (.int (iI p)), some (.int (iI n)), some (.int (iI s)), some (.int (iI z))] [] 179 := by
                                intro mm179
                                induction mm179 with
                                | zero => intro g z hm179; exact absurd hm179 (Nat.not_lt_zero _)
                                | succ mm179 ih179 =>
                                  intro g z hm179 z1 z2
                                  refine br_iload_4 dX3_least_179 ?_
                                  refine br_bipush dX3_least_181 (by decide) ?_
                                  refine br_icmp_ge (tgt := 200) dX3_least_183 (by decide) (by omega) (fun c183 => ?_) (fun c183 => ?_)
                                  · refine br_aload_0 dX3_least_200 ?_
                                    refine br_iload_3 dX3_least_201 ?_
                                    have hspb : ∀ t : Int, 0 ≤ t → t < 48 → -100 ≤ G1 5 t ∧ G1 5 t ≤ 100 := fun t q1 q2 => by
                                      rw [h5 t q1 q2]
                                      have := spareS_bd (p := p) hR (by omega) ⟨q1, q2⟩
                                      omega
                                    have hbad := h2 s (by omega) (by omega)
                                    have hone : rHas (G 2) s = 1 := by
                                      by_cases q : rHas (G 2) s = 1
                                      · exact q
                                      · exact absurd ⟨by omega, by rw [← e2]; exact c170, fun z => q z.1⟩ hbad
                                    have hss : G1 7 s = -1 := by
                                      rcases hK.2.2.2.2.1 s (by omega) (by omega) with q | q
                                      · exact q
                                      · have := hK.2.2.1 s ((hK.2.1 s (by omega) (by omega)).mpr (by omega)); omega
                                    refine br_Vi1 (i := 40) (j := 0) (gets_all D 48 (s := s) (G := uG G1 8 g) (uns_0 (g := g)).1 (fun t q1 q2 => Or.inl (z2 t q1 (by omega))) hspb hR1 (show (0 ≤ s ∧ s < G1 2 2) ∧ 1 ≤ rHas (G1 2) s from by rw [e2]; omega) hK.2.2.2.1 (show kVal (G1 2) (G1 7) from by rw [e2]; exact hK.2.2.2.2.1) (Or.inl hss)) lk_X3_218 ⟨Nat.le_of_ble_eq_true rfl, Nat.le_of_ble_eq_true rfl⟩ ⟨Nat.le_of_ble_eq_true rfl, Nat.le_of_ble_eq_true rfl⟩ rfl rfl (Nat.le_of_ble_eq_true rfl) dX3_least_202 (fun v202 w_ hw_ => ?_)
                                    rcases hw_ with ⟨rfl, g6, g7, g3, rfl, hb3, hS3⟩ | ⟨rfl, g3, rfl, hb3, up3, hF3⟩
                                    · skip
                                      have hS4 : kSucc (G 2) (G1 5) (G1 7) g s g6 g7 := by rw [← e2]; exact hS3
                                      have HK := kSt_ok ⟨h1.1, by omega⟩ h5 hK (by rw [← e2]; exact c170) hS4
                                      refine br_if_ne (tgt := 211) dX3_least_205 (by decide) (by decide) (fun _ => ?_) (fun q => absurd q (by decide))
                                      refine br_iinc_3 dX3_least_211 rfl ?_
                                      refine br_goto (tgt := 153) dX3_least_214 (by decide) ?_
                                      refine br_fg_4 ?_
                                      exact ih153 _ _ _ _ _ (by omega) hk (by omega) h5 (by omega) HK
                                    · skip
                                      have hF4 : kFail (G 2) (G1 5) (G1 6) (G1 7) g s g3 := by rw [← e2]; exact hF3
                                      have HK := kSt_no ⟨h1.1, by omega⟩ h5 hK (by rw [← e2]; exact c170) (fun t q1 q2 => z2 t q1 (by omega)) hF4
                                      refine br_if_ne (tgt := 211) dX3_least_205 (by decide) (by decide) (fun q => absurd q (by decide)) (fun _ => ?_)
                                      refine br_iinc_2 dX3_least_208 rfl ?_
                                      refine br_iinc_3 dX3_least_211 rfl ?_
                                      refine br_goto (tgt := 153) dX3_least_214 (by decide) ?_
                                      refine br_fg_4 ?_
                                      exact ih153 _ _ _ _ _ (by omega) hk (by omega) h5 (by omega) HK
                                  · refine br_aload_0 dX3_least_186 ?_
                                    refine br_mg_21 dX3_least_187 ?_
                                    refine br_iload_4 dX3_least_190 ?_
                                    refine br_iconst dX3_least_192 ?_
                                    refine br_ms_8 (by omega) (by decide) dX3_least_193 ?_
                                    refine bk_V.world (w' := (mw o a (uF F 0 0) wd (uG G1 8 (uI g z 0)) ex)) (congrArg (fun G9 => mw o a (uF F 0 0) wd G9 ex) (uG_uG _ _ _ _)) ?_
                                    refine br_iinc_4 dX3_least_194 rfl ?_
                                    refine br_goto (tgt := 179) dX3_least_197 (by decide) ?_
                                    exact ih179 _ _ (by omega) (by omega) (fun u q1 q2 => by
  by_cases e : u = z
  · subst e; exact uI_eq _ _ _
  · rw [uI_ne _ _ e]; exact z2 u q1 (by omega))
                              exact lp179 _ _ _ (Nat.lt_succ_self _) (by omega) (fun u _ _ => by omega)
                            · have HK := kSt_skip h1.1 hK (by rw [← e2]; exact c170)
                              refine br_goto (tgt := 211) dX3_least_173 (by decide) ?_
                              refine br_iinc_3 dX3_least_211 rfl ?_
                              refine br_goto (tgt := 153) dX3_least_214 (by decide) ?_
                              exact ih153 _ _ _ _ _ (by omega) hk (by omega) h5 (by omega) HK
                      exact lp153 _ _ _ _ _ _ (Nat.lt_succ_self _) hk (by omega) (fun u q1 q2 => (h5 u q1 q2).1) (by rw [hN, show t = 48 by omega]; show _ = lackS (G 2) p + 0; unfold lackS; exact (Int.add_zero _).symm) (kSt_0 (fun t q1 q2 => (h5 t q1 q2).2) (fun x q1 q2 => h7 x q1 (by omega)))
                    · refine br_aload_0 dX3_least_138 ?_
                      refine br_mg_20 dX3_least_139 ?_
                      refine br_iload_3 dX3_least_142 ?_
                      refine br_iconst dX3_least_143 ?_
                      refine br_ms_7 (by omega) dX3_least_144 ?_
                      refine br_iinc_3 dX3_least_145 rfl ?_
                      refine br_goto (tgt := 132) dX3_least_148 (by decide) ?_
                      exact ih132 _ _ (by omega) hk (by omega) h5 (fun u q1 q2 => by
  show uI (G1 7) z (-1) u = -1
  by_cases e : u = z
  · subst e; exact uI_eq _ _ _
  · rw [uI_ne _ _ e]; exact h7 u q1 (by omega))
                exact lp132 _ _ _ (Nat.lt_succ_self _) hk (by omega) (fun u q1 q2 => h5 u q1 (by omega)) (fun u _ _ => by omega)
              · refine br_aload_0 dX3_least_80 ?_
                refine br_mg_18 dX3_least_81 ?_
                refine br_iload_3 dX3_least_84 ?_
                refine br_aload_0 dX3_least_85 ?_
                refine br_iload_1 dX3_least_86 ?_
                refine br_iload_3 dX3_least_87 ?_
                refine br_VF2 (i := 40) (j := 0) (ct_m_onDuty (by omega) (by omega) hR1) lk_X3_165 ⟨Nat.le_of_ble_eq_true rfl, Nat.le_of_ble_eq_true rfl⟩ ⟨Nat.le_of_ble_eq_true rfl, Nat.le_of_ble_eq_true rfl⟩ rfl rfl (Nat.le_of_ble_eq_true rfl) dX3_least_88 ?_
                refine br_topi (y := dutyS (G1 2) p t) rfl ?_
                refine br_aload_0 dX3_least_91 ?_
                refine br_iload_1 dX3_least_92 ?_
                refine br_iload_3 dX3_least_93 ?_
                refine br_VF2 (i := 40) (j := 0) (ct_m_needOf (by omega) (by omega)) lk_X3_171 ⟨Nat.le_of_ble_eq_true rfl, Nat.le_of_ble_eq_true rfl⟩ ⟨Nat.le_of_ble_eq_true rfl, Nat.le_of_ble_eq_true rfl⟩ rfl rfl (Nat.le_of_ble_eq_true rfl) dX3_least_94 ?_
                refine br_topi (y := rNe (G1 2) p t) rfl ?_
                refine br_isub dX3_least_97 ?_
                refine br_ms_5 (by omega) dX3_least_98 ?_
                refine br_aload_0 dX3_least_99 ?_
                refine br_mg_19 dX3_least_100 ?_
                refine br_iload_3 dX3_least_103 ?_
                refine br_iconst dX3_least_104 ?_
                refine br_ms_6 (by omega) dX3_least_105 ?_
                refine br_aload_0 dX3_least_106 ?_
                refine br_mg_18 dX3_least_107 ?_
                refine br_iload_3 dX3_least_110 ?_
                refine br_ml_5 (v := (uI (G1 5) t ((dutyS (G1 2) p t) - (rNe (G1 2) p t))) t) (by omega) rfl dX3_least_111 ?_
                have hsp9 := spareS_bd (p := p) (t := t) hR (by omega) (by omega)
                have hq8 : uI (G1 5) t (dutyS (G1 2) p t - rNe (G1 2) p t) t = spareS (G 2) p t := by rw [uI_eq, e2]; rfl
                refine br_if_ge (tgt := 124) dX3_least_112 (by decide) (by omega) (fun c112 => ?_) (fun c112 => ?_)
                · refine br_iinc_3 dX3_least_124 rfl ?_
                  refine br_goto (tgt := 74) dX3_least_127 (by decide) ?_
                  exact ih74 _ _ _ (by omega) hk (by omega) (fun u q1 q2 => by
  show uI (G1 5) t (dutyS (G1 2) p t - rNe (G1 2) p t) u = _ ∧ uI (G1 6) t 0 u = 0
  by_cases e : u = t
  · subst e; rw [uI_eq, uI_eq, e2]; exact ⟨rfl, rfl⟩
  · rw [uI_ne _ _ e, uI_ne _ _ e]; exact h5 u q1 (by omega)) (by rw [lackS_step h1.1, ← hN]; have hq9 : uI (G1 5) t (dutyS (G1 2) p t - rNe (G1 2) p t) t = spareS (G 2) p t := hq8; unfold pos0; split <;> omega)
                · refine br_iload_2 dX3_least_115 ?_
                  refine br_aload_0 dX3_least_116 ?_
                  refine br_mg_18 dX3_least_117 ?_
                  refine br_iload_3 dX3_least_120 ?_
                  refine br_ml_5 (v := (uI (G1 5) t ((dutyS (G1 2) p t) - (rNe (G1 2) p t))) t) (by omega) rfl dX3_least_121 ?_
                  refine br_isub dX3_least_122 ?_
                  refine br_istore_2 dX3_least_123 rfl ?_
                  refine br_iinc_3 dX3_least_124 rfl ?_
                  refine br_goto (tgt := 74) dX3_least_127 (by decide) ?_
                  exact ih74 _ _ _ (by omega) hk (by omega) (fun u q1 q2 => by
  show uI (G1 5) t (dutyS (G1 2) p t - rNe (G1 2) p t) u = _ ∧ uI (G1 6) t 0 u = 0
  by_cases e : u = t
  · subst e; rw [uI_eq, uI_eq, e2]; exact ⟨rfl, rfl⟩
  · rw [uI_ne _ _ e, uI_ne _ _ e]; exact h5 u q1 (by omega)) (by rw [lackS_step h1.1, ← hN]; have hq9 : uI (G1 5) t (dutyS (G1 2) p t - rNe (G1 2) p t) t = spareS (G 2) p t := hq8; unfold pos0; split <;> omega)
          exact lp74 _ _ _ _ (Nat.lt_succ_self _) ⟨rfl, rfl, rfl⟩ (by omega) (fun u _ _ => by omega) rfl
        · have hsh := hR.sh (s := s) (by omega)
          refine br_aload_0 dX3_least_27 ?_
          refine br_iload_2 dX3_least_28 ?_
          refine br_iconst dX3_least_29 ?_
          refine br_VF2 (i := 40) (j := 0) (ct_m_duty_0 (by omega)) lk_X3_159 ⟨Nat.le_of_ble_eq_true rfl, Nat.le_of_ble_eq_true rfl⟩ ⟨Nat.le_of_ble_eq_true rfl, Nat.le_of_ble_eq_true rfl⟩ rfl rfl (Nat.le_of_ble_eq_true rfl) dX3_least_30 ?_
          refine br_topi (y := rP (G 2) s) rfl ?_
          refine br_iload_1 dX3_least_33 ?_
          refine br_icmp_ne (tgt := 64) dX3_least_34 (by decide) (by omega) (fun c34 => ?_) (fun c34 => ?_)
          · refine br_iinc_2 dX3_least_64 rfl ?_
            refine br_goto (tgt := 17) dX3_least_67 (by decide) ?_
            exact ih17 _ (by omega) (by omega) (fun x q1 q2 => by
  by_cases e : x = s
  · subst e; exact fun q => by first | exact absurd q.2.1 (by omega) | exact q.2.2 ⟨by omega, by omega⟩
  · exact h2 x q1 (by omega))
          · refine br_aload_0 dX3_least_37 ?_
            refine br_iload_2 dX3_least_38 ?_
            refine br_iconst dX3_least_39 ?_
            refine br_VF2 (i := 40) (j := 0) (ct_m_duty_3 (by omega)) lk_X3_159 ⟨Nat.le_of_ble_eq_true rfl, Nat.le_of_ble_eq_true rfl⟩ ⟨Nat.le_of_ble_eq_true rfl, Nat.le_of_ble_eq_true rfl⟩ rfl rfl (Nat.le_of_ble_eq_true rfl) dX3_least_40 ?_
            refine br_topi (y := rHas (G 2) s) rfl ?_
            refine br_iconst dX3_least_43 ?_
            refine br_icmp_ne (tgt := 62) dX3_least_44 (by decide) (by omega) (fun c44 => ?_) (fun c44 => ?_)
            · refine br_iconst dX3_least_62 ?_
              exact br_ireturn dX3_least_63 (by decide) (by decide) (hret _ _ (⟨_, rfl, Or.inr (Or.inl ⟨by omega, ⟨s, ⟨by omega, by omega⟩, by omega, fun q => by have := q.1; have := q.2; omega⟩, rfl⟩), G, rfl, rfl, rfl, rfl⟩))
            · have hpa := (hR.pa (k := rFi (G 2) s) (by omega)).2.1
              refine br_aload_0 dX3_least_47 ?_
              refine br_aload_0 dX3_least_48 ?_
              refine br_iload_2 dX3_least_49 ?_
              refine br_iconst dX3_least_50 ?_
              refine br_VF2 (i := 40) (j := 0) (ct_m_duty_4 (by omega)) lk_X3_159 ⟨Nat.le_of_ble_eq_true rfl, Nat.le_of_ble_eq_true rfl⟩ ⟨Nat.le_of_ble_eq_true rfl, Nat.le_of_ble_eq_true rfl⟩ rfl rfl (Nat.le_of_ble_eq_true rfl) dX3_least_51 ?_
              refine br_topi (y := rFi (G 2) s) rfl ?_
              refine br_iconst dX3_least_54 ?_
              refine br_VF2 (i := 40) (j := 0) (ct_m_its_1 (by omega)) lk_X3_155 ⟨Nat.le_of_ble_eq_true rfl, Nat.le_of_ble_eq_true rfl⟩ ⟨Nat.le_of_ble_eq_true rfl, Nat.le_of_ble_eq_true rfl⟩ rfl rfl (Nat.le_of_ble_eq_true rfl) dX3_least_55 ?_
              refine br_topi (y := rLo (G 2) (rFi (G 2) s)) rfl ?_
              refine br_iconst dX3_least_58 ?_
              refine br_icmp_eq (tgt := 64) dX3_least_59 (by decide) (by omega) (fun c59 => ?_) (fun c59 => ?_)
              · refine br_iinc_2 dX3_least_64 rfl ?_
                refine br_goto (tgt := 17) dX3_least_67 (by decide) ?_
                exact ih17 _ (by omega) (by omega) (fun x q1 q2 => by
  by_cases e : x = s
  · subst e; exact fun q => by first | exact absurd q.2.1 (by omega) | exact q.2.2 ⟨by omega, by omega⟩
  · exact h2 x q1 (by omega))
              · refine br_iconst dX3_least_62 ?_
                exact br_ireturn dX3_least_63 (by decide) (by decide) (hret _ _ (⟨_, rfl, Or.inr (Or.inl ⟨by omega, ⟨s, ⟨by omega, by omega⟩, by omega, fun q => by have := q.1; have := q.2; omega⟩, rfl⟩), G, rfl, rfl, rfl, rfl⟩))
    exact lp17 _ _ (Nat.lt_succ_self _) (by omega) (fun x _ _ => by omega)
  · refine br_if_ne (tgt := 15) dX3_least_10 (by decide) (by decide) (fun q => absurd q (by decide)) (fun _ => ?_)
    refine br_iconst dX3_least_13 ?_
    exact br_ireturn dX3_least_14 (by decide) (by decide) (hret _ _ (⟨_, rfl, Or.inl ⟨by omega, rfl⟩, G, rfl, rfl, rfl, rfl⟩))

