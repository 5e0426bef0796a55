/-! MODEL: the least -/
set_option maxRecDepth 100000
def getsC (D : bk_D) (m : Nat) : Prop := ∀ {o : Nat} {a : Nat → Nat} {F : Nat → Int} {wd : Int} {G : Nat → Int → Int} {ex : gC} {s : Int} (hm : uns (G 8) ≤ m) (hb : bl01 (G 8)) (hsp : ∀ t : Int, 0 ≤ t → t < 48 → -100 ≤ G 5 t ∧ G 5 t ≤ 100) (hR : RW (G 2)) (hs : (0 ≤ s ∧ s < G 2 2) ∧ 1 ≤ rHas (G 2) s) (hc : kCons (G 5) (G 6) (G 7)) (hv : kVal (G 2) (G 7)) (hss : G 7 s = -1 ∨ (0 ≤ G 7 s ∧ G 8 (G 7 s) = 1)), bk_K D yX3_getsSlot (.code yX3_getsSlot cX3_getsSlot 6 (some (FieldType.boolean))) { frames := m + 2, locals := 60 * (m + 1) } [.ref o, .int (iI s)] (mw o a F wd G ex) (bk_pi fun v w => (v = 1 ∧ ∃ g6 g7 g8 : Int → Int, w = mw o a F wd (uG (uG (uG G 8 g8) 6 g6) 7 g7) ex ∧ bl01 g8 ∧ kSucc (G 2) (G 5) (G 7) (G 8) s g6 g7) ∨ (v = 0 ∧ ∃ g8 : Int → Int, w = mw o a F wd (uG G 8 g8) ex ∧ bl01 g8 ∧ seenUp (G 8) g8 ∧ kFail (G 2) (G 5) (G 6) (G 7) (G 8) s g8)) bk_nox
theorem gets_step {D : bk_D} {o : Nat} {a : Nat → Nat} {F : Nat → Int} {wd : Int} {G : Nat → Int → Int} {ex : gC} {s : Int} {m : Nat} (ih : ∀ m9 : Nat, m9 < m → getsC D m9) (hm : uns (G 8) ≤ m) (hb : bl01 (G 8)) (hsp : ∀ t : Int, 0 ≤ t → t < 48 → -100 ≤ G 5 t ∧ G 5 t ≤ 100) (hR : RW (G 2)) (hs : (0 ≤ s ∧ s < G 2 2) ∧ 1 ≤ rHas (G 2) s) (hc : kCons (G 5) (G 6) (G 7)) (hv : kVal (G 2) (G 7)) (hss : G 7 s = -1 ∨ (0 ≤ G 7 s ∧ G 8 (G 7 s) = 1)) : bk_K D yX3_getsSlot (.code yX3_getsSlot cX3_getsSlot 6 (some (FieldType.boolean))) { frames := m + 2, locals := 60 * (m + 1) } [.ref o, .int (iI s)] (mw o a F wd G ex) (bk_pi fun v w => (v = 1 ∧ ∃ g6 g7 g8 : Int → Int, w = mw o a F wd (uG (uG (uG G 8 g8) 6 g6) 7 g7) ex ∧ bl01 g8 ∧ kSucc (G 2) (G 5) (G 7) (G 8) s g6 g7) ∨ (v = 0 ∧ ∃ g8 : Int → Int, w = mw o a F wd (uG G 8 g8) ex ∧ bl01 g8 ∧ seenUp (G 8) g8 ∧ kFail (G 2) (G 5) (G 6) (G 7) (G 8) s g8)) bk_nox := by
  refine bk_ofV (own := "BreakSetterModel") (L0 := [some (.ref o), some (.int (iI s)), none, none, none, none]) (by decide) rfl (Nat.le_of_ble_eq_true rfl) rfl (bk_oz (by rintro r w (h | h); exact Or.inr h.1; exact Or.inl h.1)) (fun Γ hct hret hthr => ?_)
  have hn := hR.n
  have hsh := hR.sh hs.1
  have hpa := hR.pa2 (k := rFi (G 2) s) (by omega)
  have hlo := (hR.pa (k := rFi (G 2) s) (by omega)).2.1
  have hwL : winLo (G 2) s = rEa (G 2) (rFi (G 2) s) := rfl
  have hwH : winHi (G 2) s = rLa (G 2) (rFi (G 2) s) := rfl
  refine br_aload_0 dX3_getsSlot_0 ?_
  refine br_iload_1 dX3_getsSlot_1 ?_
  refine br_iconst dX3_getsSlot_2 ?_
  refine br_VF2 (i := 40) (j := 0) (ct_m_duty_4 (by omega)) lk_X3_159 ⟨by dsimp only; omega, by dsimp only; omega⟩ ⟨by dsimp only; omega, by dsimp only; omega⟩ rfl rfl (Nat.le_of_ble_eq_true rfl) dX3_getsSlot_3 ?_
  refine br_istore_2 dX3_getsSlot_6 rfl ?_
  refine br_aload_0 dX3_getsSlot_7 ?_
  refine br_iload_2 dX3_getsSlot_8 ?_
  refine br_iconst dX3_getsSlot_9 ?_
  refine br_VF2 (i := 40) (j := 0) (ct_m_its_2 (by omega)) lk_X3_155 ⟨by dsimp only; omega, by dsimp only; omega⟩ ⟨by dsimp only; omega, by dsimp only; omega⟩ rfl rfl (Nat.le_of_ble_eq_true rfl) dX3_getsSlot_10 ?_
  refine br_istore_3 dX3_getsSlot_13 rfl ?_
  refine bk_V.world (w' := (mw o a F wd (uG G 8 (G 8)) ex)) (by rw [uG_self]) ?_
  have lp14 : ∀ (mm14 : Nat) (g : Int → Int) (V : Int → Prop) (t : Int), (winHi (G 2) s + 1 - t).toNat < mm14 → (winLo (G 2) s ≤ t ∧ t ≤ winHi (G 2) s + 1) → (bl01 g) → (seenUp (G 8) g) → (kPart (G 2) (G 5) (G 6) (G 7) (G 8) s g V t) → bk_V Γ D { frames := m + 2, locals := 60 * (m + 1) } "BreakSetterModel" cX3_getsSlot [] 0 0 (mw o a F wd (uG G 8 g) ex) [some (.ref o), some (.int (iI s)), some (.int (iI (rFi (G 2) s))), some (.int (iI t)), none, none] [] 14 := by
    intro mm14
    induction mm14 with
    | zero => intro g V t hm14; exact absurd hm14 (Nat.not_lt_zero _)
    | succ mm14 ih14 =>
      intro g V t hm14 h1 hbg hup hP
      refine br_iload_3 dX3_getsSlot_14 ?_
      refine br_aload_0 dX3_getsSlot_15 ?_
      refine br_iload_2 dX3_getsSlot_16 ?_
      refine br_iconst dX3_getsSlot_17 ?_
      refine br_VF2 (i := 40) (j := 0) (ct_m_its_3 (by omega)) lk_X3_155 ⟨by dsimp only; omega, by dsimp only; omega⟩ ⟨by dsimp only; omega, by dsimp only; omega⟩ rfl rfl (Nat.le_of_ble_eq_true rfl) dX3_getsSlot_18 ?_
      refine br_topi (y := rLa (G 2) (rFi (G 2) s)) rfl ?_
      refine br_icmp_gt (tgt := 168) dX3_getsSlot_21 (by decide) (by omega) (fun c21 => ?_) (fun c21 => ?_)
      · refine br_iconst dX3_getsSlot_168 ?_
        exact br_ireturn dX3_getsSlot_169 (by dsimp only; omega) (by dsimp only; omega) (hret _ _ (⟨_, rfl, Or.inr ⟨rfl, g, rfl, hbg, hup, kPart_end hP (by unfold winHi; omega)⟩⟩))
      · refine br_aload_0 dX3_getsSlot_24 ?_
        refine br_mg_21 dX3_getsSlot_25 ?_
        have hg01 := hbg t (by omega) (by omega)
        refine br_iload_3 dX3_getsSlot_28 ?_
        refine br_ml_8 (v := g t) (by omega) rfl dX3_getsSlot_29 ?_
        refine br_if_ne (tgt := 162) dX3_getsSlot_30 (by decide) (by omega) (fun c30 => ?_) (fun c30 => ?_)
        · refine br_iinc_3 dX3_getsSlot_162 rfl ?_
          refine br_goto (tgt := 14) dX3_getsSlot_165 (by decide) ?_
          obtain ⟨hb9, hup9, hP9⟩ : bl01 g ∧ seenUp (G 8) g ∧ kPart (G 2) (G 5) (G 6) (G 7) (G 8) s g V (t + 1) := ⟨hbg, hup, kPart_skip hP (by first | exact Or.inl (by have := hbg t (by omega) (by omega); omega) | exact Or.inr (by omega))⟩
          exact ih14 _ _ _ (by omega) (by omega) hb9 hup9 hP9
        · refine br_aload_0 dX3_getsSlot_33 ?_
          refine br_mg_18 dX3_getsSlot_34 ?_
          refine br_iload_3 dX3_getsSlot_37 ?_
          have hspt := hsp t (by omega) (by omega)
          refine br_ml_5 (v := G 5 t) (by omega) rfl dX3_getsSlot_38 ?_
          refine br_if_gt (tgt := 45) dX3_getsSlot_39 (by decide) (by omega) (fun c39 => ?_) (fun c39 => ?_)
          · have hspt := hsp t (by omega) (by omega)
            have hct := hc t (by omega) (by omega)
            have hcb := cnt8_bd (fun x => G 7 x = t)
            have hg0 : g t = 0 := by omega
            have hwin : winLo (G 2) s ≤ t ∧ t ≤ winHi (G 2) s := by omega
            have hns : ¬ G 8 t = 1 := fun q => by have := hup t (by omega) (by omega) q; omega
            have hbt : bl01 (uI g t 1) := fun u q1 q2 => by
              by_cases e : u = t
              · subst e; exact Or.inr (uI_eq _ _ _)
              · rw [uI_ne _ _ e]; exact hbg u q1 q2
            have hupt : seenUp (G 8) (uI g t 1) := fun u q1 q2 q3 => seenUp_set g t u q1 q2 (hup u q1 q2 q3)
            have hunt : uns (uI g t 1) + 1 ≤ uns (G 8) := by have := uns_set (g := g) (t := t) (by omega) hg0; have := uns_mono hb hup; omega
            refine br_aload_0 dX3_getsSlot_45 ?_
            refine br_mg_21 dX3_getsSlot_46 ?_
            refine br_iload_3 dX3_getsSlot_49 ?_
            refine br_iconst dX3_getsSlot_50 ?_
            refine br_ms_8 (by omega) (by decide) dX3_getsSlot_51 ?_
            refine bk_V.world (w' := (mw o a F wd (uG G 8 (uI g t 1)) ex)) (congrArg (fun G9 => mw o a F wd G9 ex) (uG_uG _ _ _ _)) ?_
            refine br_aload_0 dX3_getsSlot_52 ?_
            refine br_mg_19 dX3_getsSlot_53 ?_
            refine br_iload_3 dX3_getsSlot_56 ?_
            refine br_ml_6 (v := G 6 t) (by omega) rfl dX3_getsSlot_57 ?_
            refine br_aload_0 dX3_getsSlot_58 ?_
            refine br_mg_18 dX3_getsSlot_59 ?_
            refine br_iload_3 dX3_getsSlot_62 ?_
            refine br_ml_5 (v := G 5 t) (by omega) rfl dX3_getsSlot_63 ?_
            refine br_icmp_ge (tgt := 71) dX3_getsSlot_64 (by decide) (by omega) (fun c64 => ?_) (fun c64 => ?_)
            · refine br_iconst dX3_getsSlot_71 ?_
              refine br_istore_4 dX3_getsSlot_72 rfl ?_
              refine br_iconst dX3_getsSlot_74 ?_
              refine br_istore_5 dX3_getsSlot_75 rfl ?_
              have lp77 : ∀ (mm77 : Nat) (g2 : Int → Int) (V2 : Int → Prop) (x : Int), (G 2 2 - x).toNat < mm77 → (0 ≤ x ∧ x ≤ G 2 2) → (bl01 g2) → (seenUp (G 8) g2) → (uns g2 + 1 ≤ uns (G 8)) → (g2 t = 1) → (kIn (G 2) (G 5) (G 6) (G 7) (G 8) s g2 V2 t x) → bk_V Γ D { frames := m + 2, locals := 60 * (m + 1) } "BreakSetterModel" cX3_getsSlot [] 0 0 (mw o a F wd (uG G 8 g2) ex) [some (.ref o), some (.int (iI s)), some (.int (iI (rFi (G 2) s))), some (.int (iI t)), some (.int (iI 0)), some (.int (iI x))] [] 77 := by
                intro mm77
                induction mm77 with
                | zero => intro g2 V2 x hm77; exact absurd hm77 (Nat.not_lt_zero _)
                | succ mm77 ih77 =>
                  intro g2 V2 x hm77 i1 hb2 hup2 hu2 ht2 hI
                  refine br_iload_5 dX3_getsSlot_77 ?_
                  refine br_aload_0 dX3_getsSlot_79 ?_
                  refine br_mg_11 dX3_getsSlot_80 ?_
                  refine br_iconst dX3_getsSlot_83 ?_
                  refine br_ml_2 (v := G 2 2) (by omega) rfl dX3_getsSlot_84 ?_
                  refine br_icmp_ge (tgt := 135) dX3_getsSlot_85 (by decide) (by omega) (fun c85 => ?_) (fun c85 => ?_)
                  · refine br_iload_4 dX3_getsSlot_135 ?_
                    refine br_if_ne (tgt := 143) dX3_getsSlot_137 (by decide) (by decide) (fun q => absurd q (by decide)) (fun _ => ?_)
                    refine br_goto (tgt := 162) dX3_getsSlot_140 (by decide) ?_
                    refine br_iinc_3 dX3_getsSlot_162 rfl ?_
                    refine br_goto (tgt := 14) dX3_getsSlot_165 (by decide) ?_
                    refine br_fg_4 ?_
                    refine br_fg_5 ?_
                    obtain ⟨hb9, hup9, hP9⟩ : bl01 g2 ∧ seenUp (G 8) g2 ∧ kPart (G 2) (G 5) (G 6) (G 7) (G 8) s g2 V2 (t + 1) := ⟨hb2, hup2, kIn_end hI hv (by omega) (by omega) (by omega)⟩
                    exact ih14 _ _ _ (by omega) (by omega) hb9 hup9 hP9
                  · refine br_iload_4 dX3_getsSlot_88 ?_
                    refine br_if_ne (tgt := 135) dX3_getsSlot_90 (by decide) (by decide) (fun q => absurd q (by decide)) (fun _ => ?_)
                    refine br_aload_0 dX3_getsSlot_93 ?_
                    refine br_mg_20 dX3_getsSlot_94 ?_
                    refine br_iload_5 dX3_getsSlot_97 ?_
                    have hvx := hv x (by omega) (by omega)
                    refine br_ml_7 (v := G 7 x) (by omega) rfl dX3_getsSlot_99 ?_
                    refine br_iload_3 dX3_getsSlot_100 ?_
                    refine br_icmp_ne (tgt := 129) dX3_getsSlot_101 (by decide) (by omega) (fun c101 => ?_) (fun c101 => ?_)
                    · refine br_iinc_5 dX3_getsSlot_129 rfl ?_
                      refine br_goto (tgt := 77) dX3_getsSlot_132 (by decide) ?_
                      obtain ⟨hb8, hup8, hu8, ht8, hI8⟩ : bl01 g2 ∧ seenUp (G 8) g2 ∧ uns g2 + 1 ≤ uns (G 8) ∧ g2 t = 1 ∧ kIn (G 2) (G 5) (G 6) (G 7) (G 8) s g2 V2 t (x + 1) := ⟨hb2, hup2, hu2, ht2, kIn_skip hI (by omega)⟩
                      exact ih77 _ _ _ (by omega) (by omega) hb8 hup8 hu8 ht8 hI8
                    · have hu2z := uns_0 (g := g2)
                      obtain ⟨m9, rfl⟩ : ∃ m9, m = m9 + 1 := ⟨m - 1, by omega⟩
                      refine br_aload_0 dX3_getsSlot_104 ?_
                      refine br_iload_5 dX3_getsSlot_105 ?_
                      have hval := (hv x (by omega) (by omega)).resolve_left (by omega)
                      have hxs : ¬ x = s := fun q => by
                        subst q
                        rcases hss with q | q
                        · omega
                        · rw [c101] at q; have := hup t (by omega) (by omega) q.2; omega
                      refine br_Vi1 (i := 40) (j := 0) (ih m9 (by omega) (s := x) (G := uG G 8 g2) (show uns g2 ≤ m9 from by omega) hb2 hsp hR (show (0 ≤ x ∧ x < G 2 2) ∧ 1 ≤ rHas (G 2) x from by omega) hc hv (show G 7 x = -1 ∨ (0 ≤ G 7 x ∧ g2 (G 7 x) = 1) from Or.inr ⟨by omega, by rw [c101]; exact ht2⟩)) lk_X3_218 ⟨by dsimp only; omega, by dsimp only; omega⟩ ⟨by dsimp only; omega, by dsimp only; omega⟩ rfl rfl (Nat.le_of_ble_eq_true rfl) dX3_getsSlot_107 (fun v107 w_ hw_ => ?_)
                      rcases hw_ with ⟨rfl, g6, g7, g3, rfl, hb3, hS3⟩ | ⟨rfl, g3, rfl, hb3, up3, hF3⟩
                      · skip
                        refine bk_V.world (w' := (mw o a F wd (uG (uG (uG G 8 g3) 6 g6) 7 g7) ex)) (congrArg (fun G9 => mw o a F wd (uG (uG G9 6 g6) 7 g7) ex) (uG_uG _ _ _ _)) ?_
                        refine br_if_ne (tgt := 116) dX3_getsSlot_110 (by decide) (by decide) (fun _ => ?_) (fun q => absurd q (by decide))
                        refine br_aload_0 dX3_getsSlot_116 ?_
                        refine br_mg_19 dX3_getsSlot_117 ?_
                        refine br_iload_3 dX3_getsSlot_120 ?_
                        refine br_dup2 dX3_getsSlot_121 rfl rfl ?_
                        refine br_ml_6 (v := g6 t) (by omega) rfl dX3_getsSlot_122 ?_
                        refine br_iconst dX3_getsSlot_123 ?_
                        refine br_isub dX3_getsSlot_124 ?_
                        refine br_ms_6 (by omega) dX3_getsSlot_125 ?_
                        refine br_iconst dX3_getsSlot_126 ?_
                        refine br_istore_4 dX3_getsSlot_127 rfl ?_
                        refine br_iinc_5 dX3_getsSlot_129 rfl ?_
                        refine br_goto (tgt := 77) dX3_getsSlot_132 (by decide) ?_
                        refine br_iload_5 dX3_getsSlot_77 ?_
                        refine br_aload_0 dX3_getsSlot_79 ?_
                        refine br_mg_11 dX3_getsSlot_80 ?_
                        refine br_iconst dX3_getsSlot_83 ?_
                        refine br_ml_2 (v := G 2 2) (by omega) rfl dX3_getsSlot_84 ?_
                        refine br_icmp_ge (tgt := 135) dX3_getsSlot_85 (by decide) (by omega) (fun c85 => ?_) (fun c85 => ?_)
                        · refine br_iload_4 dX3_getsSlot_135 ?_
                          refine br_if_ne (tgt := 143) dX3_getsSlot_137 (by decide) (by decide) (fun _ => ?_) (fun q => absurd q (by decide))
                          refine br_aload_0 dX3_getsSlot_143 ?_
                          refine br_mg_19 dX3_getsSlot_144 ?_
                          refine br_iload_3 dX3_getsSlot_147 ?_
                          refine br_dup2 dX3_getsSlot_148 rfl rfl ?_
                          refine br_ml_6 (v := (uI g6 t ((g6 t) - 1)) t) (by omega) rfl dX3_getsSlot_149 ?_
                          refine br_iconst dX3_getsSlot_150 ?_
                          refine br_iadd dX3_getsSlot_151 ?_
                          refine br_ms_6 (by omega) dX3_getsSlot_152 ?_
                          refine bk_V.world (w' := (mw o a F wd (uG (uG (uG (uG G 8 g3) 6 g6) 7 g7) 6 (uI (uI g6 t ((g6 t) - 1)) t (((uI g6 t ((g6 t) - 1)) t) + 1))) ex)) (congrArg (fun G9 => mw o a F wd G9 ex) (uG_uG _ _ _ _)) ?_
                          refine br_aload_0 dX3_getsSlot_153 ?_
                          refine br_mg_20 dX3_getsSlot_154 ?_
                          refine br_iload_1 dX3_getsSlot_157 ?_
                          refine br_iload_3 dX3_getsSlot_158 ?_
                          refine br_ms_7 (by omega) dX3_getsSlot_159 ?_
                          refine bk_V.world (w' := (mw o a F wd (uG (uG (uG G 8 g3) 6 (uI (uI g6 t ((g6 t) - 1)) t (((uI g6 t ((g6 t) - 1)) t) + 1))) 7 (uI g7 s t)) ex)) (congrArg (fun G9 => mw o a F wd G9 ex) (uG_67 _ _ _ _ _ _)) ?_
                          refine br_iconst dX3_getsSlot_160 ?_
                          exact br_ireturn dX3_getsSlot_161 (by dsimp only; omega) (by dsimp only; omega) (hret _ _ (⟨_, rfl, Or.inl ⟨rfl, _, _, g3, rfl, hb3, kSucc_push ⟨by omega, hs.1.2, hs.2⟩ (by omega) hwin (by omega) hxs c101 hss hns (fun u q1 q2 q3 => hup2 u q1 q2 q3) hv hS3⟩⟩))
                        · refine br_iload_4 dX3_getsSlot_88 ?_
                          refine br_if_ne (tgt := 135) dX3_getsSlot_90 (by decide) (by decide) (fun _ => ?_) (fun q => absurd q (by decide))
                          refine br_iload_4 dX3_getsSlot_135 ?_
                          refine br_if_ne (tgt := 143) dX3_getsSlot_137 (by decide) (by decide) (fun _ => ?_) (fun q => absurd q (by decide))
                          refine br_aload_0 dX3_getsSlot_143 ?_
                          refine br_mg_19 dX3_getsSlot_144 ?_
                          refine br_iload_3 dX3_getsSlot_147 ?_
                          refine br_dup2 dX3_getsSlot_148 rfl rfl ?_
                          refine br_ml_6 (v := (uI g6 t ((g6 t) - 1)) t) (by omega) rfl dX3_getsSlot_149 ?_
                          refine br_iconst dX3_getsSlot_150 ?_
                          refine br_iadd dX3_getsSlot_151 ?_
                          refine br_ms_6 (by omega) dX3_getsSlot_152 ?_
                          refine bk_V.world (w' := (mw o a F wd (uG (uG (uG (uG G 8 g3) 6 g6) 7 g7) 6 (uI (uI g6 t ((g6 t) - 1)) t (((uI g6 t ((g6 t) - 1)) t) + 1))) ex)) (congrArg (fun G9 => mw o a F wd G9 ex) (uG_uG _ _ _ _)) ?_
                          refine br_aload_0 dX3_getsSlot_153 ?_
                          refine br_mg_20 dX3_getsSlot_154 ?_
                          refine br_iload_1 dX3_getsSlot_157 ?_
                          refine br_iload_3 dX3_getsSlot_158 ?_
                          refine br_ms_7 (by omega) dX3_getsSlot_159 ?_
                          refine bk_V.world (w' := (mw o a F wd (uG (uG (uG G 8 g3) 6 (uI (uI g6 t ((g6 t) - 1)) t (((uI g6 t ((g6 t) - 1)) t) + 1))) 7 (uI g7 s t)) ex)) (congrArg (fun G9 => mw o a F wd G9 ex) (uG_67 _ _ _ _ _ _)) ?_
                          refine br_iconst dX3_getsSlot_160 ?_
                          exact br_ireturn dX3_getsSlot_161 (by dsimp only; omega) (by dsimp only; omega) (hret _ _ (⟨_, rfl, Or.inl ⟨rfl, _, _, g3, rfl, hb3, kSucc_push ⟨by omega, hs.1.2, hs.2⟩ (by omega) hwin (by omega) hxs c101 hss hns (fun u q1 q2 q3 => hup2 u q1 q2 q3) hv hS3⟩⟩))
                      · skip
                        refine bk_V.world (w' := (mw o a F wd (uG G 8 g3) ex)) (congrArg (fun G9 => mw o a F wd G9 ex) (uG_uG _ _ _ _)) ?_
                        refine br_if_ne (tgt := 116) dX3_getsSlot_110 (by decide) (by decide) (fun q => absurd q (by decide)) (fun _ => ?_)
                        refine br_goto (tgt := 129) dX3_getsSlot_113 (by decide) ?_
                        refine br_iinc_5 dX3_getsSlot_129 rfl ?_
                        refine br_goto (tgt := 77) dX3_getsSlot_132 (by decide) ?_
                        obtain ⟨V3, hI3⟩ := kIn_fail hI (by omega) (by omega) c101 up3 hF3
                        obtain ⟨hb8, hup8, hu8, ht8, hI8⟩ : bl01 g3 ∧ seenUp (G 8) g3 ∧ uns g3 + 1 ≤ uns (G 8) ∧ g3 t = 1 ∧ kIn (G 2) (G 5) (G 6) (G 7) (G 8) s g3 V3 t (x + 1) := ⟨hb3, fun u q1 q2 q3 => up3 u q1 q2 (hup2 u q1 q2 q3), by have := uns_mono hb2 up3; omega, up3 t (by omega) (by omega) ht2, hI3⟩
                        exact ih77 _ _ _ (by omega) (by omega) hb8 hup8 hu8 ht8 hI8
              exact lp77 _ _ _ _ (Nat.lt_succ_self _) (by omega) hbt hupt hunt (uI_eq _ _ _) (kIn_0 hP)
            · refine br_iconst dX3_getsSlot_67 ?_
              refine br_goto (tgt := 72) dX3_getsSlot_68 (by decide) ?_
              refine br_istore_4 dX3_getsSlot_72 rfl ?_
              refine br_iconst dX3_getsSlot_74 ?_
              refine br_istore_5 dX3_getsSlot_75 rfl ?_
              refine br_iload_5 dX3_getsSlot_77 ?_
              refine br_aload_0 dX3_getsSlot_79 ?_
              refine br_mg_11 dX3_getsSlot_80 ?_
              refine br_iconst dX3_getsSlot_83 ?_
              refine br_ml_2 (v := G 2 2) (by omega) rfl dX3_getsSlot_84 ?_
              refine br_icmp_ge (tgt := 135) dX3_getsSlot_85 (by decide) (by omega) (fun c85 => ?_) (fun c85 => ?_)
              · refine br_iload_4 dX3_getsSlot_135 ?_
                refine br_if_ne (tgt := 143) dX3_getsSlot_137 (by decide) (by decide) (fun _ => ?_) (fun q => absurd q (by decide))
                refine br_aload_0 dX3_getsSlot_143 ?_
                refine br_mg_19 dX3_getsSlot_144 ?_
                refine br_iload_3 dX3_getsSlot_147 ?_
                refine br_dup2 dX3_getsSlot_148 rfl rfl ?_
                refine br_ml_6 (v := G 6 t) (by omega) rfl dX3_getsSlot_149 ?_
                refine br_iconst dX3_getsSlot_150 ?_
                refine br_iadd dX3_getsSlot_151 ?_
                refine br_ms_6 (by omega) dX3_getsSlot_152 ?_
                refine br_aload_0 dX3_getsSlot_153 ?_
                refine br_mg_20 dX3_getsSlot_154 ?_
                refine br_iload_1 dX3_getsSlot_157 ?_
                refine br_iload_3 dX3_getsSlot_158 ?_
                refine br_ms_7 (by omega) dX3_getsSlot_159 ?_
                refine br_iconst dX3_getsSlot_160 ?_
                exact br_ireturn dX3_getsSlot_161 (by dsimp only; omega) (by dsimp only; omega) (hret _ _ (⟨_, rfl, Or.inl ⟨rfl, _, _, _, rfl, hbt, kSucc_free ⟨by omega, hs.1.2, hs.2⟩ (by omega) hwin hv hc (show G 6 t < G 5 t from by omega)⟩⟩))
              · refine br_iload_4 dX3_getsSlot_88 ?_
                refine br_if_ne (tgt := 135) dX3_getsSlot_90 (by decide) (by decide) (fun _ => ?_) (fun q => absurd q (by decide))
                refine br_iload_4 dX3_getsSlot_135 ?_
                refine br_if_ne (tgt := 143) dX3_getsSlot_137 (by decide) (by decide) (fun _ => ?_) (fun q => absurd q (by decide))
                refine br_aload_0 dX3_getsSlot_143 ?_
                refine br_mg_19 dX3_getsSlot_144 ?_
                refine br_iload_3 dX3_getsSlot_147 ?_
                refine br_dup2 dX3_getsSlot_148 rfl rfl ?_
                refine br_ml_6 (v := G 6 t) (by omega) rfl dX3_getsSlot_149 ?_
                refine br_iconst dX3_getsSlot_150 ?_
                refine br_iadd dX3_getsSlot_151 ?_
                refine br_ms_6 (by omega) dX3_getsSlot_152 ?_
                refine br_aload_0 dX3_getsSlot_153 ?_
                refine br_mg_20 dX3_getsSlot_154 ?_
                refine br_iload_1 dX3_getsSlot_157 ?_
                refine br_iload_3 dX3_getsSlot_158 ?_
                refine br_ms_7 (by omega) dX3_getsSlot_159 ?_
                refine br_iconst dX3_getsSlot_160 ?_
                exact br_ireturn dX3_getsSlot_161 (by dsimp only; omega) (by dsimp only; omega) (hret _ _ (⟨_, rfl, Or.inl ⟨rfl, _, _, _, rfl, hbt, kSucc_free ⟨by omega, hs.1.2, hs.2⟩ (by omega) hwin hv hc (show G 6 t < G 5 t from by omega)⟩⟩))
          · refine br_goto (tgt := 162) dX3_getsSlot_42 (by decide) ?_
            refine br_iinc_3 dX3_getsSlot_162 rfl ?_
            refine br_goto (tgt := 14) dX3_getsSlot_165 (by decide) ?_
            obtain ⟨hb9, hup9, hP9⟩ : bl01 g ∧ seenUp (G 8) g ∧ kPart (G 2) (G 5) (G 6) (G 7) (G 8) s g V (t + 1) := ⟨hbg, hup, kPart_skip hP (by first | exact Or.inl (by have := hbg t (by omega) (by omega); omega) | exact Or.inr (by omega))⟩
            exact ih14 _ _ _ (by omega) (by omega) hb9 hup9 hP9
  exact lp14 _ _ _ _ (Nat.lt_succ_self _) (show winLo (G 2) s ≤ winLo (G 2) s ∧ winLo (G 2) s ≤ winHi (G 2) s + 1 from by omega) hb (fun _ _ _ h => h) (kPart_0 rfl)

theorem gets_all (D : bk_D) : ∀ m : Nat, getsC D m := by
  intro m
  induction m using Nat.strongRecOn with
  | _ m ih => intro o a F wd G ex s hm hb hsp hR hs hc hv hss; exact gets_step ih hm hb hsp hR hs hc hv hss
