/-! MODEL: tokens -/
set_option maxRecDepth 100000
theorem ct_m_tapeAt {D : bk_D} {o : Nat} {a : Nat → Nat} {F : Nat → Int} {wd : Int} {G : Nat → Int → Int} {ex : gC} {T : Int → Int} {n : Int} (hT : mT T (G 1) n) (hn : F 3 = n) {p : Int} (hp : 0 ≤ p ∧ p ≤ 1000) : bk_K D yX3_tapeAt (.code yX3_tapeAt cX3_tapeAt 2 (some (FieldType.int))) ({ frames := 0, cells := 0, slots := 0, locals := 0 }) [.ref o, .int (iI p)] (mw o a F wd G ex) (bk_pi fun v w => (((p < n ∧ v = T p) ∨ (n ≤ p ∧ v = 0)) ∧ (0 ≤ v ∧ v < 256)) ∧ w = (mw o a F wd G ex)) bk_nox := by
  refine bk_ofV (own := "BreakSetterModel") (L0 := [some (.ref o), some (.int (iI p))]) (by decide) rfl (Nat.le_of_ble_eq_true rfl) rfl bk_oi (fun Γ hct hret hthr => ?_)
  obtain ⟨hT1, hT2⟩ := hT
  refine br_iload_1 dX3_tapeAt_0 ?_
  refine br_aload_0 dX3_tapeAt_1 ?_
  refine br_mg_3 (v := F 3) rfl dX3_tapeAt_2 ?_
  refine br_icmp_ge (tgt := 17) dX3_tapeAt_5 (by decide) (by omega) (fun c5 => ?_) (fun c5 => ?_)
  · refine br_iconst dX3_tapeAt_17 ?_
    exact br_ireturn dX3_tapeAt_18 (by decide) (by decide) (hret _ _ (⟨_, rfl, ⟨Or.inr ⟨by omega, rfl⟩, by omega⟩, rfl⟩))
  · refine br_aload_0 dX3_tapeAt_8 ?_
    refine br_mg_1 dX3_tapeAt_9 ?_
    refine br_iload_1 dX3_tapeAt_12 ?_
    refine br_ml_1 (v := G 1 p) (by omega) rfl dX3_tapeAt_13 ?_
    refine br_goto (tgt := 18) dX3_tapeAt_14 (by decide) ?_
    exact br_ireturn dX3_tapeAt_18 (by decide) (by decide) (hret _ _ (⟨_, rfl, ⟨Or.inl ⟨by omega, (hT1 p (by omega) (by omega)).1⟩, by have := hT1 p (by omega) (by omega); omega⟩, rfl⟩))

theorem ct_m_go {D : bk_D} {o : Nat} {a : Nat → Nat} {F : Nat → Int} {wd : Int} {G : Nat → Int → Int} {ex : gC} {T : Int → Int} {n : Int} (hT : mT T (G 1) n) (hn : F 3 = n) (h4 : 0 ≤ F 4 ∧ F 4 ≤ n) : bk_K D yX3_go (.code yX3_go cX3_go 5 none) ({ frames := 1, cells := 0, slots := 0, locals := 21 }) [.ref o] (mw o a F wd G ex) (bk_pv fun w => ∃ (F' : Nat → Int) (wd' : Int), w = mw o a F' wd' G ex ∧ mTk T n F' wd' (tokF T n (F 4)) ∧ mKp F F') bk_nox := by
  refine bk_ofV (own := "BreakSetterModel") (L0 := [some (.ref o), none, none, none, none]) (by decide) rfl (Nat.le_of_ble_eq_true rfl) rfl bk_ov (fun Γ hct hret hthr => ?_)
  have hT2 := hT.2
  have lp0 : ∀ (mm0 : Nat) (F1 : Nat → Int), (n - F1 4).toNat < mm0 → (mKp F F1) → (F 4 ≤ F1 4 ∧ F1 4 ≤ n) → (∀ y : Int, F 4 ≤ y → y < F1 4 → y < n ∧ isSp (T y)) → bk_V Γ D ({ frames := 1, cells := 0, slots := 0, locals := 21 }) "BreakSetterModel" cX3_go [] 0 0 (mw o a F1 wd G ex) [some (.ref o), none, none, none, none] [] 0 := by
    intro mm0
    induction mm0 with
    | zero => intro F1 hm0; exact absurd hm0 (Nat.not_lt_zero _)
    | succ mm0 ih0 =>
      intro F1 hm0 hk h1 h2
      obtain ⟨k0, k2, k3, k8, k9, k14, k16, k17⟩ := id hk
      refine br_aload_0 dX3_go_0 ?_
      refine br_mg_4 (v := F1 4) rfl dX3_go_1 ?_
      refine br_aload_0 dX3_go_4 ?_
      refine br_mg_3 (v := F1 3) rfl dX3_go_5 ?_
      refine br_icmp_ge (tgt := 52) dX3_go_8 (by decide) (by omega) (fun c8 => ?_) (fun c8 => ?_)
      · refine br_aload_0 dX3_go_52 ?_
        refine br_aload_0 dX3_go_53 ?_
        refine br_mg_4 (v := F1 4) rfl dX3_go_54 ?_
        refine br_mp_5 dX3_go_57 ?_
        refine br_aload_0 dX3_go_60 ?_
        refine br_mg_3 (v := F1 3) rfl dX3_go_61 ?_
        refine br_sipush dX3_go_64 (by decide) ?_
        refine br_icmp_le (tgt := 93) dX3_go_67 (by decide) (by omega) (fun c67 => ?_) (fun c67 => ?_)
        · refine br_aload_0 dX3_go_93 ?_
          refine br_mg_4 (v := F1 4) rfl dX3_go_94 ?_
          refine br_aload_0 dX3_go_97 ?_
          refine br_mg_3 (v := F1 3) rfl dX3_go_98 ?_
          refine br_icmp_lt (tgt := 110) dX3_go_101 (by decide) (by omega) (fun c101 => ?_) (fun c101 => ?_)
          · refine br_aload_0 dX3_go_110 ?_
            refine br_mg_1 dX3_go_111 ?_
            refine br_aload_0 dX3_go_114 ?_
            refine br_mg_4 (v := F1 4) rfl dX3_go_115 ?_
            refine br_ml_1 (v := G 1 (F1 4)) (by omega) rfl dX3_go_118 ?_
            refine br_istore_1 dX3_go_119 rfl ?_
            refine br_iload_1 dX3_go_120 ?_
            refine br_SZ1 (ct_m_isLetter (by omega)) lk_X3_30 ⟨Nat.le_of_ble_eq_true rfl, Nat.le_of_ble_eq_true rfl⟩ ⟨Nat.le_of_ble_eq_true rfl, Nat.le_of_ble_eq_true rfl⟩  (Nat.le_of_ble_eq_true rfl) dX3_go_121 (fun c121 => ?_) (fun c121 => ?_)
            · have hfd : isLt (T (F1 4)) := by unfold isLt; omega
              refine br_if_ne (tgt := 160) dX3_go_124 (by decide) (by decide) (fun _ => ?_) (fun q => absurd q (by decide))
              have hal0 : isAl (T (F1 4)) := by unfold isAl isLt isDg; omega
              refine br_iload_1 dX3_go_160 ?_
              refine br_SZ1 (ct_m_isLetter (by omega)) lk_X3_30 ⟨Nat.le_of_ble_eq_true rfl, Nat.le_of_ble_eq_true rfl⟩ ⟨Nat.le_of_ble_eq_true rfl, Nat.le_of_ble_eq_true rfl⟩  (Nat.le_of_ble_eq_true rfl) dX3_go_161 (fun c161 => ?_) (fun q => absurd q (by omega))
              have hfd : isLt (T (F1 4)) := by unfold isLt; omega
              refine br_istore_2 dX3_go_164 rfl ?_
              refine br_iconst dX3_go_165 ?_
              refine br_istore_3 dX3_go_166 rfl ?_
              refine br_aload_0 dX3_go_167 ?_
              refine br_lconst0 dX3_go_168 ?_
              refine br_mp_10 dX3_go_169 ?_
              refine br_aload_0 dX3_go_172 ?_
              refine br_iconst dX3_go_173 ?_
              refine br_mp_7 dX3_go_174 ?_
              have lp177 : ∀ (mm177 : Nat) (F2 : Nat → Int) (wd2 : Int) (g : Int), (n - F2 4).toNat < mm177 → (mKp F F2) → (F2 5 = F1 4) → (F1 4 ≤ F2 4 ∧ F2 4 ≤ n) → (∀ y : Int, F1 4 ≤ y → y < F2 4 → y < n ∧ isAl (T y)) → ((g = 1 ∧ allLt T (F1 4) (F2 4)) ∨ (g = 0 ∧ ¬ allLt T (F1 4) (F2 4))) → (wd2 = hashT T (F1 4) (F2 4)) → (F2 7 = numV T (F1 4) (F2 4)) → bk_V Γ D ({ frames := 1, cells := 0, slots := 0, locals := 21 }) "BreakSetterModel" cX3_go [] 0 0 (mw o a F2 wd2 G ex) [some (.ref o), some (.int (iI (G 1 (F1 4)))), some (.int (iI 1)), some (.int (iI g)), none] [] 177 := by
                intro mm177
                induction mm177 with
                | zero => intro F2 wd2 g hm177; exact absurd hm177 (Nat.not_lt_zero _)
                | succ mm177 ih177 =>
                  intro F2 wd2 g hm177 r1 r2 r3 r4 r5 r6 r7
                  obtain ⟨q0, q2, q3, q8, q9, q14, q16, q17⟩ := r1
                  have r3a : F1 4 ≤ F2 4 ∧ F2 4 ≤ n := r3
                  refine br_aload_0 dX3_go_177 ?_
                  refine br_aload_0 dX3_go_178 ?_
                  refine br_mg_4 (v := F2 4) rfl dX3_go_179 ?_
                  refine br_Vi1 (i := 40) (j := 0) (ct_m_tapeAt (T := T) (n := n) hT (by omega) (by omega)) lk_X3_44 ⟨Nat.le_of_ble_eq_true rfl, Nat.le_of_ble_eq_true rfl⟩ ⟨Nat.le_of_ble_eq_true rfl, Nat.le_of_ble_eq_true rfl⟩ rfl rfl (Nat.le_of_ble_eq_true rfl) dX3_go_182 (fun v182 w_ hw_ => ?_)
                  obtain ⟨hb182, rfl⟩ := hw_
                  refine br_SZ1 (ct_m_isLetter (by omega)) lk_X3_30 ⟨Nat.le_of_ble_eq_true rfl, Nat.le_of_ble_eq_true rfl⟩ ⟨Nat.le_of_ble_eq_true rfl, Nat.le_of_ble_eq_true rfl⟩  (Nat.le_of_ble_eq_true rfl) dX3_go_185 (fun c185 => ?_) (fun c185 => ?_)
                  · refine br_if_ne (tgt := 205) dX3_go_188 (by decide) (by decide) (fun _ => ?_) (fun q => absurd q (by decide))
                    have ht2 := hT.1 (F2 4) (by omega) (by omega)
                    refine br_aload_0 dX3_go_205 ?_
                    refine br_mg_1 dX3_go_206 ?_
                    refine br_aload_0 dX3_go_209 ?_
                    refine br_mg_4 (v := F2 4) rfl dX3_go_210 ?_
                    refine br_ml_1 (v := G 1 (F2 4)) (by omega) rfl dX3_go_213 ?_
                    refine br_istore_4 dX3_go_214 rfl ?_
                    refine br_iload_3 dX3_go_216 ?_
                    refine br_if_eq (tgt := 233) dX3_go_217 (by decide) (by omega) (fun c217 => ?_) (fun c217 => ?_)
                    · refine br_iconst dX3_go_233 ?_
                      refine br_istore_3 dX3_go_234 rfl ?_
                      refine br_aload_0 dX3_go_235 ?_
                      refine br_mg_4 (v := F2 4) rfl dX3_go_236 ?_
                      refine br_aload_0 dX3_go_239 ?_
                      refine br_mg_5 (v := F2 5) rfl dX3_go_240 ?_
                      refine br_isub dX3_go_243 ?_
                      refine br_bipush dX3_go_244 (by decide) ?_
                      refine br_icmp_ge (tgt := 269) dX3_go_246 (by decide) (by omega) (fun c246 => ?_) (fun c246 => ?_)
                      · refine br_aload_0 dX3_go_269 ?_
                        refine br_mg_4 (v := F2 4) rfl dX3_go_270 ?_
                        refine br_aload_0 dX3_go_273 ?_
                        refine br_mg_5 (v := F2 5) rfl dX3_go_274 ?_
                        refine br_isub dX3_go_277 ?_
                        refine br_iconst dX3_go_278 ?_
                        refine br_icmp_ge (tgt := 299) dX3_go_279 (by decide) (by omega) (fun c279 => ?_) (fun q => absurd q (by omega))
                        refine br_aload_0 dX3_go_299 ?_
                        refine br_dup dX3_go_300 rfl ?_
                        refine br_mg_4 (v := F2 4) rfl dX3_go_301 ?_
                        refine br_iconst dX3_go_304 ?_
                        refine br_iadd dX3_go_305 ?_
                        refine br_mp_4 dX3_go_306 ?_
                        refine br_goto (tgt := 177) dX3_go_309 (by decide) ?_
                        refine br_fg_4 ?_
                        have hal : isAl (T (F2 4)) := by unfold isAl isLt isDg; omega
                        have hgood : ((0 : Int) = 1 ∧ allLt T (F1 4) (F2 4 + 1)) ∨ ((0 : Int) = 0 ∧ ¬ allLt T (F1 4) (F2 4 + 1)) := by
                          rcases r5 with ⟨r5, r5a⟩ | ⟨r5, r5a⟩
                          · exact Or.inr ⟨rfl, allLt_x (by omega) (by unfold isLt; omega)⟩
                          · exact Or.inr ⟨rfl, allLt_n r5a⟩
                        have hh6 : wd2 = hashT T (F1 4) (F2 4 + 1) := by rw [hashT_stay (by omega)]; exact r6
                        have hn7 : F2 7 = numV T (F1 4) (F2 4 + 1) := by rw [numV_stay (by omega)]; exact r7
                        exact ih177 _ _ _ (show (n - (F2 4 + 1)).toNat < _ from by omega) ⟨q0, q2, q3, q8, q9, q14, q16, q17⟩ r2 (show F1 4 ≤ F2 4 + 1 ∧ F2 4 + 1 ≤ n from by omega) (run_s r4 (by omega) hal) hgood hh6 hn7
                      · refine br_aload_0 dX3_go_249 ?_
                        refine br_ldc2 (z := 27) q1386 (by decide) dX3_go_250 ?_
                        refine br_aload_0 dX3_go_253 ?_
                        refine br_mg_10 dX3_go_254 ?_
                        refine br_lmul dX3_go_257 ?_
                        refine br_iload_4 dX3_go_258 ?_
                        refine br_i2l dX3_go_260 (by omega) ?_
                        refine br_ladd dX3_go_261 ?_
                        refine br_ldc2 (z := 96) q1387 (by decide) dX3_go_262 ?_
                        refine br_lsub dX3_go_265 ?_
                        refine br_mp_10 dX3_go_266 ?_
                        refine br_aload_0 dX3_go_269 ?_
                        refine br_mg_4 (v := F2 4) rfl dX3_go_270 ?_
                        refine br_aload_0 dX3_go_273 ?_
                        refine br_mg_5 (v := F2 5) rfl dX3_go_274 ?_
                        refine br_isub dX3_go_277 ?_
                        refine br_iconst dX3_go_278 ?_
                        refine br_icmp_ge (tgt := 299) dX3_go_279 (by decide) (by omega) (fun c279 => ?_) (fun c279 => ?_)
                        · refine br_aload_0 dX3_go_299 ?_
                          refine br_dup dX3_go_300 rfl ?_
                          refine br_mg_4 (v := F2 4) rfl dX3_go_301 ?_
                          refine br_iconst dX3_go_304 ?_
                          refine br_iadd dX3_go_305 ?_
                          refine br_mp_4 dX3_go_306 ?_
                          refine br_goto (tgt := 177) dX3_go_309 (by decide) ?_
                          refine br_fg_4 ?_
                          have hal : isAl (T (F2 4)) := by unfold isAl isLt isDg; omega
                          have hgood : ((0 : Int) = 1 ∧ allLt T (F1 4) (F2 4 + 1)) ∨ ((0 : Int) = 0 ∧ ¬ allLt T (F1 4) (F2 4 + 1)) := by
                            rcases r5 with ⟨r5, r5a⟩ | ⟨r5, r5a⟩
                            · exact Or.inr ⟨rfl, allLt_x (by omega) (by unfold isLt; omega)⟩
                            · exact Or.inr ⟨rfl, allLt_n r5a⟩
                          have hh6 : ((27 * wd2) + (G 1 (F2 4))) - 96 = hashT T (F1 4) (F2 4 + 1) := by rw [hashT_step (by omega), ← r6]; omega
                          have hn7 : F2 7 = numV T (F1 4) (F2 4 + 1) := by rw [numV_stay (by omega)]; exact r7
                          exact ih177 _ _ _ (show (n - (F2 4 + 1)).toNat < _ from by omega) ⟨q0, q2, q3, q8, q9, q14, q16, q17⟩ r2 (show F1 4 ≤ F2 4 + 1 ∧ F2 4 + 1 ≤ n from by omega) (run_s r4 (by omega) hal) hgood hh6 hn7
                        · refine br_aload_0 dX3_go_282 ?_
                          refine br_bipush dX3_go_283 (by decide) ?_
                          refine br_aload_0 dX3_go_285 ?_
                          refine br_mg_7 (v := F2 7) rfl dX3_go_286 ?_
                          refine br_imul dX3_go_289 ?_
                          refine br_iload_4 dX3_go_290 ?_
                          refine br_iadd dX3_go_292 ?_
                          refine br_bipush dX3_go_293 (by decide) ?_
                          refine br_isub dX3_go_295 ?_
                          refine br_mp_7 dX3_go_296 ?_
                          refine br_aload_0 dX3_go_299 ?_
                          refine br_dup dX3_go_300 rfl ?_
                          refine br_mg_4 (v := F2 4) rfl dX3_go_301 ?_
                          refine br_iconst dX3_go_304 ?_
                          refine br_iadd dX3_go_305 ?_
                          refine br_mp_4 dX3_go_306 ?_
                          refine br_goto (tgt := 177) dX3_go_309 (by decide) ?_
                          refine br_fg_4 ?_
                          have hal : isAl (T (F2 4)) := by unfold isAl isLt isDg; omega
                          have hgood : ((0 : Int) = 1 ∧ allLt T (F1 4) (F2 4 + 1)) ∨ ((0 : Int) = 0 ∧ ¬ allLt T (F1 4) (F2 4 + 1)) := by
                            rcases r5 with ⟨r5, r5a⟩ | ⟨r5, r5a⟩
                            · exact Or.inr ⟨rfl, allLt_x (by omega) (by unfold isLt; omega)⟩
                            · exact Or.inr ⟨rfl, allLt_n r5a⟩
                          have hh6 : ((27 * wd2) + (G 1 (F2 4))) - 96 = hashT T (F1 4) (F2 4 + 1) := by rw [hashT_step (by omega), ← r6]; omega
                          have hn7 : ((10 * (F2 7)) + (G 1 (F2 4))) - 48 = numV T (F1 4) (F2 4 + 1) := by rw [numV_step (by omega), ← r7]; omega
                          exact ih177 _ _ _ (show (n - (F2 4 + 1)).toNat < _ from by omega) ⟨q0, q2, q3, q8, q9, q14, q16, q17⟩ r2 (show F1 4 ≤ F2 4 + 1 ∧ F2 4 + 1 ≤ n from by omega) (run_s r4 (by omega) hal) hgood hh6 hn7
                    · refine br_iload_4 dX3_go_220 ?_
                      refine br_SZ1 (ct_m_isLetter (by omega)) lk_X3_30 ⟨Nat.le_of_ble_eq_true rfl, Nat.le_of_ble_eq_true rfl⟩ ⟨Nat.le_of_ble_eq_true rfl, Nat.le_of_ble_eq_true rfl⟩  (Nat.le_of_ble_eq_true rfl) dX3_go_222 (fun c222 => ?_) (fun q => absurd q (by omega))
                      refine br_iload_2 dX3_go_225 ?_
                      refine br_icmp_ne (tgt := 233) dX3_go_226 (by decide) (by decide) (fun q => absurd q (by decide)) (fun _ => ?_)
                      refine br_iconst dX3_go_229 ?_
                      refine br_goto (tgt := 234) dX3_go_230 (by decide) ?_
                      refine br_istore_3 dX3_go_234 rfl ?_
                      refine br_aload_0 dX3_go_235 ?_
                      refine br_mg_4 (v := F2 4) rfl dX3_go_236 ?_
                      refine br_aload_0 dX3_go_239 ?_
                      refine br_mg_5 (v := F2 5) rfl dX3_go_240 ?_
                      refine br_isub dX3_go_243 ?_
                      refine br_bipush dX3_go_244 (by decide) ?_
                      refine br_icmp_ge (tgt := 269) dX3_go_246 (by decide) (by omega) (fun c246 => ?_) (fun c246 => ?_)
                      · refine br_aload_0 dX3_go_269 ?_
                        refine br_mg_4 (v := F2 4) rfl dX3_go_270 ?_
                        refine br_aload_0 dX3_go_273 ?_
                        refine br_mg_5 (v := F2 5) rfl dX3_go_274 ?_
                        refine br_isub dX3_go_277 ?_
                        refine br_iconst dX3_go_278 ?_
                        refine br_icmp_ge (tgt := 299) dX3_go_279 (by decide) (by omega) (fun c279 => ?_) (fun q => absurd q (by omega))
                        refine br_aload_0 dX3_go_299 ?_
                        refine br_dup dX3_go_300 rfl ?_
                        refine br_mg_4 (v := F2 4) rfl dX3_go_301 ?_
                        refine br_iconst dX3_go_304 ?_
                        refine br_iadd dX3_go_305 ?_
                        refine br_mp_4 dX3_go_306 ?_
                        refine br_goto (tgt := 177) dX3_go_309 (by decide) ?_
                        refine br_fg_4 ?_
                        have hal : isAl (T (F2 4)) := by unfold isAl isLt isDg; omega
                        have hgood : ((1 : Int) = 1 ∧ allLt T (F1 4) (F2 4 + 1)) ∨ ((1 : Int) = 0 ∧ ¬ allLt T (F1 4) (F2 4 + 1)) := by
                          rcases r5 with ⟨r5, r5a⟩ | ⟨r5, r5a⟩
                          · exact Or.inl ⟨rfl, allLt_s r5a (by unfold isLt; unfold isAl isLt isDg at hal; omega)⟩
                          · omega
                        have hh6 : wd2 = hashT T (F1 4) (F2 4 + 1) := by rw [hashT_stay (by omega)]; exact r6
                        have hn7 : F2 7 = numV T (F1 4) (F2 4 + 1) := by rw [numV_stay (by omega)]; exact r7
                        exact ih177 _ _ _ (show (n - (F2 4 + 1)).toNat < _ from by omega) ⟨q0, q2, q3, q8, q9, q14, q16, q17⟩ r2 (show F1 4 ≤ F2 4 + 1 ∧ F2 4 + 1 ≤ n from by omega) (run_s r4 (by omega) hal) hgood hh6 hn7
                      · refine br_aload_0 dX3_go_249 ?_
                        refine br_ldc2 (z := 27) q1386 (by decide) dX3_go_250 ?_
                        refine br_aload_0 dX3_go_253 ?_
                        refine br_mg_10 dX3_go_254 ?_
                        refine br_lmul dX3_go_257 ?_
                        refine br_iload_4 dX3_go_258 ?_
                        refine br_i2l dX3_go_260 (by omega) ?_
                        refine br_ladd dX3_go_261 ?_
                        refine br_ldc2 (z := 96) q1387 (by decide) dX3_go_262 ?_
                        refine br_lsub dX3_go_265 ?_
                        refine br_mp_10 dX3_go_266 ?_
                        refine br_aload_0 dX3_go_269 ?_
                        refine br_mg_4 (v := F2 4) rfl dX3_go_270 ?_
                        refine br_aload_0 dX3_go_273 ?_
                        refine br_mg_5 (v := F2 5) rfl dX3_go_274 ?_
                        refine br_isub dX3_go_277 ?_
                        refine br_iconst dX3_go_278 ?_
                        refine br_icmp_ge (tgt := 299) dX3_go_279 (by decide) (by omega) (fun c279 => ?_) (fun c279 => ?_)
                        · refine br_aload_0 dX3_go_299 ?_
                          refine br_dup dX3_go_300 rfl ?_
                          refine br_mg_4 (v := F2 4) rfl dX3_go_301 ?_
                          refine br_iconst dX3_go_304 ?_
                          refine br_iadd dX3_go_305 ?_
                          refine br_mp_4 dX3_go_306 ?_
                          refine br_goto (tgt := 177) dX3_go_309 (by decide) ?_
                          refine br_fg_4 ?_
                          have hal : isAl (T (F2 4)) := by unfold isAl isLt isDg; omega
                          have hgood : ((1 : Int) = 1 ∧ allLt T (F1 4) (F2 4 + 1)) ∨ ((1 : Int) = 0 ∧ ¬ allLt T (F1 4) (F2 4 + 1)) := by
                            rcases r5 with ⟨r5, r5a⟩ | ⟨r5, r5a⟩
                            · exact Or.inl ⟨rfl, allLt_s r5a (by unfold isLt; unfold isAl isLt isDg at hal; omega)⟩
                            · omega
                          have hh6 : ((27 * wd2) + (G 1 (F2 4))) - 96 = hashT T (F1 4) (F2 4 + 1) := by rw [hashT_step (by omega), ← r6]; omega
                          have hn7 : F2 7 = numV T (F1 4) (F2 4 + 1) := by rw [numV_stay (by omega)]; exact r7
                          exact ih177 _ _ _ (show (n - (F2 4 + 1)).toNat < _ from by omega) ⟨q0, q2, q3, q8, q9, q14, q16, q17⟩ r2 (show F1 4 ≤ F2 4 + 1 ∧ F2 4 + 1 ≤ n from by omega) (run_s r4 (by omega) hal) hgood hh6 hn7
                        · refine br_aload_0 dX3_go_282 ?_
                          refine br_bipush dX3_go_283 (by decide) ?_
                          refine br_aload_0 dX3_go_285 ?_
                          refine br_mg_7 (v := F2 7) rfl dX3_go_286 ?_
                          refine br_imul dX3_go_289 ?_
                          refine br_iload_4 dX3_go_290 ?_
                          refine br_iadd dX3_go_292 ?_
                          refine br_bipush dX3_go_293 (by decide) ?_
                          refine br_isub dX3_go_295 ?_
                          refine br_mp_7 dX3_go_296 ?_
                          refine br_aload_0 dX3_go_299 ?_
                          refine br_dup dX3_go_300 rfl ?_
                          refine br_mg_4 (v := F2 4) rfl dX3_go_301 ?_
                          refine br_iconst dX3_go_304 ?_
                          refine br_iadd dX3_go_305 ?_
                          refine br_mp_4 dX3_go_306 ?_
                          refine br_goto (tgt := 177) dX3_go_309 (by decide) ?_
                          refine br_fg_4 ?_
                          have hal : isAl (T (F2 4)) := by unfold isAl isLt isDg; omega
                          have hgood : ((1 : Int) = 1 ∧ allLt T (F1 4) (F2 4 + 1)) ∨ ((1 : Int) = 0 ∧ ¬ allLt T (F1 4) (F2 4 + 1)) := by
                            rcases r5 with ⟨r5, r5a⟩ | ⟨r5, r5a⟩
                            · exact Or.inl ⟨rfl, allLt_s r5a (by unfold isLt; unfold isAl isLt isDg at hal; omega)⟩
                            · omega
                          have hh6 : ((27 * wd2) + (G 1 (F2 4))) - 96 = hashT T (F1 4) (F2 4 + 1) := by rw [hashT_step (by omega), ← r6]; omega
                          have hn7 : ((10 * (F2 7)) + (G 1 (F2 4))) - 48 = numV T (F1 4) (F2 4 + 1) := by rw [numV_step (by omega), ← r7]; omega
                          exact ih177 _ _ _ (show (n - (F2 4 + 1)).toNat < _ from by omega) ⟨q0, q2, q3, q8, q9, q14, q16, q17⟩ r2 (show F1 4 ≤ F2 4 + 1 ∧ F2 4 + 1 ≤ n from by omega) (run_s r4 (by omega) hal) hgood hh6 hn7
                  · have hz185 : ¬ (97 ≤ v182 ∧ v182 ≤ 122) := c185
                    refine br_if_ne (tgt := 205) dX3_go_188 (by decide) (by decide) (fun q => absurd q (by decide)) (fun _ => ?_)
                    refine br_aload_0 dX3_go_191 ?_
                    refine br_aload_0 dX3_go_192 ?_
                    refine br_mg_4 (v := F2 4) rfl dX3_go_193 ?_
                    refine br_Vi1 (i := 40) (j := 0) (ct_m_tapeAt (T := T) (n := n) hT (by omega) (by omega)) lk_X3_44 ⟨Nat.le_of_ble_eq_true rfl, Nat.le_of_ble_eq_true rfl⟩ ⟨Nat.le_of_ble_eq_true rfl, Nat.le_of_ble_eq_true rfl⟩ rfl rfl (Nat.le_of_ble_eq_true rfl) dX3_go_196 (fun v196 w_ hw_ => ?_)
                    obtain ⟨hb196, rfl⟩ := hw_
                    refine br_SZ1 (ct_m_isDigit (by omega)) lk_X3_34 ⟨Nat.le_of_ble_eq_true rfl, Nat.le_of_ble_eq_true rfl⟩ ⟨Nat.le_of_ble_eq_true rfl, Nat.le_of_ble_eq_true rfl⟩  (Nat.le_of_ble_eq_true rfl) dX3_go_199 (fun c199 => ?_) (fun c199 => ?_)
                    · refine br_if_eq (tgt := 312) dX3_go_202 (by decide) (by decide) (fun q => absurd q (by decide)) (fun _ => ?_)
                      have ht2 := hT.1 (F2 4) (by omega) (by omega)
                      refine br_aload_0 dX3_go_205 ?_
                      refine br_mg_1 dX3_go_206 ?_
                      refine br_aload_0 dX3_go_209 ?_
                      refine br_mg_4 (v := F2 4) rfl dX3_go_210 ?_
                      refine br_ml_1 (v := G 1 (F2 4)) (by omega) rfl dX3_go_213 ?_
                      refine br_istore_4 dX3_go_214 rfl ?_
                      refine br_iload_3 dX3_go_216 ?_
                      refine br_if_eq (tgt := 233) dX3_go_217 (by decide) (by omega) (fun c217 => ?_) (fun c217 => ?_)
                      · refine br_iconst dX3_go_233 ?_
                        refine br_istore_3 dX3_go_234 rfl ?_
                        refine br_aload_0 dX3_go_235 ?_
                        refine br_mg_4 (v := F2 4) rfl dX3_go_236 ?_
                        refine br_aload_0 dX3_go_239 ?_
                        refine br_mg_5 (v := F2 5) rfl dX3_go_240 ?_
                        refine br_isub dX3_go_243 ?_
                        refine br_bipush dX3_go_244 (by decide) ?_
                        refine br_icmp_ge (tgt := 269) dX3_go_246 (by decide) (by omega) (fun c246 => ?_) (fun c246 => ?_)
                        · refine br_aload_0 dX3_go_269 ?_
                          refine br_mg_4 (v := F2 4) rfl dX3_go_270 ?_
                          refine br_aload_0 dX3_go_273 ?_
                          refine br_mg_5 (v := F2 5) rfl dX3_go_274 ?_
                          refine br_isub dX3_go_277 ?_
                          refine br_iconst dX3_go_278 ?_
                          refine br_icmp_ge (tgt := 299) dX3_go_279 (by decide) (by omega) (fun c279 => ?_) (fun q => absurd q (by omega))
                          refine br_aload_0 dX3_go_299 ?_
                          refine br_dup dX3_go_300 rfl ?_
                          refine br_mg_4 (v := F2 4) rfl dX3_go_301 ?_
                          refine br_iconst dX3_go_304 ?_
                          refine br_iadd dX3_go_305 ?_
                          refine br_mp_4 dX3_go_306 ?_
                          refine br_goto (tgt := 177) dX3_go_309 (by decide) ?_
                          refine br_fg_4 ?_
                          have hal : isAl (T (F2 4)) := by unfold isAl isLt isDg; omega
                          have hgood : ((0 : Int) = 1 ∧ allLt T (F1 4) (F2 4 + 1)) ∨ ((0 : Int) = 0 ∧ ¬ allLt T (F1 4) (F2 4 + 1)) := by
                            rcases r5 with ⟨r5, r5a⟩ | ⟨r5, r5a⟩
                            · exact Or.inr ⟨rfl, allLt_x (by omega) (by unfold isLt; omega)⟩
                            · exact Or.inr ⟨rfl, allLt_n r5a⟩
                          have hh6 : wd2 = hashT T (F1 4) (F2 4 + 1) := by rw [hashT_stay (by omega)]; exact r6
                          have hn7 : F2 7 = numV T (F1 4) (F2 4 + 1) := by rw [numV_stay (by omega)]; exact r7
                          exact ih177 _ _ _ (show (n - (F2 4 + 1)).toNat < _ from by omega) ⟨q0, q2, q3, q8, q9, q14, q16, q17⟩ r2 (show F1 4 ≤ F2 4 + 1 ∧ F2 4 + 1 ≤ n from by omega) (run_s r4 (by omega) hal) hgood hh6 hn7
                        · refine br_aload_0 dX3_go_249 ?_
                          refine br_ldc2 (z := 27) q1386 (by decide) dX3_go_250 ?_
                          refine br_aload_0 dX3_go_253 ?_
                          refine br_mg_10 dX3_go_254 ?_
                          refine br_lmul dX3_go_257 ?_
                          refine br_iload_4 dX3_go_258 ?_
                          refine br_i2l dX3_go_260 (by omega) ?_
                          refine br_ladd dX3_go_261 ?_
                          refine br_ldc2 (z := 96) q1387 (by decide) dX3_go_262 ?_
                          refine br_lsub dX3_go_265 ?_
                          refine br_mp_10 dX3_go_266 ?_
                          refine br_aload_0 dX3_go_269 ?_
                          refine br_mg_4 (v := F2 4) rfl dX3_go_270 ?_
                          refine br_aload_0 dX3_go_273 ?_
                          refine br_mg_5 (v := F2 5) rfl dX3_go_274 ?_
                          refine br_isub dX3_go_277 ?_
                          refine br_iconst dX3_go_278 ?_
                          refine br_icmp_ge (tgt := 299) dX3_go_279 (by decide) (by omega) (fun c279 => ?_) (fun c279 => ?_)
                          · refine br_aload_0 dX3_go_299 ?_
                            refine br_dup dX3_go_300 rfl ?_
                            refine br_mg_4 (v := F2 4) rfl dX3_go_301 ?_
                            refine br_iconst dX3_go_304 ?_
                            refine br_iadd dX3_go_305 ?_
                            refine br_mp_4 dX3_go_306 ?_
                            refine br_goto (tgt := 177) dX3_go_309 (by decide) ?_
                            refine br_fg_4 ?_
                            have hal : isAl (T (F2 4)) := by unfold isAl isLt isDg; omega
                            have hgood : ((0 : Int) = 1 ∧ allLt T (F1 4) (F2 4 + 1)) ∨ ((0 : Int) = 0 ∧ ¬ allLt T (F1 4) (F2 4 + 1)) := by
                              rcases r5 with ⟨r5, r5a⟩ | ⟨r5, r5a⟩
                              · exact Or.inr ⟨rfl, allLt_x (by omega) (by unfold isLt; omega)⟩
                              · exact Or.inr ⟨rfl, allLt_n r5a⟩
                            have hh6 : ((27 * wd2) + (G 1 (F2 4))) - 96 = hashT T (F1 4) (F2 4 + 1) := by rw [hashT_step (by omega), ← r6]; omega
                            have hn7 : F2 7 = numV T (F1 4) (F2 4 + 1) := by rw [numV_stay (by omega)]; exact r7
                            exact ih177 _ _ _ (show (n - (F2 4 + 1)).toNat < _ from by omega) ⟨q0, q2, q3, q8, q9, q14, q16, q17⟩ r2 (show F1 4 ≤ F2 4 + 1 ∧ F2 4 + 1 ≤ n from by omega) (run_s r4 (by omega) hal) hgood hh6 hn7
                          · refine br_aload_0 dX3_go_282 ?_
                            refine br_bipush dX3_go_283 (by decide) ?_
                            refine br_aload_0 dX3_go_285 ?_
                            refine br_mg_7 (v := F2 7) rfl dX3_go_286 ?_
                            refine br_imul dX3_go_289 ?_
                            refine br_iload_4 dX3_go_290 ?_
                            refine br_iadd dX3_go_292 ?_
                            refine br_bipush dX3_go_293 (by decide) ?_
                            refine br_isub dX3_go_295 ?_
                            refine br_mp_7 dX3_go_296 ?_
                            refine br_aload_0 dX3_go_299 ?_
                            refine br_dup dX3_go_300 rfl ?_
                            refine br_mg_4 (v := F2 4) rfl dX3_go_301 ?_
                            refine br_iconst dX3_go_304 ?_
                            refine br_iadd dX3_go_305 ?_
                            refine br_mp_4 dX3_go_306 ?_
                            refine br_goto (tgt := 177) dX3_go_309 (by decide) ?_
                            refine br_fg_4 ?_
                            have hal : isAl (T (F2 4)) := by unfold isAl isLt isDg; omega
                            have hgood : ((0 : Int) = 1 ∧ allLt T (F1 4) (F2 4 + 1)) ∨ ((0 : Int) = 0 ∧ ¬ allLt T (F1 4) (F2 4 + 1)) := by
                              rcases r5 with ⟨r5, r5a⟩ | ⟨r5, r5a⟩
                              · exact Or.inr ⟨rfl, allLt_x (by omega) (by unfold isLt; omega)⟩
                              · exact Or.inr ⟨rfl, allLt_n r5a⟩
                            have hh6 : ((27 * wd2) + (G 1 (F2 4))) - 96 = hashT T (F1 4) (F2 4 + 1) := by rw [hashT_step (by omega), ← r6]; omega
                            have hn7 : ((10 * (F2 7)) + (G 1 (F2 4))) - 48 = numV T (F1 4) (F2 4 + 1) := by rw [numV_step (by omega), ← r7]; omega
                            exact ih177 _ _ _ (show (n - (F2 4 + 1)).toNat < _ from by omega) ⟨q0, q2, q3, q8, q9, q14, q16, q17⟩ r2 (show F1 4 ≤ F2 4 + 1 ∧ F2 4 + 1 ≤ n from by omega) (run_s r4 (by omega) hal) hgood hh6 hn7
                      · refine br_iload_4 dX3_go_220 ?_
                        refine br_SZ1 (ct_m_isLetter (by omega)) lk_X3_30 ⟨Nat.le_of_ble_eq_true rfl, Nat.le_of_ble_eq_true rfl⟩ ⟨Nat.le_of_ble_eq_true rfl, Nat.le_of_ble_eq_true rfl⟩  (Nat.le_of_ble_eq_true rfl) dX3_go_222 (fun q => absurd q (by omega)) (fun c222 => ?_)
                        refine br_iload_2 dX3_go_225 ?_
                        refine br_icmp_ne (tgt := 233) dX3_go_226 (by decide) (by decide) (fun _ => ?_) (fun q => absurd q (by decide))
                        refine br_iconst dX3_go_233 ?_
                        refine br_istore_3 dX3_go_234 rfl ?_
                        refine br_aload_0 dX3_go_235 ?_
                        refine br_mg_4 (v := F2 4) rfl dX3_go_236 ?_
                        refine br_aload_0 dX3_go_239 ?_
                        refine br_mg_5 (v := F2 5) rfl dX3_go_240 ?_
                        refine br_isub dX3_go_243 ?_
                        refine br_bipush dX3_go_244 (by decide) ?_
                        refine br_icmp_ge (tgt := 269) dX3_go_246 (by decide) (by omega) (fun c246 => ?_) (fun c246 => ?_)
                        · refine br_aload_0 dX3_go_269 ?_
                          refine br_mg_4 (v := F2 4) rfl dX3_go_270 ?_
                          refine br_aload_0 dX3_go_273 ?_
                          refine br_mg_5 (v := F2 5) rfl dX3_go_274 ?_
                          refine br_isub dX3_go_277 ?_
                          refine br_iconst dX3_go_278 ?_
                          refine br_icmp_ge (tgt := 299) dX3_go_279 (by decide) (by omega) (fun c279 => ?_) (fun q => absurd q (by omega))
                          refine br_aload_0 dX3_go_299 ?_
                          refine br_dup dX3_go_300 rfl ?_
                          refine br_mg_4 (v := F2 4) rfl dX3_go_301 ?_
                          refine br_iconst dX3_go_304 ?_
                          refine br_iadd dX3_go_305 ?_
                          refine br_mp_4 dX3_go_306 ?_
                          refine br_goto (tgt := 177) dX3_go_309 (by decide) ?_
                          refine br_fg_4 ?_
                          have hal : isAl (T (F2 4)) := by unfold isAl isLt isDg; omega
                          have hgood : ((0 : Int) = 1 ∧ allLt T (F1 4) (F2 4 + 1)) ∨ ((0 : Int) = 0 ∧ ¬ allLt T (F1 4) (F2 4 + 1)) := by
                            rcases r5 with ⟨r5, r5a⟩ | ⟨r5, r5a⟩
                            · exact Or.inr ⟨rfl, allLt_x (by omega) (by unfold isLt; omega)⟩
                            · exact Or.inr ⟨rfl, allLt_n r5a⟩
                          have hh6 : wd2 = hashT T (F1 4) (F2 4 + 1) := by rw [hashT_stay (by omega)]; exact r6
                          have hn7 : F2 7 = numV T (F1 4) (F2 4 + 1) := by rw [numV_stay (by omega)]; exact r7
                          exact ih177 _ _ _ (show (n - (F2 4 + 1)).toNat < _ from by omega) ⟨q0, q2, q3, q8, q9, q14, q16, q17⟩ r2 (show F1 4 ≤ F2 4 + 1 ∧ F2 4 + 1 ≤ n from by omega) (run_s r4 (by omega) hal) hgood hh6 hn7
                        · refine br_aload_0 dX3_go_249 ?_
                          refine br_ldc2 (z := 27) q1386 (by decide) dX3_go_250 ?_
                          refine br_aload_0 dX3_go_253 ?_
                          refine br_mg_10 dX3_go_254 ?_
                          refine br_lmul dX3_go_257 ?_
                          refine br_iload_4 dX3_go_258 ?_
                          refine br_i2l dX3_go_260 (by omega) ?_
                          refine br_ladd dX3_go_261 ?_
                          refine br_ldc2 (z := 96) q1387 (by decide) dX3_go_262 ?_
                          refine br_lsub dX3_go_265 ?_
                          refine br_mp_10 dX3_go_266 ?_
                          refine br_aload_0 dX3_go_269 ?_
                          refine br_mg_4 (v := F2 4) rfl dX3_go_270 ?_
                          refine br_aload_0 dX3_go_273 ?_
                          refine br_mg_5 (v := F2 5) rfl dX3_go_274 ?_
                          refine br_isub dX3_go_277 ?_
                          refine br_iconst dX3_go_278 ?_
                          refine br_icmp_ge (tgt := 299) dX3_go_279 (by decide) (by omega) (fun c279 => ?_) (fun c279 => ?_)
                          · refine br_aload_0 dX3_go_299 ?_
                            refine br_dup dX3_go_300 rfl ?_
                            refine br_mg_4 (v := F2 4) rfl dX3_go_301 ?_
                            refine br_iconst dX3_go_304 ?_
                            refine br_iadd dX3_go_305 ?_
                            refine br_mp_4 dX3_go_306 ?_
                            refine br_goto (tgt := 177) dX3_go_309 (by decide) ?_
                            refine br_fg_4 ?_
                            have hal : isAl (T (F2 4)) := by unfold isAl isLt isDg; omega
                            have hgood : ((0 : Int) = 1 ∧ allLt T (F1 4) (F2 4 + 1)) ∨ ((0 : Int) = 0 ∧ ¬ allLt T (F1 4) (F2 4 + 1)) := by
                              rcases r5 with ⟨r5, r5a⟩ | ⟨r5, r5a⟩
                              · exact Or.inr ⟨rfl, allLt_x (by omega) (by unfold isLt; omega)⟩
                              · exact Or.inr ⟨rfl, allLt_n r5a⟩
                            have hh6 : ((27 * wd2) + (G 1 (F2 4))) - 96 = hashT T (F1 4) (F2 4 + 1) := by rw [hashT_step (by omega), ← r6]; omega
                            have hn7 : F2 7 = numV T (F1 4) (F2 4 + 1) := by rw [numV_stay (by omega)]; exact r7
                            exact ih177 _ _ _ (show (n - (F2 4 + 1)).toNat < _ from by omega) ⟨q0, q2, q3, q8, q9, q14, q16, q17⟩ r2 (show F1 4 ≤ F2 4 + 1 ∧ F2 4 + 1 ≤ n from by omega) (run_s r4 (by omega) hal) hgood hh6 hn7
                          · refine br_aload_0 dX3_go_282 ?_
                            refine br_bipush dX3_go_283 (by decide) ?_
                            refine br_aload_0 dX3_go_285 ?_
                            refine br_mg_7 (v := F2 7) rfl dX3_go_286 ?_
                            refine br_imul dX3_go_289 ?_
                            refine br_iload_4 dX3_go_290 ?_
                            refine br_iadd dX3_go_292 ?_
                            refine br_bipush dX3_go_293 (by decide) ?_
                            refine br_isub dX3_go_295 ?_
                            refine br_mp_7 dX3_go_296 ?_
                            refine br_aload_0 dX3_go_299 ?_
                            refine br_dup dX3_go_300 rfl ?_
                            refine br_mg_4 (v := F2 4) rfl dX3_go_301 ?_
                            refine br_iconst dX3_go_304 ?_
                            refine br_iadd dX3_go_305 ?_
                            refine br_mp_4 dX3_go_306 ?_
                            refine br_goto (tgt := 177) dX3_go_309 (by decide) ?_
                            refine br_fg_4 ?_
                            have hal : isAl (T (F2 4)) := by unfold isAl isLt isDg; omega
                            have hgood : ((0 : Int) = 1 ∧ allLt T (F1 4) (F2 4 + 1)) ∨ ((0 : Int) = 0 ∧ ¬ allLt T (F1 4) (F2 4 + 1)) := by
                              rcases r5 with ⟨r5, r5a⟩ | ⟨r5, r5a⟩
                              · exact Or.inr ⟨rfl, allLt_x (by omega) (by unfold isLt; omega)⟩
                              · exact Or.inr ⟨rfl, allLt_n r5a⟩
                            have hh6 : ((27 * wd2) + (G 1 (F2 4))) - 96 = hashT T (F1 4) (F2 4 + 1) := by rw [hashT_step (by omega), ← r6]; omega
                            have hn7 : ((10 * (F2 7)) + (G 1 (F2 4))) - 48 = numV T (F1 4) (F2 4 + 1) := by rw [numV_step (by omega), ← r7]; omega
                            exact ih177 _ _ _ (show (n - (F2 4 + 1)).toNat < _ from by omega) ⟨q0, q2, q3, q8, q9, q14, q16, q17⟩ r2 (show F1 4 ≤ F2 4 + 1 ∧ F2 4 + 1 ≤ n from by omega) (run_s r4 (by omega) hal) hgood hh6 hn7
                    · refine br_if_eq (tgt := 312) dX3_go_202 (by decide) (by decide) (fun _ => ?_) (fun q => absurd q (by decide))
                      have hrun : runR T n (F1 4) (F2 4) := ⟨by omega, r4, by unfold isAl isLt isDg; omega⟩
                      have hlt := runR_pos hrun (by omega) hal0
                      refine br_aload_0 dX3_go_312 ?_
                      refine br_iload_3 dX3_go_313 ?_
                      refine br_if_eq (tgt := 334) dX3_go_314 (by decide) (by omega) (fun c314 => ?_) (fun c314 => ?_)
                      · have hnok := (r5.resolve_left (fun q => by have := q.1; omega)).2
                        refine br_iconst dX3_go_334 ?_
                        refine br_goto (tgt := 347) dX3_go_335 (by decide) ?_
                        refine br_mp_6 dX3_go_347 ?_
                        exact br_return dX3_go_350 (by decide) (by decide) (hret _ _ (⟨rfl, _, _, rfl, goEnd (tk := (F1 4, 1, F2 4, 0)) ⟨F1 4, ⟨by omega, h2, by unfold isSp; omega⟩, Or.inr (Or.inr (Or.inr (Or.inr ⟨by omega, by omega, hal0, F2 4, hrun, Or.inr (Or.inr ⟨hnok, (fun q => notDg_of hlt hfd q.1), rfl⟩)⟩)))⟩ (mTk_mk 1 (F1 4) (F2 4) rfl r2 rfl (by omega) (by omega) (by omega)), ⟨q0, q2, q3, q8, q9, q14, q16, q17⟩⟩))
                      · refine br_iload_2 dX3_go_317 ?_
                        refine br_if_ne (tgt := 338) dX3_go_318 (by decide) (by decide) (fun _ => ?_) (fun q => absurd q (by decide))
                        refine br_iload_2 dX3_go_338 ?_
                        refine br_if_eq (tgt := 346) dX3_go_339 (by decide) (by decide) (fun q => absurd q (by decide)) (fun _ => ?_)
                        have hok := (r5.resolve_right (fun q => by have := q.1; omega)).2
                        refine br_iconst dX3_go_342 ?_
                        refine br_goto (tgt := 347) dX3_go_343 (by decide) ?_
                        refine br_mp_6 dX3_go_347 ?_
                        exact br_return dX3_go_350 (by decide) (by decide) (hret _ _ (⟨rfl, _, _, rfl, goEnd (tk := (F1 4, 2, F2 4, 0)) ⟨F1 4, ⟨by omega, h2, by unfold isSp; omega⟩, Or.inr (Or.inr (Or.inr (Or.inr ⟨by omega, by omega, hal0, F2 4, hrun, Or.inl ⟨hok, rfl⟩⟩)))⟩ (mTk_word (F1 4) (F2 4) rfl r2 rfl r6 hok hlt (by omega) (by omega)), ⟨q0, q2, q3, q8, q9, q14, q16, q17⟩⟩))
              exact lp177 _ _ _ _ (Nat.lt_succ_self _) hk rfl (show F1 4 ≤ F1 4 ∧ F1 4 ≤ n from by omega) (show ∀ y : Int, F1 4 ≤ y → y < F1 4 → _ from fun y _ _ => by omega) (Or.inl ⟨rfl, allLt_0 _ _⟩) (hashT_0 _ _).symm (numV_0 _ _).symm
            · refine br_if_ne (tgt := 160) dX3_go_124 (by decide) (by decide) (fun q => absurd q (by decide)) (fun _ => ?_)
              refine br_iload_1 dX3_go_127 ?_
              refine br_SZ1 (ct_m_isDigit (by omega)) lk_X3_34 ⟨Nat.le_of_ble_eq_true rfl, Nat.le_of_ble_eq_true rfl⟩ ⟨Nat.le_of_ble_eq_true rfl, Nat.le_of_ble_eq_true rfl⟩  (Nat.le_of_ble_eq_true rfl) dX3_go_128 (fun c128 => ?_) (fun c128 => ?_)
              · refine br_if_ne (tgt := 160) dX3_go_131 (by decide) (by decide) (fun _ => ?_) (fun q => absurd q (by decide))
                have hal0 : isAl (T (F1 4)) := by unfold isAl isLt isDg; omega
                refine br_iload_1 dX3_go_160 ?_
                refine br_SZ1 (ct_m_isLetter (by omega)) lk_X3_30 ⟨Nat.le_of_ble_eq_true rfl, Nat.le_of_ble_eq_true rfl⟩ ⟨Nat.le_of_ble_eq_true rfl, Nat.le_of_ble_eq_true rfl⟩  (Nat.le_of_ble_eq_true rfl) dX3_go_161 (fun q => absurd q (by omega)) (fun c161 => ?_)
                have hfd : isDg (T (F1 4)) := by unfold isDg; omega
                refine br_istore_2 dX3_go_164 rfl ?_
                refine br_iconst dX3_go_165 ?_
                refine br_istore_3 dX3_go_166 rfl ?_
                refine br_aload_0 dX3_go_167 ?_
                refine br_lconst0 dX3_go_168 ?_
                refine br_mp_10 dX3_go_169 ?_
                refine br_aload_0 dX3_go_172 ?_
                refine br_iconst dX3_go_173 ?_
                refine br_mp_7 dX3_go_174 ?_
                have lp177 : ∀ (mm177 : Nat) (F2 : Nat → Int) (wd2 : Int) (g : Int), (n - F2 4).toNat < mm177 → (mKp F F2) → (F2 5 = F1 4) → (F1 4 ≤ F2 4 ∧ F2 4 ≤ n) → (∀ y : Int, F1 4 ≤ y → y < F2 4 → y < n ∧ isAl (T y)) → ((g = 1 ∧ allDg T (F1 4) (F2 4)) ∨ (g = 0 ∧ ¬ allDg T (F1 4) (F2 4))) → (wd2 = hashT T (F1 4) (F2 4)) → (F2 7 = numV T (F1 4) (F2 4)) → bk_V Γ D ({ frames := 1, cells := 0, slots := 0, locals := 21 }) "BreakSetterModel" cX3_go [] 0 0 (mw o a F2 wd2 G ex) [some (.ref o), some (.int (iI (G 1 (F1 4)))), some (.int (iI 0)), some (.int (iI g)), none] [] 177 := by
                  intro mm177
                  induction mm177 with
                  | zero => intro F2 wd2 g hm177; exact absurd hm177 (Nat.not_lt_zero _)
                  | succ mm177 ih177 =>
                    intro F2 wd2 g hm177 r1 r2 r3 r4 r5 r6 r7
                    obtain ⟨q0, q2, q3, q8, q9, q14, q16, q17⟩ := r1
                    have r3a : F1 4 ≤ F2 4 ∧ F2 4 ≤ n := r3
                    refine br_aload_0 dX3_go_177 ?_
                    refine br_aload_0 dX3_go_178 ?_
                    refine br_mg_4 (v := F2 4) rfl dX3_go_179 ?_
                    refine br_Vi1 (i := 40) (j := 0) (ct_m_tapeAt (T := T) (n := n) hT (by omega) (by omega)) lk_X3_44 ⟨Nat.le_of_ble_eq_true rfl, Nat.le_of_ble_eq_true rfl⟩ ⟨Nat.le_of_ble_eq_true rfl, Nat.le_of_ble_eq_true rfl⟩ rfl rfl (Nat.le_of_ble_eq_true rfl) dX3_go_182 (fun v182 w_ hw_ => ?_)
                    obtain ⟨hb182, rfl⟩ := hw_
                    refine br_SZ1 (ct_m_isLetter (by omega)) lk_X3_30 ⟨Nat.le_of_ble_eq_true rfl, Nat.le_of_ble_eq_true rfl⟩ ⟨Nat.le_of_ble_eq_true rfl, Nat.le_of_ble_eq_true rfl⟩  (Nat.le_of_ble_eq_true rfl) dX3_go_185 (fun c185 => ?_) (fun c185 => ?_)
                    · refine br_if_ne (tgt := 205) dX3_go_188 (by decide) (by decide) (fun _ => ?_) (fun q => absurd q (by decide))
                      have ht2 := hT.1 (F2 4) (by omega) (by omega)
                      refine br_aload_0 dX3_go_205 ?_
                      refine br_mg_1 dX3_go_206 ?_
                      refine br_aload_0 dX3_go_209 ?_
                      refine br_mg_4 (v := F2 4) rfl dX3_go_210 ?_
                      refine br_ml_1 (v := G 1 (F2 4)) (by omega) rfl dX3_go_213 ?_
                      refine br_istore_4 dX3_go_214 rfl ?_
                      refine br_iload_3 dX3_go_216 ?_
                      refine br_if_eq (tgt := 233) dX3_go_217 (by decide) (by omega) (fun c217 => ?_) (fun c217 => ?_)
                      · refine br_iconst dX3_go_233 ?_
                        refine br_istore_3 dX3_go_234 rfl ?_
                        refine br_aload_0 dX3_go_235 ?_
                        refine br_mg_4 (v := F2 4) rfl dX3_go_236 ?_
                        refine br_aload_0 dX3_go_239 ?_
                        refine br_mg_5 (v := F2 5) rfl dX3_go_240 ?_
                        refine br_isub dX3_go_243 ?_
                        refine br_bipush dX3_go_244 (by decide) ?_
                        refine br_icmp_ge (tgt := 269) dX3_go_246 (by decide) (by omega) (fun c246 => ?_) (fun c246 => ?_)
                        · refine br_aload_0 dX3_go_269 ?_
                          refine br_mg_4 (v := F2 4) rfl dX3_go_270 ?_
                          refine br_aload_0 dX3_go_273 ?_
                          refine br_mg_5 (v := F2 5) rfl dX3_go_274 ?_
                          refine br_isub dX3_go_277 ?_
                          refine br_iconst dX3_go_278 ?_
                          refine br_icmp_ge (tgt := 299) dX3_go_279 (by decide) (by omega) (fun c279 => ?_) (fun q => absurd q (by omega))
                          refine br_aload_0 dX3_go_299 ?_
                          refine br_dup dX3_go_300 rfl ?_
                          refine br_mg_4 (v := F2 4) rfl dX3_go_301 ?_
                          refine br_iconst dX3_go_304 ?_
                          refine br_iadd dX3_go_305 ?_
                          refine br_mp_4 dX3_go_306 ?_
                          refine br_goto (tgt := 177) dX3_go_309 (by decide) ?_
                          refine br_fg_4 ?_
                          have hal : isAl (T (F2 4)) := by unfold isAl isLt isDg; omega
                          have hgood : ((0 : Int) = 1 ∧ allDg T (F1 4) (F2 4 + 1)) ∨ ((0 : Int) = 0 ∧ ¬ allDg T (F1 4) (F2 4 + 1)) := by
                            rcases r5 with ⟨r5, r5a⟩ | ⟨r5, r5a⟩
                            · exact Or.inr ⟨rfl, allDg_x (by omega) (by unfold isDg; omega)⟩
                            · exact Or.inr ⟨rfl, allDg_n r5a⟩
                          have hh6 : wd2 = hashT T (F1 4) (F2 4 + 1) := by rw [hashT_stay (by omega)]; exact r6
                          have hn7 : F2 7 = numV T (F1 4) (F2 4 + 1) := by rw [numV_stay (by omega)]; exact r7
                          exact ih177 _ _ _ (show (n - (F2 4 + 1)).toNat < _ from by omega) ⟨q0, q2, q3, q8, q9, q14, q16, q17⟩ r2 (show F1 4 ≤ F2 4 + 1 ∧ F2 4 + 1 ≤ n from by omega) (run_s r4 (by omega) hal) hgood hh6 hn7
                        · refine br_aload_0 dX3_go_249 ?_
                          refine br_ldc2 (z := 27) q1386 (by decide) dX3_go_250 ?_
                          refine br_aload_0 dX3_go_253 ?_
                          refine br_mg_10 dX3_go_254 ?_
                          refine br_lmul dX3_go_257 ?_
                          refine br_iload_4 dX3_go_258 ?_
                          refine br_i2l dX3_go_260 (by omega) ?_
                          refine br_ladd dX3_go_261 ?_
                          refine br_ldc2 (z := 96) q1387 (by decide) dX3_go_262 ?_
                          refine br_lsub dX3_go_265 ?_
                          refine br_mp_10 dX3_go_266 ?_
                          refine br_aload_0 dX3_go_269 ?_
                          refine br_mg_4 (v := F2 4) rfl dX3_go_270 ?_
                          refine br_aload_0 dX3_go_273 ?_
                          refine br_mg_5 (v := F2 5) rfl dX3_go_274 ?_
                          refine br_isub dX3_go_277 ?_
                          refine br_iconst dX3_go_278 ?_
                          refine br_icmp_ge (tgt := 299) dX3_go_279 (by decide) (by omega) (fun c279 => ?_) (fun c279 => ?_)
                          · refine br_aload_0 dX3_go_299 ?_
                            refine br_dup dX3_go_300 rfl ?_
                            refine br_mg_4 (v := F2 4) rfl dX3_go_301 ?_
                            refine br_iconst dX3_go_304 ?_
                            refine br_iadd dX3_go_305 ?_
                            refine br_mp_4 dX3_go_306 ?_
                            refine br_goto (tgt := 177) dX3_go_309 (by decide) ?_
                            refine br_fg_4 ?_
                            have hal : isAl (T (F2 4)) := by unfold isAl isLt isDg; omega
                            have hgood : ((0 : Int) = 1 ∧ allDg T (F1 4) (F2 4 + 1)) ∨ ((0 : Int) = 0 ∧ ¬ allDg T (F1 4) (F2 4 + 1)) := by
                              rcases r5 with ⟨r5, r5a⟩ | ⟨r5, r5a⟩
                              · exact Or.inr ⟨rfl, allDg_x (by omega) (by unfold isDg; omega)⟩
                              · exact Or.inr ⟨rfl, allDg_n r5a⟩
                            have hh6 : ((27 * wd2) + (G 1 (F2 4))) - 96 = hashT T (F1 4) (F2 4 + 1) := by rw [hashT_step (by omega), ← r6]; omega
                            have hn7 : F2 7 = numV T (F1 4) (F2 4 + 1) := by rw [numV_stay (by omega)]; exact r7
                            exact ih177 _ _ _ (show (n - (F2 4 + 1)).toNat < _ from by omega) ⟨q0, q2, q3, q8, q9, q14, q16, q17⟩ r2 (show F1 4 ≤ F2 4 + 1 ∧ F2 4 + 1 ≤ n from by omega) (run_s r4 (by omega) hal) hgood hh6 hn7
                          · refine br_aload_0 dX3_go_282 ?_
                            refine br_bipush dX3_go_283 (by decide) ?_
                            refine br_aload_0 dX3_go_285 ?_
                            refine br_mg_7 (v := F2 7) rfl dX3_go_286 ?_
                            refine br_imul dX3_go_289 ?_
                            refine br_iload_4 dX3_go_290 ?_
                            refine br_iadd dX3_go_292 ?_
                            refine br_bipush dX3_go_293 (by decide) ?_
                            refine br_isub dX3_go_295 ?_
                            refine br_mp_7 dX3_go_296 ?_
                            refine br_aload_0 dX3_go_299 ?_
                            refine br_dup dX3_go_300 rfl ?_
                            refine br_mg_4 (v := F2 4) rfl dX3_go_301 ?_
                            refine br_iconst dX3_go_304 ?_
                            refine br_iadd dX3_go_305 ?_
                            refine br_mp_4 dX3_go_306 ?_
                            refine br_goto (tgt := 177) dX3_go_309 (by decide) ?_
                            refine br_fg_4 ?_
                            have hal : isAl (T (F2 4)) := by unfold isAl isLt isDg; omega
                            have hgood : ((0 : Int) = 1 ∧ allDg T (F1 4) (F2 4 + 1)) ∨ ((0 : Int) = 0 ∧ ¬ allDg T (F1 4) (F2 4 + 1)) := by
                              rcases r5 with ⟨r5, r5a⟩ | ⟨r5, r5a⟩
                              · exact Or.inr ⟨rfl, allDg_x (by omega) (by unfold isDg; omega)⟩
                              · exact Or.inr ⟨rfl, allDg_n r5a⟩
                            have hh6 : ((27 * wd2) + (G 1 (F2 4))) - 96 = hashT T (F1 4) (F2 4 + 1) := by rw [hashT_step (by omega), ← r6]; omega
                            have hn7 : ((10 * (F2 7)) + (G 1 (F2 4))) - 48 = numV T (F1 4) (F2 4 + 1) := by rw [numV_step (by omega), ← r7]; omega
                            exact ih177 _ _ _ (show (n - (F2 4 + 1)).toNat < _ from by omega) ⟨q0, q2, q3, q8, q9, q14, q16, q17⟩ r2 (show F1 4 ≤ F2 4 + 1 ∧ F2 4 + 1 ≤ n from by omega) (run_s r4 (by omega) hal) hgood hh6 hn7
                      · refine br_iload_4 dX3_go_220 ?_
                        refine br_SZ1 (ct_m_isLetter (by omega)) lk_X3_30 ⟨Nat.le_of_ble_eq_true rfl, Nat.le_of_ble_eq_true rfl⟩ ⟨Nat.le_of_ble_eq_true rfl, Nat.le_of_ble_eq_true rfl⟩  (Nat.le_of_ble_eq_true rfl) dX3_go_222 (fun c222 => ?_) (fun q => absurd q (by omega))
                        refine br_iload_2 dX3_go_225 ?_
                        refine br_icmp_ne (tgt := 233) dX3_go_226 (by decide) (by decide) (fun _ => ?_) (fun q => absurd q (by decide))
                        refine br_iconst dX3_go_233 ?_
                        refine br_istore_3 dX3_go_234 rfl ?_
                        refine br_aload_0 dX3_go_235 ?_
                        refine br_mg_4 (v := F2 4) rfl dX3_go_236 ?_
                        refine br_aload_0 dX3_go_239 ?_
                        refine br_mg_5 (v := F2 5) rfl dX3_go_240 ?_
                        refine br_isub dX3_go_243 ?_
                        refine br_bipush dX3_go_244 (by decide) ?_
                        refine br_icmp_ge (tgt := 269) dX3_go_246 (by decide) (by omega) (fun c246 => ?_) (fun c246 => ?_)
                        · refine br_aload_0 dX3_go_269 ?_
                          refine br_mg_4 (v := F2 4) rfl dX3_go_270 ?_
                          refine br_aload_0 dX3_go_273 ?_
                          refine br_mg_5 (v := F2 5) rfl dX3_go_274 ?_
                          refine br_isub dX3_go_277 ?_
                          refine br_iconst dX3_go_278 ?_
                          refine br_icmp_ge (tgt := 299) dX3_go_279 (by decide) (by omega) (fun c279 => ?_) (fun q => absurd q (by omega))
                          refine br_aload_0 dX3_go_299 ?_
                          refine br_dup dX3_go_300 rfl ?_
                          refine br_mg_4 (v := F2 4) rfl dX3_go_301 ?_
                          refine br_iconst dX3_go_304 ?_
                          refine br_iadd dX3_go_305 ?_
                          refine br_mp_4 dX3_go_306 ?_
                          refine br_goto (tgt := 177) dX3_go_309 (by decide) ?_
                          refine br_fg_4 ?_
                          have hal : isAl (T (F2 4)) := by unfold isAl isLt isDg; omega
                          have hgood : ((0 : Int) = 1 ∧ allDg T (F1 4) (F2 4 + 1)) ∨ ((0 : Int) = 0 ∧ ¬ allDg T (F1 4) (F2 4 + 1)) := by
                            rcases r5 with ⟨r5, r5a⟩ | ⟨r5, r5a⟩
                            · exact Or.inr ⟨rfl, allDg_x (by omega) (by unfold isDg; omega)⟩
                            · exact Or.inr ⟨rfl, allDg_n r5a⟩
                          have hh6 : wd2 = hashT T (F1 4) (F2 4 + 1) := by rw [hashT_stay (by omega)]; exact r6
                          have hn7 : F2 7 = numV T (F1 4) (F2 4 + 1) := by rw [numV_stay (by omega)]; exact r7
                          exact ih177 _ _ _ (show (n - (F2 4 + 1)).toNat < _ from by omega) ⟨q0, q2, q3, q8, q9, q14, q16, q17⟩ r2 (show F1 4 ≤ F2 4 + 1 ∧ F2 4 + 1 ≤ n from by omega) (run_s r4 (by omega) hal) hgood hh6 hn7
                        · refine br_aload_0 dX3_go_249 ?_
                          refine br_ldc2 (z := 27) q1386 (by decide) dX3_go_250 ?_
                          refine br_aload_0 dX3_go_253 ?_
                          refine br_mg_10 dX3_go_254 ?_
                          refine br_lmul dX3_go_257 ?_
                          refine br_iload_4 dX3_go_258 ?_
                          refine br_i2l dX3_go_260 (by omega) ?_
                          refine br_ladd dX3_go_261 ?_
                          refine br_ldc2 (z := 96) q1387 (by decide) dX3_go_262 ?_
                          refine br_lsub dX3_go_265 ?_
                          refine br_mp_10 dX3_go_266 ?_
                          refine br_aload_0 dX3_go_269 ?_
                          refine br_mg_4 (v := F2 4) rfl dX3_go_270 ?_
                          refine br_aload_0 dX3_go_273 ?_
                          refine br_mg_5 (v := F2 5) rfl dX3_go_274 ?_
                          refine br_isub dX3_go_277 ?_
                          refine br_iconst dX3_go_278 ?_
                          refine br_icmp_ge (tgt := 299) dX3_go_279 (by decide) (by omega) (fun c279 => ?_) (fun c279 => ?_)
                          · refine br_aload_0 dX3_go_299 ?_
                            refine br_dup dX3_go_300 rfl ?_
                            refine br_mg_4 (v := F2 4) rfl dX3_go_301 ?_
                            refine br_iconst dX3_go_304 ?_
                            refine br_iadd dX3_go_305 ?_
                            refine br_mp_4 dX3_go_306 ?_
                            refine br_goto (tgt := 177) dX3_go_309 (by decide) ?_
                            refine br_fg_4 ?_
                            have hal : isAl (T (F2 4)) := by unfold isAl isLt isDg; omega
                            have hgood : ((0 : Int) = 1 ∧ allDg T (F1 4) (F2 4 + 1)) ∨ ((0 : Int) = 0 ∧ ¬ allDg T (F1 4) (F2 4 + 1)) := by
                              rcases r5 with ⟨r5, r5a⟩ | ⟨r5, r5a⟩
                              · exact Or.inr ⟨rfl, allDg_x (by omega) (by unfold isDg; omega)⟩
                              · exact Or.inr ⟨rfl, allDg_n r5a⟩
                            have hh6 : ((27 * wd2) + (G 1 (F2 4))) - 96 = hashT T (F1 4) (F2 4 + 1) := by rw [hashT_step (by omega), ← r6]; omega
                            have hn7 : F2 7 = numV T (F1 4) (F2 4 + 1) := by rw [numV_stay (by omega)]; exact r7
                            exact ih177 _ _ _ (show (n - (F2 4 + 1)).toNat < _ from by omega) ⟨q0, q2, q3, q8, q9, q14, q16, q17⟩ r2 (show F1 4 ≤ F2 4 + 1 ∧ F2 4 + 1 ≤ n from by omega) (run_s r4 (by omega) hal) hgood hh6 hn7
                          · refine br_aload_0 dX3_go_282 ?_
                            refine br_bipush dX3_go_283 (by decide) ?_
                            refine br_aload_0 dX3_go_285 ?_
                            refine br_mg_7 (v := F2 7) rfl dX3_go_286 ?_
                            refine br_imul dX3_go_289 ?_
                            refine br_iload_4 dX3_go_290 ?_
                            refine br_iadd dX3_go_292 ?_
                            refine br_bipush dX3_go_293 (by decide) ?_
                            refine br_isub dX3_go_295 ?_
                            refine br_mp_7 dX3_go_296 ?_
                            refine br_aload_0 dX3_go_299 ?_
                            refine br_dup dX3_go_300 rfl ?_
                            refine br_mg_4 (v := F2 4) rfl dX3_go_301 ?_
                            refine br_iconst dX3_go_304 ?_
                            refine br_iadd dX3_go_305 ?_
                            refine br_mp_4 dX3_go_306 ?_
                            refine br_goto (tgt := 177) dX3_go_309 (by decide) ?_
                            refine br_fg_4 ?_
                            have hal : isAl (T (F2 4)) := by unfold isAl isLt isDg; omega
                            have hgood : ((0 : Int) = 1 ∧ allDg T (F1 4) (F2 4 + 1)) ∨ ((0 : Int) = 0 ∧ ¬ allDg T (F1 4) (F2 4 + 1)) := by
                              rcases r5 with ⟨r5, r5a⟩ | ⟨r5, r5a⟩
                              · exact Or.inr ⟨rfl, allDg_x (by omega) (by unfold isDg; omega)⟩
                              · exact Or.inr ⟨rfl, allDg_n r5a⟩
                            have hh6 : ((27 * wd2) + (G 1 (F2 4))) - 96 = hashT T (F1 4) (F2 4 + 1) := by rw [hashT_step (by omega), ← r6]; omega
                            have hn7 : ((10 * (F2 7)) + (G 1 (F2 4))) - 48 = numV T (F1 4) (F2 4 + 1) := by rw [numV_step (by omega), ← r7]; omega
                            exact ih177 _ _ _ (show (n - (F2 4 + 1)).toNat < _ from by omega) ⟨q0, q2, q3, q8, q9, q14, q16, q17⟩ r2 (show F1 4 ≤ F2 4 + 1 ∧ F2 4 + 1 ≤ n from by omega) (run_s r4 (by omega) hal) hgood hh6 hn7
                    · have hz185 : ¬ (97 ≤ v182 ∧ v182 ≤ 122) := c185
                      refine br_if_ne (tgt := 205) dX3_go_188 (by decide) (by decide) (fun q => absurd q (by decide)) (fun _ => ?_)
                      refine br_aload_0 dX3_go_191 ?_
                      refine br_aload_0 dX3_go_192 ?_
                      refine br_mg_4 (v := F2 4) rfl dX3_go_193 ?_
                      refine br_Vi1 (i := 40) (j := 0) (ct_m_tapeAt (T := T) (n := n) hT (by omega) (by omega)) lk_X3_44 ⟨Nat.le_of_ble_eq_true rfl, Nat.le_of_ble_eq_true rfl⟩ ⟨Nat.le_of_ble_eq_true rfl, Nat.le_of_ble_eq_true rfl⟩ rfl rfl (Nat.le_of_ble_eq_true rfl) dX3_go_196 (fun v196 w_ hw_ => ?_)
                      obtain ⟨hb196, rfl⟩ := hw_
                      refine br_SZ1 (ct_m_isDigit (by omega)) lk_X3_34 ⟨Nat.le_of_ble_eq_true rfl, Nat.le_of_ble_eq_true rfl⟩ ⟨Nat.le_of_ble_eq_true rfl, Nat.le_of_ble_eq_true rfl⟩  (Nat.le_of_ble_eq_true rfl) dX3_go_199 (fun c199 => ?_) (fun c199 => ?_)
                      · refine br_if_eq (tgt := 312) dX3_go_202 (by decide) (by decide) (fun q => absurd q (by decide)) (fun _ => ?_)
                        have ht2 := hT.1 (F2 4) (by omega) (by omega)
                        refine br_aload_0 dX3_go_205 ?_
                        refine br_mg_1 dX3_go_206 ?_
                        refine br_aload_0 dX3_go_209 ?_
                        refine br_mg_4 (v := F2 4) rfl dX3_go_210 ?_
                        refine br_ml_1 (v := G 1 (F2 4)) (by omega) rfl dX3_go_213 ?_
                        refine br_istore_4 dX3_go_214 rfl ?_
                        refine br_iload_3 dX3_go_216 ?_
                        refine br_if_eq (tgt := 233) dX3_go_217 (by decide) (by omega) (fun c217 => ?_) (fun c217 => ?_)
                        · refine br_iconst dX3_go_233 ?_
                          refine br_istore_3 dX3_go_234 rfl ?_
                          refine br_aload_0 dX3_go_235 ?_
                          refine br_mg_4 (v := F2 4) rfl dX3_go_236 ?_
                          refine br_aload_0 dX3_go_239 ?_
                          refine br_mg_5 (v := F2 5) rfl dX3_go_240 ?_
                          refine br_isub dX3_go_243 ?_
                          refine br_bipush dX3_go_244 (by decide) ?_
                          refine br_icmp_ge (tgt := 269) dX3_go_246 (by decide) (by omega) (fun c246 => ?_) (fun c246 => ?_)
                          · refine br_aload_0 dX3_go_269 ?_
                            refine br_mg_4 (v := F2 4) rfl dX3_go_270 ?_
                            refine br_aload_0 dX3_go_273 ?_
                            refine br_mg_5 (v := F2 5) rfl dX3_go_274 ?_
                            refine br_isub dX3_go_277 ?_
                            refine br_iconst dX3_go_278 ?_
                            refine br_icmp_ge (tgt := 299) dX3_go_279 (by decide) (by omega) (fun c279 => ?_) (fun q => absurd q (by omega))
                            refine br_aload_0 dX3_go_299 ?_
                            refine br_dup dX3_go_300 rfl ?_
                            refine br_mg_4 (v := F2 4) rfl dX3_go_301 ?_
                            refine br_iconst dX3_go_304 ?_
                            refine br_iadd dX3_go_305 ?_
                            refine br_mp_4 dX3_go_306 ?_
                            refine br_goto (tgt := 177) dX3_go_309 (by decide) ?_
                            refine br_fg_4 ?_
                            have hal : isAl (T (F2 4)) := by unfold isAl isLt isDg; omega
                            have hgood : ((0 : Int) = 1 ∧ allDg T (F1 4) (F2 4 + 1)) ∨ ((0 : Int) = 0 ∧ ¬ allDg T (F1 4) (F2 4 + 1)) := by
                              rcases r5 with ⟨r5, r5a⟩ | ⟨r5, r5a⟩
                              · exact Or.inr ⟨rfl, allDg_x (by omega) (by unfold isDg; omega)⟩
                              · exact Or.inr ⟨rfl, allDg_n r5a⟩
                            have hh6 : wd2 = hashT T (F1 4) (F2 4 + 1) := by rw [hashT_stay (by omega)]; exact r6
                            have hn7 : F2 7 = numV T (F1 4) (F2 4 + 1) := by rw [numV_stay (by omega)]; exact r7
                            exact ih177 _ _ _ (show (n - (F2 4 + 1)).toNat < _ from by omega) ⟨q0, q2, q3, q8, q9, q14, q16, q17⟩ r2 (show F1 4 ≤ F2 4 + 1 ∧ F2 4 + 1 ≤ n from by omega) (run_s r4 (by omega) hal) hgood hh6 hn7
                          · refine br_aload_0 dX3_go_249 ?_
                            refine br_ldc2 (z := 27) q1386 (by decide) dX3_go_250 ?_
                            refine br_aload_0 dX3_go_253 ?_
                            refine br_mg_10 dX3_go_254 ?_
                            refine br_lmul dX3_go_257 ?_
                            refine br_iload_4 dX3_go_258 ?_
                            refine br_i2l dX3_go_260 (by omega) ?_
                            refine br_ladd dX3_go_261 ?_
                            refine br_ldc2 (z := 96) q1387 (by decide) dX3_go_262 ?_
                            refine br_lsub dX3_go_265 ?_
                            refine br_mp_10 dX3_go_266 ?_
                            refine br_aload_0 dX3_go_269 ?_
                            refine br_mg_4 (v := F2 4) rfl dX3_go_270 ?_
                            refine br_aload_0 dX3_go_273 ?_
                            refine br_mg_5 (v := F2 5) rfl dX3_go_274 ?_
                            refine br_isub dX3_go_277 ?_
                            refine br_iconst dX3_go_278 ?_
                            refine br_icmp_ge (tgt := 299) dX3_go_279 (by decide) (by omega) (fun c279 => ?_) (fun c279 => ?_)
                            · refine br_aload_0 dX3_go_299 ?_
                              refine br_dup dX3_go_300 rfl ?_
                              refine br_mg_4 (v := F2 4) rfl dX3_go_301 ?_
                              refine br_iconst dX3_go_304 ?_
                              refine br_iadd dX3_go_305 ?_
                              refine br_mp_4 dX3_go_306 ?_
                              refine br_goto (tgt := 177) dX3_go_309 (by decide) ?_
                              refine br_fg_4 ?_
                              have hal : isAl (T (F2 4)) := by unfold isAl isLt isDg; omega
                              have hgood : ((0 : Int) = 1 ∧ allDg T (F1 4) (F2 4 + 1)) ∨ ((0 : Int) = 0 ∧ ¬ allDg T (F1 4) (F2 4 + 1)) := by
                                rcases r5 with ⟨r5, r5a⟩ | ⟨r5, r5a⟩
                                · exact Or.inr ⟨rfl, allDg_x (by omega) (by unfold isDg; omega)⟩
                                · exact Or.inr ⟨rfl, allDg_n r5a⟩
                              have hh6 : ((27 * wd2) + (G 1 (F2 4))) - 96 = hashT T (F1 4) (F2 4 + 1) := by rw [hashT_step (by omega), ← r6]; omega
                              have hn7 : F2 7 = numV T (F1 4) (F2 4 + 1) := by rw [numV_stay (by omega)]; exact r7
                              exact ih177 _ _ _ (show (n - (F2 4 + 1)).toNat < _ from by omega) ⟨q0, q2, q3, q8, q9, q14, q16, q17⟩ r2 (show F1 4 ≤ F2 4 + 1 ∧ F2 4 + 1 ≤ n from by omega) (run_s r4 (by omega) hal) hgood hh6 hn7
                            · refine br_aload_0 dX3_go_282 ?_
                              refine br_bipush dX3_go_283 (by decide) ?_
                              refine br_aload_0 dX3_go_285 ?_
                              refine br_mg_7 (v := F2 7) rfl dX3_go_286 ?_
                              refine br_imul dX3_go_289 ?_
                              refine br_iload_4 dX3_go_290 ?_
                              refine br_iadd dX3_go_292 ?_
                              refine br_bipush dX3_go_293 (by decide) ?_
                              refine br_isub dX3_go_295 ?_
                              refine br_mp_7 dX3_go_296 ?_
                              refine br_aload_0 dX3_go_299 ?_
                              refine br_dup dX3_go_300 rfl ?_
                              refine br_mg_4 (v := F2 4) rfl dX3_go_301 ?_
                              refine br_iconst dX3_go_304 ?_
                              refine br_iadd dX3_go_305 ?_
                              refine br_mp_4 dX3_go_306 ?_
                              refine br_goto (tgt := 177) dX3_go_309 (by decide) ?_
                              refine br_fg_4 ?_
                              have hal : isAl (T (F2 4)) := by unfold isAl isLt isDg; omega
                              have hgood : ((0 : Int) = 1 ∧ allDg T (F1 4) (F2 4 + 1)) ∨ ((0 : Int) = 0 ∧ ¬ allDg T (F1 4) (F2 4 + 1)) := by
                                rcases r5 with ⟨r5, r5a⟩ | ⟨r5, r5a⟩
                                · exact Or.inr ⟨rfl, allDg_x (by omega) (by unfold isDg; omega)⟩
                                · exact Or.inr ⟨rfl, allDg_n r5a⟩
                              have hh6 : ((27 * wd2) + (G 1 (F2 4))) - 96 = hashT T (F1 4) (F2 4 + 1) := by rw [hashT_step (by omega), ← r6]; omega
                              have hn7 : ((10 * (F2 7)) + (G 1 (F2 4))) - 48 = numV T (F1 4) (F2 4 + 1) := by rw [numV_step (by omega), ← r7]; omega
                              exact ih177 _ _ _ (show (n - (F2 4 + 1)).toNat < _ from by omega) ⟨q0, q2, q3, q8, q9, q14, q16, q17⟩ r2 (show F1 4 ≤ F2 4 + 1 ∧ F2 4 + 1 ≤ n from by omega) (run_s r4 (by omega) hal) hgood hh6 hn7
                        · refine br_iload_4 dX3_go_220 ?_
                          refine br_SZ1 (ct_m_isLetter (by omega)) lk_X3_30 ⟨Nat.le_of_ble_eq_true rfl, Nat.le_of_ble_eq_true rfl⟩ ⟨Nat.le_of_ble_eq_true rfl, Nat.le_of_ble_eq_true rfl⟩  (Nat.le_of_ble_eq_true rfl) dX3_go_222 (fun q => absurd q (by omega)) (fun c222 => ?_)
                          refine br_iload_2 dX3_go_225 ?_
                          refine br_icmp_ne (tgt := 233) dX3_go_226 (by decide) (by decide) (fun q => absurd q (by decide)) (fun _ => ?_)
                          refine br_iconst dX3_go_229 ?_
                          refine br_goto (tgt := 234) dX3_go_230 (by decide) ?_
                          refine br_istore_3 dX3_go_234 rfl ?_
                          refine br_aload_0 dX3_go_235 ?_
                          refine br_mg_4 (v := F2 4) rfl dX3_go_236 ?_
                          refine br_aload_0 dX3_go_239 ?_
                          refine br_mg_5 (v := F2 5) rfl dX3_go_240 ?_
                          refine br_isub dX3_go_243 ?_
                          refine br_bipush dX3_go_244 (by decide) ?_
                          refine br_icmp_ge (tgt := 269) dX3_go_246 (by decide) (by omega) (fun c246 => ?_) (fun c246 => ?_)
                          · refine br_aload_0 dX3_go_269 ?_
                            refine br_mg_4 (v := F2 4) rfl dX3_go_270 ?_
                            refine br_aload_0 dX3_go_273 ?_
                            refine br_mg_5 (v := F2 5) rfl dX3_go_274 ?_
                            refine br_isub dX3_go_277 ?_
                            refine br_iconst dX3_go_278 ?_
                            refine br_icmp_ge (tgt := 299) dX3_go_279 (by decide) (by omega) (fun c279 => ?_) (fun q => absurd q (by omega))
                            refine br_aload_0 dX3_go_299 ?_
                            refine br_dup dX3_go_300 rfl ?_
                            refine br_mg_4 (v := F2 4) rfl dX3_go_301 ?_
                            refine br_iconst dX3_go_304 ?_
                            refine br_iadd dX3_go_305 ?_
                            refine br_mp_4 dX3_go_306 ?_
                            refine br_goto (tgt := 177) dX3_go_309 (by decide) ?_
                            refine br_fg_4 ?_
                            have hal : isAl (T (F2 4)) := by unfold isAl isLt isDg; omega
                            have hgood : ((1 : Int) = 1 ∧ allDg T (F1 4) (F2 4 + 1)) ∨ ((1 : Int) = 0 ∧ ¬ allDg T (F1 4) (F2 4 + 1)) := by
                              rcases r5 with ⟨r5, r5a⟩ | ⟨r5, r5a⟩
                              · exact Or.inl ⟨rfl, allDg_s r5a (by unfold isDg; unfold isAl isLt isDg at hal; omega)⟩
                              · omega
                            have hh6 : wd2 = hashT T (F1 4) (F2 4 + 1) := by rw [hashT_stay (by omega)]; exact r6
                            have hn7 : F2 7 = numV T (F1 4) (F2 4 + 1) := by rw [numV_stay (by omega)]; exact r7
                            exact ih177 _ _ _ (show (n - (F2 4 + 1)).toNat < _ from by omega) ⟨q0, q2, q3, q8, q9, q14, q16, q17⟩ r2 (show F1 4 ≤ F2 4 + 1 ∧ F2 4 + 1 ≤ n from by omega) (run_s r4 (by omega) hal) hgood hh6 hn7
                          · refine br_aload_0 dX3_go_249 ?_
                            refine br_ldc2 (z := 27) q1386 (by decide) dX3_go_250 ?_
                            refine br_aload_0 dX3_go_253 ?_
                            refine br_mg_10 dX3_go_254 ?_
                            refine br_lmul dX3_go_257 ?_
                            refine br_iload_4 dX3_go_258 ?_
                            refine br_i2l dX3_go_260 (by omega) ?_
                            refine br_ladd dX3_go_261 ?_
                            refine br_ldc2 (z := 96) q1387 (by decide) dX3_go_262 ?_
                            refine br_lsub dX3_go_265 ?_
                            refine br_mp_10 dX3_go_266 ?_
                            refine br_aload_0 dX3_go_269 ?_
                            refine br_mg_4 (v := F2 4) rfl dX3_go_270 ?_
                            refine br_aload_0 dX3_go_273 ?_
                            refine br_mg_5 (v := F2 5) rfl dX3_go_274 ?_
                            refine br_isub dX3_go_277 ?_
                            refine br_iconst dX3_go_278 ?_
                            refine br_icmp_ge (tgt := 299) dX3_go_279 (by decide) (by omega) (fun c279 => ?_) (fun c279 => ?_)
                            · refine br_aload_0 dX3_go_299 ?_
                              refine br_dup dX3_go_300 rfl ?_
                              refine br_mg_4 (v := F2 4) rfl dX3_go_301 ?_
                              refine br_iconst dX3_go_304 ?_
                              refine br_iadd dX3_go_305 ?_
                              refine br_mp_4 dX3_go_306 ?_
                              refine br_goto (tgt := 177) dX3_go_309 (by decide) ?_
                              refine br_fg_4 ?_
                              have hal : isAl (T (F2 4)) := by unfold isAl isLt isDg; omega
                              have hgood : ((1 : Int) = 1 ∧ allDg T (F1 4) (F2 4 + 1)) ∨ ((1 : Int) = 0 ∧ ¬ allDg T (F1 4) (F2 4 + 1)) := by
                                rcases r5 with ⟨r5, r5a⟩ | ⟨r5, r5a⟩
                                · exact Or.inl ⟨rfl, allDg_s r5a (by unfold isDg; unfold isAl isLt isDg at hal; omega)⟩
                                · omega
                              have hh6 : ((27 * wd2) + (G 1 (F2 4))) - 96 = hashT T (F1 4) (F2 4 + 1) := by rw [hashT_step (by omega), ← r6]; omega
                              have hn7 : F2 7 = numV T (F1 4) (F2 4 + 1) := by rw [numV_stay (by omega)]; exact r7
                              exact ih177 _ _ _ (show (n - (F2 4 + 1)).toNat < _ from by omega) ⟨q0, q2, q3, q8, q9, q14, q16, q17⟩ r2 (show F1 4 ≤ F2 4 + 1 ∧ F2 4 + 1 ≤ n from by omega) (run_s r4 (by omega) hal) hgood hh6 hn7
                            · refine br_aload_0 dX3_go_282 ?_
                              refine br_bipush dX3_go_283 (by decide) ?_
                              refine br_aload_0 dX3_go_285 ?_
                              refine br_mg_7 (v := F2 7) rfl dX3_go_286 ?_
                              refine br_imul dX3_go_289 ?_
                              refine br_iload_4 dX3_go_290 ?_
                              refine br_iadd dX3_go_292 ?_
                              refine br_bipush dX3_go_293 (by decide) ?_
                              refine br_isub dX3_go_295 ?_
                              refine br_mp_7 dX3_go_296 ?_
                              refine br_aload_0 dX3_go_299 ?_
                              refine br_dup dX3_go_300 rfl ?_
                              refine br_mg_4 (v := F2 4) rfl dX3_go_301 ?_
                              refine br_iconst dX3_go_304 ?_
                              refine br_iadd dX3_go_305 ?_
                              refine br_mp_4 dX3_go_306 ?_
                              refine br_goto (tgt := 177) dX3_go_309 (by decide) ?_
                              refine br_fg_4 ?_
                              have hal : isAl (T (F2 4)) := by unfold isAl isLt isDg; omega
                              have hgood : ((1 : Int) = 1 ∧ allDg T (F1 4) (F2 4 + 1)) ∨ ((1 : Int) = 0 ∧ ¬ allDg T (F1 4) (F2 4 + 1)) := by
                                rcases r5 with ⟨r5, r5a⟩ | ⟨r5, r5a⟩
                                · exact Or.inl ⟨rfl, allDg_s r5a (by unfold isDg; unfold isAl isLt isDg at hal; omega)⟩
                                · omega
                              have hh6 : ((27 * wd2) + (G 1 (F2 4))) - 96 = hashT T (F1 4) (F2 4 + 1) := by rw [hashT_step (by omega), ← r6]; omega
                              have hn7 : ((10 * (F2 7)) + (G 1 (F2 4))) - 48 = numV T (F1 4) (F2 4 + 1) := by rw [numV_step (by omega), ← r7]; omega
                              exact ih177 _ _ _ (show (n - (F2 4 + 1)).toNat < _ from by omega) ⟨q0, q2, q3, q8, q9, q14, q16, q17⟩ r2 (show F1 4 ≤ F2 4 + 1 ∧ F2 4 + 1 ≤ n from by omega) (run_s r4 (by omega) hal) hgood hh6 hn7
                      · refine br_if_eq (tgt := 312) dX3_go_202 (by decide) (by decide) (fun _ => ?_) (fun q => absurd q (by decide))
                        have hrun : runR T n (F1 4) (F2 4) := ⟨by omega, r4, by unfold isAl isLt isDg; omega⟩
                        have hlt := runR_pos hrun (by omega) hal0
                        refine br_aload_0 dX3_go_312 ?_
                        refine br_iload_3 dX3_go_313 ?_
                        refine br_if_eq (tgt := 334) dX3_go_314 (by decide) (by omega) (fun c314 => ?_) (fun c314 => ?_)
                        · have hnok := (r5.resolve_left (fun q => by have := q.1; omega)).2
                          refine br_iconst dX3_go_334 ?_
                          refine br_goto (tgt := 347) dX3_go_335 (by decide) ?_
                          refine br_mp_6 dX3_go_347 ?_
                          exact br_return dX3_go_350 (by decide) (by decide) (hret _ _ (⟨rfl, _, _, rfl, goEnd (tk := (F1 4, 1, F2 4, 0)) ⟨F1 4, ⟨by omega, h2, by unfold isSp; omega⟩, Or.inr (Or.inr (Or.inr (Or.inr ⟨by omega, by omega, hal0, F2 4, hrun, Or.inr (Or.inr ⟨notLt_of hlt hfd, (fun q => by first | exact absurd q.1 hnok | (have := q.2; omega)), rfl⟩)⟩)))⟩ (mTk_mk 1 (F1 4) (F2 4) rfl r2 rfl (by omega) (by omega) (by omega)), ⟨q0, q2, q3, q8, q9, q14, q16, q17⟩⟩))
                        · refine br_iload_2 dX3_go_317 ?_
                          refine br_if_ne (tgt := 338) dX3_go_318 (by decide) (by decide) (fun q => absurd q (by decide)) (fun _ => ?_)
                          refine br_aload_0 dX3_go_321 ?_
                          refine br_mg_4 (v := F2 4) rfl dX3_go_322 ?_
                          refine br_aload_0 dX3_go_325 ?_
                          refine br_mg_5 (v := F2 5) rfl dX3_go_326 ?_
                          refine br_isub dX3_go_329 ?_
                          refine br_iconst dX3_go_330 ?_
                          refine br_icmp_le (tgt := 338) dX3_go_331 (by decide) (by omega) (fun c331 => ?_) (fun c331 => ?_)
                          · refine br_iload_2 dX3_go_338 ?_
                            refine br_if_eq (tgt := 346) dX3_go_339 (by decide) (by decide) (fun _ => ?_) (fun q => absurd q (by decide))
                            have hok := (r5.resolve_right (fun q => by have := q.1; omega)).2
                            refine br_iconst dX3_go_346 ?_
                            refine br_mp_6 dX3_go_347 ?_
                            exact br_return dX3_go_350 (by decide) (by decide) (hret _ _ (⟨rfl, _, _, rfl, goEnd (tk := (F1 4, 3, F2 4, numV T (F1 4) (F2 4))) ⟨F1 4, ⟨by omega, h2, by unfold isSp; omega⟩, Or.inr (Or.inr (Or.inr (Or.inr ⟨by omega, by omega, hal0, F2 4, hrun, Or.inr (Or.inl ⟨hok, by omega, rfl⟩)⟩)))⟩ (mTk_num (F1 4) (F2 4) _ rfl r2 rfl r7 (numV_bd hok (by omega)) (by omega) (by omega)), ⟨q0, q2, q3, q8, q9, q14, q16, q17⟩⟩))
                          · refine br_iconst dX3_go_334 ?_
                            refine br_goto (tgt := 347) dX3_go_335 (by decide) ?_
                            refine br_mp_6 dX3_go_347 ?_
                            exact br_return dX3_go_350 (by decide) (by decide) (hret _ _ (⟨rfl, _, _, rfl, goEnd (tk := (F1 4, 1, F2 4, 0)) ⟨F1 4, ⟨by omega, h2, by unfold isSp; omega⟩, Or.inr (Or.inr (Or.inr (Or.inr ⟨by omega, by omega, hal0, F2 4, hrun, Or.inr (Or.inr ⟨notLt_of hlt hfd, (fun q => by first | exact absurd q.1 hnok | (have := q.2; omega)), rfl⟩)⟩)))⟩ (mTk_mk 1 (F1 4) (F2 4) rfl r2 rfl (by omega) (by omega) (by omega)), ⟨q0, q2, q3, q8, q9, q14, q16, q17⟩⟩))
                exact lp177 _ _ _ _ (Nat.lt_succ_self _) hk rfl (show F1 4 ≤ F1 4 ∧ F1 4 ≤ n from by omega) (show ∀ y : Int, F1 4 ≤ y → y < F1 4 → _ from fun y _ _ => by omega) (Or.inl ⟨rfl, allDg_0 _ _⟩) (hashT_0 _ _).symm (numV_0 _ _).symm
              · refine br_if_ne (tgt := 160) dX3_go_131 (by decide) (by decide) (fun q => absurd q (by decide)) (fun _ => ?_)
                refine br_aload_0 dX3_go_134 ?_
                refine br_iload_1 dX3_go_135 ?_
                refine br_bipush dX3_go_136 (by decide) ?_
                refine br_icmp_ne (tgt := 145) dX3_go_138 (by decide) (by omega) (fun c138 => ?_) (fun c138 => ?_)
                · refine br_iconst dX3_go_145 ?_
                  refine br_mp_6 dX3_go_146 ?_
                  refine br_aload_0 dX3_go_149 ?_
                  refine br_dup dX3_go_150 rfl ?_
                  refine br_mg_4 (v := F1 4) rfl dX3_go_151 ?_
                  refine br_iconst dX3_go_154 ?_
                  refine br_iadd dX3_go_155 ?_
                  refine br_mp_4 dX3_go_156 ?_
                  exact br_return dX3_go_159 (by decide) (by decide) (hret _ _ (⟨rfl, _, _, rfl, goEnd (tk := (F1 4, 1, F1 4 + 1, 0)) ⟨F1 4, ⟨by omega, h2, by unfold isSp; omega⟩, Or.inr (Or.inr (Or.inr (Or.inl ⟨by omega, by omega, by unfold isAl isLt isDg; omega, by omega, rfl⟩)))⟩ (mTk_mk 1 (F1 4) (F1 4 + 1) rfl rfl rfl (by omega) (by omega) (by omega)), hk⟩))
                · refine br_iconst dX3_go_141 ?_
                  refine br_goto (tgt := 146) dX3_go_142 (by decide) ?_
                  refine br_mp_6 dX3_go_146 ?_
                  refine br_aload_0 dX3_go_149 ?_
                  refine br_dup dX3_go_150 rfl ?_
                  refine br_mg_4 (v := F1 4) rfl dX3_go_151 ?_
                  refine br_iconst dX3_go_154 ?_
                  refine br_iadd dX3_go_155 ?_
                  refine br_mp_4 dX3_go_156 ?_
                  exact br_return dX3_go_159 (by decide) (by decide) (hret _ _ (⟨rfl, _, _, rfl, goEnd (tk := (F1 4, 4, F1 4 + 1, 0)) ⟨F1 4, ⟨by omega, h2, by unfold isSp; omega⟩, Or.inr (Or.inr (Or.inl ⟨by omega, by omega, by unfold isAl isLt isDg; omega, by omega, rfl⟩))⟩ (mTk_mk 4 (F1 4) (F1 4 + 1) rfl rfl rfl (by omega) (by omega) (by omega)), hk⟩))
          · refine br_aload_0 dX3_go_104 ?_
            refine br_iconst dX3_go_105 ?_
            refine br_mp_6 dX3_go_106 ?_
            exact br_return dX3_go_109 (by decide) (by decide) (hret _ _ (⟨rfl, _, _, rfl, goEnd (tk := (F1 4, 0, F1 4, 0)) ⟨F1 4, ⟨by omega, h2, by unfold isSp; omega⟩, Or.inr (Or.inl ⟨by omega, by omega, rfl⟩)⟩ (mTk_mk 0 (F1 4) (F1 4) rfl rfl rfl (by omega) (by omega) (by omega)), hk⟩))
        · refine br_aload_0 dX3_go_70 ?_
          refine br_mg_5 (v := F1 4) rfl dX3_go_71 ?_
          refine br_sipush dX3_go_74 (by decide) ?_
          refine br_icmp_lt (tgt := 93) dX3_go_77 (by decide) (by omega) (fun c77 => ?_) (fun c77 => ?_)
          · refine br_aload_0 dX3_go_93 ?_
            refine br_mg_4 (v := F1 4) rfl dX3_go_94 ?_
            refine br_aload_0 dX3_go_97 ?_
            refine br_mg_3 (v := F1 3) rfl dX3_go_98 ?_
            refine br_icmp_lt (tgt := 110) dX3_go_101 (by decide) (by omega) (fun c101 => ?_) (fun c101 => ?_)
            · refine br_aload_0 dX3_go_110 ?_
              refine br_mg_1 dX3_go_111 ?_
              refine br_aload_0 dX3_go_114 ?_
              refine br_mg_4 (v := F1 4) rfl dX3_go_115 ?_
              refine br_ml_1 (v := G 1 (F1 4)) (by omega) rfl dX3_go_118 ?_
              refine br_istore_1 dX3_go_119 rfl ?_
              refine br_iload_1 dX3_go_120 ?_
              refine br_SZ1 (ct_m_isLetter (by omega)) lk_X3_30 ⟨Nat.le_of_ble_eq_true rfl, Nat.le_of_ble_eq_true rfl⟩ ⟨Nat.le_of_ble_eq_true rfl, Nat.le_of_ble_eq_true rfl⟩  (Nat.le_of_ble_eq_true rfl) dX3_go_121 (fun c121 => ?_) (fun c121 => ?_)
              · have hfd : isLt (T (F1 4)) := by unfold isLt; omega
                refine br_if_ne (tgt := 160) dX3_go_124 (by decide) (by decide) (fun _ => ?_) (fun q => absurd q (by decide))
                have hal0 : isAl (T (F1 4)) := by unfold isAl isLt isDg; omega
                refine br_iload_1 dX3_go_160 ?_
                refine br_SZ1 (ct_m_isLetter (by omega)) lk_X3_30 ⟨Nat.le_of_ble_eq_true rfl, Nat.le_of_ble_eq_true rfl⟩ ⟨Nat.le_of_ble_eq_true rfl, Nat.le_of_ble_eq_true rfl⟩  (Nat.le_of_ble_eq_true rfl) dX3_go_161 (fun c161 => ?_) (fun q => absurd q (by omega))
                have hfd : isLt (T (F1 4)) := by unfold isLt; omega
                refine br_istore_2 dX3_go_164 rfl ?_
                refine br_iconst dX3_go_165 ?_
                refine br_istore_3 dX3_go_166 rfl ?_
                refine br_aload_0 dX3_go_167 ?_
                refine br_lconst0 dX3_go_168 ?_
                refine br_mp_10 dX3_go_169 ?_
                refine br_aload_0 dX3_go_172 ?_
                refine br_iconst dX3_go_173 ?_
                refine br_mp_7 dX3_go_174 ?_
                have lp177 : ∀ (mm177 : Nat) (F2 : Nat → Int) (wd2 : Int) (g : Int), (n - F2 4).toNat < mm177 → (mKp F F2) → (F2 5 = F1 4) → (F1 4 ≤ F2 4 ∧ F2 4 ≤ n) → (∀ y : Int, F1 4 ≤ y → y < F2 4 → y < n ∧ isAl (T y)) → ((g = 1 ∧ allLt T (F1 4) (F2 4)) ∨ (g = 0 ∧ ¬ allLt T (F1 4) (F2 4))) → (wd2 = hashT T (F1 4) (F2 4)) → (F2 7 = numV T (F1 4) (F2 4)) → bk_V Γ D ({ frames := 1, cells := 0, slots := 0, locals := 21 }) "BreakSetterModel" cX3_go [] 0 0 (mw o a F2 wd2 G ex) [some (.ref o), some (.int (iI (G 1 (F1 4)))), some (.int (iI 1)), some (.int (iI g)), none] [] 177 := by
                  intro mm177
                  induction mm177 with
                  | zero => intro F2 wd2 g hm177; exact absurd hm177 (Nat.not_lt_zero _)
                  | succ mm177 ih177 =>
                    intro F2 wd2 g hm177 r1 r2 r3 r4 r5 r6 r7
                    obtain ⟨q0, q2, q3, q8, q9, q14, q16, q17⟩ := r1
                    have r3a : F1 4 ≤ F2 4 ∧ F2 4 ≤ n := r3
                    refine br_aload_0 dX3_go_177 ?_
                    refine br_aload_0 dX3_go_178 ?_
                    refine br_mg_4 (v := F2 4) rfl dX3_go_179 ?_
                    refine br_Vi1 (i := 40) (j := 0) (ct_m_tapeAt (T := T) (n := n) hT (by omega) (by omega)) lk_X3_44 ⟨Nat.le_of_ble_eq_true rfl, Nat.le_of_ble_eq_true rfl⟩ ⟨Nat.le_of_ble_eq_true rfl, Nat.le_of_ble_eq_true rfl⟩ rfl rfl (Nat.le_of_ble_eq_true rfl) dX3_go_182 (fun v182 w_ hw_ => ?_)
                    obtain ⟨hb182, rfl⟩ := hw_
                    refine br_SZ1 (ct_m_isLetter (by omega)) lk_X3_30 ⟨Nat.le_of_ble_eq_true rfl, Nat.le_of_ble_eq_true rfl⟩ ⟨Nat.le_of_ble_eq_true rfl, Nat.le_of_ble_eq_true rfl⟩  (Nat.le_of_ble_eq_true rfl) dX3_go_185 (fun c185 => ?_) (fun c185 => ?_)
                    · refine br_if_ne (tgt := 205) dX3_go_188 (by decide) (by decide) (fun _ => ?_) (fun q => absurd q (by decide))
                      have ht2 := hT.1 (F2 4) (by omega) (by omega)
                      refine br_aload_0 dX3_go_205 ?_
                      refine br_mg_1 dX3_go_206 ?_
                      refine br_aload_0 dX3_go_209 ?_
                      refine br_mg_4 (v := F2 4) rfl dX3_go_210 ?_
                      refine br_ml_1 (v := G 1 (F2 4)) (by omega) rfl dX3_go_213 ?_
                      refine br_istore_4 dX3_go_214 rfl ?_
                      refine br_iload_3 dX3_go_216 ?_
                      refine br_if_eq (tgt := 233) dX3_go_217 (by decide) (by omega) (fun c217 => ?_) (fun c217 => ?_)
                      · refine br_iconst dX3_go_233 ?_
                        refine br_istore_3 dX3_go_234 rfl ?_
                        refine br_aload_0 dX3_go_235 ?_
                        refine br_mg_4 (v := F2 4) rfl dX3_go_236 ?_
                        refine br_aload_0 dX3_go_239 ?_
                        refine br_mg_5 (v := F2 5) rfl dX3_go_240 ?_
                        refine br_isub dX3_go_243 ?_
                        refine br_bipush dX3_go_244 (by decide) ?_
                        refine br_icmp_ge (tgt := 269) dX3_go_246 (by decide) (by omega) (fun c246 => ?_) (fun c246 => ?_)
                        · refine br_aload_0 dX3_go_269 ?_
                          refine br_mg_4 (v := F2 4) rfl dX3_go_270 ?_
                          refine br_aload_0 dX3_go_273 ?_
                          refine br_mg_5 (v := F2 5) rfl dX3_go_274 ?_
                          refine br_isub dX3_go_277 ?_
                          refine br_iconst dX3_go_278 ?_
                          refine br_icmp_ge (tgt := 299) dX3_go_279 (by decide) (by omega) (fun c279 => ?_) (fun q => absurd q (by omega))
                          refine br_aload_0 dX3_go_299 ?_
                          refine br_dup dX3_go_300 rfl ?_
                          refine br_mg_4 (v := F2 4) rfl dX3_go_301 ?_
                          refine br_iconst dX3_go_304 ?_
                          refine br_iadd dX3_go_305 ?_
                          refine br_mp_4 dX3_go_306 ?_
                          refine br_goto (tgt := 177) dX3_go_309 (by decide) ?_
                          refine br_fg_4 ?_
                          have hal : isAl (T (F2 4)) := by unfold isAl isLt isDg; omega
                          have hgood : ((0 : Int) = 1 ∧ allLt T (F1 4) (F2 4 + 1)) ∨ ((0 : Int) = 0 ∧ ¬ allLt T (F1 4) (F2 4 + 1)) := by
                            rcases r5 with ⟨r5, r5a⟩ | ⟨r5, r5a⟩
                            · exact Or.inr ⟨rfl, allLt_x (by omega) (by unfold isLt; omega)⟩
                            · exact Or.inr ⟨rfl, allLt_n r5a⟩
                          have hh6 : wd2 = hashT T (F1 4) (F2 4 + 1) := by rw [hashT_stay (by omega)]; exact r6
                          have hn7 : F2 7 = numV T (F1 4) (F2 4 + 1) := by rw [numV_stay (by omega)]; exact r7
                          exact ih177 _ _ _ (show (n - (F2 4 + 1)).toNat < _ from by omega) ⟨q0, q2, q3, q8, q9, q14, q16, q17⟩ r2 (show F1 4 ≤ F2 4 + 1 ∧ F2 4 + 1 ≤ n from by omega) (run_s r4 (by omega) hal) hgood hh6 hn7
                        · refine br_aload_0 dX3_go_249 ?_
                          refine br_ldc2 (z := 27) q1386 (by decide) dX3_go_250 ?_
                          refine br_aload_0 dX3_go_253 ?_
                          refine br_mg_10 dX3_go_254 ?_
                          refine br_lmul dX3_go_257 ?_
                          refine br_iload_4 dX3_go_258 ?_
                          refine br_i2l dX3_go_260 (by omega) ?_
                          refine br_ladd dX3_go_261 ?_
                          refine br_ldc2 (z := 96) q1387 (by decide) dX3_go_262 ?_
                          refine br_lsub dX3_go_265 ?_
                          refine br_mp_10 dX3_go_266 ?_
                          refine br_aload_0 dX3_go_269 ?_
                          refine br_mg_4 (v := F2 4) rfl dX3_go_270 ?_
                          refine br_aload_0 dX3_go_273 ?_
                          refine br_mg_5 (v := F2 5) rfl dX3_go_274 ?_
                          refine br_isub dX3_go_277 ?_
                          refine br_iconst dX3_go_278 ?_
                          refine br_icmp_ge (tgt := 299) dX3_go_279 (by decide) (by omega) (fun c279 => ?_) (fun c279 => ?_)
                          · refine br_aload_0 dX3_go_299 ?_
                            refine br_dup dX3_go_300 rfl ?_
                            refine br_mg_4 (v := F2 4) rfl dX3_go_301 ?_
                            refine br_iconst dX3_go_304 ?_
                            refine br_iadd dX3_go_305 ?_
                            refine br_mp_4 dX3_go_306 ?_
                            refine br_goto (tgt := 177) dX3_go_309 (by decide) ?_
                            refine br_fg_4 ?_
                            have hal : isAl (T (F2 4)) := by unfold isAl isLt isDg; omega
                            have hgood : ((0 : Int) = 1 ∧ allLt T (F1 4) (F2 4 + 1)) ∨ ((0 : Int) = 0 ∧ ¬ allLt T (F1 4) (F2 4 + 1)) := by
                              rcases r5 with ⟨r5, r5a⟩ | ⟨r5, r5a⟩
                              · exact Or.inr ⟨rfl, allLt_x (by omega) (by unfold isLt; omega)⟩
                              · exact Or.inr ⟨rfl, allLt_n r5a⟩
                            have hh6 : ((27 * wd2) + (G 1 (F2 4))) - 96 = hashT T (F1 4) (F2 4 + 1) := by rw [hashT_step (by omega), ← r6]; omega
                            have hn7 : F2 7 = numV T (F1 4) (F2 4 + 1) := by rw [numV_stay (by omega)]; exact r7
                            exact ih177 _ _ _ (show (n - (F2 4 + 1)).toNat < _ from by omega) ⟨q0, q2, q3, q8, q9, q14, q16, q17⟩ r2 (show F1 4 ≤ F2 4 + 1 ∧ F2 4 + 1 ≤ n from by omega) (run_s r4 (by omega) hal) hgood hh6 hn7
                          · refine br_aload_0 dX3_go_282 ?_
                            refine br_bipush dX3_go_283 (by decide) ?_
                            refine br_aload_0 dX3_go_285 ?_
                            refine br_mg_7 (v := F2 7) rfl dX3_go_286 ?_
                            refine br_imul dX3_go_289 ?_
                            refine br_iload_4 dX3_go_290 ?_
                            refine br_iadd dX3_go_292 ?_
                            refine br_bipush dX3_go_293 (by decide) ?_
                            refine br_isub dX3_go_295 ?_
                            refine br_mp_7 dX3_go_296 ?_
                            refine br_aload_0 dX3_go_299 ?_
                            refine br_dup dX3_go_300 rfl ?_
                            refine br_mg_4 (v := F2 4) rfl dX3_go_301 ?_
                            refine br_iconst dX3_go_304 ?_
                            refine br_iadd dX3_go_305 ?_
                            refine br_mp_4 dX3_go_306 ?_
                            refine br_goto (tgt := 177) dX3_go_309 (by decide) ?_
                            refine br_fg_4 ?_
                            have hal : isAl (T (F2 4)) := by unfold isAl isLt isDg; omega
                            have hgood : ((0 : Int) = 1 ∧ allLt T (F1 4) (F2 4 + 1)) ∨ ((0 : Int) = 0 ∧ ¬ allLt T (F1 4) (F2 4 + 1)) := by
                              rcases r5 with ⟨r5, r5a⟩ | ⟨r5, r5a⟩
                              · exact Or.inr ⟨rfl, allLt_x (by omega) (by unfold isLt; omega)⟩
                              · exact Or.inr ⟨rfl, allLt_n r5a⟩
                            have hh6 : ((27 * wd2) + (G 1 (F2 4))) - 96 = hashT T (F1 4) (F2 4 + 1) := by rw [hashT_step (by omega), ← r6]; omega
                            have hn7 : ((10 * (F2 7)) + (G 1 (F2 4))) - 48 = numV T (F1 4) (F2 4 + 1) := by rw [numV_step (by omega), ← r7]; omega
                            exact ih177 _ _ _ (show (n - (F2 4 + 1)).toNat < _ from by omega) ⟨q0, q2, q3, q8, q9, q14, q16, q17⟩ r2 (show F1 4 ≤ F2 4 + 1 ∧ F2 4 + 1 ≤ n from by omega) (run_s r4 (by omega) hal) hgood hh6 hn7
                      · refine br_iload_4 dX3_go_220 ?_
                        refine br_SZ1 (ct_m_isLetter (by omega)) lk_X3_30 ⟨Nat.le_of_ble_eq_true rfl, Nat.le_of_ble_eq_true rfl⟩ ⟨Nat.le_of_ble_eq_true rfl, Nat.le_of_ble_eq_true rfl⟩  (Nat.le_of_ble_eq_true rfl) dX3_go_222 (fun c222 => ?_) (fun q => absurd q (by omega))
                        refine br_iload_2 dX3_go_225 ?_
                        refine br_icmp_ne (tgt := 233) dX3_go_226 (by decide) (by decide) (fun q => absurd q (by decide)) (fun _ => ?_)
                        refine br_iconst dX3_go_229 ?_
                        refine br_goto (tgt := 234) dX3_go_230 (by decide) ?_
                        refine br_istore_3 dX3_go_234 rfl ?_
                        refine br_aload_0 dX3_go_235 ?_
                        refine br_mg_4 (v := F2 4) rfl dX3_go_236 ?_
                        refine br_aload_0 dX3_go_239 ?_
                        refine br_mg_5 (v := F2 5) rfl dX3_go_240 ?_
                        refine br_isub dX3_go_243 ?_
                        refine br_bipush dX3_go_244 (by decide) ?_
                        refine br_icmp_ge (tgt := 269) dX3_go_246 (by decide) (by omega) (fun c246 => ?_) (fun c246 => ?_)
                        · refine br_aload_0 dX3_go_269 ?_
                          refine br_mg_4 (v := F2 4) rfl dX3_go_270 ?_
                          refine br_aload_0 dX3_go_273 ?_
                          refine br_mg_5 (v := F2 5) rfl dX3_go_274 ?_
                          refine br_isub dX3_go_277 ?_
                          refine br_iconst dX3_go_278 ?_
                          refine br_icmp_ge (tgt := 299) dX3_go_279 (by decide) (by omega) (fun c279 => ?_) (fun q => absurd q (by omega))
                          refine br_aload_0 dX3_go_299 ?_
                          refine br_dup dX3_go_300 rfl ?_
                          refine br_mg_4 (v := F2 4) rfl dX3_go_301 ?_
                          refine br_iconst dX3_go_304 ?_
                          refine br_iadd dX3_go_305 ?_
                          refine br_mp_4 dX3_go_306 ?_
                          refine br_goto (tgt := 177) dX3_go_309 (by decide) ?_
                          refine br_fg_4 ?_
                          have hal : isAl (T (F2 4)) := by unfold isAl isLt isDg; omega
                          have hgood : ((1 : Int) = 1 ∧ allLt T (F1 4) (F2 4 + 1)) ∨ ((1 : Int) = 0 ∧ ¬ allLt T (F1 4) (F2 4 + 1)) := by
                            rcases r5 with ⟨r5, r5a⟩ | ⟨r5, r5a⟩
                            · exact Or.inl ⟨rfl, allLt_s r5a (by unfold isLt; unfold isAl isLt isDg at hal; omega)⟩
                            · omega
                          have hh6 : wd2 = hashT T (F1 4) (F2 4 + 1) := by rw [hashT_stay (by omega)]; exact r6
                          have hn7 : F2 7 = numV T (F1 4) (F2 4 + 1) := by rw [numV_stay (by omega)]; exact r7
                          exact ih177 _ _ _ (show (n - (F2 4 + 1)).toNat < _ from by omega) ⟨q0, q2, q3, q8, q9, q14, q16, q17⟩ r2 (show F1 4 ≤ F2 4 + 1 ∧ F2 4 + 1 ≤ n from by omega) (run_s r4 (by omega) hal) hgood hh6 hn7
                        · refine br_aload_0 dX3_go_249 ?_
                          refine br_ldc2 (z := 27) q1386 (by decide) dX3_go_250 ?_
                          refine br_aload_0 dX3_go_253 ?_
                          refine br_mg_10 dX3_go_254 ?_
                          refine br_lmul dX3_go_257 ?_
                          refine br_iload_4 dX3_go_258 ?_
                          refine br_i2l dX3_go_260 (by omega) ?_
                          refine br_ladd dX3_go_261 ?_
                          refine br_ldc2 (z := 96) q1387 (by decide) dX3_go_262 ?_
                          refine br_lsub dX3_go_265 ?_
                          refine br_mp_10 dX3_go_266 ?_
                          refine br_aload_0 dX3_go_269 ?_
                          refine br_mg_4 (v := F2 4) rfl dX3_go_270 ?_
                          refine br_aload_0 dX3_go_273 ?_
                          refine br_mg_5 (v := F2 5) rfl dX3_go_274 ?_
                          refine br_isub dX3_go_277 ?_
                          refine br_iconst dX3_go_278 ?_
                          refine br_icmp_ge (tgt := 299) dX3_go_279 (by decide) (by omega) (fun c279 => ?_) (fun c279 => ?_)
                          · refine br_aload_0 dX3_go_299 ?_
                            refine br_dup dX3_go_300 rfl ?_
                            refine br_mg_4 (v := F2 4) rfl dX3_go_301 ?_
                            refine br_iconst dX3_go_304 ?_
                            refine br_iadd dX3_go_305 ?_
                            refine br_mp_4 dX3_go_306 ?_
                            refine br_goto (tgt := 177) dX3_go_309 (by decide) ?_
                            refine br_fg_4 ?_
                            have hal : isAl (T (F2 4)) := by unfold isAl isLt isDg; omega
                            have hgood : ((1 : Int) = 1 ∧ allLt T (F1 4) (F2 4 + 1)) ∨ ((1 : Int) = 0 ∧ ¬ allLt T (F1 4) (F2 4 + 1)) := by
                              rcases r5 with ⟨r5, r5a⟩ | ⟨r5, r5a⟩
                              · exact Or.inl ⟨rfl, allLt_s r5a (by unfold isLt; unfold isAl isLt isDg at hal; omega)⟩
                              · omega
                            have hh6 : ((27 * wd2) + (G 1 (F2 4))) - 96 = hashT T (F1 4) (F2 4 + 1) := by rw [hashT_step (by omega), ← r6]; omega
                            have hn7 : F2 7 = numV T (F1 4) (F2 4 + 1) := by rw [numV_stay (by omega)]; exact r7
                            exact ih177 _ _ _ (show (n - (F2 4 + 1)).toNat < _ from by omega) ⟨q0, q2, q3, q8, q9, q14, q16, q17⟩ r2 (show F1 4 ≤ F2 4 + 1 ∧ F2 4 + 1 ≤ n from by omega) (run_s r4 (by omega) hal) hgood hh6 hn7
                          · refine br_aload_0 dX3_go_282 ?_
                            refine br_bipush dX3_go_283 (by decide) ?_
                            refine br_aload_0 dX3_go_285 ?_
                            refine br_mg_7 (v := F2 7) rfl dX3_go_286 ?_
                            refine br_imul dX3_go_289 ?_
                            refine br_iload_4 dX3_go_290 ?_
                            refine br_iadd dX3_go_292 ?_
                            refine br_bipush dX3_go_293 (by decide) ?_
                            refine br_isub dX3_go_295 ?_
                            refine br_mp_7 dX3_go_296 ?_
                            refine br_aload_0 dX3_go_299 ?_
                            refine br_dup dX3_go_300 rfl ?_
                            refine br_mg_4 (v := F2 4) rfl dX3_go_301 ?_
                            refine br_iconst dX3_go_304 ?_
                            refine br_iadd dX3_go_305 ?_
                            refine br_mp_4 dX3_go_306 ?_
                            refine br_goto (tgt := 177) dX3_go_309 (by decide) ?_
                            refine br_fg_4 ?_
                            have hal : isAl (T (F2 4)) := by unfold isAl isLt isDg; omega
                            have hgood : ((1 : Int) = 1 ∧ allLt T (F1 4) (F2 4 + 1)) ∨ ((1 : Int) = 0 ∧ ¬ allLt T (F1 4) (F2 4 + 1)) := by
                              rcases r5 with ⟨r5, r5a⟩ | ⟨r5, r5a⟩
                              · exact Or.inl ⟨rfl, allLt_s r5a (by unfold isLt; unfold isAl isLt isDg at hal; omega)⟩
                              · omega
                            have hh6 : ((27 * wd2) + (G 1 (F2 4))) - 96 = hashT T (F1 4) (F2 4 + 1) := by rw [hashT_step (by omega), ← r6]; omega
                            have hn7 : ((10 * (F2 7)) + (G 1 (F2 4))) - 48 = numV T (F1 4) (F2 4 + 1) := by rw [numV_step (by omega), ← r7]; omega
                            exact ih177 _ _ _ (show (n - (F2 4 + 1)).toNat < _ from by omega) ⟨q0, q2, q3, q8, q9, q14, q16, q17⟩ r2 (show F1 4 ≤ F2 4 + 1 ∧ F2 4 + 1 ≤ n from by omega) (run_s r4 (by omega) hal) hgood hh6 hn7
                    · have hz185 : ¬ (97 ≤ v182 ∧ v182 ≤ 122) := c185
                      refine br_if_ne (tgt := 205) dX3_go_188 (by decide) (by decide) (fun q => absurd q (by decide)) (fun _ => ?_)
                      refine br_aload_0 dX3_go_191 ?_
                      refine br_aload_0 dX3_go_192 ?_
                      refine br_mg_4 (v := F2 4) rfl dX3_go_193 ?_
                      refine br_Vi1 (i := 40) (j := 0) (ct_m_tapeAt (T := T) (n := n) hT (by omega) (by omega)) lk_X3_44 ⟨Nat.le_of_ble_eq_true rfl, Nat.le_of_ble_eq_true rfl⟩ ⟨Nat.le_of_ble_eq_true rfl, Nat.le_of_ble_eq_true rfl⟩ rfl rfl (Nat.le_of_ble_eq_true rfl) dX3_go_196 (fun v196 w_ hw_ => ?_)
                      obtain ⟨hb196, rfl⟩ := hw_
                      refine br_SZ1 (ct_m_isDigit (by omega)) lk_X3_34 ⟨Nat.le_of_ble_eq_true rfl, Nat.le_of_ble_eq_true rfl⟩ ⟨Nat.le_of_ble_eq_true rfl, Nat.le_of_ble_eq_true rfl⟩  (Nat.le_of_ble_eq_true rfl) dX3_go_199 (fun c199 => ?_) (fun c199 => ?_)
                      · refine br_if_eq (tgt := 312) dX3_go_202 (by decide) (by decide) (fun q => absurd q (by decide)) (fun _ => ?_)
                        have ht2 := hT.1 (F2 4) (by omega) (by omega)
                        refine br_aload_0 dX3_go_205 ?_
                        refine br_mg_1 dX3_go_206 ?_
                        refine br_aload_0 dX3_go_209 ?_
                        refine br_mg_4 (v := F2 4) rfl dX3_go_210 ?_
                        refine br_ml_1 (v := G 1 (F2 4)) (by omega) rfl dX3_go_213 ?_
                        refine br_istore_4 dX3_go_214 rfl ?_
                        refine br_iload_3 dX3_go_216 ?_
                        refine br_if_eq (tgt := 233) dX3_go_217 (by decide) (by omega) (fun c217 => ?_) (fun c217 => ?_)
                        · refine br_iconst dX3_go_233 ?_
                          refine br_istore_3 dX3_go_234 rfl ?_
                          refine br_aload_0 dX3_go_235 ?_
                          refine br_mg_4 (v := F2 4) rfl dX3_go_236 ?_
                          refine br_aload_0 dX3_go_239 ?_
                          refine br_mg_5 (v := F2 5) rfl dX3_go_240 ?_
                          refine br_isub dX3_go_243 ?_
                          refine br_bipush dX3_go_244 (by decide) ?_
                          refine br_icmp_ge (tgt := 269) dX3_go_246 (by decide) (by omega) (fun c246 => ?_) (fun c246 => ?_)
                          · refine br_aload_0 dX3_go_269 ?_
                            refine br_mg_4 (v := F2 4) rfl dX3_go_270 ?_
                            refine br_aload_0 dX3_go_273 ?_
                            refine br_mg_5 (v := F2 5) rfl dX3_go_274 ?_
                            refine br_isub dX3_go_277 ?_
                            refine br_iconst dX3_go_278 ?_
                            refine br_icmp_ge (tgt := 299) dX3_go_279 (by decide) (by omega) (fun c279 => ?_) (fun q => absurd q (by omega))
                            refine br_aload_0 dX3_go_299 ?_
                            refine br_dup dX3_go_300 rfl ?_
                            refine br_mg_4 (v := F2 4) rfl dX3_go_301 ?_
                            refine br_iconst dX3_go_304 ?_
                            refine br_iadd dX3_go_305 ?_
                            refine br_mp_4 dX3_go_306 ?_
                            refine br_goto (tgt := 177) dX3_go_309 (by decide) ?_
                            refine br_fg_4 ?_
                            have hal : isAl (T (F2 4)) := by unfold isAl isLt isDg; omega
                            have hgood : ((0 : Int) = 1 ∧ allLt T (F1 4) (F2 4 + 1)) ∨ ((0 : Int) = 0 ∧ ¬ allLt T (F1 4) (F2 4 + 1)) := by
                              rcases r5 with ⟨r5, r5a⟩ | ⟨r5, r5a⟩
                              · exact Or.inr ⟨rfl, allLt_x (by omega) (by unfold isLt; omega)⟩
                              · exact Or.inr ⟨rfl, allLt_n r5a⟩
                            have hh6 : wd2 = hashT T (F1 4) (F2 4 + 1) := by rw [hashT_stay (by omega)]; exact r6
                            have hn7 : F2 7 = numV T (F1 4) (F2 4 + 1) := by rw [numV_stay (by omega)]; exact r7
                            exact ih177 _ _ _ (show (n - (F2 4 + 1)).toNat < _ from by omega) ⟨q0, q2, q3, q8, q9, q14, q16, q17⟩ r2 (show F1 4 ≤ F2 4 + 1 ∧ F2 4 + 1 ≤ n from by omega) (run_s r4 (by omega) hal) hgood hh6 hn7
                          · refine br_aload_0 dX3_go_249 ?_
                            refine br_ldc2 (z := 27) q1386 (by decide) dX3_go_250 ?_
                            refine br_aload_0 dX3_go_253 ?_
                            refine br_mg_10 dX3_go_254 ?_
                            refine br_lmul dX3_go_257 ?_
                            refine br_iload_4 dX3_go_258 ?_
                            refine br_i2l dX3_go_260 (by omega) ?_
                            refine br_ladd dX3_go_261 ?_
                            refine br_ldc2 (z := 96) q1387 (by decide) dX3_go_262 ?_
                            refine br_lsub dX3_go_265 ?_
                            refine br_mp_10 dX3_go_266 ?_
                            refine br_aload_0 dX3_go_269 ?_
                            refine br_mg_4 (v := F2 4) rfl dX3_go_270 ?_
                            refine br_aload_0 dX3_go_273 ?_
                            refine br_mg_5 (v := F2 5) rfl dX3_go_274 ?_
                            refine br_isub dX3_go_277 ?_
                            refine br_iconst dX3_go_278 ?_
                            refine br_icmp_ge (tgt := 299) dX3_go_279 (by decide) (by omega) (fun c279 => ?_) (fun c279 => ?_)
                            · refine br_aload_0 dX3_go_299 ?_
                              refine br_dup dX3_go_300 rfl ?_
                              refine br_mg_4 (v := F2 4) rfl dX3_go_301 ?_
                              refine br_iconst dX3_go_304 ?_
                              refine br_iadd dX3_go_305 ?_
                              refine br_mp_4 dX3_go_306 ?_
                              refine br_goto (tgt := 177) dX3_go_309 (by decide) ?_
                              refine br_fg_4 ?_
                              have hal : isAl (T (F2 4)) := by unfold isAl isLt isDg; omega
                              have hgood : ((0 : Int) = 1 ∧ allLt T (F1 4) (F2 4 + 1)) ∨ ((0 : Int) = 0 ∧ ¬ allLt T (F1 4) (F2 4 + 1)) := by
                                rcases r5 with ⟨r5, r5a⟩ | ⟨r5, r5a⟩
                                · exact Or.inr ⟨rfl, allLt_x (by omega) (by unfold isLt; omega)⟩
                                · exact Or.inr ⟨rfl, allLt_n r5a⟩
                              have hh6 : ((27 * wd2) + (G 1 (F2 4))) - 96 = hashT T (F1 4) (F2 4 + 1) := by rw [hashT_step (by omega), ← r6]; omega
                              have hn7 : F2 7 = numV T (F1 4) (F2 4 + 1) := by rw [numV_stay (by omega)]; exact r7
                              exact ih177 _ _ _ (show (n - (F2 4 + 1)).toNat < _ from by omega) ⟨q0, q2, q3, q8, q9, q14, q16, q17⟩ r2 (show F1 4 ≤ F2 4 + 1 ∧ F2 4 + 1 ≤ n from by omega) (run_s r4 (by omega) hal) hgood hh6 hn7
                            · refine br_aload_0 dX3_go_282 ?_
                              refine br_bipush dX3_go_283 (by decide) ?_
                              refine br_aload_0 dX3_go_285 ?_
                              refine br_mg_7 (v := F2 7) rfl dX3_go_286 ?_
                              refine br_imul dX3_go_289 ?_
                              refine br_iload_4 dX3_go_290 ?_
                              refine br_iadd dX3_go_292 ?_
                              refine br_bipush dX3_go_293 (by decide) ?_
                              refine br_isub dX3_go_295 ?_
                              refine br_mp_7 dX3_go_296 ?_
                              refine br_aload_0 dX3_go_299 ?_
                              refine br_dup dX3_go_300 rfl ?_
                              refine br_mg_4 (v := F2 4) rfl dX3_go_301 ?_
                              refine br_iconst dX3_go_304 ?_
                              refine br_iadd dX3_go_305 ?_
                              refine br_mp_4 dX3_go_306 ?_
                              refine br_goto (tgt := 177) dX3_go_309 (by decide) ?_
                              refine br_fg_4 ?_
                              have hal : isAl (T (F2 4)) := by unfold isAl isLt isDg; omega
                              have hgood : ((0 : Int) = 1 ∧ allLt T (F1 4) (F2 4 + 1)) ∨ ((0 : Int) = 0 ∧ ¬ allLt T (F1 4) (F2 4 + 1)) := by
                                rcases r5 with ⟨r5, r5a⟩ | ⟨r5, r5a⟩
                                · exact Or.inr ⟨rfl, allLt_x (by omega) (by unfold isLt; omega)⟩
                                · exact Or.inr ⟨rfl, allLt_n r5a⟩
                              have hh6 : ((27 * wd2) + (G 1 (F2 4))) - 96 = hashT T (F1 4) (F2 4 + 1) := by rw [hashT_step (by omega), ← r6]; omega
                              have hn7 : ((10 * (F2 7)) + (G 1 (F2 4))) - 48 = numV T (F1 4) (F2 4 + 1) := by rw [numV_step (by omega), ← r7]; omega
                              exact ih177 _ _ _ (show (n - (F2 4 + 1)).toNat < _ from by omega) ⟨q0, q2, q3, q8, q9, q14, q16, q17⟩ r2 (show F1 4 ≤ F2 4 + 1 ∧ F2 4 + 1 ≤ n from by omega) (run_s r4 (by omega) hal) hgood hh6 hn7
                        · refine br_iload_4 dX3_go_220 ?_
                          refine br_SZ1 (ct_m_isLetter (by omega)) lk_X3_30 ⟨Nat.le_of_ble_eq_true rfl, Nat.le_of_ble_eq_true rfl⟩ ⟨Nat.le_of_ble_eq_true rfl, Nat.le_of_ble_eq_true rfl⟩  (Nat.le_of_ble_eq_true rfl) dX3_go_222 (fun q => absurd q (by omega)) (fun c222 => ?_)
                          refine br_iload_2 dX3_go_225 ?_
                          refine br_icmp_ne (tgt := 233) dX3_go_226 (by decide) (by decide) (fun _ => ?_) (fun q => absurd q (by decide))
                          refine br_iconst dX3_go_233 ?_
                          refine br_istore_3 dX3_go_234 rfl ?_
                          refine br_aload_0 dX3_go_235 ?_
                          refine br_mg_4 (v := F2 4) rfl dX3_go_236 ?_
                          refine br_aload_0 dX3_go_239 ?_
                          refine br_mg_5 (v := F2 5) rfl dX3_go_240 ?_
                          refine br_isub dX3_go_243 ?_
                          refine br_bipush dX3_go_244 (by decide) ?_
                          refine br_icmp_ge (tgt := 269) dX3_go_246 (by decide) (by omega) (fun c246 => ?_) (fun c246 => ?_)
                          · refine br_aload_0 dX3_go_269 ?_
                            refine br_mg_4 (v := F2 4) rfl dX3_go_270 ?_
                            refine br_aload_0 dX3_go_273 ?_
                            refine br_mg_5 (v := F2 5) rfl dX3_go_274 ?_
                            refine br_isub dX3_go_277 ?_
                            refine br_iconst dX3_go_278 ?_
                            refine br_icmp_ge (tgt := 299) dX3_go_279 (by decide) (by omega) (fun c279 => ?_) (fun q => absurd q (by omega))
                            refine br_aload_0 dX3_go_299 ?_
                            refine br_dup dX3_go_300 rfl ?_
                            refine br_mg_4 (v := F2 4) rfl dX3_go_301 ?_
                            refine br_iconst dX3_go_304 ?_
                            refine br_iadd dX3_go_305 ?_
                            refine br_mp_4 dX3_go_306 ?_
                            refine br_goto (tgt := 177) dX3_go_309 (by decide) ?_
                            refine br_fg_4 ?_
                            have hal : isAl (T (F2 4)) := by unfold isAl isLt isDg; omega
                            have hgood : ((0 : Int) = 1 ∧ allLt T (F1 4) (F2 4 + 1)) ∨ ((0 : Int) = 0 ∧ ¬ allLt T (F1 4) (F2 4 + 1)) := by
                              rcases r5 with ⟨r5, r5a⟩ | ⟨r5, r5a⟩
                              · exact Or.inr ⟨rfl, allLt_x (by omega) (by unfold isLt; omega)⟩
                              · exact Or.inr ⟨rfl, allLt_n r5a⟩
                            have hh6 : wd2 = hashT T (F1 4) (F2 4 + 1) := by rw [hashT_stay (by omega)]; exact r6
                            have hn7 : F2 7 = numV T (F1 4) (F2 4 + 1) := by rw [numV_stay (by omega)]; exact r7
                            exact ih177 _ _ _ (show (n - (F2 4 + 1)).toNat < _ from by omega) ⟨q0, q2, q3, q8, q9, q14, q16, q17⟩ r2 (show F1 4 ≤ F2 4 + 1 ∧ F2 4 + 1 ≤ n from by omega) (run_s r4 (by omega) hal) hgood hh6 hn7
                          · refine br_aload_0 dX3_go_249 ?_
                            refine br_ldc2 (z := 27) q1386 (by decide) dX3_go_250 ?_
                            refine br_aload_0 dX3_go_253 ?_
                            refine br_mg_10 dX3_go_254 ?_
                            refine br_lmul dX3_go_257 ?_
                            refine br_iload_4 dX3_go_258 ?_
                            refine br_i2l dX3_go_260 (by omega) ?_
                            refine br_ladd dX3_go_261 ?_
                            refine br_ldc2 (z := 96) q1387 (by decide) dX3_go_262 ?_
                            refine br_lsub dX3_go_265 ?_
                            refine br_mp_10 dX3_go_266 ?_
                            refine br_aload_0 dX3_go_269 ?_
                            refine br_mg_4 (v := F2 4) rfl dX3_go_270 ?_
                            refine br_aload_0 dX3_go_273 ?_
                            refine br_mg_5 (v := F2 5) rfl dX3_go_274 ?_
                            refine br_isub dX3_go_277 ?_
                            refine br_iconst dX3_go_278 ?_
                            refine br_icmp_ge (tgt := 299) dX3_go_279 (by decide) (by omega) (fun c279 => ?_) (fun c279 => ?_)
                            · refine br_aload_0 dX3_go_299 ?_
                              refine br_dup dX3_go_300 rfl ?_
                              refine br_mg_4 (v := F2 4) rfl dX3_go_301 ?_
                              refine br_iconst dX3_go_304 ?_
                              refine br_iadd dX3_go_305 ?_
                              refine br_mp_4 dX3_go_306 ?_
                              refine br_goto (tgt := 177) dX3_go_309 (by decide) ?_
                              refine br_fg_4 ?_
                              have hal : isAl (T (F2 4)) := by unfold isAl isLt isDg; omega
                              have hgood : ((0 : Int) = 1 ∧ allLt T (F1 4) (F2 4 + 1)) ∨ ((0 : Int) = 0 ∧ ¬ allLt T (F1 4) (F2 4 + 1)) := by
                                rcases r5 with ⟨r5, r5a⟩ | ⟨r5, r5a⟩
                                · exact Or.inr ⟨rfl, allLt_x (by omega) (by unfold isLt; omega)⟩
                                · exact Or.inr ⟨rfl, allLt_n r5a⟩
                              have hh6 : ((27 * wd2) + (G 1 (F2 4))) - 96 = hashT T (F1 4) (F2 4 + 1) := by rw [hashT_step (by omega), ← r6]; omega
                              have hn7 : F2 7 = numV T (F1 4) (F2 4 + 1) := by rw [numV_stay (by omega)]; exact r7
                              exact ih177 _ _ _ (show (n - (F2 4 + 1)).toNat < _ from by omega) ⟨q0, q2, q3, q8, q9, q14, q16, q17⟩ r2 (show F1 4 ≤ F2 4 + 1 ∧ F2 4 + 1 ≤ n from by omega) (run_s r4 (by omega) hal) hgood hh6 hn7
                            · refine br_aload_0 dX3_go_282 ?_
                              refine br_bipush dX3_go_283 (by decide) ?_
                              refine br_aload_0 dX3_go_285 ?_
                              refine br_mg_7 (v := F2 7) rfl dX3_go_286 ?_
                              refine br_imul dX3_go_289 ?_
                              refine br_iload_4 dX3_go_290 ?_
                              refine br_iadd dX3_go_292 ?_
                              refine br_bipush dX3_go_293 (by decide) ?_
                              refine br_isub dX3_go_295 ?_
                              refine br_mp_7 dX3_go_296 ?_
                              refine br_aload_0 dX3_go_299 ?_
                              refine br_dup dX3_go_300 rfl ?_
                              refine br_mg_4 (v := F2 4) rfl dX3_go_301 ?_
                              refine br_iconst dX3_go_304 ?_
                              refine br_iadd dX3_go_305 ?_
                              refine br_mp_4 dX3_go_306 ?_
                              refine br_goto (tgt := 177) dX3_go_309 (by decide) ?_
                              refine br_fg_4 ?_
                              have hal : isAl (T (F2 4)) := by unfold isAl isLt isDg; omega
                              have hgood : ((0 : Int) = 1 ∧ allLt T (F1 4) (F2 4 + 1)) ∨ ((0 : Int) = 0 ∧ ¬ allLt T (F1 4) (F2 4 + 1)) := by
                                rcases r5 with ⟨r5, r5a⟩ | ⟨r5, r5a⟩
                                · exact Or.inr ⟨rfl, allLt_x (by omega) (by unfold isLt; omega)⟩
                                · exact Or.inr ⟨rfl, allLt_n r5a⟩
                              have hh6 : ((27 * wd2) + (G 1 (F2 4))) - 96 = hashT T (F1 4) (F2 4 + 1) := by rw [hashT_step (by omega), ← r6]; omega
                              have hn7 : ((10 * (F2 7)) + (G 1 (F2 4))) - 48 = numV T (F1 4) (F2 4 + 1) := by rw [numV_step (by omega), ← r7]; omega
                              exact ih177 _ _ _ (show (n - (F2 4 + 1)).toNat < _ from by omega) ⟨q0, q2, q3, q8, q9, q14, q16, q17⟩ r2 (show F1 4 ≤ F2 4 + 1 ∧ F2 4 + 1 ≤ n from by omega) (run_s r4 (by omega) hal) hgood hh6 hn7
                      · refine br_if_eq (tgt := 312) dX3_go_202 (by decide) (by decide) (fun _ => ?_) (fun q => absurd q (by decide))
                        have hrun : runR T n (F1 4) (F2 4) := ⟨by omega, r4, by unfold isAl isLt isDg; omega⟩
                        have hlt := runR_pos hrun (by omega) hal0
                        refine br_aload_0 dX3_go_312 ?_
                        refine br_iload_3 dX3_go_313 ?_
                        refine br_if_eq (tgt := 334) dX3_go_314 (by decide) (by omega) (fun c314 => ?_) (fun c314 => ?_)
                        · have hnok := (r5.resolve_left (fun q => by have := q.1; omega)).2
                          refine br_iconst dX3_go_334 ?_
                          refine br_goto (tgt := 347) dX3_go_335 (by decide) ?_
                          refine br_mp_6 dX3_go_347 ?_
                          exact br_return dX3_go_350 (by decide) (by decide) (hret _ _ (⟨rfl, _, _, rfl, goEnd (tk := (F1 4, 1, F2 4, 0)) ⟨F1 4, ⟨by omega, h2, by unfold isSp; omega⟩, Or.inr (Or.inr (Or.inr (Or.inr ⟨by omega, by omega, hal0, F2 4, hrun, Or.inr (Or.inr ⟨hnok, (fun q => notDg_of hlt hfd q.1), rfl⟩)⟩)))⟩ (mTk_mk 1 (F1 4) (F2 4) rfl r2 rfl (by omega) (by omega) (by omega)), ⟨q0, q2, q3, q8, q9, q14, q16, q17⟩⟩))
                        · refine br_iload_2 dX3_go_317 ?_
                          refine br_if_ne (tgt := 338) dX3_go_318 (by decide) (by decide) (fun _ => ?_) (fun q => absurd q (by decide))
                          refine br_iload_2 dX3_go_338 ?_
                          refine br_if_eq (tgt := 346) dX3_go_339 (by decide) (by decide) (fun q => absurd q (by decide)) (fun _ => ?_)
                          have hok := (r5.resolve_right (fun q => by have := q.1; omega)).2
                          refine br_iconst dX3_go_342 ?_
                          refine br_goto (tgt := 347) dX3_go_343 (by decide) ?_
                          refine br_mp_6 dX3_go_347 ?_
                          exact br_return dX3_go_350 (by decide) (by decide) (hret _ _ (⟨rfl, _, _, rfl, goEnd (tk := (F1 4, 2, F2 4, 0)) ⟨F1 4, ⟨by omega, h2, by unfold isSp; omega⟩, Or.inr (Or.inr (Or.inr (Or.inr ⟨by omega, by omega, hal0, F2 4, hrun, Or.inl ⟨hok, rfl⟩⟩)))⟩ (mTk_word (F1 4) (F2 4) rfl r2 rfl r6 hok hlt (by omega) (by omega)), ⟨q0, q2, q3, q8, q9, q14, q16, q17⟩⟩))
                exact lp177 _ _ _ _ (Nat.lt_succ_self _) hk rfl (show F1 4 ≤ F1 4 ∧ F1 4 ≤ n from by omega) (show ∀ y : Int, F1 4 ≤ y → y < F1 4 → _ from fun y _ _ => by omega) (Or.inl ⟨rfl, allLt_0 _ _⟩) (hashT_0 _ _).symm (numV_0 _ _).symm
              · refine br_if_ne (tgt := 160) dX3_go_124 (by decide) (by decide) (fun q => absurd q (by decide)) (fun _ => ?_)
                refine br_iload_1 dX3_go_127 ?_
                refine br_SZ1 (ct_m_isDigit (by omega)) lk_X3_34 ⟨Nat.le_of_ble_eq_true rfl, Nat.le_of_ble_eq_true rfl⟩ ⟨Nat.le_of_ble_eq_true rfl, Nat.le_of_ble_eq_true rfl⟩  (Nat.le_of_ble_eq_true rfl) dX3_go_128 (fun c128 => ?_) (fun c128 => ?_)
                · refine br_if_ne (tgt := 160) dX3_go_131 (by decide) (by decide) (fun _ => ?_) (fun q => absurd q (by decide))
                  have hal0 : isAl (T (F1 4)) := by unfold isAl isLt isDg; omega
                  refine br_iload_1 dX3_go_160 ?_
                  refine br_SZ1 (ct_m_isLetter (by omega)) lk_X3_30 ⟨Nat.le_of_ble_eq_true rfl, Nat.le_of_ble_eq_true rfl⟩ ⟨Nat.le_of_ble_eq_true rfl, Nat.le_of_ble_eq_true rfl⟩  (Nat.le_of_ble_eq_true rfl) dX3_go_161 (fun q => absurd q (by omega)) (fun c161 => ?_)
                  have hfd : isDg (T (F1 4)) := by unfold isDg; omega
                  refine br_istore_2 dX3_go_164 rfl ?_
                  refine br_iconst dX3_go_165 ?_
                  refine br_istore_3 dX3_go_166 rfl ?_
                  refine br_aload_0 dX3_go_167 ?_
                  refine br_lconst0 dX3_go_168 ?_
                  refine br_mp_10 dX3_go_169 ?_
                  refine br_aload_0 dX3_go_172 ?_
                  refine br_iconst dX3_go_173 ?_
                  refine br_mp_7 dX3_go_174 ?_
                  have lp177 : ∀ (mm177 : Nat) (F2 : Nat → Int) (wd2 : Int) (g : Int), (n - F2 4).toNat < mm177 → (mKp F F2) → (F2 5 = F1 4) → (F1 4 ≤ F2 4 ∧ F2 4 ≤ n) → (∀ y : Int, F1 4 ≤ y → y < F2 4 → y < n ∧ isAl (T y)) → ((g = 1 ∧ allDg T (F1 4) (F2 4)) ∨ (g = 0 ∧ ¬ allDg T (F1 4) (F2 4))) → (wd2 = hashT T (F1 4) (F2 4)) → (F2 7 = numV T (F1 4) (F2 4)) → bk_V Γ D ({ frames := 1, cells := 0, slots := 0, locals := 21 }) "BreakSetterModel" cX3_go [] 0 0 (mw o a F2 wd2 G ex) [some (.ref o), some (.int (iI (G 1 (F1 4)))), some (.int (iI 0)), some (.int (iI g)), none] [] 177 := by
                    intro mm177
                    induction mm177 with
                    | zero => intro F2 wd2 g hm177; exact absurd hm177 (Nat.not_lt_zero _)
                    | succ mm177 ih177 =>
                      intro F2 wd2 g hm177 r1 r2 r3 r4 r5 r6 r7
                      obtain ⟨q0, q2, q3, q8, q9, q14, q16, q17⟩ := r1
                      have r3a : F1 4 ≤ F2 4 ∧ F2 4 ≤ n := r3
                      refine br_aload_0 dX3_go_177 ?_
                      refine br_aload_0 dX3_go_178 ?_
                      refine br_mg_4 (v := F2 4) rfl dX3_go_179 ?_
                      refine br_Vi1 (i := 40) (j := 0) (ct_m_tapeAt (T := T) (n := n) hT (by omega) (by omega)) lk_X3_44 ⟨Nat.le_of_ble_eq_true rfl, Nat.le_of_ble_eq_true rfl⟩ ⟨Nat.le_of_ble_eq_true rfl, Nat.le_of_ble_eq_true rfl⟩ rfl rfl (Nat.le_of_ble_eq_true rfl) dX3_go_182 (fun v182 w_ hw_ => ?_)
                      obtain ⟨hb182, rfl⟩ := hw_
                      refine br_SZ1 (ct_m_isLetter (by omega)) lk_X3_30 ⟨Nat.le_of_ble_eq_true rfl, Nat.le_of_ble_eq_true rfl⟩ ⟨Nat.le_of_ble_eq_true rfl, Nat.le_of_ble_eq_true rfl⟩  (Nat.le_of_ble_eq_true rfl) dX3_go_185 (fun c185 => ?_) (fun c185 => ?_)
                      · refine br_if_ne (tgt := 205) dX3_go_188 (by decide) (by decide) (fun _ => ?_) (fun q => absurd q (by decide))
                        have ht2 := hT.1 (F2 4) (by omega) (by omega)
                        refine br_aload_0 dX3_go_205 ?_
                        refine br_mg_1 dX3_go_206 ?_
                        refine br_aload_0 dX3_go_209 ?_
                        refine br_mg_4 (v := F2 4) rfl dX3_go_210 ?_
                        refine br_ml_1 (v := G 1 (F2 4)) (by omega) rfl dX3_go_213 ?_
                        refine br_istore_4 dX3_go_214 rfl ?_
                        refine br_iload_3 dX3_go_216 ?_
                        refine br_if_eq (tgt := 233) dX3_go_217 (by decide) (by omega) (fun c217 => ?_) (fun c217 => ?_)
                        · refine br_iconst dX3_go_233 ?_
                          refine br_istore_3 dX3_go_234 rfl ?_
                          refine br_aload_0 dX3_go_235 ?_
                          refine br_mg_4 (v := F2 4) rfl dX3_go_236 ?_
                          refine br_aload_0 dX3_go_239 ?_
                          refine br_mg_5 (v := F2 5) rfl dX3_go_240 ?_
                          refine br_isub dX3_go_243 ?_
                          refine br_bipush dX3_go_244 (by decide) ?_
                          refine br_icmp_ge (tgt := 269) dX3_go_246 (by decide) (by omega) (fun c246 => ?_) (fun c246 => ?_)
                          · refine br_aload_0 dX3_go_269 ?_
                            refine br_mg_4 (v := F2 4) rfl dX3_go_270 ?_
                            refine br_aload_0 dX3_go_273 ?_
                            refine br_mg_5 (v := F2 5) rfl dX3_go_274 ?_
                            refine br_isub dX3_go_277 ?_
                            refine br_iconst dX3_go_278 ?_
                            refine br_icmp_ge (tgt := 299) dX3_go_279 (by decide) (by omega) (fun c279 => ?_) (fun q => absurd q (by omega))
                            refine br_aload_0 dX3_go_299 ?_
                            refine br_dup dX3_go_300 rfl ?_
                            refine br_mg_4 (v := F2 4) rfl dX3_go_301 ?_
                            refine br_iconst dX3_go_304 ?_
                            refine br_iadd dX3_go_305 ?_
                            refine br_mp_4 dX3_go_306 ?_
                            refine br_goto (tgt := 177) dX3_go_309 (by decide) ?_
                            refine br_fg_4 ?_
                            have hal : isAl (T (F2 4)) := by unfold isAl isLt isDg; omega
                            have hgood : ((0 : Int) = 1 ∧ allDg T (F1 4) (F2 4 + 1)) ∨ ((0 : Int) = 0 ∧ ¬ allDg T (F1 4) (F2 4 + 1)) := by
                              rcases r5 with ⟨r5, r5a⟩ | ⟨r5, r5a⟩
                              · exact Or.inr ⟨rfl, allDg_x (by omega) (by unfold isDg; omega)⟩
                              · exact Or.inr ⟨rfl, allDg_n r5a⟩
                            have hh6 : wd2 = hashT T (F1 4) (F2 4 + 1) := by rw [hashT_stay (by omega)]; exact r6
                            have hn7 : F2 7 = numV T (F1 4) (F2 4 + 1) := by rw [numV_stay (by omega)]; exact r7
                            exact ih177 _ _ _ (show (n - (F2 4 + 1)).toNat < _ from by omega) ⟨q0, q2, q3, q8, q9, q14, q16, q17⟩ r2 (show F1 4 ≤ F2 4 + 1 ∧ F2 4 + 1 ≤ n from by omega) (run_s r4 (by omega) hal) hgood hh6 hn7
                          · refine br_aload_0 dX3_go_249 ?_
                            refine br_ldc2 (z := 27) q1386 (by decide) dX3_go_250 ?_
                            refine br_aload_0 dX3_go_253 ?_
                            refine br_mg_10 dX3_go_254 ?_
                            refine br_lmul dX3_go_257 ?_
                            refine br_iload_4 dX3_go_258 ?_
                            refine br_i2l dX3_go_260 (by omega) ?_
                            refine br_ladd dX3_go_261 ?_
                            refine br_ldc2 (z := 96) q1387 (by decide) dX3_go_262 ?_
                            refine br_lsub dX3_go_265 ?_
                            refine br_mp_10 dX3_go_266 ?_
                            refine br_aload_0 dX3_go_269 ?_
                            refine br_mg_4 (v := F2 4) rfl dX3_go_270 ?_
                            refine br_aload_0 dX3_go_273 ?_
                            refine br_mg_5 (v := F2 5) rfl dX3_go_274 ?_
                            refine br_isub dX3_go_277 ?_
                            refine br_iconst dX3_go_278 ?_
                            refine br_icmp_ge (tgt := 299) dX3_go_279 (by decide) (by omega) (fun c279 => ?_) (fun c279 => ?_)
                            · refine br_aload_0 dX3_go_299 ?_
                              refine br_dup dX3_go_300 rfl ?_
                              refine br_mg_4 (v := F2 4) rfl dX3_go_301 ?_
                              refine br_iconst dX3_go_304 ?_
                              refine br_iadd dX3_go_305 ?_
                              refine br_mp_4 dX3_go_306 ?_
                              refine br_goto (tgt := 177) dX3_go_309 (by decide) ?_
                              refine br_fg_4 ?_
                              have hal : isAl (T (F2 4)) := by unfold isAl isLt isDg; omega
                              have hgood : ((0 : Int) = 1 ∧ allDg T (F1 4) (F2 4 + 1)) ∨ ((0 : Int) = 0 ∧ ¬ allDg T (F1 4) (F2 4 + 1)) := by
                                rcases r5 with ⟨r5, r5a⟩ | ⟨r5, r5a⟩
                                · exact Or.inr ⟨rfl, allDg_x (by omega) (by unfold isDg; omega)⟩
                                · exact Or.inr ⟨rfl, allDg_n r5a⟩
                              have hh6 : ((27 * wd2) + (G 1 (F2 4))) - 96 = hashT T (F1 4) (F2 4 + 1) := by rw [hashT_step (by omega), ← r6]; omega
                              have hn7 : F2 7 = numV T (F1 4) (F2 4 + 1) := by rw [numV_stay (by omega)]; exact r7
                              exact ih177 _ _ _ (show (n - (F2 4 + 1)).toNat < _ from by omega) ⟨q0, q2, q3, q8, q9, q14, q16, q17⟩ r2 (show F1 4 ≤ F2 4 + 1 ∧ F2 4 + 1 ≤ n from by omega) (run_s r4 (by omega) hal) hgood hh6 hn7
                            · refine br_aload_0 dX3_go_282 ?_
                              refine br_bipush dX3_go_283 (by decide) ?_
                              refine br_aload_0 dX3_go_285 ?_
                              refine br_mg_7 (v := F2 7) rfl dX3_go_286 ?_
                              refine br_imul dX3_go_289 ?_
                              refine br_iload_4 dX3_go_290 ?_
                              refine br_iadd dX3_go_292 ?_
                              refine br_bipush dX3_go_293 (by decide) ?_
                              refine br_isub dX3_go_295 ?_
                              refine br_mp_7 dX3_go_296 ?_
                              refine br_aload_0 dX3_go_299 ?_
                              refine br_dup dX3_go_300 rfl ?_
                              refine br_mg_4 (v := F2 4) rfl dX3_go_301 ?_
                              refine br_iconst dX3_go_304 ?_
                              refine br_iadd dX3_go_305 ?_
                              refine br_mp_4 dX3_go_306 ?_
                              refine br_goto (tgt := 177) dX3_go_309 (by decide) ?_
                              refine br_fg_4 ?_
                              have hal : isAl (T (F2 4)) := by unfold isAl isLt isDg; omega
                              have hgood : ((0 : Int) = 1 ∧ allDg T (F1 4) (F2 4 + 1)) ∨ ((0 : Int) = 0 ∧ ¬ allDg T (F1 4) (F2 4 + 1)) := by
                                rcases r5 with ⟨r5, r5a⟩ | ⟨r5, r5a⟩
                                · exact Or.inr ⟨rfl, allDg_x (by omega) (by unfold isDg; omega)⟩
                                · exact Or.inr ⟨rfl, allDg_n r5a⟩
                              have hh6 : ((27 * wd2) + (G 1 (F2 4))) - 96 = hashT T (F1 4) (F2 4 + 1) := by rw [hashT_step (by omega), ← r6]; omega
                              have hn7 : ((10 * (F2 7)) + (G 1 (F2 4))) - 48 = numV T (F1 4) (F2 4 + 1) := by rw [numV_step (by omega), ← r7]; omega
                              exact ih177 _ _ _ (show (n - (F2 4 + 1)).toNat < _ from by omega) ⟨q0, q2, q3, q8, q9, q14, q16, q17⟩ r2 (show F1 4 ≤ F2 4 + 1 ∧ F2 4 + 1 ≤ n from by omega) (run_s r4 (by omega) hal) hgood hh6 hn7
                        · refine br_iload_4 dX3_go_220 ?_
                          refine br_SZ1 (ct_m_isLetter (by omega)) lk_X3_30 ⟨Nat.le_of_ble_eq_true rfl, Nat.le_of_ble_eq_true rfl⟩ ⟨Nat.le_of_ble_eq_true rfl, Nat.le_of_ble_eq_true rfl⟩  (Nat.le_of_ble_eq_true rfl) dX3_go_222 (fun c222 => ?_) (fun q => absurd q (by omega))
                          refine br_iload_2 dX3_go_225 ?_
                          refine br_icmp_ne (tgt := 233) dX3_go_226 (by decide) (by decide) (fun _ => ?_) (fun q => absurd q (by decide))
                          refine br_iconst dX3_go_233 ?_
                          refine br_istore_3 dX3_go_234 rfl ?_
                          refine br_aload_0 dX3_go_235 ?_
                          refine br_mg_4 (v := F2 4) rfl dX3_go_236 ?_
                          refine br_aload_0 dX3_go_239 ?_
                          refine br_mg_5 (v := F2 5) rfl dX3_go_240 ?_
                          refine br_isub dX3_go_243 ?_
                          refine br_bipush dX3_go_244 (by decide) ?_
                          refine br_icmp_ge (tgt := 269) dX3_go_246 (by decide) (by omega) (fun c246 => ?_) (fun c246 => ?_)
                          · refine br_aload_0 dX3_go_269 ?_
                            refine br_mg_4 (v := F2 4) rfl dX3_go_270 ?_
                            refine br_aload_0 dX3_go_273 ?_
                            refine br_mg_5 (v := F2 5) rfl dX3_go_274 ?_
                            refine br_isub dX3_go_277 ?_
                            refine br_iconst dX3_go_278 ?_
                            refine br_icmp_ge (tgt := 299) dX3_go_279 (by decide) (by omega) (fun c279 => ?_) (fun q => absurd q (by omega))
                            refine br_aload_0 dX3_go_299 ?_
                            refine br_dup dX3_go_300 rfl ?_
                            refine br_mg_4 (v := F2 4) rfl dX3_go_301 ?_
                            refine br_iconst dX3_go_304 ?_
                            refine br_iadd dX3_go_305 ?_
                            refine br_mp_4 dX3_go_306 ?_
                            refine br_goto (tgt := 177) dX3_go_309 (by decide) ?_
                            refine br_fg_4 ?_
                            have hal : isAl (T (F2 4)) := by unfold isAl isLt isDg; omega
                            have hgood : ((0 : Int) = 1 ∧ allDg T (F1 4) (F2 4 + 1)) ∨ ((0 : Int) = 0 ∧ ¬ allDg T (F1 4) (F2 4 + 1)) := by
                              rcases r5 with ⟨r5, r5a⟩ | ⟨r5, r5a⟩
                              · exact Or.inr ⟨rfl, allDg_x (by omega) (by unfold isDg; omega)⟩
                              · exact Or.inr ⟨rfl, allDg_n r5a⟩
                            have hh6 : wd2 = hashT T (F1 4) (F2 4 + 1) := by rw [hashT_stay (by omega)]; exact r6
                            have hn7 : F2 7 = numV T (F1 4) (F2 4 + 1) := by rw [numV_stay (by omega)]; exact r7
                            exact ih177 _ _ _ (show (n - (F2 4 + 1)).toNat < _ from by omega) ⟨q0, q2, q3, q8, q9, q14, q16, q17⟩ r2 (show F1 4 ≤ F2 4 + 1 ∧ F2 4 + 1 ≤ n from by omega) (run_s r4 (by omega) hal) hgood hh6 hn7
                          · refine br_aload_0 dX3_go_249 ?_
                            refine br_ldc2 (z := 27) q1386 (by decide) dX3_go_250 ?_
                            refine br_aload_0 dX3_go_253 ?_
                            refine br_mg_10 dX3_go_254 ?_
                            refine br_lmul dX3_go_257 ?_
                            refine br_iload_4 dX3_go_258 ?_
                            refine br_i2l dX3_go_260 (by omega) ?_
                            refine br_ladd dX3_go_261 ?_
                            refine br_ldc2 (z := 96) q1387 (by decide) dX3_go_262 ?_
                            refine br_lsub dX3_go_265 ?_
                            refine br_mp_10 dX3_go_266 ?_
                            refine br_aload_0 dX3_go_269 ?_
                            refine br_mg_4 (v := F2 4) rfl dX3_go_270 ?_
                            refine br_aload_0 dX3_go_273 ?_
                            refine br_mg_5 (v := F2 5) rfl dX3_go_274 ?_
                            refine br_isub dX3_go_277 ?_
                            refine br_iconst dX3_go_278 ?_
                            refine br_icmp_ge (tgt := 299) dX3_go_279 (by decide) (by omega) (fun c279 => ?_) (fun c279 => ?_)
                            · refine br_aload_0 dX3_go_299 ?_
                              refine br_dup dX3_go_300 rfl ?_
                              refine br_mg_4 (v := F2 4) rfl dX3_go_301 ?_
                              refine br_iconst dX3_go_304 ?_
                              refine br_iadd dX3_go_305 ?_
                              refine br_mp_4 dX3_go_306 ?_
                              refine br_goto (tgt := 177) dX3_go_309 (by decide) ?_
                              refine br_fg_4 ?_
                              have hal : isAl (T (F2 4)) := by unfold isAl isLt isDg; omega
                              have hgood : ((0 : Int) = 1 ∧ allDg T (F1 4) (F2 4 + 1)) ∨ ((0 : Int) = 0 ∧ ¬ allDg T (F1 4) (F2 4 + 1)) := by
                                rcases r5 with ⟨r5, r5a⟩ | ⟨r5, r5a⟩
                                · exact Or.inr ⟨rfl, allDg_x (by omega) (by unfold isDg; omega)⟩
                                · exact Or.inr ⟨rfl, allDg_n r5a⟩
                              have hh6 : ((27 * wd2) + (G 1 (F2 4))) - 96 = hashT T (F1 4) (F2 4 + 1) := by rw [hashT_step (by omega), ← r6]; omega
                              have hn7 : F2 7 = numV T (F1 4) (F2 4 + 1) := by rw [numV_stay (by omega)]; exact r7
                              exact ih177 _ _ _ (show (n - (F2 4 + 1)).toNat < _ from by omega) ⟨q0, q2, q3, q8, q9, q14, q16, q17⟩ r2 (show F1 4 ≤ F2 4 + 1 ∧ F2 4 + 1 ≤ n from by omega) (run_s r4 (by omega) hal) hgood hh6 hn7
                            · refine br_aload_0 dX3_go_282 ?_
                              refine br_bipush dX3_go_283 (by decide) ?_
                              refine br_aload_0 dX3_go_285 ?_
                              refine br_mg_7 (v := F2 7) rfl dX3_go_286 ?_
                              refine br_imul dX3_go_289 ?_
                              refine br_iload_4 dX3_go_290 ?_
                              refine br_iadd dX3_go_292 ?_
                              refine br_bipush dX3_go_293 (by decide) ?_
                              refine br_isub dX3_go_295 ?_
                              refine br_mp_7 dX3_go_296 ?_
                              refine br_aload_0 dX3_go_299 ?_
                              refine br_dup dX3_go_300 rfl ?_
                              refine br_mg_4 (v := F2 4) rfl dX3_go_301 ?_
                              refine br_iconst dX3_go_304 ?_
                              refine br_iadd dX3_go_305 ?_
                              refine br_mp_4 dX3_go_306 ?_
                              refine br_goto (tgt := 177) dX3_go_309 (by decide) ?_
                              refine br_fg_4 ?_
                              have hal : isAl (T (F2 4)) := by unfold isAl isLt isDg; omega
                              have hgood : ((0 : Int) = 1 ∧ allDg T (F1 4) (F2 4 + 1)) ∨ ((0 : Int) = 0 ∧ ¬ allDg T (F1 4) (F2 4 + 1)) := by
                                rcases r5 with ⟨r5, r5a⟩ | ⟨r5, r5a⟩
                                · exact Or.inr ⟨rfl, allDg_x (by omega) (by unfold isDg; omega)⟩
                                · exact Or.inr ⟨rfl, allDg_n r5a⟩
                              have hh6 : ((27 * wd2) + (G 1 (F2 4))) - 96 = hashT T (F1 4) (F2 4 + 1) := by rw [hashT_step (by omega), ← r6]; omega
                              have hn7 : ((10 * (F2 7)) + (G 1 (F2 4))) - 48 = numV T (F1 4) (F2 4 + 1) := by rw [numV_step (by omega), ← r7]; omega
                              exact ih177 _ _ _ (show (n - (F2 4 + 1)).toNat < _ from by omega) ⟨q0, q2, q3, q8, q9, q14, q16, q17⟩ r2 (show F1 4 ≤ F2 4 + 1 ∧ F2 4 + 1 ≤ n from by omega) (run_s r4 (by omega) hal) hgood hh6 hn7
                      · have hz185 : ¬ (97 ≤ v182 ∧ v182 ≤ 122) := c185
                        refine br_if_ne (tgt := 205) dX3_go_188 (by decide) (by decide) (fun q => absurd q (by decide)) (fun _ => ?_)
                        refine br_aload_0 dX3_go_191 ?_
                        refine br_aload_0 dX3_go_192 ?_
                        refine br_mg_4 (v := F2 4) rfl dX3_go_193 ?_
                        refine br_Vi1 (i := 40) (j := 0) (ct_m_tapeAt (T := T) (n := n) hT (by omega) (by omega)) lk_X3_44 ⟨Nat.le_of_ble_eq_true rfl, Nat.le_of_ble_eq_true rfl⟩ ⟨Nat.le_of_ble_eq_true rfl, Nat.le_of_ble_eq_true rfl⟩ rfl rfl (Nat.le_of_ble_eq_true rfl) dX3_go_196 (fun v196 w_ hw_ => ?_)
                        obtain ⟨hb196, rfl⟩ := hw_
                        refine br_SZ1 (ct_m_isDigit (by omega)) lk_X3_34 ⟨Nat.le_of_ble_eq_true rfl, Nat.le_of_ble_eq_true rfl⟩ ⟨Nat.le_of_ble_eq_true rfl, Nat.le_of_ble_eq_true rfl⟩  (Nat.le_of_ble_eq_true rfl) dX3_go_199 (fun c199 => ?_) (fun c199 => ?_)
                        · refine br_if_eq (tgt := 312) dX3_go_202 (by decide) (by decide) (fun q => absurd q (by decide)) (fun _ => ?_)
                          have ht2 := hT.1 (F2 4) (by omega) (by omega)
                          refine br_aload_0 dX3_go_205 ?_
                          refine br_mg_1 dX3_go_206 ?_
                          refine br_aload_0 dX3_go_209 ?_
                          refine br_mg_4 (v := F2 4) rfl dX3_go_210 ?_
                          refine br_ml_1 (v := G 1 (F2 4)) (by omega) rfl dX3_go_213 ?_
                          refine br_istore_4 dX3_go_214 rfl ?_
                          refine br_iload_3 dX3_go_216 ?_
                          refine br_if_eq (tgt := 233) dX3_go_217 (by decide) (by omega) (fun c217 => ?_) (fun c217 => ?_)
                          · refine br_iconst dX3_go_233 ?_
                            refine br_istore_3 dX3_go_234 rfl ?_
                            refine br_aload_0 dX3_go_235 ?_
                            refine br_mg_4 (v := F2 4) rfl dX3_go_236 ?_
                            refine br_aload_0 dX3_go_239 ?_
                            refine br_mg_5 (v := F2 5) rfl dX3_go_240 ?_
                            refine br_isub dX3_go_243 ?_
                            refine br_bipush dX3_go_244 (by decide) ?_
                            refine br_icmp_ge (tgt := 269) dX3_go_246 (by decide) (by omega) (fun c246 => ?_) (fun c246 => ?_)
                            · refine br_aload_0 dX3_go_269 ?_
                              refine br_mg_4 (v := F2 4) rfl dX3_go_270 ?_
                              refine br_aload_0 dX3_go_273 ?_
                              refine br_mg_5 (v := F2 5) rfl dX3_go_274 ?_
                              refine br_isub dX3_go_277 ?_
                              refine br_iconst dX3_go_278 ?_
                              refine br_icmp_ge (tgt := 299) dX3_go_279 (by decide) (by omega) (fun c279 => ?_) (fun q => absurd q (by omega))
                              refine br_aload_0 dX3_go_299 ?_
                              refine br_dup dX3_go_300 rfl ?_
                              refine br_mg_4 (v := F2 4) rfl dX3_go_301 ?_
                              refine br_iconst dX3_go_304 ?_
                              refine br_iadd dX3_go_305 ?_
                              refine br_mp_4 dX3_go_306 ?_
                              refine br_goto (tgt := 177) dX3_go_309 (by decide) ?_
                              refine br_fg_4 ?_
                              have hal : isAl (T (F2 4)) := by unfold isAl isLt isDg; omega
                              have hgood : ((0 : Int) = 1 ∧ allDg T (F1 4) (F2 4 + 1)) ∨ ((0 : Int) = 0 ∧ ¬ allDg T (F1 4) (F2 4 + 1)) := by
                                rcases r5 with ⟨r5, r5a⟩ | ⟨r5, r5a⟩
                                · exact Or.inr ⟨rfl, allDg_x (by omega) (by unfold isDg; omega)⟩
                                · exact Or.inr ⟨rfl, allDg_n r5a⟩
                              have hh6 : wd2 = hashT T (F1 4) (F2 4 + 1) := by rw [hashT_stay (by omega)]; exact r6
                              have hn7 : F2 7 = numV T (F1 4) (F2 4 + 1) := by rw [numV_stay (by omega)]; exact r7
                              exact ih177 _ _ _ (show (n - (F2 4 + 1)).toNat < _ from by omega) ⟨q0, q2, q3, q8, q9, q14, q16, q17⟩ r2 (show F1 4 ≤ F2 4 + 1 ∧ F2 4 + 1 ≤ n from by omega) (run_s r4 (by omega) hal) hgood hh6 hn7
                            · refine br_aload_0 dX3_go_249 ?_
                              refine br_ldc2 (z := 27) q1386 (by decide) dX3_go_250 ?_
                              refine br_aload_0 dX3_go_253 ?_
                              refine br_mg_10 dX3_go_254 ?_
                              refine br_lmul dX3_go_257 ?_
                              refine br_iload_4 dX3_go_258 ?_
                              refine br_i2l dX3_go_260 (by omega) ?_
                              refine br_ladd dX3_go_261 ?_
                              refine br_ldc2 (z := 96) q1387 (by decide) dX3_go_262 ?_
                              refine br_lsub dX3_go_265 ?_
                              refine br_mp_10 dX3_go_266 ?_
                              refine br_aload_0 dX3_go_269 ?_
                              refine br_mg_4 (v := F2 4) rfl dX3_go_270 ?_
                              refine br_aload_0 dX3_go_273 ?_
                              refine br_mg_5 (v := F2 5) rfl dX3_go_274 ?_
                              refine br_isub dX3_go_277 ?_
                              refine br_iconst dX3_go_278 ?_
                              refine br_icmp_ge (tgt := 299) dX3_go_279 (by decide) (by omega) (fun c279 => ?_) (fun c279 => ?_)
                              · refine br_aload_0 dX3_go_299 ?_
                                refine br_dup dX3_go_300 rfl ?_
                                refine br_mg_4 (v := F2 4) rfl dX3_go_301 ?_
                                refine br_iconst dX3_go_304 ?_
                                refine br_iadd dX3_go_305 ?_
                                refine br_mp_4 dX3_go_306 ?_
                                refine br_goto (tgt := 177) dX3_go_309 (by decide) ?_
                                refine br_fg_4 ?_
                                have hal : isAl (T (F2 4)) := by unfold isAl isLt isDg; omega
                                have hgood : ((0 : Int) = 1 ∧ allDg T (F1 4) (F2 4 + 1)) ∨ ((0 : Int) = 0 ∧ ¬ allDg T (F1 4) (F2 4 + 1)) := by
                                  rcases r5 with ⟨r5, r5a⟩ | ⟨r5, r5a⟩
                                  · exact Or.inr ⟨rfl, allDg_x (by omega) (by unfold isDg; omega)⟩
                                  · exact Or.inr ⟨rfl, allDg_n r5a⟩
                                have hh6 : ((27 * wd2) + (G 1 (F2 4))) - 96 = hashT T (F1 4) (F2 4 + 1) := by rw [hashT_step (by omega), ← r6]; omega
                                have hn7 : F2 7 = numV T (F1 4) (F2 4 + 1) := by rw [numV_stay (by omega)]; exact r7
                                exact ih177 _ _ _ (show (n - (F2 4 + 1)).toNat < _ from by omega) ⟨q0, q2, q3, q8, q9, q14, q16, q17⟩ r2 (show F1 4 ≤ F2 4 + 1 ∧ F2 4 + 1 ≤ n from by omega) (run_s r4 (by omega) hal) hgood hh6 hn7
                              · refine br_aload_0 dX3_go_282 ?_
                                refine br_bipush dX3_go_283 (by decide) ?_
                                refine br_aload_0 dX3_go_285 ?_
                                refine br_mg_7 (v := F2 7) rfl dX3_go_286 ?_
                                refine br_imul dX3_go_289 ?_
                                refine br_iload_4 dX3_go_290 ?_
                                refine br_iadd dX3_go_292 ?_
                                refine br_bipush dX3_go_293 (by decide) ?_
                                refine br_isub dX3_go_295 ?_
                                refine br_mp_7 dX3_go_296 ?_
                                refine br_aload_0 dX3_go_299 ?_
                                refine br_dup dX3_go_300 rfl ?_
                                refine br_mg_4 (v := F2 4) rfl dX3_go_301 ?_
                                refine br_iconst dX3_go_304 ?_
                                refine br_iadd dX3_go_305 ?_
                                refine br_mp_4 dX3_go_306 ?_
                                refine br_goto (tgt := 177) dX3_go_309 (by decide) ?_
                                refine br_fg_4 ?_
                                have hal : isAl (T (F2 4)) := by unfold isAl isLt isDg; omega
                                have hgood : ((0 : Int) = 1 ∧ allDg T (F1 4) (F2 4 + 1)) ∨ ((0 : Int) = 0 ∧ ¬ allDg T (F1 4) (F2 4 + 1)) := by
                                  rcases r5 with ⟨r5, r5a⟩ | ⟨r5, r5a⟩
                                  · exact Or.inr ⟨rfl, allDg_x (by omega) (by unfold isDg; omega)⟩
                                  · exact Or.inr ⟨rfl, allDg_n r5a⟩
                                have hh6 : ((27 * wd2) + (G 1 (F2 4))) - 96 = hashT T (F1 4) (F2 4 + 1) := by rw [hashT_step (by omega), ← r6]; omega
                                have hn7 : ((10 * (F2 7)) + (G 1 (F2 4))) - 48 = numV T (F1 4) (F2 4 + 1) := by rw [numV_step (by omega), ← r7]; omega
                                exact ih177 _ _ _ (show (n - (F2 4 + 1)).toNat < _ from by omega) ⟨q0, q2, q3, q8, q9, q14, q16, q17⟩ r2 (show F1 4 ≤ F2 4 + 1 ∧ F2 4 + 1 ≤ n from by omega) (run_s r4 (by omega) hal) hgood hh6 hn7
                          · refine br_iload_4 dX3_go_220 ?_
                            refine br_SZ1 (ct_m_isLetter (by omega)) lk_X3_30 ⟨Nat.le_of_ble_eq_true rfl, Nat.le_of_ble_eq_true rfl⟩ ⟨Nat.le_of_ble_eq_true rfl, Nat.le_of_ble_eq_true rfl⟩  (Nat.le_of_ble_eq_true rfl) dX3_go_222 (fun q => absurd q (by omega)) (fun c222 => ?_)
                            refine br_iload_2 dX3_go_225 ?_
                            refine br_icmp_ne (tgt := 233) dX3_go_226 (by decide) (by decide) (fun q => absurd q (by decide)) (fun _ => ?_)
                            refine br_iconst dX3_go_229 ?_
                            refine br_goto (tgt := 234) dX3_go_230 (by decide) ?_
                            refine br_istore_3 dX3_go_234 rfl ?_
                            refine br_aload_0 dX3_go_235 ?_
                            refine br_mg_4 (v := F2 4) rfl dX3_go_236 ?_
                            refine br_aload_0 dX3_go_239 ?_
                            refine br_mg_5 (v := F2 5) rfl dX3_go_240 ?_
                            refine br_isub dX3_go_243 ?_
                            refine br_bipush dX3_go_244 (by decide) ?_
                            refine br_icmp_ge (tgt := 269) dX3_go_246 (by decide) (by omega) (fun c246 => ?_) (fun c246 => ?_)
                            · refine br_aload_0 dX3_go_269 ?_
                              refine br_mg_4 (v := F2 4) rfl dX3_go_270 ?_
                              refine br_aload_0 dX3_go_273 ?_
                              refine br_mg_5 (v := F2 5) rfl dX3_go_274 ?_
                              refine br_isub dX3_go_277 ?_
                              refine br_iconst dX3_go_278 ?_
                              refine br_icmp_ge (tgt := 299) dX3_go_279 (by decide) (by omega) (fun c279 => ?_) (fun q => absurd q (by omega))
                              refine br_aload_0 dX3_go_299 ?_
                              refine br_dup dX3_go_300 rfl ?_
                              refine br_mg_4 (v := F2 4) rfl dX3_go_301 ?_
                              refine br_iconst dX3_go_304 ?_
                              refine br_iadd dX3_go_305 ?_
                              refine br_mp_4 dX3_go_306 ?_
                              refine br_goto (tgt := 177) dX3_go_309 (by decide) ?_
                              refine br_fg_4 ?_
                              have hal : isAl (T (F2 4)) := by unfold isAl isLt isDg; omega
                              have hgood : ((1 : Int) = 1 ∧ allDg T (F1 4) (F2 4 + 1)) ∨ ((1 : Int) = 0 ∧ ¬ allDg T (F1 4) (F2 4 + 1)) := by
                                rcases r5 with ⟨r5, r5a⟩ | ⟨r5, r5a⟩
                                · exact Or.inl ⟨rfl, allDg_s r5a (by unfold isDg; unfold isAl isLt isDg at hal; omega)⟩
                                · omega
                              have hh6 : wd2 = hashT T (F1 4) (F2 4 + 1) := by rw [hashT_stay (by omega)]; exact r6
                              have hn7 : F2 7 = numV T (F1 4) (F2 4 + 1) := by rw [numV_stay (by omega)]; exact r7
                              exact ih177 _ _ _ (show (n - (F2 4 + 1)).toNat < _ from by omega) ⟨q0, q2, q3, q8, q9, q14, q16, q17⟩ r2 (show F1 4 ≤ F2 4 + 1 ∧ F2 4 + 1 ≤ n from by omega) (run_s r4 (by omega) hal) hgood hh6 hn7
                            · refine br_aload_0 dX3_go_249 ?_
                              refine br_ldc2 (z := 27) q1386 (by decide) dX3_go_250 ?_
                              refine br_aload_0 dX3_go_253 ?_
                              refine br_mg_10 dX3_go_254 ?_
                              refine br_lmul dX3_go_257 ?_
                              refine br_iload_4 dX3_go_258 ?_
                              refine br_i2l dX3_go_260 (by omega) ?_
                              refine br_ladd dX3_go_261 ?_
                              refine br_ldc2 (z := 96) q1387 (by decide) dX3_go_262 ?_
                              refine br_lsub dX3_go_265 ?_
                              refine br_mp_10 dX3_go_266 ?_
                              refine br_aload_0 dX3_go_269 ?_
                              refine br_mg_4 (v := F2 4) rfl dX3_go_270 ?_
                              refine br_aload_0 dX3_go_273 ?_
                              refine br_mg_5 (v := F2 5) rfl dX3_go_274 ?_
                              refine br_isub dX3_go_277 ?_
                              refine br_iconst dX3_go_278 ?_
                              refine br_icmp_ge (tgt := 299) dX3_go_279 (by decide) (by omega) (fun c279 => ?_) (fun c279 => ?_)
                              · refine br_aload_0 dX3_go_299 ?_
                                refine br_dup dX3_go_300 rfl ?_
                                refine br_mg_4 (v := F2 4) rfl dX3_go_301 ?_
                                refine br_iconst dX3_go_304 ?_
                                refine br_iadd dX3_go_305 ?_
                                refine br_mp_4 dX3_go_306 ?_
                                refine br_goto (tgt := 177) dX3_go_309 (by decide) ?_
                                refine br_fg_4 ?_
                                have hal : isAl (T (F2 4)) := by unfold isAl isLt isDg; omega
                                have hgood : ((1 : Int) = 1 ∧ allDg T (F1 4) (F2 4 + 1)) ∨ ((1 : Int) = 0 ∧ ¬ allDg T (F1 4) (F2 4 + 1)) := by
                                  rcases r5 with ⟨r5, r5a⟩ | ⟨r5, r5a⟩
                                  · exact Or.inl ⟨rfl, allDg_s r5a (by unfold isDg; unfold isAl isLt isDg at hal; omega)⟩
                                  · omega
                                have hh6 : ((27 * wd2) + (G 1 (F2 4))) - 96 = hashT T (F1 4) (F2 4 + 1) := by rw [hashT_step (by omega), ← r6]; omega
                                have hn7 : F2 7 = numV T (F1 4) (F2 4 + 1) := by rw [numV_stay (by omega)]; exact r7
                                exact ih177 _ _ _ (show (n - (F2 4 + 1)).toNat < _ from by omega) ⟨q0, q2, q3, q8, q9, q14, q16, q17⟩ r2 (show F1 4 ≤ F2 4 + 1 ∧ F2 4 + 1 ≤ n from by omega) (run_s r4 (by omega) hal) hgood hh6 hn7
                              · refine br_aload_0 dX3_go_282 ?_
                                refine br_bipush dX3_go_283 (by decide) ?_
                                refine br_aload_0 dX3_go_285 ?_
                                refine br_mg_7 (v := F2 7) rfl dX3_go_286 ?_
                                refine br_imul dX3_go_289 ?_
                                refine br_iload_4 dX3_go_290 ?_
                                refine br_iadd dX3_go_292 ?_
                                refine br_bipush dX3_go_293 (by decide) ?_
                                refine br_isub dX3_go_295 ?_
                                refine br_mp_7 dX3_go_296 ?_
                                refine br_aload_0 dX3_go_299 ?_
                                refine br_dup dX3_go_300 rfl ?_
                                refine br_mg_4 (v := F2 4) rfl dX3_go_301 ?_
                                refine br_iconst dX3_go_304 ?_
                                refine br_iadd dX3_go_305 ?_
                                refine br_mp_4 dX3_go_306 ?_
                                refine br_goto (tgt := 177) dX3_go_309 (by decide) ?_
                                refine br_fg_4 ?_
                                have hal : isAl (T (F2 4)) := by unfold isAl isLt isDg; omega
                                have hgood : ((1 : Int) = 1 ∧ allDg T (F1 4) (F2 4 + 1)) ∨ ((1 : Int) = 0 ∧ ¬ allDg T (F1 4) (F2 4 + 1)) := by
                                  rcases r5 with ⟨r5, r5a⟩ | ⟨r5, r5a⟩
                                  · exact Or.inl ⟨rfl, allDg_s r5a (by unfold isDg; unfold isAl isLt isDg at hal; omega)⟩
                                  · omega
                                have hh6 : ((27 * wd2) + (G 1 (F2 4))) - 96 = hashT T (F1 4) (F2 4 + 1) := by rw [hashT_step (by omega), ← r6]; omega
                                have hn7 : ((10 * (F2 7)) + (G 1 (F2 4))) - 48 = numV T (F1 4) (F2 4 + 1) := by rw [numV_step (by omega), ← r7]; omega
                                exact ih177 _ _ _ (show (n - (F2 4 + 1)).toNat < _ from by omega) ⟨q0, q2, q3, q8, q9, q14, q16, q17⟩ r2 (show F1 4 ≤ F2 4 + 1 ∧ F2 4 + 1 ≤ n from by omega) (run_s r4 (by omega) hal) hgood hh6 hn7
                        · refine br_if_eq (tgt := 312) dX3_go_202 (by decide) (by decide) (fun _ => ?_) (fun q => absurd q (by decide))
                          have hrun : runR T n (F1 4) (F2 4) := ⟨by omega, r4, by unfold isAl isLt isDg; omega⟩
                          have hlt := runR_pos hrun (by omega) hal0
                          refine br_aload_0 dX3_go_312 ?_
                          refine br_iload_3 dX3_go_313 ?_
                          refine br_if_eq (tgt := 334) dX3_go_314 (by decide) (by omega) (fun c314 => ?_) (fun c314 => ?_)
                          · have hnok := (r5.resolve_left (fun q => by have := q.1; omega)).2
                            refine br_iconst dX3_go_334 ?_
                            refine br_goto (tgt := 347) dX3_go_335 (by decide) ?_
                            refine br_mp_6 dX3_go_347 ?_
                            exact br_return dX3_go_350 (by decide) (by decide) (hret _ _ (⟨rfl, _, _, rfl, goEnd (tk := (F1 4, 1, F2 4, 0)) ⟨F1 4, ⟨by omega, h2, by unfold isSp; omega⟩, Or.inr (Or.inr (Or.inr (Or.inr ⟨by omega, by omega, hal0, F2 4, hrun, Or.inr (Or.inr ⟨notLt_of hlt hfd, (fun q => by first | exact absurd q.1 hnok | (have := q.2; omega)), rfl⟩)⟩)))⟩ (mTk_mk 1 (F1 4) (F2 4) rfl r2 rfl (by omega) (by omega) (by omega)), ⟨q0, q2, q3, q8, q9, q14, q16, q17⟩⟩))
                          · refine br_iload_2 dX3_go_317 ?_
                            refine br_if_ne (tgt := 338) dX3_go_318 (by decide) (by decide) (fun q => absurd q (by decide)) (fun _ => ?_)
                            refine br_aload_0 dX3_go_321 ?_
                            refine br_mg_4 (v := F2 4) rfl dX3_go_322 ?_
                            refine br_aload_0 dX3_go_325 ?_
                            refine br_mg_5 (v := F2 5) rfl dX3_go_326 ?_
                            refine br_isub dX3_go_329 ?_
                            refine br_iconst dX3_go_330 ?_
                            refine br_icmp_le (tgt := 338) dX3_go_331 (by decide) (by omega) (fun c331 => ?_) (fun c331 => ?_)
                            · refine br_iload_2 dX3_go_338 ?_
                              refine br_if_eq (tgt := 346) dX3_go_339 (by decide) (by decide) (fun _ => ?_) (fun q => absurd q (by decide))
                              have hok := (r5.resolve_right (fun q => by have := q.1; omega)).2
                              refine br_iconst dX3_go_346 ?_
                              refine br_mp_6 dX3_go_347 ?_
                              exact br_return dX3_go_350 (by decide) (by decide) (hret _ _ (⟨rfl, _, _, rfl, goEnd (tk := (F1 4, 3, F2 4, numV T (F1 4) (F2 4))) ⟨F1 4, ⟨by omega, h2, by unfold isSp; omega⟩, Or.inr (Or.inr (Or.inr (Or.inr ⟨by omega, by omega, hal0, F2 4, hrun, Or.inr (Or.inl ⟨hok, by omega, rfl⟩)⟩)))⟩ (mTk_num (F1 4) (F2 4) _ rfl r2 rfl r7 (numV_bd hok (by omega)) (by omega) (by omega)), ⟨q0, q2, q3, q8, q9, q14, q16, q17⟩⟩))
                            · refine br_iconst dX3_go_334 ?_
                              refine br_goto (tgt := 347) dX3_go_335 (by decide) ?_
                              refine br_mp_6 dX3_go_347 ?_
                              exact br_return dX3_go_350 (by decide) (by decide) (hret _ _ (⟨rfl, _, _, rfl, goEnd (tk := (F1 4, 1, F2 4, 0)) ⟨F1 4, ⟨by omega, h2, by unfold isSp; omega⟩, Or.inr (Or.inr (Or.inr (Or.inr ⟨by omega, by omega, hal0, F2 4, hrun, Or.inr (Or.inr ⟨notLt_of hlt hfd, (fun q => by first | exact absurd q.1 hnok | (have := q.2; omega)), rfl⟩)⟩)))⟩ (mTk_mk 1 (F1 4) (F2 4) rfl r2 rfl (by omega) (by omega) (by omega)), ⟨q0, q2, q3, q8, q9, q14, q16, q17⟩⟩))
                  exact lp177 _ _ _ _ (Nat.lt_succ_self _) hk rfl (show F1 4 ≤ F1 4 ∧ F1 4 ≤ n from by omega) (show ∀ y : Int, F1 4 ≤ y → y < F1 4 → _ from fun y _ _ => by omega) (Or.inl ⟨rfl, allDg_0 _ _⟩) (hashT_0 _ _).symm (numV_0 _ _).symm
                · refine br_if_ne (tgt := 160) dX3_go_131 (by decide) (by decide) (fun q => absurd q (by decide)) (fun _ => ?_)
                  refine br_aload_0 dX3_go_134 ?_
                  refine br_iload_1 dX3_go_135 ?_
                  refine br_bipush dX3_go_136 (by decide) ?_
                  refine br_icmp_ne (tgt := 145) dX3_go_138 (by decide) (by omega) (fun c138 => ?_) (fun c138 => ?_)
                  · refine br_iconst dX3_go_145 ?_
                    refine br_mp_6 dX3_go_146 ?_
                    refine br_aload_0 dX3_go_149 ?_
                    refine br_dup dX3_go_150 rfl ?_
                    refine br_mg_4 (v := F1 4) rfl dX3_go_151 ?_
                    refine br_iconst dX3_go_154 ?_
                    refine br_iadd dX3_go_155 ?_
                    refine br_mp_4 dX3_go_156 ?_
                    exact br_return dX3_go_159 (by decide) (by decide) (hret _ _ (⟨rfl, _, _, rfl, goEnd (tk := (F1 4, 1, F1 4 + 1, 0)) ⟨F1 4, ⟨by omega, h2, by unfold isSp; omega⟩, Or.inr (Or.inr (Or.inr (Or.inl ⟨by omega, by omega, by unfold isAl isLt isDg; omega, by omega, rfl⟩)))⟩ (mTk_mk 1 (F1 4) (F1 4 + 1) rfl rfl rfl (by omega) (by omega) (by omega)), hk⟩))
                  · refine br_iconst dX3_go_141 ?_
                    refine br_goto (tgt := 146) dX3_go_142 (by decide) ?_
                    refine br_mp_6 dX3_go_146 ?_
                    refine br_aload_0 dX3_go_149 ?_
                    refine br_dup dX3_go_150 rfl ?_
                    refine br_mg_4 (v := F1 4) rfl dX3_go_151 ?_
                    refine br_iconst dX3_go_154 ?_
                    refine br_iadd dX3_go_155 ?_
                    refine br_mp_4 dX3_go_156 ?_
                    exact br_return dX3_go_159 (by decide) (by decide) (hret _ _ (⟨rfl, _, _, rfl, goEnd (tk := (F1 4, 4, F1 4 + 1, 0)) ⟨F1 4, ⟨by omega, h2, by unfold isSp; omega⟩, Or.inr (Or.inr (Or.inl ⟨by omega, by omega, by unfold isAl isLt isDg; omega, by omega, rfl⟩))⟩ (mTk_mk 4 (F1 4) (F1 4 + 1) rfl rfl rfl (by omega) (by omega) (by omega)), hk⟩))
            · refine br_aload_0 dX3_go_104 ?_
              refine br_iconst dX3_go_105 ?_
              refine br_mp_6 dX3_go_106 ?_
              exact br_return dX3_go_109 (by decide) (by decide) (hret _ _ (⟨rfl, _, _, rfl, goEnd (tk := (F1 4, 0, F1 4, 0)) ⟨F1 4, ⟨by omega, h2, by unfold isSp; omega⟩, Or.inr (Or.inl ⟨by omega, by omega, rfl⟩)⟩ (mTk_mk 0 (F1 4) (F1 4) rfl rfl rfl (by omega) (by omega) (by omega)), hk⟩))
          · refine br_aload_0 dX3_go_80 ?_
            refine br_sipush dX3_go_81 (by decide) ?_
            refine br_mp_5 dX3_go_84 ?_
            refine bk_V.world (w' := (mw o a (uF F1 5 600) wd G ex)) (congrArg (fun F9 => mw o a F9 wd G ex) (uF_uF _ _ _ _)) ?_
            refine br_aload_0 dX3_go_87 ?_
            refine br_iconst dX3_go_88 ?_
            refine br_mp_6 dX3_go_89 ?_
            exact br_return dX3_go_92 (by decide) (by decide) (hret _ _ (⟨rfl, _, _, rfl, goEnd (tk := (600, 1, F1 4, 0)) ⟨F1 4, ⟨by omega, h2, by unfold isSp; omega⟩, Or.inl ⟨by omega, by omega, rfl⟩⟩ (mTk_mk 1 600 (F1 4) rfl rfl rfl (by omega) (by omega) (by omega)), hk⟩))
      · have ht := hT.1 (F1 4) (by omega) (by omega)
        refine br_aload_0 dX3_go_11 ?_
        refine br_mg_1 dX3_go_12 ?_
        refine br_aload_0 dX3_go_15 ?_
        refine br_mg_4 (v := F1 4) rfl dX3_go_16 ?_
        refine br_ml_1 (v := G 1 (F1 4)) (by omega) rfl dX3_go_19 ?_
        refine br_bipush dX3_go_20 (by decide) ?_
        refine br_icmp_eq (tgt := 39) dX3_go_22 (by decide) (by omega) (fun c22 => ?_) (fun c22 => ?_)
        · refine br_aload_0 dX3_go_39 ?_
          refine br_dup dX3_go_40 rfl ?_
          refine br_mg_4 (v := F1 4) rfl dX3_go_41 ?_
          refine br_iconst dX3_go_44 ?_
          refine br_iadd dX3_go_45 ?_
          refine br_mp_4 dX3_go_46 ?_
          refine br_goto (tgt := 0) dX3_go_49 (by decide) ?_
          exact ih0 _ (show (n - (F1 4 + 1)).toNat < _ from by omega) hk (show F 4 ≤ F1 4 + 1 ∧ F1 4 + 1 ≤ n from by omega) (skip_s h2 (by omega) (by unfold isSp; omega))
        · refine br_aload_0 dX3_go_25 ?_
          refine br_mg_1 dX3_go_26 ?_
          refine br_aload_0 dX3_go_29 ?_
          refine br_mg_4 (v := F1 4) rfl dX3_go_30 ?_
          refine br_ml_1 (v := G 1 (F1 4)) (by omega) rfl dX3_go_33 ?_
          refine br_bipush dX3_go_34 (by decide) ?_
          refine br_icmp_ne (tgt := 52) dX3_go_36 (by decide) (by omega) (fun c36 => ?_) (fun c36 => ?_)
          · refine br_aload_0 dX3_go_52 ?_
            refine br_aload_0 dX3_go_53 ?_
            refine br_mg_4 (v := F1 4) rfl dX3_go_54 ?_
            refine br_mp_5 dX3_go_57 ?_
            refine br_aload_0 dX3_go_60 ?_
            refine br_mg_3 (v := F1 3) rfl dX3_go_61 ?_
            refine br_sipush dX3_go_64 (by decide) ?_
            refine br_icmp_le (tgt := 93) dX3_go_67 (by decide) (by omega) (fun c67 => ?_) (fun c67 => ?_)
            · refine br_aload_0 dX3_go_93 ?_
              refine br_mg_4 (v := F1 4) rfl dX3_go_94 ?_
              refine br_aload_0 dX3_go_97 ?_
              refine br_mg_3 (v := F1 3) rfl dX3_go_98 ?_
              refine br_icmp_lt (tgt := 110) dX3_go_101 (by decide) (by omega) (fun c101 => ?_) (fun c101 => ?_)
              · refine br_aload_0 dX3_go_110 ?_
                refine br_mg_1 dX3_go_111 ?_
                refine br_aload_0 dX3_go_114 ?_
                refine br_mg_4 (v := F1 4) rfl dX3_go_115 ?_
                refine br_ml_1 (v := G 1 (F1 4)) (by omega) rfl dX3_go_118 ?_
                refine br_istore_1 dX3_go_119 rfl ?_
                refine br_iload_1 dX3_go_120 ?_
                refine br_SZ1 (ct_m_isLetter (by omega)) lk_X3_30 ⟨Nat.le_of_ble_eq_true rfl, Nat.le_of_ble_eq_true rfl⟩ ⟨Nat.le_of_ble_eq_true rfl, Nat.le_of_ble_eq_true rfl⟩  (Nat.le_of_ble_eq_true rfl) dX3_go_121 (fun c121 => ?_) (fun c121 => ?_)
                · have hfd : isLt (T (F1 4)) := by unfold isLt; omega
                  refine br_if_ne (tgt := 160) dX3_go_124 (by decide) (by decide) (fun _ => ?_) (fun q => absurd q (by decide))
                  have hal0 : isAl (T (F1 4)) := by unfold isAl isLt isDg; omega
                  refine br_iload_1 dX3_go_160 ?_
                  refine br_SZ1 (ct_m_isLetter (by omega)) lk_X3_30 ⟨Nat.le_of_ble_eq_true rfl, Nat.le_of_ble_eq_true rfl⟩ ⟨Nat.le_of_ble_eq_true rfl, Nat.le_of_ble_eq_true rfl⟩  (Nat.le_of_ble_eq_true rfl) dX3_go_161 (fun c161 => ?_) (fun q => absurd q (by omega))
                  have hfd : isLt (T (F1 4)) := by unfold isLt; omega
                  refine br_istore_2 dX3_go_164 rfl ?_
                  refine br_iconst dX3_go_165 ?_
                  refine br_istore_3 dX3_go_166 rfl ?_
                  refine br_aload_0 dX3_go_167 ?_
                  refine br_lconst0 dX3_go_168 ?_
                  refine br_mp_10 dX3_go_169 ?_
                  refine br_aload_0 dX3_go_172 ?_
                  refine br_iconst dX3_go_173 ?_
                  refine br_mp_7 dX3_go_174 ?_
                  have lp177 : ∀ (mm177 : Nat) (F2 : Nat → Int) (wd2 : Int) (g : Int), (n - F2 4).toNat < mm177 → (mKp F F2) → (F2 5 = F1 4) → (F1 4 ≤ F2 4 ∧ F2 4 ≤ n) → (∀ y : Int, F1 4 ≤ y → y < F2 4 → y < n ∧ isAl (T y)) → ((g = 1 ∧ allLt T (F1 4) (F2 4)) ∨ (g = 0 ∧ ¬ allLt T (F1 4) (F2 4))) → (wd2 = hashT T (F1 4) (F2 4)) → (F2 7 = numV T (F1 4) (F2 4)) → bk_V Γ D ({ frames := 1, cells := 0, slots := 0, locals := 21 }) "BreakSetterModel" cX3_go [] 0 0 (mw o a F2 wd2 G ex) [some (.ref o), some (.int (iI (G 1 (F1 4)))), some (.int (iI 1)), some (.int (iI g)), none] [] 177 := by
                    intro mm177
                    induction mm177 with
                    | zero => intro F2 wd2 g hm177; exact absurd hm177 (Nat.not_lt_zero _)
                    | succ mm177 ih177 =>
                      intro F2 wd2 g hm177 r1 r2 r3 r4 r5 r6 r7
                      obtain ⟨q0, q2, q3, q8, q9, q14, q16, q17⟩ := r1
                      have r3a : F1 4 ≤ F2 4 ∧ F2 4 ≤ n := r3
                      refine br_aload_0 dX3_go_177 ?_
                      refine br_aload_0 dX3_go_178 ?_
                      refine br_mg_4 (v := F2 4) rfl dX3_go_179 ?_
                      refine br_Vi1 (i := 40) (j := 0) (ct_m_tapeAt (T := T) (n := n) hT (by omega) (by omega)) lk_X3_44 ⟨Nat.le_of_ble_eq_true rfl, Nat.le_of_ble_eq_true rfl⟩ ⟨Nat.le_of_ble_eq_true rfl, Nat.le_of_ble_eq_true rfl⟩ rfl rfl (Nat.le_of_ble_eq_true rfl) dX3_go_182 (fun v182 w_ hw_ => ?_)
                      obtain ⟨hb182, rfl⟩ := hw_
                      refine br_SZ1 (ct_m_isLetter (by omega)) lk_X3_30 ⟨Nat.le_of_ble_eq_true rfl, Nat.le_of_ble_eq_true rfl⟩ ⟨Nat.le_of_ble_eq_true rfl, Nat.le_of_ble_eq_true rfl⟩  (Nat.le_of_ble_eq_true rfl) dX3_go_185 (fun c185 => ?_) (fun c185 => ?_)
                      · refine br_if_ne (tgt := 205) dX3_go_188 (by decide) (by decide) (fun _ => ?_) (fun q => absurd q (by decide))
                        have ht2 := hT.1 (F2 4) (by omega) (by omega)
                        refine br_aload_0 dX3_go_205 ?_
                        refine br_mg_1 dX3_go_206 ?_
                        refine br_aload_0 dX3_go_209 ?_
                        refine br_mg_4 (v := F2 4) rfl dX3_go_210 ?_
                        refine br_ml_1 (v := G 1 (F2 4)) (by omega) rfl dX3_go_213 ?_
                        refine br_istore_4 dX3_go_214 rfl ?_
                        refine br_iload_3 dX3_go_216 ?_
                        refine br_if_eq (tgt := 233) dX3_go_217 (by decide) (by omega) (fun c217 => ?_) (fun c217 => ?_)
                        · refine br_iconst dX3_go_233 ?_
                          refine br_istore_3 dX3_go_234 rfl ?_
                          refine br_aload_0 dX3_go_235 ?_
                          refine br_mg_4 (v := F2 4) rfl dX3_go_236 ?_
                          refine br_aload_0 dX3_go_239 ?_
                          refine br_mg_5 (v := F2 5) rfl dX3_go_240 ?_
                          refine br_isub dX3_go_243 ?_
                          refine br_bipush dX3_go_244 (by decide) ?_
                          refine br_icmp_ge (tgt := 269) dX3_go_246 (by decide) (by omega) (fun c246 => ?_) (fun c246 => ?_)
                          · refine br_aload_0 dX3_go_269 ?_
                            refine br_mg_4 (v := F2 4) rfl dX3_go_270 ?_
                            refine br_aload_0 dX3_go_273 ?_
                            refine br_mg_5 (v := F2 5) rfl dX3_go_274 ?_
                            refine br_isub dX3_go_277 ?_
                            refine br_iconst dX3_go_278 ?_
                            refine br_icmp_ge (tgt := 299) dX3_go_279 (by decide) (by omega) (fun c279 => ?_) (fun q => absurd q (by omega))
                            refine br_aload_0 dX3_go_299 ?_
                            refine br_dup dX3_go_300 rfl ?_
                            refine br_mg_4 (v := F2 4) rfl dX3_go_301 ?_
                            refine br_iconst dX3_go_304 ?_
                            refine br_iadd dX3_go_305 ?_
                            refine br_mp_4 dX3_go_306 ?_
                            refine br_goto (tgt := 177) dX3_go_309 (by decide) ?_
                            refine br_fg_4 ?_
                            have hal : isAl (T (F2 4)) := by unfold isAl isLt isDg; omega
                            have hgood : ((0 : Int) = 1 ∧ allLt T (F1 4) (F2 4 + 1)) ∨ ((0 : Int) = 0 ∧ ¬ allLt T (F1 4) (F2 4 + 1)) := by
                              rcases r5 with ⟨r5, r5a⟩ | ⟨r5, r5a⟩
                              · exact Or.inr ⟨rfl, allLt_x (by omega) (by unfold isLt; omega)⟩
                              · exact Or.inr ⟨rfl, allLt_n r5a⟩
                            have hh6 : wd2 = hashT T (F1 4) (F2 4 + 1) := by rw [hashT_stay (by omega)]; exact r6
                            have hn7 : F2 7 = numV T (F1 4) (F2 4 + 1) := by rw [numV_stay (by omega)]; exact r7
                            exact ih177 _ _ _ (show (n - (F2 4 + 1)).toNat < _ from by omega) ⟨q0, q2, q3, q8, q9, q14, q16, q17⟩ r2 (show F1 4 ≤ F2 4 + 1 ∧ F2 4 + 1 ≤ n from by omega) (run_s r4 (by omega) hal) hgood hh6 hn7
                          · refine br_aload_0 dX3_go_249 ?_
                            refine br_ldc2 (z := 27) q1386 (by decide) dX3_go_250 ?_
                            refine br_aload_0 dX3_go_253 ?_
                            refine br_mg_10 dX3_go_254 ?_
                            refine br_lmul dX3_go_257 ?_
                            refine br_iload_4 dX3_go_258 ?_
                            refine br_i2l dX3_go_260 (by omega) ?_
                            refine br_ladd dX3_go_261 ?_
                            refine br_ldc2 (z := 96) q1387 (by decide) dX3_go_262 ?_
                            refine br_lsub dX3_go_265 ?_
                            refine br_mp_10 dX3_go_266 ?_
                            refine br_aload_0 dX3_go_269 ?_
                            refine br_mg_4 (v := F2 4) rfl dX3_go_270 ?_
                            refine br_aload_0 dX3_go_273 ?_
                            refine br_mg_5 (v := F2 5) rfl dX3_go_274 ?_
                            refine br_isub dX3_go_277 ?_
                            refine br_iconst dX3_go_278 ?_
                            refine br_icmp_ge (tgt := 299) dX3_go_279 (by decide) (by omega) (fun c279 => ?_) (fun c279 => ?_)
                            · refine br_aload_0 dX3_go_299 ?_
                              refine br_dup dX3_go_300 rfl ?_
                              refine br_mg_4 (v := F2 4) rfl dX3_go_301 ?_
                              refine br_iconst dX3_go_304 ?_
                              refine br_iadd dX3_go_305 ?_
                              refine br_mp_4 dX3_go_306 ?_
                              refine br_goto (tgt := 177) dX3_go_309 (by decide) ?_
                              refine br_fg_4 ?_
                              have hal : isAl (T (F2 4)) := by unfold isAl isLt isDg; omega
                              have hgood : ((0 : Int) = 1 ∧ allLt T (F1 4) (F2 4 + 1)) ∨ ((0 : Int) = 0 ∧ ¬ allLt T (F1 4) (F2 4 + 1)) := by
                                rcases r5 with ⟨r5, r5a⟩ | ⟨r5, r5a⟩
                                · exact Or.inr ⟨rfl, allLt_x (by omega) (by unfold isLt; omega)⟩
                                · exact Or.inr ⟨rfl, allLt_n r5a⟩
                              have hh6 : ((27 * wd2) + (G 1 (F2 4))) - 96 = hashT T (F1 4) (F2 4 + 1) := by rw [hashT_step (by omega), ← r6]; omega
                              have hn7 : F2 7 = numV T (F1 4) (F2 4 + 1) := by rw [numV_stay (by omega)]; exact r7
                              exact ih177 _ _ _ (show (n - (F2 4 + 1)).toNat < _ from by omega) ⟨q0, q2, q3, q8, q9, q14, q16, q17⟩ r2 (show F1 4 ≤ F2 4 + 1 ∧ F2 4 + 1 ≤ n from by omega) (run_s r4 (by omega) hal) hgood hh6 hn7
                            · refine br_aload_0 dX3_go_282 ?_
                              refine br_bipush dX3_go_283 (by decide) ?_
                              refine br_aload_0 dX3_go_285 ?_
                              refine br_mg_7 (v := F2 7) rfl dX3_go_286 ?_
                              refine br_imul dX3_go_289 ?_
                              refine br_iload_4 dX3_go_290 ?_
                              refine br_iadd dX3_go_292 ?_
                              refine br_bipush dX3_go_293 (by decide) ?_
                              refine br_isub dX3_go_295 ?_
                              refine br_mp_7 dX3_go_296 ?_
                              refine br_aload_0 dX3_go_299 ?_
                              refine br_dup dX3_go_300 rfl ?_
                              refine br_mg_4 (v := F2 4) rfl dX3_go_301 ?_
                              refine br_iconst dX3_go_304 ?_
                              refine br_iadd dX3_go_305 ?_
                              refine br_mp_4 dX3_go_306 ?_
                              refine br_goto (tgt := 177) dX3_go_309 (by decide) ?_
                              refine br_fg_4 ?_
                              have hal : isAl (T (F2 4)) := by unfold isAl isLt isDg; omega
                              have hgood : ((0 : Int) = 1 ∧ allLt T (F1 4) (F2 4 + 1)) ∨ ((0 : Int) = 0 ∧ ¬ allLt T (F1 4) (F2 4 + 1)) := by
                                rcases r5 with ⟨r5, r5a⟩ | ⟨r5, r5a⟩
                                · exact Or.inr ⟨rfl, allLt_x (by omega) (by unfold isLt; omega)⟩
                                · exact Or.inr ⟨rfl, allLt_n r5a⟩
                              have hh6 : ((27 * wd2) + (G 1 (F2 4))) - 96 = hashT T (F1 4) (F2 4 + 1) := by rw [hashT_step (by omega), ← r6]; omega
                              have hn7 : ((10 * (F2 7)) + (G 1 (F2 4))) - 48 = numV T (F1 4) (F2 4 + 1) := by rw [numV_step (by omega), ← r7]; omega
                              exact ih177 _ _ _ (show (n - (F2 4 + 1)).toNat < _ from by omega) ⟨q0, q2, q3, q8, q9, q14, q16, q17⟩ r2 (show F1 4 ≤ F2 4 + 1 ∧ F2 4 + 1 ≤ n from by omega) (run_s r4 (by omega) hal) hgood hh6 hn7
                        · refine br_iload_4 dX3_go_220 ?_
                          refine br_SZ1 (ct_m_isLetter (by omega)) lk_X3_30 ⟨Nat.le_of_ble_eq_true rfl, Nat.le_of_ble_eq_true rfl⟩ ⟨Nat.le_of_ble_eq_true rfl, Nat.le_of_ble_eq_true rfl⟩  (Nat.le_of_ble_eq_true rfl) dX3_go_222 (fun c222 => ?_) (fun q => absurd q (by omega))
                          refine br_iload_2 dX3_go_225 ?_
                          refine br_icmp_ne (tgt := 233) dX3_go_226 (by decide) (by decide) (fun q => absurd q (by decide)) (fun _ => ?_)
                          refine br_iconst dX3_go_229 ?_
                          refine br_goto (tgt := 234) dX3_go_230 (by decide) ?_
                          refine br_istore_3 dX3_go_234 rfl ?_
                          refine br_aload_0 dX3_go_235 ?_
                          refine br_mg_4 (v := F2 4) rfl dX3_go_236 ?_
                          refine br_aload_0 dX3_go_239 ?_
                          refine br_mg_5 (v := F2 5) rfl dX3_go_240 ?_
                          refine br_isub dX3_go_243 ?_
                          refine br_bipush dX3_go_244 (by decide) ?_
                          refine br_icmp_ge (tgt := 269) dX3_go_246 (by decide) (by omega) (fun c246 => ?_) (fun c246 => ?_)
                          · refine br_aload_0 dX3_go_269 ?_
                            refine br_mg_4 (v := F2 4) rfl dX3_go_270 ?_
                            refine br_aload_0 dX3_go_273 ?_
                            refine br_mg_5 (v := F2 5) rfl dX3_go_274 ?_
                            refine br_isub dX3_go_277 ?_
                            refine br_iconst dX3_go_278 ?_
                            refine br_icmp_ge (tgt := 299) dX3_go_279 (by decide) (by omega) (fun c279 => ?_) (fun q => absurd q (by omega))
                            refine br_aload_0 dX3_go_299 ?_
                            refine br_dup dX3_go_300 rfl ?_
                            refine br_mg_4 (v := F2 4) rfl dX3_go_301 ?_
                            refine br_iconst dX3_go_304 ?_
                            refine br_iadd dX3_go_305 ?_
                            refine br_mp_4 dX3_go_306 ?_
                            refine br_goto (tgt := 177) dX3_go_309 (by decide) ?_
                            refine br_fg_4 ?_
                            have hal : isAl (T (F2 4)) := by unfold isAl isLt isDg; omega
                            have hgood : ((1 : Int) = 1 ∧ allLt T (F1 4) (F2 4 + 1)) ∨ ((1 : Int) = 0 ∧ ¬ allLt T (F1 4) (F2 4 + 1)) := by
                              rcases r5 with ⟨r5, r5a⟩ | ⟨r5, r5a⟩
                              · exact Or.inl ⟨rfl, allLt_s r5a (by unfold isLt; unfold isAl isLt isDg at hal; omega)⟩
                              · omega
                            have hh6 : wd2 = hashT T (F1 4) (F2 4 + 1) := by rw [hashT_stay (by omega)]; exact r6
                            have hn7 : F2 7 = numV T (F1 4) (F2 4 + 1) := by rw [numV_stay (by omega)]; exact r7
                            exact ih177 _ _ _ (show (n - (F2 4 + 1)).toNat < _ from by omega) ⟨q0, q2, q3, q8, q9, q14, q16, q17⟩ r2 (show F1 4 ≤ F2 4 + 1 ∧ F2 4 + 1 ≤ n from by omega) (run_s r4 (by omega) hal) hgood hh6 hn7
                          · refine br_aload_0 dX3_go_249 ?_
                            refine br_ldc2 (z := 27) q1386 (by decide) dX3_go_250 ?_
                            refine br_aload_0 dX3_go_253 ?_
                            refine br_mg_10 dX3_go_254 ?_
                            refine br_lmul dX3_go_257 ?_
                            refine br_iload_4 dX3_go_258 ?_
                            refine br_i2l dX3_go_260 (by omega) ?_
                            refine br_ladd dX3_go_261 ?_
                            refine br_ldc2 (z := 96) q1387 (by decide) dX3_go_262 ?_
                            refine br_lsub dX3_go_265 ?_
                            refine br_mp_10 dX3_go_266 ?_
                            refine br_aload_0 dX3_go_269 ?_
                            refine br_mg_4 (v := F2 4) rfl dX3_go_270 ?_
                            refine br_aload_0 dX3_go_273 ?_
                            refine br_mg_5 (v := F2 5) rfl dX3_go_274 ?_
                            refine br_isub dX3_go_277 ?_
                            refine br_iconst dX3_go_278 ?_
                            refine br_icmp_ge (tgt := 299) dX3_go_279 (by decide) (by omega) (fun c279 => ?_) (fun c279 => ?_)
                            · refine br_aload_0 dX3_go_299 ?_
                              refine br_dup dX3_go_300 rfl ?_
                              refine br_mg_4 (v := F2 4) rfl dX3_go_301 ?_
                              refine br_iconst dX3_go_304 ?_
                              refine br_iadd dX3_go_305 ?_
                              refine br_mp_4 dX3_go_306 ?_
                              refine br_goto (tgt := 177) dX3_go_309 (by decide) ?_
                              refine br_fg_4 ?_
                              have hal : isAl (T (F2 4)) := by unfold isAl isLt isDg; omega
                              have hgood : ((1 : Int) = 1 ∧ allLt T (F1 4) (F2 4 + 1)) ∨ ((1 : Int) = 0 ∧ ¬ allLt T (F1 4) (F2 4 + 1)) := by
                                rcases r5 with ⟨r5, r5a⟩ | ⟨r5, r5a⟩
                                · exact Or.inl ⟨rfl, allLt_s r5a (by unfold isLt; unfold isAl isLt isDg at hal; omega)⟩
                                · omega
                              have hh6 : ((27 * wd2) + (G 1 (F2 4))) - 96 = hashT T (F1 4) (F2 4 + 1) := by rw [hashT_step (by omega), ← r6]; omega
                              have hn7 : F2 7 = numV T (F1 4) (F2 4 + 1) := by rw [numV_stay (by omega)]; exact r7
                              exact ih177 _ _ _ (show (n - (F2 4 + 1)).toNat < _ from by omega) ⟨q0, q2, q3, q8, q9, q14, q16, q17⟩ r2 (show F1 4 ≤ F2 4 + 1 ∧ F2 4 + 1 ≤ n from by omega) (run_s r4 (by omega) hal) hgood hh6 hn7
                            · refine br_aload_0 dX3_go_282 ?_
                              refine br_bipush dX3_go_283 (by decide) ?_
                              refine br_aload_0 dX3_go_285 ?_
                              refine br_mg_7 (v := F2 7) rfl dX3_go_286 ?_
                              refine br_imul dX3_go_289 ?_
                              refine br_iload_4 dX3_go_290 ?_
                              refine br_iadd dX3_go_292 ?_
                              refine br_bipush dX3_go_293 (by decide) ?_
                              refine br_isub dX3_go_295 ?_
                              refine br_mp_7 dX3_go_296 ?_
                              refine br_aload_0 dX3_go_299 ?_
                              refine br_dup dX3_go_300 rfl ?_
                              refine br_mg_4 (v := F2 4) rfl dX3_go_301 ?_
                              refine br_iconst dX3_go_304 ?_
                              refine br_iadd dX3_go_305 ?_
                              refine br_mp_4 dX3_go_306 ?_
                              refine br_goto (tgt := 177) dX3_go_309 (by decide) ?_
                              refine br_fg_4 ?_
                              have hal : isAl (T (F2 4)) := by unfold isAl isLt isDg; omega
                              have hgood : ((1 : Int) = 1 ∧ allLt T (F1 4) (F2 4 + 1)) ∨ ((1 : Int) = 0 ∧ ¬ allLt T (F1 4) (F2 4 + 1)) := by
                                rcases r5 with ⟨r5, r5a⟩ | ⟨r5, r5a⟩
                                · exact Or.inl ⟨rfl, allLt_s r5a (by unfold isLt; unfold isAl isLt isDg at hal; omega)⟩
                                · omega
                              have hh6 : ((27 * wd2) + (G 1 (F2 4))) - 96 = hashT T (F1 4) (F2 4 + 1) := by rw [hashT_step (by omega), ← r6]; omega
                              have hn7 : ((10 * (F2 7)) + (G 1 (F2 4))) - 48 = numV T (F1 4) (F2 4 + 1) := by rw [numV_step (by omega), ← r7]; omega
                              exact ih177 _ _ _ (show (n - (F2 4 + 1)).toNat < _ from by omega) ⟨q0, q2, q3, q8, q9, q14, q16, q17⟩ r2 (show F1 4 ≤ F2 4 + 1 ∧ F2 4 + 1 ≤ n from by omega) (run_s r4 (by omega) hal) hgood hh6 hn7
                      · have hz185 : ¬ (97 ≤ v182 ∧ v182 ≤ 122) := c185
                        refine br_if_ne (tgt := 205) dX3_go_188 (by decide) (by decide) (fun q => absurd q (by decide)) (fun _ => ?_)
                        refine br_aload_0 dX3_go_191 ?_
                        refine br_aload_0 dX3_go_192 ?_
                        refine br_mg_4 (v := F2 4) rfl dX3_go_193 ?_
                        refine br_Vi1 (i := 40) (j := 0) (ct_m_tapeAt (T := T) (n := n) hT (by omega) (by omega)) lk_X3_44 ⟨Nat.le_of_ble_eq_true rfl, Nat.le_of_ble_eq_true rfl⟩ ⟨Nat.le_of_ble_eq_true rfl, Nat.le_of_ble_eq_true rfl⟩ rfl rfl (Nat.le_of_ble_eq_true rfl) dX3_go_196 (fun v196 w_ hw_ => ?_)
                        obtain ⟨hb196, rfl⟩ := hw_
                        refine br_SZ1 (ct_m_isDigit (by omega)) lk_X3_34 ⟨Nat.le_of_ble_eq_true rfl, Nat.le_of_ble_eq_true rfl⟩ ⟨Nat.le_of_ble_eq_true rfl, Nat.le_of_ble_eq_true rfl⟩  (Nat.le_of_ble_eq_true rfl) dX3_go_199 (fun c199 => ?_) (fun c199 => ?_)
                        · refine br_if_eq (tgt := 312) dX3_go_202 (by decide) (by decide) (fun q => absurd q (by decide)) (fun _ => ?_)
                          have ht2 := hT.1 (F2 4) (by omega) (by omega)
                          refine br_aload_0 dX3_go_205 ?_
                          refine br_mg_1 dX3_go_206 ?_
                          refine br_aload_0 dX3_go_209 ?_
                          refine br_mg_4 (v := F2 4) rfl dX3_go_210 ?_
                          refine br_ml_1 (v := G 1 (F2 4)) (by omega) rfl dX3_go_213 ?_
                          refine br_istore_4 dX3_go_214 rfl ?_
                          refine br_iload_3 dX3_go_216 ?_
                          refine br_if_eq (tgt := 233) dX3_go_217 (by decide) (by omega) (fun c217 => ?_) (fun c217 => ?_)
                          · refine br_iconst dX3_go_233 ?_
                            refine br_istore_3 dX3_go_234 rfl ?_
                            refine br_aload_0 dX3_go_235 ?_
                            refine br_mg_4 (v := F2 4) rfl dX3_go_236 ?_
                            refine br_aload_0 dX3_go_239 ?_
                            refine br_mg_5 (v := F2 5) rfl dX3_go_240 ?_
                            refine br_isub dX3_go_243 ?_
                            refine br_bipush dX3_go_244 (by decide) ?_
                            refine br_icmp_ge (tgt := 269) dX3_go_246 (by decide) (by omega) (fun c246 => ?_) (fun c246 => ?_)
                            · refine br_aload_0 dX3_go_269 ?_
                              refine br_mg_4 (v := F2 4) rfl dX3_go_270 ?_
                              refine br_aload_0 dX3_go_273 ?_
                              refine br_mg_5 (v := F2 5) rfl dX3_go_274 ?_
                              refine br_isub dX3_go_277 ?_
                              refine br_iconst dX3_go_278 ?_
                              refine br_icmp_ge (tgt := 299) dX3_go_279 (by decide) (by omega) (fun c279 => ?_) (fun q => absurd q (by omega))
                              refine br_aload_0 dX3_go_299 ?_
                              refine br_dup dX3_go_300 rfl ?_
                              refine br_mg_4 (v := F2 4) rfl dX3_go_301 ?_
                              refine br_iconst dX3_go_304 ?_
                              refine br_iadd dX3_go_305 ?_
                              refine br_mp_4 dX3_go_306 ?_
                              refine br_goto (tgt := 177) dX3_go_309 (by decide) ?_
                              refine br_fg_4 ?_
                              have hal : isAl (T (F2 4)) := by unfold isAl isLt isDg; omega
                              have hgood : ((0 : Int) = 1 ∧ allLt T (F1 4) (F2 4 + 1)) ∨ ((0 : Int) = 0 ∧ ¬ allLt T (F1 4) (F2 4 + 1)) := by
                                rcases r5 with ⟨r5, r5a⟩ | ⟨r5, r5a⟩
                                · exact Or.inr ⟨rfl, allLt_x (by omega) (by unfold isLt; omega)⟩
                                · exact Or.inr ⟨rfl, allLt_n r5a⟩
                              have hh6 : wd2 = hashT T (F1 4) (F2 4 + 1) := by rw [hashT_stay (by omega)]; exact r6
                              have hn7 : F2 7 = numV T (F1 4) (F2 4 + 1) := by rw [numV_stay (by omega)]; exact r7
                              exact ih177 _ _ _ (show (n - (F2 4 + 1)).toNat < _ from by omega) ⟨q0, q2, q3, q8, q9, q14, q16, q17⟩ r2 (show F1 4 ≤ F2 4 + 1 ∧ F2 4 + 1 ≤ n from by omega) (run_s r4 (by omega) hal) hgood hh6 hn7
                            · refine br_aload_0 dX3_go_249 ?_
                              refine br_ldc2 (z := 27) q1386 (by decide) dX3_go_250 ?_
                              refine br_aload_0 dX3_go_253 ?_
                              refine br_mg_10 dX3_go_254 ?_
                              refine br_lmul dX3_go_257 ?_
                              refine br_iload_4 dX3_go_258 ?_
                              refine br_i2l dX3_go_260 (by omega) ?_
                              refine br_ladd dX3_go_261 ?_
                              refine br_ldc2 (z := 96) q1387 (by decide) dX3_go_262 ?_
                              refine br_lsub dX3_go_265 ?_
                              refine br_mp_10 dX3_go_266 ?_
                              refine br_aload_0 dX3_go_269 ?_
                              refine br_mg_4 (v := F2 4) rfl dX3_go_270 ?_
                              refine br_aload_0 dX3_go_273 ?_
                              refine br_mg_5 (v := F2 5) rfl dX3_go_274 ?_
                              refine br_isub dX3_go_277 ?_
                              refine br_iconst dX3_go_278 ?_
                              refine br_icmp_ge (tgt := 299) dX3_go_279 (by decide) (by omega) (fun c279 => ?_) (fun c279 => ?_)
                              · refine br_aload_0 dX3_go_299 ?_
                                refine br_dup dX3_go_300 rfl ?_
                                refine br_mg_4 (v := F2 4) rfl dX3_go_301 ?_
                                refine br_iconst dX3_go_304 ?_
                                refine br_iadd dX3_go_305 ?_
                                refine br_mp_4 dX3_go_306 ?_
                                refine br_goto (tgt := 177) dX3_go_309 (by decide) ?_
                                refine br_fg_4 ?_
                                have hal : isAl (T (F2 4)) := by unfold isAl isLt isDg; omega
                                have hgood : ((0 : Int) = 1 ∧ allLt T (F1 4) (F2 4 + 1)) ∨ ((0 : Int) = 0 ∧ ¬ allLt T (F1 4) (F2 4 + 1)) := by
                                  rcases r5 with ⟨r5, r5a⟩ | ⟨r5, r5a⟩
                                  · exact Or.inr ⟨rfl, allLt_x (by omega) (by unfold isLt; omega)⟩
                                  · exact Or.inr ⟨rfl, allLt_n r5a⟩
                                have hh6 : ((27 * wd2) + (G 1 (F2 4))) - 96 = hashT T (F1 4) (F2 4 + 1) := by rw [hashT_step (by omega), ← r6]; omega
                                have hn7 : F2 7 = numV T (F1 4) (F2 4 + 1) := by rw [numV_stay (by omega)]; exact r7
                                exact ih177 _ _ _ (show (n - (F2 4 + 1)).toNat < _ from by omega) ⟨q0, q2, q3, q8, q9, q14, q16, q17⟩ r2 (show F1 4 ≤ F2 4 + 1 ∧ F2 4 + 1 ≤ n from by omega) (run_s r4 (by omega) hal) hgood hh6 hn7
                              · refine br_aload_0 dX3_go_282 ?_
                                refine br_bipush dX3_go_283 (by decide) ?_
                                refine br_aload_0 dX3_go_285 ?_
                                refine br_mg_7 (v := F2 7) rfl dX3_go_286 ?_
                                refine br_imul dX3_go_289 ?_
                                refine br_iload_4 dX3_go_290 ?_
                                refine br_iadd dX3_go_292 ?_
                                refine br_bipush dX3_go_293 (by decide) ?_
                                refine br_isub dX3_go_295 ?_
                                refine br_mp_7 dX3_go_296 ?_
                                refine br_aload_0 dX3_go_299 ?_
                                refine br_dup dX3_go_300 rfl ?_
                                refine br_mg_4 (v := F2 4) rfl dX3_go_301 ?_
                                refine br_iconst dX3_go_304 ?_
                                refine br_iadd dX3_go_305 ?_
                                refine br_mp_4 dX3_go_306 ?_
                                refine br_goto (tgt := 177) dX3_go_309 (by decide) ?_
                                refine br_fg_4 ?_
                                have hal : isAl (T (F2 4)) := by unfold isAl isLt isDg; omega
                                have hgood : ((0 : Int) = 1 ∧ allLt T (F1 4) (F2 4 + 1)) ∨ ((0 : Int) = 0 ∧ ¬ allLt T (F1 4) (F2 4 + 1)) := by
                                  rcases r5 with ⟨r5, r5a⟩ | ⟨r5, r5a⟩
                                  · exact Or.inr ⟨rfl, allLt_x (by omega) (by unfold isLt; omega)⟩
                                  · exact Or.inr ⟨rfl, allLt_n r5a⟩
                                have hh6 : ((27 * wd2) + (G 1 (F2 4))) - 96 = hashT T (F1 4) (F2 4 + 1) := by rw [hashT_step (by omega), ← r6]; omega
                                have hn7 : ((10 * (F2 7)) + (G 1 (F2 4))) - 48 = numV T (F1 4) (F2 4 + 1) := by rw [numV_step (by omega), ← r7]; omega
                                exact ih177 _ _ _ (show (n - (F2 4 + 1)).toNat < _ from by omega) ⟨q0, q2, q3, q8, q9, q14, q16, q17⟩ r2 (show F1 4 ≤ F2 4 + 1 ∧ F2 4 + 1 ≤ n from by omega) (run_s r4 (by omega) hal) hgood hh6 hn7
                          · refine br_iload_4 dX3_go_220 ?_
                            refine br_SZ1 (ct_m_isLetter (by omega)) lk_X3_30 ⟨Nat.le_of_ble_eq_true rfl, Nat.le_of_ble_eq_true rfl⟩ ⟨Nat.le_of_ble_eq_true rfl, Nat.le_of_ble_eq_true rfl⟩  (Nat.le_of_ble_eq_true rfl) dX3_go_222 (fun q => absurd q (by omega)) (fun c222 => ?_)
                            refine br_iload_2 dX3_go_225 ?_
                            refine br_icmp_ne (tgt := 233) dX3_go_226 (by decide) (by decide) (fun _ => ?_) (fun q => absurd q (by decide))
                            refine br_iconst dX3_go_233 ?_
                            refine br_istore_3 dX3_go_234 rfl ?_
                            refine br_aload_0 dX3_go_235 ?_
                            refine br_mg_4 (v := F2 4) rfl dX3_go_236 ?_
                            refine br_aload_0 dX3_go_239 ?_
                            refine br_mg_5 (v := F2 5) rfl dX3_go_240 ?_
                            refine br_isub dX3_go_243 ?_
                            refine br_bipush dX3_go_244 (by decide) ?_
                            refine br_icmp_ge (tgt := 269) dX3_go_246 (by decide) (by omega) (fun c246 => ?_) (fun c246 => ?_)
                            · refine br_aload_0 dX3_go_269 ?_
                              refine br_mg_4 (v := F2 4) rfl dX3_go_270 ?_
                              refine br_aload_0 dX3_go_273 ?_
                              refine br_mg_5 (v := F2 5) rfl dX3_go_274 ?_
                              refine br_isub dX3_go_277 ?_
                              refine br_iconst dX3_go_278 ?_
                              refine br_icmp_ge (tgt := 299) dX3_go_279 (by decide) (by omega) (fun c279 => ?_) (fun q => absurd q (by omega))
                              refine br_aload_0 dX3_go_299 ?_
                              refine br_dup dX3_go_300 rfl ?_
                              refine br_mg_4 (v := F2 4) rfl dX3_go_301 ?_
                              refine br_iconst dX3_go_304 ?_
                              refine br_iadd dX3_go_305 ?_
                              refine br_mp_4 dX3_go_306 ?_
                              refine br_goto (tgt := 177) dX3_go_309 (by decide) ?_
                              refine br_fg_4 ?_
                              have hal : isAl (T (F2 4)) := by unfold isAl isLt isDg; omega
                              have hgood : ((0 : Int) = 1 ∧ allLt T (F1 4) (F2 4 + 1)) ∨ ((0 : Int) = 0 ∧ ¬ allLt T (F1 4) (F2 4 + 1)) := by
                                rcases r5 with ⟨r5, r5a⟩ | ⟨r5, r5a⟩
                                · exact Or.inr ⟨rfl, allLt_x (by omega) (by unfold isLt; omega)⟩
                                · exact Or.inr ⟨rfl, allLt_n r5a⟩
                              have hh6 : wd2 = hashT T (F1 4) (F2 4 + 1) := by rw [hashT_stay (by omega)]; exact r6
                              have hn7 : F2 7 = numV T (F1 4) (F2 4 + 1) := by rw [numV_stay (by omega)]; exact r7
                              exact ih177 _ _ _ (show (n - (F2 4 + 1)).toNat < _ from by omega) ⟨q0, q2, q3, q8, q9, q14, q16, q17⟩ r2 (show F1 4 ≤ F2 4 + 1 ∧ F2 4 + 1 ≤ n from by omega) (run_s r4 (by omega) hal) hgood hh6 hn7
                            · refine br_aload_0 dX3_go_249 ?_
                              refine br_ldc2 (z := 27) q1386 (by decide) dX3_go_250 ?_
                              refine br_aload_0 dX3_go_253 ?_
                              refine br_mg_10 dX3_go_254 ?_
                              refine br_lmul dX3_go_257 ?_
                              refine br_iload_4 dX3_go_258 ?_
                              refine br_i2l dX3_go_260 (by omega) ?_
                              refine br_ladd dX3_go_261 ?_
                              refine br_ldc2 (z := 96) q1387 (by decide) dX3_go_262 ?_
                              refine br_lsub dX3_go_265 ?_
                              refine br_mp_10 dX3_go_266 ?_
                              refine br_aload_0 dX3_go_269 ?_
                              refine br_mg_4 (v := F2 4) rfl dX3_go_270 ?_
                              refine br_aload_0 dX3_go_273 ?_
                              refine br_mg_5 (v := F2 5) rfl dX3_go_274 ?_
                              refine br_isub dX3_go_277 ?_
                              refine br_iconst dX3_go_278 ?_
                              refine br_icmp_ge (tgt := 299) dX3_go_279 (by decide) (by omega) (fun c279 => ?_) (fun c279 => ?_)
                              · refine br_aload_0 dX3_go_299 ?_
                                refine br_dup dX3_go_300 rfl ?_
                                refine br_mg_4 (v := F2 4) rfl dX3_go_301 ?_
                                refine br_iconst dX3_go_304 ?_
                                refine br_iadd dX3_go_305 ?_
                                refine br_mp_4 dX3_go_306 ?_
                                refine br_goto (tgt := 177) dX3_go_309 (by decide) ?_
                                refine br_fg_4 ?_
                                have hal : isAl (T (F2 4)) := by unfold isAl isLt isDg; omega
                                have hgood : ((0 : Int) = 1 ∧ allLt T (F1 4) (F2 4 + 1)) ∨ ((0 : Int) = 0 ∧ ¬ allLt T (F1 4) (F2 4 + 1)) := by
                                  rcases r5 with ⟨r5, r5a⟩ | ⟨r5, r5a⟩
                                  · exact Or.inr ⟨rfl, allLt_x (by omega) (by unfold isLt; omega)⟩
                                  · exact Or.inr ⟨rfl, allLt_n r5a⟩
                                have hh6 : ((27 * wd2) + (G 1 (F2 4))) - 96 = hashT T (F1 4) (F2 4 + 1) := by rw [hashT_step (by omega), ← r6]; omega
                                have hn7 : F2 7 = numV T (F1 4) (F2 4 + 1) := by rw [numV_stay (by omega)]; exact r7
                                exact ih177 _ _ _ (show (n - (F2 4 + 1)).toNat < _ from by omega) ⟨q0, q2, q3, q8, q9, q14, q16, q17⟩ r2 (show F1 4 ≤ F2 4 + 1 ∧ F2 4 + 1 ≤ n from by omega) (run_s r4 (by omega) hal) hgood hh6 hn7
                              · refine br_aload_0 dX3_go_282 ?_
                                refine br_bipush dX3_go_283 (by decide) ?_
                                refine br_aload_0 dX3_go_285 ?_
                                refine br_mg_7 (v := F2 7) rfl dX3_go_286 ?_
                                refine br_imul dX3_go_289 ?_
                                refine br_iload_4 dX3_go_290 ?_
                                refine br_iadd dX3_go_292 ?_
                                refine br_bipush dX3_go_293 (by decide) ?_
                                refine br_isub dX3_go_295 ?_
                                refine br_mp_7 dX3_go_296 ?_
                                refine br_aload_0 dX3_go_299 ?_
                                refine br_dup dX3_go_300 rfl ?_
                                refine br_mg_4 (v := F2 4) rfl dX3_go_301 ?_
                                refine br_iconst dX3_go_304 ?_
                                refine br_iadd dX3_go_305 ?_
                                refine br_mp_4 dX3_go_306 ?_
                                refine br_goto (tgt := 177) dX3_go_309 (by decide) ?_
                                refine br_fg_4 ?_
                                have hal : isAl (T (F2 4)) := by unfold isAl isLt isDg; omega
                                have hgood : ((0 : Int) = 1 ∧ allLt T (F1 4) (F2 4 + 1)) ∨ ((0 : Int) = 0 ∧ ¬ allLt T (F1 4) (F2 4 + 1)) := by
                                  rcases r5 with ⟨r5, r5a⟩ | ⟨r5, r5a⟩
                                  · exact Or.inr ⟨rfl, allLt_x (by omega) (by unfold isLt; omega)⟩
                                  · exact Or.inr ⟨rfl, allLt_n r5a⟩
                                have hh6 : ((27 * wd2) + (G 1 (F2 4))) - 96 = hashT T (F1 4) (F2 4 + 1) := by rw [hashT_step (by omega), ← r6]; omega
                                have hn7 : ((10 * (F2 7)) + (G 1 (F2 4))) - 48 = numV T (F1 4) (F2 4 + 1) := by rw [numV_step (by omega), ← r7]; omega
                                exact ih177 _ _ _ (show (n - (F2 4 + 1)).toNat < _ from by omega) ⟨q0, q2, q3, q8, q9, q14, q16, q17⟩ r2 (show F1 4 ≤ F2 4 + 1 ∧ F2 4 + 1 ≤ n from by omega) (run_s r4 (by omega) hal) hgood hh6 hn7
                        · refine br_if_eq (tgt := 312) dX3_go_202 (by decide) (by decide) (fun _ => ?_) (fun q => absurd q (by decide))
                          have hrun : runR T n (F1 4) (F2 4) := ⟨by omega, r4, by unfold isAl isLt isDg; omega⟩
                          have hlt := runR_pos hrun (by omega) hal0
                          refine br_aload_0 dX3_go_312 ?_
                          refine br_iload_3 dX3_go_313 ?_
                          refine br_if_eq (tgt := 334) dX3_go_314 (by decide) (by omega) (fun c314 => ?_) (fun c314 => ?_)
                          · have hnok := (r5.resolve_left (fun q => by have := q.1; omega)).2
                            refine br_iconst dX3_go_334 ?_
                            refine br_goto (tgt := 347) dX3_go_335 (by decide) ?_
                            refine br_mp_6 dX3_go_347 ?_
                            exact br_return dX3_go_350 (by decide) (by decide) (hret _ _ (⟨rfl, _, _, rfl, goEnd (tk := (F1 4, 1, F2 4, 0)) ⟨F1 4, ⟨by omega, h2, by unfold isSp; omega⟩, Or.inr (Or.inr (Or.inr (Or.inr ⟨by omega, by omega, hal0, F2 4, hrun, Or.inr (Or.inr ⟨hnok, (fun q => notDg_of hlt hfd q.1), rfl⟩)⟩)))⟩ (mTk_mk 1 (F1 4) (F2 4) rfl r2 rfl (by omega) (by omega) (by omega)), ⟨q0, q2, q3, q8, q9, q14, q16, q17⟩⟩))
                          · refine br_iload_2 dX3_go_317 ?_
                            refine br_if_ne (tgt := 338) dX3_go_318 (by decide) (by decide) (fun _ => ?_) (fun q => absurd q (by decide))
                            refine br_iload_2 dX3_go_338 ?_
                            refine br_if_eq (tgt := 346) dX3_go_339 (by decide) (by decide) (fun q => absurd q (by decide)) (fun _ => ?_)
                            have hok := (r5.resolve_right (fun q => by have := q.1; omega)).2
                            refine br_iconst dX3_go_342 ?_
                            refine br_goto (tgt := 347) dX3_go_343 (by decide) ?_
                            refine br_mp_6 dX3_go_347 ?_
                            exact br_return dX3_go_350 (by decide) (by decide) (hret _ _ (⟨rfl, _, _, rfl, goEnd (tk := (F1 4, 2, F2 4, 0)) ⟨F1 4, ⟨by omega, h2, by unfold isSp; omega⟩, Or.inr (Or.inr (Or.inr (Or.inr ⟨by omega, by omega, hal0, F2 4, hrun, Or.inl ⟨hok, rfl⟩⟩)))⟩ (mTk_word (F1 4) (F2 4) rfl r2 rfl r6 hok hlt (by omega) (by omega)), ⟨q0, q2, q3, q8, q9, q14, q16, q17⟩⟩))
                  exact lp177 _ _ _ _ (Nat.lt_succ_self _) hk rfl (show F1 4 ≤ F1 4 ∧ F1 4 ≤ n from by omega) (show ∀ y : Int, F1 4 ≤ y → y < F1 4 → _ from fun y _ _ => by omega) (Or.inl ⟨rfl, allLt_0 _ _⟩) (hashT_0 _ _).symm (numV_0 _ _).symm
                · refine br_if_ne (tgt := 160) dX3_go_124 (by decide) (by decide) (fun q => absurd q (by decide)) (fun _ => ?_)
                  refine br_iload_1 dX3_go_127 ?_
                  refine br_SZ1 (ct_m_isDigit (by omega)) lk_X3_34 ⟨Nat.le_of_ble_eq_true rfl, Nat.le_of_ble_eq_true rfl⟩ ⟨Nat.le_of_ble_eq_true rfl, Nat.le_of_ble_eq_true rfl⟩  (Nat.le_of_ble_eq_true rfl) dX3_go_128 (fun c128 => ?_) (fun c128 => ?_)
                  · refine br_if_ne (tgt := 160) dX3_go_131 (by decide) (by decide) (fun _ => ?_) (fun q => absurd q (by decide))
                    have hal0 : isAl (T (F1 4)) := by unfold isAl isLt isDg; omega
                    refine br_iload_1 dX3_go_160 ?_
                    refine br_SZ1 (ct_m_isLetter (by omega)) lk_X3_30 ⟨Nat.le_of_ble_eq_true rfl, Nat.le_of_ble_eq_true rfl⟩ ⟨Nat.le_of_ble_eq_true rfl, Nat.le_of_ble_eq_true rfl⟩  (Nat.le_of_ble_eq_true rfl) dX3_go_161 (fun q => absurd q (by omega)) (fun c161 => ?_)
                    have hfd : isDg (T (F1 4)) := by unfold isDg; omega
                    refine br_istore_2 dX3_go_164 rfl ?_
                    refine br_iconst dX3_go_165 ?_
                    refine br_istore_3 dX3_go_166 rfl ?_
                    refine br_aload_0 dX3_go_167 ?_
                    refine br_lconst0 dX3_go_168 ?_
                    refine br_mp_10 dX3_go_169 ?_
                    refine br_aload_0 dX3_go_172 ?_
                    refine br_iconst dX3_go_173 ?_
                    refine br_mp_7 dX3_go_174 ?_
                    have lp177 : ∀ (mm177 : Nat) (F2 : Nat → Int) (wd2 : Int) (g : Int), (n - F2 4).toNat < mm177 → (mKp F F2) → (F2 5 = F1 4) → (F1 4 ≤ F2 4 ∧ F2 4 ≤ n) → (∀ y : Int, F1 4 ≤ y → y < F2 4 → y < n ∧ isAl (T y)) → ((g = 1 ∧ allDg T (F1 4) (F2 4)) ∨ (g = 0 ∧ ¬ allDg T (F1 4) (F2 4))) → (wd2 = hashT T (F1 4) (F2 4)) → (F2 7 = numV T (F1 4) (F2 4)) → bk_V Γ D ({ frames := 1, cells := 0, slots := 0, locals := 21 }) "BreakSetterModel" cX3_go [] 0 0 (mw o a F2 wd2 G ex) [some (.ref o), some (.int (iI (G 1 (F1 4)))), some (.int (iI 0)), some (.int (iI g)), none] [] 177 := by
                      intro mm177
                      induction mm177 with
                      | zero => intro F2 wd2 g hm177; exact absurd hm177 (Nat.not_lt_zero _)
                      | succ mm177 ih177 =>
                        intro F2 wd2 g hm177 r1 r2 r3 r4 r5 r6 r7
                        obtain ⟨q0, q2, q3, q8, q9, q14, q16, q17⟩ := r1
                        have r3a : F1 4 ≤ F2 4 ∧ F2 4 ≤ n := r3
                        refine br_aload_0 dX3_go_177 ?_
                        refine br_aload_0 dX3_go_178 ?_
                        refine br_mg_4 (v := F2 4) rfl dX3_go_179 ?_
                        refine br_Vi1 (i := 40) (j := 0) (ct_m_tapeAt (T := T) (n := n) hT (by omega) (by omega)) lk_X3_44 ⟨Nat.le_of_ble_eq_true rfl, Nat.le_of_ble_eq_true rfl⟩ ⟨Nat.le_of_ble_eq_true rfl, Nat.le_of_ble_eq_true rfl⟩ rfl rfl (Nat.le_of_ble_eq_true rfl) dX3_go_182 (fun v182 w_ hw_ => ?_)
                        obtain ⟨hb182, rfl⟩ := hw_
                        refine br_SZ1 (ct_m_isLetter (by omega)) lk_X3_30 ⟨Nat.le_of_ble_eq_true rfl, Nat.le_of_ble_eq_true rfl⟩ ⟨Nat.le_of_ble_eq_true rfl, Nat.le_of_ble_eq_true rfl⟩  (Nat.le_of_ble_eq_true rfl) dX3_go_185 (fun c185 => ?_) (fun c185 => ?_)
                        · refine br_if_ne (tgt := 205) dX3_go_188 (by decide) (by decide) (fun _ => ?_) (fun q => absurd q (by decide))
                          have ht2 := hT.1 (F2 4) (by omega) (by omega)
                          refine br_aload_0 dX3_go_205 ?_
                          refine br_mg_1 dX3_go_206 ?_
                          refine br_aload_0 dX3_go_209 ?_
                          refine br_mg_4 (v := F2 4) rfl dX3_go_210 ?_
                          refine br_ml_1 (v := G 1 (F2 4)) (by omega) rfl dX3_go_213 ?_
                          refine br_istore_4 dX3_go_214 rfl ?_
                          refine br_iload_3 dX3_go_216 ?_
                          refine br_if_eq (tgt := 233) dX3_go_217 (by decide) (by omega) (fun c217 => ?_) (fun c217 => ?_)
                          · refine br_iconst dX3_go_233 ?_
                            refine br_istore_3 dX3_go_234 rfl ?_
                            refine br_aload_0 dX3_go_235 ?_
                            refine br_mg_4 (v := F2 4) rfl dX3_go_236 ?_
                            refine br_aload_0 dX3_go_239 ?_
                            refine br_mg_5 (v := F2 5) rfl dX3_go_240 ?_
                            refine br_isub dX3_go_243 ?_
                            refine br_bipush dX3_go_244 (by decide) ?_
                            refine br_icmp_ge (tgt := 269) dX3_go_246 (by decide) (by omega) (fun c246 => ?_) (fun c246 => ?_)
                            · refine br_aload_0 dX3_go_269 ?_
                              refine br_mg_4 (v := F2 4) rfl dX3_go_270 ?_
                              refine br_aload_0 dX3_go_273 ?_
                              refine br_mg_5 (v := F2 5) rfl dX3_go_274 ?_
                              refine br_isub dX3_go_277 ?_
                              refine br_iconst dX3_go_278 ?_
                              refine br_icmp_ge (tgt := 299) dX3_go_279 (by decide) (by omega) (fun c279 => ?_) (fun q => absurd q (by omega))
                              refine br_aload_0 dX3_go_299 ?_
                              refine br_dup dX3_go_300 rfl ?_
                              refine br_mg_4 (v := F2 4) rfl dX3_go_301 ?_
                              refine br_iconst dX3_go_304 ?_
                              refine br_iadd dX3_go_305 ?_
                              refine br_mp_4 dX3_go_306 ?_
                              refine br_goto (tgt := 177) dX3_go_309 (by decide) ?_
                              refine br_fg_4 ?_
                              have hal : isAl (T (F2 4)) := by unfold isAl isLt isDg; omega
                              have hgood : ((0 : Int) = 1 ∧ allDg T (F1 4) (F2 4 + 1)) ∨ ((0 : Int) = 0 ∧ ¬ allDg T (F1 4) (F2 4 + 1)) := by
                                rcases r5 with ⟨r5, r5a⟩ | ⟨r5, r5a⟩
                                · exact Or.inr ⟨rfl, allDg_x (by omega) (by unfold isDg; omega)⟩
                                · exact Or.inr ⟨rfl, allDg_n r5a⟩
                              have hh6 : wd2 = hashT T (F1 4) (F2 4 + 1) := by rw [hashT_stay (by omega)]; exact r6
                              have hn7 : F2 7 = numV T (F1 4) (F2 4 + 1) := by rw [numV_stay (by omega)]; exact r7
                              exact ih177 _ _ _ (show (n - (F2 4 + 1)).toNat < _ from by omega) ⟨q0, q2, q3, q8, q9, q14, q16, q17⟩ r2 (show F1 4 ≤ F2 4 + 1 ∧ F2 4 + 1 ≤ n from by omega) (run_s r4 (by omega) hal) hgood hh6 hn7
                            · refine br_aload_0 dX3_go_249 ?_
                              refine br_ldc2 (z := 27) q1386 (by decide) dX3_go_250 ?_
                              refine br_aload_0 dX3_go_253 ?_
                              refine br_mg_10 dX3_go_254 ?_
                              refine br_lmul dX3_go_257 ?_
                              refine br_iload_4 dX3_go_258 ?_
                              refine br_i2l dX3_go_260 (by omega) ?_
                              refine br_ladd dX3_go_261 ?_
                              refine br_ldc2 (z := 96) q1387 (by decide) dX3_go_262 ?_
                              refine br_lsub dX3_go_265 ?_
                              refine br_mp_10 dX3_go_266 ?_
                              refine br_aload_0 dX3_go_269 ?_
                              refine br_mg_4 (v := F2 4) rfl dX3_go_270 ?_
                              refine br_aload_0 dX3_go_273 ?_
                              refine br_mg_5 (v := F2 5) rfl dX3_go_274 ?_
                              refine br_isub dX3_go_277 ?_
                              refine br_iconst dX3_go_278 ?_
                              refine br_icmp_ge (tgt := 299) dX3_go_279 (by decide) (by omega) (fun c279 => ?_) (fun c279 => ?_)
                              · refine br_aload_0 dX3_go_299 ?_
                                refine br_dup dX3_go_300 rfl ?_
                                refine br_mg_4 (v := F2 4) rfl dX3_go_301 ?_
                                refine br_iconst dX3_go_304 ?_
                                refine br_iadd dX3_go_305 ?_
                                refine br_mp_4 dX3_go_306 ?_
                                refine br_goto (tgt := 177) dX3_go_309 (by decide) ?_
                                refine br_fg_4 ?_
                                have hal : isAl (T (F2 4)) := by unfold isAl isLt isDg; omega
                                have hgood : ((0 : Int) = 1 ∧ allDg T (F1 4) (F2 4 + 1)) ∨ ((0 : Int) = 0 ∧ ¬ allDg T (F1 4) (F2 4 + 1)) := by
                                  rcases r5 with ⟨r5, r5a⟩ | ⟨r5, r5a⟩
                                  · exact Or.inr ⟨rfl, allDg_x (by omega) (by unfold isDg; omega)⟩
                                  · exact Or.inr ⟨rfl, allDg_n r5a⟩
                                have hh6 : ((27 * wd2) + (G 1 (F2 4))) - 96 = hashT T (F1 4) (F2 4 + 1) := by rw [hashT_step (by omega), ← r6]; omega
                                have hn7 : F2 7 = numV T (F1 4) (F2 4 + 1) := by rw [numV_stay (by omega)]; exact r7
                                exact ih177 _ _ _ (show (n - (F2 4 + 1)).toNat < _ from by omega) ⟨q0, q2, q3, q8, q9, q14, q16, q17⟩ r2 (show F1 4 ≤ F2 4 + 1 ∧ F2 4 + 1 ≤ n from by omega) (run_s r4 (by omega) hal) hgood hh6 hn7
                              · refine br_aload_0 dX3_go_282 ?_
                                refine br_bipush dX3_go_283 (by decide) ?_
                                refine br_aload_0 dX3_go_285 ?_
                                refine br_mg_7 (v := F2 7) rfl dX3_go_286 ?_
                                refine br_imul dX3_go_289 ?_
                                refine br_iload_4 dX3_go_290 ?_
                                refine br_iadd dX3_go_292 ?_
                                refine br_bipush dX3_go_293 (by decide) ?_
                                refine br_isub dX3_go_295 ?_
                                refine br_mp_7 dX3_go_296 ?_
                                refine br_aload_0 dX3_go_299 ?_
                                refine br_dup dX3_go_300 rfl ?_
                                refine br_mg_4 (v := F2 4) rfl dX3_go_301 ?_
                                refine br_iconst dX3_go_304 ?_
                                refine br_iadd dX3_go_305 ?_
                                refine br_mp_4 dX3_go_306 ?_
                                refine br_goto (tgt := 177) dX3_go_309 (by decide) ?_
                                refine br_fg_4 ?_
                                have hal : isAl (T (F2 4)) := by unfold isAl isLt isDg; omega
                                have hgood : ((0 : Int) = 1 ∧ allDg T (F1 4) (F2 4 + 1)) ∨ ((0 : Int) = 0 ∧ ¬ allDg T (F1 4) (F2 4 + 1)) := by
                                  rcases r5 with ⟨r5, r5a⟩ | ⟨r5, r5a⟩
                                  · exact Or.inr ⟨rfl, allDg_x (by omega) (by unfold isDg; omega)⟩
                                  · exact Or.inr ⟨rfl, allDg_n r5a⟩
                                have hh6 : ((27 * wd2) + (G 1 (F2 4))) - 96 = hashT T (F1 4) (F2 4 + 1) := by rw [hashT_step (by omega), ← r6]; omega
                                have hn7 : ((10 * (F2 7)) + (G 1 (F2 4))) - 48 = numV T (F1 4) (F2 4 + 1) := by rw [numV_step (by omega), ← r7]; omega
                                exact ih177 _ _ _ (show (n - (F2 4 + 1)).toNat < _ from by omega) ⟨q0, q2, q3, q8, q9, q14, q16, q17⟩ r2 (show F1 4 ≤ F2 4 + 1 ∧ F2 4 + 1 ≤ n from by omega) (run_s r4 (by omega) hal) hgood hh6 hn7
                          · refine br_iload_4 dX3_go_220 ?_
                            refine br_SZ1 (ct_m_isLetter (by omega)) lk_X3_30 ⟨Nat.le_of_ble_eq_true rfl, Nat.le_of_ble_eq_true rfl⟩ ⟨Nat.le_of_ble_eq_true rfl, Nat.le_of_ble_eq_true rfl⟩  (Nat.le_of_ble_eq_true rfl) dX3_go_222 (fun c222 => ?_) (fun q => absurd q (by omega))
                            refine br_iload_2 dX3_go_225 ?_
                            refine br_icmp_ne (tgt := 233) dX3_go_226 (by decide) (by decide) (fun _ => ?_) (fun q => absurd q (by decide))
                            refine br_iconst dX3_go_233 ?_
                            refine br_istore_3 dX3_go_234 rfl ?_
                            refine br_aload_0 dX3_go_235 ?_
                            refine br_mg_4 (v := F2 4) rfl dX3_go_236 ?_
                            refine br_aload_0 dX3_go_239 ?_
                            refine br_mg_5 (v := F2 5) rfl dX3_go_240 ?_
                            refine br_isub dX3_go_243 ?_
                            refine br_bipush dX3_go_244 (by decide) ?_
                            refine br_icmp_ge (tgt := 269) dX3_go_246 (by decide) (by omega) (fun c246 => ?_) (fun c246 => ?_)
                            · refine br_aload_0 dX3_go_269 ?_
                              refine br_mg_4 (v := F2 4) rfl dX3_go_270 ?_
                              refine br_aload_0 dX3_go_273 ?_
                              refine br_mg_5 (v := F2 5) rfl dX3_go_274 ?_
                              refine br_isub dX3_go_277 ?_
                              refine br_iconst dX3_go_278 ?_
                              refine br_icmp_ge (tgt := 299) dX3_go_279 (by decide) (by omega) (fun c279 => ?_) (fun q => absurd q (by omega))
                              refine br_aload_0 dX3_go_299 ?_
                              refine br_dup dX3_go_300 rfl ?_
                              refine br_mg_4 (v := F2 4) rfl dX3_go_301 ?_
                              refine br_iconst dX3_go_304 ?_
                              refine br_iadd dX3_go_305 ?_
                              refine br_mp_4 dX3_go_306 ?_
                              refine br_goto (tgt := 177) dX3_go_309 (by decide) ?_
                              refine br_fg_4 ?_
                              have hal : isAl (T (F2 4)) := by unfold isAl isLt isDg; omega
                              have hgood : ((0 : Int) = 1 ∧ allDg T (F1 4) (F2 4 + 1)) ∨ ((0 : Int) = 0 ∧ ¬ allDg T (F1 4) (F2 4 + 1)) := by
                                rcases r5 with ⟨r5, r5a⟩ | ⟨r5, r5a⟩
                                · exact Or.inr ⟨rfl, allDg_x (by omega) (by unfold isDg; omega)⟩
                                · exact Or.inr ⟨rfl, allDg_n r5a⟩
                              have hh6 : wd2 = hashT T (F1 4) (F2 4 + 1) := by rw [hashT_stay (by omega)]; exact r6
                              have hn7 : F2 7 = numV T (F1 4) (F2 4 + 1) := by rw [numV_stay (by omega)]; exact r7
                              exact ih177 _ _ _ (show (n - (F2 4 + 1)).toNat < _ from by omega) ⟨q0, q2, q3, q8, q9, q14, q16, q17⟩ r2 (show F1 4 ≤ F2 4 + 1 ∧ F2 4 + 1 ≤ n from by omega) (run_s r4 (by omega) hal) hgood hh6 hn7
                            · refine br_aload_0 dX3_go_249 ?_
                              refine br_ldc2 (z := 27) q1386 (by decide) dX3_go_250 ?_
                              refine br_aload_0 dX3_go_253 ?_
                              refine br_mg_10 dX3_go_254 ?_
                              refine br_lmul dX3_go_257 ?_
                              refine br_iload_4 dX3_go_258 ?_
                              refine br_i2l dX3_go_260 (by omega) ?_
                              refine br_ladd dX3_go_261 ?_
                              refine br_ldc2 (z := 96) q1387 (by decide) dX3_go_262 ?_
                              refine br_lsub dX3_go_265 ?_
                              refine br_mp_10 dX3_go_266 ?_
                              refine br_aload_0 dX3_go_269 ?_
                              refine br_mg_4 (v := F2 4) rfl dX3_go_270 ?_
                              refine br_aload_0 dX3_go_273 ?_
                              refine br_mg_5 (v := F2 5) rfl dX3_go_274 ?_
                              refine br_isub dX3_go_277 ?_
                              refine br_iconst dX3_go_278 ?_
                              refine br_icmp_ge (tgt := 299) dX3_go_279 (by decide) (by omega) (fun c279 => ?_) (fun c279 => ?_)
                              · refine br_aload_0 dX3_go_299 ?_
                                refine br_dup dX3_go_300 rfl ?_
                                refine br_mg_4 (v := F2 4) rfl dX3_go_301 ?_
                                refine br_iconst dX3_go_304 ?_
                                refine br_iadd dX3_go_305 ?_
                                refine br_mp_4 dX3_go_306 ?_
                                refine br_goto (tgt := 177) dX3_go_309 (by decide) ?_
                                refine br_fg_4 ?_
                                have hal : isAl (T (F2 4)) := by unfold isAl isLt isDg; omega
                                have hgood : ((0 : Int) = 1 ∧ allDg T (F1 4) (F2 4 + 1)) ∨ ((0 : Int) = 0 ∧ ¬ allDg T (F1 4) (F2 4 + 1)) := by
                                  rcases r5 with ⟨r5, r5a⟩ | ⟨r5, r5a⟩
                                  · exact Or.inr ⟨rfl, allDg_x (by omega) (by unfold isDg; omega)⟩
                                  · exact Or.inr ⟨rfl, allDg_n r5a⟩
                                have hh6 : ((27 * wd2) + (G 1 (F2 4))) - 96 = hashT T (F1 4) (F2 4 + 1) := by rw [hashT_step (by omega), ← r6]; omega
                                have hn7 : F2 7 = numV T (F1 4) (F2 4 + 1) := by rw [numV_stay (by omega)]; exact r7
                                exact ih177 _ _ _ (show (n - (F2 4 + 1)).toNat < _ from by omega) ⟨q0, q2, q3, q8, q9, q14, q16, q17⟩ r2 (show F1 4 ≤ F2 4 + 1 ∧ F2 4 + 1 ≤ n from by omega) (run_s r4 (by omega) hal) hgood hh6 hn7
                              · refine br_aload_0 dX3_go_282 ?_
                                refine br_bipush dX3_go_283 (by decide) ?_
                                refine br_aload_0 dX3_go_285 ?_
                                refine br_mg_7 (v := F2 7) rfl dX3_go_286 ?_
                                refine br_imul dX3_go_289 ?_
                                refine br_iload_4 dX3_go_290 ?_
                                refine br_iadd dX3_go_292 ?_
                                refine br_bipush dX3_go_293 (by decide) ?_
                                refine br_isub dX3_go_295 ?_
                                refine br_mp_7 dX3_go_296 ?_
                                refine br_aload_0 dX3_go_299 ?_
                                refine br_dup dX3_go_300 rfl ?_
                                refine br_mg_4 (v := F2 4) rfl dX3_go_301 ?_
                                refine br_iconst dX3_go_304 ?_
                                refine br_iadd dX3_go_305 ?_
                                refine br_mp_4 dX3_go_306 ?_
                                refine br_goto (tgt := 177) dX3_go_309 (by decide) ?_
                                refine br_fg_4 ?_
                                have hal : isAl (T (F2 4)) := by unfold isAl isLt isDg; omega
                                have hgood : ((0 : Int) = 1 ∧ allDg T (F1 4) (F2 4 + 1)) ∨ ((0 : Int) = 0 ∧ ¬ allDg T (F1 4) (F2 4 + 1)) := by
                                  rcases r5 with ⟨r5, r5a⟩ | ⟨r5, r5a⟩
                                  · exact Or.inr ⟨rfl, allDg_x (by omega) (by unfold isDg; omega)⟩
                                  · exact Or.inr ⟨rfl, allDg_n r5a⟩
                                have hh6 : ((27 * wd2) + (G 1 (F2 4))) - 96 = hashT T (F1 4) (F2 4 + 1) := by rw [hashT_step (by omega), ← r6]; omega
                                have hn7 : ((10 * (F2 7)) + (G 1 (F2 4))) - 48 = numV T (F1 4) (F2 4 + 1) := by rw [numV_step (by omega), ← r7]; omega
                                exact ih177 _ _ _ (show (n - (F2 4 + 1)).toNat < _ from by omega) ⟨q0, q2, q3, q8, q9, q14, q16, q17⟩ r2 (show F1 4 ≤ F2 4 + 1 ∧ F2 4 + 1 ≤ n from by omega) (run_s r4 (by omega) hal) hgood hh6 hn7
                        · have hz185 : ¬ (97 ≤ v182 ∧ v182 ≤ 122) := c185
                          refine br_if_ne (tgt := 205) dX3_go_188 (by decide) (by decide) (fun q => absurd q (by decide)) (fun _ => ?_)
                          refine br_aload_0 dX3_go_191 ?_
                          refine br_aload_0 dX3_go_192 ?_
                          refine br_mg_4 (v := F2 4) rfl dX3_go_193 ?_
                          refine br_Vi1 (i := 40) (j := 0) (ct_m_tapeAt (T := T) (n := n) hT (by omega) (by omega)) lk_X3_44 ⟨Nat.le_of_ble_eq_true rfl, Nat.le_of_ble_eq_true rfl⟩ ⟨Nat.le_of_ble_eq_true rfl, Nat.le_of_ble_eq_true rfl⟩ rfl rfl (Nat.le_of_ble_eq_true rfl) dX3_go_196 (fun v196 w_ hw_ => ?_)
                          obtain ⟨hb196, rfl⟩ := hw_
                          refine br_SZ1 (ct_m_isDigit (by omega)) lk_X3_34 ⟨Nat.le_of_ble_eq_true rfl, Nat.le_of_ble_eq_true rfl⟩ ⟨Nat.le_of_ble_eq_true rfl, Nat.le_of_ble_eq_true rfl⟩  (Nat.le_of_ble_eq_true rfl) dX3_go_199 (fun c199 => ?_) (fun c199 => ?_)
                          · refine br_if_eq (tgt := 312) dX3_go_202 (by decide) (by decide) (fun q => absurd q (by decide)) (fun _ => ?_)
                            have ht2 := hT.1 (F2 4) (by omega) (by omega)
                            refine br_aload_0 dX3_go_205 ?_
                            refine br_mg_1 dX3_go_206 ?_
                            refine br_aload_0 dX3_go_209 ?_
                            refine br_mg_4 (v := F2 4) rfl dX3_go_210 ?_
                            refine br_ml_1 (v := G 1 (F2 4)) (by omega) rfl dX3_go_213 ?_
                            refine br_istore_4 dX3_go_214 rfl ?_
                            refine br_iload_3 dX3_go_216 ?_
                            refine br_if_eq (tgt := 233) dX3_go_217 (by decide) (by omega) (fun c217 => ?_) (fun c217 => ?_)
                            · refine br_iconst dX3_go_233 ?_
                              refine br_istore_3 dX3_go_234 rfl ?_
                              refine br_aload_0 dX3_go_235 ?_
                              refine br_mg_4 (v := F2 4) rfl dX3_go_236 ?_
                              refine br_aload_0 dX3_go_239 ?_
                              refine br_mg_5 (v := F2 5) rfl dX3_go_240 ?_
                              refine br_isub dX3_go_243 ?_
                              refine br_bipush dX3_go_244 (by decide) ?_
                              refine br_icmp_ge (tgt := 269) dX3_go_246 (by decide) (by omega) (fun c246 => ?_) (fun c246 => ?_)
                              · refine br_aload_0 dX3_go_269 ?_
                                refine br_mg_4 (v := F2 4) rfl dX3_go_270 ?_
                                refine br_aload_0 dX3_go_273 ?_
                                refine br_mg_5 (v := F2 5) rfl dX3_go_274 ?_
                                refine br_isub dX3_go_277 ?_
                                refine br_iconst dX3_go_278 ?_
                                refine br_icmp_ge (tgt := 299) dX3_go_279 (by decide) (by omega) (fun c279 => ?_) (fun q => absurd q (by omega))
                                refine br_aload_0 dX3_go_299 ?_
                                refine br_dup dX3_go_300 rfl ?_
                                refine br_mg_4 (v := F2 4) rfl dX3_go_301 ?_
                                refine br_iconst dX3_go_304 ?_
                                refine br_iadd dX3_go_305 ?_
                                refine br_mp_4 dX3_go_306 ?_
                                refine br_goto (tgt := 177) dX3_go_309 (by decide) ?_
                                refine br_fg_4 ?_
                                have hal : isAl (T (F2 4)) := by unfold isAl isLt isDg; omega
                                have hgood : ((0 : Int) = 1 ∧ allDg T (F1 4) (F2 4 + 1)) ∨ ((0 : Int) = 0 ∧ ¬ allDg T (F1 4) (F2 4 + 1)) := by
                                  rcases r5 with ⟨r5, r5a⟩ | ⟨r5, r5a⟩
                                  · exact Or.inr ⟨rfl, allDg_x (by omega) (by unfold isDg; omega)⟩
                                  · exact Or.inr ⟨rfl, allDg_n r5a⟩
                                have hh6 : wd2 = hashT T (F1 4) (F2 4 + 1) := by rw [hashT_stay (by omega)]; exact r6
                                have hn7 : F2 7 = numV T (F1 4) (F2 4 + 1) := by rw [numV_stay (by omega)]; exact r7
                                exact ih177 _ _ _ (show (n - (F2 4 + 1)).toNat < _ from by omega) ⟨q0, q2, q3, q8, q9, q14, q16, q17⟩ r2 (show F1 4 ≤ F2 4 + 1 ∧ F2 4 + 1 ≤ n from by omega) (run_s r4 (by omega) hal) hgood hh6 hn7
                              · refine br_aload_0 dX3_go_249 ?_
                                refine br_ldc2 (z := 27) q1386 (by decide) dX3_go_250 ?_
                                refine br_aload_0 dX3_go_253 ?_
                                refine br_mg_10 dX3_go_254 ?_
                                refine br_lmul dX3_go_257 ?_
                                refine br_iload_4 dX3_go_258 ?_
                                refine br_i2l dX3_go_260 (by omega) ?_
                                refine br_ladd dX3_go_261 ?_
                                refine br_ldc2 (z := 96) q1387 (by decide) dX3_go_262 ?_
                                refine br_lsub dX3_go_265 ?_
                                refine br_mp_10 dX3_go_266 ?_
                                refine br_aload_0 dX3_go_269 ?_
                                refine br_mg_4 (v := F2 4) rfl dX3_go_270 ?_
                                refine br_aload_0 dX3_go_273 ?_
                                refine br_mg_5 (v := F2 5) rfl dX3_go_274 ?_
                                refine br_isub dX3_go_277 ?_
                                refine br_iconst dX3_go_278 ?_
                                refine br_icmp_ge (tgt := 299) dX3_go_279 (by decide) (by omega) (fun c279 => ?_) (fun c279 => ?_)
                                · refine br_aload_0 dX3_go_299 ?_
                                  refine br_dup dX3_go_300 rfl ?_
                                  refine br_mg_4 (v := F2 4) rfl dX3_go_301 ?_
                                  refine br_iconst dX3_go_304 ?_
                                  refine br_iadd dX3_go_305 ?_
                                  refine br_mp_4 dX3_go_306 ?_
                                  refine br_goto (tgt := 177) dX3_go_309 (by decide) ?_
                                  refine br_fg_4 ?_
                                  have hal : isAl (T (F2 4)) := by unfold isAl isLt isDg; omega
                                  have hgood : ((0 : Int) = 1 ∧ allDg T (F1 4) (F2 4 + 1)) ∨ ((0 : Int) = 0 ∧ ¬ allDg T (F1 4) (F2 4 + 1)) := by
                                    rcases r5 with ⟨r5, r5a⟩ | ⟨r5, r5a⟩
                                    · exact Or.inr ⟨rfl, allDg_x (by omega) (by unfold isDg; omega)⟩
                                    · exact Or.inr ⟨rfl, allDg_n r5a⟩
                                  have hh6 : ((27 * wd2) + (G 1 (F2 4))) - 96 = hashT T (F1 4) (F2 4 + 1) := by rw [hashT_step (by omega), ← r6]; omega
                                  have hn7 : F2 7 = numV T (F1 4) (F2 4 + 1) := by rw [numV_stay (by omega)]; exact r7
                                  exact ih177 _ _ _ (show (n - (F2 4 + 1)).toNat < _ from by omega) ⟨q0, q2, q3, q8, q9, q14, q16, q17⟩ r2 (show F1 4 ≤ F2 4 + 1 ∧ F2 4 + 1 ≤ n from by omega) (run_s r4 (by omega) hal) hgood hh6 hn7
                                · refine br_aload_0 dX3_go_282 ?_
                                  refine br_bipush dX3_go_283 (by decide) ?_
                                  refine br_aload_0 dX3_go_285 ?_
                                  refine br_mg_7 (v := F2 7) rfl dX3_go_286 ?_
                                  refine br_imul dX3_go_289 ?_
                                  refine br_iload_4 dX3_go_290 ?_
                                  refine br_iadd dX3_go_292 ?_
                                  refine br_bipush dX3_go_293 (by decide) ?_
                                  refine br_isub dX3_go_295 ?_
                                  refine br_mp_7 dX3_go_296 ?_
                                  refine br_aload_0 dX3_go_299 ?_
                                  refine br_dup dX3_go_300 rfl ?_
                                  refine br_mg_4 (v := F2 4) rfl dX3_go_301 ?_
                                  refine br_iconst dX3_go_304 ?_
                                  refine br_iadd dX3_go_305 ?_
                                  refine br_mp_4 dX3_go_306 ?_
                                  refine br_goto (tgt := 177) dX3_go_309 (by decide) ?_
                                  refine br_fg_4 ?_
                                  have hal : isAl (T (F2 4)) := by unfold isAl isLt isDg; omega
                                  have hgood : ((0 : Int) = 1 ∧ allDg T (F1 4) (F2 4 + 1)) ∨ ((0 : Int) = 0 ∧ ¬ allDg T (F1 4) (F2 4 + 1)) := by
                                    rcases r5 with ⟨r5, r5a⟩ | ⟨r5, r5a⟩
                                    · exact Or.inr ⟨rfl, allDg_x (by omega) (by unfold isDg; omega)⟩
                                    · exact Or.inr ⟨rfl, allDg_n r5a⟩
                                  have hh6 : ((27 * wd2) + (G 1 (F2 4))) - 96 = hashT T (F1 4) (F2 4 + 1) := by rw [hashT_step (by omega), ← r6]; omega
                                  have hn7 : ((10 * (F2 7)) + (G 1 (F2 4))) - 48 = numV T (F1 4) (F2 4 + 1) := by rw [numV_step (by omega), ← r7]; omega
                                  exact ih177 _ _ _ (show (n - (F2 4 + 1)).toNat < _ from by omega) ⟨q0, q2, q3, q8, q9, q14, q16, q17⟩ r2 (show F1 4 ≤ F2 4 + 1 ∧ F2 4 + 1 ≤ n from by omega) (run_s r4 (by omega) hal) hgood hh6 hn7
                            · refine br_iload_4 dX3_go_220 ?_
                              refine br_SZ1 (ct_m_isLetter (by omega)) lk_X3_30 ⟨Nat.le_of_ble_eq_true rfl, Nat.le_of_ble_eq_true rfl⟩ ⟨Nat.le_of_ble_eq_true rfl, Nat.le_of_ble_eq_true rfl⟩  (Nat.le_of_ble_eq_true rfl) dX3_go_222 (fun q => absurd q (by omega)) (fun c222 => ?_)
                              refine br_iload_2 dX3_go_225 ?_
                              refine br_icmp_ne (tgt := 233) dX3_go_226 (by decide) (by decide) (fun q => absurd q (by decide)) (fun _ => ?_)
                              refine br_iconst dX3_go_229 ?_
                              refine br_goto (tgt := 234) dX3_go_230 (by decide) ?_
                              refine br_istore_3 dX3_go_234 rfl ?_
                              refine br_aload_0 dX3_go_235 ?_
                              refine br_mg_4 (v := F2 4) rfl dX3_go_236 ?_
                              refine br_aload_0 dX3_go_239 ?_
                              refine br_mg_5 (v := F2 5) rfl dX3_go_240 ?_
                              refine br_isub dX3_go_243 ?_
                              refine br_bipush dX3_go_244 (by decide) ?_
                              refine br_icmp_ge (tgt := 269) dX3_go_246 (by decide) (by omega) (fun c246 => ?_) (fun c246 => ?_)
                              · refine br_aload_0 dX3_go_269 ?_
                                refine br_mg_4 (v := F2 4) rfl dX3_go_270 ?_
                                refine br_aload_0 dX3_go_273 ?_
                                refine br_mg_5 (v := F2 5) rfl dX3_go_274 ?_
                                refine br_isub dX3_go_277 ?_
                                refine br_iconst dX3_go_278 ?_
                                refine br_icmp_ge (tgt := 299) dX3_go_279 (by decide) (by omega) (fun c279 => ?_) (fun q => absurd q (by omega))
                                refine br_aload_0 dX3_go_299 ?_
                                refine br_dup dX3_go_300 rfl ?_
                                refine br_mg_4 (v := F2 4) rfl dX3_go_301 ?_
                                refine br_iconst dX3_go_304 ?_
                                refine br_iadd dX3_go_305 ?_
                                refine br_mp_4 dX3_go_306 ?_
                                refine br_goto (tgt := 177) dX3_go_309 (by decide) ?_
                                refine br_fg_4 ?_
                                have hal : isAl (T (F2 4)) := by unfold isAl isLt isDg; omega
                                have hgood : ((1 : Int) = 1 ∧ allDg T (F1 4) (F2 4 + 1)) ∨ ((1 : Int) = 0 ∧ ¬ allDg T (F1 4) (F2 4 + 1)) := by
                                  rcases r5 with ⟨r5, r5a⟩ | ⟨r5, r5a⟩
                                  · exact Or.inl ⟨rfl, allDg_s r5a (by unfold isDg; unfold isAl isLt isDg at hal; omega)⟩
                                  · omega
                                have hh6 : wd2 = hashT T (F1 4) (F2 4 + 1) := by rw [hashT_stay (by omega)]; exact r6
                                have hn7 : F2 7 = numV T (F1 4) (F2 4 + 1) := by rw [numV_stay (by omega)]; exact r7
                                exact ih177 _ _ _ (show (n - (F2 4 + 1)).toNat < _ from by omega) ⟨q0, q2, q3, q8, q9, q14, q16, q17⟩ r2 (show F1 4 ≤ F2 4 + 1 ∧ F2 4 + 1 ≤ n from by omega) (run_s r4 (by omega) hal) hgood hh6 hn7
                              · refine br_aload_0 dX3_go_249 ?_
                                refine br_ldc2 (z := 27) q1386 (by decide) dX3_go_250 ?_
                                refine br_aload_0 dX3_go_253 ?_
                                refine br_mg_10 dX3_go_254 ?_
                                refine br_lmul dX3_go_257 ?_
                                refine br_iload_4 dX3_go_258 ?_
                                refine br_i2l dX3_go_260 (by omega) ?_
                                refine br_ladd dX3_go_261 ?_
                                refine br_ldc2 (z := 96) q1387 (by decide) dX3_go_262 ?_
                                refine br_lsub dX3_go_265 ?_
                                refine br_mp_10 dX3_go_266 ?_
                                refine br_aload_0 dX3_go_269 ?_
                                refine br_mg_4 (v := F2 4) rfl dX3_go_270 ?_
                                refine br_aload_0 dX3_go_273 ?_
                                refine br_mg_5 (v := F2 5) rfl dX3_go_274 ?_
                                refine br_isub dX3_go_277 ?_
                                refine br_iconst dX3_go_278 ?_
                                refine br_icmp_ge (tgt := 299) dX3_go_279 (by decide) (by omega) (fun c279 => ?_) (fun c279 => ?_)
                                · refine br_aload_0 dX3_go_299 ?_
                                  refine br_dup dX3_go_300 rfl ?_
                                  refine br_mg_4 (v := F2 4) rfl dX3_go_301 ?_
                                  refine br_iconst dX3_go_304 ?_
                                  refine br_iadd dX3_go_305 ?_
                                  refine br_mp_4 dX3_go_306 ?_
                                  refine br_goto (tgt := 177) dX3_go_309 (by decide) ?_
                                  refine br_fg_4 ?_
                                  have hal : isAl (T (F2 4)) := by unfold isAl isLt isDg; omega
                                  have hgood : ((1 : Int) = 1 ∧ allDg T (F1 4) (F2 4 + 1)) ∨ ((1 : Int) = 0 ∧ ¬ allDg T (F1 4) (F2 4 + 1)) := by
                                    rcases r5 with ⟨r5, r5a⟩ | ⟨r5, r5a⟩
                                    · exact Or.inl ⟨rfl, allDg_s r5a (by unfold isDg; unfold isAl isLt isDg at hal; omega)⟩
                                    · omega
                                  have hh6 : ((27 * wd2) + (G 1 (F2 4))) - 96 = hashT T (F1 4) (F2 4 + 1) := by rw [hashT_step (by omega), ← r6]; omega
                                  have hn7 : F2 7 = numV T (F1 4) (F2 4 + 1) := by rw [numV_stay (by omega)]; exact r7
                                  exact ih177 _ _ _ (show (n - (F2 4 + 1)).toNat < _ from by omega) ⟨q0, q2, q3, q8, q9, q14, q16, q17⟩ r2 (show F1 4 ≤ F2 4 + 1 ∧ F2 4 + 1 ≤ n from by omega) (run_s r4 (by omega) hal) hgood hh6 hn7
                                · refine br_aload_0 dX3_go_282 ?_
                                  refine br_bipush dX3_go_283 (by decide) ?_
                                  refine br_aload_0 dX3_go_285 ?_
                                  refine br_mg_7 (v := F2 7) rfl dX3_go_286 ?_
                                  refine br_imul dX3_go_289 ?_
                                  refine br_iload_4 dX3_go_290 ?_
                                  refine br_iadd dX3_go_292 ?_
                                  refine br_bipush dX3_go_293 (by decide) ?_
                                  refine br_isub dX3_go_295 ?_
                                  refine br_mp_7 dX3_go_296 ?_
                                  refine br_aload_0 dX3_go_299 ?_
                                  refine br_dup dX3_go_300 rfl ?_
                                  refine br_mg_4 (v := F2 4) rfl dX3_go_301 ?_
                                  refine br_iconst dX3_go_304 ?_
                                  refine br_iadd dX3_go_305 ?_
                                  refine br_mp_4 dX3_go_306 ?_
                                  refine br_goto (tgt := 177) dX3_go_309 (by decide) ?_
                                  refine br_fg_4 ?_
                                  have hal : isAl (T (F2 4)) := by unfold isAl isLt isDg; omega
                                  have hgood : ((1 : Int) = 1 ∧ allDg T (F1 4) (F2 4 + 1)) ∨ ((1 : Int) = 0 ∧ ¬ allDg T (F1 4) (F2 4 + 1)) := by
                                    rcases r5 with ⟨r5, r5a⟩ | ⟨r5, r5a⟩
                                    · exact Or.inl ⟨rfl, allDg_s r5a (by unfold isDg; unfold isAl isLt isDg at hal; omega)⟩
                                    · omega
                                  have hh6 : ((27 * wd2) + (G 1 (F2 4))) - 96 = hashT T (F1 4) (F2 4 + 1) := by rw [hashT_step (by omega), ← r6]; omega
                                  have hn7 : ((10 * (F2 7)) + (G 1 (F2 4))) - 48 = numV T (F1 4) (F2 4 + 1) := by rw [numV_step (by omega), ← r7]; omega
                                  exact ih177 _ _ _ (show (n - (F2 4 + 1)).toNat < _ from by omega) ⟨q0, q2, q3, q8, q9, q14, q16, q17⟩ r2 (show F1 4 ≤ F2 4 + 1 ∧ F2 4 + 1 ≤ n from by omega) (run_s r4 (by omega) hal) hgood hh6 hn7
                          · refine br_if_eq (tgt := 312) dX3_go_202 (by decide) (by decide) (fun _ => ?_) (fun q => absurd q (by decide))
                            have hrun : runR T n (F1 4) (F2 4) := ⟨by omega, r4, by unfold isAl isLt isDg; omega⟩
                            have hlt := runR_pos hrun (by omega) hal0
                            refine br_aload_0 dX3_go_312 ?_
                            refine br_iload_3 dX3_go_313 ?_
                            refine br_if_eq (tgt := 334) dX3_go_314 (by decide) (by omega) (fun c314 => ?_) (fun c314 => ?_)
                            · have hnok := (r5.resolve_left (fun q => by have := q.1; omega)).2
                              refine br_iconst dX3_go_334 ?_
                              refine br_goto (tgt := 347) dX3_go_335 (by decide) ?_
                              refine br_mp_6 dX3_go_347 ?_
                              exact br_return dX3_go_350 (by decide) (by decide) (hret _ _ (⟨rfl, _, _, rfl, goEnd (tk := (F1 4, 1, F2 4, 0)) ⟨F1 4, ⟨by omega, h2, by unfold isSp; omega⟩, Or.inr (Or.inr (Or.inr (Or.inr ⟨by omega, by omega, hal0, F2 4, hrun, Or.inr (Or.inr ⟨notLt_of hlt hfd, (fun q => by first | exact absurd q.1 hnok | (have := q.2; omega)), rfl⟩)⟩)))⟩ (mTk_mk 1 (F1 4) (F2 4) rfl r2 rfl (by omega) (by omega) (by omega)), ⟨q0, q2, q3, q8, q9, q14, q16, q17⟩⟩))
                            · refine br_iload_2 dX3_go_317 ?_
                              refine br_if_ne (tgt := 338) dX3_go_318 (by decide) (by decide) (fun q => absurd q (by decide)) (fun _ => ?_)
                              refine br_aload_0 dX3_go_321 ?_
                              refine br_mg_4 (v := F2 4) rfl dX3_go_322 ?_
                              refine br_aload_0 dX3_go_325 ?_
                              refine br_mg_5 (v := F2 5) rfl dX3_go_326 ?_
                              refine br_isub dX3_go_329 ?_
                              refine br_iconst dX3_go_330 ?_
                              refine br_icmp_le (tgt := 338) dX3_go_331 (by decide) (by omega) (fun c331 => ?_) (fun c331 => ?_)
                              · refine br_iload_2 dX3_go_338 ?_
                                refine br_if_eq (tgt := 346) dX3_go_339 (by decide) (by decide) (fun _ => ?_) (fun q => absurd q (by decide))
                                have hok := (r5.resolve_right (fun q => by have := q.1; omega)).2
                                refine br_iconst dX3_go_346 ?_
                                refine br_mp_6 dX3_go_347 ?_
                                exact br_return dX3_go_350 (by decide) (by decide) (hret _ _ (⟨rfl, _, _, rfl, goEnd (tk := (F1 4, 3, F2 4, numV T (F1 4) (F2 4))) ⟨F1 4, ⟨by omega, h2, by unfold isSp; omega⟩, Or.inr (Or.inr (Or.inr (Or.inr ⟨by omega, by omega, hal0, F2 4, hrun, Or.inr (Or.inl ⟨hok, by omega, rfl⟩)⟩)))⟩ (mTk_num (F1 4) (F2 4) _ rfl r2 rfl r7 (numV_bd hok (by omega)) (by omega) (by omega)), ⟨q0, q2, q3, q8, q9, q14, q16, q17⟩⟩))
                              · refine br_iconst dX3_go_334 ?_
                                refine br_goto (tgt := 347) dX3_go_335 (by decide) ?_
                                refine br_mp_6 dX3_go_347 ?_
                                exact br_return dX3_go_350 (by decide) (by decide) (hret _ _ (⟨rfl, _, _, rfl, goEnd (tk := (F1 4, 1, F2 4, 0)) ⟨F1 4, ⟨by omega, h2, by unfold isSp; omega⟩, Or.inr (Or.inr (Or.inr (Or.inr ⟨by omega, by omega, hal0, F2 4, hrun, Or.inr (Or.inr ⟨notLt_of hlt hfd, (fun q => by first | exact absurd q.1 hnok | (have := q.2; omega)), rfl⟩)⟩)))⟩ (mTk_mk 1 (F1 4) (F2 4) rfl r2 rfl (by omega) (by omega) (by omega)), ⟨q0, q2, q3, q8, q9, q14, q16, q17⟩⟩))
                    exact lp177 _ _ _ _ (Nat.lt_succ_self _) hk rfl (show F1 4 ≤ F1 4 ∧ F1 4 ≤ n from by omega) (show ∀ y : Int, F1 4 ≤ y → y < F1 4 → _ from fun y _ _ => by omega) (Or.inl ⟨rfl, allDg_0 _ _⟩) (hashT_0 _ _).symm (numV_0 _ _).symm
                  · refine br_if_ne (tgt := 160) dX3_go_131 (by decide) (by decide) (fun q => absurd q (by decide)) (fun _ => ?_)
                    refine br_aload_0 dX3_go_134 ?_
                    refine br_iload_1 dX3_go_135 ?_
                    refine br_bipush dX3_go_136 (by decide) ?_
                    refine br_icmp_ne (tgt := 145) dX3_go_138 (by decide) (by omega) (fun c138 => ?_) (fun c138 => ?_)
                    · refine br_iconst dX3_go_145 ?_
                      refine br_mp_6 dX3_go_146 ?_
                      refine br_aload_0 dX3_go_149 ?_
                      refine br_dup dX3_go_150 rfl ?_
                      refine br_mg_4 (v := F1 4) rfl dX3_go_151 ?_
                      refine br_iconst dX3_go_154 ?_
                      refine br_iadd dX3_go_155 ?_
                      refine br_mp_4 dX3_go_156 ?_
                      exact br_return dX3_go_159 (by decide) (by decide) (hret _ _ (⟨rfl, _, _, rfl, goEnd (tk := (F1 4, 1, F1 4 + 1, 0)) ⟨F1 4, ⟨by omega, h2, by unfold isSp; omega⟩, Or.inr (Or.inr (Or.inr (Or.inl ⟨by omega, by omega, by unfold isAl isLt isDg; omega, by omega, rfl⟩)))⟩ (mTk_mk 1 (F1 4) (F1 4 + 1) rfl rfl rfl (by omega) (by omega) (by omega)), hk⟩))
                    · refine br_iconst dX3_go_141 ?_
                      refine br_goto (tgt := 146) dX3_go_142 (by decide) ?_
                      refine br_mp_6 dX3_go_146 ?_
                      refine br_aload_0 dX3_go_149 ?_
                      refine br_dup dX3_go_150 rfl ?_
                      refine br_mg_4 (v := F1 4) rfl dX3_go_151 ?_
                      refine br_iconst dX3_go_154 ?_
                      refine br_iadd dX3_go_155 ?_
                      refine br_mp_4 dX3_go_156 ?_
                      exact br_return dX3_go_159 (by decide) (by decide) (hret _ _ (⟨rfl, _, _, rfl, goEnd (tk := (F1 4, 4, F1 4 + 1, 0)) ⟨F1 4, ⟨by omega, h2, by unfold isSp; omega⟩, Or.inr (Or.inr (Or.inl ⟨by omega, by omega, by unfold isAl isLt isDg; omega, by omega, rfl⟩))⟩ (mTk_mk 4 (F1 4) (F1 4 + 1) rfl rfl rfl (by omega) (by omega) (by omega)), hk⟩))
              · refine br_aload_0 dX3_go_104 ?_
                refine br_iconst dX3_go_105 ?_
                refine br_mp_6 dX3_go_106 ?_
                exact br_return dX3_go_109 (by decide) (by decide) (hret _ _ (⟨rfl, _, _, rfl, goEnd (tk := (F1 4, 0, F1 4, 0)) ⟨F1 4, ⟨by omega, h2, by unfold isSp; omega⟩, Or.inr (Or.inl ⟨by omega, by omega, rfl⟩)⟩ (mTk_mk 0 (F1 4) (F1 4) rfl rfl rfl (by omega) (by omega) (by omega)), hk⟩))
            · refine br_aload_0 dX3_go_70 ?_
              refine br_mg_5 (v := F1 4) rfl dX3_go_71 ?_
              refine br_sipush dX3_go_74 (by decide) ?_
              refine br_icmp_lt (tgt := 93) dX3_go_77 (by decide) (by omega) (fun c77 => ?_) (fun c77 => ?_)
              · refine br_aload_0 dX3_go_93 ?_
                refine br_mg_4 (v := F1 4) rfl dX3_go_94 ?_
                refine br_aload_0 dX3_go_97 ?_
                refine br_mg_3 (v := F1 3) rfl dX3_go_98 ?_
                refine br_icmp_lt (tgt := 110) dX3_go_101 (by decide) (by omega) (fun c101 => ?_) (fun c101 => ?_)
                · refine br_aload_0 dX3_go_110 ?_
                  refine br_mg_1 dX3_go_111 ?_
                  refine br_aload_0 dX3_go_114 ?_
                  refine br_mg_4 (v := F1 4) rfl dX3_go_115 ?_
                  refine br_ml_1 (v := G 1 (F1 4)) (by omega) rfl dX3_go_118 ?_
                  refine br_istore_1 dX3_go_119 rfl ?_
                  refine br_iload_1 dX3_go_120 ?_
                  refine br_SZ1 (ct_m_isLetter (by omega)) lk_X3_30 ⟨Nat.le_of_ble_eq_true rfl, Nat.le_of_ble_eq_true rfl⟩ ⟨Nat.le_of_ble_eq_true rfl, Nat.le_of_ble_eq_true rfl⟩  (Nat.le_of_ble_eq_true rfl) dX3_go_121 (fun c121 => ?_) (fun c121 => ?_)
                  · have hfd : isLt (T (F1 4)) := by unfold isLt; omega
                    refine br_if_ne (tgt := 160) dX3_go_124 (by decide) (by decide) (fun _ => ?_) (fun q => absurd q (by decide))
                    have hal0 : isAl (T (F1 4)) := by unfold isAl isLt isDg; omega
                    refine br_iload_1 dX3_go_160 ?_
                    refine br_SZ1 (ct_m_isLetter (by omega)) lk_X3_30 ⟨Nat.le_of_ble_eq_true rfl, Nat.le_of_ble_eq_true rfl⟩ ⟨Nat.le_of_ble_eq_true rfl, Nat.le_of_ble_eq_true rfl⟩  (Nat.le_of_ble_eq_true rfl) dX3_go_161 (fun c161 => ?_) (fun q => absurd q (by omega))
                    have hfd : isLt (T (F1 4)) := by unfold isLt; omega
                    refine br_istore_2 dX3_go_164 rfl ?_
                    refine br_iconst dX3_go_165 ?_
                    refine br_istore_3 dX3_go_166 rfl ?_
                    refine br_aload_0 dX3_go_167 ?_
                    refine br_lconst0 dX3_go_168 ?_
                    refine br_mp_10 dX3_go_169 ?_
                    refine br_aload_0 dX3_go_172 ?_
                    refine br_iconst dX3_go_173 ?_
                    refine br_mp_7 dX3_go_174 ?_
                    have lp177 : ∀ (mm177 : Nat) (F2 : Nat → Int) (wd2 : Int) (g : Int), (n - F2 4).toNat < mm177 → (mKp F F2) → (F2 5 = F1 4) → (F1 4 ≤ F2 4 ∧ F2 4 ≤ n) → (∀ y : Int, F1 4 ≤ y → y < F2 4 → y < n ∧ isAl (T y)) → ((g = 1 ∧ allLt T (F1 4) (F2 4)) ∨ (g = 0 ∧ ¬ allLt T (F1 4) (F2 4))) → (wd2 = hashT T (F1 4) (F2 4)) → (F2 7 = numV T (F1 4) (F2 4)) → bk_V Γ D ({ frames := 1, cells := 0, slots := 0, locals := 21 }) "BreakSetterModel" cX3_go [] 0 0 (mw o a F2 wd2 G ex) [some (.ref o), some (.int (iI (G 1 (F1 4)))), some (.int (iI 1)), some (.int (iI g)), none] [] 177 := by
                      intro mm177
                      induction mm177 with
                      | zero => intro F2 wd2 g hm177; exact absurd hm177 (Nat.not_lt_zero _)
                      | succ mm177 ih177 =>
                        intro F2 wd2 g hm177 r1 r2 r3 r4 r5 r6 r7
                        obtain ⟨q0, q2, q3, q8, q9, q14, q16, q17⟩ := r1
                        have r3a : F1 4 ≤ F2 4 ∧ F2 4 ≤ n := r3
                        refine br_aload_0 dX3_go_177 ?_
                        refine br_aload_0 dX3_go_178 ?_
                        refine br_mg_4 (v := F2 4) rfl dX3_go_179 ?_
                        refine br_Vi1 (i := 40) (j := 0) (ct_m_tapeAt (T := T) (n := n) hT (by omega) (by omega)) lk_X3_44 ⟨Nat.le_of_ble_eq_true rfl, Nat.le_of_ble_eq_true rfl⟩ ⟨Nat.le_of_ble_eq_true rfl, Nat.le_of_ble_eq_true rfl⟩ rfl rfl (Nat.le_of_ble_eq_true rfl) dX3_go_182 (fun v182 w_ hw_ => ?_)
                        obtain ⟨hb182, rfl⟩ := hw_
                        refine br_SZ1 (ct_m_isLetter (by omega)) lk_X3_30 ⟨Nat.le_of_ble_eq_true rfl, Nat.le_of_ble_eq_true rfl⟩ ⟨Nat.le_of_ble_eq_true rfl, Nat.le_of_ble_eq_true rfl⟩  (Nat.le_of_ble_eq_true rfl) dX3_go_185 (fun c185 => ?_) (fun c185 => ?_)
                        · refine br_if_ne (tgt := 205) dX3_go_188 (by decide) (by decide) (fun _ => ?_) (fun q => absurd q (by decide))
                          have ht2 := hT.1 (F2 4) (by omega) (by omega)
                          refine br_aload_0 dX3_go_205 ?_
                          refine br_mg_1 dX3_go_206 ?_
                          refine br_aload_0 dX3_go_209 ?_
                          refine br_mg_4 (v := F2 4) rfl dX3_go_210 ?_
                          refine br_ml_1 (v := G 1 (F2 4)) (by omega) rfl dX3_go_213 ?_
                          refine br_istore_4 dX3_go_214 rfl ?_
                          refine br_iload_3 dX3_go_216 ?_
                          refine br_if_eq (tgt := 233) dX3_go_217 (by decide) (by omega) (fun c217 => ?_) (fun c217 => ?_)
                          · refine br_iconst dX3_go_233 ?_
                            refine br_istore_3 dX3_go_234 rfl ?_
                            refine br_aload_0 dX3_go_235 ?_
                            refine br_mg_4 (v := F2 4) rfl dX3_go_236 ?_
                            refine br_aload_0 dX3_go_239 ?_
                            refine br_mg_5 (v := F2 5) rfl dX3_go_240 ?_
                            refine br_isub dX3_go_243 ?_
                            refine br_bipush dX3_go_244 (by decide) ?_
                            refine br_icmp_ge (tgt := 269) dX3_go_246 (by decide) (by omega) (fun c246 => ?_) (fun c246 => ?_)
                            · refine br_aload_0 dX3_go_269 ?_
                              refine br_mg_4 (v := F2 4) rfl dX3_go_270 ?_
                              refine br_aload_0 dX3_go_273 ?_
                              refine br_mg_5 (v := F2 5) rfl dX3_go_274 ?_
                              refine br_isub dX3_go_277 ?_
                              refine br_iconst dX3_go_278 ?_
                              refine br_icmp_ge (tgt := 299) dX3_go_279 (by decide) (by omega) (fun c279 => ?_) (fun q => absurd q (by omega))
                              refine br_aload_0 dX3_go_299 ?_
                              refine br_dup dX3_go_300 rfl ?_
                              refine br_mg_4 (v := F2 4) rfl dX3_go_301 ?_
                              refine br_iconst dX3_go_304 ?_
                              refine br_iadd dX3_go_305 ?_
                              refine br_mp_4 dX3_go_306 ?_
                              refine br_goto (tgt := 177) dX3_go_309 (by decide) ?_
                              refine br_fg_4 ?_
                              have hal : isAl (T (F2 4)) := by unfold isAl isLt isDg; omega
                              have hgood : ((0 : Int) = 1 ∧ allLt T (F1 4) (F2 4 + 1)) ∨ ((0 : Int) = 0 ∧ ¬ allLt T (F1 4) (F2 4 + 1)) := by
                                rcases r5 with ⟨r5, r5a⟩ | ⟨r5, r5a⟩
                                · exact Or.inr ⟨rfl, allLt_x (by omega) (by unfold isLt; omega)⟩
                                · exact Or.inr ⟨rfl, allLt_n r5a⟩
                              have hh6 : wd2 = hashT T (F1 4) (F2 4 + 1) := by rw [hashT_stay (by omega)]; exact r6
                              have hn7 : F2 7 = numV T (F1 4) (F2 4 + 1) := by rw [numV_stay (by omega)]; exact r7
                              exact ih177 _ _ _ (show (n - (F2 4 + 1)).toNat < _ from by omega) ⟨q0, q2, q3, q8, q9, q14, q16, q17⟩ r2 (show F1 4 ≤ F2 4 + 1 ∧ F2 4 + 1 ≤ n from by omega) (run_s r4 (by omega) hal) hgood hh6 hn7
                            · refine br_aload_0 dX3_go_249 ?_
                              refine br_ldc2 (z := 27) q1386 (by decide) dX3_go_250 ?_
                              refine br_aload_0 dX3_go_253 ?_
                              refine br_mg_10 dX3_go_254 ?_
                              refine br_lmul dX3_go_257 ?_
                              refine br_iload_4 dX3_go_258 ?_
                              refine br_i2l dX3_go_260 (by omega) ?_
                              refine br_ladd dX3_go_261 ?_
                              refine br_ldc2 (z := 96) q1387 (by decide) dX3_go_262 ?_
                              refine br_lsub dX3_go_265 ?_
                              refine br_mp_10 dX3_go_266 ?_
                              refine br_aload_0 dX3_go_269 ?_
                              refine br_mg_4 (v := F2 4) rfl dX3_go_270 ?_
                              refine br_aload_0 dX3_go_273 ?_
                              refine br_mg_5 (v := F2 5) rfl dX3_go_274 ?_
                              refine br_isub dX3_go_277 ?_
                              refine br_iconst dX3_go_278 ?_
                              refine br_icmp_ge (tgt := 299) dX3_go_279 (by decide) (by omega) (fun c279 => ?_) (fun c279 => ?_)
                              · refine br_aload_0 dX3_go_299 ?_
                                refine br_dup dX3_go_300 rfl ?_
                                refine br_mg_4 (v := F2 4) rfl dX3_go_301 ?_
                                refine br_iconst dX3_go_304 ?_
                                refine br_iadd dX3_go_305 ?_
                                refine br_mp_4 dX3_go_306 ?_
                                refine br_goto (tgt := 177) dX3_go_309 (by decide) ?_
                                refine br_fg_4 ?_
                                have hal : isAl (T (F2 4)) := by unfold isAl isLt isDg; omega
                                have hgood : ((0 : Int) = 1 ∧ allLt T (F1 4) (F2 4 + 1)) ∨ ((0 : Int) = 0 ∧ ¬ allLt T (F1 4) (F2 4 + 1)) := by
                                  rcases r5 with ⟨r5, r5a⟩ | ⟨r5, r5a⟩
                                  · exact Or.inr ⟨rfl, allLt_x (by omega) (by unfold isLt; omega)⟩
                                  · exact Or.inr ⟨rfl, allLt_n r5a⟩
                                have hh6 : ((27 * wd2) + (G 1 (F2 4))) - 96 = hashT T (F1 4) (F2 4 + 1) := by rw [hashT_step (by omega), ← r6]; omega
                                have hn7 : F2 7 = numV T (F1 4) (F2 4 + 1) := by rw [numV_stay (by omega)]; exact r7
                                exact ih177 _ _ _ (show (n - (F2 4 + 1)).toNat < _ from by omega) ⟨q0, q2, q3, q8, q9, q14, q16, q17⟩ r2 (show F1 4 ≤ F2 4 + 1 ∧ F2 4 + 1 ≤ n from by omega) (run_s r4 (by omega) hal) hgood hh6 hn7
                              · refine br_aload_0 dX3_go_282 ?_
                                refine br_bipush dX3_go_283 (by decide) ?_
                                refine br_aload_0 dX3_go_285 ?_
                                refine br_mg_7 (v := F2 7) rfl dX3_go_286 ?_
                                refine br_imul dX3_go_289 ?_
                                refine br_iload_4 dX3_go_290 ?_
                                refine br_iadd dX3_go_292 ?_
                                refine br_bipush dX3_go_293 (by decide) ?_
                                refine br_isub dX3_go_295 ?_
                                refine br_mp_7 dX3_go_296 ?_
                                refine br_aload_0 dX3_go_299 ?_
                                refine br_dup dX3_go_300 rfl ?_
                                refine br_mg_4 (v := F2 4) rfl dX3_go_301 ?_
                                refine br_iconst dX3_go_304 ?_
                                refine br_iadd dX3_go_305 ?_
                                refine br_mp_4 dX3_go_306 ?_
                                refine br_goto (tgt := 177) dX3_go_309 (by decide) ?_
                                refine br_fg_4 ?_
                                have hal : isAl (T (F2 4)) := by unfold isAl isLt isDg; omega
                                have hgood : ((0 : Int) = 1 ∧ allLt T (F1 4) (F2 4 + 1)) ∨ ((0 : Int) = 0 ∧ ¬ allLt T (F1 4) (F2 4 + 1)) := by
                                  rcases r5 with ⟨r5, r5a⟩ | ⟨r5, r5a⟩
                                  · exact Or.inr ⟨rfl, allLt_x (by omega) (by unfold isLt; omega)⟩
                                  · exact Or.inr ⟨rfl, allLt_n r5a⟩
                                have hh6 : ((27 * wd2) + (G 1 (F2 4))) - 96 = hashT T (F1 4) (F2 4 + 1) := by rw [hashT_step (by omega), ← r6]; omega
                                have hn7 : ((10 * (F2 7)) + (G 1 (F2 4))) - 48 = numV T (F1 4) (F2 4 + 1) := by rw [numV_step (by omega), ← r7]; omega
                                exact ih177 _ _ _ (show (n - (F2 4 + 1)).toNat < _ from by omega) ⟨q0, q2, q3, q8, q9, q14, q16, q17⟩ r2 (show F1 4 ≤ F2 4 + 1 ∧ F2 4 + 1 ≤ n from by omega) (run_s r4 (by omega) hal) hgood hh6 hn7
                          · refine br_iload_4 dX3_go_220 ?_
                            refine br_SZ1 (ct_m_isLetter (by omega)) lk_X3_30 ⟨Nat.le_of_ble_eq_true rfl, Nat.le_of_ble_eq_true rfl⟩ ⟨Nat.le_of_ble_eq_true rfl, Nat.le_of_ble_eq_true rfl⟩  (Nat.le_of_ble_eq_true rfl) dX3_go_222 (fun c222 => ?_) (fun q => absurd q (by omega))
                            refine br_iload_2 dX3_go_225 ?_
                            refine br_icmp_ne (tgt := 233) dX3_go_226 (by decide) (by decide) (fun q => absurd q (by decide)) (fun _ => ?_)
                            refine br_iconst dX3_go_229 ?_
                            refine br_goto (tgt := 234) dX3_go_230 (by decide) ?_
                            refine br_istore_3 dX3_go_234 rfl ?_
                            refine br_aload_0 dX3_go_235 ?_
                            refine br_mg_4 (v := F2 4) rfl dX3_go_236 ?_
                            refine br_aload_0 dX3_go_239 ?_
                            refine br_mg_5 (v := F2 5) rfl dX3_go_240 ?_
                            refine br_isub dX3_go_243 ?_
                            refine br_bipush dX3_go_244 (by decide) ?_
                            refine br_icmp_ge (tgt := 269) dX3_go_246 (by decide) (by omega) (fun c246 => ?_) (fun c246 => ?_)
                            · refine br_aload_0 dX3_go_269 ?_
                              refine br_mg_4 (v := F2 4) rfl dX3_go_270 ?_
                              refine br_aload_0 dX3_go_273 ?_
                              refine br_mg_5 (v := F2 5) rfl dX3_go_274 ?_
                              refine br_isub dX3_go_277 ?_
                              refine br_iconst dX3_go_278 ?_
                              refine br_icmp_ge (tgt := 299) dX3_go_279 (by decide) (by omega) (fun c279 => ?_) (fun q => absurd q (by omega))
                              refine br_aload_0 dX3_go_299 ?_
                              refine br_dup dX3_go_300 rfl ?_
                              refine br_mg_4 (v := F2 4) rfl dX3_go_301 ?_
                              refine br_iconst dX3_go_304 ?_
                              refine br_iadd dX3_go_305 ?_
                              refine br_mp_4 dX3_go_306 ?_
                              refine br_goto (tgt := 177) dX3_go_309 (by decide) ?_
                              refine br_fg_4 ?_
                              have hal : isAl (T (F2 4)) := by unfold isAl isLt isDg; omega
                              have hgood : ((1 : Int) = 1 ∧ allLt T (F1 4) (F2 4 + 1)) ∨ ((1 : Int) = 0 ∧ ¬ allLt T (F1 4) (F2 4 + 1)) := by
                                rcases r5 with ⟨r5, r5a⟩ | ⟨r5, r5a⟩
                                · exact Or.inl ⟨rfl, allLt_s r5a (by unfold isLt; unfold isAl isLt isDg at hal; omega)⟩
                                · omega
                              have hh6 : wd2 = hashT T (F1 4) (F2 4 + 1) := by rw [hashT_stay (by omega)]; exact r6
                              have hn7 : F2 7 = numV T (F1 4) (F2 4 + 1) := by rw [numV_stay (by omega)]; exact r7
                              exact ih177 _ _ _ (show (n - (F2 4 + 1)).toNat < _ from by omega) ⟨q0, q2, q3, q8, q9, q14, q16, q17⟩ r2 (show F1 4 ≤ F2 4 + 1 ∧ F2 4 + 1 ≤ n from by omega) (run_s r4 (by omega) hal) hgood hh6 hn7
                            · refine br_aload_0 dX3_go_249 ?_
                              refine br_ldc2 (z := 27) q1386 (by decide) dX3_go_250 ?_
                              refine br_aload_0 dX3_go_253 ?_
                              refine br_mg_10 dX3_go_254 ?_
                              refine br_lmul dX3_go_257 ?_
                              refine br_iload_4 dX3_go_258 ?_
                              refine br_i2l dX3_go_260 (by omega) ?_
                              refine br_ladd dX3_go_261 ?_
                              refine br_ldc2 (z := 96) q1387 (by decide) dX3_go_262 ?_
                              refine br_lsub dX3_go_265 ?_
                              refine br_mp_10 dX3_go_266 ?_
                              refine br_aload_0 dX3_go_269 ?_
                              refine br_mg_4 (v := F2 4) rfl dX3_go_270 ?_
                              refine br_aload_0 dX3_go_273 ?_
                              refine br_mg_5 (v := F2 5) rfl dX3_go_274 ?_
                              refine br_isub dX3_go_277 ?_
                              refine br_iconst dX3_go_278 ?_
                              refine br_icmp_ge (tgt := 299) dX3_go_279 (by decide) (by omega) (fun c279 => ?_) (fun c279 => ?_)
                              · refine br_aload_0 dX3_go_299 ?_
                                refine br_dup dX3_go_300 rfl ?_
                                refine br_mg_4 (v := F2 4) rfl dX3_go_301 ?_
                                refine br_iconst dX3_go_304 ?_
                                refine br_iadd dX3_go_305 ?_
                                refine br_mp_4 dX3_go_306 ?_
                                refine br_goto (tgt := 177) dX3_go_309 (by decide) ?_
                                refine br_fg_4 ?_
                                have hal : isAl (T (F2 4)) := by unfold isAl isLt isDg; omega
                                have hgood : ((1 : Int) = 1 ∧ allLt T (F1 4) (F2 4 + 1)) ∨ ((1 : Int) = 0 ∧ ¬ allLt T (F1 4) (F2 4 + 1)) := by
                                  rcases r5 with ⟨r5, r5a⟩ | ⟨r5, r5a⟩
                                  · exact Or.inl ⟨rfl, allLt_s r5a (by unfold isLt; unfold isAl isLt isDg at hal; omega)⟩
                                  · omega
                                have hh6 : ((27 * wd2) + (G 1 (F2 4))) - 96 = hashT T (F1 4) (F2 4 + 1) := by rw [hashT_step (by omega), ← r6]; omega
                                have hn7 : F2 7 = numV T (F1 4) (F2 4 + 1) := by rw [numV_stay (by omega)]; exact r7
                                exact ih177 _ _ _ (show (n - (F2 4 + 1)).toNat < _ from by omega) ⟨q0, q2, q3, q8, q9, q14, q16, q17⟩ r2 (show F1 4 ≤ F2 4 + 1 ∧ F2 4 + 1 ≤ n from by omega) (run_s r4 (by omega) hal) hgood hh6 hn7
                              · refine br_aload_0 dX3_go_282 ?_
                                refine br_bipush dX3_go_283 (by decide) ?_
                                refine br_aload_0 dX3_go_285 ?_
                                refine br_mg_7 (v := F2 7) rfl dX3_go_286 ?_
                                refine br_imul dX3_go_289 ?_
                                refine br_iload_4 dX3_go_290 ?_
                                refine br_iadd dX3_go_292 ?_
                                refine br_bipush dX3_go_293 (by decide) ?_
                                refine br_isub dX3_go_295 ?_
                                refine br_mp_7 dX3_go_296 ?_
                                refine br_aload_0 dX3_go_299 ?_
                                refine br_dup dX3_go_300 rfl ?_
                                refine br_mg_4 (v := F2 4) rfl dX3_go_301 ?_
                                refine br_iconst dX3_go_304 ?_
                                refine br_iadd dX3_go_305 ?_
                                refine br_mp_4 dX3_go_306 ?_
                                refine br_goto (tgt := 177) dX3_go_309 (by decide) ?_
                                refine br_fg_4 ?_
                                have hal : isAl (T (F2 4)) := by unfold isAl isLt isDg; omega
                                have hgood : ((1 : Int) = 1 ∧ allLt T (F1 4) (F2 4 + 1)) ∨ ((1 : Int) = 0 ∧ ¬ allLt T (F1 4) (F2 4 + 1)) := by
                                  rcases r5 with ⟨r5, r5a⟩ | ⟨r5, r5a⟩
                                  · exact Or.inl ⟨rfl, allLt_s r5a (by unfold isLt; unfold isAl isLt isDg at hal; omega)⟩
                                  · omega
                                have hh6 : ((27 * wd2) + (G 1 (F2 4))) - 96 = hashT T (F1 4) (F2 4 + 1) := by rw [hashT_step (by omega), ← r6]; omega
                                have hn7 : ((10 * (F2 7)) + (G 1 (F2 4))) - 48 = numV T (F1 4) (F2 4 + 1) := by rw [numV_step (by omega), ← r7]; omega
                                exact ih177 _ _ _ (show (n - (F2 4 + 1)).toNat < _ from by omega) ⟨q0, q2, q3, q8, q9, q14, q16, q17⟩ r2 (show F1 4 ≤ F2 4 + 1 ∧ F2 4 + 1 ≤ n from by omega) (run_s r4 (by omega) hal) hgood hh6 hn7
                        · have hz185 : ¬ (97 ≤ v182 ∧ v182 ≤ 122) := c185
                          refine br_if_ne (tgt := 205) dX3_go_188 (by decide) (by decide) (fun q => absurd q (by decide)) (fun _ => ?_)
                          refine br_aload_0 dX3_go_191 ?_
                          refine br_aload_0 dX3_go_192 ?_
                          refine br_mg_4 (v := F2 4) rfl dX3_go_193 ?_
                          refine br_Vi1 (i := 40) (j := 0) (ct_m_tapeAt (T := T) (n := n) hT (by omega) (by omega)) lk_X3_44 ⟨Nat.le_of_ble_eq_true rfl, Nat.le_of_ble_eq_true rfl⟩ ⟨Nat.le_of_ble_eq_true rfl, Nat.le_of_ble_eq_true rfl⟩ rfl rfl (Nat.le_of_ble_eq_true rfl) dX3_go_196 (fun v196 w_ hw_ => ?_)
                          obtain ⟨hb196, rfl⟩ := hw_
                          refine br_SZ1 (ct_m_isDigit (by omega)) lk_X3_34 ⟨Nat.le_of_ble_eq_true rfl, Nat.le_of_ble_eq_true rfl⟩ ⟨Nat.le_of_ble_eq_true rfl, Nat.le_of_ble_eq_true rfl⟩  (Nat.le_of_ble_eq_true rfl) dX3_go_199 (fun c199 => ?_) (fun c199 => ?_)
                          · refine br_if_eq (tgt := 312) dX3_go_202 (by decide) (by decide) (fun q => absurd q (by decide)) (fun _ => ?_)
                            have ht2 := hT.1 (F2 4) (by omega) (by omega)
                            refine br_aload_0 dX3_go_205 ?_
                            refine br_mg_1 dX3_go_206 ?_
                            refine br_aload_0 dX3_go_209 ?_
                            refine br_mg_4 (v := F2 4) rfl dX3_go_210 ?_
                            refine br_ml_1 (v := G 1 (F2 4)) (by omega) rfl dX3_go_213 ?_
                            refine br_istore_4 dX3_go_214 rfl ?_
                            refine br_iload_3 dX3_go_216 ?_
                            refine br_if_eq (tgt := 233) dX3_go_217 (by decide) (by omega) (fun c217 => ?_) (fun c217 => ?_)
                            · refine br_iconst dX3_go_233 ?_
                              refine br_istore_3 dX3_go_234 rfl ?_
                              refine br_aload_0 dX3_go_235 ?_
                              refine br_mg_4 (v := F2 4) rfl dX3_go_236 ?_
                              refine br_aload_0 dX3_go_239 ?_
                              refine br_mg_5 (v := F2 5) rfl dX3_go_240 ?_
                              refine br_isub dX3_go_243 ?_
                              refine br_bipush dX3_go_244 (by decide) ?_
                              refine br_icmp_ge (tgt := 269) dX3_go_246 (by decide) (by omega) (fun c246 => ?_) (fun c246 => ?_)
                              · refine br_aload_0 dX3_go_269 ?_
                                refine br_mg_4 (v := F2 4) rfl dX3_go_270 ?_
                                refine br_aload_0 dX3_go_273 ?_
                                refine br_mg_5 (v := F2 5) rfl dX3_go_274 ?_
                                refine br_isub dX3_go_277 ?_
                                refine br_iconst dX3_go_278 ?_
                                refine br_icmp_ge (tgt := 299) dX3_go_279 (by decide) (by omega) (fun c279 => ?_) (fun q => absurd q (by omega))
                                refine br_aload_0 dX3_go_299 ?_
                                refine br_dup dX3_go_300 rfl ?_
                                refine br_mg_4 (v := F2 4) rfl dX3_go_301 ?_
                                refine br_iconst dX3_go_304 ?_
                                refine br_iadd dX3_go_305 ?_
                                refine br_mp_4 dX3_go_306 ?_
                                refine br_goto (tgt := 177) dX3_go_309 (by decide) ?_
                                refine br_fg_4 ?_
                                have hal : isAl (T (F2 4)) := by unfold isAl isLt isDg; omega
                                have hgood : ((0 : Int) = 1 ∧ allLt T (F1 4) (F2 4 + 1)) ∨ ((0 : Int) = 0 ∧ ¬ allLt T (F1 4) (F2 4 + 1)) := by
                                  rcases r5 with ⟨r5, r5a⟩ | ⟨r5, r5a⟩
                                  · exact Or.inr ⟨rfl, allLt_x (by omega) (by unfold isLt; omega)⟩
                                  · exact Or.inr ⟨rfl, allLt_n r5a⟩
                                have hh6 : wd2 = hashT T (F1 4) (F2 4 + 1) := by rw [hashT_stay (by omega)]; exact r6
                                have hn7 : F2 7 = numV T (F1 4) (F2 4 + 1) := by rw [numV_stay (by omega)]; exact r7
                                exact ih177 _ _ _ (show (n - (F2 4 + 1)).toNat < _ from by omega) ⟨q0, q2, q3, q8, q9, q14, q16, q17⟩ r2 (show F1 4 ≤ F2 4 + 1 ∧ F2 4 + 1 ≤ n from by omega) (run_s r4 (by omega) hal) hgood hh6 hn7
                              · refine br_aload_0 dX3_go_249 ?_
                                refine br_ldc2 (z := 27) q1386 (by decide) dX3_go_250 ?_
                                refine br_aload_0 dX3_go_253 ?_
                                refine br_mg_10 dX3_go_254 ?_
                                refine br_lmul dX3_go_257 ?_
                                refine br_iload_4 dX3_go_258 ?_
                                refine br_i2l dX3_go_260 (by omega) ?_
                                refine br_ladd dX3_go_261 ?_
                                refine br_ldc2 (z := 96) q1387 (by decide) dX3_go_262 ?_
                                refine br_lsub dX3_go_265 ?_
                                refine br_mp_10 dX3_go_266 ?_
                                refine br_aload_0 dX3_go_269 ?_
                                refine br_mg_4 (v := F2 4) rfl dX3_go_270 ?_
                                refine br_aload_0 dX3_go_273 ?_
                                refine br_mg_5 (v := F2 5) rfl dX3_go_274 ?_
                                refine br_isub dX3_go_277 ?_
                                refine br_iconst dX3_go_278 ?_
                                refine br_icmp_ge (tgt := 299) dX3_go_279 (by decide) (by omega) (fun c279 => ?_) (fun c279 => ?_)
                                · refine br_aload_0 dX3_go_299 ?_
                                  refine br_dup dX3_go_300 rfl ?_
                                  refine br_mg_4 (v := F2 4) rfl dX3_go_301 ?_
                                  refine br_iconst dX3_go_304 ?_
                                  refine br_iadd dX3_go_305 ?_
                                  refine br_mp_4 dX3_go_306 ?_
                                  refine br_goto (tgt := 177) dX3_go_309 (by decide) ?_
                                  refine br_fg_4 ?_
                                  have hal : isAl (T (F2 4)) := by unfold isAl isLt isDg; omega
                                  have hgood : ((0 : Int) = 1 ∧ allLt T (F1 4) (F2 4 + 1)) ∨ ((0 : Int) = 0 ∧ ¬ allLt T (F1 4) (F2 4 + 1)) := by
                                    rcases r5 with ⟨r5, r5a⟩ | ⟨r5, r5a⟩
                                    · exact Or.inr ⟨rfl, allLt_x (by omega) (by unfold isLt; omega)⟩
                                    · exact Or.inr ⟨rfl, allLt_n r5a⟩
                                  have hh6 : ((27 * wd2) + (G 1 (F2 4))) - 96 = hashT T (F1 4) (F2 4 + 1) := by rw [hashT_step (by omega), ← r6]; omega
                                  have hn7 : F2 7 = numV T (F1 4) (F2 4 + 1) := by rw [numV_stay (by omega)]; exact r7
                                  exact ih177 _ _ _ (show (n - (F2 4 + 1)).toNat < _ from by omega) ⟨q0, q2, q3, q8, q9, q14, q16, q17⟩ r2 (show F1 4 ≤ F2 4 + 1 ∧ F2 4 + 1 ≤ n from by omega) (run_s r4 (by omega) hal) hgood hh6 hn7
                                · refine br_aload_0 dX3_go_282 ?_
                                  refine br_bipush dX3_go_283 (by decide) ?_
                                  refine br_aload_0 dX3_go_285 ?_
                                  refine br_mg_7 (v := F2 7) rfl dX3_go_286 ?_
                                  refine br_imul dX3_go_289 ?_
                                  refine br_iload_4 dX3_go_290 ?_
                                  refine br_iadd dX3_go_292 ?_
                                  refine br_bipush dX3_go_293 (by decide) ?_
                                  refine br_isub dX3_go_295 ?_
                                  refine br_mp_7 dX3_go_296 ?_
                                  refine br_aload_0 dX3_go_299 ?_
                                  refine br_dup dX3_go_300 rfl ?_
                                  refine br_mg_4 (v := F2 4) rfl dX3_go_301 ?_
                                  refine br_iconst dX3_go_304 ?_
                                  refine br_iadd dX3_go_305 ?_
                                  refine br_mp_4 dX3_go_306 ?_
                                  refine br_goto (tgt := 177) dX3_go_309 (by decide) ?_
                                  refine br_fg_4 ?_
                                  have hal : isAl (T (F2 4)) := by unfold isAl isLt isDg; omega
                                  have hgood : ((0 : Int) = 1 ∧ allLt T (F1 4) (F2 4 + 1)) ∨ ((0 : Int) = 0 ∧ ¬ allLt T (F1 4) (F2 4 + 1)) := by
                                    rcases r5 with ⟨r5, r5a⟩ | ⟨r5, r5a⟩
                                    · exact Or.inr ⟨rfl, allLt_x (by omega) (by unfold isLt; omega)⟩
                                    · exact Or.inr ⟨rfl, allLt_n r5a⟩
                                  have hh6 : ((27 * wd2) + (G 1 (F2 4))) - 96 = hashT T (F1 4) (F2 4 + 1) := by rw [hashT_step (by omega), ← r6]; omega
                                  have hn7 : ((10 * (F2 7)) + (G 1 (F2 4))) - 48 = numV T (F1 4) (F2 4 + 1) := by rw [numV_step (by omega), ← r7]; omega
                                  exact ih177 _ _ _ (show (n - (F2 4 + 1)).toNat < _ from by omega) ⟨q0, q2, q3, q8, q9, q14, q16, q17⟩ r2 (show F1 4 ≤ F2 4 + 1 ∧ F2 4 + 1 ≤ n from by omega) (run_s r4 (by omega) hal) hgood hh6 hn7
                            · refine br_iload_4 dX3_go_220 ?_
                              refine br_SZ1 (ct_m_isLetter (by omega)) lk_X3_30 ⟨Nat.le_of_ble_eq_true rfl, Nat.le_of_ble_eq_true rfl⟩ ⟨Nat.le_of_ble_eq_true rfl, Nat.le_of_ble_eq_true rfl⟩  (Nat.le_of_ble_eq_true rfl) dX3_go_222 (fun q => absurd q (by omega)) (fun c222 => ?_)
                              refine br_iload_2 dX3_go_225 ?_
                              refine br_icmp_ne (tgt := 233) dX3_go_226 (by decide) (by decide) (fun _ => ?_) (fun q => absurd q (by decide))
                              refine br_iconst dX3_go_233 ?_
                              refine br_istore_3 dX3_go_234 rfl ?_
                              refine br_aload_0 dX3_go_235 ?_
                              refine br_mg_4 (v := F2 4) rfl dX3_go_236 ?_
                              refine br_aload_0 dX3_go_239 ?_
                              refine br_mg_5 (v := F2 5) rfl dX3_go_240 ?_
                              refine br_isub dX3_go_243 ?_
                              refine br_bipush dX3_go_244 (by decide) ?_
                              refine br_icmp_ge (tgt := 269) dX3_go_246 (by decide) (by omega) (fun c246 => ?_) (fun c246 => ?_)
                              · refine br_aload_0 dX3_go_269 ?_
                                refine br_mg_4 (v := F2 4) rfl dX3_go_270 ?_
                                refine br_aload_0 dX3_go_273 ?_
                                refine br_mg_5 (v := F2 5) rfl dX3_go_274 ?_
                                refine br_isub dX3_go_277 ?_
                                refine br_iconst dX3_go_278 ?_
                                refine br_icmp_ge (tgt := 299) dX3_go_279 (by decide) (by omega) (fun c279 => ?_) (fun q => absurd q (by omega))
                                refine br_aload_0 dX3_go_299 ?_
                                refine br_dup dX3_go_300 rfl ?_
                                refine br_mg_4 (v := F2 4) rfl dX3_go_301 ?_
                                refine br_iconst dX3_go_304 ?_
                                refine br_iadd dX3_go_305 ?_
                                refine br_mp_4 dX3_go_306 ?_
                                refine br_goto (tgt := 177) dX3_go_309 (by decide) ?_
                                refine br_fg_4 ?_
                                have hal : isAl (T (F2 4)) := by unfold isAl isLt isDg; omega
                                have hgood : ((0 : Int) = 1 ∧ allLt T (F1 4) (F2 4 + 1)) ∨ ((0 : Int) = 0 ∧ ¬ allLt T (F1 4) (F2 4 + 1)) := by
                                  rcases r5 with ⟨r5, r5a⟩ | ⟨r5, r5a⟩
                                  · exact Or.inr ⟨rfl, allLt_x (by omega) (by unfold isLt; omega)⟩
                                  · exact Or.inr ⟨rfl, allLt_n r5a⟩
                                have hh6 : wd2 = hashT T (F1 4) (F2 4 + 1) := by rw [hashT_stay (by omega)]; exact r6
                                have hn7 : F2 7 = numV T (F1 4) (F2 4 + 1) := by rw [numV_stay (by omega)]; exact r7
                                exact ih177 _ _ _ (show (n - (F2 4 + 1)).toNat < _ from by omega) ⟨q0, q2, q3, q8, q9, q14, q16, q17⟩ r2 (show F1 4 ≤ F2 4 + 1 ∧ F2 4 + 1 ≤ n from by omega) (run_s r4 (by omega) hal) hgood hh6 hn7
                              · refine br_aload_0 dX3_go_249 ?_
                                refine br_ldc2 (z := 27) q1386 (by decide) dX3_go_250 ?_
                                refine br_aload_0 dX3_go_253 ?_
                                refine br_mg_10 dX3_go_254 ?_
                                refine br_lmul dX3_go_257 ?_
                                refine br_iload_4 dX3_go_258 ?_
                                refine br_i2l dX3_go_260 (by omega) ?_
                                refine br_ladd dX3_go_261 ?_
                                refine br_ldc2 (z := 96) q1387 (by decide) dX3_go_262 ?_
                                refine br_lsub dX3_go_265 ?_
                                refine br_mp_10 dX3_go_266 ?_
                                refine br_aload_0 dX3_go_269 ?_
                                refine br_mg_4 (v := F2 4) rfl dX3_go_270 ?_
                                refine br_aload_0 dX3_go_273 ?_
                                refine br_mg_5 (v := F2 5) rfl dX3_go_274 ?_
                                refine br_isub dX3_go_277 ?_
                                refine br_iconst dX3_go_278 ?_
                                refine br_icmp_ge (tgt := 299) dX3_go_279 (by decide) (by omega) (fun c279 => ?_) (fun c279 => ?_)
                                · refine br_aload_0 dX3_go_299 ?_
                                  refine br_dup dX3_go_300 rfl ?_
                                  refine br_mg_4 (v := F2 4) rfl dX3_go_301 ?_
                                  refine br_iconst dX3_go_304 ?_
                                  refine br_iadd dX3_go_305 ?_
                                  refine br_mp_4 dX3_go_306 ?_
                                  refine br_goto (tgt := 177) dX3_go_309 (by decide) ?_
                                  refine br_fg_4 ?_
                                  have hal : isAl (T (F2 4)) := by unfold isAl isLt isDg; omega
                                  have hgood : ((0 : Int) = 1 ∧ allLt T (F1 4) (F2 4 + 1)) ∨ ((0 : Int) = 0 ∧ ¬ allLt T (F1 4) (F2 4 + 1)) := by
                                    rcases r5 with ⟨r5, r5a⟩ | ⟨r5, r5a⟩
                                    · exact Or.inr ⟨rfl, allLt_x (by omega) (by unfold isLt; omega)⟩
                                    · exact Or.inr ⟨rfl, allLt_n r5a⟩
                                  have hh6 : ((27 * wd2) + (G 1 (F2 4))) - 96 = hashT T (F1 4) (F2 4 + 1) := by rw [hashT_step (by omega), ← r6]; omega
                                  have hn7 : F2 7 = numV T (F1 4) (F2 4 + 1) := by rw [numV_stay (by omega)]; exact r7
                                  exact ih177 _ _ _ (show (n - (F2 4 + 1)).toNat < _ from by omega) ⟨q0, q2, q3, q8, q9, q14, q16, q17⟩ r2 (show F1 4 ≤ F2 4 + 1 ∧ F2 4 + 1 ≤ n from by omega) (run_s r4 (by omega) hal) hgood hh6 hn7
                                · refine br_aload_0 dX3_go_282 ?_
                                  refine br_bipush dX3_go_283 (by decide) ?_
                                  refine br_aload_0 dX3_go_285 ?_
                                  refine br_mg_7 (v := F2 7) rfl dX3_go_286 ?_
                                  refine br_imul dX3_go_289 ?_
                                  refine br_iload_4 dX3_go_290 ?_
                                  refine br_iadd dX3_go_292 ?_
                                  refine br_bipush dX3_go_293 (by decide) ?_
                                  refine br_isub dX3_go_295 ?_
                                  refine br_mp_7 dX3_go_296 ?_
                                  refine br_aload_0 dX3_go_299 ?_
                                  refine br_dup dX3_go_300 rfl ?_
                                  refine br_mg_4 (v := F2 4) rfl dX3_go_301 ?_
                                  refine br_iconst dX3_go_304 ?_
                                  refine br_iadd dX3_go_305 ?_
                                  refine br_mp_4 dX3_go_306 ?_
                                  refine br_goto (tgt := 177) dX3_go_309 (by decide) ?_
                                  refine br_fg_4 ?_
                                  have hal : isAl (T (F2 4)) := by unfold isAl isLt isDg; omega
                                  have hgood : ((0 : Int) = 1 ∧ allLt T (F1 4) (F2 4 + 1)) ∨ ((0 : Int) = 0 ∧ ¬ allLt T (F1 4) (F2 4 + 1)) := by
                                    rcases r5 with ⟨r5, r5a⟩ | ⟨r5, r5a⟩
                                    · exact Or.inr ⟨rfl, allLt_x (by omega) (by unfold isLt; omega)⟩
                                    · exact Or.inr ⟨rfl, allLt_n r5a⟩
                                  have hh6 : ((27 * wd2) + (G 1 (F2 4))) - 96 = hashT T (F1 4) (F2 4 + 1) := by rw [hashT_step (by omega), ← r6]; omega
                                  have hn7 : ((10 * (F2 7)) + (G 1 (F2 4))) - 48 = numV T (F1 4) (F2 4 + 1) := by rw [numV_step (by omega), ← r7]; omega
                                  exact ih177 _ _ _ (show (n - (F2 4 + 1)).toNat < _ from by omega) ⟨q0, q2, q3, q8, q9, q14, q16, q17⟩ r2 (show F1 4 ≤ F2 4 + 1 ∧ F2 4 + 1 ≤ n from by omega) (run_s r4 (by omega) hal) hgood hh6 hn7
                          · refine br_if_eq (tgt := 312) dX3_go_202 (by decide) (by decide) (fun _ => ?_) (fun q => absurd q (by decide))
                            have hrun : runR T n (F1 4) (F2 4) := ⟨by omega, r4, by unfold isAl isLt isDg; omega⟩
                            have hlt := runR_pos hrun (by omega) hal0
                            refine br_aload_0 dX3_go_312 ?_
                            refine br_iload_3 dX3_go_313 ?_
                            refine br_if_eq (tgt := 334) dX3_go_314 (by decide) (by omega) (fun c314 => ?_) (fun c314 => ?_)
                            · have hnok := (r5.resolve_left (fun q => by have := q.1; omega)).2
                              refine br_iconst dX3_go_334 ?_
                              refine br_goto (tgt := 347) dX3_go_335 (by decide) ?_
                              refine br_mp_6 dX3_go_347 ?_
                              exact br_return dX3_go_350 (by decide) (by decide) (hret _ _ (⟨rfl, _, _, rfl, goEnd (tk := (F1 4, 1, F2 4, 0)) ⟨F1 4, ⟨by omega, h2, by unfold isSp; omega⟩, Or.inr (Or.inr (Or.inr (Or.inr ⟨by omega, by omega, hal0, F2 4, hrun, Or.inr (Or.inr ⟨hnok, (fun q => notDg_of hlt hfd q.1), rfl⟩)⟩)))⟩ (mTk_mk 1 (F1 4) (F2 4) rfl r2 rfl (by omega) (by omega) (by omega)), ⟨q0, q2, q3, q8, q9, q14, q16, q17⟩⟩))
                            · refine br_iload_2 dX3_go_317 ?_
                              refine br_if_ne (tgt := 338) dX3_go_318 (by decide) (by decide) (fun _ => ?_) (fun q => absurd q (by decide))
                              refine br_iload_2 dX3_go_338 ?_
                              refine br_if_eq (tgt := 346) dX3_go_339 (by decide) (by decide) (fun q => absurd q (by decide)) (fun _ => ?_)
                              have hok := (r5.resolve_right (fun q => by have := q.1; omega)).2
                              refine br_iconst dX3_go_342 ?_
                              refine br_goto (tgt := 347) dX3_go_343 (by decide) ?_
                              refine br_mp_6 dX3_go_347 ?_
                              exact br_return dX3_go_350 (by decide) (by decide) (hret _ _ (⟨rfl, _, _, rfl, goEnd (tk := (F1 4, 2, F2 4, 0)) ⟨F1 4, ⟨by omega, h2, by unfold isSp; omega⟩, Or.inr (Or.inr (Or.inr (Or.inr ⟨by omega, by omega, hal0, F2 4, hrun, Or.inl ⟨hok, rfl⟩⟩)))⟩ (mTk_word (F1 4) (F2 4) rfl r2 rfl r6 hok hlt (by omega) (by omega)), ⟨q0, q2, q3, q8, q9, q14, q16, q17⟩⟩))
                    exact lp177 _ _ _ _ (Nat.lt_succ_self _) hk rfl (show F1 4 ≤ F1 4 ∧ F1 4 ≤ n from by omega) (show ∀ y : Int, F1 4 ≤ y → y < F1 4 → _ from fun y _ _ => by omega) (Or.inl ⟨rfl, allLt_0 _ _⟩) (hashT_0 _ _).symm (numV_0 _ _).symm
                  · refine br_if_ne (tgt := 160) dX3_go_124 (by decide) (by decide) (fun q => absurd q (by decide)) (fun _ => ?_)
                    refine br_iload_1 dX3_go_127 ?_
                    refine br_SZ1 (ct_m_isDigit (by omega)) lk_X3_34 ⟨Nat.le_of_ble_eq_true rfl, Nat.le_of_ble_eq_true rfl⟩ ⟨Nat.le_of_ble_eq_true rfl, Nat.le_of_ble_eq_true rfl⟩  (Nat.le_of_ble_eq_true rfl) dX3_go_128 (fun c128 => ?_) (fun c128 => ?_)
                    · refine br_if_ne (tgt := 160) dX3_go_131 (by decide) (by decide) (fun _ => ?_) (fun q => absurd q (by decide))
                      have hal0 : isAl (T (F1 4)) := by unfold isAl isLt isDg; omega
                      refine br_iload_1 dX3_go_160 ?_
                      refine br_SZ1 (ct_m_isLetter (by omega)) lk_X3_30 ⟨Nat.le_of_ble_eq_true rfl, Nat.le_of_ble_eq_true rfl⟩ ⟨Nat.le_of_ble_eq_true rfl, Nat.le_of_ble_eq_true rfl⟩  (Nat.le_of_ble_eq_true rfl) dX3_go_161 (fun q => absurd q (by omega)) (fun c161 => ?_)
                      have hfd : isDg (T (F1 4)) := by unfold isDg; omega
                      refine br_istore_2 dX3_go_164 rfl ?_
                      refine br_iconst dX3_go_165 ?_
                      refine br_istore_3 dX3_go_166 rfl ?_
                      refine br_aload_0 dX3_go_167 ?_
                      refine br_lconst0 dX3_go_168 ?_
                      refine br_mp_10 dX3_go_169 ?_
                      refine br_aload_0 dX3_go_172 ?_
                      refine br_iconst dX3_go_173 ?_
                      refine br_mp_7 dX3_go_174 ?_
                      have lp177 : ∀ (mm177 : Nat) (F2 : Nat → Int) (wd2 : Int) (g : Int), (n - F2 4).toNat < mm177 → (mKp F F2) → (F2 5 = F1 4) → (F1 4 ≤ F2 4 ∧ F2 4 ≤ n) → (∀ y : Int, F1 4 ≤ y → y < F2 4 → y < n ∧ isAl (T y)) → ((g = 1 ∧ allDg T (F1 4) (F2 4)) ∨ (g = 0 ∧ ¬ allDg T (F1 4) (F2 4))) → (wd2 = hashT T (F1 4) (F2 4)) → (F2 7 = numV T (F1 4) (F2 4)) → bk_V Γ D ({ frames := 1, cells := 0, slots := 0, locals := 21 }) "BreakSetterModel" cX3_go [] 0 0 (mw o a F2 wd2 G ex) [some (.ref o), some (.int (iI (G 1 (F1 4)))), some (.int (iI 0)), some (.int (iI g)), none] [] 177 := by
                        intro mm177
                        induction mm177 with
                        | zero => intro F2 wd2 g hm177; exact absurd hm177 (Nat.not_lt_zero _)
                        | succ mm177 ih177 =>
                          intro F2 wd2 g hm177 r1 r2 r3 r4 r5 r6 r7
                          obtain ⟨q0, q2, q3, q8, q9, q14, q16, q17⟩ := r1
                          have r3a : F1 4 ≤ F2 4 ∧ F2 4 ≤ n := r3
                          refine br_aload_0 dX3_go_177 ?_
                          refine br_aload_0 dX3_go_178 ?_
                          refine br_mg_4 (v := F2 4) rfl dX3_go_179 ?_
                          refine br_Vi1 (i := 40) (j := 0) (ct_m_tapeAt (T := T) (n := n) hT (by omega) (by omega)) lk_X3_44 ⟨Nat.le_of_ble_eq_true rfl, Nat.le_of_ble_eq_true rfl⟩ ⟨Nat.le_of_ble_eq_true rfl, Nat.le_of_ble_eq_true rfl⟩ rfl rfl (Nat.le_of_ble_eq_true rfl) dX3_go_182 (fun v182 w_ hw_ => ?_)
                          obtain ⟨hb182, rfl⟩ := hw_
                          refine br_SZ1 (ct_m_isLetter (by omega)) lk_X3_30 ⟨Nat.le_of_ble_eq_true rfl, Nat.le_of_ble_eq_true rfl⟩ ⟨Nat.le_of_ble_eq_true rfl, Nat.le_of_ble_eq_true rfl⟩  (Nat.le_of_ble_eq_true rfl) dX3_go_185 (fun c185 => ?_) (fun c185 => ?_)
                          · refine br_if_ne (tgt := 205) dX3_go_188 (by decide) (by decide) (fun _ => ?_) (fun q => absurd q (by decide))
                            have ht2 := hT.1 (F2 4) (by omega) (by omega)
                            refine br_aload_0 dX3_go_205 ?_
                            refine br_mg_1 dX3_go_206 ?_
                            refine br_aload_0 dX3_go_209 ?_
                            refine br_mg_4 (v := F2 4) rfl dX3_go_210 ?_
                            refine br_ml_1 (v := G 1 (F2 4)) (by omega) rfl dX3_go_213 ?_
                            refine br_istore_4 dX3_go_214 rfl ?_
                            refine br_iload_3 dX3_go_216 ?_
                            refine br_if_eq (tgt := 233) dX3_go_217 (by decide) (by omega) (fun c217 => ?_) (fun c217 => ?_)
                            · refine br_iconst dX3_go_233 ?_
                              refine br_istore_3 dX3_go_234 rfl ?_
                              refine br_aload_0 dX3_go_235 ?_
                              refine br_mg_4 (v := F2 4) rfl dX3_go_236 ?_
                              refine br_aload_0 dX3_go_239 ?_
                              refine br_mg_5 (v := F2 5) rfl dX3_go_240 ?_
                              refine br_isub dX3_go_243 ?_
                              refine br_bipush dX3_go_244 (by decide) ?_
                              refine br_icmp_ge (tgt := 269) dX3_go_246 (by decide) (by omega) (fun c246 => ?_) (fun c246 => ?_)
                              · refine br_aload_0 dX3_go_269 ?_
                                refine br_mg_4 (v := F2 4) rfl dX3_go_270 ?_
                                refine br_aload_0 dX3_go_273 ?_
                                refine br_mg_5 (v := F2 5) rfl dX3_go_274 ?_
                                refine br_isub dX3_go_277 ?_
                                refine br_iconst dX3_go_278 ?_
                                refine br_icmp_ge (tgt := 299) dX3_go_279 (by decide) (by omega) (fun c279 => ?_) (fun q => absurd q (by omega))
                                refine br_aload_0 dX3_go_299 ?_
                                refine br_dup dX3_go_300 rfl ?_
                                refine br_mg_4 (v := F2 4) rfl dX3_go_301 ?_
                                refine br_iconst dX3_go_304 ?_
                                refine br_iadd dX3_go_305 ?_
                                refine br_mp_4 dX3_go_306 ?_
                                refine br_goto (tgt := 177) dX3_go_309 (by decide) ?_
                                refine br_fg_4 ?_
                                have hal : isAl (T (F2 4)) := by unfold isAl isLt isDg; omega
                                have hgood : ((0 : Int) = 1 ∧ allDg T (F1 4) (F2 4 + 1)) ∨ ((0 : Int) = 0 ∧ ¬ allDg T (F1 4) (F2 4 + 1)) := by
                                  rcases r5 with ⟨r5, r5a⟩ | ⟨r5, r5a⟩
                                  · exact Or.inr ⟨rfl, allDg_x (by omega) (by unfold isDg; omega)⟩
                                  · exact Or.inr ⟨rfl, allDg_n r5a⟩
                                have hh6 : wd2 = hashT T (F1 4) (F2 4 + 1) := by rw [hashT_stay (by omega)]; exact r6
                                have hn7 : F2 7 = numV T (F1 4) (F2 4 + 1) := by rw [numV_stay (by omega)]; exact r7
                                exact ih177 _ _ _ (show (n - (F2 4 + 1)).toNat < _ from by omega) ⟨q0, q2, q3, q8, q9, q14, q16, q17⟩ r2 (show F1 4 ≤ F2 4 + 1 ∧ F2 4 + 1 ≤ n from by omega) (run_s r4 (by omega) hal) hgood hh6 hn7
                              · refine br_aload_0 dX3_go_249 ?_
                                refine br_ldc2 (z := 27) q1386 (by decide) dX3_go_250 ?_
                                refine br_aload_0 dX3_go_253 ?_
                                refine br_mg_10 dX3_go_254 ?_
                                refine br_lmul dX3_go_257 ?_
                                refine br_iload_4 dX3_go_258 ?_
                                refine br_i2l dX3_go_260 (by omega) ?_
                                refine br_ladd dX3_go_261 ?_
                                refine br_ldc2 (z := 96) q1387 (by decide) dX3_go_262 ?_
                                refine br_lsub dX3_go_265 ?_
                                refine br_mp_10 dX3_go_266 ?_
                                refine br_aload_0 dX3_go_269 ?_
                                refine br_mg_4 (v := F2 4) rfl dX3_go_270 ?_
                                refine br_aload_0 dX3_go_273 ?_
                                refine br_mg_5 (v := F2 5) rfl dX3_go_274 ?_
                                refine br_isub dX3_go_277 ?_
                                refine br_iconst dX3_go_278 ?_
                                refine br_icmp_ge (tgt := 299) dX3_go_279 (by decide) (by omega) (fun c279 => ?_) (fun c279 => ?_)
                                · refine br_aload_0 dX3_go_299 ?_
                                  refine br_dup dX3_go_300 rfl ?_
                                  refine br_mg_4 (v := F2 4) rfl dX3_go_301 ?_
                                  refine br_iconst dX3_go_304 ?_
                                  refine br_iadd dX3_go_305 ?_
                                  refine br_mp_4 dX3_go_306 ?_
                                  refine br_goto (tgt := 177) dX3_go_309 (by decide) ?_
                                  refine br_fg_4 ?_
                                  have hal : isAl (T (F2 4)) := by unfold isAl isLt isDg; omega
                                  have hgood : ((0 : Int) = 1 ∧ allDg T (F1 4) (F2 4 + 1)) ∨ ((0 : Int) = 0 ∧ ¬ allDg T (F1 4) (F2 4 + 1)) := by
                                    rcases r5 with ⟨r5, r5a⟩ | ⟨r5, r5a⟩
                                    · exact Or.inr ⟨rfl, allDg_x (by omega) (by unfold isDg; omega)⟩
                                    · exact Or.inr ⟨rfl, allDg_n r5a⟩
                                  have hh6 : ((27 * wd2) + (G 1 (F2 4))) - 96 = hashT T (F1 4) (F2 4 + 1) := by rw [hashT_step (by omega), ← r6]; omega
                                  have hn7 : F2 7 = numV T (F1 4) (F2 4 + 1) := by rw [numV_stay (by omega)]; exact r7
                                  exact ih177 _ _ _ (show (n - (F2 4 + 1)).toNat < _ from by omega) ⟨q0, q2, q3, q8, q9, q14, q16, q17⟩ r2 (show F1 4 ≤ F2 4 + 1 ∧ F2 4 + 1 ≤ n from by omega) (run_s r4 (by omega) hal) hgood hh6 hn7
                                · refine br_aload_0 dX3_go_282 ?_
                                  refine br_bipush dX3_go_283 (by decide) ?_
                                  refine br_aload_0 dX3_go_285 ?_
                                  refine br_mg_7 (v := F2 7) rfl dX3_go_286 ?_
                                  refine br_imul dX3_go_289 ?_
                                  refine br_iload_4 dX3_go_290 ?_
                                  refine br_iadd dX3_go_292 ?_
                                  refine br_bipush dX3_go_293 (by decide) ?_
                                  refine br_isub dX3_go_295 ?_
                                  refine br_mp_7 dX3_go_296 ?_
                                  refine br_aload_0 dX3_go_299 ?_
                                  refine br_dup dX3_go_300 rfl ?_
                                  refine br_mg_4 (v := F2 4) rfl dX3_go_301 ?_
                                  refine br_iconst dX3_go_304 ?_
                                  refine br_iadd dX3_go_305 ?_
                                  refine br_mp_4 dX3_go_306 ?_
                                  refine br_goto (tgt := 177) dX3_go_309 (by decide) ?_
                                  refine br_fg_4 ?_
                                  have hal : isAl (T (F2 4)) := by unfold isAl isLt isDg; omega
                                  have hgood : ((0 : Int) = 1 ∧ allDg T (F1 4) (F2 4 + 1)) ∨ ((0 : Int) = 0 ∧ ¬ allDg T (F1 4) (F2 4 + 1)) := by
                                    rcases r5 with ⟨r5, r5a⟩ | ⟨r5, r5a⟩
                                    · exact Or.inr ⟨rfl, allDg_x (by omega) (by unfold isDg; omega)⟩
                                    · exact Or.inr ⟨rfl, allDg_n r5a⟩
                                  have hh6 : ((27 * wd2) + (G 1 (F2 4))) - 96 = hashT T (F1 4) (F2 4 + 1) := by rw [hashT_step (by omega), ← r6]; omega
                                  have hn7 : ((10 * (F2 7)) + (G 1 (F2 4))) - 48 = numV T (F1 4) (F2 4 + 1) := by rw [numV_step (by omega), ← r7]; omega
                                  exact ih177 _ _ _ (show (n - (F2 4 + 1)).toNat < _ from by omega) ⟨q0, q2, q3, q8, q9, q14, q16, q17⟩ r2 (show F1 4 ≤ F2 4 + 1 ∧ F2 4 + 1 ≤ n from by omega) (run_s r4 (by omega) hal) hgood hh6 hn7
                            · refine br_iload_4 dX3_go_220 ?_
                              refine br_SZ1 (ct_m_isLetter (by omega)) lk_X3_30 ⟨Nat.le_of_ble_eq_true rfl, Nat.le_of_ble_eq_true rfl⟩ ⟨Nat.le_of_ble_eq_true rfl, Nat.le_of_ble_eq_true rfl⟩  (Nat.le_of_ble_eq_true rfl) dX3_go_222 (fun c222 => ?_) (fun q => absurd q (by omega))
                              refine br_iload_2 dX3_go_225 ?_
                              refine br_icmp_ne (tgt := 233) dX3_go_226 (by decide) (by decide) (fun _ => ?_) (fun q => absurd q (by decide))
                              refine br_iconst dX3_go_233 ?_
                              refine br_istore_3 dX3_go_234 rfl ?_
                              refine br_aload_0 dX3_go_235 ?_
                              refine br_mg_4 (v := F2 4) rfl dX3_go_236 ?_
                              refine br_aload_0 dX3_go_239 ?_
                              refine br_mg_5 (v := F2 5) rfl dX3_go_240 ?_
                              refine br_isub dX3_go_243 ?_
                              refine br_bipush dX3_go_244 (by decide) ?_
                              refine br_icmp_ge (tgt := 269) dX3_go_246 (by decide) (by omega) (fun c246 => ?_) (fun c246 => ?_)
                              · refine br_aload_0 dX3_go_269 ?_
                                refine br_mg_4 (v := F2 4) rfl dX3_go_270 ?_
                                refine br_aload_0 dX3_go_273 ?_
                                refine br_mg_5 (v := F2 5) rfl dX3_go_274 ?_
                                refine br_isub dX3_go_277 ?_
                                refine br_iconst dX3_go_278 ?_
                                refine br_icmp_ge (tgt := 299) dX3_go_279 (by decide) (by omega) (fun c279 => ?_) (fun q => absurd q (by omega))
                                refine br_aload_0 dX3_go_299 ?_
                                refine br_dup dX3_go_300 rfl ?_
                                refine br_mg_4 (v := F2 4) rfl dX3_go_301 ?_
                                refine br_iconst dX3_go_304 ?_
                                refine br_iadd dX3_go_305 ?_
                                refine br_mp_4 dX3_go_306 ?_
                                refine br_goto (tgt := 177) dX3_go_309 (by decide) ?_
                                refine br_fg_4 ?_
                                have hal : isAl (T (F2 4)) := by unfold isAl isLt isDg; omega
                                have hgood : ((0 : Int) = 1 ∧ allDg T (F1 4) (F2 4 + 1)) ∨ ((0 : Int) = 0 ∧ ¬ allDg T (F1 4) (F2 4 + 1)) := by
                                  rcases r5 with ⟨r5, r5a⟩ | ⟨r5, r5a⟩
                                  · exact Or.inr ⟨rfl, allDg_x (by omega) (by unfold isDg; omega)⟩
                                  · exact Or.inr ⟨rfl, allDg_n r5a⟩
                                have hh6 : wd2 = hashT T (F1 4) (F2 4 + 1) := by rw [hashT_stay (by omega)]; exact r6
                                have hn7 : F2 7 = numV T (F1 4) (F2 4 + 1) := by rw [numV_stay (by omega)]; exact r7
                                exact ih177 _ _ _ (show (n - (F2 4 + 1)).toNat < _ from by omega) ⟨q0, q2, q3, q8, q9, q14, q16, q17⟩ r2 (show F1 4 ≤ F2 4 + 1 ∧ F2 4 + 1 ≤ n from by omega) (run_s r4 (by omega) hal) hgood hh6 hn7
                              · refine br_aload_0 dX3_go_249 ?_
                                refine br_ldc2 (z := 27) q1386 (by decide) dX3_go_250 ?_
                                refine br_aload_0 dX3_go_253 ?_
                                refine br_mg_10 dX3_go_254 ?_
                                refine br_lmul dX3_go_257 ?_
                                refine br_iload_4 dX3_go_258 ?_
                                refine br_i2l dX3_go_260 (by omega) ?_
                                refine br_ladd dX3_go_261 ?_
                                refine br_ldc2 (z := 96) q1387 (by decide) dX3_go_262 ?_
                                refine br_lsub dX3_go_265 ?_
                                refine br_mp_10 dX3_go_266 ?_
                                refine br_aload_0 dX3_go_269 ?_
                                refine br_mg_4 (v := F2 4) rfl dX3_go_270 ?_
                                refine br_aload_0 dX3_go_273 ?_
                                refine br_mg_5 (v := F2 5) rfl dX3_go_274 ?_
                                refine br_isub dX3_go_277 ?_
                                refine br_iconst dX3_go_278 ?_
                                refine br_icmp_ge (tgt := 299) dX3_go_279 (by decide) (by omega) (fun c279 => ?_) (fun c279 => ?_)
                                · refine br_aload_0 dX3_go_299 ?_
                                  refine br_dup dX3_go_300 rfl ?_
                                  refine br_mg_4 (v := F2 4) rfl dX3_go_301 ?_
                                  refine br_iconst dX3_go_304 ?_
                                  refine br_iadd dX3_go_305 ?_
                                  refine br_mp_4 dX3_go_306 ?_
                                  refine br_goto (tgt := 177) dX3_go_309 (by decide) ?_
                                  refine br_fg_4 ?_
                                  have hal : isAl (T (F2 4)) := by unfold isAl isLt isDg; omega
                                  have hgood : ((0 : Int) = 1 ∧ allDg T (F1 4) (F2 4 + 1)) ∨ ((0 : Int) = 0 ∧ ¬ allDg T (F1 4) (F2 4 + 1)) := by
                                    rcases r5 with ⟨r5, r5a⟩ | ⟨r5, r5a⟩
                                    · exact Or.inr ⟨rfl, allDg_x (by omega) (by unfold isDg; omega)⟩
                                    · exact Or.inr ⟨rfl, allDg_n r5a⟩
                                  have hh6 : ((27 * wd2) + (G 1 (F2 4))) - 96 = hashT T (F1 4) (F2 4 + 1) := by rw [hashT_step (by omega), ← r6]; omega
                                  have hn7 : F2 7 = numV T (F1 4) (F2 4 + 1) := by rw [numV_stay (by omega)]; exact r7
                                  exact ih177 _ _ _ (show (n - (F2 4 + 1)).toNat < _ from by omega) ⟨q0, q2, q3, q8, q9, q14, q16, q17⟩ r2 (show F1 4 ≤ F2 4 + 1 ∧ F2 4 + 1 ≤ n from by omega) (run_s r4 (by omega) hal) hgood hh6 hn7
                                · refine br_aload_0 dX3_go_282 ?_
                                  refine br_bipush dX3_go_283 (by decide) ?_
                                  refine br_aload_0 dX3_go_285 ?_
                                  refine br_mg_7 (v := F2 7) rfl dX3_go_286 ?_
                                  refine br_imul dX3_go_289 ?_
                                  refine br_iload_4 dX3_go_290 ?_
                                  refine br_iadd dX3_go_292 ?_
                                  refine br_bipush dX3_go_293 (by decide) ?_
                                  refine br_isub dX3_go_295 ?_
                                  refine br_mp_7 dX3_go_296 ?_
                                  refine br_aload_0 dX3_go_299 ?_
                                  refine br_dup dX3_go_300 rfl ?_
                                  refine br_mg_4 (v := F2 4) rfl dX3_go_301 ?_
                                  refine br_iconst dX3_go_304 ?_
                                  refine br_iadd dX3_go_305 ?_
                                  refine br_mp_4 dX3_go_306 ?_
                                  refine br_goto (tgt := 177) dX3_go_309 (by decide) ?_
                                  refine br_fg_4 ?_
                                  have hal : isAl (T (F2 4)) := by unfold isAl isLt isDg; omega
                                  have hgood : ((0 : Int) = 1 ∧ allDg T (F1 4) (F2 4 + 1)) ∨ ((0 : Int) = 0 ∧ ¬ allDg T (F1 4) (F2 4 + 1)) := by
                                    rcases r5 with ⟨r5, r5a⟩ | ⟨r5, r5a⟩
                                    · exact Or.inr ⟨rfl, allDg_x (by omega) (by unfold isDg; omega)⟩
                                    · exact Or.inr ⟨rfl, allDg_n r5a⟩
                                  have hh6 : ((27 * wd2) + (G 1 (F2 4))) - 96 = hashT T (F1 4) (F2 4 + 1) := by rw [hashT_step (by omega), ← r6]; omega
                                  have hn7 : ((10 * (F2 7)) + (G 1 (F2 4))) - 48 = numV T (F1 4) (F2 4 + 1) := by rw [numV_step (by omega), ← r7]; omega
                                  exact ih177 _ _ _ (show (n - (F2 4 + 1)).toNat < _ from by omega) ⟨q0, q2, q3, q8, q9, q14, q16, q17⟩ r2 (show F1 4 ≤ F2 4 + 1 ∧ F2 4 + 1 ≤ n from by omega) (run_s r4 (by omega) hal) hgood hh6 hn7
                          · have hz185 : ¬ (97 ≤ v182 ∧ v182 ≤ 122) := c185
                            refine br_if_ne (tgt := 205) dX3_go_188 (by decide) (by decide) (fun q => absurd q (by decide)) (fun _ => ?_)
                            refine br_aload_0 dX3_go_191 ?_
                            refine br_aload_0 dX3_go_192 ?_
                            refine br_mg_4 (v := F2 4) rfl dX3_go_193 ?_
                            refine br_Vi1 (i := 40) (j := 0) (ct_m_tapeAt (T := T) (n := n) hT (by omega) (by omega)) lk_X3_44 ⟨Nat.le_of_ble_eq_true rfl, Nat.le_of_ble_eq_true rfl⟩ ⟨Nat.le_of_ble_eq_true rfl, Nat.le_of_ble_eq_true rfl⟩ rfl rfl (Nat.le_of_ble_eq_true rfl) dX3_go_196 (fun v196 w_ hw_ => ?_)
                            obtain ⟨hb196, rfl⟩ := hw_
                            refine br_SZ1 (ct_m_isDigit (by omega)) lk_X3_34 ⟨Nat.le_of_ble_eq_true rfl, Nat.le_of_ble_eq_true rfl⟩ ⟨Nat.le_of_ble_eq_true rfl, Nat.le_of_ble_eq_true rfl⟩  (Nat.le_of_ble_eq_true rfl) dX3_go_199 (fun c199 => ?_) (fun c199 => ?_)
                            · refine br_if_eq (tgt := 312) dX3_go_202 (by decide) (by decide) (fun q => absurd q (by decide)) (fun _ => ?_)
                              have ht2 := hT.1 (F2 4) (by omega) (by omega)
                              refine br_aload_0 dX3_go_205 ?_
                              refine br_mg_1 dX3_go_206 ?_
                              refine br_aload_0 dX3_go_209 ?_
                              refine br_mg_4 (v := F2 4) rfl dX3_go_210 ?_
                              refine br_ml_1 (v := G 1 (F2 4)) (by omega) rfl dX3_go_213 ?_
                              refine br_istore_4 dX3_go_214 rfl ?_
                              refine br_iload_3 dX3_go_216 ?_
                              refine br_if_eq (tgt := 233) dX3_go_217 (by decide) (by omega) (fun c217 => ?_) (fun c217 => ?_)
                              · refine br_iconst dX3_go_233 ?_
                                refine br_istore_3 dX3_go_234 rfl ?_
                                refine br_aload_0 dX3_go_235 ?_
                                refine br_mg_4 (v := F2 4) rfl dX3_go_236 ?_
                                refine br_aload_0 dX3_go_239 ?_
                                refine br_mg_5 (v := F2 5) rfl dX3_go_240 ?_
                                refine br_isub dX3_go_243 ?_
                                refine br_bipush dX3_go_244 (by decide) ?_
                                refine br_icmp_ge (tgt := 269) dX3_go_246 (by decide) (by omega) (fun c246 => ?_) (fun c246 => ?_)
                                · refine br_aload_0 dX3_go_269 ?_
                                  refine br_mg_4 (v := F2 4) rfl dX3_go_270 ?_
                                  refine br_aload_0 dX3_go_273 ?_
                                  refine br_mg_5 (v := F2 5) rfl dX3_go_274 ?_
                                  refine br_isub dX3_go_277 ?_
                                  refine br_iconst dX3_go_278 ?_
                                  refine br_icmp_ge (tgt := 299) dX3_go_279 (by decide) (by omega) (fun c279 => ?_) (fun q => absurd q (by omega))
                                  refine br_aload_0 dX3_go_299 ?_
                                  refine br_dup dX3_go_300 rfl ?_
                                  refine br_mg_4 (v := F2 4) rfl dX3_go_301 ?_
                                  refine br_iconst dX3_go_304 ?_
                                  refine br_iadd dX3_go_305 ?_
                                  refine br_mp_4 dX3_go_306 ?_
                                  refine br_goto (tgt := 177) dX3_go_309 (by decide) ?_
                                  refine br_fg_4 ?_
                                  have hal : isAl (T (F2 4)) := by unfold isAl isLt isDg; omega
                                  have hgood : ((0 : Int) = 1 ∧ allDg T (F1 4) (F2 4 + 1)) ∨ ((0 : Int) = 0 ∧ ¬ allDg T (F1 4) (F2 4 + 1)) := by
                                    rcases r5 with ⟨r5, r5a⟩ | ⟨r5, r5a⟩
                                    · exact Or.inr ⟨rfl, allDg_x (by omega) (by unfold isDg; omega)⟩
                                    · exact Or.inr ⟨rfl, allDg_n r5a⟩
                                  have hh6 : wd2 = hashT T (F1 4) (F2 4 + 1) := by rw [hashT_stay (by omega)]; exact r6
                                  have hn7 : F2 7 = numV T (F1 4) (F2 4 + 1) := by rw [numV_stay (by omega)]; exact r7
                                  exact ih177 _ _ _ (show (n - (F2 4 + 1)).toNat < _ from by omega) ⟨q0, q2, q3, q8, q9, q14, q16, q17⟩ r2 (show F1 4 ≤ F2 4 + 1 ∧ F2 4 + 1 ≤ n from by omega) (run_s r4 (by omega) hal) hgood hh6 hn7
                                · refine br_aload_0 dX3_go_249 ?_
                                  refine br_ldc2 (z := 27) q1386 (by decide) dX3_go_250 ?_
                                  refine br_aload_0 dX3_go_253 ?_
                                  refine br_mg_10 dX3_go_254 ?_
                                  refine br_lmul dX3_go_257 ?_
                                  refine br_iload_4 dX3_go_258 ?_
                                  refine br_i2l dX3_go_260 (by omega) ?_
                                  refine br_ladd dX3_go_261 ?_
                                  refine br_ldc2 (z := 96) q1387 (by decide) dX3_go_262 ?_
                                  refine br_lsub dX3_go_265 ?_
                                  refine br_mp_10 dX3_go_266 ?_
                                  refine br_aload_0 dX3_go_269 ?_
                                  refine br_mg_4 (v := F2 4) rfl dX3_go_270 ?_
                                  refine br_aload_0 dX3_go_273 ?_
                                  refine br_mg_5 (v := F2 5) rfl dX3_go_274 ?_
                                  refine br_isub dX3_go_277 ?_
                                  refine br_iconst dX3_go_278 ?_
                                  refine br_icmp_ge (tgt := 299) dX3_go_279 (by decide) (by omega) (fun c279 => ?_) (fun c279 => ?_)
                                  · refine br_aload_0 dX3_go_299 ?_
                                    refine br_dup dX3_go_300 rfl ?_
                                    refine br_mg_4 (v := F2 4) rfl dX3_go_301 ?_
                                    refine br_iconst dX3_go_304 ?_
                                    refine br_iadd dX3_go_305 ?_
                                    refine br_mp_4 dX3_go_306 ?_
                                    refine br_goto (tgt := 177) dX3_go_309 (by decide) ?_
                                    refine br_fg_4 ?_
                                    have hal : isAl (T (F2 4)) := by unfold isAl isLt isDg; omega
                                    have hgood : ((0 : Int) = 1 ∧ allDg T (F1 4) (F2 4 + 1)) ∨ ((0 : Int) = 0 ∧ ¬ allDg T (F1 4) (F2 4 + 1)) := by
                                      rcases r5 with ⟨r5, r5a⟩ | ⟨r5, r5a⟩
                                      · exact Or.inr ⟨rfl, allDg_x (by omega) (by unfold isDg; omega)⟩
                                      · exact Or.inr ⟨rfl, allDg_n r5a⟩
                                    have hh6 : ((27 * wd2) + (G 1 (F2 4))) - 96 = hashT T (F1 4) (F2 4 + 1) := by rw [hashT_step (by omega), ← r6]; omega
                                    have hn7 : F2 7 = numV T (F1 4) (F2 4 + 1) := by rw [numV_stay (by omega)]; exact r7
                                    exact ih177 _ _ _ (show (n - (F2 4 + 1)).toNat < _ from by omega) ⟨q0, q2, q3, q8, q9, q14, q16, q17⟩ r2 (show F1 4 ≤ F2 4 + 1 ∧ F2 4 + 1 ≤ n from by omega) (run_s r4 (by omega) hal) hgood hh6 hn7
                                  · refine br_aload_0 dX3_go_282 ?_
                                    refine br_bipush dX3_go_283 (by decide) ?_
                                    refine br_aload_0 dX3_go_285 ?_
                                    refine br_mg_7 (v := F2 7) rfl dX3_go_286 ?_
                                    refine br_imul dX3_go_289 ?_
                                    refine br_iload_4 dX3_go_290 ?_
                                    refine br_iadd dX3_go_292 ?_
                                    refine br_bipush dX3_go_293 (by decide) ?_
                                    refine br_isub dX3_go_295 ?_
                                    refine br_mp_7 dX3_go_296 ?_
                                    refine br_aload_0 dX3_go_299 ?_
                                    refine br_dup dX3_go_300 rfl ?_
                                    refine br_mg_4 (v := F2 4) rfl dX3_go_301 ?_
                                    refine br_iconst dX3_go_304 ?_
                                    refine br_iadd dX3_go_305 ?_
                                    refine br_mp_4 dX3_go_306 ?_
                                    refine br_goto (tgt := 177) dX3_go_309 (by decide) ?_
                                    refine br_fg_4 ?_
                                    have hal : isAl (T (F2 4)) := by unfold isAl isLt isDg; omega
                                    have hgood : ((0 : Int) = 1 ∧ allDg T (F1 4) (F2 4 + 1)) ∨ ((0 : Int) = 0 ∧ ¬ allDg T (F1 4) (F2 4 + 1)) := by
                                      rcases r5 with ⟨r5, r5a⟩ | ⟨r5, r5a⟩
                                      · exact Or.inr ⟨rfl, allDg_x (by omega) (by unfold isDg; omega)⟩
                                      · exact Or.inr ⟨rfl, allDg_n r5a⟩
                                    have hh6 : ((27 * wd2) + (G 1 (F2 4))) - 96 = hashT T (F1 4) (F2 4 + 1) := by rw [hashT_step (by omega), ← r6]; omega
                                    have hn7 : ((10 * (F2 7)) + (G 1 (F2 4))) - 48 = numV T (F1 4) (F2 4 + 1) := by rw [numV_step (by omega), ← r7]; omega
                                    exact ih177 _ _ _ (show (n - (F2 4 + 1)).toNat < _ from by omega) ⟨q0, q2, q3, q8, q9, q14, q16, q17⟩ r2 (show F1 4 ≤ F2 4 + 1 ∧ F2 4 + 1 ≤ n from by omega) (run_s r4 (by omega) hal) hgood hh6 hn7
                              · refine br_iload_4 dX3_go_220 ?_
                                refine br_SZ1 (ct_m_isLetter (by omega)) lk_X3_30 ⟨Nat.le_of_ble_eq_true rfl, Nat.le_of_ble_eq_true rfl⟩ ⟨Nat.le_of_ble_eq_true rfl, Nat.le_of_ble_eq_true rfl⟩  (Nat.le_of_ble_eq_true rfl) dX3_go_222 (fun q => absurd q (by omega)) (fun c222 => ?_)
                                refine br_iload_2 dX3_go_225 ?_
                                refine br_icmp_ne (tgt := 233) dX3_go_226 (by decide) (by decide) (fun q => absurd q (by decide)) (fun _ => ?_)
                                refine br_iconst dX3_go_229 ?_
                                refine br_goto (tgt := 234) dX3_go_230 (by decide) ?_
                                refine br_istore_3 dX3_go_234 rfl ?_
                                refine br_aload_0 dX3_go_235 ?_
                                refine br_mg_4 (v := F2 4) rfl dX3_go_236 ?_
                                refine br_aload_0 dX3_go_239 ?_
                                refine br_mg_5 (v := F2 5) rfl dX3_go_240 ?_
                                refine br_isub dX3_go_243 ?_
                                refine br_bipush dX3_go_244 (by decide) ?_
                                refine br_icmp_ge (tgt := 269) dX3_go_246 (by decide) (by omega) (fun c246 => ?_) (fun c246 => ?_)
                                · refine br_aload_0 dX3_go_269 ?_
                                  refine br_mg_4 (v := F2 4) rfl dX3_go_270 ?_
                                  refine br_aload_0 dX3_go_273 ?_
                                  refine br_mg_5 (v := F2 5) rfl dX3_go_274 ?_
                                  refine br_isub dX3_go_277 ?_
                                  refine br_iconst dX3_go_278 ?_
                                  refine br_icmp_ge (tgt := 299) dX3_go_279 (by decide) (by omega) (fun c279 => ?_) (fun q => absurd q (by omega))
                                  refine br_aload_0 dX3_go_299 ?_
                                  refine br_dup dX3_go_300 rfl ?_
                                  refine br_mg_4 (v := F2 4) rfl dX3_go_301 ?_
                                  refine br_iconst dX3_go_304 ?_
                                  refine br_iadd dX3_go_305 ?_
                                  refine br_mp_4 dX3_go_306 ?_
                                  refine br_goto (tgt := 177) dX3_go_309 (by decide) ?_
                                  refine br_fg_4 ?_
                                  have hal : isAl (T (F2 4)) := by unfold isAl isLt isDg; omega
                                  have hgood : ((1 : Int) = 1 ∧ allDg T (F1 4) (F2 4 + 1)) ∨ ((1 : Int) = 0 ∧ ¬ allDg T (F1 4) (F2 4 + 1)) := by
                                    rcases r5 with ⟨r5, r5a⟩ | ⟨r5, r5a⟩
                                    · exact Or.inl ⟨rfl, allDg_s r5a (by unfold isDg; unfold isAl isLt isDg at hal; omega)⟩
                                    · omega
                                  have hh6 : wd2 = hashT T (F1 4) (F2 4 + 1) := by rw [hashT_stay (by omega)]; exact r6
                                  have hn7 : F2 7 = numV T (F1 4) (F2 4 + 1) := by rw [numV_stay (by omega)]; exact r7
                                  exact ih177 _ _ _ (show (n - (F2 4 + 1)).toNat < _ from by omega) ⟨q0, q2, q3, q8, q9, q14, q16, q17⟩ r2 (show F1 4 ≤ F2 4 + 1 ∧ F2 4 + 1 ≤ n from by omega) (run_s r4 (by omega) hal) hgood hh6 hn7
                                · refine br_aload_0 dX3_go_249 ?_
                                  refine br_ldc2 (z := 27) q1386 (by decide) dX3_go_250 ?_
                                  refine br_aload_0 dX3_go_253 ?_
                                  refine br_mg_10 dX3_go_254 ?_
                                  refine br_lmul dX3_go_257 ?_
                                  refine br_iload_4 dX3_go_258 ?_
                                  refine br_i2l dX3_go_260 (by omega) ?_
                                  refine br_ladd dX3_go_261 ?_
                                  refine br_ldc2 (z := 96) q1387 (by decide) dX3_go_262 ?_
                                  refine br_lsub dX3_go_265 ?_
                                  refine br_mp_10 dX3_go_266 ?_
                                  refine br_aload_0 dX3_go_269 ?_
                                  refine br_mg_4 (v := F2 4) rfl dX3_go_270 ?_
                                  refine br_aload_0 dX3_go_273 ?_
                                  refine br_mg_5 (v := F2 5) rfl dX3_go_274 ?_
                                  refine br_isub dX3_go_277 ?_
                                  refine br_iconst dX3_go_278 ?_
                                  refine br_icmp_ge (tgt := 299) dX3_go_279 (by decide) (by omega) (fun c279 => ?_) (fun c279 => ?_)
                                  · refine br_aload_0 dX3_go_299 ?_
                                    refine br_dup dX3_go_300 rfl ?_
                                    refine br_mg_4 (v := F2 4) rfl dX3_go_301 ?_
                                    refine br_iconst dX3_go_304 ?_
                                    refine br_iadd dX3_go_305 ?_
                                    refine br_mp_4 dX3_go_306 ?_
                                    refine br_goto (tgt := 177) dX3_go_309 (by decide) ?_
                                    refine br_fg_4 ?_
                                    have hal : isAl (T (F2 4)) := by unfold isAl isLt isDg; omega
                                    have hgood : ((1 : Int) = 1 ∧ allDg T (F1 4) (F2 4 + 1)) ∨ ((1 : Int) = 0 ∧ ¬ allDg T (F1 4) (F2 4 + 1)) := by
                                      rcases r5 with ⟨r5, r5a⟩ | ⟨r5, r5a⟩
                                      · exact Or.inl ⟨rfl, allDg_s r5a (by unfold isDg; unfold isAl isLt isDg at hal; omega)⟩
                                      · omega
                                    have hh6 : ((27 * wd2) + (G 1 (F2 4))) - 96 = hashT T (F1 4) (F2 4 + 1) := by rw [hashT_step (by omega), ← r6]; omega
                                    have hn7 : F2 7 = numV T (F1 4) (F2 4 + 1) := by rw [numV_stay (by omega)]; exact r7
                                    exact ih177 _ _ _ (show (n - (F2 4 + 1)).toNat < _ from by omega) ⟨q0, q2, q3, q8, q9, q14, q16, q17⟩ r2 (show F1 4 ≤ F2 4 + 1 ∧ F2 4 + 1 ≤ n from by omega) (run_s r4 (by omega) hal) hgood hh6 hn7
                                  · refine br_aload_0 dX3_go_282 ?_
                                    refine br_bipush dX3_go_283 (by decide) ?_
                                    refine br_aload_0 dX3_go_285 ?_
                                    refine br_mg_7 (v := F2 7) rfl dX3_go_286 ?_
                                    refine br_imul dX3_go_289 ?_
                                    refine br_iload_4 dX3_go_290 ?_
                                    refine br_iadd dX3_go_292 ?_
                                    refine br_bipush dX3_go_293 (by decide) ?_
                                    refine br_isub dX3_go_295 ?_
                                    refine br_mp_7 dX3_go_296 ?_
                                    refine br_aload_0 dX3_go_299 ?_
                                    refine br_dup dX3_go_300 rfl ?_
                                    refine br_mg_4 (v := F2 4) rfl dX3_go_301 ?_
                                    refine br_iconst dX3_go_304 ?_
                                    refine br_iadd dX3_go_305 ?_
                                    refine br_mp_4 dX3_go_306 ?_
                                    refine br_goto (tgt := 177) dX3_go_309 (by decide) ?_
                                    refine br_fg_4 ?_
                                    have hal : isAl (T (F2 4)) := by unfold isAl isLt isDg; omega
                                    have hgood : ((1 : Int) = 1 ∧ allDg T (F1 4) (F2 4 + 1)) ∨ ((1 : Int) = 0 ∧ ¬ allDg T (F1 4) (F2 4 + 1)) := by
                                      rcases r5 with ⟨r5, r5a⟩ | ⟨r5, r5a⟩
                                      · exact Or.inl ⟨rfl, allDg_s r5a (by unfold isDg; unfold isAl isLt isDg at hal; omega)⟩
                                      · omega
                                    have hh6 : ((27 * wd2) + (G 1 (F2 4))) - 96 = hashT T (F1 4) (F2 4 + 1) := by rw [hashT_step (by omega), ← r6]; omega
                                    have hn7 : ((10 * (F2 7)) + (G 1 (F2 4))) - 48 = numV T (F1 4) (F2 4 + 1) := by rw [numV_step (by omega), ← r7]; omega
                                    exact ih177 _ _ _ (show (n - (F2 4 + 1)).toNat < _ from by omega) ⟨q0, q2, q3, q8, q9, q14, q16, q17⟩ r2 (show F1 4 ≤ F2 4 + 1 ∧ F2 4 + 1 ≤ n from by omega) (run_s r4 (by omega) hal) hgood hh6 hn7
                            · refine br_if_eq (tgt := 312) dX3_go_202 (by decide) (by decide) (fun _ => ?_) (fun q => absurd q (by decide))
                              have hrun : runR T n (F1 4) (F2 4) := ⟨by omega, r4, by unfold isAl isLt isDg; omega⟩
                              have hlt := runR_pos hrun (by omega) hal0
                              refine br_aload_0 dX3_go_312 ?_
                              refine br_iload_3 dX3_go_313 ?_
                              refine br_if_eq (tgt := 334) dX3_go_314 (by decide) (by omega) (fun c314 => ?_) (fun c314 => ?_)
                              · have hnok := (r5.resolve_left (fun q => by have := q.1; omega)).2
                                refine br_iconst dX3_go_334 ?_
                                refine br_goto (tgt := 347) dX3_go_335 (by decide) ?_
                                refine br_mp_6 dX3_go_347 ?_
                                exact br_return dX3_go_350 (by decide) (by decide) (hret _ _ (⟨rfl, _, _, rfl, goEnd (tk := (F1 4, 1, F2 4, 0)) ⟨F1 4, ⟨by omega, h2, by unfold isSp; omega⟩, Or.inr (Or.inr (Or.inr (Or.inr ⟨by omega, by omega, hal0, F2 4, hrun, Or.inr (Or.inr ⟨notLt_of hlt hfd, (fun q => by first | exact absurd q.1 hnok | (have := q.2; omega)), rfl⟩)⟩)))⟩ (mTk_mk 1 (F1 4) (F2 4) rfl r2 rfl (by omega) (by omega) (by omega)), ⟨q0, q2, q3, q8, q9, q14, q16, q17⟩⟩))
                              · refine br_iload_2 dX3_go_317 ?_
                                refine br_if_ne (tgt := 338) dX3_go_318 (by decide) (by decide) (fun q => absurd q (by decide)) (fun _ => ?_)
                                refine br_aload_0 dX3_go_321 ?_
                                refine br_mg_4 (v := F2 4) rfl dX3_go_322 ?_
                                refine br_aload_0 dX3_go_325 ?_
                                refine br_mg_5 (v := F2 5) rfl dX3_go_326 ?_
                                refine br_isub dX3_go_329 ?_
                                refine br_iconst dX3_go_330 ?_
                                refine br_icmp_le (tgt := 338) dX3_go_331 (by decide) (by omega) (fun c331 => ?_) (fun c331 => ?_)
                                · refine br_iload_2 dX3_go_338 ?_
                                  refine br_if_eq (tgt := 346) dX3_go_339 (by decide) (by decide) (fun _ => ?_) (fun q => absurd q (by decide))
                                  have hok := (r5.resolve_right (fun q => by have := q.1; omega)).2
                                  refine br_iconst dX3_go_346 ?_
                                  refine br_mp_6 dX3_go_347 ?_
                                  exact br_return dX3_go_350 (by decide) (by decide) (hret _ _ (⟨rfl, _, _, rfl, goEnd (tk := (F1 4, 3, F2 4, numV T (F1 4) (F2 4))) ⟨F1 4, ⟨by omega, h2, by unfold isSp; omega⟩, Or.inr (Or.inr (Or.inr (Or.inr ⟨by omega, by omega, hal0, F2 4, hrun, Or.inr (Or.inl ⟨hok, by omega, rfl⟩)⟩)))⟩ (mTk_num (F1 4) (F2 4) _ rfl r2 rfl r7 (numV_bd hok (by omega)) (by omega) (by omega)), ⟨q0, q2, q3, q8, q9, q14, q16, q17⟩⟩))
                                · refine br_iconst dX3_go_334 ?_
                                  refine br_goto (tgt := 347) dX3_go_335 (by decide) ?_
                                  refine br_mp_6 dX3_go_347 ?_
                                  exact br_return dX3_go_350 (by decide) (by decide) (hret _ _ (⟨rfl, _, _, rfl, goEnd (tk := (F1 4, 1, F2 4, 0)) ⟨F1 4, ⟨by omega, h2, by unfold isSp; omega⟩, Or.inr (Or.inr (Or.inr (Or.inr ⟨by omega, by omega, hal0, F2 4, hrun, Or.inr (Or.inr ⟨notLt_of hlt hfd, (fun q => by first | exact absurd q.1 hnok | (have := q.2; omega)), rfl⟩)⟩)))⟩ (mTk_mk 1 (F1 4) (F2 4) rfl r2 rfl (by omega) (by omega) (by omega)), ⟨q0, q2, q3, q8, q9, q14, q16, q17⟩⟩))
                      exact lp177 _ _ _ _ (Nat.lt_succ_self _) hk rfl (show F1 4 ≤ F1 4 ∧ F1 4 ≤ n from by omega) (show ∀ y : Int, F1 4 ≤ y → y < F1 4 → _ from fun y _ _ => by omega) (Or.inl ⟨rfl, allDg_0 _ _⟩) (hashT_0 _ _).symm (numV_0 _ _).symm
                    · refine br_if_ne (tgt := 160) dX3_go_131 (by decide) (by decide) (fun q => absurd q (by decide)) (fun _ => ?_)
                      refine br_aload_0 dX3_go_134 ?_
                      refine br_iload_1 dX3_go_135 ?_
                      refine br_bipush dX3_go_136 (by decide) ?_
                      refine br_icmp_ne (tgt := 145) dX3_go_138 (by decide) (by omega) (fun c138 => ?_) (fun c138 => ?_)
                      · refine br_iconst dX3_go_145 ?_
                        refine br_mp_6 dX3_go_146 ?_
                        refine br_aload_0 dX3_go_149 ?_
                        refine br_dup dX3_go_150 rfl ?_
                        refine br_mg_4 (v := F1 4) rfl dX3_go_151 ?_
                        refine br_iconst dX3_go_154 ?_
                        refine br_iadd dX3_go_155 ?_
                        refine br_mp_4 dX3_go_156 ?_
                        exact br_return dX3_go_159 (by decide) (by decide) (hret _ _ (⟨rfl, _, _, rfl, goEnd (tk := (F1 4, 1, F1 4 + 1, 0)) ⟨F1 4, ⟨by omega, h2, by unfold isSp; omega⟩, Or.inr (Or.inr (Or.inr (Or.inl ⟨by omega, by omega, by unfold isAl isLt isDg; omega, by omega, rfl⟩)))⟩ (mTk_mk 1 (F1 4) (F1 4 + 1) rfl rfl rfl (by omega) (by omega) (by omega)), hk⟩))
                      · refine br_iconst dX3_go_141 ?_
                        refine br_goto (tgt := 146) dX3_go_142 (by decide) ?_
                        refine br_mp_6 dX3_go_146 ?_
                        refine br_aload_0 dX3_go_149 ?_
                        refine br_dup dX3_go_150 rfl ?_
                        refine br_mg_4 (v := F1 4) rfl dX3_go_151 ?_
                        refine br_iconst dX3_go_154 ?_
                        refine br_iadd dX3_go_155 ?_
                        refine br_mp_4 dX3_go_156 ?_
                        exact br_return dX3_go_159 (by decide) (by decide) (hret _ _ (⟨rfl, _, _, rfl, goEnd (tk := (F1 4, 4, F1 4 + 1, 0)) ⟨F1 4, ⟨by omega, h2, by unfold isSp; omega⟩, Or.inr (Or.inr (Or.inl ⟨by omega, by omega, by unfold isAl isLt isDg; omega, by omega, rfl⟩))⟩ (mTk_mk 4 (F1 4) (F1 4 + 1) rfl rfl rfl (by omega) (by omega) (by omega)), hk⟩))
                · refine br_aload_0 dX3_go_104 ?_
                  refine br_iconst dX3_go_105 ?_
                  refine br_mp_6 dX3_go_106 ?_
                  exact br_return dX3_go_109 (by decide) (by decide) (hret _ _ (⟨rfl, _, _, rfl, goEnd (tk := (F1 4, 0, F1 4, 0)) ⟨F1 4, ⟨by omega, h2, by unfold isSp; omega⟩, Or.inr (Or.inl ⟨by omega, by omega, rfl⟩)⟩ (mTk_mk 0 (F1 4) (F1 4) rfl rfl rfl (by omega) (by omega) (by omega)), hk⟩))
              · refine br_aload_0 dX3_go_80 ?_
                refine br_sipush dX3_go_81 (by decide) ?_
                refine br_mp_5 dX3_go_84 ?_
                refine bk_V.world (w' := (mw o a (uF F1 5 600) wd G ex)) (congrArg (fun F9 => mw o a F9 wd G ex) (uF_uF _ _ _ _)) ?_
                refine br_aload_0 dX3_go_87 ?_
                refine br_iconst dX3_go_88 ?_
                refine br_mp_6 dX3_go_89 ?_
                exact br_return dX3_go_92 (by decide) (by decide) (hret _ _ (⟨rfl, _, _, rfl, goEnd (tk := (600, 1, F1 4, 0)) ⟨F1 4, ⟨by omega, h2, by unfold isSp; omega⟩, Or.inl ⟨by omega, by omega, rfl⟩⟩ (mTk_mk 1 600 (F1 4) rfl rfl rfl (by omega) (by omega) (by omega)), hk⟩))
          · refine br_aload_0 dX3_go_39 ?_
            refine br_dup dX3_go_40 rfl ?_
            refine br_mg_4 (v := F1 4) rfl dX3_go_41 ?_
            refine br_iconst dX3_go_44 ?_
            refine br_iadd dX3_go_45 ?_
            refine br_mp_4 dX3_go_46 ?_
            refine br_goto (tgt := 0) dX3_go_49 (by decide) ?_
            exact ih0 _ (show (n - (F1 4 + 1)).toNat < _ from by omega) hk (show F 4 ≤ F1 4 + 1 ∧ F1 4 + 1 ≤ n from by omega) (skip_s h2 (by omega) (by unfold isSp; omega))
  exact lp0 _ _ (Nat.lt_succ_self _) (mKp_0 _) (by omega) (fun y _ _ => by omega)

