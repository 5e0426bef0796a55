/-! X: feed -/
set_option maxRecDepth 100000
theorem ct_x_puts {D : bk_D} {o : Nat} {a b sa pa : Nat → Nat} {F : Nat → Int} {G : Nat → Int → Int} {bk : Int → Option Nat} {r : Int → Int} {P : Nat → Int} {du : Int → Int} {hb : Nat → Option (Nat × bE)} {ex : gC} {qw : Nat} {fw : Int → Int} (hl : 0 ≤ F 1 ∧ F 1 ≤ 620) (hfw : ∀ i : Int, 0 ≤ i → i < 5 → -2147483648 ≤ fw i ∧ fw i < 2147483648) : bk_K D yX1_puts (.code yX1_puts cX1_puts 7 (some (FieldType.int))) ({ frames := 0, cells := 0, slots := 0, locals := 0 }) [.ref o, .ref qw] (xw o a F G bk b sa pa r P du hb (gset ex 18 0 (some (qw, bI 5 fw)))) (bk_pi fun v w => v = F 1 + 20 ∧ ∃ g1 : Int → Int, w = (xw o a (uF F 1 (F 1 + 20)) (uG G 1 g1) bk b sa pa r P du hb (gset ex 18 0 (some (qw, bI 5 fw)))) ∧ (∀ y : Int, y < F 1 → g1 y = G 1 y) ∧ ∀ j m : Int, 0 ≤ j → j < 5 → 0 ≤ m → m < 4 → g1 (F 1 + 4 * j + m) = sb (wordB (fw j) m)) bk_nox := by
  refine bk_ofV (own := "BreakSetter") (L0 := [some (.ref o), some (.ref qw), none, none, none, none, none]) (by decide) rfl (Nat.le_of_ble_eq_true rfl) rfl bk_oi (fun Γ hct hret hthr => ?_)
  refine br_aload_1 dX1_puts_0 ?_
  refine br_astore_2 dX1_puts_1 rfl ?_
  refine br_aload_2 dX1_puts_2 ?_
  refine br_alen (i := 18) (j := 0) (t := 0) (x := (5, .inl (fun j : Nat => iI (fw (j : Int))))) (ty := .int) rfl rfl dX1_puts_3 ?_
  refine br_topi (y := 5) rfl ?_
  refine br_istore_3 dX1_puts_4 rfl ?_
  refine br_iconst dX1_puts_5 ?_
  refine br_istore_4 dX1_puts_6 rfl ?_
  refine bk_V.world (w' := (xw o a (uF F 1 (F 1 + 4 * 0)) (uG G 1 (G 1)) bk b sa pa r P du hb (gset ex 18 0 (some (qw, bI 5 fw))))) (by rw [show F 1 + 4 * 0 = F 1 by omega, uF_self, uG_self]) ?_
  have lp8 : ∀ (mm8 : Nat) (i : Int) (g1 : Int → Int), (5 - i).toNat < mm8 → (0 ≤ i ∧ i ≤ 5) → (∀ y : Int, y < F 1 → g1 y = G 1 y) → (∀ j m : Int, 0 ≤ j → j < i → 0 ≤ m → m < 4 → g1 (F 1 + 4 * j + m) = sb (wordB (fw j) m)) → bk_V Γ D ({ frames := 0, cells := 0, slots := 0, locals := 0 }) "BreakSetter" cX1_puts [] 0 0 (xw o a (uF F 1 (F 1 + 4 * i)) (uG G 1 g1) bk b sa pa r P du hb (gset ex 18 0 (some (qw, bI 5 fw)))) [some (.ref o), some (.ref qw), some (.ref qw), some (.int (iI 5)), some (.int (iI i)), none, none] [] 8 := by
    intro mm8
    induction mm8 with
    | zero => intro i g1 hm8; exact absurd hm8 (Nat.not_lt_zero _)
    | succ mm8 ih8 =>
      intro i g1 hm8 h1 h2 h3
      refine br_iload_4 dX1_puts_8 ?_
      refine br_iload_3 dX1_puts_10 ?_
      refine br_icmp_ge (tgt := 66) dX1_puts_11 (by decide) (by omega) (fun c11 => ?_) (fun c11 => ?_)
      · refine br_aload_0 dX1_puts_66 ?_
        refine br_xg_X1_46 (v := F 1 + 4 * i) rfl dX1_puts_67 ?_
        exact br_ireturn dX1_puts_70 (by decide) (by decide) (hret _ _ (⟨F 1 + 20, by rw [show F 1 + 4 * i = F 1 + 20 by omega], rfl, g1, by rw [show F 1 + 4 * i = F 1 + 20 by omega], h2, by rw [show (5 : Int) = i by omega]; exact h3⟩))
      · have hfi := hfw i (by omega) (by omega)
        refine br_aload_2 dX1_puts_14 ?_
        refine br_iload_4 dX1_puts_15 ?_
        refine br_iald (i := 18) (j := 0) (N := 5) (f := fw) rfl (by omega) (by decide) dX1_puts_17 ?_
        refine br_istore_5 dX1_puts_18 rfl ?_
        refine br_bipush dX1_puts_20 (by decide) ?_
        refine br_istore_6 dX1_puts_22 rfl ?_
        refine bk_V.world (w' := (xw o a (uF F 1 (F 1 + 4 * i + 0)) (uG G 1 g1) bk b sa pa r P du hb (gset ex 18 0 (some (qw, bI 5 fw))))) (by rw [Int.add_zero]) ?_
        have lp24 : ∀ (mm24 : Nat) (z : Int) (m : Int) (g2 : Int → Int), (z + 8).toNat < mm24 → ((z = 24 ∨ z = 16 ∨ z = 8 ∨ z = 0 ∨ z = -8) ∧ z = 24 - 8 * m) → (∀ y : Int, y < F 1 → g2 y = G 1 y) → (∀ j m : Int, 0 ≤ j → j < i → 0 ≤ m → m < 4 → g2 (F 1 + 4 * j + m) = sb (wordB (fw j) m)) → (∀ m9 : Int, 0 ≤ m9 → m9 < m → g2 (F 1 + 4 * i + m9) = sb (wordB (fw i) m9)) → bk_V Γ D ({ frames := 0, cells := 0, slots := 0, locals := 0 }) "BreakSetter" cX1_puts [] 0 0 (xw o a (uF F 1 (F 1 + 4 * i + m)) (uG G 1 g2) bk b sa pa r P du hb (gset ex 18 0 (some (qw, bI 5 fw)))) [some (.ref o), some (.ref qw), some (.ref qw), some (.int (iI 5)), some (.int (iI i)), some (.int (iI (fw i))), some (.int (iI z))] [] 24 := by
          intro mm24
          induction mm24 with
          | zero => intro z m g2 hm24; exact absurd hm24 (Nat.not_lt_zero _)
          | succ mm24 ih24 =>
            intro z m g2 hm24 k1 k2 k3 k4
            refine br_iload_6 dX1_puts_24 ?_
            refine br_if_lt (tgt := 60) dX1_puts_26 (by decide) (by omega) (fun c26 => ?_) (fun c26 => ?_)
            · refine br_iinc_4 dX1_puts_60 rfl ?_
              refine br_goto (tgt := 8) dX1_puts_63 (by decide) ?_
              refine br_fg_5 ?_
              refine br_fg_6 ?_
              refine bk_V.world (w' := (xw o a (uF F 1 (F 1 + 4 * (i + 1))) (uG G 1 g2) bk b sa pa r P du hb (gset ex 18 0 (some (qw, bI 5 fw))))) (by rw [show F 1 + 4 * i + m = F 1 + 4 * (i + 1) by omega]) ?_
              exact ih8 _ _ (by omega) (by omega) k2 (fun j m q1 q2 q3 q4 => by
  by_cases e : j = i
  · subst e; exact k4 m q3 (by omega)
  · exact k3 j m q1 (by omega) q3 q4)
            · have hz : z = 24 ∨ z = 16 ∨ z = 8 ∨ z = 0 := by omega
              refine br_aload_0 dX1_puts_29 ?_
              refine br_xg_X1_9 dX1_puts_30 ?_
              refine br_aload_0 dX1_puts_33 ?_
              refine br_xg_X1_46 (v := F 1 + 4 * i + m) rfl dX1_puts_34 ?_
              refine br_iload_5 dX1_puts_37 ?_
              refine br_iload_6 dX1_puts_39 ?_
              refine br_ishr (z := fw i / 2 ^ (Int.toNat z)) dX1_puts_41 (shr_x hz hfi) ?_
              refine br_i2b (z := sb ((fw i / 2 ^ (Int.toNat z)) % 256)) dX1_puts_42 (i2b_x (div_bd hfi hz)) ?_
              refine br_xs_1 (by omega) (sb_bd (by omega)) dX1_puts_43 ?_
              refine bk_V.world (w' := (xw o a (uF F 1 (F 1 + 4 * i + m)) (uG G 1 (uI g2 (F 1 + 4 * i + m) (sb ((fw i / 2 ^ (Int.toNat z)) % 256)))) bk b sa pa r P du hb (gset ex 18 0 (some (qw, bI 5 fw))))) (congrArg (fun G9 => (xw o a (uF F 1 (F 1 + 4 * i + m)) G9 bk b sa pa r P du hb (gset ex 18 0 (some (qw, bI 5 fw))))) (uG_uG _ _ _ _)) ?_
              refine br_aload_0 dX1_puts_44 ?_
              refine br_dup dX1_puts_45 rfl ?_
              refine br_xg_X1_46 (v := F 1 + 4 * i + m) rfl dX1_puts_46 ?_
              refine br_iconst dX1_puts_49 ?_
              refine br_iadd dX1_puts_50 ?_
              refine br_xp_X1_46 dX1_puts_51 ?_
              refine bk_V.world (w' := (xw o a (uF F 1 ((F 1 + 4 * i + m) + 1)) (uG G 1 (uI g2 (F 1 + 4 * i + m) (sb ((fw i / 2 ^ (Int.toNat z)) % 256)))) bk b sa pa r P du hb (gset ex 18 0 (some (qw, bI 5 fw))))) (congrArg (fun F9 => (xw o a F9 (uG G 1 (uI g2 (F 1 + 4 * i + m) (sb ((fw i / 2 ^ (Int.toNat z)) % 256)))) bk b sa pa r P du hb (gset ex 18 0 (some (qw, bI 5 fw))))) (uF_uF _ _ _ _)) ?_
              refine br_iinc_6 dX1_puts_54 rfl ?_
              refine br_goto (tgt := 24) dX1_puts_57 (by decide) ?_
              refine bk_V.world (w' := (xw o a (uF F 1 (F 1 + 4 * i + (m + 1))) (uG G 1 (uI g2 (F 1 + 4 * i + m) (sb ((fw i / 2 ^ (Int.toNat z)) % 256)))) bk b sa pa r P du hb (gset ex 18 0 (some (qw, bI 5 fw))))) (by rw [Int.add_assoc (F 1 + 4 * i) m 1]) ?_
              exact ih24 _ _ _ (by omega) (by omega) (fun y q1 => by rw [uI_ne _ _ (by omega)]; exact k2 y q1) (fun j m9 q1 q2 q3 q4 => by rw [uI_ne _ _ (by omega)]; exact k3 j m9 q1 q2 q3 q4) (fun m9 q1 q2 => by
  by_cases e : m9 = m
  · subst e; rw [uI_eq]; unfold wordB byteS; rw [show 24 - 8 * m9 = z by omega]
  · rw [uI_ne _ _ (by omega)]; exact k4 m9 q1 (by omega))
        exact lp24 _ _ _ _ (Nat.lt_succ_self _) (by omega) h2 h3 (fun m9 _ _ => by omega)
  exact lp8 _ _ _ (Nat.lt_succ_self _) (by omega) (fun y _ => rfl) (fun j m _ _ => by omega)

theorem xw_dropG {Γ : bk_G} {D : bk_D} {R : Room} {own : String} {cc : ByteArray} {tb : List ExceptionTableEntry} {k n : Nat} {L : List (Option Value)} {st : List Value} {pc : Nat} {o : Nat} {a b sa pa : Nat → Nat} {F : Nat → Int} {G : Nat → Int → Int} {bk : Int → Option Nat} {r : Int → Int} {P : Nat → Int} {du : Int → Int} {hb : Nat → Option (Nat × bE)} {ex : gC} {i0 j0 : Nat} {c : Option (Nat × bE)} (h0 : 15 < i0) (h16 : ex i0 j0 = none) (kk : bk_V Γ D R own cc tb k n (xw o a F G bk b sa pa r P du hb ex) L st pc) : bk_V Γ D R own cc tb k n (xw o a F G bk b sa pa r P du hb (gset ex i0 j0 c)) L st pc := by
  refine bk_V.sub (fun i j q h => ?_) kk
  rw [← xw_ex i0 j0 h0 c]
  by_cases e : i = i0 ∧ j = j0
  · rw [e.1, e.2] at h
    unfold xw at h
    rw [if_neg (by omega), if_neg (by omega), if_neg (by omega), h16] at h
    cases h
  · rw [gset_ne _ _ e]; exact h
theorem ct_x_feed {D : bk_D} {o : Nat} {ex : gC} {r : Int → Int} {um : Int} {hist : Int → Int → Int} {tp : Int → Int} {len flt : Int} {w : gC} (h : XS o ex r um hist tp len flt w) (hR : RW r) {v0 v1 v2 v3 v4 : Int} (hv0 : -2147483648 ≤ v0 ∧ v0 < 2147483648) (hv1 : -2147483648 ≤ v1 ∧ v1 < 2147483648) (hv2 : -2147483648 ≤ v2 ∧ v2 < 2147483648) (hv3 : -2147483648 ≤ v3 ∧ v3 < 2147483648) (hv4 : -2147483648 ≤ v4 ∧ v4 < 2147483648) (h18 : ex 18 0 = none) : bk_K D yX1_feed (.code yX1_feed cX1_feed 6 (some (FieldType.int))) ({ frames := 1, cells := 1, slots := 5, locals := 26 }) [.ref o, .int (iI v0), .int (iI v1), .int (iI v2), .int (iI v3), .int (iI v4)] w (bk_pi fun v w' => (len ≤ 620 ∧ v = len + 20 ∧ XS o ex r um hist (feedT tp len v0 v1 v2 v3 v4) (len + 20) flt w') ∨ (620 < len ∧ v = -1 ∧ XS o ex r um hist tp len flt w')) bk_nox := by
  obtain ⟨a, b, sa, pa, F, G, bk, P, du, ba, rfl, hpl, hA, hbk, hum, hlen, hflt, htp, hu, hln⟩ := h
  have hn := hR.n
  obtain ⟨⟨p0, p1, p2, p3⟩, hdu⟩ := id hpl
  refine bk_ofV (own := "BreakSetter") (L0 := [some (.ref o), some (.int (iI v0)), some (.int (iI v1)), some (.int (iI v2)), some (.int (iI v3)), some (.int (iI v4))]) (by decide) rfl (Nat.le_of_ble_eq_true rfl) rfl bk_oi (fun Γ hct hret hthr => ?_)
  refine br_aload_0 dX1_feed_0 ?_
  refine br_xg_X1_46 (v := F 1) rfl dX1_feed_1 ?_
  refine br_bipush dX1_feed_4 (by decide) ?_
  refine br_iadd dX1_feed_6 ?_
  refine br_sipush dX1_feed_7 (by decide) ?_
  refine br_icmp_le (tgt := 17) dX1_feed_10 (by decide) (by omega) (fun c10 => ?_) (fun c10 => ?_)
  · refine br_aload_0 dX1_feed_17 ?_
    refine br_iconst dX1_feed_18 ?_
    refine br_newaI (N := 5) 18 0 (by decide) (Nat.le_of_ble_eq_true rfl) (Nat.le_of_ble_eq_true rfl) dX1_feed_19 (fun qw => ?_)
    refine bk_V.world (w' := (xw o a F G bk b sa pa r P du (hbF ba hist um) (gset ex 18 0 (some (qw, bI 5 (fun _ => 0)))))) (xw_ex 18 0 (by decide) _) ?_
    refine br_dup dX1_feed_21 rfl ?_
    refine br_iconst dX1_feed_22 ?_
    refine br_iload_1 dX1_feed_23 ?_
    refine br_iast (i := 18) (j := 0) (N := 5) (f := fun _ => 0) rfl (by decide) (by decide) dX1_feed_24 ?_
    refine bk_V.world (w' := (xw o a F G bk b sa pa r P du (hbF ba hist um) (gset ex 18 0 (some (qw, bI 5 (uI (fun _ => 0) 0 v0)))))) (by rw [xw_ex 18 0 (by decide), gset_gset]) ?_
    refine br_dup dX1_feed_25 rfl ?_
    refine br_iconst dX1_feed_26 ?_
    refine br_iload_2 dX1_feed_27 ?_
    refine br_iast (i := 18) (j := 0) (N := 5) (f := uI (fun _ => 0) 0 v0) rfl (by decide) (by decide) dX1_feed_28 ?_
    refine bk_V.world (w' := (xw o a F G bk b sa pa r P du (hbF ba hist um) (gset ex 18 0 (some (qw, bI 5 (uI (uI (fun _ => 0) 0 v0) 1 v1)))))) (by rw [xw_ex 18 0 (by decide), gset_gset]) ?_
    refine br_dup dX1_feed_29 rfl ?_
    refine br_iconst dX1_feed_30 ?_
    refine br_iload_3 dX1_feed_31 ?_
    refine br_iast (i := 18) (j := 0) (N := 5) (f := uI (uI (fun _ => 0) 0 v0) 1 v1) rfl (by decide) (by decide) dX1_feed_32 ?_
    refine bk_V.world (w' := (xw o a F G bk b sa pa r P du (hbF ba hist um) (gset ex 18 0 (some (qw, bI 5 (uI (uI (uI (fun _ => 0) 0 v0) 1 v1) 2 v2)))))) (by rw [xw_ex 18 0 (by decide), gset_gset]) ?_
    refine br_dup dX1_feed_33 rfl ?_
    refine br_iconst dX1_feed_34 ?_
    refine br_iload_4 dX1_feed_35 ?_
    refine br_iast (i := 18) (j := 0) (N := 5) (f := uI (uI (uI (fun _ => 0) 0 v0) 1 v1) 2 v2) rfl (by decide) (by decide) dX1_feed_37 ?_
    refine bk_V.world (w' := (xw o a F G bk b sa pa r P du (hbF ba hist um) (gset ex 18 0 (some (qw, bI 5 (uI (uI (uI (uI (fun _ => 0) 0 v0) 1 v1) 2 v2) 3 v3)))))) (by rw [xw_ex 18 0 (by decide), gset_gset]) ?_
    refine br_dup dX1_feed_38 rfl ?_
    refine br_iconst dX1_feed_39 ?_
    refine br_iload_5 dX1_feed_40 ?_
    refine br_iast (i := 18) (j := 0) (N := 5) (f := uI (uI (uI (uI (fun _ => 0) 0 v0) 1 v1) 2 v2) 3 v3) rfl (by decide) (by decide) dX1_feed_42 ?_
    refine bk_V.world (w' := (xw o a F G bk b sa pa r P du (hbF ba hist um) (gset ex 18 0 (some (qw, bI 5 (uI (uI (uI (uI (uI (fun _ => 0) 0 v0) 1 v1) 2 v2) 3 v3) 4 v4)))))) (by rw [xw_ex 18 0 (by decide), gset_gset]) ?_
    refine br_arr (i := 18) (j := 0) (a := qw) (N := 5) (f := uI (uI (uI (uI (uI (fun _ => 0) 0 v0) 1 v1) 2 v2) 3 v3) 4 v4) (f' := pick5 v0 v1 v2 v3 v4) rfl (fun z q1 q2 => by
      have : z = 0 ∨ z = 1 ∨ z = 2 ∨ z = 3 ∨ z = 4 := by omega
      rcases this with rfl | rfl | rfl | rfl | rfl <;> rfl) ?_
    refine bk_V.world (w' := (xw o a F G bk b sa pa r P du (hbF ba hist um) (gset ex 18 0 (some (qw, bI 5 (pick5 v0 v1 v2 v3 v4)))))) (by rw [xw_ex 18 0 (by decide), gset_gset]) ?_
    have hfw : ∀ i : Int, 0 ≤ i → i < 5 → -2147483648 ≤ pick5 v0 v1 v2 v3 v4 i ∧ pick5 v0 v1 v2 v3 v4 i < 2147483648 := fun i q1 q2 => by
      have : i = 0 ∨ i = 1 ∨ i = 2 ∨ i = 3 ∨ i = 4 := by omega
      rcases this with rfl | rfl | rfl | rfl | rfl <;> assumption
    refine br_Vi1 (i := 0) (j := 0) (ct_x_puts (fw := pick5 v0 v1 v2 v3 v4) (ex := ex) (show 0 ≤ F 1 ∧ F 1 ≤ 620 from by omega) hfw) lk_X1_50 ⟨Nat.le_of_ble_eq_true rfl, Nat.le_of_ble_eq_true rfl⟩ ⟨Nat.le_of_ble_eq_true rfl, Nat.le_of_ble_eq_true rfl⟩ rfl rfl (Nat.le_of_ble_eq_true rfl) dX1_feed_43 (fun v43 w_ hw_ => ?_)
    obtain ⟨hv_, g1, rfl, ht1, ht2⟩ := hw_
    have htape : ∀ z : Int, 0 ≤ z → z < len + 20 → g1 z = sb (feedT tp len v0 v1 v2 v3 v4 z) := fun z q1 q2 => by
      unfold feedT
      by_cases c : z < len
      · rw [if_pos c, ht1 z (by omega)]; exact htp z q1 c
      · rw [if_neg c, ← ht2 ((z - len) / 4) ((z - len) % 4) (by omega) (by omega) (by omega) (by omega)]
        congr 1
        omega
    refine xw_dropG (by decide) h18 ?_
    exact br_ireturn dX1_feed_46 (by decide) (by decide) (hret _ _ (⟨_, rfl, Or.inl ⟨by omega, by omega, a, b, sa, pa, _, _, bk, P, du, ba, rfl, hpl, hA, hbk, hum, (show F 1 + 20 = len + 20 from by omega), hflt, htape, hu, by omega⟩⟩))
  · refine br_iconst dX1_feed_13 ?_
    refine br_goto (tgt := 46) dX1_feed_14 (by decide) ?_
    exact br_ireturn dX1_feed_46 (by decide) (by decide) (hret _ _ (⟨_, rfl, Or.inr ⟨by omega, rfl, ⟨a, b, sa, pa, _, _, bk, P, du, ba, rfl, hpl, hA, hbk, hum, hlen, hflt, htp, hu, hln⟩⟩⟩))

