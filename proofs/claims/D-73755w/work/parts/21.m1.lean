/-! MODEL: leaves -/
set_option maxRecDepth 100000
theorem ct_m_isIn {D : bk_D} {w : gC} {v x y : Int} (h : (-2147483648 ≤ v ∧ v < 2147483648) ∧ (-2147483648 ≤ x ∧ x < 2147483648) ∧ (-2147483648 ≤ y ∧ y < 2147483648)) : bk_K D yX3_isIn (.code yX3_isIn cX3_isIn 3 (some (FieldType.boolean))) ({ frames := 0, cells := 0, slots := 0, locals := 0 }) [.int (iI v), .int (iI x), .int (iI y)] w (bk_pz (x ≤ v ∧ v ≤ y) w) bk_nox := by
  refine bk_ofV (own := "BreakSetterModel") (L0 := [some (.int (iI v)), some (.int (iI x)), some (.int (iI y))]) (by decide) rfl (Nat.le_of_ble_eq_true rfl) rfl bk_ozz (fun Γ hct hret hthr => ?_)
  refine br_iload_0 dX3_isIn_0 ?_
  refine br_iload_1 dX3_isIn_1 ?_
  refine br_icmp_lt (tgt := 14) dX3_isIn_2 (by decide) (by omega) (fun c2 => ?_) (fun c2 => ?_)
  · refine br_iconst dX3_isIn_14 ?_
    exact br_ireturn dX3_isIn_15 (by decide) (by decide) (hret _ _ (bk_z0 (by omega)))
  · refine br_iload_0 dX3_isIn_5 ?_
    refine br_iload_2 dX3_isIn_6 ?_
    refine br_icmp_gt (tgt := 14) dX3_isIn_7 (by decide) (by omega) (fun c7 => ?_) (fun c7 => ?_)
    · refine br_iconst dX3_isIn_14 ?_
      exact br_ireturn dX3_isIn_15 (by decide) (by decide) (hret _ _ (bk_z0 (by omega)))
    · refine br_iconst dX3_isIn_10 ?_
      refine br_goto (tgt := 15) dX3_isIn_11 (by decide) ?_
      exact br_ireturn dX3_isIn_15 (by decide) (by decide) (hret _ _ (bk_z1 (by omega)))

theorem ct_m_isDigit {D : bk_D} {w : gC} {v : Int} (h : -2147483648 ≤ v ∧ v < 2147483648) : bk_K D yX3_isDigit (.code yX3_isDigit cX3_isDigit 1 (some (FieldType.boolean))) ({ frames := 0, cells := 0, slots := 0, locals := 0 }) [.int (iI v)] w (bk_pz (48 ≤ v ∧ v ≤ 57) w) bk_nox := by
  refine bk_ofV (own := "BreakSetterModel") (L0 := [some (.int (iI v))]) (by decide) rfl (Nat.le_of_ble_eq_true rfl) rfl bk_ozz (fun Γ hct hret hthr => ?_)
  refine br_iload_0 dX3_isDigit_0 ?_
  refine br_bipush dX3_isDigit_1 (by decide) ?_
  refine br_icmp_lt (tgt := 16) dX3_isDigit_3 (by decide) (by omega) (fun c3 => ?_) (fun c3 => ?_)
  · refine br_iconst dX3_isDigit_16 ?_
    exact br_ireturn dX3_isDigit_17 (by decide) (by decide) (hret _ _ (bk_z0 (by omega)))
  · refine br_iload_0 dX3_isDigit_6 ?_
    refine br_bipush dX3_isDigit_7 (by decide) ?_
    refine br_icmp_gt (tgt := 16) dX3_isDigit_9 (by decide) (by omega) (fun c9 => ?_) (fun c9 => ?_)
    · refine br_iconst dX3_isDigit_16 ?_
      exact br_ireturn dX3_isDigit_17 (by decide) (by decide) (hret _ _ (bk_z0 (by omega)))
    · refine br_iconst dX3_isDigit_12 ?_
      refine br_goto (tgt := 17) dX3_isDigit_13 (by decide) ?_
      exact br_ireturn dX3_isDigit_17 (by decide) (by decide) (hret _ _ (bk_z1 (by omega)))

theorem ct_m_isLetter {D : bk_D} {w : gC} {v : Int} (h : -2147483648 ≤ v ∧ v < 2147483648) : bk_K D yX3_isLetter (.code yX3_isLetter cX3_isLetter 1 (some (FieldType.boolean))) ({ frames := 0, cells := 0, slots := 0, locals := 0 }) [.int (iI v)] w (bk_pz (97 ≤ v ∧ v ≤ 122) w) bk_nox := by
  refine bk_ofV (own := "BreakSetterModel") (L0 := [some (.int (iI v))]) (by decide) rfl (Nat.le_of_ble_eq_true rfl) rfl bk_ozz (fun Γ hct hret hthr => ?_)
  refine br_iload_0 dX3_isLetter_0 ?_
  refine br_bipush dX3_isLetter_1 (by decide) ?_
  refine br_icmp_lt (tgt := 16) dX3_isLetter_3 (by decide) (by omega) (fun c3 => ?_) (fun c3 => ?_)
  · refine br_iconst dX3_isLetter_16 ?_
    exact br_ireturn dX3_isLetter_17 (by decide) (by decide) (hret _ _ (bk_z0 (by omega)))
  · refine br_iload_0 dX3_isLetter_6 ?_
    refine br_bipush dX3_isLetter_7 (by decide) ?_
    refine br_icmp_gt (tgt := 16) dX3_isLetter_9 (by decide) (by omega) (fun c9 => ?_) (fun c9 => ?_)
    · refine br_iconst dX3_isLetter_16 ?_
      exact br_ireturn dX3_isLetter_17 (by decide) (by decide) (hret _ _ (bk_z0 (by omega)))
    · refine br_iconst dX3_isLetter_12 ?_
      refine br_goto (tgt := 17) dX3_isLetter_13 (by decide) ?_
      exact br_ireturn dX3_isLetter_17 (by decide) (by decide) (hret _ _ (bk_z1 (by omega)))

theorem ct_m_isSlot {D : bk_D} {w : gC} {v : Int} (h : -2147483648 ≤ v ∧ v < 2147483648) : bk_K D yX3_isSlot (.code yX3_isSlot cX3_isSlot 1 (some (FieldType.boolean))) ({ frames := 1, cells := 0, slots := 0, locals := 22 }) [.int (iI v)] w (bk_pz (0 ≤ v ∧ v ≤ 47) w) bk_nox := by
  refine bk_ofV (own := "BreakSetterModel") (L0 := [some (.int (iI v))]) (by decide) rfl (Nat.le_of_ble_eq_true rfl) rfl bk_ozz (fun Γ hct hret hthr => ?_)
  refine br_iload_0 dX3_isSlot_0 ?_
  refine br_iconst dX3_isSlot_1 ?_
  refine br_bipush dX3_isSlot_2 (by decide) ?_
  refine br_SZ3 (ct_m_isIn (by omega)) lk_X3_102 ⟨Nat.le_of_ble_eq_true rfl, Nat.le_of_ble_eq_true rfl⟩ ⟨Nat.le_of_ble_eq_true rfl, Nat.le_of_ble_eq_true rfl⟩  (Nat.le_of_ble_eq_true rfl) dX3_isSlot_4 (fun c4 => ?_) (fun c4 => ?_)
  · exact br_ireturn dX3_isSlot_7 (by decide) (by decide) (hret _ _ (bk_z1 (by omega)))
  · exact br_ireturn dX3_isSlot_7 (by decide) (by decide) (hret _ _ (bk_z0 (by omega)))

theorem ct_m_duty {D : bk_D} {o : Nat} {a : Nat → Nat} {F : Nat → Int} {wd : Int} {G : Nat → Int → Int} {ex : gC} {s q : Int} (h : 0 ≤ 148 + 5 * s + q ∧ 148 + 5 * s + q < 308) : bk_K D yX3_duty (.code yX3_duty cX3_duty 3 (some (FieldType.int))) ({ frames := 0, cells := 0, slots := 0, locals := 0 }) [.ref o, .int (iI s), .int (iI q)] (mw o a F wd G ex) (bk_pf (G 2 (148 + 5 * s + q)) (mw o a F wd G ex)) bk_nox := by
  refine bk_ofV (own := "BreakSetterModel") (L0 := [some (.ref o), some (.int (iI s)), some (.int (iI q))]) (by decide) rfl (Nat.le_of_ble_eq_true rfl) rfl bk_oi (fun Γ hct hret hthr => ?_)
  refine br_aload_0 dX3_duty_0 ?_
  refine br_mg_11 dX3_duty_1 ?_
  refine br_sipush dX3_duty_4 (by decide) ?_
  refine br_iconst dX3_duty_7 ?_
  refine br_iload_1 dX3_duty_8 ?_
  refine br_imul dX3_duty_9 ?_
  refine br_iadd dX3_duty_10 ?_
  refine br_iload_2 dX3_duty_11 ?_
  refine br_iadd dX3_duty_12 ?_
  refine br_ml_2 (v := G 2 ((148 + (5 * s)) + q)) (by omega) rfl dX3_duty_13 ?_
  exact br_ireturn dX3_duty_14 (by decide) (by decide) (hret _ _ (bk_f rfl))

theorem ct_m_its {D : bk_D} {o : Nat} {a : Nat → Nat} {F : Nat → Int} {wd : Int} {G : Nat → Int → Int} {ex : gC} {s q : Int} (h : 0 ≤ 188 + 5 * s + q ∧ 188 + 5 * s + q < 308) : bk_K D yX3_its (.code yX3_its cX3_its 3 (some (FieldType.int))) ({ frames := 0, cells := 0, slots := 0, locals := 0 }) [.ref o, .int (iI s), .int (iI q)] (mw o a F wd G ex) (bk_pf (G 2 (188 + 5 * s + q)) (mw o a F wd G ex)) bk_nox := by
  refine bk_ofV (own := "BreakSetterModel") (L0 := [some (.ref o), some (.int (iI s)), some (.int (iI q))]) (by decide) rfl (Nat.le_of_ble_eq_true rfl) rfl bk_oi (fun Γ hct hret hthr => ?_)
  refine br_aload_0 dX3_its_0 ?_
  refine br_mg_11 dX3_its_1 ?_
  refine br_sipush dX3_its_4 (by decide) ?_
  refine br_iconst dX3_its_7 ?_
  refine br_iload_1 dX3_its_8 ?_
  refine br_imul dX3_its_9 ?_
  refine br_iadd dX3_its_10 ?_
  refine br_iload_2 dX3_its_11 ?_
  refine br_iadd dX3_its_12 ?_
  refine br_ml_2 (v := G 2 ((188 + (5 * s)) + q)) (by omega) rfl dX3_its_13 ?_
  exact br_ireturn dX3_its_14 (by decide) (by decide) (hret _ _ (bk_f rfl))

theorem ct_m_duty_0 {D : bk_D} {o : Nat} {a : Nat → Nat} {F : Nat → Int} {wd : Int} {G : Nat → Int → Int} {ex : gC} {s : Int} (h : 0 ≤ s ∧ s < 8) : bk_K D yX3_duty (.code yX3_duty cX3_duty 3 (some (FieldType.int))) ({ frames := 0, cells := 0, slots := 0, locals := 0 }) [.ref o, .int (iI s), .int (iI 0)] (mw o a F wd G ex) (bk_pf (rP (G 2) s) (mw o a F wd G ex)) bk_nox := by
  have e : rP (G 2) s = G 2 (148 + 5 * s + 0) := by unfold rP; congr 1; omega
  rw [e]
  exact ct_m_duty (by omega)
theorem ct_m_duty_1 {D : bk_D} {o : Nat} {a : Nat → Nat} {F : Nat → Int} {wd : Int} {G : Nat → Int → Int} {ex : gC} {s : Int} (h : 0 ≤ s ∧ s < 8) : bk_K D yX3_duty (.code yX3_duty cX3_duty 3 (some (FieldType.int))) ({ frames := 0, cells := 0, slots := 0, locals := 0 }) [.ref o, .int (iI s), .int (iI 1)] (mw o a F wd G ex) (bk_pf (rFr (G 2) s) (mw o a F wd G ex)) bk_nox := by
  have e : rFr (G 2) s = G 2 (148 + 5 * s + 1) := by unfold rFr; congr 1; omega
  rw [e]
  exact ct_m_duty (by omega)
theorem ct_m_duty_2 {D : bk_D} {o : Nat} {a : Nat → Nat} {F : Nat → Int} {wd : Int} {G : Nat → Int → Int} {ex : gC} {s : Int} (h : 0 ≤ s ∧ s < 8) : bk_K D yX3_duty (.code yX3_duty cX3_duty 3 (some (FieldType.int))) ({ frames := 0, cells := 0, slots := 0, locals := 0 }) [.ref o, .int (iI s), .int (iI 2)] (mw o a F wd G ex) (bk_pf (rTo (G 2) s) (mw o a F wd G ex)) bk_nox := by
  have e : rTo (G 2) s = G 2 (148 + 5 * s + 2) := by unfold rTo; congr 1; omega
  rw [e]
  exact ct_m_duty (by omega)
theorem ct_m_duty_3 {D : bk_D} {o : Nat} {a : Nat → Nat} {F : Nat → Int} {wd : Int} {G : Nat → Int → Int} {ex : gC} {s : Int} (h : 0 ≤ s ∧ s < 8) : bk_K D yX3_duty (.code yX3_duty cX3_duty 3 (some (FieldType.int))) ({ frames := 0, cells := 0, slots := 0, locals := 0 }) [.ref o, .int (iI s), .int (iI 3)] (mw o a F wd G ex) (bk_pf (rHas (G 2) s) (mw o a F wd G ex)) bk_nox := by
  have e : rHas (G 2) s = G 2 (148 + 5 * s + 3) := by unfold rHas; congr 1; omega
  rw [e]
  exact ct_m_duty (by omega)
theorem ct_m_duty_4 {D : bk_D} {o : Nat} {a : Nat → Nat} {F : Nat → Int} {wd : Int} {G : Nat → Int → Int} {ex : gC} {s : Int} (h : 0 ≤ s ∧ s < 8) : bk_K D yX3_duty (.code yX3_duty cX3_duty 3 (some (FieldType.int))) ({ frames := 0, cells := 0, slots := 0, locals := 0 }) [.ref o, .int (iI s), .int (iI 4)] (mw o a F wd G ex) (bk_pf (rFi (G 2) s) (mw o a F wd G ex)) bk_nox := by
  have e : rFi (G 2) s = G 2 (148 + 5 * s + 4) := by unfold rFi; congr 1; omega
  rw [e]
  exact ct_m_duty (by omega)
theorem ct_m_its_0 {D : bk_D} {o : Nat} {a : Nat → Nat} {F : Nat → Int} {wd : Int} {G : Nat → Int → Int} {ex : gC} {s : Int} (h : 0 ≤ s ∧ s < 24) : bk_K D yX3_its (.code yX3_its cX3_its 3 (some (FieldType.int))) ({ frames := 0, cells := 0, slots := 0, locals := 0 }) [.ref o, .int (iI s), .int (iI 0)] (mw o a F wd G ex) (bk_pf (rOf (G 2) s) (mw o a F wd G ex)) bk_nox := by
  have e : rOf (G 2) s = G 2 (188 + 5 * s + 0) := by unfold rOf; congr 1; omega
  rw [e]
  exact ct_m_its (by omega)
theorem ct_m_its_1 {D : bk_D} {o : Nat} {a : Nat → Nat} {F : Nat → Int} {wd : Int} {G : Nat → Int → Int} {ex : gC} {s : Int} (h : 0 ≤ s ∧ s < 24) : bk_K D yX3_its (.code yX3_its cX3_its 3 (some (FieldType.int))) ({ frames := 0, cells := 0, slots := 0, locals := 0 }) [.ref o, .int (iI s), .int (iI 1)] (mw o a F wd G ex) (bk_pf (rLo (G 2) s) (mw o a F wd G ex)) bk_nox := by
  have e : rLo (G 2) s = G 2 (188 + 5 * s + 1) := by unfold rLo; congr 1; omega
  rw [e]
  exact ct_m_its (by omega)
theorem ct_m_its_2 {D : bk_D} {o : Nat} {a : Nat → Nat} {F : Nat → Int} {wd : Int} {G : Nat → Int → Int} {ex : gC} {s : Int} (h : 0 ≤ s ∧ s < 24) : bk_K D yX3_its (.code yX3_its cX3_its 3 (some (FieldType.int))) ({ frames := 0, cells := 0, slots := 0, locals := 0 }) [.ref o, .int (iI s), .int (iI 2)] (mw o a F wd G ex) (bk_pf (rEa (G 2) s) (mw o a F wd G ex)) bk_nox := by
  have e : rEa (G 2) s = G 2 (188 + 5 * s + 2) := by unfold rEa; congr 1; omega
  rw [e]
  exact ct_m_its (by omega)
theorem ct_m_its_3 {D : bk_D} {o : Nat} {a : Nat → Nat} {F : Nat → Int} {wd : Int} {G : Nat → Int → Int} {ex : gC} {s : Int} (h : 0 ≤ s ∧ s < 24) : bk_K D yX3_its (.code yX3_its cX3_its 3 (some (FieldType.int))) ({ frames := 0, cells := 0, slots := 0, locals := 0 }) [.ref o, .int (iI s), .int (iI 3)] (mw o a F wd G ex) (bk_pf (rLa (G 2) s) (mw o a F wd G ex)) bk_nox := by
  have e : rLa (G 2) s = G 2 (188 + 5 * s + 3) := by unfold rLa; congr 1; omega
  rw [e]
  exact ct_m_its (by omega)
theorem ct_m_its_4 {D : bk_D} {o : Nat} {a : Nat → Nat} {F : Nat → Int} {wd : Int} {G : Nat → Int → Int} {ex : gC} {s : Int} (h : 0 ≤ s ∧ s < 24) : bk_K D yX3_its (.code yX3_its cX3_its 3 (some (FieldType.int))) ({ frames := 0, cells := 0, slots := 0, locals := 0 }) [.ref o, .int (iI s), .int (iI 4)] (mw o a F wd G ex) (bk_pf (rAt (G 2) s) (mw o a F wd G ex)) bk_nox := by
  have e : rAt (G 2) s = G 2 (188 + 5 * s + 4) := by unfold rAt; congr 1; omega
  rw [e]
  exact ct_m_its (by omega)
theorem ct_m_placeOf {D : bk_D} {o : Nat} {a : Nat → Nat} {F : Nat → Int} {wd : Int} {G : Nat → Int → Int} {ex : gC} {s : Int} (h : 0 ≤ s ∧ s < 24) : bk_K D yX3_placeOf (.code yX3_placeOf cX3_placeOf 2 (some (FieldType.int))) ({ frames := 1, cells := 0, slots := 0, locals := 22 }) [.ref o, .int (iI s)] (mw o a F wd G ex) (bk_pf (rAt (G 2) s - 1) (mw o a F wd G ex)) bk_nox := by
  refine bk_ofV (own := "BreakSetterModel") (L0 := [some (.ref o), some (.int (iI s))]) (by decide) rfl (Nat.le_of_ble_eq_true rfl) rfl bk_oi (fun Γ hct hret hthr => ?_)
  refine br_aload_0 dX3_placeOf_0 ?_
  refine br_iload_1 dX3_placeOf_1 ?_
  refine br_iconst dX3_placeOf_2 ?_
  refine br_VF2 (i := 40) (j := 0) (ct_m_its_4 (by omega)) lk_X3_155 ⟨Nat.le_of_ble_eq_true rfl, Nat.le_of_ble_eq_true rfl⟩ ⟨Nat.le_of_ble_eq_true rfl, Nat.le_of_ble_eq_true rfl⟩ rfl rfl (Nat.le_of_ble_eq_true rfl) dX3_placeOf_3 ?_
  refine br_iconst dX3_placeOf_6 ?_
  refine br_isub dX3_placeOf_7 ?_
  exact br_ireturn dX3_placeOf_8 (by decide) (by decide) (hret _ _ (bk_f rfl))

theorem ct_m_needOf {D : bk_D} {o : Nat} {a : Nat → Nat} {F : Nat → Int} {wd : Int} {G : Nat → Int → Int} {ex : gC} {p t : Int} (hp : 0 ≤ p ∧ p < 3) (ht : 0 ≤ t ∧ t < 48) : bk_K D yX3_needOf (.code yX3_needOf cX3_needOf 3 (some (FieldType.int))) ({ frames := 0, cells := 0, slots := 0, locals := 0 }) [.ref o, .int (iI p), .int (iI t)] (mw o a F wd G ex) (bk_pf (rNe (G 2) p t) (mw o a F wd G ex)) bk_nox := by
  refine bk_ofV (own := "BreakSetterModel") (L0 := [some (.ref o), some (.int (iI p)), some (.int (iI t))]) (by decide) rfl (Nat.le_of_ble_eq_true rfl) rfl bk_oi (fun Γ hct hret hthr => ?_)
  refine br_aload_0 dX3_needOf_0 ?_
  refine br_mg_11 dX3_needOf_1 ?_
  refine br_iconst dX3_needOf_4 ?_
  refine br_bipush dX3_needOf_5 (by decide) ?_
  refine br_iload_1 dX3_needOf_7 ?_
  refine br_imul dX3_needOf_8 ?_
  refine br_iadd dX3_needOf_9 ?_
  refine br_iload_2 dX3_needOf_10 ?_
  refine br_iadd dX3_needOf_11 ?_
  refine br_ml_2 (v := G 2 ((4 + (48 * p)) + t)) (by omega) rfl dX3_needOf_12 ?_
  exact br_ireturn dX3_needOf_13 (by decide) (by decide) (hret _ _ (bk_f rfl))

theorem ct_m_isPost {D : bk_D} {o : Nat} {a : Nat → Nat} {F : Nat → Int} {wd : Int} {G : Nat → Int → Int} {ex : gC} {v : Int} (hv : -2147483648 ≤ v ∧ v < 2147483648) (hR : RW (G 2)) : bk_K D yX3_isPost (.code yX3_isPost cX3_isPost 2 (some (FieldType.boolean))) ({ frames := 1, cells := 0, slots := 0, locals := 22 }) [.ref o, .int (iI v)] (mw o a F wd G ex) (bk_pz (0 ≤ v ∧ v < G 2 0) (mw o a F wd G ex)) bk_nox := by
  refine bk_ofV (own := "BreakSetterModel") (L0 := [some (.ref o), some (.int (iI v))]) (by decide) rfl (Nat.le_of_ble_eq_true rfl) rfl bk_ozz (fun Γ hct hret hthr => ?_)
  have hn := hR.n
  refine br_iload_1 dX3_isPost_0 ?_
  refine br_iconst dX3_isPost_1 ?_
  refine br_aload_0 dX3_isPost_2 ?_
  refine br_mg_11 dX3_isPost_3 ?_
  refine br_iconst dX3_isPost_6 ?_
  refine br_ml_2 (v := G 2 0) (by omega) rfl dX3_isPost_7 ?_
  refine br_iconst dX3_isPost_8 ?_
  refine br_isub dX3_isPost_9 ?_
  refine br_SZ3 (ct_m_isIn (by omega)) lk_X3_102 ⟨Nat.le_of_ble_eq_true rfl, Nat.le_of_ble_eq_true rfl⟩ ⟨Nat.le_of_ble_eq_true rfl, Nat.le_of_ble_eq_true rfl⟩  (Nat.le_of_ble_eq_true rfl) dX3_isPost_10 (fun c10 => ?_) (fun c10 => ?_)
  · exact br_ireturn dX3_isPost_13 (by decide) (by decide) (hret _ _ (bk_z1 (by omega)))
  · exact br_ireturn dX3_isPost_13 (by decide) (by decide) (hret _ _ (bk_z0 (by omega)))

theorem ct_m_isPause {D : bk_D} {o : Nat} {a : Nat → Nat} {F : Nat → Int} {wd : Int} {G : Nat → Int → Int} {ex : gC} {v : Int} (hv : -2147483648 ≤ v ∧ v < 2147483648) (hR : RW (G 2)) : bk_K D yX3_isPause (.code yX3_isPause cX3_isPause 2 (some (FieldType.boolean))) ({ frames := 1, cells := 0, slots := 0, locals := 22 }) [.ref o, .int (iI v)] (mw o a F wd G ex) (bk_pz (0 ≤ v ∧ v < G 2 3) (mw o a F wd G ex)) bk_nox := by
  refine bk_ofV (own := "BreakSetterModel") (L0 := [some (.ref o), some (.int (iI v))]) (by decide) rfl (Nat.le_of_ble_eq_true rfl) rfl bk_ozz (fun Γ hct hret hthr => ?_)
  have hn := hR.n
  refine br_iload_1 dX3_isPause_0 ?_
  refine br_iconst dX3_isPause_1 ?_
  refine br_aload_0 dX3_isPause_2 ?_
  refine br_mg_11 dX3_isPause_3 ?_
  refine br_iconst dX3_isPause_6 ?_
  refine br_ml_2 (v := G 2 3) (by omega) rfl dX3_isPause_7 ?_
  refine br_iconst dX3_isPause_8 ?_
  refine br_isub dX3_isPause_9 ?_
  refine br_SZ3 (ct_m_isIn (by omega)) lk_X3_102 ⟨Nat.le_of_ble_eq_true rfl, Nat.le_of_ble_eq_true rfl⟩ ⟨Nat.le_of_ble_eq_true rfl, Nat.le_of_ble_eq_true rfl⟩  (Nat.le_of_ble_eq_true rfl) dX3_isPause_10 (fun c10 => ?_) (fun c10 => ?_)
  · exact br_ireturn dX3_isPause_13 (by decide) (by decide) (hret _ _ (bk_z1 (by omega)))
  · exact br_ireturn dX3_isPause_13 (by decide) (by decide) (hret _ _ (bk_z0 (by omega)))

theorem ct_m_onDuty {D : bk_D} {o : Nat} {a : Nat → Nat} {F : Nat → Int} {wd : Int} {G : Nat → Int → Int} {ex : gC} {p t : Int} (hp : 0 ≤ p ∧ p < 3) (ht : 0 ≤ t ∧ t < 48) (hR : RW (G 2)) : bk_K D yX3_onDuty (.code yX3_onDuty cX3_onDuty 5 (some (FieldType.int))) ({ frames := 1, cells := 0, slots := 0, locals := 22 }) [.ref o, .int (iI p), .int (iI t)] (mw o a F wd G ex) (bk_pf (dutyS (G 2) p t) (mw o a F wd G ex)) bk_nox := by
  refine bk_ofV (own := "BreakSetterModel") (L0 := [some (.ref o), some (.int (iI p)), some (.int (iI t)), none, none]) (by decide) rfl (Nat.le_of_ble_eq_true rfl) rfl bk_oi (fun Γ hct hret hthr => ?_)
  have hn := hR.n
  refine br_iconst dX3_onDuty_0 ?_
  refine br_istore_3 dX3_onDuty_1 rfl ?_
  refine br_iconst dX3_onDuty_2 ?_
  refine br_istore_4 dX3_onDuty_3 rfl ?_
  have lp5 : ∀ (mm5 : Nat) (m : Int) (s : Int), (G 2 2 - s).toNat < mm5 → (0 ≤ s ∧ s ≤ G 2 2) → (m = sumI (onAt (G 2) p t) s.toNat) → bk_V Γ D ({ frames := 1, cells := 0, slots := 0, locals := 22 }) "BreakSetterModel" cX3_onDuty [] 0 0 (mw o a F wd G ex) [some (.ref o), some (.int (iI p)), some (.int (iI t)), some (.int (iI m)), some (.int (iI s))] [] 5 := by
    intro mm5
    induction mm5 with
    | zero => intro m s hm5; exact absurd hm5 (Nat.not_lt_zero _)
    | succ mm5 ih5 =>
      intro m s hm5 h1 h2
      have h3 : 0 ≤ m ∧ m ≤ 8 := by rw [h2]; exact sumI_bd' (a := 0) (b := 1) _ h1.1 (fun j _ _ => oneIf_bd _) (by omega) (by omega)
      refine br_iload_4 dX3_onDuty_5 ?_
      refine br_aload_0 dX3_onDuty_7 ?_
      refine br_mg_11 dX3_onDuty_8 ?_
      refine br_iconst dX3_onDuty_11 ?_
      refine br_ml_2 (v := G 2 2) (by omega) rfl dX3_onDuty_12 ?_
      refine br_icmp_ge (tgt := 57) dX3_onDuty_13 (by decide) (by omega) (fun c13 => ?_) (fun c13 => ?_)
      · refine br_iload_3 dX3_onDuty_57 ?_
        exact br_ireturn dX3_onDuty_58 (by decide) (by decide) (hret _ _ (bk_f (by rw [h2, show s = G 2 2 by omega]; rfl)))
      · have hs := hR.sh (s := s) (by omega)
        refine br_aload_0 dX3_onDuty_16 ?_
        refine br_iload_4 dX3_onDuty_17 ?_
        refine br_iconst dX3_onDuty_19 ?_
        refine br_VF2 (i := 40) (j := 0) (ct_m_duty_0 (by omega)) lk_X3_159 ⟨Nat.le_of_ble_eq_true rfl, Nat.le_of_ble_eq_true rfl⟩ ⟨Nat.le_of_ble_eq_true rfl, Nat.le_of_ble_eq_true rfl⟩ rfl rfl (Nat.le_of_ble_eq_true rfl) dX3_onDuty_20 ?_
        refine br_iload_1 dX3_onDuty_23 ?_
        refine br_icmp_ne (tgt := 51) dX3_onDuty_24 (by decide) (by omega) (fun c24 => ?_) (fun c24 => ?_)
        · refine br_iinc_4 dX3_onDuty_51 rfl ?_
          refine br_goto (tgt := 5) dX3_onDuty_54 (by decide) ?_
          exact ih5 _ _ (by omega) (by omega) (by rw [sumI_step _ h1.1, ← h2]; unfold onAt; first | rw [oneIf_1 (by omega)] | (rw [oneIf_0 (by omega)]; omega))
        · refine br_iload_2 dX3_onDuty_27 ?_
          refine br_aload_0 dX3_onDuty_28 ?_
          refine br_iload_4 dX3_onDuty_29 ?_
          refine br_iconst dX3_onDuty_31 ?_
          refine br_VF2 (i := 40) (j := 0) (ct_m_duty_1 (by omega)) lk_X3_159 ⟨Nat.le_of_ble_eq_true rfl, Nat.le_of_ble_eq_true rfl⟩ ⟨Nat.le_of_ble_eq_true rfl, Nat.le_of_ble_eq_true rfl⟩ rfl rfl (Nat.le_of_ble_eq_true rfl) dX3_onDuty_32 ?_
          refine br_aload_0 dX3_onDuty_35 ?_
          refine br_iload_4 dX3_onDuty_36 ?_
          refine br_iconst dX3_onDuty_38 ?_
          refine br_VF2 (i := 40) (j := 0) (ct_m_duty_2 (by omega)) lk_X3_159 ⟨Nat.le_of_ble_eq_true rfl, Nat.le_of_ble_eq_true rfl⟩ ⟨Nat.le_of_ble_eq_true rfl, Nat.le_of_ble_eq_true rfl⟩ rfl rfl (Nat.le_of_ble_eq_true rfl) dX3_onDuty_39 ?_
          refine br_SZ3 (ct_m_isIn (by omega)) lk_X3_102 ⟨Nat.le_of_ble_eq_true rfl, Nat.le_of_ble_eq_true rfl⟩ ⟨Nat.le_of_ble_eq_true rfl, Nat.le_of_ble_eq_true rfl⟩  (Nat.le_of_ble_eq_true rfl) dX3_onDuty_42 (fun c42 => ?_) (fun c42 => ?_)
          · refine br_if_eq (tgt := 51) dX3_onDuty_45 (by decide) (by decide) (fun q => absurd q (by decide)) (fun _ => ?_)
            refine br_iinc_3 dX3_onDuty_48 rfl ?_
            refine br_iinc_4 dX3_onDuty_51 rfl ?_
            refine br_goto (tgt := 5) dX3_onDuty_54 (by decide) ?_
            exact ih5 _ _ (by omega) (by omega) (by rw [sumI_step _ h1.1, ← h2]; unfold onAt; first | rw [oneIf_1 (by omega)] | (rw [oneIf_0 (by omega)]; omega))
          · refine br_if_eq (tgt := 51) dX3_onDuty_45 (by decide) (by decide) (fun _ => ?_) (fun q => absurd q (by decide))
            refine br_iinc_4 dX3_onDuty_51 rfl ?_
            refine br_goto (tgt := 5) dX3_onDuty_54 (by decide) ?_
            exact ih5 _ _ (by omega) (by omega) (by rw [sumI_step _ h1.1, ← h2]; unfold onAt; first | rw [oneIf_1 (by omega)] | (rw [oneIf_0 (by omega)]; omega))
  exact lp5 _ _ _ (Nat.lt_succ_self _) (by omega) rfl

theorem ct_m_isPausing {D : bk_D} {o : Nat} {a : Nat → Nat} {F : Nat → Int} {wd : Int} {G : Nat → Int → Int} {ex : gC} {s t : Int} (h : 0 ≤ s ∧ s < G 2 3) (ht : 0 ≤ t ∧ t < 48) (hR : RW (G 2)) : bk_K D yX3_isPausing (.code yX3_isPausing cX3_isPausing 3 (some (FieldType.boolean))) ({ frames := 2, cells := 0, slots := 0, locals := 43 }) [.ref o, .int (iI s), .int (iI t)] (mw o a F wd G ex) (bk_pz (isPz (G 2) s t) (mw o a F wd G ex)) bk_nox := by
  refine bk_ofV (own := "BreakSetterModel") (L0 := [some (.ref o), some (.int (iI s)), some (.int (iI t))]) (by decide) rfl (Nat.le_of_ble_eq_true rfl) rfl bk_ozz (fun Γ hct hret hthr => ?_)
  have hn := hR.n
  have hs := hR.pa2 h
  have hs2 := (hR.pa h).2.1
  refine br_aload_0 dX3_isPausing_0 ?_
  refine br_iload_1 dX3_isPausing_1 ?_
  refine br_VF1 (i := 40) (j := 0) (ct_m_placeOf (by omega)) lk_X3_162 ⟨Nat.le_of_ble_eq_true rfl, Nat.le_of_ble_eq_true rfl⟩ ⟨Nat.le_of_ble_eq_true rfl, Nat.le_of_ble_eq_true rfl⟩ rfl rfl (Nat.le_of_ble_eq_true rfl) dX3_isPausing_2 ?_
  refine br_iconst dX3_isPausing_5 ?_
  refine br_icmp_eq (tgt := 39) dX3_isPausing_6 (by decide) (by omega) (fun c6 => ?_) (fun c6 => ?_)
  · refine br_iconst dX3_isPausing_39 ?_
    exact br_ireturn dX3_isPausing_40 (by decide) (by decide) (hret _ _ (bk_z0 (by unfold isPz; omega)))
  · refine br_iload_2 dX3_isPausing_9 ?_
    refine br_aload_0 dX3_isPausing_10 ?_
    refine br_iload_1 dX3_isPausing_11 ?_
    refine br_VF1 (i := 40) (j := 0) (ct_m_placeOf (by omega)) lk_X3_162 ⟨Nat.le_of_ble_eq_true rfl, Nat.le_of_ble_eq_true rfl⟩ ⟨Nat.le_of_ble_eq_true rfl, Nat.le_of_ble_eq_true rfl⟩ rfl rfl (Nat.le_of_ble_eq_true rfl) dX3_isPausing_12 ?_
    refine br_aload_0 dX3_isPausing_15 ?_
    refine br_iload_1 dX3_isPausing_16 ?_
    refine br_VF1 (i := 40) (j := 0) (ct_m_placeOf (by omega)) lk_X3_162 ⟨Nat.le_of_ble_eq_true rfl, Nat.le_of_ble_eq_true rfl⟩ ⟨Nat.le_of_ble_eq_true rfl, Nat.le_of_ble_eq_true rfl⟩ rfl rfl (Nat.le_of_ble_eq_true rfl) dX3_isPausing_17 ?_
    refine br_aload_0 dX3_isPausing_20 ?_
    refine br_iload_1 dX3_isPausing_21 ?_
    refine br_iconst dX3_isPausing_22 ?_
    refine br_VF2 (i := 40) (j := 0) (ct_m_its_1 (by omega)) lk_X3_155 ⟨Nat.le_of_ble_eq_true rfl, Nat.le_of_ble_eq_true rfl⟩ ⟨Nat.le_of_ble_eq_true rfl, Nat.le_of_ble_eq_true rfl⟩ rfl rfl (Nat.le_of_ble_eq_true rfl) dX3_isPausing_23 ?_
    refine br_iadd dX3_isPausing_26 ?_
    refine br_iconst dX3_isPausing_27 ?_
    refine br_isub dX3_isPausing_28 ?_
    refine br_SZ3 (ct_m_isIn (by omega)) lk_X3_102 ⟨Nat.le_of_ble_eq_true rfl, Nat.le_of_ble_eq_true rfl⟩ ⟨Nat.le_of_ble_eq_true rfl, Nat.le_of_ble_eq_true rfl⟩  (Nat.le_of_ble_eq_true rfl) dX3_isPausing_29 (fun c29 => ?_) (fun c29 => ?_)
    · refine br_if_eq (tgt := 39) dX3_isPausing_32 (by decide) (by decide) (fun q => absurd q (by decide)) (fun _ => ?_)
      refine br_iconst dX3_isPausing_35 ?_
      refine br_goto (tgt := 40) dX3_isPausing_36 (by decide) ?_
      exact br_ireturn dX3_isPausing_40 (by decide) (by decide) (hret _ _ (bk_z1 (by unfold isPz; omega)))
    · refine br_if_eq (tgt := 39) dX3_isPausing_32 (by decide) (by decide) (fun _ => ?_) (fun q => absurd q (by decide))
      refine br_iconst dX3_isPausing_39 ?_
      exact br_ireturn dX3_isPausing_40 (by decide) (by decide) (hret _ _ (bk_z0 (by unfold isPz; omega)))

theorem ct_m_coverOf {D : bk_D} {o : Nat} {a : Nat → Nat} {F : Nat → Int} {wd : Int} {G : Nat → Int → Int} {ex : gC} {p t : Int} (hp : 0 ≤ p ∧ p < 3) (ht : 0 ≤ t ∧ t < 48) (hR : RW (G 2)) : bk_K D yX3_coverOf (.code yX3_coverOf cX3_coverOf 5 (some (FieldType.int))) ({ frames := 3, cells := 0, slots := 0, locals := 65 }) [.ref o, .int (iI p), .int (iI t)] (mw o a F wd G ex) (bk_pf (coverS (G 2) p t) (mw o a F wd G ex)) bk_nox := by
  refine bk_ofV (own := "BreakSetterModel") (L0 := [some (.ref o), some (.int (iI p)), some (.int (iI t)), none, none]) (by decide) rfl (Nat.le_of_ble_eq_true rfl) rfl bk_oi (fun Γ hct hret hthr => ?_)
  have hn := hR.n
  refine br_aload_0 dX3_coverOf_0 ?_
  refine br_iload_1 dX3_coverOf_1 ?_
  refine br_iload_2 dX3_coverOf_2 ?_
  refine br_VF2 (i := 40) (j := 0) (ct_m_onDuty (by omega) (by omega) hR) lk_X3_165 ⟨Nat.le_of_ble_eq_true rfl, Nat.le_of_ble_eq_true rfl⟩ ⟨Nat.le_of_ble_eq_true rfl, Nat.le_of_ble_eq_true rfl⟩ rfl rfl (Nat.le_of_ble_eq_true rfl) dX3_coverOf_3 ?_
  refine br_istore_3 dX3_coverOf_6 rfl ?_
  refine br_iconst dX3_coverOf_7 ?_
  refine br_istore_4 dX3_coverOf_8 rfl ?_
  have lp10 : ∀ (mm10 : Nat) (m : Int) (s : Int), (G 2 3 - s).toNat < mm10 → (0 ≤ s ∧ s ≤ G 2 3) → (m = dutyS (G 2) p t - sumI (pzAt (G 2) p t) s.toNat) → bk_V Γ D ({ frames := 3, cells := 0, slots := 0, locals := 65 }) "BreakSetterModel" cX3_coverOf [] 0 0 (mw o a F wd G ex) [some (.ref o), some (.int (iI p)), some (.int (iI t)), some (.int (iI m)), some (.int (iI s))] [] 10 := by
    intro mm10
    induction mm10 with
    | zero => intro m s hm10; exact absurd hm10 (Nat.not_lt_zero _)
    | succ mm10 ih10 =>
      intro m s hm10 h1 h2
      have h3 : 0 ≤ sumI (pzAt (G 2) p t) s.toNat ∧ sumI (pzAt (G 2) p t) s.toNat ≤ 24 := sumI_bd' (a := 0) (b := 1) _ h1.1 (fun j _ _ => oneIf_bd _) (by omega) (by omega)
      have h4 := dutyS_bd hR p t
      refine br_iload_4 dX3_coverOf_10 ?_
      refine br_aload_0 dX3_coverOf_12 ?_
      refine br_mg_11 dX3_coverOf_13 ?_
      refine br_iconst dX3_coverOf_16 ?_
      refine br_ml_2 (v := G 2 3) (by omega) rfl dX3_coverOf_17 ?_
      refine br_icmp_ge (tgt := 56) dX3_coverOf_18 (by decide) (by omega) (fun c18 => ?_) (fun c18 => ?_)
      · refine br_iload_3 dX3_coverOf_56 ?_
        exact br_ireturn dX3_coverOf_57 (by decide) (by decide) (hret _ _ (bk_f (by rw [h2, show s = G 2 3 by omega]; rfl)))
      · have hs := hR.pa2 (k := s) (by omega)
        have hs2 := (hR.pa (k := s) (by omega)).1
        have hs3 := hR.sh hs2
        refine br_aload_0 dX3_coverOf_21 ?_
        refine br_aload_0 dX3_coverOf_22 ?_
        refine br_iload_4 dX3_coverOf_23 ?_
        refine br_iconst dX3_coverOf_25 ?_
        refine br_VF2 (i := 40) (j := 0) (ct_m_its_0 (by omega)) lk_X3_155 ⟨Nat.le_of_ble_eq_true rfl, Nat.le_of_ble_eq_true rfl⟩ ⟨Nat.le_of_ble_eq_true rfl, Nat.le_of_ble_eq_true rfl⟩ rfl rfl (Nat.le_of_ble_eq_true rfl) dX3_coverOf_26 ?_
        refine br_iconst dX3_coverOf_29 ?_
        refine br_VF2 (i := 40) (j := 0) (ct_m_duty_0 (by omega)) lk_X3_159 ⟨Nat.le_of_ble_eq_true rfl, Nat.le_of_ble_eq_true rfl⟩ ⟨Nat.le_of_ble_eq_true rfl, Nat.le_of_ble_eq_true rfl⟩ rfl rfl (Nat.le_of_ble_eq_true rfl) dX3_coverOf_30 ?_
        refine br_iload_1 dX3_coverOf_33 ?_
        refine br_icmp_ne (tgt := 50) dX3_coverOf_34 (by decide) (by omega) (fun c34 => ?_) (fun c34 => ?_)
        · refine br_iinc_4 dX3_coverOf_50 rfl ?_
          refine br_goto (tgt := 10) dX3_coverOf_53 (by decide) ?_
          exact ih10 _ _ (by omega) (by omega) (by rw [sumI_step _ h1.1, h2]; unfold pzAt; first | (rw [oneIf_1 ⟨by omega, by assumption⟩]; omega) | (rw [oneIf_0 (fun q => absurd q.1 (by omega))]; omega) | (rw [oneIf_0 (fun q => absurd q.2 (by assumption))]; omega))
        · refine br_aload_0 dX3_coverOf_37 ?_
          refine br_iload_4 dX3_coverOf_38 ?_
          refine br_iload_2 dX3_coverOf_40 ?_
          refine br_VZ2 (i := 40) (j := 0) (ct_m_isPausing (show 0 ≤ s ∧ s < G 2 3 from by omega) (by omega) hR) lk_X3_168 ⟨Nat.le_of_ble_eq_true rfl, Nat.le_of_ble_eq_true rfl⟩ ⟨Nat.le_of_ble_eq_true rfl, Nat.le_of_ble_eq_true rfl⟩ rfl rfl (Nat.le_of_ble_eq_true rfl) dX3_coverOf_41 (fun c41 => ?_) (fun c41 => ?_)
          · refine br_if_eq (tgt := 50) dX3_coverOf_44 (by decide) (by decide) (fun q => absurd q (by decide)) (fun _ => ?_)
            refine br_iinc_3 dX3_coverOf_47 rfl ?_
            refine br_iinc_4 dX3_coverOf_50 rfl ?_
            refine br_goto (tgt := 10) dX3_coverOf_53 (by decide) ?_
            exact ih10 _ _ (by omega) (by omega) (by rw [sumI_step _ h1.1, h2]; unfold pzAt; first | (rw [oneIf_1 ⟨by omega, by assumption⟩]; omega) | (rw [oneIf_0 (fun q => absurd q.1 (by omega))]; omega) | (rw [oneIf_0 (fun q => absurd q.2 (by assumption))]; omega))
          · refine br_if_eq (tgt := 50) dX3_coverOf_44 (by decide) (by decide) (fun _ => ?_) (fun q => absurd q (by decide))
            refine br_iinc_4 dX3_coverOf_50 rfl ?_
            refine br_goto (tgt := 10) dX3_coverOf_53 (by decide) ?_
            exact ih10 _ _ (by omega) (by omega) (by rw [sumI_step _ h1.1, h2]; unfold pzAt; first | (rw [oneIf_1 ⟨by omega, by assumption⟩]; omega) | (rw [oneIf_0 (fun q => absurd q.1 (by omega))]; omega) | (rw [oneIf_0 (fun q => absurd q.2 (by assumption))]; omega))
  exact lp10 _ _ _ (Nat.lt_succ_self _) (by omega) (by rw [sumI_0]; omega)

theorem ct_m_shortOf {D : bk_D} {o : Nat} {a : Nat → Nat} {F : Nat → Int} {wd : Int} {G : Nat → Int → Int} {ex : gC} {p t : Int} (hp : 0 ≤ p ∧ p < 3) (ht : 0 ≤ t ∧ t < 48) (hR : RW (G 2)) : bk_K D yX3_shortOf (.code yX3_shortOf cX3_shortOf 4 (some (FieldType.int))) ({ frames := 4, cells := 0, slots := 0, locals := 89 }) [.ref o, .int (iI p), .int (iI t)] (mw o a F wd G ex) (bk_pf (shortS (G 2) p t) (mw o a F wd G ex)) bk_nox := by
  refine bk_ofV (own := "BreakSetterModel") (L0 := [some (.ref o), some (.int (iI p)), some (.int (iI t)), none]) (by decide) rfl (Nat.le_of_ble_eq_true rfl) rfl bk_oi (fun Γ hct hret hthr => ?_)
  have hn := hR.need hp ht
  have hc := coverS_bd hR p t
  refine br_aload_0 dX3_shortOf_0 ?_
  refine br_iload_1 dX3_shortOf_1 ?_
  refine br_iload_2 dX3_shortOf_2 ?_
  refine br_VF2 (i := 40) (j := 0) (ct_m_needOf (by omega) (by omega)) lk_X3_171 ⟨Nat.le_of_ble_eq_true rfl, Nat.le_of_ble_eq_true rfl⟩ ⟨Nat.le_of_ble_eq_true rfl, Nat.le_of_ble_eq_true rfl⟩ rfl rfl (Nat.le_of_ble_eq_true rfl) dX3_shortOf_3 ?_
  refine br_aload_0 dX3_shortOf_6 ?_
  refine br_iload_1 dX3_shortOf_7 ?_
  refine br_iload_2 dX3_shortOf_8 ?_
  refine br_VF2 (i := 40) (j := 0) (ct_m_coverOf (by omega) (by omega) hR) lk_X3_174 ⟨Nat.le_of_ble_eq_true rfl, Nat.le_of_ble_eq_true rfl⟩ ⟨Nat.le_of_ble_eq_true rfl, Nat.le_of_ble_eq_true rfl⟩ rfl rfl (Nat.le_of_ble_eq_true rfl) dX3_shortOf_9 ?_
  refine br_isub dX3_shortOf_12 ?_
  refine br_istore_3 dX3_shortOf_13 rfl ?_
  refine br_iload_3 dX3_shortOf_14 ?_
  refine br_if_ge (tgt := 22) dX3_shortOf_15 (by decide) (by omega) (fun c15 => ?_) (fun c15 => ?_)
  · refine br_iload_3 dX3_shortOf_22 ?_
    exact br_ireturn dX3_shortOf_23 (by decide) (by decide) (hret _ _ (bk_f (by unfold shortS pos0; split <;> omega)))
  · refine br_iconst dX3_shortOf_18 ?_
    refine br_goto (tgt := 23) dX3_shortOf_19 (by decide) ?_
    exact br_ireturn dX3_shortOf_23 (by decide) (by decide) (hret _ _ (bk_f (by unfold shortS pos0; split <;> omega)))

theorem ct_m_shortIn {D : bk_D} {o : Nat} {a : Nat → Nat} {F : Nat → Int} {wd : Int} {G : Nat → Int → Int} {ex : gC} {t : Int} (ht : 0 ≤ t ∧ t < 48) (hR : RW (G 2)) : bk_K D yX3_shortIn (.code yX3_shortIn cX3_shortIn 4 (some (FieldType.int))) ({ frames := 5, cells := 0, slots := 0, locals := 112 }) [.ref o, .int (iI t)] (mw o a F wd G ex) (bk_pf (shortIn (G 2) t) (mw o a F wd G ex)) bk_nox := by
  refine bk_ofV (own := "BreakSetterModel") (L0 := [some (.ref o), some (.int (iI t)), none, none]) (by decide) rfl (Nat.le_of_ble_eq_true rfl) rfl bk_oi (fun Γ hct hret hthr => ?_)
  have hn := hR.n
  refine br_iconst dX3_shortIn_0 ?_
  refine br_istore_2 dX3_shortIn_1 rfl ?_
  refine br_iconst dX3_shortIn_2 ?_
  refine br_istore_3 dX3_shortIn_3 rfl ?_
  have lp4 : ∀ (mm4 : Nat) (m : Int) (s : Int), (G 2 0 - s).toNat < mm4 → (0 ≤ s ∧ s ≤ G 2 0) → (m = sumI (fun p => shortS (G 2) p t) s.toNat) → bk_V Γ D ({ frames := 5, cells := 0, slots := 0, locals := 112 }) "BreakSetterModel" cX3_shortIn [] 0 0 (mw o a F wd G ex) [some (.ref o), some (.int (iI t)), some (.int (iI m)), some (.int (iI s))] [] 4 := by
    intro mm4
    induction mm4 with
    | zero => intro m s hm4; exact absurd hm4 (Nat.not_lt_zero _)
    | succ mm4 ih4 =>
      intro m s hm4 h1 h2
      refine br_iload_3 dX3_shortIn_4 ?_
      refine br_aload_0 dX3_shortIn_5 ?_
      refine br_mg_11 dX3_shortIn_6 ?_
      refine br_iconst dX3_shortIn_9 ?_
      refine br_ml_2 (v := G 2 0) (by omega) rfl dX3_shortIn_10 ?_
      refine br_icmp_ge (tgt := 29) dX3_shortIn_11 (by decide) (by omega) (fun c11 => ?_) (fun c11 => ?_)
      · refine br_iload_2 dX3_shortIn_29 ?_
        exact br_ireturn dX3_shortIn_30 (by decide) (by decide) (hret _ _ (bk_f (by rw [h2, show s = G 2 0 by omega]; rfl)))
      · refine br_iload_2 dX3_shortIn_14 ?_
        refine br_aload_0 dX3_shortIn_15 ?_
        refine br_iload_3 dX3_shortIn_16 ?_
        refine br_iload_1 dX3_shortIn_17 ?_
        refine br_VF2 (i := 40) (j := 0) (ct_m_shortOf (by omega) (by omega) hR) lk_X3_177 ⟨Nat.le_of_ble_eq_true rfl, Nat.le_of_ble_eq_true rfl⟩ ⟨Nat.le_of_ble_eq_true rfl, Nat.le_of_ble_eq_true rfl⟩ rfl rfl (Nat.le_of_ble_eq_true rfl) dX3_shortIn_18 ?_
        refine br_iadd dX3_shortIn_21 ?_
        refine br_istore_2 dX3_shortIn_22 rfl ?_
        refine br_iinc_3 dX3_shortIn_23 rfl ?_
        refine br_goto (tgt := 4) dX3_shortIn_26 (by decide) ?_
        exact ih4 _ _ (by omega) (by omega) (by rw [sumI_step _ h1.1, h2])
  exact lp4 _ _ _ (Nat.lt_succ_self _) (by omega) rfl

theorem ct_m_shortfall {D : bk_D} {o : Nat} {a : Nat → Nat} {F : Nat → Int} {wd : Int} {G : Nat → Int → Int} {ex : gC} (hR : RW (G 2)) : bk_K D yX3_shortfall (.code yX3_shortfall cX3_shortfall 3 (some (FieldType.int))) ({ frames := 6, cells := 0, slots := 0, locals := 135 }) [.ref o] (mw o a F wd G ex) (bk_pf (fallS (G 2)) (mw o a F wd G ex)) bk_nox := by
  refine bk_ofV (own := "BreakSetterModel") (L0 := [some (.ref o), none, none]) (by decide) rfl (Nat.le_of_ble_eq_true rfl) rfl bk_oi (fun Γ hct hret hthr => ?_)
  refine br_iconst dX3_shortfall_0 ?_
  refine br_istore_1 dX3_shortfall_1 rfl ?_
  refine br_iconst dX3_shortfall_2 ?_
  refine br_istore_2 dX3_shortfall_3 rfl ?_
  have lp4 : ∀ (mm4 : Nat) (m : Int) (s : Int), (48 - s).toNat < mm4 → (0 ≤ s ∧ s ≤ 48) → (m = sumI (shortIn (G 2)) s.toNat) → bk_V Γ D ({ frames := 6, cells := 0, slots := 0, locals := 135 }) "BreakSetterModel" cX3_shortfall [] 0 0 (mw o a F wd G ex) [some (.ref o), some (.int (iI m)), some (.int (iI s))] [] 4 := by
    intro mm4
    induction mm4 with
    | zero => intro m s hm4; exact absurd hm4 (Nat.not_lt_zero _)
    | succ mm4 ih4 =>
      intro m s hm4 h1 h2
      refine br_iload_2 dX3_shortfall_4 ?_
      refine br_bipush dX3_shortfall_5 (by decide) ?_
      refine br_icmp_ge (tgt := 24) dX3_shortfall_7 (by decide) (by omega) (fun c7 => ?_) (fun c7 => ?_)
      · refine br_iload_1 dX3_shortfall_24 ?_
        exact br_ireturn dX3_shortfall_25 (by decide) (by decide) (hret _ _ (bk_f (by rw [h2, show s = 48 by omega]; rfl)))
      · refine br_iload_1 dX3_shortfall_10 ?_
        refine br_aload_0 dX3_shortfall_11 ?_
        refine br_iload_2 dX3_shortfall_12 ?_
        refine br_VF1 (i := 40) (j := 0) (ct_m_shortIn (by omega) hR) lk_X3_180 ⟨Nat.le_of_ble_eq_true rfl, Nat.le_of_ble_eq_true rfl⟩ ⟨Nat.le_of_ble_eq_true rfl, Nat.le_of_ble_eq_true rfl⟩ rfl rfl (Nat.le_of_ble_eq_true rfl) dX3_shortfall_13 ?_
        refine br_iadd dX3_shortfall_16 ?_
        refine br_istore_1 dX3_shortfall_17 rfl ?_
        refine br_iinc_2 dX3_shortfall_18 rfl ?_
        refine br_goto (tgt := 4) dX3_shortfall_21 (by decide) ?_
        exact ih4 _ _ (by omega) (by omega) (by rw [sumI_step _ h1.1, h2])
  exact lp4 _ _ _ (Nat.lt_succ_self _) (by omega) rfl

theorem ct_m_whyNot {D : bk_D} {o : Nat} {a : Nat → Nat} {F : Nat → Int} {wd : Int} {G : Nat → Int → Int} {ex : gC} {k0 t : Int} (hk : 0 ≤ k0 ∧ k0 < G 2 3) (ht : 0 ≤ t ∧ t < 48) (hR : RW (G 2)) : bk_K D yX3_whyNot (.code yX3_whyNot cX3_whyNot 4 (some (FieldType.int))) ({ frames := 2, cells := 0, slots := 0, locals := 43 }) [.ref o, .int (iI k0), .int (iI t)] (mw o a F wd G ex) (bk_pf (whyS (G 2) k0 t) (mw o a F wd G ex)) bk_nox := by
  refine bk_ofV (own := "BreakSetterModel") (L0 := [some (.ref o), some (.int (iI k0)), some (.int (iI t)), none]) (by decide) rfl (Nat.le_of_ble_eq_true rfl) rfl bk_oi (fun Γ hct hret hthr => ?_)
  have hn := hR.n
  have hk1 := hR.pa2 hk
  have hk2 := hR.pa hk
  refine br_iload_2 dX3_whyNot_0 ?_
  refine br_aload_0 dX3_whyNot_1 ?_
  refine br_iload_1 dX3_whyNot_2 ?_
  refine br_iconst dX3_whyNot_3 ?_
  refine br_VF2 (i := 40) (j := 0) (ct_m_its_2 (by omega)) lk_X3_155 ⟨Nat.le_of_ble_eq_true rfl, Nat.le_of_ble_eq_true rfl⟩ ⟨Nat.le_of_ble_eq_true rfl, Nat.le_of_ble_eq_true rfl⟩ rfl rfl (Nat.le_of_ble_eq_true rfl) dX3_whyNot_4 ?_
  refine br_aload_0 dX3_whyNot_7 ?_
  refine br_iload_1 dX3_whyNot_8 ?_
  refine br_iconst dX3_whyNot_9 ?_
  refine br_VF2 (i := 40) (j := 0) (ct_m_its_3 (by omega)) lk_X3_155 ⟨Nat.le_of_ble_eq_true rfl, Nat.le_of_ble_eq_true rfl⟩ ⟨Nat.le_of_ble_eq_true rfl, Nat.le_of_ble_eq_true rfl⟩ rfl rfl (Nat.le_of_ble_eq_true rfl) dX3_whyNot_10 ?_
  refine br_SZ3 (ct_m_isIn (by omega)) lk_X3_102 ⟨Nat.le_of_ble_eq_true rfl, Nat.le_of_ble_eq_true rfl⟩ ⟨Nat.le_of_ble_eq_true rfl, Nat.le_of_ble_eq_true rfl⟩  (Nat.le_of_ble_eq_true rfl) dX3_whyNot_13 (fun c13 => ?_) (fun c13 => ?_)
  · refine br_if_ne (tgt := 21) dX3_whyNot_16 (by decide) (by decide) (fun _ => ?_) (fun q => absurd q (by decide))
    refine br_iconst dX3_whyNot_21 ?_
    refine br_istore_3 dX3_whyNot_22 rfl ?_
    have lp23 : ∀ (mm23 : Nat) (x : Int), (G 2 3 - x).toNat < mm23 → (0 ≤ x ∧ x ≤ G 2 3) → (∀ z : Int, 0 ≤ z → z < x → ¬ clash (G 2) k0 t z) → bk_V Γ D ({ frames := 2, cells := 0, slots := 0, locals := 43 }) "BreakSetterModel" cX3_whyNot [] 0 0 (mw o a F wd G ex) [some (.ref o), some (.int (iI k0)), some (.int (iI t)), some (.int (iI x))] [] 23 := by
      intro mm23
      induction mm23 with
      | zero => intro x hm23; exact absurd hm23 (Nat.not_lt_zero _)
      | succ mm23 ih23 =>
        intro x hm23 h1 h2
        refine br_iload_3 dX3_whyNot_23 ?_
        refine br_aload_0 dX3_whyNot_24 ?_
        refine br_mg_11 dX3_whyNot_25 ?_
        refine br_iconst dX3_whyNot_28 ?_
        refine br_ml_2 (v := G 2 3) (by omega) rfl dX3_whyNot_29 ?_
        refine br_icmp_ge (tgt := 105) dX3_whyNot_30 (by decide) (by omega) (fun c30 => ?_) (fun c30 => ?_)
        · refine br_iconst dX3_whyNot_105 ?_
          exact br_ireturn dX3_whyNot_106 (by decide) (by decide) (hret _ _ (bk_f ((whyS_0 ⟨by assumption, fun z h3 h4 => h2 z h3 (by omega)⟩).symm)))
        · have hs := hR.pa2 (k := x) (by omega)
          have hs2 := hR.pa (k := x) (by omega)
          refine br_iload_3 dX3_whyNot_33 ?_
          refine br_iload_1 dX3_whyNot_34 ?_
          refine br_icmp_eq (tgt := 99) dX3_whyNot_35 (by decide) (by omega) (fun c35 => ?_) (fun c35 => ?_)
          · refine br_iinc_3 dX3_whyNot_99 rfl ?_
            refine br_goto (tgt := 23) dX3_whyNot_102 (by decide) ?_
            exact ih23 _ (by omega) (by omega) (fun z hz1 hz2 => by
  by_cases e : z = x
  · subst e; unfold clash; omega
  · exact h2 z hz1 (by omega))
          · refine br_aload_0 dX3_whyNot_38 ?_
            refine br_iload_3 dX3_whyNot_39 ?_
            refine br_iconst dX3_whyNot_40 ?_
            refine br_VF2 (i := 40) (j := 0) (ct_m_its_0 (by omega)) lk_X3_155 ⟨Nat.le_of_ble_eq_true rfl, Nat.le_of_ble_eq_true rfl⟩ ⟨Nat.le_of_ble_eq_true rfl, Nat.le_of_ble_eq_true rfl⟩ rfl rfl (Nat.le_of_ble_eq_true rfl) dX3_whyNot_41 ?_
            refine br_aload_0 dX3_whyNot_44 ?_
            refine br_iload_1 dX3_whyNot_45 ?_
            refine br_iconst dX3_whyNot_46 ?_
            refine br_VF2 (i := 40) (j := 0) (ct_m_its_0 (by omega)) lk_X3_155 ⟨Nat.le_of_ble_eq_true rfl, Nat.le_of_ble_eq_true rfl⟩ ⟨Nat.le_of_ble_eq_true rfl, Nat.le_of_ble_eq_true rfl⟩ rfl rfl (Nat.le_of_ble_eq_true rfl) dX3_whyNot_47 ?_
            refine br_icmp_ne (tgt := 99) dX3_whyNot_50 (by decide) (by omega) (fun c50 => ?_) (fun c50 => ?_)
            · refine br_iinc_3 dX3_whyNot_99 rfl ?_
              refine br_goto (tgt := 23) dX3_whyNot_102 (by decide) ?_
              exact ih23 _ (by omega) (by omega) (fun z hz1 hz2 => by
  by_cases e : z = x
  · subst e; unfold clash; omega
  · exact h2 z hz1 (by omega))
            · refine br_aload_0 dX3_whyNot_53 ?_
              refine br_iload_3 dX3_whyNot_54 ?_
              refine br_VF1 (i := 40) (j := 0) (ct_m_placeOf (by omega)) lk_X3_162 ⟨Nat.le_of_ble_eq_true rfl, Nat.le_of_ble_eq_true rfl⟩ ⟨Nat.le_of_ble_eq_true rfl, Nat.le_of_ble_eq_true rfl⟩ rfl rfl (Nat.le_of_ble_eq_true rfl) dX3_whyNot_55 ?_
              refine br_iconst dX3_whyNot_58 ?_
              refine br_icmp_ne (tgt := 65) dX3_whyNot_59 (by decide) (by omega) (fun c59 => ?_) (fun c59 => ?_)
              · refine br_iload_2 dX3_whyNot_65 ?_
                refine br_aload_0 dX3_whyNot_66 ?_
                refine br_iload_3 dX3_whyNot_67 ?_
                refine br_VF1 (i := 40) (j := 0) (ct_m_placeOf (by omega)) lk_X3_162 ⟨Nat.le_of_ble_eq_true rfl, Nat.le_of_ble_eq_true rfl⟩ ⟨Nat.le_of_ble_eq_true rfl, Nat.le_of_ble_eq_true rfl⟩ rfl rfl (Nat.le_of_ble_eq_true rfl) dX3_whyNot_68 ?_
                refine br_aload_0 dX3_whyNot_71 ?_
                refine br_iload_3 dX3_whyNot_72 ?_
                refine br_iconst dX3_whyNot_73 ?_
                refine br_VF2 (i := 40) (j := 0) (ct_m_its_1 (by omega)) lk_X3_155 ⟨Nat.le_of_ble_eq_true rfl, Nat.le_of_ble_eq_true rfl⟩ ⟨Nat.le_of_ble_eq_true rfl, Nat.le_of_ble_eq_true rfl⟩ rfl rfl (Nat.le_of_ble_eq_true rfl) dX3_whyNot_74 ?_
                refine br_iadd dX3_whyNot_77 ?_
                refine br_icmp_gt (tgt := 99) dX3_whyNot_78 (by decide) (by omega) (fun c78 => ?_) (fun c78 => ?_)
                · refine br_iinc_3 dX3_whyNot_99 rfl ?_
                  refine br_goto (tgt := 23) dX3_whyNot_102 (by decide) ?_
                  exact ih23 _ (by omega) (by omega) (fun z hz1 hz2 => by
  by_cases e : z = x
  · subst e; unfold clash; omega
  · exact h2 z hz1 (by omega))
                · refine br_aload_0 dX3_whyNot_81 ?_
                  refine br_iload_3 dX3_whyNot_82 ?_
                  refine br_VF1 (i := 40) (j := 0) (ct_m_placeOf (by omega)) lk_X3_162 ⟨Nat.le_of_ble_eq_true rfl, Nat.le_of_ble_eq_true rfl⟩ ⟨Nat.le_of_ble_eq_true rfl, Nat.le_of_ble_eq_true rfl⟩ rfl rfl (Nat.le_of_ble_eq_true rfl) dX3_whyNot_83 ?_
                  refine br_iload_2 dX3_whyNot_86 ?_
                  refine br_aload_0 dX3_whyNot_87 ?_
                  refine br_iload_1 dX3_whyNot_88 ?_
                  refine br_iconst dX3_whyNot_89 ?_
                  refine br_VF2 (i := 40) (j := 0) (ct_m_its_1 (by omega)) lk_X3_155 ⟨Nat.le_of_ble_eq_true rfl, Nat.le_of_ble_eq_true rfl⟩ ⟨Nat.le_of_ble_eq_true rfl, Nat.le_of_ble_eq_true rfl⟩ rfl rfl (Nat.le_of_ble_eq_true rfl) dX3_whyNot_90 ?_
                  refine br_iadd dX3_whyNot_93 ?_
                  refine br_icmp_gt (tgt := 99) dX3_whyNot_94 (by decide) (by omega) (fun c94 => ?_) (fun c94 => ?_)
                  · refine br_iinc_3 dX3_whyNot_99 rfl ?_
                    refine br_goto (tgt := 23) dX3_whyNot_102 (by decide) ?_
                    exact ih23 _ (by omega) (by omega) (fun z hz1 hz2 => by
  by_cases e : z = x
  · subst e; unfold clash; omega
  · exact h2 z hz1 (by omega))
                  · refine br_iconst dX3_whyNot_97 ?_
                    exact br_ireturn dX3_whyNot_98 (by decide) (by decide) (hret _ _ (bk_f ((whyS_2 (x := x) (by assumption) (by omega) (by unfold clash; omega)).symm)))
              · refine br_goto (tgt := 99) dX3_whyNot_62 (by decide) ?_
                refine br_iinc_3 dX3_whyNot_99 rfl ?_
                refine br_goto (tgt := 23) dX3_whyNot_102 (by decide) ?_
                exact ih23 _ (by omega) (by omega) (fun z hz1 hz2 => by
  by_cases e : z = x
  · subst e; unfold clash; omega
  · exact h2 z hz1 (by omega))
    exact lp23 _ _ (Nat.lt_succ_self _) (by omega) (fun z _ _ => by omega)
  · refine br_if_ne (tgt := 21) dX3_whyNot_16 (by decide) (by decide) (fun q => absurd q (by decide)) (fun _ => ?_)
    refine br_iconst dX3_whyNot_19 ?_
    exact br_ireturn dX3_whyNot_20 (by decide) (by decide) (hret _ _ (bk_f ((whyS_1 (by unfold inWin; omega)).symm)))

theorem ct_m_lies {D : bk_D} {o : Nat} {a : Nat → Nat} {F : Nat → Int} {wd : Int} {G : Nat → Int → Int} {ex : gC} {k0 t : Int} (hk : 0 ≤ k0 ∧ k0 < 24) : bk_K D yX3_lies (.code yX3_lies cX3_lies 3 none) ({ frames := 0, cells := 0, slots := 0, locals := 0 }) [.ref o, .int (iI k0), .int (iI t)] (mw o a F wd G ex) (bk_pv fun w => w = mw o a F wd (uG G 2 (putA (G 2) k0 (t + 1))) ex) bk_nox := by
  refine bk_ofV (own := "BreakSetterModel") (L0 := [some (.ref o), some (.int (iI k0)), some (.int (iI t))]) (by decide) rfl (Nat.le_of_ble_eq_true rfl) rfl bk_ov (fun Γ hct hret hthr => ?_)
  refine br_aload_0 dX3_lies_0 ?_
  refine br_mg_11 dX3_lies_1 ?_
  refine br_sipush dX3_lies_4 (by decide) ?_
  refine br_iconst dX3_lies_7 ?_
  refine br_iload_1 dX3_lies_8 ?_
  refine br_imul dX3_lies_9 ?_
  refine br_iadd dX3_lies_10 ?_
  refine br_iconst dX3_lies_11 ?_
  refine br_iadd dX3_lies_12 ?_
  refine br_iload_2 dX3_lies_13 ?_
  refine br_iconst dX3_lies_14 ?_
  refine br_iadd dX3_lies_15 ?_
  refine br_ms_2 (by omega) dX3_lies_16 ?_
  exact br_return dX3_lies_17 (by decide) (by decide) (hret _ _ (⟨rfl, by unfold putA; rw [show (192 + 5 * k0 : Int) = 188 + 5 * k0 + 4 by omega]⟩))

theorem ct_m_placed {D : bk_D} {o : Nat} {a : Nat → Nat} {F : Nat → Int} {wd : Int} {G : Nat → Int → Int} {ex : gC} (hR : RW (G 2)) : bk_K D yX3_placed (.code yX3_placed cX3_placed 3 (some (FieldType.int))) ({ frames := 2, cells := 0, slots := 0, locals := 43 }) [.ref o] (mw o a F wd G ex) (bk_pf (placedS (G 2)) (mw o a F wd G ex)) bk_nox := by
  refine bk_ofV (own := "BreakSetterModel") (L0 := [some (.ref o), none, none]) (by decide) rfl (Nat.le_of_ble_eq_true rfl) rfl bk_oi (fun Γ hct hret hthr => ?_)
  have hn := hR.n
  refine br_iconst dX3_placed_0 ?_
  refine br_istore_1 dX3_placed_1 rfl ?_
  refine br_iconst dX3_placed_2 ?_
  refine br_istore_2 dX3_placed_3 rfl ?_
  have lp4 : ∀ (mm4 : Nat) (m : Int) (s : Int), (G 2 3 - s).toNat < mm4 → (0 ≤ s ∧ s ≤ G 2 3) → (m = sumI (fun k => oneIf (¬ rAt (G 2) k = 0)) s.toNat) → bk_V Γ D ({ frames := 2, cells := 0, slots := 0, locals := 43 }) "BreakSetterModel" cX3_placed [] 0 0 (mw o a F wd G ex) [some (.ref o), some (.int (iI m)), some (.int (iI s))] [] 4 := by
    intro mm4
    induction mm4 with
    | zero => intro m s hm4; exact absurd hm4 (Nat.not_lt_zero _)
    | succ mm4 ih4 =>
      intro m s hm4 h1 h2
      refine br_iload_2 dX3_placed_4 ?_
      refine br_aload_0 dX3_placed_5 ?_
      refine br_mg_11 dX3_placed_6 ?_
      refine br_iconst dX3_placed_9 ?_
      refine br_ml_2 (v := G 2 3) (by omega) rfl dX3_placed_10 ?_
      refine br_icmp_ge (tgt := 32) dX3_placed_11 (by decide) (by omega) (fun c11 => ?_) (fun c11 => ?_)
      · refine br_iload_1 dX3_placed_32 ?_
        exact br_ireturn dX3_placed_33 (by decide) (by decide) (hret _ _ (bk_f (by rw [h2, show s = G 2 3 by omega]; rfl)))
      · have hs := hR.pa2 (k := s) (by omega)
        refine br_aload_0 dX3_placed_14 ?_
        refine br_iload_2 dX3_placed_15 ?_
        refine br_VF1 (i := 40) (j := 0) (ct_m_placeOf (by omega)) lk_X3_162 ⟨Nat.le_of_ble_eq_true rfl, Nat.le_of_ble_eq_true rfl⟩ ⟨Nat.le_of_ble_eq_true rfl, Nat.le_of_ble_eq_true rfl⟩ rfl rfl (Nat.le_of_ble_eq_true rfl) dX3_placed_16 ?_
        refine br_iconst dX3_placed_19 ?_
        refine br_icmp_eq (tgt := 26) dX3_placed_20 (by decide) (by omega) (fun c20 => ?_) (fun c20 => ?_)
        · refine br_iinc_2 dX3_placed_26 rfl ?_
          refine br_goto (tgt := 4) dX3_placed_29 (by decide) ?_
          exact ih4 _ _ (by omega) (by omega) (by rw [sumI_step _ h1.1, ← h2]; first | rw [oneIf_1 (by omega)] | (rw [oneIf_0 (by omega)]; omega))
        · refine br_iinc_1 dX3_placed_23 rfl ?_
          refine br_iinc_2 dX3_placed_26 rfl ?_
          refine br_goto (tgt := 4) dX3_placed_29 (by decide) ?_
          exact ih4 _ _ (by omega) (by omega) (by rw [sumI_step _ h1.1, ← h2]; first | rw [oneIf_1 (by omega)] | (rw [oneIf_0 (by omega)]; omega))
  exact lp4 _ _ _ (Nat.lt_succ_self _) (by omega) rfl

