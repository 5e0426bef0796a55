/-! ROWS: one an instruction -/
set_option maxRecDepth 100000
theorem iI_mm {z : Int} (h : -2147483648 ≤ z ∧ z < 2147483648) : (iI z).toInt64 = jL z := by
  rw [← Int64.toInt_inj, Int32.toInt_toInt64, iI_toInt h, jL_toInt (by omega)]
theorem iI_b8 {z : Int} (h : -128 ≤ z ∧ z < 128) : (Int8.ofInt z).toInt32 = iI z := by
  rw [← Int32.toInt_inj, Int8.toInt_toInt32, iI_toInt (by omega), Int8.toInt_ofInt_of_le (by have := h.1; omega) (by have := h.2; omega)]
theorem iI_b16 {z : Int} (h : -32768 ≤ z ∧ z < 32768) : (Int16.ofInt z).toInt32 = iI z := by
  rw [← Int32.toInt_inj, Int16.toInt_toInt32, iI_toInt (by omega), Int16.toInt_ofInt_of_le (by have := h.1; omega) (by have := h.2; omega)]
theorem iI_div {a b : Int} (h : 0 ≤ a ∧ a < 2147483648 ∧ 0 < b ∧ b < 2147483648) : iI a / iI b = iI (a / b) := by
  obtain ⟨h1, h2, h3, h4⟩ := h
  have hq : a / b ≤ a := Int.ediv_le_self b h1
  have hq0 : 0 ≤ a / b := Int.ediv_nonneg h1 (by omega)
  have hne : iI b ≠ -1 := by
    intro q
    have := congrArg Int32.toInt q
    rw [iI_toInt (by omega)] at this
    have e : (-1 : Int32).toInt = -1 := by decide
    omega
  rw [← Int32.toInt_inj, Int32.toInt_div_of_ne_right _ _ hne, iI_toInt (by omega), iI_toInt (by omega), iI_toInt (by omega), Int.tdiv_eq_ediv_of_nonneg h1]
theorem iI_ne0 {b : Int} (h : 0 < b ∧ b < 2147483648) : ¬ iI b = 0 := by
  intro q
  have := congrArg Int32.toInt q
  rw [iI_toInt (by omega), Int32.toInt_zero] at this
  omega
def uI (f : Int → Int) (z v : Int) : Int → Int := fun j => if j = z then v else f j
theorem uI_eq (f : Int → Int) (z v : Int) : uI f z v z = v := by simp [uI]
theorem uI_ne (f : Int → Int) {z j : Int} (v : Int) (h : j ≠ z) : uI f z v j = f j := by simp [uI, h]
def uF (F : Nat → Int) (k : Nat) (v : Int) : Nat → Int := fun j => if j = k then v else F j
def uG (G : Nat → Int → Int) (k : Nat) (g : Int → Int) : Nat → Int → Int := fun j => if j = k then g else G j
theorem uF_eq (F : Nat → Int) (k : Nat) (v : Int) : uF F k v k = v := by simp [uF]
theorem uF_ne (F : Nat → Int) {k j : Nat} (v : Int) (h : j ≠ k) : uF F k v j = F j := by simp [uF, h]
theorem uF_uF (F : Nat → Int) (k : Nat) (v u : Int) : uF (uF F k v) k u = uF F k u := by
  funext i
  by_cases h : i = k
  · subst h; rw [uF_eq, uF_eq]
  · rw [uF_ne _ _ h, uF_ne _ _ h, uF_ne _ _ h]
theorem uF_self (F : Nat → Int) (k : Nat) : uF F k (F k) = F := by
  funext i
  by_cases h : i = k
  · subst h; rw [uF_eq]
  · rw [uF_ne _ _ h]
theorem uG_eq (G : Nat → Int → Int) (k : Nat) (v : Int → Int) : uG G k v k = v := by simp [uG]
theorem uG_ne (G : Nat → Int → Int) {k j : Nat} (v : Int → Int) (h : j ≠ k) : uG G k v j = G j := by simp [uG, h]
theorem uG_uG (G : Nat → Int → Int) (q : Nat) (f g : Int → Int) : uG (uG G q f) q g = uG G q g := by
  funext i
  by_cases h : i = q
  · subst h; rw [uG_eq, uG_eq]
  · rw [uG_ne _ _ h, uG_ne _ _ h, uG_ne _ _ h]
theorem uG_self (G : Nat → Int → Int) (q : Nat) : uG G q (G q) = G := by
  funext i
  by_cases h : i = q
  · subst h; rw [uG_eq]
  · rw [uG_ne _ _ h]
def bI (n : Nat) (f : Int → Int) : bE := .inl (0, n, .inl (fun j : Nat => iI (f (j : Int))))
def bB (n : Nat) (f : Int → Int) : bE := .inl (1, n, .inl (fun j : Nat => iI (f (j : Int))))
def bZ (n : Nat) (f : Int → Int) : bE := .inl (2, n, .inl (fun j : Nat => iI (f (j : Int))))
def bQ (t n : Nat) (f : Int → Option Nat) : bE := .inl (t, n, .inr (.inr (.inr (.inr (fun j : Nat => f (j : Int))))))
def bJ (n : Nat) (f : Int → Int) : bE := .inl (6, n, .inr (.inl (fun j : Nat => jL (f (j : Int)))))
def bO (ci : Nat) (fs : List Value) : bE := .inr (ci, fs)
section BROWS
variable {Γ : bk_G} {D : bk_D} {R : Room} {own : String} {cc : ByteArray} {tb : List ExceptionTableEntry} {k n : Nat} {w : gC} {L : List (Option Value)} {st : List Value} {pc : Nat}
theorem br_iconst {z : Int} (d : decode cc pc = .ok (.iconst z, 1)) (kk : bk_V Γ D R own cc tb k n w L (.int (iI z) :: st) (pc + 1)) : bk_V Γ D R own cc tb k n w L (st) pc := by
  obtain ⟨p, l, e, s, m, args, below, meth, c, A, Q, ret, thr⟩ := Γ
  exact fun G H locs ls hW hS hL => lv_iconst G.1 G.2.1 d rfl (kk G H locs ls hW hS hL)
theorem br_bipush {z : Int} (d : decode cc pc = .ok (.bipush z, 2)) (h : -128 ≤ z ∧ z < 128) (kk : bk_V Γ D R own cc tb k n w L (.int (iI z) :: st) (pc + 2)) : bk_V Γ D R own cc tb k n w L (st) pc := by
  obtain ⟨p, l, e, s, m, args, below, meth, c, A, Q, ret, thr⟩ := Γ
  exact fun G H locs ls hW hS hL => lv_bipush G.1 G.2.1 d (iI_b8 h) (kk G H locs ls hW hS hL)
theorem br_sipush {z : Int} (d : decode cc pc = .ok (.sipush z, 3)) (h : -32768 ≤ z ∧ z < 32768) (kk : bk_V Γ D R own cc tb k n w L (.int (iI z) :: st) (pc + 3)) : bk_V Γ D R own cc tb k n w L (st) pc := by
  obtain ⟨p, l, e, s, m, args, below, meth, c, A, Q, ret, thr⟩ := Γ
  exact fun G H locs ls hW hS hL => lv_sipush G.1 G.2.1 d (iI_b16 h) (kk G H locs ls hW hS hL)
theorem br_ldc {z : Int} {x : Int32} {idx : Nat} (hc : Cond.constant own idx x ∈ lw_all) (hx : x = iI z) (d : decode cc pc = .ok (.ldc idx, 2)) (kk : bk_V Γ D R own cc tb k n w L (.int (iI z) :: st) (pc + 2)) : bk_V Γ D R own cc tb k n w L (st) pc := by
  obtain ⟨p, l, e, s, m, args, below, meth, c, A, Q, ret, thr⟩ := Γ
  exact fun G H locs ls hW hS hL => lv_ldc G.1 G.2.1 G.2.2.1 (G.2.2.2.1 _ hc) d (by rw [hx]; exact kk G H locs ls hW hS hL)
theorem br_ldc2 {z : Int} {x : Int64} {idx : Nat} (hc : Cond.constantLong own idx x ∈ lw_all) (hx : x = jL z) (d : decode cc pc = .ok (.ldc2_w idx, 3)) (kk : bk_V Γ D R own cc tb k n w L (.long (jL z) :: st) (pc + 3)) : bk_V Γ D R own cc tb k n w L (st) pc := by
  obtain ⟨p, l, e, s, m, args, below, meth, c, A, Q, ret, thr⟩ := Γ
  exact fun G H locs ls hW hS hL => lv_ldc2 G.1 G.2.1 G.2.2.1 (G.2.2.2.1 _ hc) d (by rw [hx]; exact kk G H locs ls hW hS hL)
theorem br_lconst0 (d : decode cc pc = .ok (.lconst 0, 1)) (kk : bk_V Γ D R own cc tb k n w L (.long (jL 0) :: st) (pc + 1)) : bk_V Γ D R own cc tb k n w L (st) pc := by
  obtain ⟨p, l, e, s, m, args, below, meth, c, A, Q, ret, thr⟩ := Γ
  exact fun G H locs ls hW hS hL => lv_lconst G.1 G.2.1 d rfl (kk G H locs ls hW hS hL)
theorem br_null (d : decode cc pc = .ok (.aconst_null, 1)) (kk : bk_V Γ D R own cc tb k n w L (.null :: st) (pc + 1)) : bk_V Γ D R own cc tb k n w L (st) pc := by
  obtain ⟨p, l, e, s, m, args, below, meth, c, A, Q, ret, thr⟩ := Γ
  exact fun G H locs ls hW hS hL => lv_null G.1 G.2.1 d (kk G H locs ls hW hS hL)
theorem br_iload_0 {t : List (Option Value)} {x : Int} (d : decode cc pc = .ok (.iload_n 0, 1)) (kk : bk_V Γ D R own cc tb k n w (some (.int (iI x)) :: t) (.int (iI x) :: st) (pc + 1)) : bk_V Γ D R own cc tb k n w (some (.int (iI x)) :: t) (st) pc := by
  obtain ⟨p, l, e, s, m, args, below, meth, c, A, Q, ret, thr⟩ := Γ
  exact fun G H locs ls hW hS hL => lv_iload_n (i := 0) G.1 G.2.1 d rfl (hL.at 0 rfl) (kk G H locs ls hW hS hL)
theorem br_aload_0 {t : List (Option Value)} {x : Nat} (d : decode cc pc = .ok (.aload_n 0, 1)) (kk : bk_V Γ D R own cc tb k n w (some (.ref x) :: t) (.ref x :: st) (pc + 1)) : bk_V Γ D R own cc tb k n w (some (.ref x) :: t) (st) pc := by
  obtain ⟨p, l, e, s, m, args, below, meth, c, A, Q, ret, thr⟩ := Γ
  exact fun G H locs ls hW hS hL => lv_aload_n (i := 0) G.1 G.2.1 d rfl (hL.at 0 rfl) (kk G H locs ls hW hS hL)
theorem br_anload_0 {t : List (Option Value)} (d : decode cc pc = .ok (.aload_n 0, 1)) (kk : bk_V Γ D R own cc tb k n w (some .null :: t) (.null :: st) (pc + 1)) : bk_V Γ D R own cc tb k n w (some .null :: t) (st) pc := by
  obtain ⟨p, l, e, s, m, args, below, meth, c, A, Q, ret, thr⟩ := Γ
  exact fun G H locs ls hW hS hL => lv_aload_nN (i := 0) G.1 G.2.1 d rfl (hL.at 0 rfl) (kk G H locs ls hW hS hL)
theorem br_iload_1 {a0 : Option Value} {t : List (Option Value)} {x : Int} (d : decode cc pc = .ok (.iload_n 1, 1)) (kk : bk_V Γ D R own cc tb k n w (a0 :: some (.int (iI x)) :: t) (.int (iI x) :: st) (pc + 1)) : bk_V Γ D R own cc tb k n w (a0 :: some (.int (iI x)) :: t) (st) pc := by
  obtain ⟨p, l, e, s, m, args, below, meth, c, A, Q, ret, thr⟩ := Γ
  exact fun G H locs ls hW hS hL => lv_iload_n (i := 1) G.1 G.2.1 d rfl (hL.at 1 rfl) (kk G H locs ls hW hS hL)
theorem br_aload_1 {a0 : Option Value} {t : List (Option Value)} {x : Nat} (d : decode cc pc = .ok (.aload_n 1, 1)) (kk : bk_V Γ D R own cc tb k n w (a0 :: some (.ref x) :: t) (.ref x :: st) (pc + 1)) : bk_V Γ D R own cc tb k n w (a0 :: some (.ref x) :: t) (st) pc := by
  obtain ⟨p, l, e, s, m, args, below, meth, c, A, Q, ret, thr⟩ := Γ
  exact fun G H locs ls hW hS hL => lv_aload_n (i := 1) G.1 G.2.1 d rfl (hL.at 1 rfl) (kk G H locs ls hW hS hL)
theorem br_anload_1 {a0 : Option Value} {t : List (Option Value)} (d : decode cc pc = .ok (.aload_n 1, 1)) (kk : bk_V Γ D R own cc tb k n w (a0 :: some .null :: t) (.null :: st) (pc + 1)) : bk_V Γ D R own cc tb k n w (a0 :: some .null :: t) (st) pc := by
  obtain ⟨p, l, e, s, m, args, below, meth, c, A, Q, ret, thr⟩ := Γ
  exact fun G H locs ls hW hS hL => lv_aload_nN (i := 1) G.1 G.2.1 d rfl (hL.at 1 rfl) (kk G H locs ls hW hS hL)
theorem br_iload_2 {a0 a1 : Option Value} {t : List (Option Value)} {x : Int} (d : decode cc pc = .ok (.iload_n 2, 1)) (kk : bk_V Γ D R own cc tb k n w (a0 :: a1 :: some (.int (iI x)) :: t) (.int (iI x) :: st) (pc + 1)) : bk_V Γ D R own cc tb k n w (a0 :: a1 :: some (.int (iI x)) :: t) (st) pc := by
  obtain ⟨p, l, e, s, m, args, below, meth, c, A, Q, ret, thr⟩ := Γ
  exact fun G H locs ls hW hS hL => lv_iload_n (i := 2) G.1 G.2.1 d rfl (hL.at 2 rfl) (kk G H locs ls hW hS hL)
theorem br_aload_2 {a0 a1 : Option Value} {t : List (Option Value)} {x : Nat} (d : decode cc pc = .ok (.aload_n 2, 1)) (kk : bk_V Γ D R own cc tb k n w (a0 :: a1 :: some (.ref x) :: t) (.ref x :: st) (pc + 1)) : bk_V Γ D R own cc tb k n w (a0 :: a1 :: some (.ref x) :: t) (st) pc := by
  obtain ⟨p, l, e, s, m, args, below, meth, c, A, Q, ret, thr⟩ := Γ
  exact fun G H locs ls hW hS hL => lv_aload_n (i := 2) G.1 G.2.1 d rfl (hL.at 2 rfl) (kk G H locs ls hW hS hL)
theorem br_anload_2 {a0 a1 : Option Value} {t : List (Option Value)} (d : decode cc pc = .ok (.aload_n 2, 1)) (kk : bk_V Γ D R own cc tb k n w (a0 :: a1 :: some .null :: t) (.null :: st) (pc + 1)) : bk_V Γ D R own cc tb k n w (a0 :: a1 :: some .null :: t) (st) pc := by
  obtain ⟨p, l, e, s, m, args, below, meth, c, A, Q, ret, thr⟩ := Γ
  exact fun G H locs ls hW hS hL => lv_aload_nN (i := 2) G.1 G.2.1 d rfl (hL.at 2 rfl) (kk G H locs ls hW hS hL)
theorem br_iload_3 {a0 a1 a2 : Option Value} {t : List (Option Value)} {x : Int} (d : decode cc pc = .ok (.iload_n 3, 1)) (kk : bk_V Γ D R own cc tb k n w (a0 :: a1 :: a2 :: some (.int (iI x)) :: t) (.int (iI x) :: st) (pc + 1)) : bk_V Γ D R own cc tb k n w (a0 :: a1 :: a2 :: some (.int (iI x)) :: t) (st) pc := by
  obtain ⟨p, l, e, s, m, args, below, meth, c, A, Q, ret, thr⟩ := Γ
  exact fun G H locs ls hW hS hL => lv_iload_n (i := 3) G.1 G.2.1 d rfl (hL.at 3 rfl) (kk G H locs ls hW hS hL)
theorem br_aload_3 {a0 a1 a2 : Option Value} {t : List (Option Value)} {x : Nat} (d : decode cc pc = .ok (.aload_n 3, 1)) (kk : bk_V Γ D R own cc tb k n w (a0 :: a1 :: a2 :: some (.ref x) :: t) (.ref x :: st) (pc + 1)) : bk_V Γ D R own cc tb k n w (a0 :: a1 :: a2 :: some (.ref x) :: t) (st) pc := by
  obtain ⟨p, l, e, s, m, args, below, meth, c, A, Q, ret, thr⟩ := Γ
  exact fun G H locs ls hW hS hL => lv_aload_n (i := 3) G.1 G.2.1 d rfl (hL.at 3 rfl) (kk G H locs ls hW hS hL)
theorem br_anload_3 {a0 a1 a2 : Option Value} {t : List (Option Value)} (d : decode cc pc = .ok (.aload_n 3, 1)) (kk : bk_V Γ D R own cc tb k n w (a0 :: a1 :: a2 :: some .null :: t) (.null :: st) (pc + 1)) : bk_V Γ D R own cc tb k n w (a0 :: a1 :: a2 :: some .null :: t) (st) pc := by
  obtain ⟨p, l, e, s, m, args, below, meth, c, A, Q, ret, thr⟩ := Γ
  exact fun G H locs ls hW hS hL => lv_aload_nN (i := 3) G.1 G.2.1 d rfl (hL.at 3 rfl) (kk G H locs ls hW hS hL)
theorem br_iload_4 {a0 a1 a2 a3 : Option Value} {t : List (Option Value)} {x : Int} (d : decode cc pc = .ok (.iload 4, 2)) (kk : bk_V Γ D R own cc tb k n w (a0 :: a1 :: a2 :: a3 :: some (.int (iI x)) :: t) (.int (iI x) :: st) (pc + 2)) : bk_V Γ D R own cc tb k n w (a0 :: a1 :: a2 :: a3 :: some (.int (iI x)) :: t) (st) pc := by
  obtain ⟨p, l, e, s, m, args, below, meth, c, A, Q, ret, thr⟩ := Γ
  exact fun G H locs ls hW hS hL => lv_iload G.1 G.2.1 d (hL.at 4 rfl) (kk G H locs ls hW hS hL)
theorem br_aload_4 {a0 a1 a2 a3 : Option Value} {t : List (Option Value)} {x : Nat} (d : decode cc pc = .ok (.aload 4, 2)) (kk : bk_V Γ D R own cc tb k n w (a0 :: a1 :: a2 :: a3 :: some (.ref x) :: t) (.ref x :: st) (pc + 2)) : bk_V Γ D R own cc tb k n w (a0 :: a1 :: a2 :: a3 :: some (.ref x) :: t) (st) pc := by
  obtain ⟨p, l, e, s, m, args, below, meth, c, A, Q, ret, thr⟩ := Γ
  exact fun G H locs ls hW hS hL => lv_aload G.1 G.2.1 d (hL.at 4 rfl) (kk G H locs ls hW hS hL)
theorem br_anload_4 {a0 a1 a2 a3 : Option Value} {t : List (Option Value)} (d : decode cc pc = .ok (.aload 4, 2)) (kk : bk_V Γ D R own cc tb k n w (a0 :: a1 :: a2 :: a3 :: some .null :: t) (.null :: st) (pc + 2)) : bk_V Γ D R own cc tb k n w (a0 :: a1 :: a2 :: a3 :: some .null :: t) (st) pc := by
  obtain ⟨p, l, e, s, m, args, below, meth, c, A, Q, ret, thr⟩ := Γ
  exact fun G H locs ls hW hS hL => lv_aloadN G.1 G.2.1 d (hL.at 4 rfl) (kk G H locs ls hW hS hL)
theorem br_iload_5 {a0 a1 a2 a3 a4 : Option Value} {t : List (Option Value)} {x : Int} (d : decode cc pc = .ok (.iload 5, 2)) (kk : bk_V Γ D R own cc tb k n w (a0 :: a1 :: a2 :: a3 :: a4 :: some (.int (iI x)) :: t) (.int (iI x) :: st) (pc + 2)) : bk_V Γ D R own cc tb k n w (a0 :: a1 :: a2 :: a3 :: a4 :: some (.int (iI x)) :: t) (st) pc := by
  obtain ⟨p, l, e, s, m, args, below, meth, c, A, Q, ret, thr⟩ := Γ
  exact fun G H locs ls hW hS hL => lv_iload G.1 G.2.1 d (hL.at 5 rfl) (kk G H locs ls hW hS hL)
theorem br_aload_5 {a0 a1 a2 a3 a4 : Option Value} {t : List (Option Value)} {x : Nat} (d : decode cc pc = .ok (.aload 5, 2)) (kk : bk_V Γ D R own cc tb k n w (a0 :: a1 :: a2 :: a3 :: a4 :: some (.ref x) :: t) (.ref x :: st) (pc + 2)) : bk_V Γ D R own cc tb k n w (a0 :: a1 :: a2 :: a3 :: a4 :: some (.ref x) :: t) (st) pc := by
  obtain ⟨p, l, e, s, m, args, below, meth, c, A, Q, ret, thr⟩ := Γ
  exact fun G H locs ls hW hS hL => lv_aload G.1 G.2.1 d (hL.at 5 rfl) (kk G H locs ls hW hS hL)
theorem br_anload_5 {a0 a1 a2 a3 a4 : Option Value} {t : List (Option Value)} (d : decode cc pc = .ok (.aload 5, 2)) (kk : bk_V Γ D R own cc tb k n w (a0 :: a1 :: a2 :: a3 :: a4 :: some .null :: t) (.null :: st) (pc + 2)) : bk_V Γ D R own cc tb k n w (a0 :: a1 :: a2 :: a3 :: a4 :: some .null :: t) (st) pc := by
  obtain ⟨p, l, e, s, m, args, below, meth, c, A, Q, ret, thr⟩ := Γ
  exact fun G H locs ls hW hS hL => lv_aloadN G.1 G.2.1 d (hL.at 5 rfl) (kk G H locs ls hW hS hL)
theorem br_iload_6 {a0 a1 a2 a3 a4 a5 : Option Value} {t : List (Option Value)} {x : Int} (d : decode cc pc = .ok (.iload 6, 2)) (kk : bk_V Γ D R own cc tb k n w (a0 :: a1 :: a2 :: a3 :: a4 :: a5 :: some (.int (iI x)) :: t) (.int (iI x) :: st) (pc + 2)) : bk_V Γ D R own cc tb k n w (a0 :: a1 :: a2 :: a3 :: a4 :: a5 :: some (.int (iI x)) :: t) (st) pc := by
  obtain ⟨p, l, e, s, m, args, below, meth, c, A, Q, ret, thr⟩ := Γ
  exact fun G H locs ls hW hS hL => lv_iload G.1 G.2.1 d (hL.at 6 rfl) (kk G H locs ls hW hS hL)
theorem br_aload_6 {a0 a1 a2 a3 a4 a5 : Option Value} {t : List (Option Value)} {x : Nat} (d : decode cc pc = .ok (.aload 6, 2)) (kk : bk_V Γ D R own cc tb k n w (a0 :: a1 :: a2 :: a3 :: a4 :: a5 :: some (.ref x) :: t) (.ref x :: st) (pc + 2)) : bk_V Γ D R own cc tb k n w (a0 :: a1 :: a2 :: a3 :: a4 :: a5 :: some (.ref x) :: t) (st) pc := by
  obtain ⟨p, l, e, s, m, args, below, meth, c, A, Q, ret, thr⟩ := Γ
  exact fun G H locs ls hW hS hL => lv_aload G.1 G.2.1 d (hL.at 6 rfl) (kk G H locs ls hW hS hL)
theorem br_anload_6 {a0 a1 a2 a3 a4 a5 : Option Value} {t : List (Option Value)} (d : decode cc pc = .ok (.aload 6, 2)) (kk : bk_V Γ D R own cc tb k n w (a0 :: a1 :: a2 :: a3 :: a4 :: a5 :: some .null :: t) (.null :: st) (pc + 2)) : bk_V Γ D R own cc tb k n w (a0 :: a1 :: a2 :: a3 :: a4 :: a5 :: some .null :: t) (st) pc := by
  obtain ⟨p, l, e, s, m, args, below, meth, c, A, Q, ret, thr⟩ := Γ
  exact fun G H locs ls hW hS hL => lv_aloadN G.1 G.2.1 d (hL.at 6 rfl) (kk G H locs ls hW hS hL)
theorem br_iload_7 {a0 a1 a2 a3 a4 a5 a6 : Option Value} {t : List (Option Value)} {x : Int} (d : decode cc pc = .ok (.iload 7, 2)) (kk : bk_V Γ D R own cc tb k n w (a0 :: a1 :: a2 :: a3 :: a4 :: a5 :: a6 :: some (.int (iI x)) :: t) (.int (iI x) :: st) (pc + 2)) : bk_V Γ D R own cc tb k n w (a0 :: a1 :: a2 :: a3 :: a4 :: a5 :: a6 :: some (.int (iI x)) :: t) (st) pc := by
  obtain ⟨p, l, e, s, m, args, below, meth, c, A, Q, ret, thr⟩ := Γ
  exact fun G H locs ls hW hS hL => lv_iload G.1 G.2.1 d (hL.at 7 rfl) (kk G H locs ls hW hS hL)
theorem br_aload_7 {a0 a1 a2 a3 a4 a5 a6 : Option Value} {t : List (Option Value)} {x : Nat} (d : decode cc pc = .ok (.aload 7, 2)) (kk : bk_V Γ D R own cc tb k n w (a0 :: a1 :: a2 :: a3 :: a4 :: a5 :: a6 :: some (.ref x) :: t) (.ref x :: st) (pc + 2)) : bk_V Γ D R own cc tb k n w (a0 :: a1 :: a2 :: a3 :: a4 :: a5 :: a6 :: some (.ref x) :: t) (st) pc := by
  obtain ⟨p, l, e, s, m, args, below, meth, c, A, Q, ret, thr⟩ := Γ
  exact fun G H locs ls hW hS hL => lv_aload G.1 G.2.1 d (hL.at 7 rfl) (kk G H locs ls hW hS hL)
theorem br_anload_7 {a0 a1 a2 a3 a4 a5 a6 : Option Value} {t : List (Option Value)} (d : decode cc pc = .ok (.aload 7, 2)) (kk : bk_V Γ D R own cc tb k n w (a0 :: a1 :: a2 :: a3 :: a4 :: a5 :: a6 :: some .null :: t) (.null :: st) (pc + 2)) : bk_V Γ D R own cc tb k n w (a0 :: a1 :: a2 :: a3 :: a4 :: a5 :: a6 :: some .null :: t) (st) pc := by
  obtain ⟨p, l, e, s, m, args, below, meth, c, A, Q, ret, thr⟩ := Γ
  exact fun G H locs ls hW hS hL => lv_aloadN G.1 G.2.1 d (hL.at 7 rfl) (kk G H locs ls hW hS hL)
theorem br_iload_8 {a0 a1 a2 a3 a4 a5 a6 a7 : Option Value} {t : List (Option Value)} {x : Int} (d : decode cc pc = .ok (.iload 8, 2)) (kk : bk_V Γ D R own cc tb k n w (a0 :: a1 :: a2 :: a3 :: a4 :: a5 :: a6 :: a7 :: some (.int (iI x)) :: t) (.int (iI x) :: st) (pc + 2)) : bk_V Γ D R own cc tb k n w (a0 :: a1 :: a2 :: a3 :: a4 :: a5 :: a6 :: a7 :: some (.int (iI x)) :: t) (st) pc := by
  obtain ⟨p, l, e, s, m, args, below, meth, c, A, Q, ret, thr⟩ := Γ
  exact fun G H locs ls hW hS hL => lv_iload G.1 G.2.1 d (hL.at 8 rfl) (kk G H locs ls hW hS hL)
theorem br_aload_8 {a0 a1 a2 a3 a4 a5 a6 a7 : Option Value} {t : List (Option Value)} {x : Nat} (d : decode cc pc = .ok (.aload 8, 2)) (kk : bk_V Γ D R own cc tb k n w (a0 :: a1 :: a2 :: a3 :: a4 :: a5 :: a6 :: a7 :: some (.ref x) :: t) (.ref x :: st) (pc + 2)) : bk_V Γ D R own cc tb k n w (a0 :: a1 :: a2 :: a3 :: a4 :: a5 :: a6 :: a7 :: some (.ref x) :: t) (st) pc := by
  obtain ⟨p, l, e, s, m, args, below, meth, c, A, Q, ret, thr⟩ := Γ
  exact fun G H locs ls hW hS hL => lv_aload G.1 G.2.1 d (hL.at 8 rfl) (kk G H locs ls hW hS hL)
theorem br_anload_8 {a0 a1 a2 a3 a4 a5 a6 a7 : Option Value} {t : List (Option Value)} (d : decode cc pc = .ok (.aload 8, 2)) (kk : bk_V Γ D R own cc tb k n w (a0 :: a1 :: a2 :: a3 :: a4 :: a5 :: a6 :: a7 :: some .null :: t) (.null :: st) (pc + 2)) : bk_V Γ D R own cc tb k n w (a0 :: a1 :: a2 :: a3 :: a4 :: a5 :: a6 :: a7 :: some .null :: t) (st) pc := by
  obtain ⟨p, l, e, s, m, args, below, meth, c, A, Q, ret, thr⟩ := Γ
  exact fun G H locs ls hW hS hL => lv_aloadN G.1 G.2.1 d (hL.at 8 rfl) (kk G H locs ls hW hS hL)
theorem br_lload_1 {a0 : Option Value} {t : List (Option Value)} {x : Int} (d : decode cc pc = .ok (.lload_n 1, 1)) (kk : bk_V Γ D R own cc tb k n w (a0 :: some (.long (jL x)) :: t) (.long (jL x) :: st) (pc + 1)) : bk_V Γ D R own cc tb k n w (a0 :: some (.long (jL x)) :: t) (st) pc := by
  obtain ⟨p, l, e, s, m, args, below, meth, c, A, Q, ret, thr⟩ := Γ
  exact fun G H locs ls hW hS hL => lv_lload_n (i := 1) G.1 G.2.1 d rfl (hL.at 1 rfl) (kk G H locs ls hW hS hL)
theorem bk_sto {i : Nat} {v : Value} {op : Instr} {len : Nat} (hv : v.category = 1) (hi : i < L.length) (hc : bk_c1 L i = true)
    (kit : ∀ (p : Program) (l : Launch) (e : Env) (s : State) (m : MethodId) (args : Array Value) (below : List Frame) (meth : Method) (c : Code) (Q : State → Prop) (H : Heap) (locs : List Loc) (ls : Array Slot) (lv : List (Nat × Value)), p.tables.exec = Jvm.exec → c.code = cc → lv_has ls L.length lv →
      (∀ ls' : Array Slot, lv_has ls' L.length ((i, v) :: lv.filter (fun q => !(q.1 == i) && !(q.1 + 1 == i && q.2.category == 2))) → W p l e R s m args below meth c H locs k n Q (F0 m (pc + len) ls' st)) → W p l e R s m args below meth c H locs k n Q (F0 m pc ls (v :: st)))
    (kk : bk_V Γ D R own cc tb k n w (L.set i (some v)) st (pc + len)) : bk_V Γ D R own cc tb k n w L (v :: st) pc := by
  obtain ⟨p, l, e, s, m, args, below, meth, c, A, Q, ret, thr⟩ := Γ
  intro G H locs ls hW hS hL
  have hall : ∀ (B : List (Option Value)) (o : Nat), ∃ lv : List (Nat × Value), (∀ q ∈ lv, ∃ j, q.1 = o + j ∧ B[j]? = some (some q.2)) ∧ ∀ (j : Nat) (u : Value), B[j]? = some (some u) → (o + j, u) ∈ lv := by
    intro B
    induction B with
    | nil => intro o; exact ⟨[], fun q hq => (by cases hq), fun j u hj => by simp at hj⟩
    | cons b B ih =>
      intro o
      obtain ⟨lv, h1, h2⟩ := ih (o + 1)
      cases b with
      | none =>
        refine ⟨lv, fun q hq => ?_, fun j u hj => ?_⟩
        · obtain ⟨j, e1, e2⟩ := h1 q hq
          exact ⟨j + 1, by omega, by simpa using e2⟩
        · cases j with
          | zero => simp at hj
          | succ j => have := h2 j u (by simpa using hj); rwa [show o + (j + 1) = o + 1 + j by omega]
      | some x =>
        refine ⟨(o, x) :: lv, fun q hq => ?_, fun j u hj => ?_⟩
        · rcases List.mem_cons.mp hq with rfl | hq
          · exact ⟨0, by simp, by simp⟩
          · obtain ⟨j, e1, e2⟩ := h1 q hq
            exact ⟨j + 1, by omega, by simpa using e2⟩
        · cases j with
          | zero => simp at hj; subst hj; simp
          | succ j => have := h2 j u (by simpa using hj); rw [show o + (j + 1) = o + 1 + j by omega]; exact List.mem_cons_of_mem _ this
  obtain ⟨lv, h1, h2⟩ := hall L 0
  refine kit p l e s m args below meth c Q H locs ls lv G.1 G.2.1 ⟨hL.2.1, hL.2.2.1, fun q hq => ?_⟩ (fun ls' hl => ?_)
  · obtain ⟨j, e1, e2⟩ := h1 q hq
    rw [e1, Nat.zero_add]
    exact hL.2.2.2 j q.2 e2
  · refine kk G H locs ls' hW hS ⟨by rw [List.length_set]; exact hL.1, by rw [List.length_set]; exact hl.1, hl.2.1, fun j u hj => ?_⟩
    by_cases hji : j = i
    · subst hji
      rw [List.getElem?_set_self hi] at hj
      cases hj
      exact hl.2.2 (j, v) List.mem_cons_self
    · rw [List.getElem?_set_ne (Ne.symm hji)] at hj
      refine hl.2.2 (j, u) (List.mem_cons_of_mem _ (List.mem_filter.mpr ⟨by have := h2 j u hj; rwa [Nat.zero_add] at this, ?_⟩))
      simp only [Bool.and_eq_true, Bool.not_eq_true', beq_eq_false_iff_ne, ne_eq, Bool.and_eq_false_iff]
      refine ⟨hji, ?_⟩
      by_cases hq : j + 1 = i
      · right
        subst hq
        simp only [bk_c1, hj] at hc
        cases u <;> simp_all [Value.category]
      · left
        exact hq
theorem br_istore_0 {t : List (Option Value)} {b : Option Value} {x : Int} (d : decode cc pc = .ok (.istore_n 0, 1)) (kk : bk_V Γ D R own cc tb k n w (some (.int (iI x)) :: t) (st) (pc + 1)) : bk_V Γ D R own cc tb k n w (b :: t) (.int (iI x) :: st) pc := by
  refine bk_sto (i := 0) (v := .int (iI x)) (len := 1) (op := .istore_n 0) rfl (by simp) rfl (fun p l e s m args below meth c Q H locs ls lv hx hb hh kw => lv_istore_n (i := 0) hx hb d rfl hh (by simp) rfl kw) kk
theorem br_astore_0 {t : List (Option Value)} {b : Option Value} {x : Nat} (d : decode cc pc = .ok (.astore_n 0, 1)) (kk : bk_V Γ D R own cc tb k n w (some (.ref x) :: t) (st) (pc + 1)) : bk_V Γ D R own cc tb k n w (b :: t) (.ref x :: st) pc := by
  refine bk_sto (i := 0) (v := .ref x) (len := 1) (op := .astore_n 0) rfl (by simp) rfl (fun p l e s m args below meth c Q H locs ls lv hx hb hh kw => lv_astore_n (i := 0) hx hb d rfl hh (by simp) rfl kw) kk
theorem br_anstore_0 {t : List (Option Value)} {b : Option Value} (d : decode cc pc = .ok (.astore_n 0, 1)) (kk : bk_V Γ D R own cc tb k n w (some .null :: t) (st) (pc + 1)) : bk_V Γ D R own cc tb k n w (b :: t) (.null :: st) pc := by
  refine bk_sto (i := 0) (v := .null) (len := 1) (op := .astore_n 0) rfl (by simp) rfl (fun p l e s m args below meth c Q H locs ls lv hx hb hh kw => lv_astore_nN (i := 0) hx hb d rfl hh (by simp) rfl kw) kk
theorem br_istore_1 {a0 : Option Value} {t : List (Option Value)} {b : Option Value} {x : Int} (d : decode cc pc = .ok (.istore_n 1, 1)) (hc : bk_c1 (a0 :: b :: t) 1 = true) (kk : bk_V Γ D R own cc tb k n w (a0 :: some (.int (iI x)) :: t) (st) (pc + 1)) : bk_V Γ D R own cc tb k n w (a0 :: b :: t) (.int (iI x) :: st) pc := by
  refine bk_sto (i := 1) (v := .int (iI x)) (len := 1) (op := .istore_n 1) rfl (by simp) hc (fun p l e s m args below meth c Q H locs ls lv hx hb hh kw => lv_istore_n (i := 1) hx hb d rfl hh (by simp) rfl kw) kk
theorem br_astore_1 {a0 : Option Value} {t : List (Option Value)} {b : Option Value} {x : Nat} (d : decode cc pc = .ok (.astore_n 1, 1)) (hc : bk_c1 (a0 :: b :: t) 1 = true) (kk : bk_V Γ D R own cc tb k n w (a0 :: some (.ref x) :: t) (st) (pc + 1)) : bk_V Γ D R own cc tb k n w (a0 :: b :: t) (.ref x :: st) pc := by
  refine bk_sto (i := 1) (v := .ref x) (len := 1) (op := .astore_n 1) rfl (by simp) hc (fun p l e s m args below meth c Q H locs ls lv hx hb hh kw => lv_astore_n (i := 1) hx hb d rfl hh (by simp) rfl kw) kk
theorem br_anstore_1 {a0 : Option Value} {t : List (Option Value)} {b : Option Value} (d : decode cc pc = .ok (.astore_n 1, 1)) (hc : bk_c1 (a0 :: b :: t) 1 = true) (kk : bk_V Γ D R own cc tb k n w (a0 :: some .null :: t) (st) (pc + 1)) : bk_V Γ D R own cc tb k n w (a0 :: b :: t) (.null :: st) pc := by
  refine bk_sto (i := 1) (v := .null) (len := 1) (op := .astore_n 1) rfl (by simp) hc (fun p l e s m args below meth c Q H locs ls lv hx hb hh kw => lv_astore_nN (i := 1) hx hb d rfl hh (by simp) rfl kw) kk
theorem br_istore_2 {a0 a1 : Option Value} {t : List (Option Value)} {b : Option Value} {x : Int} (d : decode cc pc = .ok (.istore_n 2, 1)) (hc : bk_c1 (a0 :: a1 :: b :: t) 2 = true) (kk : bk_V Γ D R own cc tb k n w (a0 :: a1 :: some (.int (iI x)) :: t) (st) (pc + 1)) : bk_V Γ D R own cc tb k n w (a0 :: a1 :: b :: t) (.int (iI x) :: st) pc := by
  refine bk_sto (i := 2) (v := .int (iI x)) (len := 1) (op := .istore_n 2) rfl (by simp) hc (fun p l e s m args below meth c Q H locs ls lv hx hb hh kw => lv_istore_n (i := 2) hx hb d rfl hh (by simp) rfl kw) kk
theorem br_astore_2 {a0 a1 : Option Value} {t : List (Option Value)} {b : Option Value} {x : Nat} (d : decode cc pc = .ok (.astore_n 2, 1)) (hc : bk_c1 (a0 :: a1 :: b :: t) 2 = true) (kk : bk_V Γ D R own cc tb k n w (a0 :: a1 :: some (.ref x) :: t) (st) (pc + 1)) : bk_V Γ D R own cc tb k n w (a0 :: a1 :: b :: t) (.ref x :: st) pc := by
  refine bk_sto (i := 2) (v := .ref x) (len := 1) (op := .astore_n 2) rfl (by simp) hc (fun p l e s m args below meth c Q H locs ls lv hx hb hh kw => lv_astore_n (i := 2) hx hb d rfl hh (by simp) rfl kw) kk
theorem br_anstore_2 {a0 a1 : Option Value} {t : List (Option Value)} {b : Option Value} (d : decode cc pc = .ok (.astore_n 2, 1)) (hc : bk_c1 (a0 :: a1 :: b :: t) 2 = true) (kk : bk_V Γ D R own cc tb k n w (a0 :: a1 :: some .null :: t) (st) (pc + 1)) : bk_V Γ D R own cc tb k n w (a0 :: a1 :: b :: t) (.null :: st) pc := by
  refine bk_sto (i := 2) (v := .null) (len := 1) (op := .astore_n 2) rfl (by simp) hc (fun p l e s m args below meth c Q H locs ls lv hx hb hh kw => lv_astore_nN (i := 2) hx hb d rfl hh (by simp) rfl kw) kk
theorem br_istore_3 {a0 a1 a2 : Option Value} {t : List (Option Value)} {b : Option Value} {x : Int} (d : decode cc pc = .ok (.istore_n 3, 1)) (hc : bk_c1 (a0 :: a1 :: a2 :: b :: t) 3 = true) (kk : bk_V Γ D R own cc tb k n w (a0 :: a1 :: a2 :: some (.int (iI x)) :: t) (st) (pc + 1)) : bk_V Γ D R own cc tb k n w (a0 :: a1 :: a2 :: b :: t) (.int (iI x) :: st) pc := by
  refine bk_sto (i := 3) (v := .int (iI x)) (len := 1) (op := .istore_n 3) rfl (by simp) hc (fun p l e s m args below meth c Q H locs ls lv hx hb hh kw => lv_istore_n (i := 3) hx hb d rfl hh (by simp) rfl kw) kk
theorem br_astore_3 {a0 a1 a2 : Option Value} {t : List (Option Value)} {b : Option Value} {x : Nat} (d : decode cc pc = .ok (.astore_n 3, 1)) (hc : bk_c1 (a0 :: a1 :: a2 :: b :: t) 3 = true) (kk : bk_V Γ D R own cc tb k n w (a0 :: a1 :: a2 :: some (.ref x) :: t) (st) (pc + 1)) : bk_V Γ D R own cc tb k n w (a0 :: a1 :: a2 :: b :: t) (.ref x :: st) pc := by
  refine bk_sto (i := 3) (v := .ref x) (len := 1) (op := .astore_n 3) rfl (by simp) hc (fun p l e s m args below meth c Q H locs ls lv hx hb hh kw => lv_astore_n (i := 3) hx hb d rfl hh (by simp) rfl kw) kk
theorem br_anstore_3 {a0 a1 a2 : Option Value} {t : List (Option Value)} {b : Option Value} (d : decode cc pc = .ok (.astore_n 3, 1)) (hc : bk_c1 (a0 :: a1 :: a2 :: b :: t) 3 = true) (kk : bk_V Γ D R own cc tb k n w (a0 :: a1 :: a2 :: some .null :: t) (st) (pc + 1)) : bk_V Γ D R own cc tb k n w (a0 :: a1 :: a2 :: b :: t) (.null :: st) pc := by
  refine bk_sto (i := 3) (v := .null) (len := 1) (op := .astore_n 3) rfl (by simp) hc (fun p l e s m args below meth c Q H locs ls lv hx hb hh kw => lv_astore_nN (i := 3) hx hb d rfl hh (by simp) rfl kw) kk
theorem br_istore_4 {a0 a1 a2 a3 : Option Value} {t : List (Option Value)} {b : Option Value} {x : Int} (d : decode cc pc = .ok (.istore 4, 2)) (hc : bk_c1 (a0 :: a1 :: a2 :: a3 :: b :: t) 4 = true) (kk : bk_V Γ D R own cc tb k n w (a0 :: a1 :: a2 :: a3 :: some (.int (iI x)) :: t) (st) (pc + 2)) : bk_V Γ D R own cc tb k n w (a0 :: a1 :: a2 :: a3 :: b :: t) (.int (iI x) :: st) pc := by
  refine bk_sto (i := 4) (v := .int (iI x)) (len := 2) (op := .istore 4) rfl (by simp) hc (fun p l e s m args below meth c Q H locs ls lv hx hb hh kw => lv_istore hx hb d hh (by simp) rfl kw) kk
theorem br_astore_4 {a0 a1 a2 a3 : Option Value} {t : List (Option Value)} {b : Option Value} {x : Nat} (d : decode cc pc = .ok (.astore 4, 2)) (hc : bk_c1 (a0 :: a1 :: a2 :: a3 :: b :: t) 4 = true) (kk : bk_V Γ D R own cc tb k n w (a0 :: a1 :: a2 :: a3 :: some (.ref x) :: t) (st) (pc + 2)) : bk_V Γ D R own cc tb k n w (a0 :: a1 :: a2 :: a3 :: b :: t) (.ref x :: st) pc := by
  refine bk_sto (i := 4) (v := .ref x) (len := 2) (op := .astore 4) rfl (by simp) hc (fun p l e s m args below meth c Q H locs ls lv hx hb hh kw => lv_astore hx hb d hh (by simp) rfl kw) kk
theorem br_anstore_4 {a0 a1 a2 a3 : Option Value} {t : List (Option Value)} {b : Option Value} (d : decode cc pc = .ok (.astore 4, 2)) (hc : bk_c1 (a0 :: a1 :: a2 :: a3 :: b :: t) 4 = true) (kk : bk_V Γ D R own cc tb k n w (a0 :: a1 :: a2 :: a3 :: some .null :: t) (st) (pc + 2)) : bk_V Γ D R own cc tb k n w (a0 :: a1 :: a2 :: a3 :: b :: t) (.null :: st) pc := by
  refine bk_sto (i := 4) (v := .null) (len := 2) (op := .astore 4) rfl (by simp) hc (fun p l e s m args below meth c Q H locs ls lv hx hb hh kw => lv_astoreN hx hb d hh (by simp) rfl kw) kk
theorem br_istore_5 {a0 a1 a2 a3 a4 : Option Value} {t : List (Option Value)} {b : Option Value} {x : Int} (d : decode cc pc = .ok (.istore 5, 2)) (hc : bk_c1 (a0 :: a1 :: a2 :: a3 :: a4 :: b :: t) 5 = true) (kk : bk_V Γ D R own cc tb k n w (a0 :: a1 :: a2 :: a3 :: a4 :: some (.int (iI x)) :: t) (st) (pc + 2)) : bk_V Γ D R own cc tb k n w (a0 :: a1 :: a2 :: a3 :: a4 :: b :: t) (.int (iI x) :: st) pc := by
  refine bk_sto (i := 5) (v := .int (iI x)) (len := 2) (op := .istore 5) rfl (by simp) hc (fun p l e s m args below meth c Q H locs ls lv hx hb hh kw => lv_istore hx hb d hh (by simp) rfl kw) kk
theorem br_astore_5 {a0 a1 a2 a3 a4 : Option Value} {t : List (Option Value)} {b : Option Value} {x : Nat} (d : decode cc pc = .ok (.astore 5, 2)) (hc : bk_c1 (a0 :: a1 :: a2 :: a3 :: a4 :: b :: t) 5 = true) (kk : bk_V Γ D R own cc tb k n w (a0 :: a1 :: a2 :: a3 :: a4 :: some (.ref x) :: t) (st) (pc + 2)) : bk_V Γ D R own cc tb k n w (a0 :: a1 :: a2 :: a3 :: a4 :: b :: t) (.ref x :: st) pc := by
  refine bk_sto (i := 5) (v := .ref x) (len := 2) (op := .astore 5) rfl (by simp) hc (fun p l e s m args below meth c Q H locs ls lv hx hb hh kw => lv_astore hx hb d hh (by simp) rfl kw) kk
theorem br_anstore_5 {a0 a1 a2 a3 a4 : Option Value} {t : List (Option Value)} {b : Option Value} (d : decode cc pc = .ok (.astore 5, 2)) (hc : bk_c1 (a0 :: a1 :: a2 :: a3 :: a4 :: b :: t) 5 = true) (kk : bk_V Γ D R own cc tb k n w (a0 :: a1 :: a2 :: a3 :: a4 :: some .null :: t) (st) (pc + 2)) : bk_V Γ D R own cc tb k n w (a0 :: a1 :: a2 :: a3 :: a4 :: b :: t) (.null :: st) pc := by
  refine bk_sto (i := 5) (v := .null) (len := 2) (op := .astore 5) rfl (by simp) hc (fun p l e s m args below meth c Q H locs ls lv hx hb hh kw => lv_astoreN hx hb d hh (by simp) rfl kw) kk
theorem br_istore_6 {a0 a1 a2 a3 a4 a5 : Option Value} {t : List (Option Value)} {b : Option Value} {x : Int} (d : decode cc pc = .ok (.istore 6, 2)) (hc : bk_c1 (a0 :: a1 :: a2 :: a3 :: a4 :: a5 :: b :: t) 6 = true) (kk : bk_V Γ D R own cc tb k n w (a0 :: a1 :: a2 :: a3 :: a4 :: a5 :: some (.int (iI x)) :: t) (st) (pc + 2)) : bk_V Γ D R own cc tb k n w (a0 :: a1 :: a2 :: a3 :: a4 :: a5 :: b :: t) (.int (iI x) :: st) pc := by
  refine bk_sto (i := 6) (v := .int (iI x)) (len := 2) (op := .istore 6) rfl (by simp) hc (fun p l e s m args below meth c Q H locs ls lv hx hb hh kw => lv_istore hx hb d hh (by simp) rfl kw) kk
theorem br_astore_6 {a0 a1 a2 a3 a4 a5 : Option Value} {t : List (Option Value)} {b : Option Value} {x : Nat} (d : decode cc pc = .ok (.astore 6, 2)) (hc : bk_c1 (a0 :: a1 :: a2 :: a3 :: a4 :: a5 :: b :: t) 6 = true) (kk : bk_V Γ D R own cc tb k n w (a0 :: a1 :: a2 :: a3 :: a4 :: a5 :: some (.ref x) :: t) (st) (pc + 2)) : bk_V Γ D R own cc tb k n w (a0 :: a1 :: a2 :: a3 :: a4 :: a5 :: b :: t) (.ref x :: st) pc := by
  refine bk_sto (i := 6) (v := .ref x) (len := 2) (op := .astore 6) rfl (by simp) hc (fun p l e s m args below meth c Q H locs ls lv hx hb hh kw => lv_astore hx hb d hh (by simp) rfl kw) kk
theorem br_anstore_6 {a0 a1 a2 a3 a4 a5 : Option Value} {t : List (Option Value)} {b : Option Value} (d : decode cc pc = .ok (.astore 6, 2)) (hc : bk_c1 (a0 :: a1 :: a2 :: a3 :: a4 :: a5 :: b :: t) 6 = true) (kk : bk_V Γ D R own cc tb k n w (a0 :: a1 :: a2 :: a3 :: a4 :: a5 :: some .null :: t) (st) (pc + 2)) : bk_V Γ D R own cc tb k n w (a0 :: a1 :: a2 :: a3 :: a4 :: a5 :: b :: t) (.null :: st) pc := by
  refine bk_sto (i := 6) (v := .null) (len := 2) (op := .astore 6) rfl (by simp) hc (fun p l e s m args below meth c Q H locs ls lv hx hb hh kw => lv_astoreN hx hb d hh (by simp) rfl kw) kk
theorem br_istore_7 {a0 a1 a2 a3 a4 a5 a6 : Option Value} {t : List (Option Value)} {b : Option Value} {x : Int} (d : decode cc pc = .ok (.istore 7, 2)) (hc : bk_c1 (a0 :: a1 :: a2 :: a3 :: a4 :: a5 :: a6 :: b :: t) 7 = true) (kk : bk_V Γ D R own cc tb k n w (a0 :: a1 :: a2 :: a3 :: a4 :: a5 :: a6 :: some (.int (iI x)) :: t) (st) (pc + 2)) : bk_V Γ D R own cc tb k n w (a0 :: a1 :: a2 :: a3 :: a4 :: a5 :: a6 :: b :: t) (.int (iI x) :: st) pc := by
  refine bk_sto (i := 7) (v := .int (iI x)) (len := 2) (op := .istore 7) rfl (by simp) hc (fun p l e s m args below meth c Q H locs ls lv hx hb hh kw => lv_istore hx hb d hh (by simp) rfl kw) kk
theorem br_astore_7 {a0 a1 a2 a3 a4 a5 a6 : Option Value} {t : List (Option Value)} {b : Option Value} {x : Nat} (d : decode cc pc = .ok (.astore 7, 2)) (hc : bk_c1 (a0 :: a1 :: a2 :: a3 :: a4 :: a5 :: a6 :: b :: t) 7 = true) (kk : bk_V Γ D R own cc tb k n w (a0 :: a1 :: a2 :: a3 :: a4 :: a5 :: a6 :: some (.ref x) :: t) (st) (pc + 2)) : bk_V Γ D R own cc tb k n w (a0 :: a1 :: a2 :: a3 :: a4 :: a5 :: a6 :: b :: t) (.ref x :: st) pc := by
  refine bk_sto (i := 7) (v := .ref x) (len := 2) (op := .astore 7) rfl (by simp) hc (fun p l e s m args below meth c Q H locs ls lv hx hb hh kw => lv_astore hx hb d hh (by simp) rfl kw) kk
theorem br_anstore_7 {a0 a1 a2 a3 a4 a5 a6 : Option Value} {t : List (Option Value)} {b : Option Value} (d : decode cc pc = .ok (.astore 7, 2)) (hc : bk_c1 (a0 :: a1 :: a2 :: a3 :: a4 :: a5 :: a6 :: b :: t) 7 = true) (kk : bk_V Γ D R own cc tb k n w (a0 :: a1 :: a2 :: a3 :: a4 :: a5 :: a6 :: some .null :: t) (st) (pc + 2)) : bk_V Γ D R own cc tb k n w (a0 :: a1 :: a2 :: a3 :: a4 :: a5 :: a6 :: b :: t) (.null :: st) pc := by
  refine bk_sto (i := 7) (v := .null) (len := 2) (op := .astore 7) rfl (by simp) hc (fun p l e s m args below meth c Q H locs ls lv hx hb hh kw => lv_astoreN hx hb d hh (by simp) rfl kw) kk
theorem br_istore_8 {a0 a1 a2 a3 a4 a5 a6 a7 : Option Value} {t : List (Option Value)} {b : Option Value} {x : Int} (d : decode cc pc = .ok (.istore 8, 2)) (hc : bk_c1 (a0 :: a1 :: a2 :: a3 :: a4 :: a5 :: a6 :: a7 :: b :: t) 8 = true) (kk : bk_V Γ D R own cc tb k n w (a0 :: a1 :: a2 :: a3 :: a4 :: a5 :: a6 :: a7 :: some (.int (iI x)) :: t) (st) (pc + 2)) : bk_V Γ D R own cc tb k n w (a0 :: a1 :: a2 :: a3 :: a4 :: a5 :: a6 :: a7 :: b :: t) (.int (iI x) :: st) pc := by
  refine bk_sto (i := 8) (v := .int (iI x)) (len := 2) (op := .istore 8) rfl (by simp) hc (fun p l e s m args below meth c Q H locs ls lv hx hb hh kw => lv_istore hx hb d hh (by simp) rfl kw) kk
theorem br_astore_8 {a0 a1 a2 a3 a4 a5 a6 a7 : Option Value} {t : List (Option Value)} {b : Option Value} {x : Nat} (d : decode cc pc = .ok (.astore 8, 2)) (hc : bk_c1 (a0 :: a1 :: a2 :: a3 :: a4 :: a5 :: a6 :: a7 :: b :: t) 8 = true) (kk : bk_V Γ D R own cc tb k n w (a0 :: a1 :: a2 :: a3 :: a4 :: a5 :: a6 :: a7 :: some (.ref x) :: t) (st) (pc + 2)) : bk_V Γ D R own cc tb k n w (a0 :: a1 :: a2 :: a3 :: a4 :: a5 :: a6 :: a7 :: b :: t) (.ref x :: st) pc := by
  refine bk_sto (i := 8) (v := .ref x) (len := 2) (op := .astore 8) rfl (by simp) hc (fun p l e s m args below meth c Q H locs ls lv hx hb hh kw => lv_astore hx hb d hh (by simp) rfl kw) kk
theorem br_anstore_8 {a0 a1 a2 a3 a4 a5 a6 a7 : Option Value} {t : List (Option Value)} {b : Option Value} (d : decode cc pc = .ok (.astore 8, 2)) (hc : bk_c1 (a0 :: a1 :: a2 :: a3 :: a4 :: a5 :: a6 :: a7 :: b :: t) 8 = true) (kk : bk_V Γ D R own cc tb k n w (a0 :: a1 :: a2 :: a3 :: a4 :: a5 :: a6 :: a7 :: some .null :: t) (st) (pc + 2)) : bk_V Γ D R own cc tb k n w (a0 :: a1 :: a2 :: a3 :: a4 :: a5 :: a6 :: a7 :: b :: t) (.null :: st) pc := by
  refine bk_sto (i := 8) (v := .null) (len := 2) (op := .astore 8) rfl (by simp) hc (fun p l e s m args below meth c Q H locs ls lv hx hb hh kw => lv_astoreN hx hb d hh (by simp) rfl kw) kk
theorem bk_iinc {i : Nat} {x y : Int} (d : decode cc pc = .ok (.iinc i y, 3)) (hx : L[i]? = some (some (.int (iI x)))) (hc : bk_c1 L i = true) (kk : bk_V Γ D R own cc tb k n w (L.set i (some (.int (iI (x + y))))) st (pc + 3)) : bk_V Γ D R own cc tb k n w L st pc := by
  obtain ⟨p, l, e, s, m, args, below, meth, c, A, Q, ret, thr⟩ := Γ
  intro G H locs ls hW hS hL
  have hi : i < L.length := (List.getElem?_eq_some_iff.mp hx).1
  obtain ⟨ls', e', h'⟩ := hL.store (i := i) (v := .int (iI (x + y))) rfl hi hc
  have hg := hL.at i hx
  have hb := G.2.1
  have hexec := G.1
  have hv : iI x + Int32.ofInt y = iI (x + y) := iI_add x y
  intro T hT X
  obtain ⟨t, a, b⟩ := kk G H locs ls' hW hS h' T hT X
  refine ⟨t, ?_, b⟩
  rw [← hv] at e'
  jvm_step X.here [X.here.top, ↓top_set X.here.top, hexec, hb, d, hg, e']
  exact a
theorem br_iinc_0 {t : List (Option Value)} {x y : Int} (d : decode cc pc = .ok (.iinc 0 y, 3)) (kk : bk_V Γ D R own cc tb k n w (some (.int (iI (x + y))) :: t) (st) (pc + 3)) : bk_V Γ D R own cc tb k n w (some (.int (iI x)) :: t) (st) pc := bk_iinc (i := 0) d rfl rfl kk
theorem br_iinc_1 {a0 : Option Value} {t : List (Option Value)} {x y : Int} (d : decode cc pc = .ok (.iinc 1 y, 3)) (hc : bk_c1 (a0 :: some (.int (iI x)) :: t) 1 = true) (kk : bk_V Γ D R own cc tb k n w (a0 :: some (.int (iI (x + y))) :: t) (st) (pc + 3)) : bk_V Γ D R own cc tb k n w (a0 :: some (.int (iI x)) :: t) (st) pc := bk_iinc (i := 1) d rfl hc kk
theorem br_iinc_2 {a0 a1 : Option Value} {t : List (Option Value)} {x y : Int} (d : decode cc pc = .ok (.iinc 2 y, 3)) (hc : bk_c1 (a0 :: a1 :: some (.int (iI x)) :: t) 2 = true) (kk : bk_V Γ D R own cc tb k n w (a0 :: a1 :: some (.int (iI (x + y))) :: t) (st) (pc + 3)) : bk_V Γ D R own cc tb k n w (a0 :: a1 :: some (.int (iI x)) :: t) (st) pc := bk_iinc (i := 2) d rfl hc kk
theorem br_iinc_3 {a0 a1 a2 : Option Value} {t : List (Option Value)} {x y : Int} (d : decode cc pc = .ok (.iinc 3 y, 3)) (hc : bk_c1 (a0 :: a1 :: a2 :: some (.int (iI x)) :: t) 3 = true) (kk : bk_V Γ D R own cc tb k n w (a0 :: a1 :: a2 :: some (.int (iI (x + y))) :: t) (st) (pc + 3)) : bk_V Γ D R own cc tb k n w (a0 :: a1 :: a2 :: some (.int (iI x)) :: t) (st) pc := bk_iinc (i := 3) d rfl hc kk
theorem br_iinc_4 {a0 a1 a2 a3 : Option Value} {t : List (Option Value)} {x y : Int} (d : decode cc pc = .ok (.iinc 4 y, 3)) (hc : bk_c1 (a0 :: a1 :: a2 :: a3 :: some (.int (iI x)) :: t) 4 = true) (kk : bk_V Γ D R own cc tb k n w (a0 :: a1 :: a2 :: a3 :: some (.int (iI (x + y))) :: t) (st) (pc + 3)) : bk_V Γ D R own cc tb k n w (a0 :: a1 :: a2 :: a3 :: some (.int (iI x)) :: t) (st) pc := bk_iinc (i := 4) d rfl hc kk
theorem br_iinc_5 {a0 a1 a2 a3 a4 : Option Value} {t : List (Option Value)} {x y : Int} (d : decode cc pc = .ok (.iinc 5 y, 3)) (hc : bk_c1 (a0 :: a1 :: a2 :: a3 :: a4 :: some (.int (iI x)) :: t) 5 = true) (kk : bk_V Γ D R own cc tb k n w (a0 :: a1 :: a2 :: a3 :: a4 :: some (.int (iI (x + y))) :: t) (st) (pc + 3)) : bk_V Γ D R own cc tb k n w (a0 :: a1 :: a2 :: a3 :: a4 :: some (.int (iI x)) :: t) (st) pc := bk_iinc (i := 5) d rfl hc kk
theorem br_iinc_6 {a0 a1 a2 a3 a4 a5 : Option Value} {t : List (Option Value)} {x y : Int} (d : decode cc pc = .ok (.iinc 6 y, 3)) (hc : bk_c1 (a0 :: a1 :: a2 :: a3 :: a4 :: a5 :: some (.int (iI x)) :: t) 6 = true) (kk : bk_V Γ D R own cc tb k n w (a0 :: a1 :: a2 :: a3 :: a4 :: a5 :: some (.int (iI (x + y))) :: t) (st) (pc + 3)) : bk_V Γ D R own cc tb k n w (a0 :: a1 :: a2 :: a3 :: a4 :: a5 :: some (.int (iI x)) :: t) (st) pc := bk_iinc (i := 6) d rfl hc kk
theorem br_iinc_7 {a0 a1 a2 a3 a4 a5 a6 : Option Value} {t : List (Option Value)} {x y : Int} (d : decode cc pc = .ok (.iinc 7 y, 3)) (hc : bk_c1 (a0 :: a1 :: a2 :: a3 :: a4 :: a5 :: a6 :: some (.int (iI x)) :: t) 7 = true) (kk : bk_V Γ D R own cc tb k n w (a0 :: a1 :: a2 :: a3 :: a4 :: a5 :: a6 :: some (.int (iI (x + y))) :: t) (st) (pc + 3)) : bk_V Γ D R own cc tb k n w (a0 :: a1 :: a2 :: a3 :: a4 :: a5 :: a6 :: some (.int (iI x)) :: t) (st) pc := bk_iinc (i := 7) d rfl hc kk
theorem br_iinc_8 {a0 a1 a2 a3 a4 a5 a6 a7 : Option Value} {t : List (Option Value)} {x y : Int} (d : decode cc pc = .ok (.iinc 8 y, 3)) (hc : bk_c1 (a0 :: a1 :: a2 :: a3 :: a4 :: a5 :: a6 :: a7 :: some (.int (iI x)) :: t) 8 = true) (kk : bk_V Γ D R own cc tb k n w (a0 :: a1 :: a2 :: a3 :: a4 :: a5 :: a6 :: a7 :: some (.int (iI (x + y))) :: t) (st) (pc + 3)) : bk_V Γ D R own cc tb k n w (a0 :: a1 :: a2 :: a3 :: a4 :: a5 :: a6 :: a7 :: some (.int (iI x)) :: t) (st) pc := bk_iinc (i := 8) d rfl hc kk
theorem br_iadd {x y : Int} (d : decode cc pc = .ok (.iadd, 1)) (kk : bk_V Γ D R own cc tb k n w L (.int (iI (x + y)) :: st) (pc + 1)) : bk_V Γ D R own cc tb k n w L (.int (iI y) :: .int (iI x) :: st) pc := by
  obtain ⟨p, l, e, s, m, args, below, meth, c, A, Q, ret, thr⟩ := Γ
  exact fun G H locs ls hW hS hL => lv_iadd G.1 G.2.1 d (by rw [iI_add]; exact kk G H locs ls hW hS hL)
theorem br_isub {x y : Int} (d : decode cc pc = .ok (.isub, 1)) (kk : bk_V Γ D R own cc tb k n w L (.int (iI (x - y)) :: st) (pc + 1)) : bk_V Γ D R own cc tb k n w L (.int (iI y) :: .int (iI x) :: st) pc := by
  obtain ⟨p, l, e, s, m, args, below, meth, c, A, Q, ret, thr⟩ := Γ
  exact fun G H locs ls hW hS hL => lv_isub G.1 G.2.1 d (by rw [iI_sub]; exact kk G H locs ls hW hS hL)
theorem br_imul {x y : Int} (d : decode cc pc = .ok (.imul, 1)) (kk : bk_V Γ D R own cc tb k n w L (.int (iI (x * y)) :: st) (pc + 1)) : bk_V Γ D R own cc tb k n w L (.int (iI y) :: .int (iI x) :: st) pc := by
  obtain ⟨p, l, e, s, m, args, below, meth, c, A, Q, ret, thr⟩ := Γ
  exact fun G H locs ls hW hS hL => lv_imul G.1 G.2.1 d (by rw [iI_mul]; exact kk G H locs ls hW hS hL)
theorem br_idiv {x y : Int} (d : decode cc pc = .ok (.idiv, 1)) (h : 0 ≤ x ∧ x < 2147483648 ∧ 0 < y ∧ y < 2147483648) (kk : bk_V Γ D R own cc tb k n w L (.int (iI (x / y)) :: st) (pc + 1)) : bk_V Γ D R own cc tb k n w L (.int (iI y) :: .int (iI x) :: st) pc := by
  obtain ⟨p, l, e, s, m, args, below, meth, c, A, Q, ret, thr⟩ := Γ
  exact fun G H locs ls hW hS hL => lv_idiv G.1 G.2.1 d (iI_ne0 h.2.2) (by rw [iI_div h]; exact kk G H locs ls hW hS hL)
theorem br_irem {x y : Int} (d : decode cc pc = .ok (.irem, 1)) (h : 0 ≤ x ∧ x < 2147483648 ∧ 0 < y ∧ y < 2147483648) (kk : bk_V Γ D R own cc tb k n w L (.int (iI (x % y)) :: st) (pc + 1)) : bk_V Γ D R own cc tb k n w L (.int (iI y) :: .int (iI x) :: st) pc := by
  obtain ⟨p, l, e, s, m, args, below, meth, c, A, Q, ret, thr⟩ := Γ
  exact fun G H locs ls hW hS hL => lv_irem G.1 G.2.1 d (iI_ne0 h.2.2) (by rw [iI_div h, iI_mul, iI_sub, show x - x / y * y = x % y by rw [Int.emod_def, Int.mul_comm]]; exact kk G H locs ls hW hS hL)
theorem br_iand {x y z : Int} (d : decode cc pc = .ok (.iand, 1)) (h : iI x &&& iI y = iI z) (kk : bk_V Γ D R own cc tb k n w L (.int (iI z) :: st) (pc + 1)) : bk_V Γ D R own cc tb k n w L (.int (iI y) :: .int (iI x) :: st) pc := by
  obtain ⟨p, l, e, s, m, args, below, meth, c, A, Q, ret, thr⟩ := Γ
  exact fun G H locs ls hW hS hL => lv_iand G.1 G.2.1 d (by rw [h]; exact kk G H locs ls hW hS hL)
theorem br_ishr {x y z : Int} (d : decode cc pc = .ok (.ishr, 1)) (h : iI x >>> (iI y &&& 31) = iI z) (kk : bk_V Γ D R own cc tb k n w L (.int (iI z) :: st) (pc + 1)) : bk_V Γ D R own cc tb k n w L (.int (iI y) :: .int (iI x) :: st) pc := by
  obtain ⟨p, l, e, s, m, args, below, meth, c, A, Q, ret, thr⟩ := Γ
  exact fun G H locs ls hW hS hL => lv_ishr G.1 G.2.1 d (by rw [h]; exact kk G H locs ls hW hS hL)
theorem br_iushr {x y z : Int} (d : decode cc pc = .ok (.iushr, 1)) (h : ((iI x).toUInt32 >>> ((iI y).toUInt32 &&& Int32.toUInt32 31)).toInt32 = iI z) (kk : bk_V Γ D R own cc tb k n w L (.int (iI z) :: st) (pc + 1)) : bk_V Γ D R own cc tb k n w L (.int (iI y) :: .int (iI x) :: st) pc := by
  obtain ⟨p, l, e, s, m, args, below, meth, c, A, Q, ret, thr⟩ := Γ
  exact fun G H locs ls hW hS hL => lv_iushr G.1 G.2.1 d h (kk G H locs ls hW hS hL)
theorem br_i2b {x z : Int} (d : decode cc pc = .ok (.i2b, 1)) (h : (iI x).toInt8.toInt32 = iI z) (kk : bk_V Γ D R own cc tb k n w L (.int (iI z) :: st) (pc + 1)) : bk_V Γ D R own cc tb k n w L (.int (iI x) :: st) pc := by
  obtain ⟨p, l, e, s, m, args, below, meth, c, A, Q, ret, thr⟩ := Γ
  exact fun G H locs ls hW hS hL => lv_i2b G.1 G.2.1 d h (kk G H locs ls hW hS hL)
theorem br_i2c {x z : Int} (d : decode cc pc = .ok (.i2c, 1)) (h : ((iI x).toUInt32 % 65536).toInt32 = iI z) (kk : bk_V Γ D R own cc tb k n w L (.int (iI z) :: st) (pc + 1)) : bk_V Γ D R own cc tb k n w L (.int (iI x) :: st) pc := by
  obtain ⟨p, l, e, s, m, args, below, meth, c, A, Q, ret, thr⟩ := Γ
  exact fun G H locs ls hW hS hL => lv_i2c G.1 G.2.1 d h (kk G H locs ls hW hS hL)
theorem br_i2l {x : Int} (d : decode cc pc = .ok (.i2l, 1)) (h : -2147483648 ≤ x ∧ x < 2147483648) (kk : bk_V Γ D R own cc tb k n w L (.long (jL x) :: st) (pc + 1)) : bk_V Γ D R own cc tb k n w L (.int (iI x) :: st) pc := by
  obtain ⟨p, l, e, s, m, args, below, meth, c, A, Q, ret, thr⟩ := Γ
  exact fun G H locs ls hW hS hL => lv_i2l G.1 G.2.1 d (iI_mm h) (kk G H locs ls hW hS hL)
theorem br_ladd {x y : Int} (d : decode cc pc = .ok (.ladd, 1)) (kk : bk_V Γ D R own cc tb k n w L (.long (jL (x + y)) :: st) (pc + 1)) : bk_V Γ D R own cc tb k n w L (.long (jL y) :: .long (jL x) :: st) pc := by
  obtain ⟨p, l, e, s, m, args, below, meth, c, A, Q, ret, thr⟩ := Γ
  exact fun G H locs ls hW hS hL => lv_ladd G.1 G.2.1 d (by rw [jL_add]; exact kk G H locs ls hW hS hL)
theorem br_lsub {x y : Int} (d : decode cc pc = .ok (.lsub, 1)) (kk : bk_V Γ D R own cc tb k n w L (.long (jL (x - y)) :: st) (pc + 1)) : bk_V Γ D R own cc tb k n w L (.long (jL y) :: .long (jL x) :: st) pc := by
  obtain ⟨p, l, e, s, m, args, below, meth, c, A, Q, ret, thr⟩ := Γ
  exact fun G H locs ls hW hS hL => lv_lsub G.1 G.2.1 d (by rw [jL_sub]; exact kk G H locs ls hW hS hL)
theorem br_lmul {x y : Int} (d : decode cc pc = .ok (.lmul, 1)) (kk : bk_V Γ D R own cc tb k n w L (.long (jL (x * y)) :: st) (pc + 1)) : bk_V Γ D R own cc tb k n w L (.long (jL y) :: .long (jL x) :: st) pc := by
  obtain ⟨p, l, e, s, m, args, below, meth, c, A, Q, ret, thr⟩ := Γ
  exact fun G H locs ls hW hS hL => lv_lmul G.1 G.2.1 d (by rw [jL_mul]; exact kk G H locs ls hW hS hL)
theorem lg_cmp_jL {x y : Int} (hx : -9223372036854775808 ≤ x ∧ x < 9223372036854775808) (hy : -9223372036854775808 ≤ y ∧ y < 9223372036854775808) : ∃ z : Int, lg_cmp (jL x) (jL y) = iI z ∧ (-1 ≤ z ∧ z ≤ 1) ∧ (z = 0 ↔ x = y) := by
  unfold lg_cmp
  by_cases h : jL x = jL y
  · have hxy : x = y := by
      have := congrArg Int64.toInt h
      rwa [jL_toInt hx, jL_toInt hy] at this
    refine ⟨0, ?_, by omega, by simp [hxy]⟩
    subst hxy
    simp
    try decide
  · have hxy : ¬ x = y := fun q => h (by rw [q])
    by_cases h2 : jL y < jL x
    · exact ⟨1, by simp [h, h2]; try decide, by omega, by omega⟩
    · refine ⟨-1, ?_, by omega, by omega⟩
      have h3 : jL x < jL y := by
        rw [Int64.lt_iff_toInt_lt] at h2 ⊢
        rw [jL_toInt hx, jL_toInt hy] at *
        omega
      simp [h, h2, h3]
      try decide
theorem br_lcmp {x y : Int} (d : decode cc pc = .ok (.lcmp, 1)) (hx : -9223372036854775808 ≤ x ∧ x < 9223372036854775808) (hy : -9223372036854775808 ≤ y ∧ y < 9223372036854775808)
    (kk : ∀ z : Int, (-1 ≤ z ∧ z ≤ 1) → (z = 0 ↔ x = y) → bk_V Γ D R own cc tb k n w L (.int (iI z) :: st) (pc + 1)) : bk_V Γ D R own cc tb k n w L (.long (jL y) :: .long (jL x) :: st) pc := by
  obtain ⟨z, h1, h2, h3⟩ := lg_cmp_jL hx hy
  obtain ⟨p, l, e, s, m, args, below, meth, c, A, Q, ret, thr⟩ := Γ
  exact fun G H locs ls hW hS hL => W.lcmp G.1 G.2.1 d (by rw [h1]; exact kk z h2 h3 G H locs ls hW hS hL)
theorem br_dup {v : Value} (d : decode cc pc = .ok (.dup, 1)) (hv : v.category = 1) (kk : bk_V Γ D R own cc tb k n w L (v :: v :: st) (pc + 1)) : bk_V Γ D R own cc tb k n w L (v :: st) pc := by
  obtain ⟨p, l, e, s, m, args, below, meth, c, A, Q, ret, thr⟩ := Γ
  exact fun G H locs ls hW hS hL => lv_dup G.1 G.2.1 d hv (kk G H locs ls hW hS hL)
theorem br_pop {v : Value} (d : decode cc pc = .ok (.pop, 1)) (hv : v.category = 1) (kk : bk_V Γ D R own cc tb k n w L (st) (pc + 1)) : bk_V Γ D R own cc tb k n w L (v :: st) pc := by
  obtain ⟨p, l, e, s, m, args, below, meth, c, A, Q, ret, thr⟩ := Γ
  exact fun G H locs ls hW hS hL => lv_pop G.1 G.2.1 d hv (kk G H locs ls hW hS hL)
theorem br_dup2 {v u : Value} (d : decode cc pc = .ok (.dup2, 1)) (hv : v.category = 1) (hu : u.category = 1) (kk : bk_V Γ D R own cc tb k n w L (v :: u :: v :: u :: st) (pc + 1)) : bk_V Γ D R own cc tb k n w L (v :: u :: st) pc := by
  obtain ⟨p, l, e, s, m, args, below, meth, c, A, Q, ret, thr⟩ := Γ
  exact fun G H locs ls hW hS hL => lv_dup2_11 G.1 G.2.1 d hv hu (kk G H locs ls hW hS hL)
theorem br_dup_x1 {v u : Value} (d : decode cc pc = .ok (.dup_x1, 1)) (hv : v.category = 1) (hu : u.category = 1) (kk : bk_V Γ D R own cc tb k n w L (v :: u :: v :: st) (pc + 1)) : bk_V Γ D R own cc tb k n w L (v :: u :: st) pc := by
  obtain ⟨p, l, e, s, m, args, below, meth, c, A, Q, ret, thr⟩ := Γ
  exact fun G H locs ls hW hS hL => lv_dup_x1 G.1 G.2.1 d hv hu (kk G H locs ls hW hS hL)
theorem br_icmp_eq {x y off : Int} {tgt : Nat} (d : decode cc pc = .ok (.if_icmp .eq off, 3)) (ht : (pc : Int) + off = (tgt : Int)) (h : (-2147483648 ≤ x ∧ x < 2147483648) ∧ (-2147483648 ≤ y ∧ y < 2147483648)) (kt : x = y → bk_V Γ D R own cc tb k n w L (st) tgt) (kf : ¬ x = y → bk_V Γ D R own cc tb k n w L (st) (pc + 3)) : bk_V Γ D R own cc tb k n w L (.int (iI y) :: .int (iI x) :: st) pc := by
  obtain ⟨p, l, e, s, m, args, below, meth, c, A, Q, ret, thr⟩ := Γ
  exact fun G H locs ls hW hS hL => lv_icmp_eq G.1 G.2.1 d ht (fun c => kt ((iI_eq h.1 h.2).mp c) G H locs ls hW hS hL) (fun c => kf (fun q => c ((iI_eq h.1 h.2).mpr q)) G H locs ls hW hS hL)
theorem br_if_eq {x off : Int} {tgt : Nat} (d : decode cc pc = .ok (.ifCond .eq off, 3)) (ht : (pc : Int) + off = (tgt : Int)) (h : (-2147483648 ≤ x ∧ x < 2147483648)) (kt : x = 0 → bk_V Γ D R own cc tb k n w L (st) tgt) (kf : ¬ x = 0 → bk_V Γ D R own cc tb k n w L (st) (pc + 3)) : bk_V Γ D R own cc tb k n w L (.int (iI x) :: st) pc := by
  have h : (-2147483648 ≤ x ∧ x < 2147483648) ∧ (-2147483648 ≤ (0 : Int) ∧ (0 : Int) < 2147483648) := ⟨h, by decide⟩
  have e0 : (0 : Int32) = iI 0 := rfl
  obtain ⟨p, l, e, s, m, args, below, meth, c, A, Q, ret, thr⟩ := Γ
  exact fun G H locs ls hW hS hL => lv_if_eq G.1 G.2.1 d ht (fun c => kt (by rw [e0] at c; exact (iI_eq h.1 h.2).mp c) G H locs ls hW hS hL) (fun c => kf (by rw [e0] at c; exact fun q => c ((iI_eq h.1 h.2).mpr q)) G H locs ls hW hS hL)
theorem br_icmp_ne {x y off : Int} {tgt : Nat} (d : decode cc pc = .ok (.if_icmp .ne off, 3)) (ht : (pc : Int) + off = (tgt : Int)) (h : (-2147483648 ≤ x ∧ x < 2147483648) ∧ (-2147483648 ≤ y ∧ y < 2147483648)) (kt : ¬ x = y → bk_V Γ D R own cc tb k n w L (st) tgt) (kf : x = y → bk_V Γ D R own cc tb k n w L (st) (pc + 3)) : bk_V Γ D R own cc tb k n w L (.int (iI y) :: .int (iI x) :: st) pc := by
  obtain ⟨p, l, e, s, m, args, below, meth, c, A, Q, ret, thr⟩ := Γ
  exact fun G H locs ls hW hS hL => lv_icmp_ne G.1 G.2.1 d ht (fun c => kt (fun q => c ((iI_eq h.1 h.2).mpr q)) G H locs ls hW hS hL) (fun c => kf ((iI_eq h.1 h.2).mp c) G H locs ls hW hS hL)
theorem br_if_ne {x off : Int} {tgt : Nat} (d : decode cc pc = .ok (.ifCond .ne off, 3)) (ht : (pc : Int) + off = (tgt : Int)) (h : (-2147483648 ≤ x ∧ x < 2147483648)) (kt : ¬ x = 0 → bk_V Γ D R own cc tb k n w L (st) tgt) (kf : x = 0 → bk_V Γ D R own cc tb k n w L (st) (pc + 3)) : bk_V Γ D R own cc tb k n w L (.int (iI x) :: st) pc := by
  have h : (-2147483648 ≤ x ∧ x < 2147483648) ∧ (-2147483648 ≤ (0 : Int) ∧ (0 : Int) < 2147483648) := ⟨h, by decide⟩
  have e0 : (0 : Int32) = iI 0 := rfl
  obtain ⟨p, l, e, s, m, args, below, meth, c, A, Q, ret, thr⟩ := Γ
  exact fun G H locs ls hW hS hL => lv_if_ne G.1 G.2.1 d ht (fun c => kt (by rw [e0] at c; exact fun q => c ((iI_eq h.1 h.2).mpr q)) G H locs ls hW hS hL) (fun c => kf (by rw [e0] at c; exact (iI_eq h.1 h.2).mp c) G H locs ls hW hS hL)
theorem br_icmp_lt {x y off : Int} {tgt : Nat} (d : decode cc pc = .ok (.if_icmp .lt off, 3)) (ht : (pc : Int) + off = (tgt : Int)) (h : (-2147483648 ≤ x ∧ x < 2147483648) ∧ (-2147483648 ≤ y ∧ y < 2147483648)) (kt : x < y → bk_V Γ D R own cc tb k n w L (st) tgt) (kf : y ≤ x → bk_V Γ D R own cc tb k n w L (st) (pc + 3)) : bk_V Γ D R own cc tb k n w L (.int (iI y) :: .int (iI x) :: st) pc := by
  obtain ⟨p, l, e, s, m, args, below, meth, c, A, Q, ret, thr⟩ := Γ
  exact fun G H locs ls hW hS hL => lv_icmp_lt G.1 G.2.1 d ht (fun c => kt ((iI_lt h.1 h.2).mp c) G H locs ls hW hS hL) (fun c => kf (Int.not_lt.mp fun q => c ((iI_lt h.1 h.2).mpr q)) G H locs ls hW hS hL)
theorem br_if_lt {x off : Int} {tgt : Nat} (d : decode cc pc = .ok (.ifCond .lt off, 3)) (ht : (pc : Int) + off = (tgt : Int)) (h : (-2147483648 ≤ x ∧ x < 2147483648)) (kt : x < 0 → bk_V Γ D R own cc tb k n w L (st) tgt) (kf : 0 ≤ x → bk_V Γ D R own cc tb k n w L (st) (pc + 3)) : bk_V Γ D R own cc tb k n w L (.int (iI x) :: st) pc := by
  have h : (-2147483648 ≤ x ∧ x < 2147483648) ∧ (-2147483648 ≤ (0 : Int) ∧ (0 : Int) < 2147483648) := ⟨h, by decide⟩
  have e0 : (0 : Int32) = iI 0 := rfl
  obtain ⟨p, l, e, s, m, args, below, meth, c, A, Q, ret, thr⟩ := Γ
  exact fun G H locs ls hW hS hL => lv_if_lt G.1 G.2.1 d ht (fun c => kt (by rw [e0] at c; exact (iI_lt h.1 h.2).mp c) G H locs ls hW hS hL) (fun c => kf (by rw [e0] at c; exact Int.not_lt.mp fun q => c ((iI_lt h.1 h.2).mpr q)) G H locs ls hW hS hL)
theorem br_icmp_ge {x y off : Int} {tgt : Nat} (d : decode cc pc = .ok (.if_icmp .ge off, 3)) (ht : (pc : Int) + off = (tgt : Int)) (h : (-2147483648 ≤ x ∧ x < 2147483648) ∧ (-2147483648 ≤ y ∧ y < 2147483648)) (kt : y ≤ x → bk_V Γ D R own cc tb k n w L (st) tgt) (kf : x < y → bk_V Γ D R own cc tb k n w L (st) (pc + 3)) : bk_V Γ D R own cc tb k n w L (.int (iI y) :: .int (iI x) :: st) pc := by
  obtain ⟨p, l, e, s, m, args, below, meth, c, A, Q, ret, thr⟩ := Γ
  exact fun G H locs ls hW hS hL => lv_icmp_ge G.1 G.2.1 d ht (fun c => kt ((iI_le h.2 h.1).mp c) G H locs ls hW hS hL) (fun c => kf (Int.not_le.mp fun q => c ((iI_le h.2 h.1).mpr q)) G H locs ls hW hS hL)
theorem br_if_ge {x off : Int} {tgt : Nat} (d : decode cc pc = .ok (.ifCond .ge off, 3)) (ht : (pc : Int) + off = (tgt : Int)) (h : (-2147483648 ≤ x ∧ x < 2147483648)) (kt : 0 ≤ x → bk_V Γ D R own cc tb k n w L (st) tgt) (kf : x < 0 → bk_V Γ D R own cc tb k n w L (st) (pc + 3)) : bk_V Γ D R own cc tb k n w L (.int (iI x) :: st) pc := by
  have h : (-2147483648 ≤ x ∧ x < 2147483648) ∧ (-2147483648 ≤ (0 : Int) ∧ (0 : Int) < 2147483648) := ⟨h, by decide⟩
  have e0 : (0 : Int32) = iI 0 := rfl
  obtain ⟨p, l, e, s, m, args, below, meth, c, A, Q, ret, thr⟩ := Γ
  exact fun G H locs ls hW hS hL => lv_if_ge G.1 G.2.1 d ht (fun c => kt (by rw [e0] at c; exact (iI_le h.2 h.1).mp c) G H locs ls hW hS hL) (fun c => kf (by rw [e0] at c; exact Int.not_le.mp fun q => c ((iI_le h.2 h.1).mpr q)) G H locs ls hW hS hL)
theorem br_icmp_gt {x y off : Int} {tgt : Nat} (d : decode cc pc = .ok (.if_icmp .gt off, 3)) (ht : (pc : Int) + off = (tgt : Int)) (h : (-2147483648 ≤ x ∧ x < 2147483648) ∧ (-2147483648 ≤ y ∧ y < 2147483648)) (kt : y < x → bk_V Γ D R own cc tb k n w L (st) tgt) (kf : x ≤ y → bk_V Γ D R own cc tb k n w L (st) (pc + 3)) : bk_V Γ D R own cc tb k n w L (.int (iI y) :: .int (iI x) :: st) pc := by
  obtain ⟨p, l, e, s, m, args, below, meth, c, A, Q, ret, thr⟩ := Γ
  exact fun G H locs ls hW hS hL => lv_icmp_gt G.1 G.2.1 d ht (fun c => kt ((iI_lt h.2 h.1).mp c) G H locs ls hW hS hL) (fun c => kf (Int.not_lt.mp fun q => c ((iI_lt h.2 h.1).mpr q)) G H locs ls hW hS hL)
theorem br_if_gt {x off : Int} {tgt : Nat} (d : decode cc pc = .ok (.ifCond .gt off, 3)) (ht : (pc : Int) + off = (tgt : Int)) (h : (-2147483648 ≤ x ∧ x < 2147483648)) (kt : 0 < x → bk_V Γ D R own cc tb k n w L (st) tgt) (kf : x ≤ 0 → bk_V Γ D R own cc tb k n w L (st) (pc + 3)) : bk_V Γ D R own cc tb k n w L (.int (iI x) :: st) pc := by
  have h : (-2147483648 ≤ x ∧ x < 2147483648) ∧ (-2147483648 ≤ (0 : Int) ∧ (0 : Int) < 2147483648) := ⟨h, by decide⟩
  have e0 : (0 : Int32) = iI 0 := rfl
  obtain ⟨p, l, e, s, m, args, below, meth, c, A, Q, ret, thr⟩ := Γ
  exact fun G H locs ls hW hS hL => lv_if_gt G.1 G.2.1 d ht (fun c => kt (by rw [e0] at c; exact (iI_lt h.2 h.1).mp c) G H locs ls hW hS hL) (fun c => kf (by rw [e0] at c; exact Int.not_lt.mp fun q => c ((iI_lt h.2 h.1).mpr q)) G H locs ls hW hS hL)
theorem br_icmp_le {x y off : Int} {tgt : Nat} (d : decode cc pc = .ok (.if_icmp .le off, 3)) (ht : (pc : Int) + off = (tgt : Int)) (h : (-2147483648 ≤ x ∧ x < 2147483648) ∧ (-2147483648 ≤ y ∧ y < 2147483648)) (kt : x ≤ y → bk_V Γ D R own cc tb k n w L (st) tgt) (kf : y < x → bk_V Γ D R own cc tb k n w L (st) (pc + 3)) : bk_V Γ D R own cc tb k n w L (.int (iI y) :: .int (iI x) :: st) pc := by
  obtain ⟨p, l, e, s, m, args, below, meth, c, A, Q, ret, thr⟩ := Γ
  exact fun G H locs ls hW hS hL => lv_icmp_le G.1 G.2.1 d ht (fun c => kt ((iI_le h.1 h.2).mp c) G H locs ls hW hS hL) (fun c => kf (Int.not_le.mp fun q => c ((iI_le h.1 h.2).mpr q)) G H locs ls hW hS hL)
theorem br_if_le {x off : Int} {tgt : Nat} (d : decode cc pc = .ok (.ifCond .le off, 3)) (ht : (pc : Int) + off = (tgt : Int)) (h : (-2147483648 ≤ x ∧ x < 2147483648)) (kt : x ≤ 0 → bk_V Γ D R own cc tb k n w L (st) tgt) (kf : 0 < x → bk_V Γ D R own cc tb k n w L (st) (pc + 3)) : bk_V Γ D R own cc tb k n w L (.int (iI x) :: st) pc := by
  have h : (-2147483648 ≤ x ∧ x < 2147483648) ∧ (-2147483648 ≤ (0 : Int) ∧ (0 : Int) < 2147483648) := ⟨h, by decide⟩
  have e0 : (0 : Int32) = iI 0 := rfl
  obtain ⟨p, l, e, s, m, args, below, meth, c, A, Q, ret, thr⟩ := Γ
  exact fun G H locs ls hW hS hL => lv_if_le G.1 G.2.1 d ht (fun c => kt (by rw [e0] at c; exact (iI_le h.1 h.2).mp c) G H locs ls hW hS hL) (fun c => kf (by rw [e0] at c; exact Int.not_le.mp fun q => c ((iI_le h.1 h.2).mpr q)) G H locs ls hW hS hL)
theorem br_goto {off : Int} {tgt : Nat} (d : decode cc pc = .ok (.goto off, 3)) (ht : (pc : Int) + off = (tgt : Int)) (kk : bk_V Γ D R own cc tb k n w L (st) tgt) : bk_V Γ D R own cc tb k n w L (st) pc := by
  obtain ⟨p, l, e, s, m, args, below, meth, c, A, Q, ret, thr⟩ := Γ
  exact fun G H locs ls hW hS hL => lv_goto G.1 G.2.1 d ht (kk G H locs ls hW hS hL)
theorem br_tabOut {dflt lo hi : Int} {offs : Array Int} {len : Nat} {x : Int} {tgt : Nat} (d : decode cc pc = .ok (.tableswitch dflt lo hi offs, len)) (hx : (-2147483648 ≤ x ∧ x < 2147483648)) (h : x < lo ∨ hi < x) (ht : (pc : Int) + dflt = (tgt : Int)) (kk : bk_V Γ D R own cc tb k n w L (st) tgt) : bk_V Γ D R own cc tb k n w L (.int (iI x) :: st) pc := by
  obtain ⟨p, l, e, s, m, args, below, meth, c, A, Q, ret, thr⟩ := Γ
  exact fun G H locs ls hW hS hL => lv_tableOut G.1 G.2.1 d (by rw [iI_toInt hx]; exact h) ht (kk G H locs ls hW hS hL)
theorem br_tabIn {dflt lo hi : Int} {offs : Array Int} {len : Nat} {x off : Int} {tgt : Nat} (d : decode cc pc = .ok (.tableswitch dflt lo hi offs, len)) (hx : (-2147483648 ≤ x ∧ x < 2147483648)) (h1 : lo ≤ x) (h2 : x ≤ hi) (ho : offs[(x - lo).toNat]? = some off) (ht : (pc : Int) + off = (tgt : Int)) (kk : bk_V Γ D R own cc tb k n w L (st) tgt) : bk_V Γ D R own cc tb k n w L (.int (iI x) :: st) pc := by
  obtain ⟨p, l, e, s, m, args, below, meth, c, A, Q, ret, thr⟩ := Γ
  exact fun G H locs ls hW hS hL => lv_tableIn G.1 G.2.1 d (by rw [iI_toInt hx]; omega) (by rw [iI_toInt hx]; omega) (by rw [iI_toInt hx]; exact ho) ht (kk G H locs ls hW hS hL)
theorem br_topi {x y : Int} (h : x = y) (kk : bk_V Γ D R own cc tb k n w L (.int (iI y) :: st) pc) : bk_V Γ D R own cc tb k n w L (.int (iI x) :: st) pc := h ▸ kk
theorem br_ifnull {x : Nat} {off : Int} (d : decode cc pc = .ok (.ifnull off, 3)) (kk : bk_V Γ D R own cc tb k n w L (st) (pc + 3)) : bk_V Γ D R own cc tb k n w L (.ref x :: st) pc := by
  obtain ⟨p, l, e, s, m, args, below, meth, c, A, Q, ret, thr⟩ := Γ
  exact fun G H locs ls hW hS hL => lv_ifnull G.1 G.2.1 d (kk G H locs ls hW hS hL)
theorem br_fg_0 {t : List (Option Value)} {b : Option Value} (kk : bk_V Γ D R own cc tb k n w (none :: t) (st) pc) : bk_V Γ D R own cc tb k n w (b :: t) (st) pc := by
  refine bk_V.locals (L' := none :: t) (by simp) (fun q v h => ?_) kk
  match q, h with
  | 0, h => exact absurd h (by simp)
  | q + 1, h => exact h
theorem br_fg_1 {a0 : Option Value} {t : List (Option Value)} {b : Option Value} (kk : bk_V Γ D R own cc tb k n w (a0 :: none :: t) (st) pc) : bk_V Γ D R own cc tb k n w (a0 :: b :: t) (st) pc := by
  refine bk_V.locals (L' := a0 :: none :: t) (by simp) (fun q v h => ?_) kk
  match q, h with
  | 0, h => exact h
  | 1, h => exact absurd h (by simp)
  | q + 2, h => exact h
theorem br_fg_2 {a0 a1 : Option Value} {t : List (Option Value)} {b : Option Value} (kk : bk_V Γ D R own cc tb k n w (a0 :: a1 :: none :: t) (st) pc) : bk_V Γ D R own cc tb k n w (a0 :: a1 :: b :: t) (st) pc := by
  refine bk_V.locals (L' := a0 :: a1 :: none :: t) (by simp) (fun q v h => ?_) kk
  match q, h with
  | 0, h => exact h
  | 1, h => exact h
  | 2, h => exact absurd h (by simp)
  | q + 3, h => exact h
theorem br_fg_3 {a0 a1 a2 : Option Value} {t : List (Option Value)} {b : Option Value} (kk : bk_V Γ D R own cc tb k n w (a0 :: a1 :: a2 :: none :: t) (st) pc) : bk_V Γ D R own cc tb k n w (a0 :: a1 :: a2 :: b :: t) (st) pc := by
  refine bk_V.locals (L' := a0 :: a1 :: a2 :: none :: t) (by simp) (fun q v h => ?_) kk
  match q, h with
  | 0, h => exact h
  | 1, h => exact h
  | 2, h => exact h
  | 3, h => exact absurd h (by simp)
  | q + 4, h => exact h
theorem br_fg_4 {a0 a1 a2 a3 : Option Value} {t : List (Option Value)} {b : Option Value} (kk : bk_V Γ D R own cc tb k n w (a0 :: a1 :: a2 :: a3 :: none :: t) (st) pc) : bk_V Γ D R own cc tb k n w (a0 :: a1 :: a2 :: a3 :: b :: t) (st) pc := by
  refine bk_V.locals (L' := a0 :: a1 :: a2 :: a3 :: none :: t) (by simp) (fun q v h => ?_) kk
  match q, h with
  | 0, h => exact h
  | 1, h => exact h
  | 2, h => exact h
  | 3, h => exact h
  | 4, h => exact absurd h (by simp)
  | q + 5, h => exact h
theorem br_fg_5 {a0 a1 a2 a3 a4 : Option Value} {t : List (Option Value)} {b : Option Value} (kk : bk_V Γ D R own cc tb k n w (a0 :: a1 :: a2 :: a3 :: a4 :: none :: t) (st) pc) : bk_V Γ D R own cc tb k n w (a0 :: a1 :: a2 :: a3 :: a4 :: b :: t) (st) pc := by
  refine bk_V.locals (L' := a0 :: a1 :: a2 :: a3 :: a4 :: none :: t) (by simp) (fun q v h => ?_) kk
  match q, h with
  | 0, h => exact h
  | 1, h => exact h
  | 2, h => exact h
  | 3, h => exact h
  | 4, h => exact h
  | 5, h => exact absurd h (by simp)
  | q + 6, h => exact h
theorem br_fg_6 {a0 a1 a2 a3 a4 a5 : Option Value} {t : List (Option Value)} {b : Option Value} (kk : bk_V Γ D R own cc tb k n w (a0 :: a1 :: a2 :: a3 :: a4 :: a5 :: none :: t) (st) pc) : bk_V Γ D R own cc tb k n w (a0 :: a1 :: a2 :: a3 :: a4 :: a5 :: b :: t) (st) pc := by
  refine bk_V.locals (L' := a0 :: a1 :: a2 :: a3 :: a4 :: a5 :: none :: t) (by simp) (fun q v h => ?_) kk
  match q, h with
  | 0, h => exact h
  | 1, h => exact h
  | 2, h => exact h
  | 3, h => exact h
  | 4, h => exact h
  | 5, h => exact h
  | 6, h => exact absurd h (by simp)
  | q + 7, h => exact h
theorem br_fg_7 {a0 a1 a2 a3 a4 a5 a6 : Option Value} {t : List (Option Value)} {b : Option Value} (kk : bk_V Γ D R own cc tb k n w (a0 :: a1 :: a2 :: a3 :: a4 :: a5 :: a6 :: none :: t) (st) pc) : bk_V Γ D R own cc tb k n w (a0 :: a1 :: a2 :: a3 :: a4 :: a5 :: a6 :: b :: t) (st) pc := by
  refine bk_V.locals (L' := a0 :: a1 :: a2 :: a3 :: a4 :: a5 :: a6 :: none :: t) (by simp) (fun q v h => ?_) kk
  match q, h with
  | 0, h => exact h
  | 1, h => exact h
  | 2, h => exact h
  | 3, h => exact h
  | 4, h => exact h
  | 5, h => exact h
  | 6, h => exact h
  | 7, h => exact absurd h (by simp)
  | q + 8, h => exact h
theorem br_fg_8 {a0 a1 a2 a3 a4 a5 a6 a7 : Option Value} {t : List (Option Value)} {b : Option Value} (kk : bk_V Γ D R own cc tb k n w (a0 :: a1 :: a2 :: a3 :: a4 :: a5 :: a6 :: a7 :: none :: t) (st) pc) : bk_V Γ D R own cc tb k n w (a0 :: a1 :: a2 :: a3 :: a4 :: a5 :: a6 :: a7 :: b :: t) (st) pc := by
  refine bk_V.locals (L' := a0 :: a1 :: a2 :: a3 :: a4 :: a5 :: a6 :: a7 :: none :: t) (by simp) (fun q v h => ?_) kk
  match q, h with
  | 0, h => exact h
  | 1, h => exact h
  | 2, h => exact h
  | 3, h => exact h
  | 4, h => exact h
  | 5, h => exact h
  | 6, h => exact h
  | 7, h => exact h
  | 8, h => exact absurd h (by simp)
  | q + 9, h => exact h
end BROWS
