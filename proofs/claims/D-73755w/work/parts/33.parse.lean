/-! READING, the model's state -/
set_option maxRecDepth 100000
def mT (T : Int → Int) (g : Int → Int) (n : Int) : Prop := (∀ z : Int, 0 ≤ z → z < n → g z = T z ∧ 0 ≤ T z ∧ T z < 256) ∧ 0 ≤ n ∧ n ≤ 640
def mTk (T : Int → Int) (n : Int) (F : Nat → Int) (wd : Int) (tk : Tk) : Prop := F 6 = tk.s ∧ F 5 = tk.f ∧ F 4 = tk.e ∧ (tk.s = 3 → F 7 = tk.v ∧ 0 ≤ tk.v ∧ tk.v ≤ 99) ∧ (tk.s = 2 → wd = hashT T tk.f tk.e ∧ allLt T tk.f tk.e ∧ tk.f < tk.e) ∧ (0 ≤ tk.s ∧ tk.s ≤ 4) ∧ (0 ≤ tk.f ∧ tk.f ≤ 640) ∧ (0 ≤ tk.e ∧ tk.e ≤ n)
def mKp (F F' : Nat → Int) : Prop := F' 0 = F 0 ∧ F' 2 = F 2 ∧ F' 3 = F 3 ∧ F' 8 = F 8 ∧ F' 9 = F 9 ∧ F' 14 = F 14 ∧ F' 16 = F 16 ∧ F' 17 = F 17 ∧ F' 15 = F 15
def mKq (F F' : Nat → Int) : Prop := F' 0 = F 0 ∧ F' 2 = F 2 ∧ F' 3 = F 3 ∧ F' 8 = F 8 ∧ F' 9 = F 9 ∧ F' 14 = F 14 ∧ F' 16 = F 16 ∧ F' 17 = F 17
theorem mKp_0 (F : Nat → Int) : mKp F F := ⟨rfl, rfl, rfl, rfl, rfl, rfl, rfl, rfl, rfl⟩
theorem mTk_mk {T : Int → Int} {n : Int} {F : Nat → Int} {wd : Int} (s f e : Int) (h6 : F 6 = s) (h5 : F 5 = f) (h4 : F 4 = e) (hs : s = 0 ∨ s = 1 ∨ s = 4) (hf : 0 ≤ f ∧ f ≤ 640) (he : 0 ≤ e ∧ e ≤ n) : mTk T n F wd (f, s, e, 0) :=
  ⟨h6, h5, h4, fun q => by have : s = 3 := q; omega, fun q => by have : s = 2 := q; omega, (by omega : 0 ≤ s ∧ s ≤ 4), hf, he⟩
theorem mTk_word {T : Int → Int} {n : Int} {F : Nat → Int} {wd : Int} (f e : Int) (h6 : F 6 = 2) (h5 : F 5 = f) (h4 : F 4 = e) (hw : wd = hashT T f e) (ha : allLt T f e) (hl : f < e) (hf : 0 ≤ f ∧ f ≤ 640) (he : 0 ≤ e ∧ e ≤ n) : mTk T n F wd (f, 2, e, 0) :=
  ⟨h6, h5, h4, fun q => by have : (2 : Int) = 3 := q; omega, fun _ => ⟨hw, ha, hl⟩, (by omega : (0 : Int) ≤ 2 ∧ (2 : Int) ≤ 4), hf, he⟩
theorem mTk_num {T : Int → Int} {n : Int} {F : Nat → Int} {wd : Int} (f e v : Int) (h6 : F 6 = 3) (h5 : F 5 = f) (h4 : F 4 = e) (h7 : F 7 = v) (hv : 0 ≤ v ∧ v ≤ 99) (hf : 0 ≤ f ∧ f ≤ 640) (he : 0 ≤ e ∧ e ≤ n) : mTk T n F wd (f, 3, e, v) :=
  ⟨h6, h5, h4, fun _ => ⟨h7, hv⟩, fun q => by have : (3 : Int) = 2 := q; omega, (by omega : (0 : Int) ≤ 3 ∧ (3 : Int) ≤ 4), hf, he⟩
theorem goEnd {T : Int → Int} {n z : Int} {F : Nat → Int} {wd : Int} {tk : Tk} (hz : tokR T n z tk) (h : mTk T n F wd tk) : mTk T n F wd (tokF T n z) := by rw [tokF_eq hz]; exact h
theorem numV_bd {T : Int → Int} {f e : Int} (h : allDg T f e) (hl : f ≤ e ∧ e - f ≤ 2) : 0 ≤ numV T f e ∧ numV T f e ≤ 99 := by
  unfold numV
  split
  · omega
  · have h0 := h f (Int.le_refl _) (by omega)
    unfold isDg at h0
    split
    · omega
    · have h1 := h (f + 1) (by omega) (by omega)
      unfold isDg at h1
      omega
theorem hashT_0 (T : Int → Int) (f : Int) : hashT T f f = 0 := by
  unfold hashT
  rw [if_pos (by omega), show (f - f).toNat = 0 by omega]
  rfl
theorem hashT_step {T : Int → Int} {f z : Int} (h : f ≤ z ∧ z - f < 6) : hashT T f (z + 1) = 27 * hashT T f z + T z - 96 := by
  unfold hashT
  rw [if_pos h.2]
  have e : (if z + 1 - f < 6 then (z + 1 - f).toNat else 6) = (z - f).toNat + 1 := by split <;> omega
  rw [e, hashN]
  congr 3
  omega
theorem hashT_stay {T : Int → Int} {f z : Int} (h : ¬ z - f < 6) : hashT T f (z + 1) = hashT T f z := by
  unfold hashT
  rw [if_neg h, if_neg (by omega)]
theorem numV_0 (T : Int → Int) (f : Int) : numV T f f = 0 := by unfold numV; rw [if_pos (by omega)]
theorem numV_step {T : Int → Int} {f z : Int} (h : f ≤ z ∧ z - f < 2) : numV T f (z + 1) = 10 * numV T f z + T z - 48 := by
  unfold numV
  by_cases c : z = f
  · subst c
    rw [if_neg (by omega), if_pos (by omega), if_pos (by omega)]
    omega
  · have e : z = f + 1 := by omega
    subst e
    rw [if_neg (by omega), if_neg (by omega), if_neg (by omega), if_pos (by omega)]
    omega
theorem numV_stay {T : Int → Int} {f z : Int} (h : ¬ z - f < 2) : numV T f (z + 1) = numV T f z := by
  unfold numV
  rw [if_neg (by omega), if_neg (by omega), if_neg (by omega), if_neg (by omega)]
theorem allLt_0 (T : Int → Int) (f : Int) : allLt T f f := fun y h1 h2 => by omega
theorem allDg_0 (T : Int → Int) (f : Int) : allDg T f f := fun y h1 h2 => by omega
theorem allLt_s {T : Int → Int} {f z : Int} (h : allLt T f z) (hz : isLt (T z)) : allLt T f (z + 1) := fun y h1 h2 => by
  by_cases e : y = z
  · subst e; exact hz
  · exact h y h1 (by omega)
theorem allDg_s {T : Int → Int} {f z : Int} (h : allDg T f z) (hz : isDg (T z)) : allDg T f (z + 1) := fun y h1 h2 => by
  by_cases e : y = z
  · subst e; exact hz
  · exact h y h1 (by omega)
theorem allLt_n {T : Int → Int} {f z : Int} (h : ¬ allLt T f z) : ¬ allLt T f (z + 1) := fun q => h (fun y h1 h2 => q y h1 (by omega))
theorem allDg_n {T : Int → Int} {f z : Int} (h : ¬ allDg T f z) : ¬ allDg T f (z + 1) := fun q => h (fun y h1 h2 => q y h1 (by omega))
theorem allLt_x {T : Int → Int} {f z : Int} (hf : f ≤ z) (hz : ¬ isLt (T z)) : ¬ allLt T f (z + 1) := fun q => hz (q z hf (by omega))
theorem allDg_x {T : Int → Int} {f z : Int} (hf : f ≤ z) (hz : ¬ isDg (T z)) : ¬ allDg T f (z + 1) := fun q => hz (q z hf (by omega))
theorem run_s {T : Int → Int} {n f z : Int} (h : ∀ y : Int, f ≤ y → y < z → y < n ∧ isAl (T y)) (hz : z < n) (ha : isAl (T z)) : ∀ y : Int, f ≤ y → y < z + 1 → y < n ∧ isAl (T y) := fun y h1 h2 => by
  by_cases e : y = z
  · subst e; exact ⟨hz, ha⟩
  · exact h y h1 (by omega)
theorem skip_s {T : Int → Int} {n f z : Int} (h : ∀ y : Int, f ≤ y → y < z → y < n ∧ isSp (T y)) (hz : z < n) (ha : isSp (T z)) : ∀ y : Int, f ≤ y → y < z + 1 → y < n ∧ isSp (T y) := fun y h1 h2 => by
  by_cases e : y = z
  · subst e; exact ⟨hz, ha⟩
  · exact h y h1 (by omega)
/-- a run's first letter tells what it can be -/
theorem notDg_of {T : Int → Int} {f e : Int} (hl : f < e) (h : isLt (T f)) : ¬ allDg T f e := fun q => by
  have := q f (Int.le_refl _) hl
  unfold isLt at h
  unfold isDg at this
  omega
theorem notLt_of {T : Int → Int} {f e : Int} (hl : f < e) (h : isDg (T f)) : ¬ allLt T f e := fun q => by
  have := q f (Int.le_refl _) hl
  unfold isDg at h
  unfold isLt at this
  omega
def PSt (o : Nat) (a : Nat → Nat) (G : Nat → Int → Int) (ex : gC) (T : Int → Int) (n x0 x2 x14 : Int) (tk : Tk) (r : Int → Int) (nd ln : Int) (w : gC) : Prop :=
  ∃ (F : Nat → Int) (wd : Int), w = mw o a F wd (uG G 3 r) ex ∧ mTk T n F wd tk ∧ F 0 = x0 ∧ F 2 = x2 ∧ F 3 = n ∧ F 14 = x14 ∧ F 16 = nd ∧ F 17 = ln ∧ F 8 = 0
def PErr (o : Nat) (a : Nat → Nat) (G : Nat → Int → Int) (ex : gC) (x0 x2 x14 : Int) (k p : Int) (w : gC) : Prop :=
  ∃ (F : Nat → Int) (wd : Int) (g : Int → Int), w = mw o a F wd (uG G 3 g) ex ∧ F 8 = k ∧ F 9 = p ∧ F 0 = x0 ∧ F 2 = x2 ∧ F 14 = x14
