/-! the acts -/
set_option maxRecDepth 100000
/-- an array's function may change where the array isn't -/
theorem gW.arr {D : bk_D} {A : Nat → Prop} {w : gC} {H : Heap} {i j a N : Nat} {f f' : Int → Int} (h : gW D A w H) (hq : w i j = some (a, bI N f)) (he : ∀ z : Int, 0 ≤ z → z < N → f z = f' z) : gW D A (gset w i j (some (a, bI N f'))) H := by
  refine h.set hq ?_ (fun _ _ => rfl)
  have h1 : H[a]? = some (arrV (D.2.1 0) N (fun q : Nat => .int (iI (f (q : Int))))) := (h.1 i j _ hq).1
  show H[a]? = some (arrV (D.2.1 0) N (fun q : Nat => .int (iI (f' (q : Int)))))
  rw [h1]
  unfold arrV
  congr 3
  funext q
  have := q.isLt
  show Value.int (iI (f ((q : Nat) : Int))) = Value.int (iI (f' ((q : Nat) : Int)))
  rw [he _ (by omega) (by omega)]
theorem br_mext {Γ : bk_G} {D : bk_D} {R : Room} {own : String} {cc : ByteArray} {tb : List ExceptionTableEntry} {k n : Nat} {L : List (Option Value)} {st : List Value} {pc : Nat} {o : Nat} {a : Nat → Nat} {F : Nat → Int} {wd : Int} {G : Nat → Int → Int} {ex : gC} {f' : Int → Int} (q : Nat) (N : Nat) (hq : mw o a F wd G ex (40 + q) 0 = some (a q, bI N (G q))) (hs : gset (mw o a F wd G ex) (40 + q) 0 (some (a q, bI N f')) = mw o a F wd (uG G q f') ex) (he : ∀ z : Int, 0 ≤ z → z < N → G q z = f' z) (kk : bk_V Γ D R own cc tb k n (mw o a F wd (uG G q f') ex) L st pc) : bk_V Γ D R own cc tb k n (mw o a F wd G ex) L st pc := by
  obtain ⟨p, l, e, s, m, args, below, meth, c, A, Q, ret, thr⟩ := Γ
  exact fun H0 H locs ls hW hS hL => kk H0 H locs ls (by rw [← hs]; exact hW.arr hq he) hS hL
theorem br_mext2 {Γ : bk_G} {D : bk_D} {R : Room} {own : String} {cc : ByteArray} {tb : List ExceptionTableEntry} {k n : Nat} {L : List (Option Value)} {st : List Value} {pc : Nat} {o : Nat} {a : Nat → Nat} {F : Nat → Int} {wd : Int} {G : Nat → Int → Int} {ex : gC} {f' : Int → Int} (he : ∀ z : Int, 0 ≤ z → z < 308 → G 2 z = f' z) (kk : bk_V Γ D R own cc tb k n (mw o a F wd (uG G 2 f') ex) L st pc) : bk_V Γ D R own cc tb k n (mw o a F wd G ex) L st pc := br_mext 2 308 rfl (mw_G2 f') he kk
def snOK (g : Int → Int) (um : Int) (hist : Int → Int → Int) : Prop := ∀ i j : Int, 0 ≤ i → i < um → 0 ≤ j → j < 308 → g (308 * i + j) = hist i j
def pushH (hist : Int → Int → Int) (um : Int) (r : Int → Int) : Int → Int → Int := fun i => if um = 10 then (if i = 9 then r else hist (i + 1)) else (if i = um then r else hist i)
def pushU (um : Int) : Int := if um = 10 then 10 else um + 1
theorem pushU_bd {um : Int} (h : 0 ≤ um ∧ um ≤ 10) : 1 ≤ pushU um ∧ pushU um ≤ 10 := by unfold pushU; split <;> omega
/-- a model's state: the row, how many rows are kept and which, the tape and how much of it, the last fault, whether it refused -/
def MS (o : Nat) (a : Nat → Nat) (ex : gC) (r : Int → Int) (um : Int) (hist : Int → Int → Int) (tp : Int → Int) (len flt th : Int) (w : gC) : Prop :=
  ∃ (F : Nat → Int) (wd : Int) (G : Nat → Int → Int), w = mw o a F wd G ex ∧ G 2 = r ∧ F 14 = um ∧ F 2 = len ∧ F 8 = flt ∧ F 0 = th ∧ snOK (G 4) um hist ∧ (∀ z : Int, 0 ≤ z → z < len → G 1 z = tp z) ∧ (0 ≤ um ∧ um ≤ 10) ∧ (0 ≤ len ∧ len ≤ 640)
/-- fill: of the first k pauses -/
def fillR (r0 : Int → Int) : Nat → (Int → Int) → Int → Prop
  | 0, r, n => r = r0 ∧ n = 0
  | k + 1, r, n => ∃ (r1 : Int → Int) (n1 : Int), fillR r0 k r1 n1 ∧ ((¬ rAt r1 k = 0 ∧ r = r1 ∧ n = n1) ∨ (rAt r1 k = 0 ∧ isBest r1 k (-2) ∧ r = r1 ∧ n = n1) ∨ (rAt r1 k = 0 ∧ ∃ b : Int, isBest r1 k b ∧ ¬ b = -2 ∧ r = putA r1 k (b + 1) ∧ n = n1 + 1))
theorem fillR_RW {r0 : Int → Int} (h : RW r0) : ∀ (k : Nat) (r : Int → Int) (n : Int), (k : Int) ≤ r0 3 → fillR r0 k r n → RW r ∧ r 3 = r0 3 ∧ 0 ≤ n ∧ n ≤ k := by
  intro k
  induction k with
  | zero => rintro r n - ⟨rfl, rfl⟩; exact ⟨h, rfl, by omega, by omega⟩
  | succ k ih =>
    rintro r n hk ⟨r1, n1, h1, h2⟩
    obtain ⟨a1, a2, a3, a4⟩ := ih r1 n1 (by omega) h1
    rcases h2 with ⟨-, rfl, rfl⟩ | ⟨-, -, rfl, rfl⟩ | ⟨-, b, hb, hb2, rfl, rfl⟩
    · exact ⟨a1, a2, by omega, by omega⟩
    · exact ⟨a1, a2, by omega, by omega⟩
    · have hf : fitsAt r1 k b := by
        rcases hb with ⟨q, -⟩ | ⟨q, -⟩
        · exact absurd q hb2
        · exact q
      have hf1 := hf.1.1
      have hf2 := hf.1.2
      exact ⟨a1.mv (by omega) (Or.inr ⟨by omega, by omega⟩), by rw [putA_lo _ _ _ (by omega) (by omega)]; exact a2, by omega, by omega⟩
/-- settle: n steps -/
def setR (r0 : Int → Int) : Nat → (Int → Int) → Prop
  | 0, r => r = r0
  | n + 1, r => ∃ (r1 : Int → Int) (b : Int), setR r0 n r1 ∧ isBetter r1 b ∧ ¬ b = -2 ∧ r = putA r1 (b / 100) (b % 100 + 1)
theorem isBetter_at {r : Int → Int} (h0 : RW r) {b : Int} (h : isBetter r b) (hb : ¬ b = -2) : cand r (b / 100) (b % 100) ∧ 0 ≤ b ∧ b < 2400 := by
  rcases h with ⟨h1, -⟩ | ⟨y, v, h1, h2, -⟩
  · exact absurd h1 hb
  · have h3 := cand_bd h0 h2
    have e1 : b / 100 = y := by omega
    have e2 : b % 100 = v := by omega
    rw [e1, e2]
    exact ⟨h2, by omega, by omega⟩
theorem setR_RW {r0 : Int → Int} (h : RW r0) : ∀ (n : Nat) (r : Int → Int), setR r0 n r → RW r ∧ r 3 = r0 3 := by
  intro n
  induction n with
  | zero => rintro r rfl; exact ⟨h, rfl⟩
  | succ n ih =>
    rintro r ⟨r1, b, h1, h2, h3, rfl⟩
    obtain ⟨a1, a2⟩ := ih r1 h1
    obtain ⟨hc, -, -⟩ := isBetter_at a1 h2 h3
    have hf1 := hc.2.2.2.1.1
    have hf2 := hc.2.2.2.1.2
    have hk := hc.1
    exact ⟨a1.mv hk (Or.inr ⟨by omega, by omega⟩), by rw [putA_lo _ _ _ hk.1 (by omega)]; exact a2⟩
def placeOk (r : Int → Int) (k t : Int) : Prop := (0 ≤ k ∧ k < r 3) ∧ (0 ≤ t ∧ t ≤ 47) ∧ ¬ rAt r k - 1 = t ∧ whyS r k t = 0
noncomputable def placeS (r : Int → Int) (k t : Int) : Int := if (0 ≤ k ∧ k < r 3) ∧ (0 ≤ t ∧ t ≤ 47) ∧ ¬ rAt r k - 1 = t then whyS r k t else -1
def takeOk (r : Int → Int) (k : Int) : Prop := (0 ≤ k ∧ k < r 3) ∧ ¬ rAt r k = 0
theorem snOK_pushA {g g2 g4 r : Int → Int} {hist : Int → Int → Int} {um : Int} (hu : um = 10) (h : snOK g4 um hist) (h2 : ∀ y : Int, 0 ≤ y → y < 2772 → g y = g4 (y + 308)) (i2 : ∀ y : Int, 308 * (um - 1) ≤ y → y < 308 * (um - 1) + 308 → g2 y = r (y - 308 * (um - 1))) (i3 : ∀ y : Int, y < 308 * (um - 1) → g2 y = g y) : snOK g2 (pushU um) (pushH hist um r) := by
  subst hu
  intro i j a1 a2 a3 a4
  have e : pushU 10 = 10 := rfl
  rw [e] at a2
  unfold pushH
  rw [if_pos rfl]
  by_cases hi : i = 9
  · rw [if_pos hi, i2 _ (by omega) (by omega)]
    congr 1
    omega
  · rw [if_neg hi, i3 _ (by omega), h2 _ (by omega) (by omega), show 308 * i + j + 308 = 308 * (i + 1) + j by omega]
    exact h (i + 1) j (by omega) (by omega) a3 a4
theorem snOK_pushB {g2 g4 r : Int → Int} {hist : Int → Int → Int} {um : Int} (hu : ¬ um = 10) (h0 : 0 ≤ um ∧ um ≤ 10) (h : snOK g4 um hist) (i2 : ∀ y : Int, 308 * um ≤ y → y < 308 * um + 308 → g2 y = r (y - 308 * um)) (i3 : ∀ y : Int, y < 308 * um → g2 y = g4 y) : snOK g2 (pushU um) (pushH hist um r) := by
  intro i j a1 a2 a3 a4
  have e : pushU um = um + 1 := if_neg hu
  rw [e] at a2
  unfold pushH
  rw [if_neg hu]
  by_cases hi : i = um
  · rw [if_pos hi, i2 _ (by omega) (by omega)]
    congr 1
    omega
  · rw [if_neg hi, i3 _ (by omega)]
    exact h i j a1 (by omega) a3 a4
theorem uG_same {G : Nat → Int → Int} {q : Nat} {g : Int → Int} (h : g = G q) : G = uG G q g := by rw [h, uG_self]
theorem fillR_s1 {r0 r1 : Int → Int} {x n : Int} (h0 : 0 ≤ x) (h : fillR r0 x.toNat r1 n) (ha : ¬ rAt r1 x = 0) : fillR r0 (x + 1).toNat r1 n := by
  rw [show (x + 1).toNat = x.toNat + 1 by omega]
  exact ⟨r1, n, h, Or.inl ⟨by rw [Int.toNat_of_nonneg h0]; exact ha, rfl, rfl⟩⟩
theorem fillR_s2 {r0 r1 : Int → Int} {x n : Int} (h0 : 0 ≤ x) (h : fillR r0 x.toNat r1 n) (ha : rAt r1 x = 0) (hb : isBest r1 x (-2)) : fillR r0 (x + 1).toNat r1 n := by
  rw [show (x + 1).toNat = x.toNat + 1 by omega]
  exact ⟨r1, n, h, Or.inr (Or.inl ⟨by rw [Int.toNat_of_nonneg h0]; exact ha, by rw [Int.toNat_of_nonneg h0]; exact hb, rfl, rfl⟩)⟩
theorem fillR_s3 {r0 r1 : Int → Int} {x n b : Int} (h0 : 0 ≤ x) (h : fillR r0 x.toNat r1 n) (ha : rAt r1 x = 0) (hb : isBest r1 x b) (hc : ¬ b = -2) : fillR r0 (x + 1).toNat (putA r1 x (b + 1)) (n + 1) := by
  rw [show (x + 1).toNat = x.toNat + 1 by omega]
  exact ⟨r1, n, h, Or.inr (Or.inr ⟨by rw [Int.toNat_of_nonneg h0]; exact ha, b, by rw [Int.toNat_of_nonneg h0]; exact hb, hc, by rw [Int.toNat_of_nonneg h0], rfl⟩)⟩
theorem fillR_RWx {r0 r1 : Int → Int} (h : RW r0) {x n : Int} (h0 : 0 ≤ x ∧ x ≤ r0 3) (hf : fillR r0 x.toNat r1 n) : RW r1 ∧ r1 3 = r0 3 ∧ 0 ≤ n ∧ n ≤ 24 := by
  have hn := h.n
  obtain ⟨a, b, c, d⟩ := fillR_RW h x.toNat r1 n (by omega) hf
  exact ⟨a, b, c, by omega⟩
theorem setR_s {r0 r1 : Int → Int} {n b : Int} (h0 : 0 ≤ n) (h : setR r0 n.toNat r1) (hb : isBetter r1 b) (hc : ¬ b = -2) : setR r0 (n + 1).toNat (putA r1 (b / 100) (b % 100 + 1)) := by
  rw [show (n + 1).toNat = n.toNat + 1 by omega]
  exact ⟨r1, b, h, hb, hc, rfl⟩
/-! the tape -/
def byteS (z k : Int) : Int := z / 2 ^ k.toNat % 256
def wordB (z i : Int) : Int := byteS z (24 - 8 * i)
theorem byteS_bd (z k : Int) : 0 ≤ byteS z k ∧ byteS z k < 256 := by unfold byteS; omega
theorem iI_bv (z : Int) : ((iI z).toBitVec.toNat : Int) = z % 4294967296 := by
  show (((Int32.ofInt z).toBitVec.toNat : Nat) : Int) = _
  rw [Int32.toBitVec_ofInt, BitVec.toNat_ofInt]
  omega
theorem nI_iI (n : Nat) : nI n = iI (n : Int) := by unfold nI iI; exact (Int32.ofInt_eq_ofNat (n := n)).symm
theorem byte_m {z k : Int} (hk : k = 24 ∨ k = 16 ∨ k = 8 ∨ k = 0) : iI (((iI z).toUInt32 >>> ((iI k).toUInt32 &&& Int32.toUInt32 31)).toInt32.toInt) &&& iI 255 = iI (byteS z k) := by
  have h0 : ∀ e : Int32, iI e.toInt = e := fun e => Int32.ofInt_toInt e
  rw [h0, pk_and _ 8 (by decide), nI_iI]
  have hb := iI_bv z
  congr 1
  rcases hk with rfl | rfl | rfl | rfl
  · rw [pk_ushr _ _ 24 (by decide)]
    unfold byteS
    rw [show (2 : Int) ^ ((24 : Int).toNat) = 16777216 by decide, show (2 : Nat) ^ 24 = 16777216 by decide, show (2 : Nat) ^ 8 = 256 by decide]
    omega
  · rw [pk_ushr _ _ 16 (by decide)]
    unfold byteS
    rw [show (2 : Int) ^ ((16 : Int).toNat) = 65536 by decide, show (2 : Nat) ^ 16 = 65536 by decide, show (2 : Nat) ^ 8 = 256 by decide]
    omega
  · rw [pk_ushr _ _ 8 (by decide)]
    unfold byteS
    rw [show (2 : Int) ^ ((8 : Int).toNat) = 256 by decide, show (2 : Nat) ^ 8 = 256 by decide]
    omega
  · rw [pk_ushr _ _ 0 (by decide)]
    unfold byteS
    rw [show (2 : Int) ^ ((0 : Int).toNat) = 1 by decide, show (2 : Nat) ^ 0 = 1 by decide, show (2 : Nat) ^ 8 = 256 by decide]
    omega
def pick5 (v0 v1 v2 v3 v4 : Int) (i : Int) : Int := if i = 0 then v0 else if i = 1 then v1 else if i = 2 then v2 else if i = 3 then v3 else v4
/-- the tape with five words laid behind len -/
def feedT (tp : Int → Int) (len v0 v1 v2 v3 v4 : Int) : Int → Int := fun y => if y < len then tp y else wordB (pick5 v0 v1 v2 v3 v4 ((y - len) / 4)) ((y - len) % 4)
/-- words laid one behind the other -/
def laysOK (g g' : Int → Int) (len v : Int) : Prop := (∀ y : Int, y < len → g' y = g y) ∧ ∀ i : Int, 0 ≤ i → i < 4 → g' (len + i) = wordB v i
theorem feedT_ok {tp g0 g1 g2 g3 g4 g5 : Int → Int} {len v0 v1 v2 v3 v4 : Int} (h0 : ∀ z : Int, 0 ≤ z → z < len → g0 z = tp z) (h1 : laysOK g0 g1 len v0) (h2 : laysOK g1 g2 (len + 4) v1) (h3 : laysOK g2 g3 (len + 4 + 4) v2) (h4 : laysOK g3 g4 (len + 4 + 4 + 4) v3) (h5 : laysOK g4 g5 (len + 4 + 4 + 4 + 4) v4) : ∀ z : Int, 0 ≤ z → z < len + 20 → g5 z = feedT tp len v0 v1 v2 v3 v4 z := by
  intro z hz0 hz
  unfold feedT
  by_cases c0 : z < len
  · rw [if_pos c0, h5.1 z (by omega), h4.1 z (by omega), h3.1 z (by omega), h2.1 z (by omega), h1.1 z c0]
    exact h0 z hz0 c0
  · rw [if_neg c0]
    by_cases c1 : z < len + 4
    · rw [h5.1 z (by omega), h4.1 z (by omega), h3.1 z (by omega), h2.1 z (by omega), show z = len + (z - len) by omega, h1.2 (z - len) (by omega) (by omega)]
      unfold pick5
      rw [if_pos (by omega)]
      congr 1
      omega
    · by_cases c2 : z < len + 8
      · rw [h5.1 z (by omega), h4.1 z (by omega), h3.1 z (by omega), show z = len + 4 + (z - len - 4) by omega, h2.2 (z - len - 4) (by omega) (by omega)]
        unfold pick5
        rw [if_neg (by omega), if_pos (by omega)]
        congr 1
        omega
      · by_cases c3 : z < len + 12
        · rw [h5.1 z (by omega), h4.1 z (by omega), show z = len + 4 + 4 + (z - len - 8) by omega, h3.2 (z - len - 8) (by omega) (by omega)]
          unfold pick5
          rw [if_neg (by omega), if_neg (by omega), if_pos (by omega)]
          congr 1
          omega
        · by_cases c4 : z < len + 16
          · rw [h5.1 z (by omega), show z = len + 4 + 4 + 4 + (z - len - 12) by omega, h4.2 (z - len - 12) (by omega) (by omega)]
            unfold pick5
            rw [if_neg (by omega), if_neg (by omega), if_neg (by omega), if_pos (by omega)]
            congr 1
            omega
          · rw [show z = len + 4 + 4 + 4 + 4 + (z - len - 16) by omega, h5.2 (z - len - 16) (by omega) (by omega)]
            unfold pick5
            rw [if_neg (by omega), if_neg (by omega), if_neg (by omega), if_neg (by omega)]
            congr 1
            omega
