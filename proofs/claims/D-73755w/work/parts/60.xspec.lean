/-! x: bytes -/
set_option maxRecDepth 100000
theorem div_bd {v : Int} (hv : -2147483648 ≤ v ∧ v < 2147483648) {k : Int} (hk : k = 24 ∨ k = 16 ∨ k = 8 ∨ k = 0) : -2147483648 ≤ v / 2 ^ k.toNat ∧ v / 2 ^ k.toNat < 2147483648 := by
  rcases hk with rfl | rfl | rfl | rfl
  · rw [show (2 : Int) ^ ((24 : Int).toNat) = 16777216 by decide]; omega
  · rw [show (2 : Int) ^ ((16 : Int).toNat) = 65536 by decide]; omega
  · rw [show (2 : Int) ^ ((8 : Int).toNat) = 256 by decide]; omega
  · rw [show (2 : Int) ^ ((0 : Int).toNat) = 1 by decide]; omega
theorem shr_x {v k : Int} (hk : k = 24 ∨ k = 16 ∨ k = 8 ∨ k = 0) (hv : -2147483648 ≤ v ∧ v < 2147483648) : iI v >>> (iI k &&& 31) = iI (v / 2 ^ k.toNat) := by
  have hb := div_bd hv hk
  have key : ∀ (m : Nat) (s : Int32), (s.toBitVec.smod 32).toNat = m → -2147483648 ≤ v / 2 ^ m ∧ v / 2 ^ m < 2147483648 → iI v >>> s = iI (v / 2 ^ m) := by
    intro m s hs hm
    rw [← Int32.toInt_inj, pk_shr _ _ m hs, iI_toInt hv, iI_toInt hm, Int.shiftRight_eq_div_pow]
    norm_cast
  rcases hk with rfl | rfl | rfl | rfl
  · exact key 24 _ (by decide) hb
  · exact key 16 _ (by decide) hb
  · exact key 8 _ (by decide) hb
  · exact key 0 _ (by decide) hb
theorem i2b_x {z : Int} (hz : -2147483648 ≤ z ∧ z < 2147483648) : (iI z).toInt8.toInt32 = iI (sb (z % 256)) := by
  rw [← Int32.toInt_inj, Int8.toInt_toInt32, Int32.toInt_toInt8, iI_toInt hz]
  unfold sb
  rw [iI_toInt (by split <;> omega)]
  simp only [Int.bmod]
  split <;> split <;> omega
theorem sb_bd {z : Int} (h : 0 ≤ z ∧ z < 256) : -128 ≤ sb z ∧ sb z < 128 := by unfold sb; split <;> omega
