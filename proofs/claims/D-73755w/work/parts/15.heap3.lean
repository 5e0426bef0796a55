/-! ROWS that copy arrays -/
set_option maxRecDepth 100000
section BHEAP3
variable {Γ : bk_G} {D : bk_D} {R : Room} {own : String} {cc : ByteArray} {tb : List ExceptionTableEntry} {k n : Nat} {w : gC} {L : List (Option Value)} {st : List Value} {pc : Nat}
/-- an int array is cloned -/
theorem br_clone {i j a N idx : Nat} {f : Int → Int} (i2 j2 : Nat) (h : w i j = some (a, bI N f)) (hl : Cond.methodLink own idx ⟨"[I", "clone", "()Ljava/lang/Object;"⟩ ∈ lw_all) (hsame : Cond.sameMethod "[I" "java/lang/Object" "clone" "()Ljava/lang/Object;" ∈ lw_all)
    (hnat : Cond.native ⟨"java/lang/Object", "clone", "()Ljava/lang/Object;"⟩ ∈ lw_all) (hinst : Cond.instanceMethod ⟨"java/lang/Object", "clone", "()Ljava/lang/Object;"⟩ ∈ lw_all) (hsel : Cond.selects "[I" ⟨"[I", "clone", "()Ljava/lang/Object;"⟩ ⟨"java/lang/Object", "clone", "()Ljava/lang/Object;"⟩ ∈ lw_all) (hcl : Cond.castable "[I" "java/lang/Cloneable" ∈ lw_tbl)
    (hR : 1 ≤ R.frames ∧ 22 ≤ R.locals) (hk : k + 1 ≤ R.cells) (hn : n + N ≤ R.slots) (hcat : (st.map fun v => v.category).sum ≤ 8) (d : decode cc pc = .ok (.invokevirtual idx, 3))
    (kk : ∀ q : Nat, bk_V Γ D R own cc tb (k + 1) (n + N) (gset w i2 j2 (some (q, bI N f))) L (.ref q :: st) (pc + 3)) : bk_V Γ D R own cc tb k n w L (.ref a :: st) pc := by
  obtain ⟨p, l, e, s, m, args, below, meth, c, A, Q, ret, thr⟩ := Γ
  intro G H locs ls hW hS hL
  have hml : c.maxLocals = ls.size := by rw [hL.1, hL.2.1]
  have hcell : H[a]? = some (arrV (D.2.1 0) N (fun j => .int (iI (f (j : Int))))) := (hW.1 i j _ h).1
  have hnm : s.vm.findClass "[I" = some (D.2.1 0) := ((G.2.2.2.2.1.1.2 0 _ rfl).2 : s.vm.findClass ("[" ++ FieldType.int.toString) = some _)
  have hArr := (G.2.2.2.2.1.1.2 0 _ rfl).1
  obtain ⟨c0, t0', f1, f2, f3⟩ := Cond.castable_spec (va_Nw.use (A := args) rfl (G.2.2.2.2.1.2.1 _ hcl rfl))
  cases hnm.symm.trans f1
  intro T hT X
  have hcellT : T.heap[a]? = some (arrV (D.2.1 0) N (fun j => .int (iI (f (j : Int))))) := by rw [hT]; exact hcell
  obtain ⟨-, kA, hkA, comp, hkind⟩ := State.isArrayOf_alike X.warmed.alike (hArr 0 (fun _ => .null))
  obtain ⟨-, kS, hkS, compS, hkindS⟩ := hArr 0 (fun _ => .null)
  have hslots : (arrV (D.2.1 0) N (fun j => .int (iI (f (j : Int))))).slots.size = N := arrV_size _ _ _
  obtain ⟨vm', X', stp⟩ := X.cloneArray G.1 G.2.2.1 (G.2.2.2.1 _ hl) (G.2.2.2.1 _ hsame) (G.2.2.2.1 _ hnat) (G.2.2.2.1 _ hinst) (G.2.2.2.1 _ hsel) (a := a) (cell := arrV (D.2.1 0) N (fun j => .int (iI (f (j : Int))))) hcellT (fun k h => by cases h) (fun h => by cases h) hnm f2 f3
    (fun i v hv => by
      have hk' : T.vm.classes[D.2.1 0]? = some kA := hkA
      have hfit : fits .int v = true := va_fit (cA := D.2.1 0) (n := N) (F := fun j => .int (iI (f (j : Int)))) (fun i _ => rfl) i v hv
      rw [show (arrV (D.2.1 0) N (fun j => Value.int (iI (f (j : Int))))).cls = D.2.1 0 from rfl]
      simpa [State.fitsSlot, State.slotType?, hk', hkind] using hfit)
    (g := F0 m pc ls (.ref a :: st)) rfl (by rw [hml]) rfl (by rw [G.2.1]; exact d) hR.1 (by show 2 * 0 + _ + 14 ≤ _; omega) hk (by rw [hslots]; exact hn) (hloader := Vm.clonesLoader_of_array hkS hkindS)
  rw [hslots] at X'
  generalize hH1 : H.push (arrV (D.2.1 0) N (fun j => .int (iI (f (j : Int))))) = H1
  have z1 : H1.size = H.size + 1 := by rw [← hH1, Array.size_push]
  have e1 : H1[H.size]? = some (arrV (D.2.1 0) N (fun j => .int (iI (f (j : Int))))) := by rw [← hH1, Array.getElem?_push_size]
  have o1 : ∀ q : Nat, q < H.size → H1[q]? = H[q]? := fun q hq => by rw [← hH1, Array.getElem?_push, if_neg (Nat.ne_of_lt hq)]
  obtain ⟨t, b1, b2⟩ := kk H.size G H1 locs ls (hW.push (G.2.2.2.2.1.2.2.2.1 _ (Nat.le_trans hS.1 (Nat.le_refl _))) e1 o1) (bk_mk hS z1 o1) hL ((T.setVm vm').pushCell (arrV (D.2.1 0) N (fun j => .int (iI (f (j : Int)))))) (by rw [← hH1, ← hT]; rfl) X'
  refine ⟨t, stp t ?_, b2⟩
  rw [hT]
  exact b1
theorem bk_ge0 {z : Int} (h : 0 ≤ z ∧ z < 2147483648) : ¬ iI z < 0 := fun q => by
  have h1 := Int32.lt_iff_toInt_lt.mp q
  rw [iI_toInt (by omega)] at h1
  have : (0 : Int32).toInt = 0 := by decide
  omega
def cpy (f g : Int → Int) (sp dp m : Int) : Int → Int := fun j => if dp ≤ j ∧ j < dp + m then f (sp + (j - dp)) else g j
def cpyQ (f g : Int → Option Nat) (sp dp m : Int) : Int → Option Nat := fun j => if dp ≤ j ∧ j < dp + m then f (sp + (j - dp)) else g j
theorem bk_nn {z : Int} (h : 0 ≤ z ∧ z < 2147483648) : (iI z).toInt = z ∧ (iI z).toNatClampNeg = z.toNat := ⟨iI_toInt (by omega), iI_nat (by omega)⟩
/-- a stretch of an int array over one of another -/
theorem br_copyI {i j i2 j2 a b idx Nf Ng : Nat} {f g : Int → Int} {sp dp m' : Int} (h : w i j = some (a, bI Nf f)) (h2 : w i2 j2 = some (b, bI Ng g)) (hl : Cond.methodLink own idx arraycopyName ∈ lw_all) (hnat : Cond.native arraycopyName ∈ lw_all) (hstat : Cond.static arraycopyName ∈ lw_all) (hini : Cond.initialized "java/lang/System" ∈ lw_all)
    (hsp : 0 ≤ sp ∧ 0 ≤ dp ∧ 0 ≤ m' ∧ sp + m' ≤ Nf ∧ dp + m' ≤ Ng) (hN : Nf < 2147483648 ∧ Ng < 2147483648) (hR : 1 ≤ R.frames ∧ 8 + (nativeFrameWords "java/lang/System" "arraycopy" 5 + 11) ≤ R.locals) (hcat : (st.map fun v => v.category).sum ≤ 8) (d : decode cc pc = .ok (.invokestatic idx, 3))
    (kk : bk_V Γ D R own cc tb k n (gset w i2 j2 (some (b, bI Ng (cpy f g sp dp m')))) L st (pc + 3)) : bk_V Γ D R own cc tb k n w L (.int (iI m') :: .int (iI dp) :: .ref b :: .int (iI sp) :: .ref a :: st) pc := by
  obtain ⟨p, l, e, s, m, args, below, meth, c, A, Q, ret, thr⟩ := Γ
  intro G H locs ls hW hS hL
  have hml : c.maxLocals = ls.size := by rw [hL.1, hL.2.1]
  have hArr := (G.2.2.2.2.1.1.2 0 _ rfl).1
  obtain ⟨s1, s2⟩ := bk_nn (z := sp) (by omega)
  obtain ⟨d1, d2⟩ := bk_nn (z := dp) (by omega)
  obtain ⟨n1, n2⟩ := bk_nn (z := m') (by omega)
  intro T hT X
  have hc0 : H[a]? = some (arrV (D.2.1 0) Nf (fun j => .int (iI (f (j : Int))))) := (hW.1 i j _ h).1
  have hc1 : H[b]? = some (arrV (D.2.1 0) Ng (fun j => .int (iI (g (j : Int))))) := (hW.1 i2 j2 _ h2).1
  obtain ⟨-, k0, hk0, cm0, hkk0⟩ := hArr Nf (fun j => .int (iI (f (j : Int))))
  obtain ⟨-, k1, hk1, cm1, hkk1⟩ := hArr Ng (fun j => .int (iI (g (j : Int))))
  obtain ⟨vm', X', step⟩ := X.arraycopy G.1 G.2.2.1 (G.2.2.2.1 _ hl) (G.2.2.2.1 _ hnat) (G.2.2.2.1 _ hstat) (G.2.2.2.1 _ hini) (src := a) (dst := b) (srcPos := iI sp) (destPos := iI dp) (n := iI m') (by rw [hT]; exact hc0) (by rw [hT]; exact hc1)
    (fun _ h => by cases h) (fun _ h => by cases h) (fun h => by cases h) (fun h => by cases h) hk0 hk1 hkk0 hkk1 (by simp [refKind]) (bk_ge0 (by omega)) (bk_ge0 (by omega)) (bk_ge0 (by omega))
    (by rw [s1, n1, arrV_size]; omega) (by rw [d1, n1, arrV_size]; omega)
    (fun vm₁ _ i hi => by
      rw [n2] at hi
      have e : (arrV (D.2.1 0) Nf (fun j => .int (iI (f (j : Int))))).slots.getD ((iI sp).toNatClampNeg + i) .null = .int (iI (f (((iI sp).toNatClampNeg + i : Nat) : Int))) := by
        rw [Array.getD_eq_getD_getElem?, arrV_read _ _ (by rw [s2]; omega)]
        rfl
      refine ⟨?_, ?_⟩
      · rw [e]; rfl
      · rw [e]; exact trivial)
    (g := F0 m pc ls (.int (iI m') :: .int (iI dp) :: .ref b :: .int (iI sp) :: .ref a :: st)) rfl (by rw [hml]) (rest := st) rfl (by rw [G.2.1]; exact d) hR.1 (by show 2 * 0 + _ + _ ≤ _; have := hR.2; omega)
  have e1 : copied (arrV (D.2.1 0) Nf (fun j : Nat => Value.int (iI (f (j : Int))))) (arrV (D.2.1 0) Ng (fun j : Nat => Value.int (iI (g (j : Int))))) (iI sp) (iI dp) (iI m') = arrV (D.2.1 0) Ng (fun j : Nat => Value.int (iI (cpy f g sp dp m' (j : Int)))) := by
    have := va_copied (fun z : Int32 => Value.int z) (D.2.1 0) (D.2.1 0) (fun j : Nat => iI (f (j : Int))) (fun j : Nat => iI (g (j : Int))) (sp := (iI sp).toNatClampNeg) (dp := (iI dp).toNatClampNeg) (n := (iI m').toNatClampNeg) (n0 := Nf) (n1 := Ng) (by rw [s2, n2]; omega)
    refine this.trans ?_
    congr 1
    funext q
    show Value.int (va_cpy _ _ _ _ _ q) = _
    unfold va_cpy cpy
    rw [s2, d2, n2]
    by_cases cq : dp.toNat ≤ q ∧ q < dp.toNat + m'.toNat
    · rw [if_pos cq, if_pos (by omega)]
      have e9 : ((sp.toNat + (q - dp.toNat) : Nat) : Int) = sp + ((q : Int) - dp) := by omega
      show Value.int (iI (f ((sp.toNat + (q - dp.toNat) : Nat) : Int))) = _
      rw [e9]
    · rw [if_neg cq, if_neg (by omega)]
  rw [e1] at X' step
  have hlt : b < H.size := (Array.getElem?_eq_some_iff.mp hc1).1
  have hheap : ((T.setVm vm').setCell b (arrV (D.2.1 0) Ng (fun j : Nat => Value.int (iI (cpy f g sp dp m' (j : Int)))))).heap = H.setIfInBounds b (arrV (D.2.1 0) Ng (fun j : Nat => Value.int (iI (cpy f g sp dp m' (j : Int))))) := by rw [← hT]; rfl
  have oq : ∀ q : Nat, q ≠ b → (H.setIfInBounds b (arrV (D.2.1 0) Ng (fun j : Nat => Value.int (iI (cpy f g sp dp m' (j : Int))))))[q]? = H[q]? := fun q hq => by simp [Array.getElem?_setIfInBounds, Ne.symm hq]
  obtain ⟨t, a1, b1⟩ := kk G _ _ ls (hW.set h2 (show (H.setIfInBounds b (arrV (D.2.1 0) Ng (fun j : Nat => Value.int (iI (cpy f g sp dp m' (j : Int))))))[b]? = some (arrV (D.2.1 0) Ng (fun j : Nat => Value.int (iI (cpy f g sp dp m' (j : Int))))) by simp [Array.getElem?_setIfInBounds, hlt]) oq) ⟨by simp; exact hS.1, fun q g1 g2 => by
      rw [oq q (fun e => g2 (by rw [e]; exact (hW.1 i2 j2 _ h2).2))]
      exact hS.2.1 q g1 g2, fun q hq => by
      rcases List.mem_append.mp hq with hx | hx
      · exact hS.2.2 q hx
      · obtain ⟨z, -, hz⟩ := List.mem_map.mp hx
        rw [← hz]
        exact (hW.1 i2 j2 _ h2).2⟩ hL _ hheap X'
  exact ⟨t, step t a1, b1⟩
/-- a stretch of an array of int arrays over one of another -/
theorem br_copyQ5 {i j i2 j2 a b idx Nf Ng : Nat} {f g : Int → Option Nat} {sp dp m' : Int} (h : w i j = some (a, bQ 5 Nf f)) (h2 : w i2 j2 = some (b, bQ 5 Ng g)) (hel : ∀ z : Int, sp ≤ z → z < sp + m' → ∀ y : Nat, f z = some y → ∃ (i3 j3 N3 : Nat) (f3 : Int → Int), w i3 j3 = some (y, bI N3 f3)) (hl : Cond.methodLink own idx arraycopyName ∈ lw_all) (hnat : Cond.native arraycopyName ∈ lw_all) (hstat : Cond.static arraycopyName ∈ lw_all) (hini : Cond.initialized "java/lang/System" ∈ lw_all)
    (hsp : 0 ≤ sp ∧ 0 ≤ dp ∧ 0 ≤ m' ∧ sp + m' ≤ Nf ∧ dp + m' ≤ Ng) (hN : Nf < 2147483648 ∧ Ng < 2147483648) (hR : 1 ≤ R.frames ∧ 8 + (nativeFrameWords "java/lang/System" "arraycopy" 5 + 11) ≤ R.locals) (hcat : (st.map fun v => v.category).sum ≤ 8) (d : decode cc pc = .ok (.invokestatic idx, 3))
    (kk : bk_V Γ D R own cc tb k n (gset w i2 j2 (some (b, bQ 5 Ng (cpyQ f g sp dp m')))) L st (pc + 3)) : bk_V Γ D R own cc tb k n w L (.int (iI m') :: .int (iI dp) :: .ref b :: .int (iI sp) :: .ref a :: st) pc := by
  obtain ⟨p, l, e, s, m, args, below, meth, c, A, Q, ret, thr⟩ := Γ
  intro G H locs ls hW hS hL
  have hml : c.maxLocals = ls.size := by rw [hL.1, hL.2.1]
  have hArr := (G.2.2.2.2.1.1.2 5 _ rfl).1
  obtain ⟨s1, s2⟩ := bk_nn (z := sp) (by omega)
  obtain ⟨d1, d2⟩ := bk_nn (z := dp) (by omega)
  obtain ⟨n1, n2⟩ := bk_nn (z := m') (by omega)
  intro T hT X
  have hc0 : H[a]? = some (arrV (D.2.1 5) Nf (fun j => va_rf (f (j : Int)))) := (hW.1 i j _ h).1
  have hc1 : H[b]? = some (arrV (D.2.1 5) Ng (fun j => va_rf (g (j : Int)))) := (hW.1 i2 j2 _ h2).1
  obtain ⟨-, k0, hk0, cm0, hkk0⟩ := hArr Nf (fun j => va_rf (f (j : Int)))
  obtain ⟨-, k1, hk1, cm1, hkk1⟩ := hArr Ng (fun j => va_rf (g (j : Int)))
  obtain ⟨vm', X', step⟩ := X.arraycopy G.1 G.2.2.1 (G.2.2.2.1 _ hl) (G.2.2.2.1 _ hnat) (G.2.2.2.1 _ hstat) (G.2.2.2.1 _ hini) (src := a) (dst := b) (srcPos := iI sp) (destPos := iI dp) (n := iI m') (by rw [hT]; exact hc0) (by rw [hT]; exact hc1)
    (fun _ h => by cases h) (fun _ h => by cases h) (fun h => by cases h) (fun h => by cases h) hk0 hk1 hkk0 hkk1 rfl (bk_ge0 (by omega)) (bk_ge0 (by omega)) (bk_ge0 (by omega))
    (by rw [s1, n1, arrV_size]; omega) (by rw [d1, n1, arrV_size]; omega)
    (fun vm₁ hal i hi => by
      rw [n2] at hi
      have e : (arrV (D.2.1 5) Nf (fun j : Nat => va_rf (f (j : Int)))).slots.getD ((iI sp).toNatClampNeg + i) .null = va_rf (f (((iI sp).toNatClampNeg + i : Nat) : Int)) := by
        rw [Array.getD_eq_getD_getElem?, arrV_read _ _ (by rw [s2]; omega)]
        rfl
      rw [e]
      cases hy : f (((iI sp).toNatClampNeg + i : Nat) : Int) with
      | none => exact ⟨rfl, trivial⟩
      | some y =>
        obtain ⟨i3, j3, N3, f3, h3⟩ := hel _ (by rw [s2]; omega) (by rw [s2]; omega) y hy
        have hc3 : H[y]? = some (arrV (D.2.1 0) N3 (fun j => .int (iI (f3 (j : Int))))) := (hW.1 i3 j3 _ h3).1
        obtain ⟨comp, c5, k5, r1, r2, r3, r4, r5⟩ := arrayOverA_spec G.2.2.2.2.1.2.2.1
        have g5 : s.vm.findClass ("[" ++ (FieldType.array .int).toString) = some (D.2.1 5) := (G.2.2.2.2.1.1.2 5 _ rfl).2
        have e5 : D.2.1 5 = c5 := Option.some.inj (g5.symm.trans r5)
        have g0 : s.vm.findClass ("[" ++ FieldType.int.toString) = some (D.2.1 0) := (G.2.2.2.2.1.1.2 0 _ rfl).2
        have e0 : D.2.1 0 = comp := Option.some.inj (g0.symm.trans r1)
        subst e0
        rw [← e5] at r3
        cases hk1.symm.trans r3
        cases hkk1.symm.trans r4
        obtain ⟨kI, hkI, -⟩ := Vm.findClass_spec g0
        obtain ⟨kI', hkI', -⟩ := hal.2.2 _ _ hkI
        refine ⟨rfl, _, (show T.heap[y]? = some _ by rw [hT]; exact hc3), (fun q h => by cases h), ⟨kI', hkI'⟩, ⟨kI', hkI'⟩, ?_⟩
        show vm₁.assignable (D.2.1 0) (D.2.1 0) = true
        exact va_asg _ _)
    (g := F0 m pc ls (.int (iI m') :: .int (iI dp) :: .ref b :: .int (iI sp) :: .ref a :: st)) rfl (by rw [hml]) (rest := st) rfl (by rw [G.2.1]; exact d) hR.1 (by show 2 * 0 + _ + _ ≤ _; have := hR.2; omega)
  have e1 : copied (arrV (D.2.1 5) Nf (fun j : Nat => va_rf (f (j : Int)))) (arrV (D.2.1 5) Ng (fun j : Nat => va_rf (g (j : Int)))) (iI sp) (iI dp) (iI m') = arrV (D.2.1 5) Ng (fun j : Nat => va_rf (cpyQ f g sp dp m' (j : Int))) := by
    have := va_copied (fun z : Option Nat => va_rf z) (D.2.1 5) (D.2.1 5) (fun j : Nat => f (j : Int)) (fun j : Nat => g (j : Int)) (sp := (iI sp).toNatClampNeg) (dp := (iI dp).toNatClampNeg) (n := (iI m').toNatClampNeg) (n0 := Nf) (n1 := Ng) (by rw [s2, n2]; omega)
    refine this.trans ?_
    congr 1
    funext q
    show va_rf (va_cpy _ _ _ _ _ q) = _
    unfold va_cpy cpyQ
    rw [s2, d2, n2]
    by_cases cq : dp.toNat ≤ q ∧ q < dp.toNat + m'.toNat
    · rw [if_pos cq, if_pos (by omega)]
      have e9 : ((sp.toNat + (q - dp.toNat) : Nat) : Int) = sp + ((q : Int) - dp) := by omega
      show va_rf (f ((sp.toNat + (q - dp.toNat) : Nat) : Int)) = _
      rw [e9]
    · rw [if_neg cq, if_neg (by omega)]
  rw [e1] at X' step
  have hlt : b < H.size := (Array.getElem?_eq_some_iff.mp hc1).1
  have hheap : ((T.setVm vm').setCell b (arrV (D.2.1 5) Ng (fun j : Nat => va_rf (cpyQ f g sp dp m' (j : Int))))).heap = H.setIfInBounds b (arrV (D.2.1 5) Ng (fun j : Nat => va_rf (cpyQ f g sp dp m' (j : Int)))) := by rw [← hT]; rfl
  have oq : ∀ q : Nat, q ≠ b → (H.setIfInBounds b (arrV (D.2.1 5) Ng (fun j : Nat => va_rf (cpyQ f g sp dp m' (j : Int)))))[q]? = H[q]? := fun q hq => by simp [Array.getElem?_setIfInBounds, Ne.symm hq]
  obtain ⟨t, a1, b1⟩ := kk G _ _ ls (hW.set h2 (show (H.setIfInBounds b (arrV (D.2.1 5) Ng (fun j : Nat => va_rf (cpyQ f g sp dp m' (j : Int)))))[b]? = some (arrV (D.2.1 5) Ng (fun j : Nat => va_rf (cpyQ f g sp dp m' (j : Int)))) by simp [Array.getElem?_setIfInBounds, hlt]) oq) ⟨by simp; exact hS.1, fun q g1 g2 => by
      rw [oq q (fun e => g2 (by rw [e]; exact (hW.1 i2 j2 _ h2).2))]
      exact hS.2.1 q g1 g2, fun q hq => by
      rcases List.mem_append.mp hq with hx | hx
      · exact hS.2.2 q hx
      · obtain ⟨z, -, hz⟩ := List.mem_map.mp hx
        rw [← hz]
        exact (hW.1 i2 j2 _ h2).2⟩ hL _ hheap X'
  exact ⟨t, step t a1, b1⟩
end BHEAP3
