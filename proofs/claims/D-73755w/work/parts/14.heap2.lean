/-! ROWS that make objects and arrays -/
set_option maxRecDepth 100000
section BHEAP2
variable {Γ : bk_G} {D : bk_D} {R : Room} {own : String} {cc : ByteArray} {tb : List ExceptionTableEntry} {k n : Nat} {w : gC} {L : List (Option Value)} {st : List Value} {pc : Nat}
theorem bk_mk {A : Nat → Prop} {H0 H H1 : Heap} {locs : List Loc} (hS : va_S A H0 H locs) (z1 : H1.size = H.size + 1) (o1 : ∀ q : Nat, q < H.size → H1[q]? = H[q]?) : va_S A H0 H1 locs := ⟨Nat.le_trans hS.1 (by omega), fun x h1 h2 => (o1 x (Nat.lt_of_lt_of_le h1 hS.1)).trans (hS.2.1 x h1 h2), hS.2.2⟩
/-- a new array; x: how it begins -/
theorem br_newa {atype : ArrayType} {ty : FieldType} {N t : Nat} {x : vp_A} (i j : Nat) (harr : Cond.arrayClass ty ∈ lw_all) (hty : newarray.typeOf atype = ty) (hRA : ∀ (U : State) (cA : ClassId), va_RA U cA ty → U.vm.findClass ("[" ++ ty.toString) = some cA) (ht : ∀ D : bk_D, (bk_tys D.2.1)[t]? = some (D.2.1 t, ty)) (hx : ∀ cA : ClassId, vp_cell cA x = arrV cA N (fun _ => defaultValue ty)) (hN : N ≤ 100000) (hb : componentBytes ty ≤ 8) (hk : k + 1 ≤ R.cells) (hn : n + N ≤ R.slots) (d : decode cc pc = .ok (.newarray atype, 2)) (kk : ∀ q : Nat, bk_V Γ D R own cc tb (k + 1) (n + N) (gset w i j (some (q, .inl (t, x)))) L (.ref q :: st) (pc + 2)) : bk_V Γ D R own cc tb k n w L (.int (iI (N : Int)) :: st) pc := by
  subst hty
  obtain ⟨p, l, e, s, m, args, below, meth, c, A, Q, ret, thr⟩ := Γ
  intro G H locs ls hW hS hL
  have h0 : ¬ iI (N : Int) < 0 := fun q => by
    have h := Int32.lt_iff_toInt_lt.mp q
    rw [iI_toInt (by omega)] at h
    have : (0 : Int32).toInt = 0 := by decide
    omega
  have hNN : (iI (N : Int)).toNatClampNeg = N := by rw [iI_nat (by omega)]; omega
  refine va_newaK G.1 G.2.1 (G.2.2.2.1 _ harr) rfl d rfl h0 hNN (Nat.le_trans (Nat.mul_le_mul hN hb) (by decide)) hk hn rfl fun H1 cA e1 z1 o1 hAr hNm => ?_
  have hcA : D.2.1 t = cA := Option.some.inj ((hRA s _ (G.2.2.2.2.1.1.2 t _ (ht D)).2).symm.trans hNm)
  subst hcA
  refine kk H.size G H1 locs ls (hW.push (G.2.2.2.2.1.2.2.2.1 _ (Nat.le_trans hS.1 (Nat.le_refl _))) ?_ o1) (bk_mk hS z1 o1) hL
  show H1[H.size]? = some (vp_cell (D.2.1 t) x)
  rw [hx]
  exact e1
theorem br_newaI {N : Nat} (i j : Nat) (hN : N ≤ 100000) (hk : k + 1 ≤ R.cells) (hn : n + N ≤ R.slots) (d : decode cc pc = .ok (.newarray .int, 2)) (kk : ∀ q : Nat, bk_V Γ D R own cc tb (k + 1) (n + N) (gset w i j (some (q, bI N (fun _ => 0)))) L (.ref q :: st) (pc + 2)) : bk_V Γ D R own cc tb k n w L (.int (iI (N : Int)) :: st) pc :=
  br_newa (ty := .int) (t := 0) i j q170 rfl (fun _ _ h => h) (fun _ => rfl) (fun _ => rfl) hN (by decide) hk hn d kk
theorem br_newaB {N : Nat} (i j : Nat) (hN : N ≤ 100000) (hk : k + 1 ≤ R.cells) (hn : n + N ≤ R.slots) (d : decode cc pc = .ok (.newarray .byte, 2)) (kk : ∀ q : Nat, bk_V Γ D R own cc tb (k + 1) (n + N) (gset w i j (some (q, bB N (fun _ => 0)))) L (.ref q :: st) (pc + 2)) : bk_V Γ D R own cc tb k n w L (.int (iI (N : Int)) :: st) pc :=
  br_newa (ty := .byte) (t := 1) i j q169 rfl (fun _ _ h => h) (fun _ => rfl) (fun _ => rfl) hN (by decide) hk hn d kk
theorem br_newaZ {N : Nat} (i j : Nat) (hN : N ≤ 100000) (hk : k + 1 ≤ R.cells) (hn : n + N ≤ R.slots) (d : decode cc pc = .ok (.newarray .boolean, 2)) (kk : ∀ q : Nat, bk_V Γ D R own cc tb (k + 1) (n + N) (gset w i j (some (q, bZ N (fun _ => 0)))) L (.ref q :: st) (pc + 2)) : bk_V Γ D R own cc tb k n w L (.int (iI (N : Int)) :: st) pc :=
  br_newa (ty := .boolean) (t := 2) i j q223 rfl (fun _ _ h => h) (fun _ => rfl) (fun _ => rfl) hN (by decide) hk hn d kk
theorem br_newaJ {N : Nat} (i j : Nat) (hN : N ≤ 100000) (hk : k + 1 ≤ R.cells) (hn : n + N ≤ R.slots) (d : decode cc pc = .ok (.newarray .long, 2)) (kk : ∀ q : Nat, bk_V Γ D R own cc tb (k + 1) (n + N) (gset w i j (some (q, bJ N (fun _ => 0)))) L (.ref q :: st) (pc + 2)) : bk_V Γ D R own cc tb k n w L (.int (iI (N : Int)) :: st) pc :=
  br_newa (ty := .long) (t := 6) i j q1612 rfl (fun _ _ h => h) (fun _ => rfl) (fun _ => rfl) hN (by decide) hk hn d kk
theorem bk_len0 {N : Nat} (hN : N ≤ 100000) : ¬ iI (N : Int) < 0 ∧ (iI (N : Int)).toNatClampNeg = N := by
  refine ⟨fun q => ?_, by rw [iI_nat (by omega)]; omega⟩
  have h := Int32.lt_iff_toInt_lt.mp q
  rw [iI_toInt (by omega)] at h
  have : (0 : Int32).toInt = 0 := by decide
  omega
/-- a new array of objects -/
theorem br_newq {C : String} {N t idx : Nat} (i j : Nat) (hcl : Cond.classLink own idx C ∈ lw_all) (hov : Cond.arrayOver (.object C) ∈ lw_all) (ht : ∀ D : bk_D, (bk_tys D.2.1)[t]? = some (D.2.1 t, .object C)) (hN : N ≤ 100000) (hk : k + 1 ≤ R.cells) (hn : n + N ≤ R.slots) (d : decode cc pc = .ok (.anewarray idx, 3)) (kk : ∀ q : Nat, bk_V Γ D R own cc tb (k + 1) (n + N) (gset w i j (some (q, bQ t N (fun _ => none)))) L (.ref q :: st) (pc + 3)) : bk_V Γ D R own cc tb k n w L (.int (iI (N : Int)) :: st) pc := by
  obtain ⟨p, l, e, s, m, args, below, meth, c, A, Q, ret, thr⟩ := Γ
  intro G H locs ls hW hS hL
  obtain ⟨h0, hNN⟩ := bk_len0 hN
  refine W.anew G.1 G.2.1 G.2.2.1 (G.2.2.2.1 _ hcl) (G.2.2.2.1 _ hov) rfl d rfl h0 (by rw [hNN]; omega) hk (by rw [hNN]; exact hn) fun cA kA comp f1 f2 f3 f4 => ?_
  rw [hNN]
  obtain ⟨kA', comp', g1, g2, g3, g4⟩ := (G.2.2.2.2.1.1.2 t _ (ht D)).2
  have hcA : D.2.1 t = cA := Option.some.inj (g4.symm.trans f1)
  subst hcA
  generalize hH1 : H.push ({ cls := D.2.1 t, slots := Array.replicate N .null, vm := .none } : Cell) = H1
  have z1 : H1.size = H.size + 1 := by rw [← hH1, Array.size_push]
  have e1 : H1[H.size]? = some (arrV (D.2.1 t) N (fun _ => .null)) := by rw [← hH1, Array.getElem?_push_size, ← arrV_new]
  have o1 : ∀ q : Nat, q < H.size → H1[q]? = H[q]? := fun q hq => by rw [← hH1, Array.getElem?_push, if_neg (Nat.ne_of_lt hq)]
  exact kk H.size G H1 locs ls (hW.push (G.2.2.2.2.1.2.2.2.1 _ (Nat.le_trans hS.1 (Nat.le_refl _))) e1 o1) (bk_mk hS z1 o1) hL
/-- a new array of int arrays -/
theorem br_newq5 {N idx : Nat} (i j : Nat) (hcl : Cond.classLink own idx "[I" ∈ lw_all) (hN : N ≤ 100000) (hk : k + 1 ≤ R.cells) (hn : n + N ≤ R.slots) (d : decode cc pc = .ok (.anewarray idx, 3)) (kk : ∀ q : Nat, bk_V Γ D R own cc tb (k + 1) (n + N) (gset w i j (some (q, bQ 5 N (fun _ => none)))) L (.ref q :: st) (pc + 3)) : bk_V Γ D R own cc tb k n w L (.int (iI (N : Int)) :: st) pc := by
  obtain ⟨p, l, e, s, m, args, below, meth, c, A, Q, ret, thr⟩ := Γ
  intro G H locs ls hW hS hL
  obtain ⟨h0, hNN⟩ := bk_len0 hN
  refine W.anewA (t := .int) G.1 G.2.1 G.2.2.1 (G.2.2.2.1 _ hcl) G.2.2.2.2.1.2.2.1 rfl d rfl h0 (by rw [hNN]; omega) hk (by rw [hNN]; exact hn) fun cA kA comp f1 f2 f3 f4 => ?_
  rw [hNN]
  have g4 : s.vm.findClass ("[" ++ (FieldType.array .int).toString) = some (D.2.1 5) := (G.2.2.2.2.1.1.2 5 _ rfl).2
  have hcA : D.2.1 5 = cA := Option.some.inj (g4.symm.trans f1)
  subst hcA
  generalize hH1 : H.push ({ cls := D.2.1 5, slots := Array.replicate N .null, vm := .none } : Cell) = H1
  have z1 : H1.size = H.size + 1 := by rw [← hH1, Array.size_push]
  have e1 : H1[H.size]? = some (arrV (D.2.1 5) N (fun _ => .null)) := by rw [← hH1, Array.getElem?_push_size, ← arrV_new]
  have o1 : ∀ q : Nat, q < H.size → H1[q]? = H[q]? := fun q hq => by rw [← hH1, Array.getElem?_push, if_neg (Nat.ne_of_lt hq)]
  exact kk H.size G H1 locs ls (hW.push (G.2.2.2.2.1.2.2.2.1 _ (Nat.le_trans hS.1 (Nat.le_refl _))) e1 o1) (bk_mk hS z1 o1) hL
/-- a new object, its fields as they begin -/
theorem br_new {C : String} {T : u_T} {N ci idx : Nat} {fs : List Value} {ty : Nat → FieldType} (i j : Nat) (hc : vwCl[ci]? = some (C, T, N)) (hin : ∀ w ∈ u_ws C T N, w ∈ lw_all) (hty : ∀ k, k < N → parseFieldDescriptor (T k).2.2.1 = some (ty k)) (hcl : Cond.classLink own idx C ∈ lw_all) (hinst : Cond.instantiable C N ∈ lw_all) (hini : Cond.initialized C ∈ lw_all) (hfs : ∀ j, j < N → defaultValue (ty j) = vp_V fs j) (hk : k + 1 ≤ R.cells) (hn : n + N ≤ R.slots) (d : decode cc pc = .ok (.new idx, 3)) (kk : ∀ q : Nat, bk_V Γ D R own cc tb (k + 1) (n + N) (gset w i j (some (q, bO ci fs))) L (.ref q :: st) (pc + 3)) : bk_V Γ D R own cc tb k n w L st pc := by
  obtain ⟨p, l, e, s, m, args, below, meth, c, A, Q, ret, thr⟩ := Γ
  intro G H locs ls hW hS hL
  have hKn := G.2.2.2.2.1.1.1 ci _ hc
  refine W.newcK G.1 G.2.1 G.2.2.1 (G.2.2.2.1 _ hcl) (G.2.2.2.1 _ hinst) (G.2.2.2.1 _ hini) rfl d hk hn hKn.2.1 rfl fun H1 kC hkC e1 z1 o1 => ?_
  exact kk H.size G H1 locs ls (hW.push (G.2.2.2.2.1.2.2.2.1 _ (Nat.le_trans hS.1 (Nat.le_refl _))) ⟨_, hc, (u_born ty G.2.2.2.1 hin hKn hkC e1 hty).to hfs⟩ o1) (bk_mk hS z1 o1) hL
/-- Object's constructor -/
theorem br_obj0 {idx a : Nat} (hl : Cond.methodLink own idx Lib.objectInit ∈ lw_all) (hi : Cond.instanceMethod Lib.objectInit ∈ lw_all) (hcd : Cond.code Lib.objectInit ⟨#[0xb1]⟩ 1 none ∈ lw_all) (hR : 1 ≤ R.frames ∧ 20 ≤ R.locals) (hcat : (st.map fun v => v.category).sum ≤ 8) (d : decode cc pc = .ok (.invokespecial idx, 3)) (kk : bk_V Γ D R own cc tb k n w L st (pc + 3)) : bk_V Γ D R own cc tb k n w L (.ref a :: st) pc := by
  obtain ⟨p, l, e, s, m, args, below, meth, c, A, Q, ret, thr⟩ := Γ
  intro G H locs ls hW hS hL
  exact W.objInit G.1 G.2.1 G.2.2.1 (G.2.2.2.1 _ hl) (G.2.2.2.1 _ hi) (G.2.2.2.1 _ hcd) rfl (by show ls.size = _; rw [hL.1, hL.2.1]) rfl d hR.1 (by show 2 * 0 + _ + 12 ≤ _; omega) (kk G H locs ls hW hS hL)
/-- a cast to int[] -/
theorem br_castI {i j a N idx : Nat} {f : Int → Int} (h : w i j = some (a, bI N f)) (hl : Cond.classLink own idx "[I" ∈ lw_all) (d : decode cc pc = .ok (.checkcast idx, 3)) (kk : bk_V Γ D R own cc tb k n w L (.ref a :: st) (pc + 3)) : bk_V Γ D R own cc tb k n w L (.ref a :: st) pc := by
  obtain ⟨p, l, e, s, m, args, below, meth, c, A, Q, ret, thr⟩ := Γ
  intro G H locs ls hW hS hL
  exact va_castA (D := D.1) (cl := vwCl) (ws := [(a, bk_e D (bI N f))]) G.1 G.2.1 G.2.2.1 (G.2.2.2.1 _ hl) (hW.one h) 0 rfl ((G.2.2.2.2.1.1.2 0 _ rfl).2 : s.vm.findClass ("[" ++ FieldType.int.toString) = some _) d (kk G H locs ls hW hS hL)
/-- an int array into an array of them -/
theorem br_aast5 {i j i2 j2 a b N N2 : Nat} {f : Int → Option Nat} {f2 : Int → Int} {z : Int} (h : w i j = some (a, bQ 5 N f)) (h2 : w i2 j2 = some (b, bI N2 f2)) (hz : 0 ≤ z ∧ z < (N : Int)) (hN : N < 2147483648) (d : decode cc pc = .ok (.aastore, 1)) (kk : bk_V Γ D R own cc tb k n (gset w i j (some (a, bQ 5 N (uQ f z (some b))))) L st (pc + 1)) : bk_V Γ D R own cc tb k n w L (.ref b :: .int (iI z) :: .ref a :: st) pc := by
  obtain ⟨p, l, e, s, m, args, below, meth, c, A, Q, ret, thr⟩ := Γ
  intro G H locs ls hW hS hL
  have hin := iI_in hz hN
  have hlt : (iI z).toNatClampNeg < N := Nat.not_le.mp fun q => hin (Or.inr q)
  have h0 : ¬ iI z < 0 := fun q => hin (Or.inl q)
  have hcell : H[a]? = some (arrV (D.2.1 5) N (fun j => va_rf (f (j : Int)))) := (hW.1 i j _ h).1
  have hcell2 : H[b]? = some (arrV (D.2.1 0) N2 (fun j => .int (iI (f2 (j : Int))))) := (hW.1 i2 j2 _ h2).1
  obtain ⟨comp, c5, k5, a1, a2, a3, a4, a5⟩ := arrayOverA_spec G.2.2.2.2.1.2.2.1
  have g5 : s.vm.findClass ("[" ++ (FieldType.array .int).toString) = some (D.2.1 5) := (G.2.2.2.2.1.1.2 5 _ rfl).2
  have e5 : D.2.1 5 = c5 := Option.some.inj (g5.symm.trans a5)
  have g0 : s.vm.findClass ("[" ++ FieldType.int.toString) = some (D.2.1 0) := (G.2.2.2.2.1.1.2 0 _ rfl).2
  have e0 : D.2.1 0 = comp := Option.some.inj (g0.symm.trans a1)
  subst e0
  obtain ⟨kI, hkI, -⟩ := Vm.findClass_spec g0
  refine W.aast G.1 G.2.1 hcell (fun q h => by cases h) (fun h => by cases h) (by rw [← e5] at a3; exact a3) a4 rfl hkI ⟨h0, by rw [arrV_size]; exact hlt⟩ hcell2 (fun q h => by cases h) hkI (va_asg _ _) rfl rfl d fun H1 e1 e2 oq => ?_
  refine kk G H1 _ ls (hW.set h ?_ oq) (hS.put e2 oq (hW.1 i j _ h).2) hL
  show H1[a]? = some (arrV (D.2.1 5) N (fun q : Nat => va_rf (uQ f z (some b) (q : Int))))
  rw [e1, arrV_store, bk_updQ hz hN]
/-- a string out of the pool -/
theorem br_ldcS {tx : String} {idx q : Nat} (hq : ∀ (A : Nat → Prop) (U : State) (H : Heap), bk_S D A U H → vk_R own idx tx q U) (d : decode cc pc = .ok (.ldc idx, 2)) (kk : bk_V Γ D R own cc tb k n w L (.ref q :: st) (pc + 2)) : bk_V Γ D R own cc tb k n w L st pc := by
  obtain ⟨p, l, e, s, m, args, below, meth, c, A, Q, ret, thr⟩ := Γ
  intro G H locs ls hW hS hL
  exact va_ldcS G.1 G.2.1 G.2.2.1 (hq A s s.heap G.2.2.2.2.1.2.2.2.2.2.2) d (kk G H locs ls hW hS hL)
theorem bk_max (x y : Int) (hx : -2147483648 ≤ x ∧ x < 2147483648) (hy : -2147483648 ≤ y ∧ y < 2147483648) : (if iI x < iI y then iI y else iI x) = iI (if x < y then y else x) := by
  by_cases c : x < y
  · rw [if_pos ((iI_lt hx hy).mpr c), if_pos c]
  · rw [if_neg (fun q => c ((iI_lt hx hy).mp q)), if_neg c]
theorem br_max {idx : Nat} {x y : Int} (hl : Cond.methodLink own idx Lib.Math.max.name ∈ lw_all) (hs : Cond.static Lib.Math.max.name ∈ lw_all) (hi : Cond.initialized "java/lang/Math" ∈ lw_all) (hcd : Cond.code Lib.Math.max.name Lib.Math.max.code 2 (some .int) ∈ lw_all) (hR : 1 ≤ R.frames ∧ 21 ≤ R.locals) (hf : k ≤ R.cells ∧ n ≤ R.slots) (hx : -2147483648 ≤ x ∧ x < 2147483648) (hy : -2147483648 ≤ y ∧ y < 2147483648) (hcat : (st.map fun v => v.category).sum ≤ 8) (d : decode cc pc = .ok (.invokestatic idx, 3)) (kk : bk_V Γ D R own cc tb k n w L (.int (iI (if x < y then y else x)) :: st) (pc + 3)) : bk_V Γ D R own cc tb k n w L (.int (iI y) :: .int (iI x) :: st) pc := by
  obtain ⟨p, l, e, s, m, args, below, meth, c, A, Q, ret, thr⟩ := Γ
  intro G H locs ls hW hS hL
  exact va_mmax G.1 G.2.1 (by rw [hL.1, hL.2.1]) G.2.2.1 (G.2.2.2.1 _ hl) (G.2.2.2.1 _ hs) (G.2.2.2.1 _ hi) (G.2.2.2.1 _ hcd) hR.1 (by omega) hf.1 hf.2 d (by rw [bk_max x y hx hy]; exact kk G H locs ls hW hS hL)
theorem br_min {idx : Nat} {x y : Int} (hl : Cond.methodLink own idx Lib.Math.min.name ∈ lw_all) (hs : Cond.static Lib.Math.min.name ∈ lw_all) (hi : Cond.initialized "java/lang/Math" ∈ lw_all) (hcd : Cond.code Lib.Math.min.name Lib.Math.min.code 2 (some .int) ∈ lw_all) (hR : 1 ≤ R.frames ∧ 21 ≤ R.locals) (hf : k ≤ R.cells ∧ n ≤ R.slots) (hx : -2147483648 ≤ x ∧ x < 2147483648) (hy : -2147483648 ≤ y ∧ y < 2147483648) (hcat : (st.map fun v => v.category).sum ≤ 8) (d : decode cc pc = .ok (.invokestatic idx, 3)) (kk : bk_V Γ D R own cc tb k n w L (.int (iI (if y < x then y else x)) :: st) (pc + 3)) : bk_V Γ D R own cc tb k n w L (.int (iI y) :: .int (iI x) :: st) pc := by
  obtain ⟨p, l, e, s, m, args, below, meth, c, A, Q, ret, thr⟩ := Γ
  intro G H locs ls hW hS hL
  refine va_mmin G.1 G.2.1 (by rw [hL.1, hL.2.1]) G.2.2.1 (G.2.2.2.1 _ hl) (G.2.2.2.1 _ hs) (G.2.2.2.1 _ hi) (G.2.2.2.1 _ hcd) hR.1 (by omega) hf.1 hf.2 d ?_
  have e : (if iI y < iI x then iI y else iI x) = iI (if y < x then y else x) := by
    by_cases c : y < x
    · rw [if_pos ((iI_lt hy hx).mpr c), if_pos c]
    · rw [if_neg (fun q => c ((iI_lt hy hx).mp q)), if_neg c]
  rw [e]
  exact kk G H locs ls hW hS hL
end BHEAP2
