/-! ROWS that read and write the heap -/
set_option maxRecDepth 100000
section BHEAP
variable {Γ : bk_G} {D : bk_D} {R : Room} {own : String} {cc : ByteArray} {tb : List ExceptionTableEntry} {k n : Nat} {w : gC} {L : List (Option Value)} {st : List Value} {pc : Nat}
theorem br_getf {i j a ci idx : Nat} {fs : List Value} {C : String} {T : u_T} {N : Nat} {v : Value} (h : w i j = some (a, bO ci fs)) (hc : vwCl[ci]? = some (C, T, N)) (hin : ∀ w ∈ u_ws C T N, w ∈ lw_all) (q : Nat) (hk : q < N) {ref : String} (hl : Cond.fieldLink own idx ref (T q).2.1 (T q).2.2.1 ∈ lw_all) (hr : (T q).1 = ref) (hv : fs[q]? = some v) (d : decode cc pc = .ok (.getfield idx, 3)) (kk : bk_V Γ D R own cc tb k n w L (v :: st) (pc + 3)) : bk_V Γ D R own cc tb k n w L (.ref a :: st) pc := by
  subst hr
  obtain ⟨p, l, e, s, m, args, below, meth, c, A, Q, ret, thr⟩ := Γ
  exact fun G H locs ls hW hS hL => va_get (D := D.1) (cl := vwCl) (ws := [(a, bk_e D (bO ci fs))]) G.1 G.2.1 G.2.2.2.1 hin G.2.2.1 G.2.2.2.2.1.1 (hW.one h) 0 (fs := fs) rfl hc q hk (G.2.2.2.1 _ hl) (fun _ h => h) hv d (kk G H locs ls hW hS hL)
theorem br_getN {i j a ci idx : Nat} {fs : List Value} {C host : String} {T : u_T} {N : Nat} {v : Value} (h : w i j = some (a, bO ci fs)) (hc : vwCl[ci]? = some (C, T, N)) (hin : ∀ w ∈ u_ws C T N, w ∈ lw_all) (q : Nat) (hk : q < N) {ref : String} (hl : Cond.fieldLinkNest own idx ref (T q).2.1 (T q).2.2.1 host ∈ lw_tbl) (hr : (T q).1 = ref) (hv : fs[q]? = some v) (d : decode cc pc = .ok (.getfield idx, 3)) (kk : bk_V Γ D R own cc tb k n w L (v :: st) (pc + 3)) : bk_V Γ D R own cc tb k n w L (.ref a :: st) pc := by
  subst hr
  obtain ⟨p, l, e, s, m, args, below, meth, c, A, Q, ret, thr⟩ := Γ
  exact fun G H locs ls hW hS hL => va_getN (D := D.1) (cl := vwCl) (ws := [(a, bk_e D (bO ci fs))]) G.1 G.2.1 G.2.2.2.1 hin G.2.2.1 G.2.2.2.2.1.1 (hW.one h) 0 (fs := fs) rfl hc q hk (va_Nw.use rfl (G.2.2.2.2.1.2.1 _ hl rfl)) (fun _ h => h) hv d (kk G H locs ls hW hS hL)
theorem bk_obj {s : State} {args : Array Value} {A : Nat → Prop} {H : Heap} {i j a ci : Nat} {fs : List Value} {C : String} {T : u_T} {N : Nat} {v : Value} {ty : FieldType} (hW : gW D A w H) (h : w i j = some (a, bO ci fs)) (hc : vwCl[ci]? = some (C, T, N)) (hts : ∀ w ∈ lw_all, w.before args s = true) (hin : ∀ w ∈ u_ws C T N, w ∈ lw_all) (hK : va_K D.1 vwCl (bk_tys D.2.1) s) (ty0 : Nat → FieldType) (hty : ∀ k, k < N → parseFieldDescriptor (T k).2.2.1 = some (ty0 k)) (hnm : ∀ a, a < N → ∀ b, b < N → a ≠ b → (T a).2.1 ≠ (T b).2.1) (q : Nat) (hk : q < N) (hl : q < fs.length) (own : String) :
    ∃ (cell : Cell) (cf fi : Nat) (kf kC : Class) (f : Field), H[a]? = some cell ∧ cell.vm = .none ∧ s.fieldFound? (T q).1 (T q).2.1 (T q).2.2.1 = some (cf, kf, fi, f) ∧ f.isStatic = false ∧ f.slot < cell.slots.size ∧ cell.cls = D.1.1 ci ∧ s.vm.findClass C = some (D.1.1 ci) ∧ s.vm.classes[D.1.1 ci]? = some kC ∧ kC.kind = .ordinary ∧
      (∀ H1 : Heap, H1[a]? = some (cell.setSlot f.slot v) → (∀ z : Nat, z ≠ a → H1[z]? = H[z]?) → gW D A (gset w i j (some (a, bO ci (fs.set q v)))) H1) := by
  have hap := va_apart (own := own) (args := args) (Ts := lw_all) (D := D.1) (cl := vwCl) (s := s) hts hin ty0 hty hnm hK hc
  obtain ⟨⟨r, h1, cell, q1, q2, q3, q4⟩, hA⟩ := hW.1 i j _ h
  have hr : r = (C, T, N) := Option.some.inj (h1.symm.trans hc)
  subst hr
  obtain ⟨hS, hfc, kC, hkC, hkind⟩ := hK.1 ci _ hc
  obtain ⟨cf, kf, fi, f, hi, hsl⟩ := hS q hk
  refine ⟨cell, cf, fi, kf, kC, f, q1, q3, hi, (u_facts hfc hkC (u_lays hts hin hk) hi).1, by rw [hsl]; exact k2_hasslot (q4 q hk), q2, hfc, hkC, hkind, fun H1 e1 oq => ?_⟩
  rw [hsl] at e1
  exact hW.set h (show bk_at D (a, bO ci (fs.set q v)) H1 from ⟨_, hc, t_OB.to (V := updV (vp_V fs) q v) ⟨_, e1, q2, q3, t_set q4 hap hk v⟩ (fun j _ => vp_updV_set hl v j)⟩) oq
theorem br_putf {i j a ci idx : Nat} {fs : List Value} {C : String} {T : u_T} {N : Nat} {v : Value} {ty : FieldType} {ty0 : Nat → FieldType} (h : w i j = some (a, bO ci fs)) (hc : vwCl[ci]? = some (C, T, N)) (hin : ∀ w ∈ u_ws C T N, w ∈ lw_all) (hty : ∀ k, k < N → parseFieldDescriptor (T k).2.2.1 = some (ty0 k)) (hnm : ∀ a, a < N → ∀ b, b < N → a ≠ b → (T a).2.1 ≠ (T b).2.1) (q : Nat) (hk : q < N) {ref : String} (hl : Cond.fieldLink own idx ref (T q).2.1 (T q).2.2.1 ∈ lw_all) (hr : (T q).1 = ref) (hfin : (T q).2.2.2 = false) (hd : ty0 q = ty) (hn : narrow ty v = v) (hfit : fits ty v = true) (hlen : q < fs.length) (d : decode cc pc = .ok (.putfield idx, 3)) (kk : bk_V Γ D R own cc tb k n (gset w i j (some (a, bO ci (fs.set q v)))) L st (pc + 3)) : bk_V Γ D R own cc tb k n w L (v :: .ref a :: st) pc := by
  subst hr
  obtain ⟨p, l, e, s, m, args, below, meth, c, A, Q, ret, thr⟩ := Γ
  intro G H locs ls hW hS hL
  obtain ⟨cell, cf, fi, kf, kC, f, q1, q3, hi, hst, hsz, q2, hfc, hkC, hkind, hset⟩ := bk_obj (v := v) (ty := ty) hW h hc G.2.2.2.1 hin G.2.2.2.2.1.1 ty0 hty hnm q hk hlen own
  have hlay := G.2.2.2.1 _ (hin _ (u_in_lay hk))
  unfold u_lay at hlay
  rw [if_neg (by rw [hfin]; decide)] at hlay
  have h6 := u_store hfc hkC hkind hlay hi (by rw [hty q hk, hd]) hn hfit
  refine W.putK G.1 G.2.1 (f := f) ⟨G.2.2.1, G.2.2.2.1 _ hl, ⟨_, _, _, hi⟩, hst⟩ (by rw [q2]; exact h6) q1 q3 hsz rfl rfl d fun H' e1 e2 e3 => ?_
  exact kk G H' _ ls (hset H' e1 e3) (hS.put e2 e3 (hW.1 i j _ h).2) hL
theorem br_putN {i j a ci idx : Nat} {fs : List Value} {C host : String} {T : u_T} {N : Nat} {v : Value} {ty : FieldType} {ty0 : Nat → FieldType} (h : w i j = some (a, bO ci fs)) (hc : vwCl[ci]? = some (C, T, N)) (hin : ∀ w ∈ u_ws C T N, w ∈ lw_all) (hty : ∀ k, k < N → parseFieldDescriptor (T k).2.2.1 = some (ty0 k)) (hnm : ∀ a, a < N → ∀ b, b < N → a ≠ b → (T a).2.1 ≠ (T b).2.1) (q : Nat) (hk : q < N) {ref : String} (hl : Cond.fieldLinkNest own idx ref (T q).2.1 (T q).2.2.1 host ∈ lw_tbl) (hr : (T q).1 = ref) (hfin : (T q).2.2.2 = false) (hd : ty0 q = ty) (hn : narrow ty v = v) (hfit : fits ty v = true) (hlen : q < fs.length) (d : decode cc pc = .ok (.putfield idx, 3)) (kk : bk_V Γ D R own cc tb k n (gset w i j (some (a, bO ci (fs.set q v)))) L st (pc + 3)) : bk_V Γ D R own cc tb k n w L (v :: .ref a :: st) pc := by
  subst hr
  obtain ⟨p, l, e, s, m, args, below, meth, c, A, Q, ret, thr⟩ := Γ
  intro G H locs ls hW hS hL
  obtain ⟨cell, cf, fi, kf, kC, f, q1, q3, hi, hst, hsz, q2, hfc, hkC, hkind, hset⟩ := bk_obj (v := v) (ty := ty) hW h hc G.2.2.2.1 hin G.2.2.2.2.1.1 ty0 hty hnm q hk hlen own
  have hlay := G.2.2.2.1 _ (hin _ (u_in_lay hk))
  unfold u_lay at hlay
  rw [if_neg (by rw [hfin]; decide)] at hlay
  have h6 := u_store hfc hkC hkind hlay hi (by rw [hty q hk, hd]) hn hfit
  refine va_WputK G.1 G.2.1 (f := f) G.2.2.1 (va_Nw.use rfl (G.2.2.2.2.1.2.1 _ hl rfl)) hi hst (by rw [q2]; exact h6) q1 q3 hsz rfl rfl d fun H' e1 e2 e3 => ?_
  exact kk G H' _ ls (hset H' e1 e3) (hS.put e2 e3 (hW.1 i j _ h).2) hL
/-- the constructor's own final field; hin2: Γ's method is <init> -/
def bk_ctor (Γ : bk_G) : Prop := Γ.2.2.2.2.2.2.2.1.name = "<init>"
theorem br_putF {i j a ci idx : Nat} {fs : List Value} {C : String} {T : u_T} {N : Nat} {v : Value} {ty : FieldType} {ty0 : Nat → FieldType} (hct : bk_ctor Γ) (h : w i j = some (a, bO ci fs)) (hc : vwCl[ci]? = some (C, T, N)) (hin : ∀ w ∈ u_ws C T N, w ∈ lw_all) (hty : ∀ k, k < N → parseFieldDescriptor (T k).2.2.1 = some (ty0 k)) (hnm : ∀ a, a < N → ∀ b, b < N → a ≠ b → (T a).2.1 ≠ (T b).2.1) (q : Nat) (hk : q < N) (hl : Cond.fieldLink own idx own (T q).2.1 (T q).2.2.1 ∈ lw_all) (hr : (T q).1 = own) (hfin : (T q).2.2.2 = true) (hd : ty0 q = ty) (hn : narrow ty v = v) (hfit : fits ty v = true) (hlen : q < fs.length) (d : decode cc pc = .ok (.putfield idx, 3)) (kk : bk_V Γ D R own cc tb k n (gset w i j (some (a, bO ci (fs.set q v)))) L st (pc + 3)) : bk_V Γ D R own cc tb k n w L (v :: .ref a :: st) pc := by
  obtain ⟨p, l, e, s, m, args, below, meth, c, A, Q, ret, thr⟩ := Γ
  intro G H locs ls hW hS hL
  obtain ⟨cell, cf, fi, kf, kC, f, q1, q3, hi, hst, hsz, q2, hfc, hkC, hkind, hset⟩ := bk_obj (v := v) (ty := ty) hW h hc G.2.2.2.1 hin G.2.2.2.2.1.1 ty0 hty hnm q hk hlen own
  have hlay := G.2.2.2.1 _ (hin _ (u_in_lay hk))
  unfold u_lay at hlay
  rw [if_pos hfin] at hlay
  have hcf : m.cls = cf := by
    obtain ⟨_, _, c', _, _, _, -, -, hf', -, -, -, hown2, -⟩ := Cond.laysFinal_spec hlay
    have e1 : c' = cf := by have := hi.symm.trans hf'; simp at this; exact this.1.symm
    rw [hr] at hown2
    rw [← e1]; exact Option.some.inj (G.2.2.1.symm.trans hown2)
  have h6 := u_fits hfc hkC hkind (Or.inr hlay) hi (by rw [hty q hk, hd]) hn hfit
  refine W.putFinK G.1 G.2.1 (f := f) G.2.2.1 (G.2.2.2.1 _ hl) (by rw [hr] at hi; exact hi) hst hcf hct (by rw [q2]; exact h6) q1 q3 hsz rfl rfl d fun H' e1 e2 e3 => ?_
  exact kk G H' _ ls (hset H' e1 e3) (hS.put e2 e3 (hW.1 i j _ h).2) hL
/-! arrays -/
theorem bk_nat {z : Int} {N : Nat} (h : 0 ≤ z ∧ z < (N : Int)) (hN : N < 2147483648) : (((iI z).toNatClampNeg : Nat) : Int) = z := by
  rw [iI_nat (by omega)]
  omega
theorem br_iald {i j a N : Nat} {f : Int → Int} {z : Int} (h : w i j = some (a, bI N f)) (hz : 0 ≤ z ∧ z < (N : Int)) (hN : N < 2147483648) (d : decode cc pc = .ok (.iaload, 1)) (kk : bk_V Γ D R own cc tb k n w L (.int (iI (f z)) :: st) (pc + 1)) : bk_V Γ D R own cc tb k n w L (.int (iI z) :: .ref a :: st) pc := by
  obtain ⟨p, l, e, s, m, args, below, meth, c, A, Q, ret, thr⟩ := Γ
  exact fun G H locs ls hW hS hL => va_iald (D := D.1) (cl := vwCl) (ws := [(a, bk_e D (bI N f))]) (tys := bk_tys D.2.1) G.1 G.2.1 G.2.2.2.2.1.1 (hW.one h) 0 0 (f := fun j : Nat => iI (f (j : Int))) rfl rfl (iI_in hz hN) d (by rw [bk_nat hz hN]; exact kk G H locs ls hW hS hL)
theorem br_bald {i j a N : Nat} {f : Int → Int} {z : Int} (h : w i j = some (a, bB N f)) (hz : 0 ≤ z ∧ z < (N : Int)) (hN : N < 2147483648) (d : decode cc pc = .ok (.baload, 1)) (kk : bk_V Γ D R own cc tb k n w L (.int (iI (f z)) :: st) (pc + 1)) : bk_V Γ D R own cc tb k n w L (.int (iI z) :: .ref a :: st) pc := by
  obtain ⟨p, l, e, s, m, args, below, meth, c, A, Q, ret, thr⟩ := Γ
  exact fun G H locs ls hW hS hL => va_bald (D := D.1) (cl := vwCl) (ws := [(a, bk_e D (bB N f))]) (tys := bk_tys D.2.1) G.1 G.2.1 G.2.2.2.2.1.1 (hW.one h) 0 1 (f := fun j : Nat => iI (f (j : Int))) rfl rfl (iI_in hz hN) d (by rw [bk_nat hz hN]; exact kk G H locs ls hW hS hL)
theorem br_zald {i j a N : Nat} {f : Int → Int} {z : Int} (h : w i j = some (a, bZ N f)) (hz : 0 ≤ z ∧ z < (N : Int)) (hN : N < 2147483648) (d : decode cc pc = .ok (.baload, 1)) (kk : bk_V Γ D R own cc tb k n w L (.int (iI (f z)) :: st) (pc + 1)) : bk_V Γ D R own cc tb k n w L (.int (iI z) :: .ref a :: st) pc := by
  obtain ⟨p, l, e, s, m, args, below, meth, c, A, Q, ret, thr⟩ := Γ
  exact fun G H locs ls hW hS hL => va_zald (D := D.1) (cl := vwCl) (ws := [(a, bk_e D (bZ N f))]) (tys := bk_tys D.2.1) G.1 G.2.1 G.2.2.2.2.1.1 (hW.one h) 0 2 (f := fun j : Nat => iI (f (j : Int))) rfl rfl (iI_in hz hN) d (by rw [bk_nat hz hN]; exact kk G H locs ls hW hS hL)
theorem br_lald {i j a N : Nat} {f : Int → Int} {z : Int} (h : w i j = some (a, bJ N f)) (hz : 0 ≤ z ∧ z < (N : Int)) (hN : N < 2147483648) (d : decode cc pc = .ok (.laload, 1)) (kk : bk_V Γ D R own cc tb k n w L (.long (jL (f z)) :: st) (pc + 1)) : bk_V Γ D R own cc tb k n w L (.int (iI z) :: .ref a :: st) pc := by
  obtain ⟨p, l, e, s, m, args, below, meth, c, A, Q, ret, thr⟩ := Γ
  exact fun G H locs ls hW hS hL => va_lald (D := D.1) (cl := vwCl) (ws := [(a, bk_e D (bJ N f))]) (tys := bk_tys D.2.1) G.1 G.2.1 G.2.2.2.2.1.1 (hW.one h) 0 6 (f := fun j : Nat => jL (f (j : Int))) rfl rfl (iI_in hz hN) d (by rw [bk_nat hz hN]; exact kk G H locs ls hW hS hL)
/-- a reference out of an array; t: 3 Shift, 4 Pause -/
theorem br_aald {i j a N t : Nat} {C : String} {f : Int → Option Nat} {z : Int} (h : w i j = some (a, bQ t N f)) (ht : (bk_tys D.2.1)[t]? = some (D.2.1 t, .object C)) (hz : 0 ≤ z ∧ z < (N : Int)) (hN : N < 2147483648) (d : decode cc pc = .ok (.aaload, 1)) (kk : bk_V Γ D R own cc tb k n w L (va_rf (f z) :: st) (pc + 1)) : bk_V Γ D R own cc tb k n w L (.int (iI z) :: .ref a :: st) pc := by
  obtain ⟨p, l, e, s, m, args, below, meth, c, A, Q, ret, thr⟩ := Γ
  exact fun G H locs ls hW hS hL => va_aldq (D := D.1) (cl := vwCl) (ws := [(a, bk_e D (bQ t N f))]) (tys := bk_tys D.2.1) G.1 G.2.1 G.2.2.2.2.1.1 (hW.one h) 0 t (f := fun j : Nat => f (j : Int)) rfl ht (iI_in hz hN) d (by rw [bk_nat hz hN]; exact kk G H locs ls hW hS hL)
/-- an int array out of an array of them -/
theorem br_aald5 {i j a N : Nat} {f : Int → Option Nat} {z : Int} (h : w i j = some (a, bQ 5 N f)) (hz : 0 ≤ z ∧ z < (N : Int)) (hN : N < 2147483648) (d : decode cc pc = .ok (.aaload, 1)) (kk : bk_V Γ D R own cc tb k n w L (va_rf (f z) :: st) (pc + 1)) : bk_V Γ D R own cc tb k n w L (.int (iI z) :: .ref a :: st) pc := by
  obtain ⟨p, l, e, s, m, args, below, meth, c, A, Q, ret, thr⟩ := Γ
  intro G H locs ls hW hS hL
  have hin := iI_in hz hN
  have hlt : (iI z).toNatClampNeg < N := Nat.not_le.mp fun q => hin (Or.inr q)
  have hcell : H[a]? = some (arrV (D.2.1 5) N (fun j => va_rf (f (j : Int)))) := (hW.1 i j _ h).1
  refine W.aald (v := va_rf (f z)) (ty := .array .int) G.1 G.2.1 hcell ((G.2.2.2.2.1.1.2 5 _ rfl).1 N (fun j => va_rf (f (j : Int)))) rfl (fun q => by cases q) (by rw [arrV_size]; exact hin) ?_ rfl rfl d (kk G H locs ls hW hS hL)
  rw [arrV_read _ _ hlt, bk_nat hz hN]
theorem br_alen {i j a t : Nat} {x : vp_A} {ty : FieldType} (h : w i j = some (a, .inl (t, x))) (ht : (bk_tys D.2.1)[t]? = some (D.2.1 t, ty)) (d : decode cc pc = .ok (.arraylength, 1)) (kk : bk_V Γ D R own cc tb k n w L (.int (iI (x.1 : Int)) :: st) (pc + 1)) : bk_V Γ D R own cc tb k n w L (.ref a :: st) pc := by
  obtain ⟨p, l, e, s, m, args, below, meth, c, A, Q, ret, thr⟩ := Γ
  exact fun G H locs ls hW hS hL => va_alen (D := D.1) (cl := vwCl) (ws := [(a, .inl (D.2.1 t, x))]) (tys := bk_tys D.2.1) (v := iI (x.1 : Int)) G.1 G.2.1 G.2.2.2.2.1.1 (hW.one h) 0 t rfl ht (by unfold iI; exact (Int32.ofInt_eq_ofNat (n := x.1)).symm) d (kk G H locs ls hW hS hL)
theorem bk_updI {N : Nat} {f : Int → Int} {z v : Int} (hz : 0 ≤ z ∧ z < (N : Int)) (hN : N < 2147483648) : (updV (fun j : Nat => Value.int (iI (f (j : Int)))) (iI z).toNatClampNeg (.int (iI v))) = fun j : Nat => .int (iI (uI f z v (j : Int))) := by
  funext q
  have hb := bk_nat hz hN
  by_cases hq : q = (iI z).toNatClampNeg
  · subst hq
    simp [updV, uI, hb]
  · have : ¬ (q : Int) = z := fun e => hq (by omega)
    simp [updV, uI, hq, this]
theorem br_iast {i j a N : Nat} {f : Int → Int} {z v : Int} (h : w i j = some (a, bI N f)) (hz : 0 ≤ z ∧ z < (N : Int)) (hN : N < 2147483648) (d : decode cc pc = .ok (.iastore, 1)) (kk : bk_V Γ D R own cc tb k n (gset w i j (some (a, bI N (uI f z v)))) L st (pc + 1)) : bk_V Γ D R own cc tb k n w L (.int (iI v) :: .int (iI z) :: .ref a :: st) pc := by
  obtain ⟨p, l, e, s, m, args, below, meth, c, A, Q, ret, thr⟩ := Γ
  intro G H locs ls hW hS hL
  have hcell : H[a]? = some (arrV (D.2.1 0) N (fun j => .int (iI (f (j : Int))))) := (hW.1 i j _ h).1
  refine W.iast G.1 G.2.1 hcell ((G.2.2.2.2.1.1.2 0 _ rfl).1 N _) (fun q => by cases q) (by rw [arrV_size]; exact iI_in hz hN) rfl rfl d fun H1 e1 e2 oq => ?_
  refine kk G H1 _ ls (hW.set h ?_ oq) (hS.put e2 oq (hW.1 i j _ h).2) hL
  show H1[a]? = some (arrV (D.2.1 0) N (fun q : Nat => .int (iI (uI f z v (q : Int)))))
  rw [e1, arrV_store, bk_updI hz hN]
theorem br_bast {i j a N : Nat} {f : Int → Int} {z v : Int} (h : w i j = some (a, bB N f)) (hz : 0 ≤ z ∧ z < (N : Int)) (hN : N < 2147483648) (hv : -128 ≤ v ∧ v < 128) (d : decode cc pc = .ok (.bastore, 1)) (kk : bk_V Γ D R own cc tb k n (gset w i j (some (a, bB N (uI f z v)))) L st (pc + 1)) : bk_V Γ D R own cc tb k n w L (.int (iI v) :: .int (iI z) :: .ref a :: st) pc := by
  obtain ⟨p, l, e, s, m, args, below, meth, c, A, Q, ret, thr⟩ := Γ
  intro G H locs ls hW hS hL
  have hnar : narrow .byte (.int (iI v)) = .int (iI v) := by
    show Value.int (iI v).toInt8.toInt32 = _
    rw [show (iI v).toInt8.toInt32 = iI v by
      rw [← Int32.toInt_inj, Int8.toInt_toInt32, Int32.toInt_toInt8, iI_toInt (by omega)]
      rw [Int.bmod_eq_of_le (by omega) (by omega)]]
  have hcell : H[a]? = some (arrV (D.2.1 1) N (fun j => .int (iI (f (j : Int))))) := (hW.1 i j _ h).1
  refine W.bast G.1 G.2.1 hcell ((G.2.2.2.2.1.1.2 1 _ rfl).1 N _) (fun q => by cases q) (by rw [arrV_size]; exact iI_in hz hN) rfl rfl d fun H1 e1 e2 oq => ?_
  refine kk G H1 _ ls (hW.set h ?_ oq) (hS.put e2 oq (hW.1 i j _ h).2) hL
  show H1[a]? = some (arrV (D.2.1 1) N (fun q : Nat => .int (iI (uI f z v (q : Int)))))
  rw [e1, hnar, arrV_store, bk_updI hz hN]
theorem br_zast {i j a N : Nat} {f : Int → Int} {z v : Int} (h : w i j = some (a, bZ N f)) (hz : 0 ≤ z ∧ z < (N : Int)) (hN : N < 2147483648) (hv : v = 0 ∨ v = 1) (d : decode cc pc = .ok (.bastore, 1)) (kk : bk_V Γ D R own cc tb k n (gset w i j (some (a, bZ N (uI f z v)))) L st (pc + 1)) : bk_V Γ D R own cc tb k n w L (.int (iI v) :: .int (iI z) :: .ref a :: st) pc := by
  obtain ⟨p, l, e, s, m, args, below, meth, c, A, Q, ret, thr⟩ := Γ
  intro G H locs ls hW hS hL
  have hnar : narrow .boolean (.int (iI v)) = .int (iI v) := by
    rcases hv with rfl | rfl <;> rfl
  have hcell : H[a]? = some (arrV (D.2.1 2) N (fun j => .int (iI (f (j : Int))))) := (hW.1 i j _ h).1
  refine W.zast G.1 G.2.1 hcell ((G.2.2.2.2.1.1.2 2 _ rfl).1 N _) (fun q => by cases q) (by rw [arrV_size]; exact iI_in hz hN) rfl rfl d fun H1 e1 e2 oq => ?_
  refine kk G H1 _ ls (hW.set h ?_ oq) (hS.put e2 oq (hW.1 i j _ h).2) hL
  show H1[a]? = some (arrV (D.2.1 2) N (fun q : Nat => .int (iI (uI f z v (q : Int)))))
  rw [e1, hnar, arrV_store, bk_updI hz hN]
theorem br_last {i j a N : Nat} {f : Int → Int} {z v : Int} (h : w i j = some (a, bJ N f)) (hz : 0 ≤ z ∧ z < (N : Int)) (hN : N < 2147483648) (d : decode cc pc = .ok (.lastore, 1)) (kk : bk_V Γ D R own cc tb k n (gset w i j (some (a, bJ N (uI f z v)))) L st (pc + 1)) : bk_V Γ D R own cc tb k n w L (.long (jL v) :: .int (iI z) :: .ref a :: st) pc := by
  obtain ⟨p, l, e, s, m, args, below, meth, c, A, Q, ret, thr⟩ := Γ
  intro G H locs ls hW hS hL
  have hcell : H[a]? = some (arrV (D.2.1 6) N (fun j => .long (jL (f (j : Int))))) := (hW.1 i j _ h).1
  refine W.last G.1 G.2.1 hcell ((G.2.2.2.2.1.1.2 6 _ rfl).1 N _) (fun q => by cases q) (by rw [arrV_size]; exact iI_in hz hN) rfl rfl d fun H1 e1 e2 oq => ?_
  refine kk G H1 _ ls (hW.set h ?_ oq) (hS.put e2 oq (hW.1 i j _ h).2) hL
  show H1[a]? = some (arrV (D.2.1 6) N (fun q : Nat => .long (jL (uI f z v (q : Int)))))
  rw [e1, arrV_store]
  congr 2
  funext q
  have hb := bk_nat hz hN
  by_cases hq : q = (iI z).toNatClampNeg
  · subst hq
    simp [updV, uI, hb]
  · have : ¬ (q : Int) = z := fun e => hq (by omega)
    simp [updV, uI, hq, this]
def uQ (f : Int → Option Nat) (z : Int) (v : Option Nat) : Int → Option Nat := fun j => if j = z then v else f j
theorem bk_updQ {N : Nat} {f : Int → Option Nat} {z : Int} {v : Nat} (hz : 0 ≤ z ∧ z < (N : Int)) (hN : N < 2147483648) : (updV (fun j : Nat => va_rf (f (j : Int))) (iI z).toNatClampNeg (.ref v)) = fun j : Nat => va_rf (uQ f z (some v) (j : Int)) := by
  funext q
  have hb := bk_nat hz hN
  by_cases hq : q = (iI z).toNatClampNeg
  · subst hq
    simp [updV, uQ, hb, va_rf]
  · have : ¬ (q : Int) = z := fun e => hq (by omega)
    simp [updV, uQ, hq, this]
/-- an object into an array of its class -/
theorem br_aast {i j i2 j2 a b N t ci : Nat} {r : vw_C} {fs : List Value} {f : Int → Option Nat} {z : Int} (h : w i j = some (a, bQ t N f)) (ht : (bk_tys D.2.1)[t]? = some (D.2.1 t, .object r.1)) (h2 : w i2 j2 = some (b, bO ci fs)) (hc : vwCl[ci]? = some r) (hz : 0 ≤ z ∧ z < (N : Int)) (hN : N < 2147483648) (d : decode cc pc = .ok (.aastore, 1)) (kk : bk_V Γ D R own cc tb k n (gset w i j (some (a, bQ t N (uQ f z (some b))))) L st (pc + 1)) : bk_V Γ D R own cc tb k n w L (.ref b :: .int (iI z) :: .ref a :: st) pc := by
  obtain ⟨p, l, e, s, m, args, below, meth, c, A, Q, ret, thr⟩ := Γ
  intro G H locs ls hW hS hL
  have hin := iI_in hz hN
  have hlt : (iI z).toNatClampNeg < N := Nat.not_le.mp fun q => hin (Or.inr q)
  have h0 : ¬ iI z < 0 := fun q => hin (Or.inl q)
  have hK := G.2.2.2.2.1.1
  have hcell : H[a]? = some (arrV (D.2.1 t) N (fun j => va_rf (f (j : Int)))) := (hW.1 i j _ h).1
  obtain ⟨r', hr', cellV, g1, g2, g3, -⟩ := (hW.1 i2 j2 _ h2).1
  have hcls := (hK.1 ci r hc).2
  obtain ⟨kA, comp, k1, k2, k3, -⟩ := (hK.2 t _ ht).2
  have hcomp : comp = D.1.1 ci := Option.some.inj (k3.symm.trans hcls.1)
  subst hcomp
  obtain ⟨kC, hkC, -⟩ := hcls.2
  refine W.aast G.1 G.2.1 hcell (fun q h => by cases h) (fun h => by cases h) k1 k2 rfl hkC ⟨h0, by rw [arrV_size]; exact hlt⟩ g1 (fun q h => by rw [g3] at h; cases h) (by rw [g2]; exact hkC) (by rw [g2]; exact va_assign hcls) rfl rfl d fun H1 e1 e2 oq => ?_
  refine kk G H1 _ ls (hW.set h ?_ oq) (hS.put e2 oq (hW.1 i j _ h).2) hL
  show H1[a]? = some (arrV (D.2.1 t) N (fun q : Nat => va_rf (uQ f z (some b) (q : Int))))
  rw [e1, arrV_store, bk_updQ hz hN]
end BHEAP
