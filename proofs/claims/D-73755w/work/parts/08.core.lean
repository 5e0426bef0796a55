/-! THE FRAME OF THE WALKS: ints by their numbers; worlds as functions of two places; the judgement bk_V (a frame at pc over any heap that holds the world); contracts bk_K -/
set_option maxRecDepth 100000
def iI (z : Int) : Int32 := Int32.ofInt z
def jL (z : Int) : Int64 := Int64.ofInt z
theorem iI_add (a b : Int) : iI a + iI b = iI (a + b) := (Int32.ofInt_add a b).symm
theorem iI_sub (a b : Int) : iI a - iI b = iI (a - b) := (Int32.ofInt_sub a b).symm
theorem iI_mul (a b : Int) : iI a * iI b = iI (a * b) := (Int32.ofInt_mul a b).symm
theorem jL_add (a b : Int) : jL a + jL b = jL (a + b) := (Int64.ofInt_add a b).symm
theorem jL_sub (a b : Int) : jL a - jL b = jL (a - b) := (Int64.ofInt_sub a b).symm
theorem jL_mul (a b : Int) : jL a * jL b = jL (a * b) := (Int64.ofInt_mul a b).symm
theorem iI_toInt {a : Int} (h : -2147483648 ≤ a ∧ a < 2147483648) : (iI a).toInt = a := Int32.toInt_ofInt_of_le (by have := h.1; omega) (by have := h.2; omega)
theorem jL_toInt {a : Int} (h : -9223372036854775808 ≤ a ∧ a < 9223372036854775808) : (jL a).toInt = a := Int64.toInt_ofInt_of_le (by have := h.1; omega) (by have := h.2; omega)
theorem iI_nat {a : Int} (h : -2147483648 ≤ a ∧ a < 2147483648) : (iI a).toNatClampNeg = a.toNat := Int32.toNatClampNeg_ofInt_of_le (by have := h.1; omega) (by have := h.2; omega)
theorem iI_eq {a b : Int} (ha : -2147483648 ≤ a ∧ a < 2147483648) (hb : -2147483648 ≤ b ∧ b < 2147483648) : iI a = iI b ↔ a = b := by
  rw [← Int32.toInt_inj, iI_toInt ha, iI_toInt hb]
theorem iI_lt {a b : Int} (ha : -2147483648 ≤ a ∧ a < 2147483648) (hb : -2147483648 ≤ b ∧ b < 2147483648) : iI a < iI b ↔ a < b := by
  rw [Int32.lt_iff_toInt_lt, iI_toInt ha, iI_toInt hb]
theorem iI_le {a b : Int} (ha : -2147483648 ≤ a ∧ a < 2147483648) (hb : -2147483648 ≤ b ∧ b < 2147483648) : iI a ≤ iI b ↔ a ≤ b := by
  rw [Int32.le_iff_toInt_le, iI_toInt ha, iI_toInt hb]
theorem iI_of (x : Int32) : ∃ z : Int, (-2147483648 ≤ z ∧ z < 2147483648) ∧ x = iI z :=
  ⟨x.toInt, ⟨by have h := x.le_toInt; have e : (-2 ^ 31 : Int) = -2147483648 := by decide
                omega, by have h := x.toInt_lt; have e : (2 ^ 31 : Int) = 2147483648 := by decide
                          omega⟩, (Int32.ofInt_toInt x).symm⟩
theorem iI_in {a : Int} {n : Nat} (h : 0 ≤ a ∧ a < (n : Int)) (hn : n < 2147483648) : vp_in (iI a) n := by
  rw [vp_in_iff, iI_toInt (by omega)]
  exact h
/-! cells of a world: arrays by the number of their type (0 int, 1 byte, 2 boolean, 3 Shift, 4 Pause, 5 int[], 6 long), objects by the number of their class in vwCl -/
abbrev vwCl : List vw_C := [(RX1, TX1, 13), (RX2, TX2, 9), (RX3, TX3, 23), (RX4, TX4, 7), (RX5, TX5, 8), (RX6, TX6, 5), (RX7, TX7, 4), (RX8, TX8, 3)]
abbrev bE : Type := (Nat × vp_A) ⊕ (Nat × List Value)
abbrev gC : Type := Nat → Nat → Option (Nat × bE)
abbrev bk_D : Type := va_G × (Nat → ClassId) × (Nat → Nat)
abbrev bk_tys (d : Nat → ClassId) : List (ClassId × FieldType) := [(d 0, .int), (d 1, .byte), (d 2, .boolean), (d 3, .object "BreakSetter$Shift"), (d 4, .object "BreakSetter$Pause"), (d 5, .array .int), (d 6, .long)]
def bk_e (D : bk_D) (e : bE) : va_E := match e with
  | .inl (t, x) => .inl (D.2.1 t, x)
  | .inr o => .inr o
def bk_at (D : bk_D) (q : Nat × bE) (H : Heap) : Prop := va_at D.1 vwCl (q.1, bk_e D q.2) H
def gset (w : gC) (i j : Nat) (c : Option (Nat × bE)) : gC := fun i' j' => if i' = i ∧ j' = j then c else w i' j'
theorem gset_eq (w : gC) (i j : Nat) (c : Option (Nat × bE)) : gset w i j c i j = c := by simp [gset]
theorem gset_ne (w : gC) {i j i' j' : Nat} (c : Option (Nat × bE)) (h : ¬ (i' = i ∧ j' = j)) : gset w i j c i' j' = w i' j' := by simp [gset, h]
def gW (D : bk_D) (A : Nat → Prop) (w : gC) (H : Heap) : Prop :=
  (∀ (i j : Nat) (q : Nat × bE), w i j = some q → bk_at D q H ∧ A q.1) ∧
  ∀ (i j i' j' : Nat) (q q' : Nat × bE), w i j = some q → w i' j' = some q' → q.1 = q'.1 → i = i' ∧ j = j'
theorem bk_at.kept {D : bk_D} {q : Nat × bE} {H H1 : Heap} (h : bk_at D q H) (hq : H1[q.1]? = H[q.1]?) : bk_at D q H1 := va_at.kept h hq
theorem bk_at.lt {D : bk_D} {q : Nat × bE} {H : Heap} (h : bk_at D q H) : q.1 < H.size := va_at.lt (q := (q.1, bk_e D q.2)) h
theorem gW.lt {D : bk_D} {A : Nat → Prop} {w : gC} {H : Heap} (h : gW D A w H) {i j : Nat} {q : Nat × bE} (hq : w i j = some q) : q.1 < H.size := (h.1 i j q hq).1.lt
theorem gW.set {D : bk_D} {A : Nat → Prop} {w : gC} {H H1 : Heap} (h : gW D A w H) {i j a : Nat} {e0 e : bE} (hq : w i j = some (a, e0)) (he : bk_at D (a, e) H1) (oq : ∀ q : Nat, q ≠ a → H1[q]? = H[q]?) : gW D A (gset w i j (some (a, e))) H1 := by
  have key : ∀ (i' j' : Nat) (q : Nat × bE), gset w i j (some (a, e)) i' j' = some q → ∃ q0, w i' j' = some q0 ∧ q0.1 = q.1 := by
    intro i' j' q hq'
    by_cases c : i' = i ∧ j' = j
    · obtain ⟨rfl, rfl⟩ := c
      rw [gset_eq] at hq'
      cases hq'
      exact ⟨_, hq, rfl⟩
    · rw [gset_ne _ _ c] at hq'
      exact ⟨q, hq', rfl⟩
  refine ⟨fun i' j' q hq' => ?_, fun i1 j1 i2 j2 q q' h1 h2 hh => ?_⟩
  · by_cases c : i' = i ∧ j' = j
    · obtain ⟨rfl, rfl⟩ := c
      rw [gset_eq] at hq'
      cases hq'
      exact ⟨he, (h.1 _ _ _ hq).2⟩
    · rw [gset_ne _ _ c] at hq'
      exact ⟨(h.1 i' j' q hq').1.kept (oq _ fun z => c (h.2 i' j' i j q (a, e0) hq' hq z)), (h.1 i' j' q hq').2⟩
  · obtain ⟨p, a1, a2⟩ := key _ _ _ h1
    obtain ⟨p', b1, b2⟩ := key _ _ _ h2
    exact h.2 _ _ _ _ _ _ a1 b1 (a2.trans (hh.trans b2.symm))
theorem gW.push {D : bk_D} {A : Nat → Prop} {w : gC} {H H1 : Heap} (h : gW D A w H) {i j : Nat} {e : bE} (hA : A H.size) (he : bk_at D (H.size, e) H1) (o : ∀ q : Nat, q < H.size → H1[q]? = H[q]?) : gW D A (gset w i j (some (H.size, e))) H1 := by
  have key : ∀ (i' j' : Nat) (q : Nat × bE), gset w i j (some (H.size, e)) i' j' = some q → ((i' = i ∧ j' = j) ∧ q = (H.size, e)) ∨ (w i' j' = some q ∧ q.1 < H.size) := by
    intro i' j' q hq'
    by_cases c : i' = i ∧ j' = j
    · left
      refine ⟨c, ?_⟩
      obtain ⟨rfl, rfl⟩ := c
      rw [gset_eq] at hq'
      cases hq'
      rfl
    · right
      rw [gset_ne _ _ c] at hq'
      exact ⟨hq', h.lt hq'⟩
  refine ⟨fun i' j' q hq' => ?_, fun i1 j1 i2 j2 q q' h1 h2 hh => ?_⟩
  · rcases key _ _ _ hq' with ⟨-, rfl⟩ | ⟨c, hl⟩
    · exact ⟨he, hA⟩
    · exact ⟨(h.1 i' j' q c).1.kept (o _ hl), (h.1 i' j' q c).2⟩
  · rcases key _ _ _ h1 with ⟨c1, rfl⟩ | ⟨c1, l1⟩ <;> rcases key _ _ _ h2 with ⟨c2, rfl⟩ | ⟨c2, l2⟩
    · exact ⟨c1.1.trans c2.1.symm, c1.2.trans c2.2.symm⟩
    · exact absurd (hh ▸ l2) (Nat.lt_irrefl _)
    · exact absurd (hh ▸ l1) (Nat.lt_irrefl _)
    · exact h.2 _ _ _ _ _ _ c1 c2 hh
theorem gW.sub {D : bk_D} {A : Nat → Prop} {w w' : gC} {H : Heap} (h : gW D A w H) (hs : ∀ (i j : Nat) (q : Nat × bE), w' i j = some q → w i j = some q) : gW D A w' H :=
  ⟨fun i j q hq => h.1 i j q (hs i j q hq), fun i j i' j' q q' h1 h2 hh => h.2 i j i' j' q q' (hs _ _ _ h1) (hs _ _ _ h2) hh⟩
theorem gW.by {D : bk_D} {A : Nat → Prop} {w w' : gC} {H : Heap} (h : gW D A w H) (f g : Nat → Nat → Nat) (hs : ∀ (i j : Nat) (q : Nat × bE), w' i j = some q → w (f i j) (g i j) = some q)
    (hi : ∀ (i j i' j' : Nat) (q q' : Nat × bE), w' i j = some q → w' i' j' = some q' → f i j = f i' j' → g i j = g i' j' → i = i' ∧ j = j') : gW D A w' H :=
  ⟨fun i j q hq => h.1 _ _ q (hs i j q hq), fun i j i' j' q q' h1 h2 hh => by
    obtain ⟨a, b⟩ := h.2 _ _ _ _ q q' (hs _ _ _ h1) (hs _ _ _ h2) hh
    exact hi i j i' j' q q' h1 h2 a b⟩
theorem gW.empty {D : bk_D} {A : Nat → Prop} {H : Heap} : gW D A (fun _ _ => none) H := ⟨fun _ _ _ h => (by cases h), fun _ _ _ _ _ _ h => (by cases h)⟩
/-- one cell, as the kit has worlds -/
theorem gW.one {D : bk_D} {A : Nat → Prop} {w : gC} {H : Heap} (h : gW D A w H) {i j : Nat} {a : Nat} {e : bE} (hq : w i j = some (a, e)) : va_P D.1 vwCl [(a, bk_e D e)] H := by
  intro k q hk
  have hz : k < 1 := (List.getElem?_eq_some_iff.mp hk).1
  rw [show k = 0 by omega] at hk
  cases hk
  exact (h.1 i j _ hq).1
/-! the surroundings: what the tables say, of a state -/
def bk_nest : Cond → Bool
  | .fieldLinkNest .. => true
  | .methodLinkNest .. => true
  | .castable .. => true
  | _ => false
def bk_arr2 (U : State) : Prop := (Cond.arrayOver (.array .int)).before #[] U = true
theorem bk_arr2.moved {u U : State} (hvm : u.vm.Alike U.vm) (h : bk_arr2 u) : bk_arr2 U := by
  obtain ⟨comp, c, k, h1, h2, h3, h4, h5⟩ := arrayOverA_spec h
  obtain ⟨k', hk', he⟩ := hvm.2.2 _ _ h3
  have hi : (U.vm.classes.findIdx? fun (x : Class) => match x.kind with | .array component _ => component == comp | _ => false) = some c := by
    rw [hvm.findIdx?_eq _ (fun _ => rfl)]
    exact h2
  have hkind : k'.kind = .array comp (.array .int) := by rw [he]; exact h4
  have f1 : U.vm.findClass (FieldType.array .int).toString = some comp := by rw [hvm.findClass]; exact h1
  have f2 : U.vm.findClass ("[" ++ (FieldType.array .int).toString) = some c := by rw [hvm.findClass]; exact h5
  unfold bk_arr2 Cond.before Cond.holds
  simp only [Cond.value]
  rw [f1, Option.bind_some]
  refine (congrArg (fun o : Option Nat => (o.bind (fun c => (U.vm.classes[c]?).map fun (k : Class) => match k.kind with | .array _ ty => decide (ty = FieldType.array .int) && decide (U.vm.findClass ("[" ++ (FieldType.array .int).toString) = some c) | _ => false) == some true)) hi).trans ?_
  simp [hk', hkind, f2]
def bk_len : List Nat := [5, 4, 5, 5]
def bk_byt : List (List Int32) := [[112, 111, 115, 116, 115], [110, 101, 101, 100], [115, 104, 105, 102, 116], [112, 97, 117, 115, 101]]
def bk_S (D : bk_D) (A : Nat → Prop) (U : State) (H : Heap) : Prop :=
  (∃ adV : Nat → Nat, vk_S 4 bk_len bk_byt D.2.2 adV A U H) ∧ (vk_R "BreakSetter$Reader" 137 "posts" (D.2.2 0) U ∧ vk_R "BreakSetter$Reader" 141 "need" (D.2.2 1) U ∧ vk_R "BreakSetter$Reader" 145 "shift" (D.2.2 2) U ∧ vk_R "BreakSetter$Reader" 113 "pause" (D.2.2 3) U) ∧
  va_Z "java/lang/String" "COMPACT_STRINGS" "Z" (.int 1) A U H ∧ va_Zq "jdk/internal/util/Preconditions" "SIOOBE_FORMATTER" "Ljava/util/function/BiFunction;" A U H
theorem bk_S.moved {D : bk_D} {A : Nat → Prop} {s U : State} {H H1 : Heap} (hW : s.WarmedH U.vm) (hq : ∀ a : Nat, a < H.size → ¬ A a → H1[a]? = H[a]?) (h : bk_S D A s H) : bk_S D A U H1 := by
  obtain ⟨⟨adV, h1⟩, ⟨r0, r1, r2, r3⟩, h2, h3⟩ := h
  exact ⟨⟨adV, vk_S.moved hW.alike (h1.kept hq)⟩, ⟨r0.warm hW, r1.warm hW, r2.warm hW, r3.warm hW⟩, va_Z.moved hW.alike (h2.kept hq), va_Zq.moved hW.alike (h3.kept hq)⟩
def bk_E (D : bk_D) (A : Nat → Prop) (U : State) : Prop :=
  va_K D.1 vwCl (bk_tys D.2.1) U ∧ (∀ w ∈ lw_tbl, bk_nest w = true → va_Nw w U) ∧ bk_arr2 U ∧ (∀ q : Nat, U.heap.size ≤ q → A q) ∧
  vx_Zq Bundle.tN "UNASSIGNED_STACK" Bundle.steD A U U.heap ∧ vx_Zq Bundle.tN "SUPPRESSED_SENTINEL" Bundle.listD A U U.heap ∧ bk_S D A U U.heap
theorem bk_nest_warm {s U : State} {w : Cond} (hW : s.WarmedH U.vm) (hn : bk_nest w = true) (h : va_Nw w s) : va_Nw w U := by
  cases w <;> first | (cases hn; done) | skip
  all_goals first | exact va_Nw.warmF hW h | exact va_Nw.warmM hW h | exact va_Nw.warmC hW h
theorem bk_E.moved {D : bk_D} {A : Nat → Prop} {s U : State} {locs : List Loc} (h : bk_E D A s) (hW : s.WarmedH U.vm) (hS : va_S A s.heap U.heap locs) : bk_E D A U := by
  obtain ⟨h1, h2, h3, h4, h5, h6, h7⟩ := h
  exact ⟨va_K.moved hW.alike h1, fun w hw hn => bk_nest_warm hW hn (h2 w hw hn), bk_arr2.moved hW.alike h3, fun q hq => h4 q (Nat.le_trans hS.1 hq), vx_Zq.moved hW.alike (h5.kept hS.2.1), vx_Zq.moved hW.alike (h6.kept hS.2.1), bk_S.moved hW hS.2.1 h7⟩
/-! contracts -/
def bk_Pc (D : bk_D) (A : Nat → Prop) (args : List Value) (w : gC) : Array Value → State → Prop := va_Pc args (fun U => bk_E D A U ∧ gW D A w U.heap)
def bk_Qc (D : bk_D) (A : Nat → Prop) (post : Option Value → gC → Prop) : Array Value → State → Outcome → State → Prop := fun _ st oc t => (∃ (v : Option Value) (w : gC), oc = .returned v ∧ post v w ∧ gW D A w t.heap) ∧ va_F A st t
def bk_Xc (D : bk_D) (A : Nat → Prop) (xp : Addr → String → gC → Prop) : Addr → String → State → State → Prop := fun q E st t => (∃ w : gC, xp q E w ∧ gW D A w t.heap) ∧ va_F A st t
/-- a contract: in the world w, with the arguments args, y returns with post or throws with xp -/
def bk_K (D : bk_D) (y : MethodName) (cw : Cond) (rm : Room) (args : List Value) (w : gC) (post : Option Value → gC → Prop) (xp : Addr → String → gC → Prop) : Prop :=
  ∀ (l : Launch) (A : Nat → Prop), l.stackTraces = false → vx_Met l y (cw :: lw_all) rm (bk_Pc D A args w) (bk_Qc D A post) (bk_Xc D A xp) rm.cells rm.slots A
def bk_nox : Addr → String → gC → Prop := fun _ _ _ => False
theorem bk_blind {D : bk_D} {A : Nat → Prop} {args : List Value} {w : gC} : FrameBlind (bk_Pc D A args w) := by
  intro a U g mk q
  obtain ⟨q0, q1, q2⟩ := q
  exact ⟨q0, bk_E.moved (s := U) (U := U.calling g mk a) (locs := []) q1 (State.WarmedH.refl U) va_S.rf, q2⟩
/-! the judgement -/
def bk_LV (c : Code) (ls : Array Slot) (L : List (Option Value)) : Prop := c.maxLocals = L.length ∧ ls.size = L.length ∧ lv_wf ls ∧ ∀ (i : Nat) (v : Value), L[i]? = some (some v) → ls[i]? = some (.val v)
abbrev bk_G : Type := Program × Launch × Env × State × MethodId × Array Value × List Frame × Method × Code × (Nat → Prop) × (State → Prop) × (Option Value → gC → Prop) × (Addr → String → gC → Prop)
def bk_op (v : Option Value) : Instr := match v with
  | none => .return_
  | some (.int _) => .ireturn
  | some (.long _) => .lreturn
  | _ => .areturn
def bk_ok (D : bk_D) (R : Room) (own : String) (cc : ByteArray) (tb : List ExceptionTableEntry) (Γ : bk_G) : Prop := match Γ with
  | (p, l, e, s, m, args, below, meth, c, A, Q, ret, thr) =>
    p.tables.exec = Jvm.exec ∧ c.code = cc ∧ s.vm.findClass own = some m.cls ∧ (∀ w ∈ lw_all, w.before args s = true) ∧ bk_E D A s ∧ c.exceptionTable.toList = tb ∧ meth.locks = false ∧ l.stackTraces = false ∧
    (∀ (v : Option Value) (w : gC) (H : Heap) (locs : List Loc) (k n pc : Nat) (ls : Array Slot), ret v w → k ≤ R.cells → n ≤ R.slots → gW D A w H → va_S A s.heap H locs → decode cc pc = .ok (bk_op v, 1) → W p l e R s m args below meth c H locs k n Q (F0 m pc ls v.toList)) ∧
    (∀ (q : Addr) (E : String) (ce : Cell) (w : gC) (H : Heap) (locs : List Loc) (k n pc : Nat) (ls : Array Slot) (rest : List Value), thr q E w → k ≤ R.cells → n ≤ R.slots → gW D A w H → va_S A s.heap H locs → H[q]? = some ce → ce.vm = .none → s.vm.findClass E = some ce.cls → (∀ z ∈ tb, covers z pc = false) → vx_W p l e R s m args below meth c H locs k n Q (F0 m pc ls rest) q) ∧
    (∀ (cls : String) (names : List String) (ik ic : Nat) (w : gC) (H : Heap) (locs : List Loc) (k n pc : Nat) (ls : Array Slot) (rest : List Value), (∀ q : Nat, thr q cls w) → Bundle.fit cls = true → (∀ n ∈ names, Bundle.fit n = true) → (Cond.classLink own ik cls).before args s = true → (Cond.initialized cls).before args s = true → (∀ w ∈ vx_at0 own ic cls names, w.before args s = true) → (∀ w ∈ Cond.classLink own ik cls :: Cond.initialized cls :: vx_at0 own ic cls names, vx_ot w = true) → decode cc pc = .ok (.new ik, 3) → decode cc (pc + 3) = .ok (.dup, 1) → decode cc (pc + 4) = .ok (.invokespecial ic, 3) → decode cc (pc + 7) = .ok (.athrow, 1) → (∀ x ∈ tb, covers x (pc + 7) = false) → names.length + 3 < R.frames → (rest.map fun v => v.category).sum + (13 * (names.length + 1) + 42) ≤ R.locals → k + 1 ≤ R.cells → n + 6 ≤ R.slots → gW D A w H → va_S A s.heap H locs → ls.size = c.maxLocals → W p l e R s m args below meth c H locs k n Q (F0 m pc ls rest))
def bk_V (Γ : bk_G) (D : bk_D) (R : Room) (own : String) (cc : ByteArray) (tb : List ExceptionTableEntry) (k n : Nat) (w : gC) (L : List (Option Value)) (st : List Value) (pc : Nat) : Prop := match Γ with
  | (p, l, e, s, m, args, below, meth, c, A, Q, ret, thr) =>
    bk_ok D R own cc tb (p, l, e, s, m, args, below, meth, c, A, Q, ret, thr) → ∀ (H : Heap) (locs : List Loc) (ls : Array Slot), gW D A w H → va_S A s.heap H locs → bk_LV c ls L → W p l e R s m args below meth c H locs k n Q (F0 m pc ls st)
/-- thrown: q, of the class E -/
def bk_X (Γ : bk_G) (D : bk_D) (R : Room) (own : String) (cc : ByteArray) (tb : List ExceptionTableEntry) (k n : Nat) (w : gC) (L : List (Option Value)) (q : Addr) (E : String) (pc : Nat) : Prop := match Γ with
  | (p, l, e, s, m, args, below, meth, c, A, Q, ret, thr) =>
    bk_ok D R own cc tb (p, l, e, s, m, args, below, meth, c, A, Q, ret, thr) → ∀ (H : Heap) (locs : List Loc) (ls : Array Slot) (ce : Cell) (rest : List Value), gW D A w H → va_S A s.heap H locs → bk_LV c ls L → H[q]? = some ce → ce.vm = .none → s.vm.findClass E = some ce.cls → vx_W p l e R s m args below meth c H locs k n Q (F0 m pc ls rest) q
def bk_ret (Γ : bk_G) : Option Value → gC → Prop := Γ.2.2.2.2.2.2.2.2.2.2.2.1
def bk_thr (Γ : bk_G) : Addr → String → gC → Prop := Γ.2.2.2.2.2.2.2.2.2.2.2.2
section BKV
variable {Γ : bk_G} {D : bk_D} {R : Room} {own : String} {cc : ByteArray} {tb : List ExceptionTableEntry} {k n : Nat} {w : gC} {L : List (Option Value)} {st : List Value} {pc : Nat}
theorem bk_LV.at {c : Code} {ls : Array Slot} (h : bk_LV c ls L) (i : Nat) {v : Value} (hi : L[i]? = some (some v)) : ls[i]? = some (.val v) := h.2.2.2 i v hi
def bk_c1 (L : List (Option Value)) (i : Nat) : Bool := match i with
  | 0 => true
  | j + 1 => match L[j]? with
    | some (some (.long _)) => false
    | some (some (.double _)) => false
    | _ => true
theorem bk_LV.store {c : Code} {ls : Array Slot} (h : bk_LV c ls L) {i : Nat} {v : Value} (hv : v.category = 1) (hi : i < L.length) (hc : bk_c1 L i = true) : ∃ ls', storeLocals ls i v = some ls' ∧ bk_LV c ls' (L.set i (some v)) := by
  obtain ⟨h1, h2, h3, h4⟩ := h
  obtain ⟨ls', e', g1, g2, g3⟩ := lv_store1 (ls := ls) (nL := L.length) (l := []) (i := i) (v := v) ⟨h2, h3, fun q hq => by cases hq⟩ hi hv
  refine ⟨ls', e', by rw [List.length_set]; exact h1, by rw [List.length_set]; exact g1, g2, fun j u hj => ?_⟩
  by_cases hji : j = i
  · subst hji
    rw [List.getElem?_set_self hi] at hj
    cases hj
    exact g3 (j, v) List.mem_cons_self
  · rw [List.getElem?_set_ne (Ne.symm hji)] at hj
    obtain ⟨ls2, e2, f1, f2, f3⟩ := lv_store1 (ls := ls) (nL := L.length) (l := [(j, u)]) (i := i) (v := v) ⟨h2, h3, fun q hq => by rw [List.mem_singleton] at hq; subst hq; exact h4 j u hj⟩ hi hv
    cases e'.symm.trans e2
    refine f3 (j, u) (List.mem_cons_of_mem _ (List.mem_filter.mpr ⟨List.mem_singleton.mpr rfl, ?_⟩))
    simp only [Bool.and_eq_true, Bool.not_eq_true', beq_eq_false_iff_ne, ne_eq, Bool.and_eq_false_iff]
    refine ⟨hji, ?_⟩
    by_cases hq : j + 1 = i
    · right
      subst hq
      simp only [bk_c1, hj] at hc
      cases u <;> simp_all [Value.category]
    · left
      exact hq
/-- a row from the kit's -/
theorem bk_V.of (h : ∀ (p : Program) (l : Launch) (e : Env) (s : State) (m : MethodId) (args : Array Value) (below : List Frame) (meth : Method) (c : Code) (A : Nat → Prop) (Q : State → Prop) (ret : Option Value → gC → Prop) (thr : Addr → String → gC → Prop), Γ = (p, l, e, s, m, args, below, meth, c, A, Q, ret, thr) → bk_ok D R own cc tb (p, l, e, s, m, args, below, meth, c, A, Q, ret, thr) →
    ∀ (H : Heap) (locs : List Loc) (ls : Array Slot), gW D A w H → va_S A s.heap H locs → bk_LV c ls L → W p l e R s m args below meth c H locs k n Q (F0 m pc ls st)) : bk_V Γ D R own cc tb k n w L st pc := by
  obtain ⟨p, l, e, s, m, args, below, meth, c, A, Q, ret, thr⟩ := Γ
  exact fun G => h p l e s m args below meth c A Q ret thr rfl G
/-- the world by another name -/
theorem bk_V.world {w' : gC} (h : w = w') (kk : bk_V Γ D R own cc tb k n w' L st pc) : bk_V Γ D R own cc tb k n w L st pc := h ▸ kk
/-- fewer cells -/
theorem bk_V.sub {w' : gC} (h : ∀ (i j : Nat) (q : Nat × bE), w' i j = some q → w i j = some q) (kk : bk_V Γ D R own cc tb k n w' L st pc) : bk_V Γ D R own cc tb k n w L st pc := by
  obtain ⟨p, l, e, s, m, args, below, meth, c, A, Q, ret, thr⟩ := Γ
  exact fun G H locs ls hW hS hL => kk G H locs ls (hW.sub h) hS hL
theorem bk_V.widen {k' n' : Nat} (h1 : k ≤ k') (h2 : n ≤ n') (kk : bk_V Γ D R own cc tb k' n' w L st pc) : bk_V Γ D R own cc tb k n w L st pc := by
  obtain ⟨p, l, e, s, m, args, below, meth, c, A, Q, ret, thr⟩ := Γ
  exact fun G H locs ls hW hS hL => W.widen h1 h2 (kk G H locs ls hW hS hL)
/-- locals forgotten -/
def bk_le : List (Option Value) → List (Option Value) → Bool
  | [], [] => true
  | _ :: a, none :: b => bk_le a b
  | _, _ => false
theorem bk_V.locals {L' : List (Option Value)} (hl : L.length = L'.length) (h : ∀ (i : Nat) (v : Value), L'[i]? = some (some v) → L[i]? = some (some v)) (kk : bk_V Γ D R own cc tb k n w L' st pc) : bk_V Γ D R own cc tb k n w L st pc := by
  obtain ⟨p, l, e, s, m, args, below, meth, c, A, Q, ret, thr⟩ := Γ
  exact fun G H locs ls hW hS hL => kk G H locs ls hW hS ⟨hL.1.trans hl, hL.2.1.trans hl, hL.2.2.1, fun i v hi => hL.2.2.2 i v (h i v hi)⟩
theorem bk_V.eq {L' : List (Option Value)} {st' : List Value} {w' : gC} (h1 : w = w') (h2 : L = L') (h3 : st = st') (kk : bk_V Γ D R own cc tb k n w' L' st' pc) : bk_V Γ D R own cc tb k n w L st pc := by
  subst h1; subst h2; subst h3; exact kk
/-- the end: a return -/
theorem br_ret {v : Option Value} (d : decode cc pc = .ok (bk_op v, 1)) (hk : k ≤ R.cells) (hn : n ≤ R.slots) (h : bk_ret Γ v w) : bk_V Γ D R own cc tb k n w L v.toList pc := by
  obtain ⟨p, l, e, s, m, args, below, meth, c, A, Q, ret, thr⟩ := Γ
  exact fun G H locs ls hW hS hL => G.2.2.2.2.2.2.2.2.1 v w H locs k n pc ls h hk hn hW hS d
theorem br_ireturn {x : Int32} (d : decode cc pc = .ok (.ireturn, 1)) (hk : k ≤ R.cells) (hn : n ≤ R.slots) (h : bk_ret Γ (some (.int x)) w) : bk_V Γ D R own cc tb k n w L [.int x] pc := br_ret (v := some (.int x)) d hk hn h
theorem br_lreturn {x : Int64} (d : decode cc pc = .ok (.lreturn, 1)) (hk : k ≤ R.cells) (hn : n ≤ R.slots) (h : bk_ret Γ (some (.long x)) w) : bk_V Γ D R own cc tb k n w L [.long x] pc := br_ret (v := some (.long x)) d hk hn h
theorem br_areturn {x : Nat} (d : decode cc pc = .ok (.areturn, 1)) (hk : k ≤ R.cells) (hn : n ≤ R.slots) (h : bk_ret Γ (some (.ref x)) w) : bk_V Γ D R own cc tb k n w L [.ref x] pc := br_ret (v := some (.ref x)) d hk hn h
theorem br_return (d : decode cc pc = .ok (.return_, 1)) (hk : k ≤ R.cells) (hn : n ≤ R.slots) (h : bk_ret Γ none w) : bk_V Γ D R own cc tb k n w L [] pc := br_ret (v := none) d hk hn h
theorem bk_X.out {q : Addr} {E : String} (hk : k ≤ R.cells) (hn : n ≤ R.slots) (hc : ∀ z ∈ tb, covers z pc = false) (h : bk_thr Γ q E w) : bk_X Γ D R own cc tb k n w L q E pc := by
  obtain ⟨p, l, e, s, m, args, below, meth, c, A, Q, ret, thr⟩ := Γ
  exact fun G H locs ls ce rest hW hS hL h1 h2 h3 => G.2.2.2.2.2.2.2.2.2.1 q E ce w H locs k n pc ls rest h hk hn hW hS h1 h2 h3 hc
end BKV
