/-! soundness 2: the heap; a configuration; words at every frame -/
abbrev DD : Type := (Nat → ClassId) × (Nat → Nat → Nat) × (Nat → ClassId)
def fval (ad : Nat → Nat) (G : AH) (a f : Nat) : Value := match fsort f with
  | 1 => .long (hJ G a f)
  | 2 => cvr ad (hR G a f)
  | _ => .int (hI G a f)
def aval (ad : Nat → Nat) (G : AH) (a t i : Nat) : Value := if t = 41 then .long (hJ G a i) else if t < 50 then .int (hI G a i) else cvr ad (hR G a i)
def arrTg : List Nat := [40, 41, 42, 43, 44, 50, 51, 52, 53, 54]
def aty (t : Nat) : FieldType := match t with
  | 40 => .int
  | 41 => .long
  | 42 => .byte
  | 43 => .short
  | 44 => .boolean
  | 50 => .object "java/lang/Object"
  | 51 => .array .int
  | 52 => .array .long
  | 53 => .object "HeardPlaces$Image"
  | _ => .object "HeardPlaces$Place"
def CellA (D : DD) (ad : Nat → Nat) (G : AH) (H : Heap) (a : Nat) : Prop :=
  (hT G a ∈ objT → t_OB (ad a) (D.1 (hT G a)) (nf (hT G a)) (D.2.1 (hT G a)) H (fun k => fval ad G a (fdOf (hT G a) k))) ∧
  (hT G a ∈ arrTg → H[ad a]? = some (arrV (D.2.2 (hT G a)) (hL G a) (fun i => aval ad G a (hT G a) i)) ∧ hL G a ≤ 65536) ∧
  (hT G a ∈ excT → ∃ cell : Cell, H[ad a]? = some cell ∧ cell.vm = .none ∧ cell.cls = D.1 (hT G a) ∧ (hT G a = 12 ∨ hT G a = 22 → cell.monitor.owner = none ∧ cell.monitor.count = 0 ∧ cell.slots.size = 6 ∧ cell.slots[D.2.1 12 0]? = some .null)) ∧
  (hT G a ∈ objT ∨ hT G a ∈ arrTg ∨ hT G a ∈ excT)
/-- what was there at the law's start: the script's cell b0 with its L0 ints xs, the empty array e0, the class object m0 -/
abbrev SS0 : Type := State × Nat × Nat × Nat × Nat × (Nat → Int32)
abbrev SS0.s (Z : SS0) : State := Z.1
abbrev SS0.b (Z : SS0) : Nat := Z.2.1
abbrev SS0.e (Z : SS0) : Nat := Z.2.2.1
abbrev SS0.m (Z : SS0) : Nat := Z.2.2.2.1
abbrev SS0.n (Z : SS0) : Nat := Z.2.2.2.2.1
abbrev SS0.x (Z : SS0) : Nat → Int32 := Z.2.2.2.2.2
/-- the heap's part of a configuration -/
def Conc (Z : SS0) (D : DD) (ad : Nat → Nat) (G : AH) (H : Heap) : Prop :=
  (∀ a, 3 ≤ a → a < hN G → CellA D ad G H a) ∧
  (∀ a b, a < hN G → b < hN G → a ≠ 2 → b ≠ 2 → ad a = ad b → a = b) ∧
  (∀ a, 3 ≤ a → a < hN G → Z.s.heap.size ≤ ad a ∧ ad a < H.size) ∧
  (∀ a i r, hR G a i = some r → r < hN G) ∧ 3 ≤ hN G ∧
  (hT G 0 = 45 ∧ hL G 0 = Z.n ∧ (∀ i, i < Z.n → hI G 0 i = Z.x i) ∧ hT G 1 = 55 ∧ hL G 1 = 0 ∧ hT G 2 = 60) ∧
  (ad 0 = Z.b ∧ ad 1 = Z.e ∧ ad 2 = Z.m) ∧
  (Z.s.heap.size ≤ H.size ∧ ∀ q, q < Z.s.heap.size → H[q]? = Z.s.heap[q]?)
def Scp (G : AH) (v : AV) : Prop := ∀ r, v = vr (some r) → r < hN G
theorem Scp.i {G : AH} {x : Int32} : Scp G (vi x) := fun _ h => by cases h
theorem Scp.l {G : AH} {x : Int64} : Scp G (vl x) := fun _ h => by cases h
theorem Scp.n {G : AH} : Scp G (vr none) := fun _ h => by cases h
theorem Scp.mono {G G' : AH} {v : AV} (h : Scp G v) (hn : hN G ≤ hN G') : Scp G' v := fun r e => Nat.lt_of_lt_of_le (h r e) hn
/-- a configuration -/
def Sim (Z : SS0) (D : DD) (ad : Nat → Nat) (G : AH) (L : AL) (st : List AV) (H : Heap) (locs : List Loc) (ls : Array Slot) : Prop :=
  Conc Z D ad G H ∧ LR ad L ls ∧ (∀ (i : Nat) (v : AV), L[i]? = some (some v) → Scp G v) ∧ (∀ v ∈ st, Scp G v) ∧ (∀ q ∈ locs, Z.s.heap.size ≤ q.base)
/-- the facts at the law's start -/
def Base (Z : SS0) (D : DD) : Prop :=
  (∀ w ∈ lw_tbl, w.before #[Value.ref Z.b] Z.s = true) ∧ (Jvm.Cond.and given_1 narrow_1).before #[Value.ref Z.b] Z.s = true ∧
  (∀ t ∈ objT, u_Kn Z.s (cnm t) (cTT t) (nf t) (D.1 t) (D.2.1 t)) ∧
  (∀ t ∈ arrTg, ArrOfT Z.s (D.2.2 t) (aty t) ∧ va_RA Z.s (D.2.2 t) (aty t)) ∧
  (∀ t ∈ excT, ClassAt Z.s (cnm t) (D.1 t) ∧ SlotIs Z.s "java/lang/Throwable" "backtrace" "Ljava/lang/Object;" (D.2.1 12 0)) ∧
  (va_X Z.b Z.n Z.x Z.s Z.s.heap ∧ Z.n < 2147483648) ∧ Z.b < Z.s.heap.size ∧ Z.e < Z.s.heap.size ∧ True ∧
  (∃ cellE : Cell, Z.s.heap[Z.e]? = some cellE ∧ cellE.cls = D.2.2 50 ∧ cellE.vm.isStatics = false ∧ cellE.vm ≠ .unknown ∧ cellE.slots.size.toInt32 = 0 ∧ Z.s.isArrayOf cellE (.object "java/lang/Object")) ∧
  va_Mi "[Ljava/lang/Object;" Z.m Z.s ∧ va_Z "java/util/ArrayList" "DEFAULTCAPACITY_EMPTY_ELEMENTDATA" "[Ljava/lang/Object;" (.ref Z.e) (fun q => Z.s.heap.size ≤ q) Z.s Z.s.heap ∧ va_Dc Z.s
theorem Base.word {Z : SS0} {D : DD} (hB : Base Z D) {s : State} (hW : Z.s.WarmedH s.vm) {args : Array Value} {w : Cond} (hw : w ∈ lw_all) : w.before args s = true :=
  word_at hW (good_of_word (List.mem_filter.mp hw).2) (hB.1 w (lw_all_tbl hw))
theorem Base.obj {Z : SS0} {D : DD} (hB : Base Z D) {s : State} (hW : Z.s.WarmedH s.vm) {t : Nat} (ht : t ∈ objT) : u_Kn s (cnm t) (cTT t) (nf t) (D.1 t) (D.2.1 t) := u_Kn_moved hW.alike (hB.2.2.1 t ht)
theorem Base.arr {Z : SS0} {D : DD} (hB : Base Z D) {s : State} (hW : Z.s.WarmedH s.vm) {t : Nat} (ht : t ∈ arrTg) : ArrOfT s (D.2.2 t) (aty t) ∧ va_RA s (D.2.2 t) (aty t) := ⟨arrOfT_moved hW.alike (hB.2.2.2.1 t ht).1, (hB.2.2.2.1 t ht).2.moved hW.alike⟩
/-- what a frame of method y has -/
def Ctx (Z : SS0) (p : Program) (s : State) (m : MethodId) (meth : Method) (c : Code) (y : Nat) : Prop :=
  p.tables.exec = Jvm.exec ∧ c.code = mcode y ∧ c.maxLocals = mmax y ∧ Z.s.WarmedH s.vm ∧ s.vm.findClass (cnm (mcls y)) = some m.cls ∧ meth.sig.returnType = mrt y ∧ meth.locks = false ∧ (minit y = true → meth.name = "<init>")
section
variable {Z : SS0} {D : DD} {ad : Nat → Nat} {G : AH} {L L' : AL} {st st' : List AV} {H : Heap} {locs : List Loc} {ls ls' : Array Slot}
theorem Sim.push {v : AV} (h : Sim Z D ad G L st H locs ls) (hv : Scp G v) (hs : ∀ w ∈ st', w = v ∨ w ∈ st) : Sim Z D ad G L st' H locs ls :=
  ⟨h.1, h.2.1, h.2.2.1, fun w hw => by rcases hs w hw with e | e; rw [e]; exact hv; exact h.2.2.2.1 w e, h.2.2.2.2⟩
theorem Sim.sub (h : Sim Z D ad G L st H locs ls) (hs : ∀ w ∈ st', Scp G w) : Sim Z D ad G L st' H locs ls := ⟨h.1, h.2.1, h.2.2.1, hs, h.2.2.2.2⟩
theorem Sim.locals (h : Sim Z D ad G L st H locs ls) (hl : LR ad L' ls') (hv : ∀ (i : Nat) (v : AV), L'[i]? = some (some v) → Scp G v) (hs : ∀ w ∈ st', w ∈ st) : Sim Z D ad G L' st' H locs ls' := ⟨h.1, hl, hv, fun w hw => h.2.2.2.1 w (hs w hw), h.2.2.2.2⟩
theorem Sim.ld (h : Sim Z D ad G L st H locs ls) {k : Nat} {v : AV} (hk : ldv L k = some v) : Scp G v := by
  refine h.2.2.1 k v ?_
  unfold ldv at hk
  cases e : L[k]? with
  | none => rw [e] at hk; cases hk
  | some q => rw [e] at hk; cases q with
    | none => cases hk
    | some w => rw [Option.join_some] at hk; cases hk; rfl
end
