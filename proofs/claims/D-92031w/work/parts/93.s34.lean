/-! soundness 34: the machine's own throws: arrays -/
theorem sX_thr {y pc t : Nat} {G : AH} {a : Nat} {G1 : AH} (h : sX y pc t G = some (.inr (.inr (.inl (a, G1))))) : a = hN G ∧ G1 = xcp G t := by
  unfold sX at h
  split at h
  · cases h; exact ⟨rfl, rfl⟩
  · cases h
theorem inb_out {j : Int32} {n : Nat} (h : ¬ inb j n = true) : j < 0 ∨ n ≤ j.toNatClampNeg := by
  refine Classical.byContradiction fun q => h ?_
  obtain ⟨h1, h2⟩ := vp_in_iff.mp (show vp_in j n from q)
  unfold inb
  simp [h1, h2]
section
variable {Z : SS0} {D : DD} {p : Program} {l : Launch} {e : Env} {R : Room} {s : State} {m : MethodId} {args : Array Value} {below : List Frame} {meth : Method} {c : Code} {d y pc k len : Nat} {L : AL} {st : List AV} {G G1 : AH} {T : State} {locs : List Loc} {cells slots : Nat} {ls : Array Slot} {ad : Nat → Nat} {a : Nat}
/-- an array of any kind: its cell -/
theorem Conc.arrc {H : Heap} (hB : Base Z D) (hW : Z.s.WarmedH s.vm) (hc : Conc Z D ad G H) {r : Nat} (hr : r < hN G) (h : hT G r ∈ arrTg ∨ hT G r = 45) : ∃ (cell : Cell) (ty : FieldType), H[ad r]? = some cell ∧ s.isArrayOf cell ty ∧ cell.slots.size = hL G r ∧ hL G r < 2 ^ 31 := by
  rcases h with h | h
  · refine ⟨_, aty (hT G r), hc.arrAt hr h, (hB.arr hW h).1 _ _, arrV_size _ _ _, ?_⟩
    have := ((hc.1 r (hc.arr3 h) hr).2.1 h).2
    omega
  · have e0 := hc.tag45 hr h
    subst e0
    obtain ⟨-, -, -, -, -, ⟨hX, x9⟩, x6, -⟩ := hB
    obtain ⟨scr, x1, x2, x3, x4, x5⟩ := va_X.moved hW.alike hX
    obtain ⟨-, o2, -⟩ := hc.2.2.2.2.2.1
    refine ⟨scr, .int, ?_, x2, by rw [x4, o2], by rw [o2]; exact x9⟩
    rw [hc.2.2.2.2.2.2.1.1, hc.2.2.2.2.2.2.2.2 _ x6]
    exact x1
theorem wt_tl {v : AV} {st2 : List AV} (h : wt (v :: st2) ≤ 16) : wt st2 ≤ 16 := by
  rcases v with x | x | x
  · have h : wt st2 + 1 ≤ 16 := h
    omega
  · have h : wt st2 + 2 ≤ 16 := h
    omega
  · have h : wt st2 + 1 ≤ 16 := h
    omega
/-- an index out of bounds -/
theorem Thrown.out {j : Int32} {r : Nat} {st2 : List AV} (hB : Base Z D) (C : Ctx Z p s m meth c y) (hHp : Hp Z s) (hRd : RmD d R) (hsz : ls.size = c.maxLocals) (htr : e.platform.stackTraces = false) (S : Sim Z D ad G L st T.heap locs ls) (hR : Rm R cells slots G (xcp G 22)) (X : Stand p l e R s m args below meth c T locs cells slots) (hr : r < hN G) (h : hT G r ∈ arrTg ∨ hT G r = 45) (ho : ¬ inb j (hL G r) = true) (hw : wt st2 ≤ 16) {stk : List Value}
    (row : ∀ (cell : Cell) (ty : FieldType), T.heap[ad r]? = some cell → s.isArrayOf cell ty → (j < 0 ∨ cell.slots.size ≤ j.toNatClampNeg) → ∃ tx : String, ((tx == notModelled) = false ∧ (cell.slots.size < 2 ^ 31 → (stringBytes (stringToUtf16 tx)).size ≤ 212)) ∧ ∀ target, Steps p.tables e below ((T.setTop (F0 m pc ls (st2.map (cvl ad)))).pushFrame (.throwNew "java/lang/ArrayIndexOutOfBoundsException" (some tx) none)) target → Steps p.tables e below (T.setTop (F0 m pc ls stk)) target) : Thrown Z D p l e R s m args below meth c T cells slots pc ls stk ad G L (hN G) (xcp G 22) := by
  obtain ⟨cell, ty, h1, h2, h3, h4⟩ := S.1.arrc hB C.2.2.2.1 hr h
  obtain ⟨tx, ⟨t1, t2⟩, t3⟩ := row cell ty h1 h2 (by rw [h3]; exact inb_out ho)
  exact Thrown.msg (t := 22) (by decide) hB C hHp hRd hsz htr S hR t1 (Nat.le_trans (t2 (by rw [h3]; exact h4)) (by decide)) X rfl (stk1 := st2.map (cvl ad)) (by rw [wt_of]; exact hw) t3
theorem tAI {ts : List Nat} (hts : ∀ t ∈ ts, t ∈ arrTg ∨ t = 45) (hB : Base Z D) (C : Ctx Z p s m meth c y) (hHp : Hp Z s) (hRd : RmD d R) (hsz : ls.size = c.maxLocals) (htr : e.platform.stackTraces = false) (hw : wt st ≤ 16) (S : Sim Z D ad G L st T.heap locs ls) (hR : Rm R cells slots G G1) (X : Stand p l e R s m args below meth c T locs cells slots) (hs : sAI ts y pc L st G = some (.inr (.inr (.inl (a, G1)))))
    (row : ∀ (j : Int32) (r : Nat) (rest : List Value) (cell : Cell) (ty : FieldType), T.heap[r]? = some cell → s.isArrayOf cell ty → (j < 0 ∨ cell.slots.size ≤ j.toNatClampNeg) → ∃ tx : String, ((tx == notModelled) = false ∧ (cell.slots.size < 2 ^ 31 → (stringBytes (stringToUtf16 tx)).size ≤ 212)) ∧ ∀ target, Steps p.tables e below ((T.setTop (F0 m pc ls rest)).pushFrame (.throwNew "java/lang/ArrayIndexOutOfBoundsException" (some tx) none)) target → Steps p.tables e below (T.setTop (F0 m pc ls (.int j :: .ref r :: rest))) target) : Thrown Z D p l e R s m args below meth c T cells slots pc ls (st.map (cvl ad)) ad G L a G1 := by
  unfold sAI at hs
  split at hs
  · next j r st2 =>
    have hr : r < hN G := S.2.2.2.1 _ (List.mem_cons_of_mem _ List.mem_cons_self) r rfl
    split at hs
    · next ht =>
      split at hs
      · cases hs
      · next ho =>
        obtain ⟨rfl, rfl⟩ := sX_thr hs
        exact Thrown.out hB C hHp hRd hsz htr S hR X hr (hts _ (by simpa using ht)) ho (wt_tl (wt_tl hw)) (row j (ad r) (st2.map (cvl ad)))
    · cases hs
  · cases hs
theorem tAJ (hB : Base Z D) (C : Ctx Z p s m meth c y) (hHp : Hp Z s) (hRd : RmD d R) (hsz : ls.size = c.maxLocals) (htr : e.platform.stackTraces = false) (hw : wt st ≤ 16) (S : Sim Z D ad G L st T.heap locs ls) (hR : Rm R cells slots G G1) (X : Stand p l e R s m args below meth c T locs cells slots) (hd : decode (mcode y) pc = .ok (.laload, 1)) (hs : sAJ y pc L st G = some (.inr (.inr (.inl (a, G1))))) : Thrown Z D p l e R s m args below meth c T cells slots pc ls (st.map (cvl ad)) ad G L a G1 := by
  have hdc : decode c.code pc = .ok (.laload, 1) := by rw [C.2.1]; exact hd
  unfold sAJ at hs
  split at hs
  · next j r st2 =>
    have hr : r < hN G := S.2.2.2.1 _ (List.mem_cons_of_mem _ List.mem_cons_self) r rfl
    split at hs
    · next ht =>
      split at hs
      · cases hs
      · next ho =>
        obtain ⟨rfl, rfl⟩ := sX_thr hs
        exact Thrown.out hB C hHp hRd hsz htr S hR X hr (Or.inl (by rw [ht]; decide)) ho (wt_tl (wt_tl hw)) (fun cell ty h1 h2 h3 => ⟨_, ⟨index_text_modelled j cell.slots.size, fun h => index_text_bytes j h⟩, X.laloadOut C.1 h1 h2 h3 (g := F0 m pc ls (.int j :: .ref (ad r) :: st2.map (cvl ad))) rfl rfl hdc⟩)
    · cases hs
  · next j st2 =>
    obtain ⟨rfl, rfl⟩ := sX_thr hs
    exact Thrown.npe hB C hHp hRd hsz htr S hR X rfl (stk1 := st2.map (cvl ad)) (by rw [wt_of]; exact wt_tl (wt_tl hw)) (X.laloadNull C.1 (g := F0 m pc ls (.int j :: .null :: st2.map (cvl ad))) rfl rfl hdc)
  · cases hs
theorem tSI {t : Nat} {f : Int32 → Int32} {ok : Int32 → Bool} (htt : t ∈ arrTg) (hB : Base Z D) (C : Ctx Z p s m meth c y) (hHp : Hp Z s) (hRd : RmD d R) (hsz : ls.size = c.maxLocals) (htr : e.platform.stackTraces = false) (hw : wt st ≤ 16) (S : Sim Z D ad G L st T.heap locs ls) (hR : Rm R cells slots G G1) (X : Stand p l e R s m args below meth c T locs cells slots) (hs : sSI t f ok y pc L st G = some (.inr (.inr (.inl (a, G1)))))
    (row : ∀ (x j : Int32) (r : Nat) (rest : List Value) (cell : Cell) (ty : FieldType), T.heap[r]? = some cell → s.isArrayOf cell ty → (j < 0 ∨ cell.slots.size ≤ j.toNatClampNeg) → ∃ tx : String, ((tx == notModelled) = false ∧ (cell.slots.size < 2 ^ 31 → (stringBytes (stringToUtf16 tx)).size ≤ 212)) ∧ ∀ target, Steps p.tables e below ((T.setTop (F0 m pc ls rest)).pushFrame (.throwNew "java/lang/ArrayIndexOutOfBoundsException" (some tx) none)) target → Steps p.tables e below (T.setTop (F0 m pc ls (.int x :: .int j :: .ref r :: rest))) target) : Thrown Z D p l e R s m args below meth c T cells slots pc ls (st.map (cvl ad)) ad G L a G1 := by
  unfold sSI at hs
  split at hs
  · next x j r st2 =>
    have hr : r < hN G := S.2.2.2.1 _ (List.mem_cons_of_mem _ (List.mem_cons_of_mem _ List.mem_cons_self)) r rfl
    split at hs
    · next ht =>
      split at hs
      · split at hs <;> cases hs
      · next ho =>
        obtain ⟨rfl, rfl⟩ := sX_thr hs
        exact Thrown.out hB C hHp hRd hsz htr S hR X hr (Or.inl (by rw [ht]; exact htt)) ho (wt_tl (wt_tl (wt_tl hw))) (row x j (ad r) (st2.map (cvl ad)))
    · cases hs
  · cases hs
theorem tSJ (hB : Base Z D) (C : Ctx Z p s m meth c y) (hHp : Hp Z s) (hRd : RmD d R) (hsz : ls.size = c.maxLocals) (htr : e.platform.stackTraces = false) (hw : wt st ≤ 16) (S : Sim Z D ad G L st T.heap locs ls) (hR : Rm R cells slots G G1) (X : Stand p l e R s m args below meth c T locs cells slots) (hd : decode (mcode y) pc = .ok (.lastore, 1)) (hs : sSJ y pc L st G = some (.inr (.inr (.inl (a, G1))))) : Thrown Z D p l e R s m args below meth c T cells slots pc ls (st.map (cvl ad)) ad G L a G1 := by
  have hdc : decode c.code pc = .ok (.lastore, 1) := by rw [C.2.1]; exact hd
  unfold sSJ at hs
  split at hs
  · next x j r st2 =>
    have hr : r < hN G := S.2.2.2.1 _ (List.mem_cons_of_mem _ (List.mem_cons_of_mem _ List.mem_cons_self)) r rfl
    split at hs
    · next ht =>
      split at hs
      · cases hs
      · next ho =>
        obtain ⟨rfl, rfl⟩ := sX_thr hs
        exact Thrown.out hB C hHp hRd hsz htr S hR X hr (Or.inl (by rw [ht]; decide)) ho (wt_tl (wt_tl (wt_tl hw))) (fun cell ty h1 h2 h3 => ⟨_, ⟨index_text_modelled j cell.slots.size, fun h => index_text_bytes j h⟩, X.lastoreOut C.1 h1 h2 h3 (g := F0 m pc ls (.long x :: .int j :: .ref (ad r) :: st2.map (cvl ad))) rfl rfl hdc⟩)
    · cases hs
  · next x j st2 =>
    obtain ⟨rfl, rfl⟩ := sX_thr hs
    exact Thrown.npe hB C hHp hRd hsz htr S hR X rfl (stk1 := st2.map (cvl ad)) (by rw [wt_of]; exact wt_tl (wt_tl (wt_tl hw))) (X.lastoreNull C.1 (g := F0 m pc ls (.long x :: .int j :: .null :: st2.map (cvl ad))) rfl rfl hdc)
  · cases hs
theorem tLen (hB : Base Z D) (C : Ctx Z p s m meth c y) (hHp : Hp Z s) (hRd : RmD d R) (hsz : ls.size = c.maxLocals) (htr : e.platform.stackTraces = false) (hw : wt st ≤ 16) (S : Sim Z D ad G L st T.heap locs ls) (hR : Rm R cells slots G G1) (X : Stand p l e R s m args below meth c T locs cells slots) (hd : decode (mcode y) pc = .ok (.arraylength, 1)) (hs : sLen y pc L st G = some (.inr (.inr (.inl (a, G1))))) : Thrown Z D p l e R s m args below meth c T cells slots pc ls (st.map (cvl ad)) ad G L a G1 := by
  have hdc : decode c.code pc = .ok (.arraylength, 1) := by rw [C.2.1]; exact hd
  unfold sLen at hs
  split at hs
  · split at hs <;> cases hs
  · next st2 =>
    obtain ⟨rfl, rfl⟩ := sX_thr hs
    exact Thrown.npe hB C hHp hRd hsz htr S hR X rfl (stk1 := st2.map (cvl ad)) (by rw [wt_of]; exact wt_tl hw) (X.arraylengthNull C.1 (g := F0 m pc ls (.null :: st2.map (cvl ad))) rfl rfl hdc)
  · cases hs
theorem tNewA {ty : ArrayType} (hB : Base Z D) (C : Ctx Z p s m meth c y) (hHp : Hp Z s) (hRd : RmD d R) (hsz : ls.size = c.maxLocals) (htr : e.platform.stackTraces = false) (hw : wt st ≤ 16) (S : Sim Z D ad G L st T.heap locs ls) (hR : Rm R cells slots G G1) (X : Stand p l e R s m args below meth c T locs cells slots) (hd : decode (mcode y) pc = .ok (.newarray ty, 2)) (hs : sNewA ty y pc L st G = some (.inr (.inr (.inl (a, G1))))) : Thrown Z D p l e R s m args below meth c T cells slots pc ls (st.map (cvl ad)) ad G L a G1 := by
  have hdc : decode c.code pc = .ok (.newarray ty, 2) := by rw [C.2.1]; exact hd
  unfold sNewA at hs
  split at hs
  · next n st2 =>
    split at hs
    · cases hs
    · split at hs
      · next hn =>
        obtain ⟨rfl, rfl⟩ := sX_thr hs
        exact Thrown.msg (t := 23) (by decide) hB C hHp hRd hsz htr S hR (negative_text_modelled hn) (Nat.le_trans (negative_text_bytes n) (by decide)) X rfl (stk1 := st2.map (cvl ad)) (by rw [wt_of]; exact wt_tl hw) (X.newarrayNegative C.1 (g := F0 m pc ls (.int n :: st2.map (cvl ad))) rfl hn rfl hdc)
      · split at hs <;> cases hs
  · cases hs
end
