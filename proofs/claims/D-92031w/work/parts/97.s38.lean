/-! soundness 38: the odd instructions together (an exception's constructor, a grid as premises) -/
/-- an exception's constructor (shown elsewhere) -/
def XinOK (Z : SS0) (D : DD) (l : Launch) : Prop := ∀ {p : Program} {e : Env} {R : Room} {s : State} {m : MethodId} {args : Array Value} {below : List Frame} {meth : Method} {c : Code} {Q : State → Prop} {d y pc k a : Nat} {L : AL} {st st' : List AV} {G : AH} {H : Heap} {locs : List Loc} {cells slots : Nat} {ls : Array Slot} {ad : Nat → Nat},
  Ctx Z p s m meth c y → Hp Z s → RmD d R → ls.size = c.maxLocals → mcls y = 0 → ((k = 236 ∧ Cond.methodLink (cnm 0) k aiN ∈ lw_all) ∨ (k = 524 ∧ Cond.methodLink (cnm 0) k tmN ∈ lw_all)) → decode (mcode y) pc = .ok (.invokespecial k, 3) → st.map (cvl ad) = Value.ref (ad a) :: st'.map (cvl ad) → a < hN G → (hT G a = 12 ∨ hT G a = 22) → wt st' ≤ 16 → (∀ v ∈ st', v ∈ st) → Sim Z D ad G L st H locs ls → Rm R cells slots G (bmp G) → Nx Z D p l e R s m args below meth c Q cells slots ad G (pc + 3, L, st', bmp G) → W p l e R s m args below meth c H locs cells slots Q (F0 m pc ls (st.map (cvl ad)))
/-- an array of arrays (shown elsewhere) -/
def MulOK (Z : SS0) (D : DD) (l : Launch) : Prop := ∀ {p : Program} {e : Env} {R : Room} {s : State} {m : MethodId} {args : Array Value} {below : List Frame} {meth : Method} {c : Code} {Q : State → Prop} {y pc k t : Nat} {L : AL} {st : List AV} {G : AH} {H : Heap} {locs : List Loc} {cells slots : Nat} {ls : Array Slot} {ad : Nat → Nat} {q : Nat × AL × List AV × AH},
  Ctx Z p s m meth c y → decode (mcode y) pc = .ok (.multianewarray k 2, 4) → clsR (kf (mcls y) k) = some t → newG.contains t = true → sGrid t (if t = 51 then 40 else 41) pc L st G = some (.inl q) → Sim Z D ad G L st H locs ls → Rm R cells slots G q.2.2.2 → Nx Z D p l e R s m args below meth c Q cells slots ad G q → W p l e R s m args below meth c H locs cells slots Q (F0 m pc ls (st.map (cvl ad)))
set_option maxHeartbeats 4000000 in
theorem exo_all {Z : SS0} {D : DD} {l : Launch} (hB : Base Z D) (hXi : XinOK Z D l) (hMu : MulOK Z D l) : ExoOK Z D l := by
  intro p e R s m args below meth c Q d y pc len L st G H locs cells slots ls ad q i C hHp hRd hL hx hl hd hs S hR K
  have hsz : ls.size = c.maxLocals := by rw [S.2.1.1, hL, C.2.2.1]
  have h1 : ∀ n, (len == n) = true → len = n := fun n h => by simpa using h
  have hst : ∀ n, st.map (cvl ad) = (((st.take n).reverse).map (cvl ad)).reverse ++ (st.drop n).map (cvl ad) := fun n => by
    rw [List.map_reverse, List.reverse_reverse, ← List.map_append, List.take_append_drop]
  have hmA : ∀ n, ∀ v ∈ (st.take n).reverse, v ∈ st := fun n v hv => List.mem_of_mem_take (List.mem_reverse.mp hv)
  have hmS : ∀ n, ∀ v ∈ st.drop n, v ∈ st := fun n v hv => List.mem_of_mem_drop hv
  cases i
  case invokestatic k =>
    obtain rfl := h1 3 hl
    obtain ⟨n, ts, hk, hn, h⟩ := at_call (show sCallAt y (kf (mcls y) k) 0 pc 3 L st G = _ from hs)
    obtain ⟨z, e1, h⟩ := inv_0 h
    obtain ⟨hw, hz⟩ := to_go h
    have hro := ca_all hk (997, z) (by rw [e1]; exact List.mem_singleton.mpr rfl)
    rcases hz with ⟨rfl, -⟩ | ⟨rfl, hc⟩ | ⟨rfl, -⟩ | ⟨rfl, -⟩
    · exfalso
      rcases hro with o | ⟨-, o, -⟩
      · rcases o with ⟨o, -⟩ | ⟨o, -⟩ | ⟨o, -⟩ | ⟨o, -⟩ <;> cases o
      · exact absurd o (by decide)
    · have hlk : Cond.methodLink (cnm (mcls y)) k acN ∈ lw_all := by
        rcases hro with o | ⟨-, o, -⟩
        · rcases o with ⟨o, -⟩ | ⟨-, -, o⟩ | ⟨o, -⟩ | ⟨o, -⟩
          · cases o
          · exact o
          · cases o
          · cases o
        · exact absurd o (by decide)
      exact gCpy hB C hRd hsz hlk hd (hst n) (hmA n) (hmS n) hw hc S K
    · exfalso
      rcases hro with o | ⟨-, o, -⟩
      · rcases o with ⟨o, -⟩ | ⟨o, -⟩ | ⟨o, -⟩ | ⟨o, -⟩ <;> cases o
      · exact absurd o (by decide)
    · exfalso
      rcases hro with o | ⟨-, o, -⟩
      · rcases o with ⟨o, -⟩ | ⟨o, -⟩ | ⟨o, -⟩ | ⟨o, -⟩ <;> cases o
      · exact absurd o (by decide)
  case invokespecial k =>
    obtain rfl := h1 3 hl
    obtain ⟨n, ts, hk, hn, h⟩ := at_call (show sCallAt y (kf (mcls y) k) 1 pc 3 L st G = _ from hs)
    obtain ⟨z, t, b, A1, e1, ht, e5, h⟩ := inv_1 h
    obtain ⟨hw, hz⟩ := to_go h
    have hro := ca_all hk (t, z) (by rw [e1]; exact List.mem_singleton.mpr rfl)
    have hb : b < hN G := S.2.2.2.1 _ (hmA n _ (by rw [e5]; exact List.mem_cons_self)) b rfl
    have hpo : POK (mcls y) k n (t, z) := by
      rcases hro with o | ⟨-, o, -⟩
      · exact o
      · exfalso
        have o : z < 357 := o
        rcases hz with ⟨e, -⟩ | ⟨e, -⟩ | ⟨e, -⟩ | ⟨e, -⟩ <;> omega
    have hone : ∀ A2 : List AV, n = 1 → (st.take n).reverse = vr (some b) :: A2 → st.map (cvl ad) = Value.ref (ad b) :: (st.drop n).map (cvl ad) := fun A2 hn1 e6 => by
      have h2 : ((st.take n).reverse).length = n := by rw [List.length_reverse, List.length_take]; omega
      rw [e6] at h2
      have hA2 : A2 = [] := List.eq_nil_of_length_eq_zero (by have h2 : A2.length + 1 = n := h2; omega)
      rw [hst n, e6, hA2]
      rfl
    rcases hpo with ⟨o, n1, hlk⟩ | ⟨o, n1, hlk⟩ | ⟨o, n1, hlk⟩ | ⟨o, n1, c0, hlk⟩
    · cases o
      rcases hz with ⟨-, rfl⟩ | ⟨e, -⟩ | ⟨e, -⟩ | ⟨e, -⟩
      · exact gOini hB C hRd hsz hlk hd (hone A1 n1 e5) hw (hmS n) S K
      · exact absurd e (by decide)
      · exact absurd e (by decide)
      · exact absurd e (by decide)
    · cases o
      rcases ht with ht | ht <;> simp at ht
    · cases o
      rcases ht with ht | ht <;> simp at ht
    · cases o
      rcases hz with ⟨e, -⟩ | ⟨e, -⟩ | ⟨e, -⟩ | ⟨-, a, eA, ha, rfl⟩
      · exact absurd e (by decide)
      · exact absurd e (by decide)
      · exact absurd e (by decide)
      · rw [e5] at eA
        cases eA
        have hlk' : (k = 236 ∧ Cond.methodLink (cnm 0) k aiN ∈ lw_all) ∨ (k = 524 ∧ Cond.methodLink (cnm 0) k tmN ∈ lw_all) := by rw [c0] at hlk; exact hlk
        exact hXi C hHp hRd hsz c0 hlk' hd (hone [] n1 e5) hb ha hw (hmS n) S hR K
  case invokevirtual k =>
    obtain rfl := h1 3 hl
    obtain ⟨n, ts, hk, hn, h⟩ := at_call (show sCallAt y (kf (mcls y) k) 2 pc 3 L st G = _ from hs)
    rcases inv_2 h with ⟨z, b, A1, hv, e5, h⟩ | ⟨A1, e5, h⟩
    · have hb : b < hN G := S.2.2.2.1 _ (hmA n _ (by rw [e5]; exact List.mem_cons_self)) b rfl
      have ht := S.1.t100 hb
      obtain ⟨hw, hz⟩ := to_go h
      by_cases h9 : ts.any (fun q => q.1 == 999) = true
      · have e9 := ca_nine hk h9
        rw [e9] at hv
        cases hv
        have hro := ca_all hk (999, 1002) (by rw [e9]; exact List.mem_singleton.mpr rfl)
        have hpo : mcls y = 30 ∧ k = 86 := by
          rcases hro with o | ⟨-, o, -⟩
          · rcases o with ⟨o, -⟩ | ⟨o, -⟩ | ⟨-, -, o⟩ | ⟨o, -⟩
            · cases o
            · cases o
            · exact o
            · cases o
          · exact absurd o (by decide)
        obtain ⟨c30, rfl⟩ := hpo
        rcases hz with ⟨e, -⟩ | ⟨e, -⟩ | ⟨-, a, eA, ha, rfl⟩ | ⟨e, -⟩
        · exact absurd e (by decide)
        · exact absurd e (by decide)
        · rw [e5] at eA
          cases eA
          have hstk : st.map (cvl ad) = Value.ref (ad b) :: (st.drop n).map (cvl ad) := by
            rw [hst n, e5]
            rfl
          exact gGcl hB C hRd hsz c30 hd hstk hb ha hw (hmS n) S K
        · exact absurd e (by decide)
      · exfalso
        have hro := ca_all hk _ (vsel_mem h9 hv)
        have hz0 : 1000 ≤ z := by rcases hz with ⟨e, -⟩ | ⟨e, -⟩ | ⟨e, -⟩ | ⟨e, -⟩ <;> omega
        rcases hro with o | ⟨-, o, -⟩
        · have h5 : ∀ u : Nat × Nat, (hT G b, z) = u → u.1 < 100 := fun u e => by rw [← e]; exact ht
          rcases o with ⟨o, -⟩ | ⟨o, -⟩ | ⟨o, -⟩ | ⟨o, -⟩ <;> exact absurd (h5 _ o) (by decide)
        · have o : z < 357 := o
          omega
    · exact (sX_nogo h).elim
  case invokeinterface k cnt =>
    exfalso
    obtain ⟨n, ts, hk, hn, h⟩ := at_call (show sCallAt y (kf (mcls y) k) 3 pc 5 L st G = _ from hs)
    rcases inv_3 h with ⟨z, b, A1, hv, e5, h⟩ | ⟨A1, e5, h⟩
    · have hb : b < hN G := S.2.2.2.1 _ (hmA n _ (by rw [e5]; exact List.mem_cons_self)) b rfl
      have ht := S.1.t100 hb
      obtain ⟨hw, hz⟩ := to_go h
      have hro := ca_all hk _ (vself_mem hv)
      have hz0 : 1000 ≤ z := by rcases hz with ⟨e, -⟩ | ⟨e, -⟩ | ⟨e, -⟩ | ⟨e, -⟩ <;> omega
      rcases hro with o | ⟨-, o, -⟩
      · have h5 : ∀ u : Nat × Nat, (hT G b + 100, z) = u → u.1 < 200 := fun u e => by rw [← e]; show hT G b + 100 < 200; omega
        rcases o with ⟨o, -⟩ | ⟨o, -⟩ | ⟨o, -⟩ | ⟨o, -⟩ <;> exact absurd (h5 _ o) (by decide)
      · have o : z < 357 := o
        omega
    · exact sX_nogo h
  case multianewarray k n =>
    obtain rfl := h1 4 hl
    match n, hs, hd, hl, hx with
    | 2, hs, hd, hl, hx =>
      have hs : (match clsR (kf (mcls y) k) with
        | some t => if newG.contains t = true then sGrid t (if t = 51 then 40 else 41) pc L st G else none
        | none => none) = some (.inl q) := hs
      split at hs
      · next t ht =>
        split at hs
        · next hk => exact hMu C hd ht hk hs S hR K
        · cases hs
      · cases hs
    | 0, hs, _, _, _ => cases (show (none : Option SR) = some (.inl q) from hs)
    | 1, hs, _, _, _ => cases (show (none : Option SR) = some (.inl q) from hs)
    | n + 3, hs, _, _, _ => cases (show (none : Option SR) = some (.inl q) from hs)
  case getstatic k =>
    obtain rfl := h1 3 hl
    replace hs : (if mcls y = 16 ∧ k = 39 then sGo (pc + 3) L (vr (some 1) :: st) G else none) = some (.inl q) := hs
    split at hs
    · next hc =>
      obtain ⟨c16, rfl⟩ := hc
      cases hs
      exact gGst hB C c16 hd S K
    · cases hs
  case ldc k =>
    obtain rfl := h1 2 hl
    have hx' : (mcls y == 30 && k == 110) = true := hx
    simp only [Bool.and_eq_true, beq_iff_eq] at hx'
    obtain ⟨c30, rfl⟩ := hx'
    unfold stp at hs
    dsimp only at hs
    rw [if_pos ⟨c30, rfl⟩] at hs
    cases hs
    exact gLdcM hB C c30 hd S K
  all_goals cases (show false = true from hx)
