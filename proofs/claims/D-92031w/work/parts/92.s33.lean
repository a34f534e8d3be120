/-! soundness 33: the made exception in the abstract heap -/
theorem rm_big {d w rl : Nat} (h : 64 * d + 12288 ≤ rl) (hw : w ≤ 16) : 2 * 0 + w + 10240 ≤ rl := by
  have h2 : 12288 ≤ rl := Nat.le_trans (Nat.le_add_left _ _) h
  have h3 : 2 * 0 + w ≤ 16 := by omega
  exact Nat.le_trans (Nat.add_le_add_right h3 10240) (Nat.le_trans (by decide) h2)
theorem rm_c {a g x r : Nat} (h : a + (g + x) ≤ r + g) {y : Nat} (hy : y ≤ x) : a + y ≤ r := by omega
section
variable {Z : SS0} {D : DD} {p : Program} {l : Launch} {e : Env} {R : Room} {s : State} {m : MethodId} {args : Array Value} {below : List Frame} {meth : Method} {c : Code} {d y pc : Nat} {L : AL} {st : List AV} {G : AH} {T T1 U : State} {locs L1 : List Loc} {cells slots : Nat} {ls : Array Slot} {ad : Nat → Nat} {stk stk1 : List Value}
theorem Thrown.mk' {t w k1 k2 : Nat} {cell : Cell} (hB : Base Z D) (hW : Z.s.WarmedH s.vm) (S : Sim Z D ad G L st T.heap locs ls) (ht : t ∈ excT) (XU : Stand p l e R s m args below meth c U (locs ++ L1) (cells + k1) (slots + k2)) (hL1 : ∀ q ∈ L1, q.base = w) (hw1 : T.heap.size ≤ w) (hw2 : w < U.heap.size) (hold : ∀ q, q < T.heap.size → U.heap[q]? = T.heap[q]?)
    (c1 : U.heap[w]? = some cell) (c2 : s.vm.findClass (cnm t) = some cell.cls) (c3 : cell.vm = .none) (c4 : t = 12 ∨ t = 22 → cell.monitor.owner = none ∧ cell.monitor.count = 0 ∧ cell.slots.size = 6 ∧ cell.slots[D.2.1 12 0]? = some .null) (hk1 : k1 ≤ 64) (hk2 : k2 ≤ 20000)
    (hst : Steps p.tables e below (T.setTop (F0 m pc ls stk)) ((U.setTop (F0 m pc ls stk1)).pushFrame (.throwing w))) : Thrown Z D p l e R s m args below meth c T cells slots pc ls stk ad G L (hN G) (xcp G t) := by
  have ecls : cell.cls = D.1 t := Option.some.inj (c2.symm.trans (exc_cls hB hW ht))
  have eT : hT (xcp G t) (hN G) = t := by unfold xcp; rw [hT_mkx, if_pos rfl]
  have hcell : CellA D (adx ad (hN G) w) (xcp G t) U.heap (hN G) := by
    unfold CellA
    rw [eT, adx_eq]
    exact ⟨fun q => absurd q ((show ∀ t ∈ excT, ¬ t ∈ objT by decide) t ht), fun q => absurd q ((show ∀ t ∈ excT, ¬ t ∈ arrTg by decide) t ht), fun _ => ⟨cell, c1, c3, ecls, c4⟩, Or.inr (Or.inr ht)⟩
  have hc' : Conc Z D (adx ad (hN G) w) (xcp G t) U.heap := S.1.born hB (by omega) hold hw1 hw2 rfl (fun b hb => mkx_T hb) (fun b hb => mkx_L hb) (fun b i hb => mkx_I hb) (fun b i hb => mkx_J hb) (fun b i hb => mkx_R hb) (mkx_S S.1) hcell
  have hag : ∀ r, r < hN G → adx ad (hN G) w r = ad r := fun r hr => adx_lt hr
  have hsz := S.1.2.2.2.2.2.2.2.1
  refine ⟨U, locs ++ L1, adx ad (hN G) w, cells + k1, slots + k2, stk1, XU, ⟨hc', S.2.1.ext hag S.2.2.1, fun i v hv => (S.2.2.1 i v hv).mono (Nat.le_succ _), fun v hv => absurd hv List.not_mem_nil, fun q hq => ?_⟩, hag, Nat.lt_succ_self _, by rw [eT]; exact ht, ?_, ?_, by rw [adx_eq]; exact hst⟩
  · rcases List.mem_append.mp hq with h | h
    · exact S.2.2.2.2 q h
    · rw [hL1 q h]; omega
  · show cells + k1 + hC G ≤ cells + (hC G + 64)
    omega
  · show slots + k2 + hS G ≤ slots + (hS G + 20000)
    omega
theorem Thrown.npe (hB : Base Z D) (C : Ctx Z p s m meth c y) (hHp : Hp Z s) (hRd : RmD d R) (hsz : ls.size = c.maxLocals) (htr : e.platform.stackTraces = false) (S : Sim Z D ad G L st T.heap locs ls) (hR : Rm R cells slots G (xcp G 20)) (X : Stand p l e R s m args below meth c T1 locs cells slots) (hT1 : T1.heap = T.heap) (hw : (stk1.map fun v => v.category).sum ≤ 16)
    (hst : ∀ target, Steps p.tables e below ((T1.setTop (F0 m pc ls stk1)).pushFrame (.throwNew "java/lang/NullPointerException" none none)) target → Steps p.tables e below (T.setTop (F0 m pc ls stk)) target) : Thrown Z D p l e R s m args below meth c T cells slots pc ls stk ad G L (hN G) (xcp G 20) := by
  have r1 : 7 < R.frames := Nat.lt_of_lt_of_le (by omega) hRd.1
  have r2 := rm_big hRd.2 hw
  have hR1 : cells + (hC G + 64) ≤ R.cells + hC G := hR.1
  have hR2 : slots + (hS G + 20000) ≤ R.slots + hS G := hR.2
  obtain ⟨U, L1, XU, a1, a2, a3, ⟨cell, b1, b2, b3⟩, a5⟩ := npe_at X C.1 htr hB C.2.2.2.1 hHp (fun q hq => by rw [hT1]; exact S.1.2.2.2.2.2.2.2.2 q hq) (by rw [hT1]; exact S.1.2.2.2.2.2.2.2.1) (g := F0 m pc ls stk1) rfl hsz r1 (by rw [F0_mr]; exact r2) (rm_c hR1 (by decide)) (rm_c hR2 (by decide))
  rw [hT1] at a1 a2 a3 b1 a5
  exact Thrown.mk' (t := 20) hB C.2.2.2.1 S (by decide) XU a1 (Nat.le_refl _) (by omega) a3 b1 b2 b3 (fun h => absurd h (by decide)) (by decide) (by decide) (hst _ a5)
theorem Thrown.msg {t : Nat} {text : String} (ht : t ∈ msgT) (hB : Base Z D) (C : Ctx Z p s m meth c y) (hHp : Hp Z s) (hRd : RmD d R) (hsz : ls.size = c.maxLocals) (htr : e.platform.stackTraces = false) (S : Sim Z D ad G L st T.heap locs ls) (hR : Rm R cells slots G (xcp G t)) (htext : (text == notModelled) = false) (htb : (stringBytes (stringToUtf16 text)).size ≤ 10000) (X : Stand p l e R s m args below meth c T1 locs cells slots) (hT1 : T1.heap = T.heap) (hw : (stk1.map fun v => v.category).sum ≤ 16)
    (hst : ∀ target, Steps p.tables e below ((T1.setTop (F0 m pc ls stk1)).pushFrame (.throwNew (cnm t) (some text) none)) target → Steps p.tables e below (T.setTop (F0 m pc ls stk)) target) : Thrown Z D p l e R s m args below meth c T cells slots pc ls stk ad G L (hN G) (xcp G t) := by
  have r1 : 7 < R.frames := Nat.lt_of_lt_of_le (by omega) hRd.1
  have r2 := rm_big hRd.2 hw
  have hR1 : cells + (hC G + 64) ≤ R.cells + hC G := hR.1
  have hR2 : slots + (hS G + 20000) ≤ R.slots + hS G := hR.2
  obtain ⟨U, L1, XU, a1, a2, a3, ⟨cell, b1, b2, b3, b4, b5, b6, b7⟩, a5⟩ := msg_at X C.1 htr hB C.2.2.2.1 hHp (fun q hq => by rw [hT1]; exact S.1.2.2.2.2.2.2.2.2 q hq) ht htext htb (g := F0 m pc ls stk1) rfl hsz r1 (by rw [F0_mr]; exact r2) (rm_c hR1 (by decide)) (rm_c hR2 (by decide))
  rw [hT1] at a1 a2 a3 b1 a5
  have hex : t ∈ excT := (show ∀ t ∈ msgT, t ∈ excT by decide) t ht
  exact Thrown.mk' hB C.2.2.2.1 S hex XU a1 (by omega) (by omega) a3 b1 b2 b3 (fun _ => ⟨b4, b5, b6, b7 _ (slotIs_moved C.2.2.2.1.alike (hB.2.2.2.2.1 t hex).2)⟩) (by decide) (by decide) (hst _ a5)
end
