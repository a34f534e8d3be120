/-! soundness 27: the induction -/
def RmD (d : Nat) (R : Room) : Prop := d + 16 ≤ R.frames ∧ 64 * d + 12288 ≤ R.locals
def Hp (Z : SS0) (s : State) : Prop := ∀ q, q < Z.s.heap.size → s.heap[q]? = Z.s.heap[q]?
def HTb (c : Code) (y : Nat) : Prop := c.exceptionTable.toList.map (fun h => (h.startPc, h.endPc, h.handlerPc, h.catchType)) = hhT y
/-- the odd instructions that go on (shown elsewhere) -/
def ExoOK (Z : SS0) (D : DD) (l : Launch) : Prop := ∀ {p : Program} {e : Env} {R : Room} {s : State} {m : MethodId} {args : Array Value} {below : List Frame} {meth : Method} {c : Code} {Q : State → Prop} {d y pc len : Nat} {L : AL} {st : List AV} {G : AH} {H : Heap} {locs : List Loc} {cells slots : Nat} {ls : Array Slot} {ad : Nat → Nat} {q : Nat × AL × List AV × AH} {i : Instr},
  Ctx Z p s m meth c y → Hp Z s → RmD d R → L.length = mmax y → exo (mcls y) i = true → lenOK i len pc = true → decode (mcode y) pc = .ok (i, len) → stp y (mcls y) (mret y) pc len L st G i = some (.inl q) → Sim Z D ad G L st H locs ls → Rm R cells slots G q.2.2.2 → Nx Z D p l e R s m args below meth c Q cells slots ad G q → W p l e R s m args below meth c H locs cells slots Q (F0 m pc ls (st.map (cvl ad)))
/-- behind a throw: the object is being thrown over the frame -/
def Thrown (Z : SS0) (D : DD) (p : Program) (l : Launch) (e : Env) (R : Room) (s : State) (m : MethodId) (args : Array Value) (below : List Frame) (meth : Method) (c : Code) (T : State) (cells slots : Nat) (pc : Nat) (ls : Array Slot) (stk : List Value) (ad : Nat → Nat) (G : AH) (L : AL) (a : Nat) (G1 : AH) : Prop :=
  ∃ (U : State) (locs' : List Loc) (ad' : Nat → Nat) (cells' slots' : Nat) (stk' : List Value), Stand p l e R s m args below meth c U locs' cells' slots' ∧ Sim Z D ad' G1 L [] U.heap locs' ls ∧ (∀ r, r < hN G → ad' r = ad r) ∧ a < hN G1 ∧ hT G1 a ∈ excT ∧ cells' + hC G ≤ cells + hC G1 ∧ slots' + hS G ≤ slots + hS G1 ∧
    Steps p.tables e below (T.setTop (F0 m pc ls stk)) ((U.setTop (F0 m pc ls stk')).pushFrame (.throwing (ad' a)))
/-- the machine's own throws (shown elsewhere) -/
def ThrOK (Z : SS0) (D : DD) (l : Launch) : Prop := ∀ {p : Program} {e : Env} {R : Room} {s : State} {m : MethodId} {args : Array Value} {below : List Frame} {meth : Method} {c : Code} {d y pc len : Nat} {L : AL} {st : List AV} {G G1 : AH} {T : State} {locs : List Loc} {cells slots : Nat} {ls : Array Slot} {ad : Nat → Nat} {i : Instr} {a : Nat},
  Ctx Z p s m meth c y → Hp Z s → RmD d R → L.length = mmax y → wt st ≤ 16 → lenOK i len pc = true → decode (mcode y) pc = .ok (i, len) → stp y (mcls y) (mret y) pc len L st G i = some (.inr (.inr (.inl (a, G1)))) → Stand p l e R s m args below meth c T locs cells slots → Sim Z D ad G L st T.heap locs ls → Rm R cells slots G G1 → Thrown Z D p l e R s m args below meth c T cells slots pc ls (st.map (cvl ad)) ad G L a G1
/-- what is shown for a run of n steps -/
def Snd (Z : SS0) (D : DD) (l : Launch) (n : Nat) : Prop := ∀ {d y pc : Nat} {L : AL} {st : List AV} {G G' : AH} {o : AO} {p : Program} {e : Env} {R : Room} {s : State} {m : MethodId} {args : Array Value} {below : List Frame} {meth : Method} {c : Code} {H : Heap} {locs : List Loc} {cells slots : Nat} {ls : Array Slot} {ad : Nat → Nat},
  ex n d y pc L st G = some (o, G') → y < 357 → Ctx Z p s m meth c y → Hp Z s → HTb c y → RmD d R → L.length = mmax y → Sim Z D ad G L st H locs ls → Rm R cells slots G G' → W p l e R s m args below meth c H locs cells slots (FinQ Z D below s ad G o G' (cells + (hC G' - hC G)) (slots + (hS G' - hS G))) (F0 m pc ls (st.map (cvl ad)))
theorem FinQ.up {Z : SS0} {D : DD} {below : List Frame} {s : State} {ad ad1 : Nat → Nat} {G G1 G' : AH} {o : AO} {mc ms mc' ms' : Nat} {t : State} (h : FinQ Z D below s ad1 G1 o G' mc ms t) (hag : ∀ r, r < hN G → ad1 r = ad r) (hn : hN G ≤ hN G1) (h1 : mc ≤ mc') (h2 : ms ≤ ms') : FinQ Z D below s ad G o G' mc' ms' t := by
  obtain ⟨oc, a1, a2, ⟨ad', b1, b2, b3⟩, a4, L, a5, a6⟩ := h
  exact ⟨oc, a1, a2, ⟨ad', fun r hr => (b1 r (by omega)).trans (hag r hr), b2, b3⟩, a4, L, a5.mono h1 h2, a6⟩
/-! the locals with which a method begins -/
theorem lay_len (ad : Nat → Nat) (A : List AV) : (lg_sl (A.map (cvl ad))).length = (lay A).length := by
  induction A with
  | nil => rfl
  | cons v A ih =>
    unfold lg_sl at ih ⊢
    rw [List.map_cons, List.flatMap_cons, List.length_append, ih, cat_of]
    rcases v with x | x | x
    · show 1 + (lay A).length = (lay A).length + 1; omega
    · show 2 + (lay A).length = (lay A).length + 1 + 1; omega
    · show 1 + (lay A).length = (lay A).length + 1; omega
theorem lay_at (ad : Nat → Nat) : ∀ (A : List AV) (i : Nat) (v : AV), (lay A)[i]? = some (some v) → (lg_sl (A.map (cvl ad)))[i]? = some (.val (cvl ad v)) ∧ v ∈ A := by
  intro A
  induction A with
  | nil => intro i v h; simp [lay] at h
  | cons w A ih =>
    intro i v h
    rcases w with x | x | x
    · match i, h with
      | 0, h =>
        have h : some (some (vi x)) = some (some v) := h
        cases h
        exact ⟨rfl, List.mem_cons_self⟩
      | i + 1, h =>
        obtain ⟨h1, h2⟩ := ih i v h
        exact ⟨h1, List.mem_cons_of_mem _ h2⟩
    · match i, h with
      | 0, h =>
        have h : some (some (vl x)) = some (some v) := h
        cases h
        exact ⟨rfl, List.mem_cons_self⟩
      | 1, h => simp [lay] at h
      | i + 2, h =>
        obtain ⟨h1, h2⟩ := ih i v h
        exact ⟨h1, List.mem_cons_of_mem _ h2⟩
    · match i, h with
      | 0, h =>
        have h : some (some (vr x)) = some (some v) := h
        cases h
        refine ⟨?_, List.mem_cons_self⟩
        cases x <;> rfl
      | i + 1, h =>
        obtain ⟨h1, h2⟩ := ih i v h
        refine ⟨?_, List.mem_cons_of_mem _ h2⟩
        cases x <;> exact h1
theorem entry_at {n : Nat} {A : List AV} {i : Nat} {v : AV} (h : (entry n A)[i]? = some (some v)) : (lay A)[i]? = some (some v) := by
  unfold entry at h
  rcases Nat.lt_or_ge i (lay A).length with q | q
  · rwa [List.getElem?_append_left q] at h
  · rw [List.getElem?_append_right q] at h
    rw [List.getElem?_replicate] at h
    split at h <;> cases h
theorem entry_len {n : Nat} {A : List AV} (h : (lay A).length ≤ n) : (entry n A).length = n := by
  unfold entry
  rw [List.length_append, List.length_replicate]
  omega
theorem entry_LR (ad : Nat → Nat) {n : Nat} {A : List AV} (h : (lay A).length ≤ n) : LR ad (entry n A) ((lg_sl (A.map (cvl ad)) ++ List.replicate (n - (lg_sl (A.map (cvl ad))).length) Slot.unset).toArray) := by
  have h1 := lv_entry (A.map (cvl ad)) (n := n) (by rw [lay_len]; exact h)
  refine ⟨by rw [h1.1, entry_len h], h1.2.1, fun i v hv => ?_⟩
  have h2 := (lay_at ad A i v (entry_at hv)).1
  rw [List.getElem?_toArray, List.getElem?_append_left (List.getElem?_eq_some_iff.mp h2).1]
  exact h2
theorem mxl_eq : ∀ z, z < 357 → mxl z = mmax z ∧ mmax z ≤ 36 := by decide +kernel
section
variable {Z : SS0} {D : DD} {p : Program} {l : Launch} {e : Env} {R : Room} {s : State} {m : MethodId} {args : Array Value} {below : List Frame} {meth : Method} {c : Code} {T : State} {locs : List Loc} {cells slots : Nat} {n d y pc : Nat} {L : AL} {ls : Array Slot} {ad : Nat → Nat}
/-- a thrown object: to the handler, or out -/
theorem thr_ok (hB : Base Z D) (IH : Snd Z D l n) (C : Ctx Z p s m meth c y) (hHp : Hp Z s) (hy : y < 357) (hHT : HTb c y) (hRd : RmD d R) (hL : L.length = mmax y) {a : Nat} {G1 G' : AH} {o : AO} (hr : (match hnd y pc (hT G1 a) with
      | some h => ex n d y h L [vr (some a)] G1
      | none => some (.inr a, G1)) = some (o, G'))
    (X : Stand p l e R s m args below meth c T locs cells slots) (S : Sim Z D ad G1 L [] T.heap locs ls) (ha : a < hN G1) (hx : hT G1 a ∈ excT) (hR : Rm R cells slots G1 G') (stk : List Value) :
    ∃ t, Steps p.tables e below ((T.setTop (F0 m pc ls stk)).pushFrame (.throwing (ad a))) t ∧ FinQ Z D below s ad G1 o G' (cells + (hC G' - hC G1)) (slots + (hS G' - hS G1)) t := by
  have hW := C.2.2.2.1
  have h3 : 3 ≤ a := by
    obtain ⟨z0, -, -, z1, -, z2⟩ := S.1.2.2.2.2.2.1
    rcases Nat.lt_or_ge a 3 with q | q
    · exfalso
      match a, q with
      | 0, _ => rw [z0] at hx; exact absurd hx (by decide)
      | 1, _ => rw [z1] at hx; exact absurd hx (by decide)
      | 2, _ => rw [z2] at hx; exact absurd hx (by decide)
    · exact q
  obtain ⟨cell, g1, g2, g3, -⟩ := (S.1.1 a h3 ha).2.2.1 hx
  obtain ⟨hf, k1, hk1, -⟩ := classAt_moved hW.alike (hB.2.2.2.2.1 _ hx).1
  have hpl : e.platform.magicAccessors = ({} : Platform).magicAccessors := by rw [X.admits.platform]
  obtain ⟨q1, q2⟩ := hh_ok (e := e) (pc := pc) hB hW C.2.2.2.2.1 hy hHT hx hpl
  obtain ⟨vm', X', f1, f2⟩ := thr_go X (ad a) (g := F0 m pc ls stk) rfl rfl rfl C.2.2.2.2.2.2.1 (tg := fun x => xyes (hT G1 a) (tagOf y x.catchType)) g1 (by rw [g2]; rfl) ⟨k1, by rw [g3]; exact hk1⟩ (fun x hx _ => Or.inr (by rw [g3]; exact q1 x hx))
  cases hh : hnd y pc (hT G1 a) with
  | none =>
    rw [hh] at hr q2
    cases hr
    obtain ⟨w1, w2⟩ := X'.ends (.throwing (ad a) :: below)
    refine ⟨_, f2 q2, .threw (ad a), X'.here.running, ?_, ⟨ad, fun _ _ => rfl, S.1, rfl, ha, hx⟩, w1, locs, ?_, S.2.2.2.2⟩
    · obtain ⟨g₀, hg₀⟩ := X'.frames_eq
      exact State.frames_setFrames _ (State.cur_lt_of_frames hg₀)
    · exact w2.mono (Nat.le_add_right _ _) (Nat.le_add_right _ _)
  | some h =>
    rw [hh] at hr q2
    have S' : Sim Z D ad G1 L [vr (some a)] T.heap locs ls := S.push (v := vr (some a)) (fun r hr => by cases hr; exact ha) (fun w hw => List.mem_cons.mp hw)
    obtain ⟨t, a1, b1⟩ := IH (args := args) (below := below) (e := e) hr hy C hHp hHT hRd hL S' hR (T.setVm vm') rfl X'
    exact ⟨t, (f1 h q2).trans a1, b1⟩
end
def rmOf (d a b : Nat) : Room := { frames := d + 16, locals := 64 * d + 12288, cells := a, slots := b }
theorem rmOf_f (d a b : Nat) : (rmOf d a b).frames = d + 16 := rfl
theorem rmOf_l (d a b : Nat) : (rmOf d a b).locals = 64 * d + 12288 := rfl
theorem rmOf_c (d a b : Nat) : (rmOf d a b).cells = a := rfl
theorem rmOf_s (d a b : Nat) : (rmOf d a b).slots = b := rfl
theorem RmD.own (d a b : Nat) : RmD d (rmOf d a b) := by
  unfold RmD
  rw [rmOf_f, rmOf_l]
  exact ⟨Nat.le_refl _, Nat.le_refl _⟩
theorem rm_loc {d w mx rl : Nat} (hw : w ≤ 16) (hm : mx ≤ 36) (h : 64 * (d + 1) + 12288 ≤ rl) : 2 * 0 + w + (mx + 11) + (64 * d + 12288) ≤ rl := by
  have h2 : 64 * (d + 1) = 64 * d + 64 := Nat.mul_succ 64 d
  rw [h2] at h
  generalize 64 * d = k at h ⊢
  generalize (12288 : Nat) = j at h ⊢
  omega
theorem F0_mr (m : MethodId) (pc : Nat) (ls : Array Slot) (st : List Value) : (F0 m pc ls st).monitorRoom = 0 := rfl
set_option maxHeartbeats 4000000 in
theorem snd_all {Z : SS0} {D : DD} {l : Launch} (hB : Base Z D) (hE : ExoOK Z D l) (hX : ThrOK Z D l) : ∀ n, Snd Z D l n := by
  intro n
  induction n with
  | zero => intro d y pc L st G G' o p e R s m args below meth c H locs cells slots ls ad h; simp [ex] at h
  | succ n IH =>
    intro d y pc L st G G' o p e R s m args below meth c H locs cells slots ls ad h hy C hHp hHT hRd hL S hR
    have hgr : Gle G G' := ex_grow _ _ _ _ _ _ _ _ h
    have hW := C.2.2.2.1
    rw [ex] at h
    cases hd : decode (mcode y) pc with
    | error _ => rw [hd] at h; simp at h
    | ok q =>
      obtain ⟨i, len⟩ := q
      rw [hd] at h
      dsimp only at h
      by_cases hl : lenOK i len pc = true
      case neg => rw [if_neg hl] at h; cases h
      rw [if_pos hl] at h
      have hg1 := gr_stp (y := y) (c := mcls y) (rk := mret y) (pc := pc) (len := len) (L := L) (st := st) (G := G) (i := i)
      have hln := ln_stp (y := y) (c := mcls y) (rk := mret y) (pc := pc) (len := len) (L := L) (st := st) (G := G) (i := i)
      cases hs : stp y (mcls y) (mret y) pc len L st G i with
      | none => rw [hs] at h; simp at h
      | some q =>
        rw [hs] at h hg1 hln
        rcases q with q | q | q | q
        · have h : ex n d y q.1 q.2.1 q.2.2.1 q.2.2.2 = some (o, G') := h
          have hg1 : Gle G q.2.2.2 := hg1
          have hln : q.2.1.length = L.length := hln
          have hg2 : Gle q.2.2.2 G' := ex_grow _ _ _ _ _ _ _ _ h
          obtain ⟨n1, n2, n3⟩ := hg1
          obtain ⟨n4, n5, n6⟩ := hg2
          have hR1 : Rm R cells slots G q.2.2.2 := by unfold Rm at hR ⊢; omega
          have K : Nx Z D p l e R s m args below meth c (FinQ Z D below s ad G o G' (cells + (hC G' - hC G)) (slots + (hS G' - hS G))) cells slots ad G q := by
            intro H' locs' ls' ad' cells' slots' S' hag hc hsl
            refine W.mono (fun t ht => FinQ.up ht hag n1 (by omega) (by omega)) (IH h hy C hHp hHT hRd (hln.trans hL) S' ?_)
            unfold Rm at hR ⊢; omega
          cases hx : exo (mcls y) i with
          | false => exact go_ok hB C hx hl hd hs S hR1 K
          | true => exact hE C hHp hRd hL hx hl hd hs S hR1 K
        · obtain ⟨v, G2⟩ := q
          cases h
          obtain ⟨e1, k⟩ := ret_ok (args := args) (below := below) (e := e) (R := R) (l := l) (cells := cells) (slots := slots) C hl hd hs S
          subst e1
          exact W.mono (fun t ht => FinQ.up ht (fun _ _ => rfl) (Nat.le_refl _) (by omega) (by omega)) k
        · obtain ⟨a, G1⟩ := q
          have h : (if wt st ≤ 16 then (match hnd y pc (hT G1 a) with
            | some h => ex n d y h L [vr (some a)] G1
            | none => some (.inr a, G1)) else none) = some (o, G') := h
          by_cases hw : wt st ≤ 16
          case neg => rw [if_neg hw] at h; cases h
          rw [if_pos hw] at h
          have hg1 : Gle G G1 := hg1
          have hg2 : Gle G1 G' := by
            revert h
            split
            · exact fun h => ex_grow _ _ _ _ _ _ _ _ h
            · intro h; cases h; exact Gle.rf _
          obtain ⟨n1, n2, n3⟩ := hg1
          obtain ⟨n4, n5, n6⟩ := hg2
          intro T hTh X
          subst hTh
          have hR1 : Rm R cells slots G G1 := by unfold Rm at hR ⊢; omega
          obtain ⟨U, locs', ad', cells', slots', stk', X', S', hag, ha, hx, hc, hsl, st0⟩ := hX C hHp hRd hL hw hl hd hs X S hR1
          obtain ⟨t, a1, b1⟩ := thr_ok hB IH C hHp hy hHT hRd hL h X' S' ha hx (by unfold Rm at hR ⊢; omega) stk'
          exact ⟨t, st0.trans a1, FinQ.up b1 hag n1 (by omega) (by omega)⟩
        · obtain ⟨z, A, pc', st'⟩ := q
          cases d with
          | zero => cases h
          | succ d =>
            dsimp only at h
            cases hc : ex n d z 0 (entry (mmax z) A) [] G with
            | none => rw [hc] at h; simp at h
            | some u =>
              obtain ⟨o1, G1⟩ := u
              rw [hc] at h
              obtain ⟨n1, n2, n3⟩ : Gle G G1 := ex_grow _ _ _ _ _ _ _ _ hc
              have hg2 : Gle G1 G' := by
                revert h
                cases o1 with
                | inl v => exact fun h => ex_grow _ _ _ _ _ _ _ _ h
                | inr a =>
                  dsimp only
                  split
                  · exact fun h => ex_grow _ _ _ _ _ _ _ _ h
                  · intro h; cases h; exact Gle.rf _
              obtain ⟨n4, n5, n6⟩ := hg2
              intro T hTh X
              subst hTh
              obtain ⟨z0, z1, epc, ⟨hw, hxl⟩, hmA, hmS, vm₁, mk, X₁, hnamed, hgo⟩ := inv_ok hB C X rfl S hl hd hs
              obtain ⟨mk', methK, cK, M⟩ := mf_at (s := s) hB hW z0 z1
              obtain ⟨M1, M2, M3, M4, M5, M6, M7, M8, M9⟩ := M
              cases hnamed.symm.trans M1
              obtain ⟨x1, x2⟩ := mxl_eq z z1
              have hdc : decode c.code pc = .ok (i, len) := by rw [C.2.1]; exact hd
              have hsz : (F0 m pc ls (st'.map (cvl ad))).locals.size = c.maxLocals := by
                show ls.size = _
                rw [S.2.1.1, hL, C.2.2.1]
              have hwt : (((F0 m pc ls (st'.map (cvl ad))).stack).map fun v => v.category).sum = wt st' := wt_of ad st'
              obtain ⟨r1, r2⟩ := hRd
              obtain ⟨s₁, Y, hs1, hdo⟩ := enter X₁ (g := F0 m pc ls (st'.map (cvl ad))) rfl hsz hdc M1 (mn_plain z z1) M2 M3 M7 (a := (A.map (cvl ad)).toArray) (R' := rmOf d (hC G1 - hC G) (hS G1 - hS G))
                (by rw [rmOf_f]; omega) (by rw [hwt, rmOf_l, F0_mr]; exact rm_loc hw (by rw [M5]; exact x2) r2) (by rw [rmOf_c]; unfold Rm at hR; omega) (by rw [rmOf_s]; unfold Rm at hR; omega)
              have hW' : Z.s.WarmedH ((T.setVm vm₁).calling (F0 m pc ls (st'.map (cvl ad))) mk (A.map (cvl ad)).toArray).vm := State.WarmedH.trans hW X₁.warmed
              obtain ⟨mk2, meth2, c2, N⟩ := mf_at (s := (T.setVm vm₁).calling (F0 m pc ls (st'.map (cvl ad))) mk (A.map (cvl ad)).toArray) hB hW' z0 z1
              have hnm2 : ((T.setVm vm₁).calling (F0 m pc ls (st'.map (cvl ad))) mk (A.map (cvl ad)).toArray).methodNamed? (mnm z) = some mk := X₁.named M1
              cases hnm2.symm.trans N.1
              cases Y.method.symm.trans N.2.1
              cases M3.symm.trans N.2.2.1
              have C' := ctx_of (p := p) C.1 hW' z1 N
              have hHK : HTb cK z := N.2.2.2.2.2.2.2.1
              have hlay : (lay A).length ≤ mmax z := by omega
              have S1 : Sim Z D ad G (entry (mmax z) A) [] T.heap [] ((lg_sl (A.map (cvl ad)) ++ List.replicate (mmax z - (lg_sl (A.map (cvl ad))).length) Slot.unset).toArray) :=
                ⟨S.1, entry_LR ad hlay, fun i v hv => S.2.2.2.1 v (hmA v (lay_at ad A i v (entry_at hv)).2), fun v hv => absurd hv List.not_mem_nil, fun q hq => absurd hq List.not_mem_nil⟩
              have K1 := IH (e := e) (args := (A.map (cvl ad)).toArray) (below := .java (F0 m pc ls (st'.map (cvl ad))) :: (T.setVm vm₁).frames.tail) (R := rmOf d (hC G1 - hC G) (hS G1 - hS G)) (cells := 0) (slots := 0) hc z1 C' (fun q hq => S.1.2.2.2.2.2.2.2.2 q hq) hHK (RmD.own _ _ _) (entry_len hlay) S1 (by unfold Rm; rw [rmOf_c, rmOf_s]; omega)
              obtain ⟨t, a1, oc, run, ended, ⟨ad1, hag1, hc1, hout⟩, hWt, L1, hsm, hbase⟩ := K1 s₁ hs1 Y
              obtain ⟨T', XT, hheap, hAft⟩ := after_of X₁ (g := F0 m pc ls (st'.map (cvl ad))) rfl hdc ended hWt hsm
              have a2 : Steps p.tables e below (s₁.setTop (entryFrame mk (A.map (cvl ad)).toArray cK.maxLocals)) t := by
                rw [lg_entry_eq, M5]
                have a3 := a1
                rw [X₁.tail] at a3
                exact weak (mid := [.java (F0 m pc ls (st'.map (cvl ad)))]) a3
              have st1 : Steps p.tables e below (T.setTop (F0 m pc ls (st.map (cvl ad)))) t := hgo _ (by rw [hdo]; exact a2)
              have S2 : ∀ st2 : List AV, (∀ v ∈ st2, Scp G1 v) → Sim Z D ad1 G1 L st2 T'.heap (locs ++ L1) ls := fun st2 h2 =>
                ⟨by rw [hheap]; exact hc1, S.2.1.ext hag1 S.2.2.1, fun i v hv => (S.2.2.1 i v hv).mono n1, h2, fun q hq => by
                  rcases List.mem_append.mp hq with h | h
                  · exact S.2.2.2.2 q h
                  · exact hbase q h⟩
              have hst' : ∀ v ∈ st', Scp G v := fun v hv => S.2.2.2.1 v (hmS v hv)
              have hR2 : Rm R (cells + (0 + (hC G1 - hC G))) (slots + (0 + (hS G1 - hS G))) G1 G' := by unfold Rm at hR ⊢; omega
              cases o1 with
              | inl v =>
                obtain ⟨rfl, hsc⟩ := hout
                have h : ex n (d + 1) y pc' L (v.toList ++ st') G1 = some (o, G') := h
                have hS2 := S2 (v.toList ++ st') (fun w hw => by
                  rcases List.mem_append.mp hw with q | q
                  · exact hsc w (by simpa using q)
                  · exact (hst' w q).mono n1)
                obtain ⟨t2, a4, b4⟩ := IH (e := e) (args := args) (below := below) h hy C hHp hHT ⟨r1, r2⟩ hL hS2 hR2 T' rfl XT
                have et : t = T'.setTop (F0 m pc' ls ((v.toList ++ st').map (cvl ad1))) := by
                  rw [epc, List.map_append, map_ext hag1 hst']
                  refine hAft.trans ?_
                  cases v <;> rfl
                refine ⟨t2, st1.trans (by rw [et]; exact a4), FinQ.up b4 hag1 n1 (by omega) (by omega)⟩
              | inr a =>
                obtain ⟨rfl, ha, hx⟩ := hout
                have et : t = (T'.setTop (F0 m pc ls (st'.map (cvl ad)))).pushFrame (.throwing (ad1 a)) := hAft
                obtain ⟨t2, a4, b4⟩ := thr_ok hB IH C hHp hy hHT ⟨r1, r2⟩ hL h XT (S2 [] (fun v hv => absurd hv List.not_mem_nil)) ha hx hR2 (st'.map (cvl ad))
                exact ⟨t2, st1.trans (by rw [et]; exact a4), FinQ.up b4 hag1 n1 (by omega) (by omega)⟩
