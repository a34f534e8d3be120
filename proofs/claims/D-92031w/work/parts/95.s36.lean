/-! soundness 36: every throw (two kinds as premises: a cast that fails, a copy that fails) -/
/-- a cast that fails (shown elsewhere) -/
def CastTh (Z : SS0) (D : DD) (l : Launch) : Prop := ∀ {p : Program} {e : Env} {R : Room} {s : State} {m : MethodId} {args : Array Value} {below : List Frame} {meth : Method} {c : Code} {d y pc k t : Nat} {L : AL} {st : List AV} {G G1 : AH} {T : State} {locs : List Loc} {cells slots : Nat} {ls : Array Slot} {ad : Nat → Nat} {a : Nat},
  Ctx Z p s m meth c y → Hp Z s → RmD d R → ls.size = c.maxLocals → e.platform.stackTraces = false → wt st ≤ 16 → Sim Z D ad G L st T.heap locs ls → Rm R cells slots G G1 → Stand p l e R s m args below meth c T locs cells slots → decode (mcode y) pc = .ok (.checkcast k, 3) → clsR (kf (mcls y) k) = some t → castK.contains t = true → sCast y (castTo t) (castNo t) pc L st G = some (.inr (.inr (.inl (a, G1)))) → Thrown Z D p l e R s m args below meth c T cells slots pc ls (st.map (cvl ad)) ad G L a G1
/-- a copy that fails (shown elsewhere) -/
def CopyTh (Z : SS0) (D : DD) (l : Launch) : Prop := ∀ {p : Program} {e : Env} {R : Room} {s : State} {m : MethodId} {args : Array Value} {below : List Frame} {meth : Method} {c : Code} {d y pc k : Nat} {L : AL} {A st st' : List AV} {G G1 : AH} {T : State} {locs : List Loc} {cells slots : Nat} {ls : Array Slot} {ad : Nat → Nat} {a : Nat},
  Ctx Z p s m meth c y → Hp Z s → RmD d R → ls.size = c.maxLocals → e.platform.stackTraces = false → wt st ≤ 16 → Sim Z D ad G L st T.heap locs ls → Rm R cells slots G G1 → Stand p l e R s m args below meth c T locs cells slots → decode (mcode y) pc = .ok (.invokestatic k, 3) → Cond.methodLink (cnm (mcls y)) k acN ∈ lw_all → st.map (cvl ad) = (A.map (cvl ad)).reverse ++ st'.map (cvl ad) → (∀ v ∈ A, v ∈ st) → wt st' ≤ 16 → sCopy y pc L A st' G = some (.inr (.inr (.inl (a, G1)))) → Thrown Z D p l e R s m args below meth c T cells slots pc ls (st.map (cvl ad)) ad G L a G1
theorem to_thr {y z pc len : Nat} {L : AL} {A st : List AV} {G : AH} {q : Nat × AH} (h : sTo y z pc len L A st G = some (.inr (.inr (.inl q)))) : wt st ≤ 16 ∧ z = 1001 ∧ sCopy y pc L A st G = some (.inr (.inr (.inl q))) := by
  unfold sTo at h
  split at h
  · split at h <;> cases h
  · split at h
    · next hw =>
      split at h
      · cases h
      · split at h
        · next e => exact ⟨hw, e, h⟩
        · exfalso
          split at h
          · split at h
            · split at h <;> cases h
            · cases h
          · split at h
            · split at h
              · split at h <;> cases h
              · cases h
            · cases h
    · cases h
theorem cr688 : callR (kf 0 688) = some (1, [(3, 283), (4, 289), (5, 293)]) := by decide +kernel
theorem cr691 : callR (kf 0 691) = some (1, [(7, 310), (8, 313), (9, 317), (10, 304), (11, 326)]) := by decide +kernel
theorem cr692 : (callR (kf 0 692)).map (·.1) = some 1 := by decide +kernel
theorem cr697 : (callR (kf 0 697)).map (·.1) = some 1 := by decide +kernel
theorem cr_n {key n n2 : Nat} {ts : List (Nat × Nat)} (h : callR key = some (n, ts)) (h2 : (callR key).map (·.1) = some n2) : n = n2 := by
  rw [h] at h2
  exact Option.some.inj h2
/-- the object stands on the stack -/
theorem ath {p : Program} {l : Launch} {e : Env} {R : Room} {s : State} {m : MethodId} {args : Array Value} {below : List Frame} {meth : Method} {c : Code} {T : State} {locs : List Loc} {cells slots : Nat} (X : Stand p l e R s m args below meth c T locs cells slots) (hexec : p.tables.exec = Jvm.exec) {g : JFrame} (hg : g.method = m) {a : Addr} {rest : List Value} (hstack : g.stack = .ref a :: rest) (hdg : decode c.code g.pc = .ok (.athrow, 1)) :
    ∀ target, Steps p.tables e below ((T.setTop { g with stack := rest }).pushFrame (.throwing a)) target → Steps p.tables e below (T.setTop g) target := by
  intro target hrest
  subst hg
  jvm_step X.here [hexec, hdg, athrow.wp_sem, hstack]
  exact hrest
set_option maxHeartbeats 4000000 in
theorem thr_all {Z : SS0} {D : DD} {l : Launch} (hB : Base Z D) (hl0 : l.stackTraces = false) (hCa : CastTh Z D l) (hCo : CopyTh Z D l) : ThrOK Z D l := by
  intro p e R s m args below meth c d y pc len L st G G1 T locs cells slots ls ad i a C hHp hRd hL hw hl hd hs X S hR
  have htr : e.platform.stackTraces = false := by rw [X.admits.platform]; exact hl0
  have hsz : ls.size = c.maxLocals := by rw [S.2.1.1, hL, C.2.2.1]
  have hdc : decode c.code pc = .ok (i, len) := by rw [C.2.1]; exact hd
  have h1 : ∀ n, (len == n) = true → len = n := fun n h => by simpa using h
  have hI : thI i = true := by
    cases h : thI i with
    | true => rfl
    | false =>
      have h9 := nt_stp (y := y) (c := mcls y) (rk := mret y) (pc := pc) (len := len) (L := L) (st := st) (G := G) h
      rw [hs] at h9
      cases h9
  cases i
  case getfield k =>
    obtain rfl := h1 3 hl
    unfold stp at hs
    dsimp only at hs
    split at hs
    · next f hf => exact tGet hB C hHp hRd hsz htr hw S hR X hd hf hs
    · cases hs
  case iaload =>
    obtain rfl := h1 1 hl
    exact tAI (ts := [40, 45]) (by decide) hB C hHp hRd hsz htr hw S hR X hs (fun j r rest cell ty a1 a2 a3 => ⟨_, ⟨index_text_modelled j cell.slots.size, fun h => index_text_bytes j h⟩, X.ialoadOut C.1 a1 a2 a3 (g := F0 m pc ls (.int j :: .ref r :: rest)) rfl rfl hdc⟩)
  case baload =>
    obtain rfl := h1 1 hl
    exact tAI (ts := [42, 44]) (by decide) hB C hHp hRd hsz htr hw S hR X hs (fun j r rest cell ty a1 a2 a3 => ⟨_, ⟨index_text_modelled j cell.slots.size, fun h => index_text_bytes j h⟩, X.baloadOut C.1 a1 a2 a3 (g := F0 m pc ls (.int j :: .ref r :: rest)) rfl rfl hdc⟩)
  case saload =>
    obtain rfl := h1 1 hl
    exact tAI (ts := [43]) (by decide) hB C hHp hRd hsz htr hw S hR X hs (fun j r rest cell ty a1 a2 a3 => ⟨_, ⟨index_text_modelled j cell.slots.size, fun h => index_text_bytes j h⟩, X.saloadOut C.1 a1 a2 a3 (g := F0 m pc ls (.int j :: .ref r :: rest)) rfl rfl hdc⟩)
  case laload =>
    obtain rfl := h1 1 hl
    exact tAJ hB C hHp hRd hsz htr hw S hR X hd hs
  case iastore =>
    obtain rfl := h1 1 hl
    exact tSI (t := 40) (f := id) (ok := fun _ => true) (by decide) hB C hHp hRd hsz htr hw S hR X hs (fun x j r rest cell ty a1 a2 a3 => ⟨_, ⟨index_text_modelled j cell.slots.size, fun h => index_text_bytes j h⟩, X.iastoreOut C.1 a1 a2 a3 (g := F0 m pc ls (.int x :: .int j :: .ref r :: rest)) rfl rfl hdc⟩)
  case sastore =>
    obtain rfl := h1 1 hl
    exact tSI (t := 43) (f := fun x => x.toInt16.toInt32) (ok := fun _ => true) (by decide) hB C hHp hRd hsz htr hw S hR X hs (fun x j r rest cell ty a1 a2 a3 => ⟨_, ⟨index_text_modelled j cell.slots.size, fun h => index_text_bytes j h⟩, X.sastoreOut C.1 a1 a2 a3 (g := F0 m pc ls (.int x :: .int j :: .ref r :: rest)) rfl rfl hdc⟩)
  case bastore =>
    obtain rfl := h1 1 hl
    replace hs : sSB y pc L st G = some (.inr (.inr (.inl (a, G1)))) := hs
    unfold sSB at hs
    split at hs
    · split at hs
      · exact tSI (t := 44) (f := id) (ok := b01) (by decide) hB C hHp hRd hsz htr hw S hR X hs (fun x j r rest cell ty a1 a2 a3 => ⟨_, ⟨index_text_modelled j cell.slots.size, fun h => index_text_bytes j h⟩, X.bastoreOut C.1 a1 a2 a3 (g := F0 m pc ls (.int x :: .int j :: .ref r :: rest)) rfl rfl hdc⟩)
      · exact tSI (t := 42) (f := fun x => x.toInt8.toInt32) (ok := fun _ => true) (by decide) hB C hHp hRd hsz htr hw S hR X hs (fun x j r rest cell ty a1 a2 a3 => ⟨_, ⟨index_text_modelled j cell.slots.size, fun h => index_text_bytes j h⟩, X.bastoreOut C.1 a1 a2 a3 (g := F0 m pc ls (.int x :: .int j :: .ref r :: rest)) rfl rfl hdc⟩)
    · cases hs
  case lastore =>
    obtain rfl := h1 1 hl
    exact tSJ hB C hHp hRd hsz htr hw S hR X hd hs
  case arraylength =>
    obtain rfl := h1 1 hl
    exact tLen hB C hHp hRd hsz htr hw S hR X hd hs
  case newarray ty =>
    obtain rfl := h1 2 hl
    exact tNewA hB C hHp hRd hsz htr hw S hR X hd hs
  case checkcast k =>
    obtain rfl := h1 3 hl
    unfold stp at hs
    dsimp only at hs
    split at hs
    · next t ht =>
      split at hs
      · next hk => exact hCa C hHp hRd hsz htr hw S hR X hd ht hk hs
      · cases hs
    · cases hs
  case invokestatic k =>
    obtain rfl := h1 3 hl
    obtain ⟨n, ts, hk, hn, h⟩ := at_call (show sCallAt y (kf (mcls y) k) 0 pc 3 L st G = _ from hs)
    obtain ⟨z, e1, h⟩ := inv_0 h
    obtain ⟨hw2, ez, h2⟩ := to_thr h
    subst ez
    have hlk : Cond.methodLink (cnm (mcls y)) k acN ∈ lw_all := by
      rcases ca_all hk (997, 1001) (by rw [e1]; exact List.mem_singleton.mpr rfl) with q | ⟨-, q, -⟩
      · rcases q with ⟨q, -⟩ | ⟨-, -, q⟩ | ⟨q, -⟩ | ⟨q, -⟩
        · cases q
        · exact q
        · cases q
        · cases q
      · exact absurd q (by decide)
    have hst : st.map (cvl ad) = (((st.take n).reverse).map (cvl ad)).reverse ++ (st.drop n).map (cvl ad) := by
      rw [List.map_reverse, List.reverse_reverse, ← List.map_append, List.take_append_drop]
    exact hCo C hHp hRd hsz htr hw S hR X hd hlk hst (fun v hv => List.mem_of_mem_take (List.mem_reverse.mp hv)) hw2 h2
  case invokespecial k =>
    exfalso
    obtain ⟨n, ts, hk, hn, h⟩ := at_call (show sCallAt y (kf (mcls y) k) 1 pc 3 L st G = _ from hs)
    obtain ⟨z, t, b, A1, e1, ht, e5, h⟩ := inv_1 h
    obtain ⟨hw2, ez, h2⟩ := to_thr h
    subst ez
    rcases ca_all hk (t, 1001) (by rw [e1]; exact List.mem_singleton.mpr rfl) with q | ⟨-, q, -⟩
    · rcases q with ⟨q, -⟩ | ⟨q, -⟩ | ⟨q, -⟩ | ⟨q, -⟩
      · cases q
      · cases q; rcases ht with h | h <;> simp at h
      · cases q
      · cases q
    · exact absurd (show (1001 : Nat) < 357 from q) (by decide)
  case invokevirtual k =>
    obtain rfl := h1 3 hl
    obtain ⟨n, ts, hk, hn, h⟩ := at_call (show sCallAt y (kf (mcls y) k) 2 pc 3 L st G = _ from hs)
    rcases inv_2 h with ⟨z, b, A1, hv, e5, h⟩ | ⟨A1, e5, h⟩
    · exfalso
      obtain ⟨hw2, ez, h2⟩ := to_thr h
      subst ez
      have hb : b < hN G := S.2.2.2.1 _ (List.mem_of_mem_take (List.mem_reverse.mp (by rw [e5]; exact List.mem_cons_self))) b rfl
      have ht := S.1.t100 hb
      by_cases h9 : ts.any (fun q => q.1 == 999) = true
      · rw [ca_nine hk h9] at hv
        cases hv
      · rcases ca_all hk _ (vsel_mem h9 hv) with q | ⟨-, q, -⟩
        · rcases q with ⟨q, -⟩ | ⟨q, -⟩ | ⟨q, -⟩ | ⟨q, -⟩
          · simp at q
          · have := congrArg (·.1) q
            simp at this
            omega
          · simp at q
          · simp at q
        · exact absurd (show (1001 : Nat) < 357 from q) (by decide)
    · obtain ⟨hc, rfl, rfl⟩ := sX_at h
      have hnv := nv_at hc
      unfold nvOK at hnv
      dsimp only at hnv
      rw [hd] at hnv
      simp only [Bool.and_eq_true, Bool.or_eq_true, beq_iff_eq] at hnv
      obtain ⟨hc0, hk6⟩ := hnv
      rw [hc0] at hk
      rcases hk6 with rfl | rfl
      · exact tInvV (Or.inl ⟨rfl, rfl⟩) hc0 hB C hHp hRd hsz htr hw S hR X hd (cr_n hk (by rw [cr688]; rfl)) hn e5
      · exact tInvV (Or.inr ⟨rfl, rfl⟩) hc0 hB C hHp hRd hsz htr hw S hR X hd (cr_n hk (by rw [cr691]; rfl)) hn e5
  case invokeinterface k cnt =>
    obtain rfl := h1 5 hl
    obtain ⟨n, ts, hk, hn, h⟩ := at_call (show sCallAt y (kf (mcls y) k) 3 pc 5 L st G = _ from hs)
    rcases inv_3 h with ⟨z, b, A1, hv, e5, h⟩ | ⟨A1, e5, h⟩
    · exfalso
      obtain ⟨hw2, ez, h2⟩ := to_thr h
      subst ez
      have hb : b < hN G := S.2.2.2.1 _ (List.mem_of_mem_take (List.mem_reverse.mp (by rw [e5]; exact List.mem_cons_self))) b rfl
      have ht := S.1.t100 hb
      rcases ca_all hk _ (vself_mem hv) with q | ⟨-, q, -⟩
      · rcases q with ⟨q, -⟩ | ⟨q, -⟩ | ⟨q, -⟩ | ⟨q, -⟩
        · have := congrArg (·.2) q
          simp at this
        · have := congrArg (·.1) q
          simp at this
          omega
        · have := congrArg (·.2) q
          simp at this
        · have := congrArg (·.2) q
          simp at this
      · exact absurd (show (1001 : Nat) < 357 from q) (by decide)
    · obtain ⟨hc, rfl, rfl⟩ := sX_at h
      have hnv := nv_at hc
      unfold nvOK at hnv
      dsimp only at hnv
      rw [hd] at hnv
      simp only [Bool.and_eq_true, Bool.or_eq_true, beq_iff_eq] at hnv
      obtain ⟨hc0, hk6⟩ := hnv
      rw [hc0] at hk
      rcases hk6 with rfl | rfl
      · exact tInvF (Or.inl rfl) hc0 hB C hHp hRd hsz htr hw S hR X hd (cr_n hk cr692) hn e5
      · exact tInvF (Or.inr rfl) hc0 hB C hHp hRd hsz htr hw S hR X hd (cr_n hk cr697) hn e5
  case athrow =>
    obtain rfl := h1 1 hl
    replace hs : sAthrow L st G = some (.inr (.inr (.inl (a, G1)))) := hs
    unfold sAthrow at hs
    split at hs
    · next r st2 =>
      split at hs
      · next ht =>
        cases hs
        have hr : a < hN G := S.2.2.2.1 _ List.mem_cons_self a rfl
        exact ⟨T, locs, ad, cells, slots, st2.map (cvl ad), X, S.sub (fun w hw => absurd hw List.not_mem_nil), fun _ _ => rfl, hr, by rcases ht with h | h <;> (rw [h]; decide), Nat.le_refl _, Nat.le_refl _, ath X C.1 (g := F0 m pc ls (.ref (ad a) :: st2.map (cvl ad))) rfl rfl hdc _ (Steps.refl _)⟩
      · cases hs
    · cases hs
  all_goals cases (show false = true from hI)
