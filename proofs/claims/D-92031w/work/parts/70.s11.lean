/-! soundness 11: branches, counters, stack shuffles -/
section
variable {Z : SS0} {D : DD} {p : Program} {l : Launch} {e : Env} {R : Room} {s : State} {m : MethodId} {args : Array Value} {below : List Frame} {meth : Method} {c : Code} {Q : State → Prop} {y pc pc2 k f : Nat} {L : AL} {st : List AV} {G : AH} {H : Heap} {locs : List Loc} {cells slots : Nat} {ls : Array Slot} {ad : Nat → Nat} {q : Nat × AL × List AV × AH}
theorem jOK_eq {off : Int} (h : jOK pc off = true) : (pc : Int) + off = (jmp pc off : Int) := by
  unfold jOK at h
  have : 0 ≤ (pc : Int) + off := by simpa using h
  unfold jmp
  omega
theorem gIf {cd : Jvm.ClassFile.Cond} {off : Int} (C : Ctx Z p s m meth c y) (hj : jOK pc off = true) (hd : decode (mcode y) pc = .ok (.ifCond cd off, 3)) (hs : sIf cd off pc L st G = some (.inl q)) (S : Sim Z D ad G L st H locs ls) (K : Nx Z D p l e R s m args below meth c Q cells slots ad G q) : W p l e R s m args below meth c H locs cells slots Q (F0 m pc ls (st.map (cvl ad))) := by
  obtain ⟨hx, hb, -⟩ := C
  unfold sIf at hs
  split at hs
  · next x st2 =>
    have hS : Sim Z D ad G L st2 H locs ls := S.sub fun w hw => S.2.2.2.1 w (List.mem_cons_of_mem _ hw)
    have ht := jOK_eq hj
    have kt : cnd cd x 0 = true → W p l e R s m args below meth c H locs cells slots Q (F0 m (jmp pc off) ls (st2.map (cvl ad))) := by
      intro hc
      rw [if_pos hc] at hs
      cases hs
      exact Nx.same K hS
    have kf : ¬ cnd cd x 0 = true → W p l e R s m args below meth c H locs cells slots Q (F0 m (pc + 3) ls (st2.map (cvl ad))) := by
      intro hc
      rw [if_neg hc] at hs
      cases hs
      exact Nx.same K hS
    cases cd with
    | eq => exact lv_if_eq hx hb hd ht (fun h => kt (cnd_eq.mpr h)) (fun h => kf (fun w => h (cnd_eq.mp w)))
    | ne => exact lv_if_ne hx hb hd ht (fun h => kt (cnd_ne.mpr h)) (fun h => kf (fun w => cnd_ne.mp w h))
    | lt => exact lv_if_lt hx hb hd ht (fun h => kt (cnd_lt.mpr h)) (fun h => kf (fun w => h (cnd_lt.mp w)))
    | ge => exact lv_if_ge hx hb hd ht (fun h => kt (cnd_ge.mpr h)) (fun h => kf (fun w => h (cnd_ge.mp w)))
    | gt => exact lv_if_gt hx hb hd ht (fun h => kt (cnd_gt.mpr h)) (fun h => kf (fun w => h (cnd_gt.mp w)))
    | le => exact lv_if_le hx hb hd ht (fun h => kt (cnd_le.mpr h)) (fun h => kf (fun w => h (cnd_le.mp w)))
  · cases hs
theorem gIcmp {cd : Jvm.ClassFile.Cond} {off : Int} (C : Ctx Z p s m meth c y) (hj : jOK pc off = true) (hd : decode (mcode y) pc = .ok (.if_icmp cd off, 3)) (hs : sIcmp cd off pc L st G = some (.inl q)) (S : Sim Z D ad G L st H locs ls) (K : Nx Z D p l e R s m args below meth c Q cells slots ad G q) : W p l e R s m args below meth c H locs cells slots Q (F0 m pc ls (st.map (cvl ad))) := by
  obtain ⟨hx, hb, -⟩ := C
  unfold sIcmp at hs
  split at hs
  · next z x st2 =>
    have hS : Sim Z D ad G L st2 H locs ls := S.sub fun w hw => S.2.2.2.1 w (List.mem_cons_of_mem _ (List.mem_cons_of_mem _ hw))
    have ht := jOK_eq hj
    have kt : cnd cd x z = true → W p l e R s m args below meth c H locs cells slots Q (F0 m (jmp pc off) ls (st2.map (cvl ad))) := by
      intro hc
      rw [if_pos hc] at hs
      cases hs
      exact Nx.same K hS
    have kf : ¬ cnd cd x z = true → W p l e R s m args below meth c H locs cells slots Q (F0 m (pc + 3) ls (st2.map (cvl ad))) := by
      intro hc
      rw [if_neg hc] at hs
      cases hs
      exact Nx.same K hS
    cases cd with
    | eq => exact lv_icmp_eq hx hb hd ht (fun h => kt (cnd_eq.mpr h)) (fun h => kf (fun w => h (cnd_eq.mp w)))
    | ne => exact lv_icmp_ne hx hb hd ht (fun h => kt (cnd_ne.mpr h)) (fun h => kf (fun w => cnd_ne.mp w h))
    | lt => exact lv_icmp_lt hx hb hd ht (fun h => kt (cnd_lt.mpr h)) (fun h => kf (fun w => h (cnd_lt.mp w)))
    | ge => exact lv_icmp_ge hx hb hd ht (fun h => kt (cnd_ge.mpr h)) (fun h => kf (fun w => h (cnd_ge.mp w)))
    | gt => exact lv_icmp_gt hx hb hd ht (fun h => kt (cnd_gt.mpr h)) (fun h => kf (fun w => h (cnd_gt.mp w)))
    | le => exact lv_icmp_le hx hb hd ht (fun h => kt (cnd_le.mpr h)) (fun h => kf (fun w => h (cnd_le.mp w)))
  · cases hs
theorem gTab {d lo hi : Int} {offs : Array Int} {len : Nat} (C : Ctx Z p s m meth c y) (hj : lenOK (.tableswitch d lo hi offs) len pc = true) (hd : decode (mcode y) pc = .ok (.tableswitch d lo hi offs, len)) (hs : sTab d lo hi offs pc L st G = some (.inl q)) (S : Sim Z D ad G L st H locs ls) (K : Nx Z D p l e R s m args below meth c Q cells slots ad G q) : W p l e R s m args below meth c H locs cells slots Q (F0 m pc ls (st.map (cvl ad))) := by
  obtain ⟨hx, hb, -⟩ := C
  have hj : jOK pc d = true ∧ offs.all (jOK pc) = true := by
    have : (jOK pc d && offs.all (jOK pc)) = true := hj
    simpa using this
  unfold sTab at hs
  split at hs
  · next x st2 =>
    have hS : Sim Z D ad G L st2 H locs ls := S.sub fun w hw => S.2.2.2.1 w (List.mem_cons_of_mem _ hw)
    split at hs
    · next ho =>
      cases hs
      exact lv_tableOut hx hb hd ho (jOK_eq hj.1) (Nx.same K hS)
    · next ho =>
      split at hs
      · next o he =>
        cases hs
        have hjo : jOK pc o = true := by
          have h1 := Array.all_eq_true.mp hj.2
          obtain ⟨h2, h3⟩ := Array.getElem?_eq_some_iff.mp he
          have := h1 _ h2
          rw [h3] at this
          exact this
        exact lv_tableIn hx hb hd (fun h => ho (Or.inl h)) (fun h => ho (Or.inr h)) he (jOK_eq hjo) (Nx.same K hS)
      · cases hs
  · cases hs
theorem gIinc {n : Int} (C : Ctx Z p s m meth c y) (hd : decode (mcode y) pc = .ok (.iinc k n, 3)) (hs : (match inc L k (Int32.ofInt n) with | some L => sGo (pc + 3) L st G | none => none) = some (.inl q)) (S : Sim Z D ad G L st H locs ls) (K : Nx Z D p l e R s m args below meth c Q cells slots ad G q) : W p l e R s m args below meth c H locs cells slots Q (F0 m pc ls (st.map (cvl ad))) := by
  obtain ⟨hx, hb, -⟩ := C
  split at hs
  · next L2 hL =>
    cases hs
    obtain ⟨x, h1, h2, h3, h4⟩ := inc_spec _ _ _ _ hL
    have hlt : k < L.length := (List.getElem?_eq_some_iff.mp h1).1
    have hmem : (k, Value.int x) ∈ prs ad L := mem_prs.mpr ⟨vi x, h1, rfl⟩
    obtain ⟨j, hj⟩ := List.getElem?_of_mem hmem
    refine lv_iinc (v := x + Int32.ofInt n) hx hb hd S.2.1.has hj rfl hlt rfl fun ls' hl => ?_
    refine Nx.same K (S.locals ⟨by rw [hl.1, h2], hl.2.1, fun i v hv => ?_⟩ (fun i v hv => ?_) (fun w hw => hw))
    · by_cases hik : i = k
      · subst hik
        rw [h3] at hv
        cases hv
        exact hl.2.2 (i, .int (x + Int32.ofInt n)) List.mem_cons_self
      · rw [h4 i hik] at hv
        refine hl.2.2 (i, cvl ad v) (List.mem_cons_of_mem _ (List.mem_filter.mpr ⟨mem_prs.mpr ⟨v, hv, rfl⟩, ?_⟩))
        rw [cat_of]
        by_cases h5 : i + 1 = k
        · have h6 : isL v = false := by
            cases e : isL v with
            | false => rfl
            | true =>
              exfalso
              have a1 := S.2.1.2.2 i v hv
              have a2 := S.2.1.2.1.1 i (cvl ad v) a1 (by rw [cat_of, if_pos e])
              have a3 := S.2.1.2.2 k (vi x) h1
              rw [h5, a3] at a2
              cases a2
          simp [hik, h6]
        · simp [hik, h5]
    · by_cases hik : i = k
      · subst hik
        rw [h3] at hv
        cases hv
        exact Scp.i
      · rw [h4 i hik] at hv
        exact S.2.2.1 i v hv
  · cases hs
end
