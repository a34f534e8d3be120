/-! soundness 9: lengths, new objects and reference arrays -/
theorem arrV_rep (cA : ClassId) (n : Nat) (v : Value) : ({ cls := cA, slots := Array.replicate n v, vm := .none } : Cell) = arrV cA n (fun _ => v) := by
  unfold arrV
  congr 1
  apply Array.ext
  · simp
  · intro i h1 h2
    simp
theorem over_all : ∀ t ∈ newR, va_AO (clN t) = va_AO (clN t) ∧ Cond.arrayOver (.object (clN t)) ∈ lw_tbl := by
  intro t ht
  unfold newR at ht
  simp only [List.mem_cons, List.not_mem_nil, or_false] at ht
  rcases ht with rfl | rfl | rfl
  · exact ⟨rfl, q211⟩
  · exact ⟨rfl, q206⟩
  · exact ⟨rfl, q857⟩
section
variable {Z : SS0} {D : DD} {p : Program} {l : Launch} {e : Env} {R : Room} {s : State} {m : MethodId} {args : Array Value} {below : List Frame} {meth : Method} {c : Code} {Q : State → Prop} {y pc k f : Nat} {L : AL} {st : List AV} {G : AH} {H : Heap} {locs : List Loc} {cells slots : Nat} {ls : Array Slot} {ad : Nat → Nat} {q : Nat × AL × List AV × AH}
theorem gLen (hB : Base Z D) (C : Ctx Z p s m meth c y) (hd : decode (mcode y) pc = .ok (.arraylength, 1)) (hs : sLen y pc L st G = some (.inl q)) (S : Sim Z D ad G L st H locs ls) (K : Nx Z D p l e R s m args below meth c Q cells slots ad G q) : W p l e R s m args below meth c H locs cells slots Q (F0 m pc ls (st.map (cvl ad))) := by
  obtain ⟨hx, hb, hml, hW, hown, -, -, -⟩ := C
  unfold sLen at hs
  split at hs
  · next a st2 =>
    have ha : a < hN G := S.2.2.2.1 _ List.mem_cons_self a rfl
    split at hs
    · next ht =>
      cases hs
      have hK := Nx.same K (S.sub fun w hw => by
        rcases List.mem_cons.mp hw with q | q
        · rw [q]; exact Scp.i
        · exact S.2.2.2.1 w (List.mem_cons_of_mem _ q))
      have hcell : ∃ (cell : Cell) (ty : FieldType), H[ad a]? = some cell ∧ s.isArrayOf cell ty ∧ cell.slots.size.toInt32 = nI (hL G a) := by
        rcases Nat.lt_or_ge a 3 with q | q
        · obtain ⟨-, -, -, -, -, ⟨o1, o2, o3, o4, o5, o6⟩, ⟨d0, d1, d2⟩, c8, c9⟩ := S.1
          obtain ⟨-, -, -, -, -, ⟨⟨scr, x1, x2, x3, x4, x5⟩, -⟩, x6, x7, x8, ⟨cellE, y1, y2, y3, y4, y5, y6⟩, -⟩ := hB
          rcases (show a = 0 ∨ a = 1 ∨ a = 2 by omega) with e | e | e
          · subst e
            exact ⟨scr, .int, by rw [d0, c9 _ x6]; exact x1, State.isArrayOf_alike hW.alike x2, by rw [o2, x4]; rfl⟩
          · subst e
            exact ⟨cellE, _, by rw [d1, c9 _ x7]; exact y1, State.isArrayOf_alike hW.alike y6, by rw [o5]; exact y5⟩
          · subst e
            rw [o6] at ht
            exact absurd ht.2 (by decide)
        · have h4 := (S.1.1 a q ha).2.2.2
          have hm : hT G a ∈ arrTg := by
            rcases h4 with h | h | h
            · exact absurd ht.1 (Nat.not_le.mpr ((show ∀ t ∈ objT, t < 40 by decide) _ h))
            · exact h
            · exact absurd ht.1 (Nat.not_le.mpr ((show ∀ t ∈ excT, t < 40 by decide) _ h))
          exact ⟨_, _, S.1.arrAt ha hm, (hB.arr hW hm).1 _ _, by rw [arrV_size]; rfl⟩
      obtain ⟨cell, ty, g1, g2, g3⟩ := hcell
      exact W.alen (n := nI (hL G a)) hx hb g1 g2 g3 rfl rfl hd hK
    · cases hs
  · unfold sX at hs
    split at hs <;> cases hs
  · cases hs
theorem gNewR {t : Nat} (hB : Base Z D) (C : Ctx Z p s m meth c y) (hd : decode (mcode y) pc = .ok (.anewarray k, 3)) (hcl : clsR (kf (mcls y) k) = some t) (hk : newR.contains t = true) (hs : sNewR (if t = 13 then 53 else if t = 1 then 54 else 50) pc L st G = some (.inl q)) (S : Sim Z D ad G L st H locs ls) (hR : Rm R cells slots G q.2.2.2) (K : Nx Z D p l e R s m args below meth c Q cells slots ad G q) : W p l e R s m args below meth c H locs cells slots Q (F0 m pc ls (st.map (cvl ad))) := by
  obtain ⟨hx, hb, hml, hW, hown, -, -, -⟩ := C
  have hk : t ∈ newR := by simpa using hk
  unfold sNewR at hs
  split at hs
  · next n st2 =>
    split at hs
    · next hbig =>
      have hn : ix n ≤ 65536 := by
        have h1 : n.toInt ≤ 65536 := Int32.le_iff_toInt_le.mp hbig.2
        unfold ix
        rw [Int32.toNatClampNeg]
        omega
      have hneg : ¬ n < 0 := i32_nlt.mpr hbig.1
      have hov : (Cond.arrayOver (.object (clN t))).before args s = true := va_AO.use (va_AO.moved hW.alike (va_AO.of (hB.1 _ (over_all t hk).2)))
      have htt : ∃ t2, (if t = 13 then 53 else if t = 1 then 54 else 50) = t2 ∧ t2 ∈ arrTg ∧ aty t2 = .object (clN t) := by
        unfold newR at hk
        simp only [List.mem_cons, List.not_mem_nil, or_false] at hk
        rcases hk with rfl | rfl | rfl
        · exact ⟨54, rfl, by decide, rfl⟩
        · exact ⟨53, rfl, by decide, rfl⟩
        · exact ⟨50, rfl, by decide, rfl⟩
      obtain ⟨t2, e2, t1, t3⟩ := htt
      rw [e2] at hs
      cases hs
      unfold Rm at hR
      simp only [hC_mkx, hS_mkx] at hR
      have hn2 : n.toNatClampNeg = ix n := rfl
      refine W.anew hx hb hown (hB.word hW (cl_all hcl)) hov rfl hd rfl hneg (by rw [hn2]; omega) (by omega) (by rw [hn2]; omega) fun cA kA comp g1 g2 g3 g4 => ?_
      have ecA : cA = D.2.2 t2 := by
        have := (hB.arr hW t1).2
        rw [t3] at this
        obtain ⟨_, _, _, _, _, h4⟩ := this
        exact Option.some.inj (g1.symm.trans h4)
      rw [ecA, arrV_rep]
      have gH : (H.push (arrV (D.2.2 t2) n.toNatClampNeg (fun _ => .null)))[H.size]? = some (arrV (D.2.2 t2) (ix n) (fun _ => defaultValue (aty t2))) := by
        rw [t3]
        simp [ix, defaultValue]
      have gO : ∀ q, q < H.size → (H.push (arrV (D.2.2 t2) n.toNatClampNeg (fun _ => .null)))[q]? = H[q]? := by
        intro q hq
        rw [Array.getElem?_push]
        rw [if_neg (by omega)]
      generalize hH' : H.push (arrV (D.2.2 t2) n.toNatClampNeg (fun _ => .null)) = H' at gH gO ⊢
      have gS : H'.size = H.size + 1 := by rw [← hH']; simp
      have hc' : Conc Z D (adx ad (hN G) H.size) (mkx G t2 (ix n) 1 (ix n)) H' := S.1.born hB (by omega) gO (Nat.le_refl _) (by omega) rfl (fun b hb => mkx_T hb) (fun b hb => mkx_L hb) (fun b i hb => mkx_I hb) (fun b i hb => mkx_J hb) (fun b i hb => mkx_R hb) (mkx_S S.1) (CellA.arr t1 (by omega) gH)
      have := K H' locs ls (adx ad (hN G) H.size) (cells + 1) (slots + ix n) (S.born hc' rfl (fun v hv => by
        rcases List.mem_cons.mp hv with h | h
        · exact Or.inr h
        · exact Or.inl (List.mem_cons_of_mem _ h))) (fun r hr => adx_lt hr) (by simp only [hC_mkx]; omega) (by simp only [hS_mkx]; omega)
      have em : (vr (some (hN G)) :: st2).map (cvl (adx ad (hN G) H.size)) = .ref H.size :: st2.map (cvl ad) := by
        rw [List.map_cons, map_ext (G := G) (fun r hr => adx_lt hr) (fun v hv => S.2.2.2.1 v (List.mem_cons_of_mem _ hv)), cvl_r]
        show Value.ref (adx ad (hN G) H.size (hN G)) :: _ = _
        rw [adx_eq]
      rw [em] at this
      exact this
    · cases hs
  · cases hs
theorem gNew {t : Nat} (hB : Base Z D) (C : Ctx Z p s m meth c y) (hd : decode (mcode y) pc = .ok (.new k, 3)) (hcl : clsR (kf (mcls y) k) = some t) (hk : newC.contains t = true) (hs : sGo (pc + 3) L (vr (some (hN G)) :: st) (mkx G t 0 1 (nsl t)) = some (.inl q)) (S : Sim Z D ad G L st H locs ls) (hR : Rm R cells slots G q.2.2.2) (K : Nx Z D p l e R s m args below meth c Q cells slots ad G q) : W p l e R s m args below meth c H locs cells slots Q (F0 m pc ls (st.map (cvl ad))) := by
  obtain ⟨hx, hb, hml, hW, hown, -, -, -⟩ := C
  have hk : t ∈ newC := by simpa using hk
  have hts : ∀ w ∈ lw_all, w.before args s = true := fun w hw => hB.word hW hw
  cases hs
  unfold Rm at hR
  simp only [hC_mkx, hS_mkx] at hR
  have hname : clN t = cnm t := by
    revert hk
    unfold newC
    simp only [List.mem_cons, List.not_mem_nil, or_false]
    rintro (rfl | rfl | rfl | rfl | rfl | rfl | rfl | rfl | rfl | rfl | rfl | rfl | rfl | rfl | rfl) <;> rfl
  have hfc : s.vm.findClass (cnm t) = some (D.1 t) := by
    rcases (show ∀ t ∈ newC, t ∈ objT ∨ t ∈ excT by decide) t hk with h | h
    · exact (hB.obj hW h).2.1
    · exact (classAt_moved hW.alike (hB.2.2.2.2.1 t h).1).1
  have hlink := cl_all hcl
  rw [hname] at hlink
  refine W.newcK hx hb hown (hts _ hlink) (hts _ (in_tab t hk).1) (hts _ (in_tab t hk).2) rfl hd (by omega) (by omega) hfc rfl fun H' kC g1 g2 g3 g4 => ?_
  have eT : hT (mkx G t 0 1 (nsl t)) (hN G) = t := by rw [hT_mkx, if_pos rfl]
  have hcell : CellA D (adx ad (hN G) H.size) (mkx G t 0 1 (nsl t)) H' (hN G) := by
    unfold CellA
    rw [eT]
    refine ⟨fun q => ?_, fun q => absurd q ((show ∀ t ∈ newC, ¬ t ∈ arrTg by decide) t hk), fun q => ?_, ?_⟩
    · rw [adx_eq]
      refine (u_born (cty t) hts (lays_all t q) (hB.obj hW q) g1 g2 (ty_all t q)).to fun j hj => ?_
      unfold fval
      rw [hJ_mkx, hI_mkx, hR_mkx, if_pos rfl, if_pos rfl, if_pos rfl]
      obtain ⟨f0, f1, f3, f2⟩ := fd_ty t q j hj
      have hsort := (show ∀ t ∈ objT, ∀ j, j < nf t → fsort (fdOf t j) = 0 ∨ fsort (fdOf t j) = 1 ∨ fsort (fdOf t j) = 2 ∨ fsort (fdOf t j) = 3 by decide +kernel) t q j hj
      rcases hsort with h | h | h | h
      · rw [f0 h, h]; rfl
      · rw [f1 h, h]; rfl
      · rw [h]
        have := f2 h
        show defaultValue (cty t j) = cvr _ none
        revert this
        cases cty t j <;> intro h9 <;> first | rfl | (simp [FieldType.isReference] at h9)
      · rw [f3 h, h]; rfl
    · rw [adx_eq]
      refine ⟨_, g2, rfl, rfl, fun h9 => ⟨rfl, rfl, ?_⟩⟩
      have hlay : Cond.lays (cnm t) "java/lang/Throwable" "backtrace" "Ljava/lang/Object;" ∈ lw_all ∧ Cond.instantiable (cnm t) 6 ∈ lw_all := by
        rcases h9 with rfl | rfl
        · exact ⟨q1285, q1278⟩
        · exact ⟨q668, q661⟩
      obtain ⟨cf, kf, fi, fd, hff, hsl⟩ := slotIs_moved hW.alike (hB.2.2.2.2.1 t q).2
      obtain ⟨tyB, -⟩ := Cond.laysAt hfc g1 hff (hts _ hlay.1)
      obtain ⟨c1, k1, hc1, hk1, -, -, -, hn⟩ := Cond.instantiable_spec (hts _ hlay.2)
      cases hfc.symm.trans hc1
      cases g1.symm.trans hk1
      have hty := (State.fieldFound?_type hff (t := .object "java/lang/Object") (by decide +kernel)).2
      have h5 := fresh_default (c := D.1 t) tyB
      rw [hty, hsl] at h5
      refine ⟨?_, h5⟩
      show (Array.map defaultValue _).size = 6
      rw [Array.size_map, hn]
    · rcases (show ∀ t ∈ newC, t ∈ objT ∨ t ∈ excT by decide) t hk with h | h
      · exact Or.inl h
      · exact Or.inr (Or.inr h)
  have hc' : Conc Z D (adx ad (hN G) H.size) (mkx G t 0 1 (nsl t)) H' := S.1.born hB (by omega) g4 (Nat.le_refl _) (by omega) rfl (fun b hb => mkx_T hb) (fun b hb => mkx_L hb) (fun b i hb => mkx_I hb) (fun b i hb => mkx_J hb) (fun b i hb => mkx_R hb) (mkx_S S.1) hcell
  have := K H' locs ls (adx ad (hN G) H.size) (cells + 1) (slots + nsl t) (S.born hc' rfl (fun v hv => by
    rcases List.mem_cons.mp hv with h | h
    · exact Or.inr h
    · exact Or.inl h)) (fun r hr => adx_lt hr) (by simp only [hC_mkx]; omega) (by simp only [hS_mkx]; omega)
  have em : (vr (some (hN G)) :: st).map (cvl (adx ad (hN G) H.size)) = .ref H.size :: st.map (cvl ad) := by
    rw [List.map_cons, map_ext (G := G) (fun r hr => adx_lt hr) S.2.2.2.1, cvl_r]
    show Value.ref (adx ad (hN G) H.size (hN G)) :: _ = _
    rw [adx_eq]
  rw [em] at this
  exact this
end
