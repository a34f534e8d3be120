/-! soundness 8: new cells -/
def adx (ad : Nat → Nat) (n v : Nat) : Nat → Nat := fun b => if b = n then v else ad b
theorem adx_lt {ad : Nat → Nat} {n v b : Nat} (h : b < n) : adx ad n v b = ad b := by unfold adx; rw [if_neg (by omega)]
theorem adx_eq {ad : Nat → Nat} {n v : Nat} : adx ad n v n = v := by unfold adx; rw [if_pos rfl]
theorem cvr_ext {G : AH} {ad ad' : Nat → Nat} {o : Option Nat} (h : ∀ r, r < hN G → ad' r = ad r) (hs : ∀ r, o = some r → r < hN G) : cvr ad' o = cvr ad o := by
  cases o with
  | none => rfl
  | some r => show Value.ref (ad' r) = Value.ref (ad r); rw [h r (hs r rfl)]
theorem cvl_ext {G : AH} {ad ad' : Nat → Nat} {v : AV} (h : ∀ r, r < hN G → ad' r = ad r) (hs : Scp G v) : cvl ad' v = cvl ad v := by
  rcases v with x | x | o
  · rfl
  · rfl
  · exact cvr_ext h (fun r e => hs r (by rw [e]; rfl))
theorem map_ext {G : AH} {ad ad' : Nat → Nat} {st : List AV} (h : ∀ r, r < hN G → ad' r = ad r) (hs : ∀ v ∈ st, Scp G v) : st.map (cvl ad') = st.map (cvl ad) := List.map_congr_left fun v hv => cvl_ext h (hs v hv)
theorem LR.ext {G : AH} {ad ad' : Nat → Nat} {L : AL} {ls : Array Slot} (h : ∀ r, r < hN G → ad' r = ad r) (hs : ∀ (i : Nat) (v : AV), L[i]? = some (some v) → Scp G v) (hl : LR ad L ls) : LR ad' L ls := ⟨hl.1, hl.2.1, fun i v hv => by rw [cvl_ext h (hs i v hv)]; exact hl.2.2 i v hv⟩
section
variable {Z : SS0} {D : DD} {ad ad' : Nat → Nat} {G G' : AH} {H H' : Heap} {a : Nat}
theorem CellA.ext {b : Nat} (h : CellA D ad G H b) (hb : b < hN G) (hs : ∀ i r, hR G b i = some r → r < hN G) (had : ∀ r, r < hN G → ad' r = ad r) (ht : hT G' b = hT G b) (hl : hL G' b = hL G b) (hi : ∀ i, hI G' b i = hI G b i) (hj : ∀ i, hJ G' b i = hJ G b i) (hr : ∀ i, hR G' b i = hR G b i) (hq : H'[ad b]? = H[ad b]?) : CellA D ad' G' H' b := by
  obtain ⟨h1, h2, h3, h4⟩ := h
  have ef : ∀ f, fval ad' G' b f = fval ad G b f := by
    intro f
    unfold fval
    rw [hi, hj, hr, cvr_ext had (fun r e => hs f r e)]
  have ea : ∀ t i, aval ad' G' b t i = aval ad G b t i := by
    intro t i
    unfold aval
    rw [hi, hj, hr, cvr_ext had (fun r e => hs i r e)]
  refine ⟨fun q => ?_, fun q => ?_, fun q => ?_, by rw [ht]; exact h4⟩
  · rw [ht] at q ⊢
    rw [had b hb]
    exact ((h1 q).kept hq).to (fun k _ => (ef _).symm)
  · rw [ht] at q ⊢
    refine ⟨?_, by rw [hl]; exact (h2 q).2⟩
    rw [had b hb, hq, hl, (h2 q).1]
    congr 2
    funext i
    exact (ea _ i).symm
  · rw [ht] at q ⊢
    rw [had b hb, hq]
    exact h3 q
/-- a cell is made -/
theorem Conc.born (hB : Base Z D) (hc : Conc Z D ad G H) (hsz : H.size + 1 ≤ H'.size) (hold : ∀ q, q < H.size → H'[q]? = H[q]?) {w : Nat} (hw : H.size ≤ w) (hw2 : w < H'.size) (eN : hN G' = hN G + 1) (eT : ∀ b, b < hN G → hT G' b = hT G b) (eL : ∀ b, b < hN G → hL G' b = hL G b) (eI : ∀ b i, b < hN G → hI G' b i = hI G b i) (eJ : ∀ b i, b < hN G → hJ G' b i = hJ G b i) (eR : ∀ b i, b < hN G → hR G' b i = hR G b i) (eS : ∀ b i r, hR G' b i = some r → r < hN G + 1)
    (hcell : CellA D (adx ad (hN G) w) G' H' (hN G)) : Conc Z D (adx ad (hN G) w) G' H' := by
  obtain ⟨c1, c2, c3, c4, c5, ⟨o1, o2, o3, o4, o5, o6⟩, ⟨d0, d1, d2⟩, c8, c9⟩ := hc
  obtain ⟨-, -, -, -, -, -, b0, b1, b2, -⟩ := hB
  have hlow : ∀ b, b < hN G → b ≠ 2 → ad b < H.size := by
    intro b hb h2
    rcases Nat.lt_or_ge b 3 with q | q
    · rcases (show b = 0 ∨ b = 1 ∨ b = 2 by omega) with e | e | e
      · rw [e, d0]; omega
      · rw [e, d1]; omega
      · exact absurd e h2
    · exact (c3 b q hb).2
  refine ⟨fun b hb hbN => ?_, fun x y hx hy hx2 hy2 hxy => ?_, fun b hb hbN => ?_, fun b i r hr => by rw [eN]; exact eS b i r hr, by omega, ⟨by rw [eT 0 (by omega)]; exact o1, by rw [eL 0 (by omega)]; exact o2, fun i hi => by rw [eI 0 i (by omega)]; exact o3 i hi, by rw [eT 1 (by omega)]; exact o4, by rw [eL 1 (by omega)]; exact o5, by rw [eT 2 (by omega)]; exact o6⟩, ⟨by rw [adx_lt (by omega)]; exact d0, by rw [adx_lt (by omega)]; exact d1, by rw [adx_lt (by omega)]; exact d2⟩, by omega, fun q hq => by rw [hold q (by omega)]; exact c9 q hq⟩
  · by_cases e : b = hN G
    · subst e; exact hcell
    · have hb' : b < hN G := by omega
      exact (c1 b hb hb').ext hb' (fun i r hr => c4 b i r hr) (fun r hr => adx_lt hr) (eT b hb') (eL b hb') (fun i => eI b i hb') (fun i => eJ b i hb') (fun i => eR b i hb') (hold _ (hlow b hb' (by omega)))
  · by_cases ex : x = hN G
    · by_cases ey : y = hN G
      · omega
      · rw [ex, adx_eq, adx_lt (by omega)] at hxy
        have := hlow y (by omega) hy2
        omega
    · by_cases ey : y = hN G
      · rw [ey, adx_eq, adx_lt (by omega)] at hxy
        have := hlow x (by omega) hx2
        omega
      · rw [adx_lt (by omega), adx_lt (by omega)] at hxy
        exact c2 x y (by omega) (by omega) hx2 hy2 hxy
  · by_cases e : b = hN G
    · rw [e, adx_eq]; omega
    · rw [adx_lt (by omega)]
      have := c3 b hb (by omega)
      omega
theorem Sim.born {L : AL} {st st' : List AV} {locs : List Loc} {ls : Array Slot} {w : Nat} (S : Sim Z D ad G L st H locs ls) (hc : Conc Z D (adx ad (hN G) w) G' H') (eN : hN G' = hN G + 1) (hs : ∀ v ∈ st', v ∈ st ∨ v = vr (some (hN G))) : Sim Z D (adx ad (hN G) w) G' L st' H' locs ls := by
  refine ⟨hc, S.2.1.ext (fun r hr => adx_lt hr) S.2.2.1, fun i v hv => (S.2.2.1 i v hv).mono (by omega), fun v hv => ?_, S.2.2.2.2⟩
  rcases hs v hv with h | h
  · exact (S.2.2.2.1 v h).mono (by omega)
  · rw [h]
    intro r hr
    have : some (hN G) = some r := congrArg (fun v : AV => match v with | .inr (.inr o) => o | _ => none) hr
    cases this
    omega
end
theorem mkx_T {G : AH} {t n cc k b : Nat} (h : b < hN G) : hT (mkx G t n cc k) b = hT G b := by rw [hT_mkx, if_neg (by omega)]
theorem mkx_L {G : AH} {t n cc k b : Nat} (h : b < hN G) : hL (mkx G t n cc k) b = hL G b := by rw [hL_mkx, if_neg (by omega)]
theorem mkx_I {G : AH} {t n cc k b i : Nat} (h : b < hN G) : hI (mkx G t n cc k) b i = hI G b i := by rw [hI_mkx, if_neg (by omega)]
theorem mkx_J {G : AH} {t n cc k b i : Nat} (h : b < hN G) : hJ (mkx G t n cc k) b i = hJ G b i := by rw [hJ_mkx, if_neg (by omega)]
theorem mkx_R {G : AH} {t n cc k b i : Nat} (h : b < hN G) : hR (mkx G t n cc k) b i = hR G b i := by rw [hR_mkx, if_neg (by omega)]
theorem mkx_S {Z : SS0} {D : DD} {ad : Nat → Nat} {H : Heap} {G : AH} {t n cc k : Nat} (hc : Conc Z D ad G H) : ∀ b i r, hR (mkx G t n cc k) b i = some r → r < hN G + 1 := by
  intro b i r hr
  rw [hR_mkx] at hr
  split at hr
  · cases hr
  · have := hc.2.2.2.1 b i r hr
    omega
/-- a new array's cell -/
theorem CellA.arr {D : DD} {ad : Nat → Nat} {G : AH} {H' : Heap} {t n cc k w : Nat} (ht : t ∈ arrTg) (hn : n ≤ 65536) (h : H'[w]? = some (arrV (D.2.2 t) n (fun _ => defaultValue (aty t)))) : CellA D (adx ad (hN G) w) (mkx G t n cc k) H' (hN G) := by
  have e : hT (mkx G t n cc k) (hN G) = t := by rw [hT_mkx, if_pos rfl]
  unfold CellA
  rw [e]
  refine ⟨fun q => absurd q ((show ∀ t ∈ arrTg, ¬ t ∈ objT by decide) _ ht), fun _ => ⟨?_, by rw [hL_mkx, if_pos rfl]; exact hn⟩, fun q => absurd q ((show ∀ t ∈ arrTg, ¬ t ∈ excT by decide) _ ht), Or.inr (Or.inl ht)⟩
  rw [adx_eq, h, hL_mkx, if_pos rfl]
  congr 2
  funext i
  unfold aval
  rw [hJ_mkx, hI_mkx, hR_mkx, if_pos rfl, if_pos rfl, if_pos rfl]
  unfold arrTg at ht
  simp only [List.mem_cons, List.not_mem_nil, or_false] at ht
  rcases ht with rfl | rfl | rfl | rfl | rfl | rfl | rfl | rfl | rfl | rfl <;> rfl
theorem at_of {t : ArrayType} (h : ¬ atag t = 0) : atag t ∈ arrTg ∧ newarray.typeOf t = aty (atag t) ∧ componentBytes (newarray.typeOf t) ≤ 8 := by
  cases t <;> first | (exfalso; exact h rfl) | exact ⟨by decide, rfl, by decide⟩
theorem arrW : ∀ t ∈ [40, 41, 42, 43, 44], Cond.arrayClass (aty t) ∈ lw_all := by
  intro t ht
  simp only [List.mem_cons, List.not_mem_nil, or_false] at ht
  rcases ht with rfl | rfl | rfl | rfl | rfl
  · exact q222
  · exact q197
  · exact q630
  · exact q1801
  · exact q221
section
variable {Z : SS0} {D : DD} {p : Program} {l : Launch} {e : Env} {R : Room} {s : State} {m : MethodId} {args : Array Value} {below : List Frame} {meth : Method} {c : Code} {Q : State → Prop} {y pc k f : Nat} {L : AL} {st : List AV} {G : AH} {H : Heap} {locs : List Loc} {cells slots : Nat} {ls : Array Slot} {ad : Nat → Nat} {q : Nat × AL × List AV × AH}
/-- there is room for what the step makes -/
def Rm (R : Room) (cells slots : Nat) (G G' : AH) : Prop := cells + hC G' ≤ R.cells + hC G ∧ slots + hS G' ≤ R.slots + hS G
theorem gNewA {ty : ArrayType} (hB : Base Z D) (C : Ctx Z p s m meth c y) (hd : decode (mcode y) pc = .ok (.newarray ty, 2)) (hs : sNewA ty y pc L st G = some (.inl q)) (S : Sim Z D ad G L st H locs ls) (hR : Rm R cells slots G q.2.2.2) (K : Nx Z D p l e R s m args below meth c Q cells slots ad G q) : W p l e R s m args below meth c H locs cells slots Q (F0 m pc ls (st.map (cvl ad))) := by
  obtain ⟨hx, hb, hml, hW, hown, -, -, -⟩ := C
  unfold sNewA at hs
  split at hs
  · next n st2 =>
    split at hs
    · cases hs
    · next h0 =>
      obtain ⟨t1, t2, t3⟩ := at_of h0
      split at hs
      · unfold sX at hs
        split at hs <;> cases hs
      · next hneg =>
        split at hs
        · next hbig =>
          cases hs
          have hn : ix n ≤ 65536 := by
            have h1 : n.toInt ≤ 65536 := by
              have := Int32.le_iff_toInt_le.mp hbig
              exact this
            unfold ix
            rw [Int32.toNatClampNeg]
            omega
          unfold Rm at hR
          simp only [hC_mkx, hS_mkx] at hR
          have h5 : atag ty ∈ [40, 41, 42, 43, 44] := by cases ty <;> first | (exfalso; exact h0 rfl) | decide
          refine va_newaK (N := ix n) hx hb (by rw [t2]; exact hB.word hW (arrW _ h5)) rfl hd rfl hneg rfl (by have := Nat.mul_le_mul hn t3; omega) (by omega) (by omega) rfl fun H' cA g1 g2 g3 g4 g5 => ?_
          have ecA : cA = D.2.2 (atag ty) := by
            have := (hB.arr hW t1).2
            rw [t2] at g5
            have h6 : s.vm.findClass ("[" ++ (aty (atag ty)).toString) = some (D.2.2 (atag ty)) := by
              revert this
              generalize atag ty = tt at h5 ⊢
              simp only [List.mem_cons, List.not_mem_nil, or_false] at h5
              rcases h5 with rfl | rfl | rfl | rfl | rfl <;> exact fun h => h
            exact Option.some.inj (g5.symm.trans h6)
          rw [ecA, t2] at g1
          have hc' : Conc Z D (adx ad (hN G) H.size) (mkx G (atag ty) (ix n) 1 (ix n)) H' := S.1.born hB (by omega) g3 (Nat.le_refl _) (by omega) rfl (fun b hb => mkx_T hb) (fun b hb => mkx_L hb) (fun b i hb => mkx_I hb) (fun b i hb => mkx_J hb) (fun b i hb => mkx_R hb) (mkx_S S.1) (CellA.arr t1 hn g1)
          have := K H' locs ls (adx ad (hN G) H.size) (cells + 1) (slots + ix n) (S.born hc' rfl (fun v hv => by
            rcases List.mem_cons.mp hv with h | h
            · exact Or.inr h
            · exact Or.inl (List.mem_cons_of_mem _ h))) (fun r hr => adx_lt hr) (by simp only [hC_mkx]; omega) (by simp only [hS_mkx]; omega)
          have em : (vr (some (hN G)) :: st2).map (cvl (adx ad (hN G) H.size)) = .ref H.size :: st2.map (cvl ad) := by
            rw [List.map_cons, map_ext (G := G) (fun r hr => adx_lt hr) (fun v hv => S.2.2.2.1 v (List.mem_cons_of_mem _ hv)), cvl_r]
            show Value.ref (adx ad (hN G) H.size (hN G)) :: _ = _
            rw [adx_eq]
          rw [em] at this
          exact this
        · cases hs
  · cases hs
end
