/-! soundness 39: an array of arrays -/
/-- the first i rows are made -/
def gro (o t k : Nat) (G : AH) : Nat → AH
  | 0 => G
  | i + 1 => sR (mkx (gro o t k G i) t k 1 k) o i (some (hN (gro o t k G i)))
theorem gro_rows (o t k : Nat) (G : AH) : ∀ n i, mkRows o t k n i (gro o t k G i) = gro o t k G (i + n)
  | 0, _ => rfl
  | n + 1, i => by
    show mkRows o t k n (i + 1) (gro o t k G (i + 1)) = _
    rw [gro_rows o t k G n (i + 1), Nat.add_assoc, Nat.add_comm 1 n]
theorem gro_N {o t k : Nat} {G : AH} : ∀ i, hN (gro o t k G i) = hN G + i
  | 0 => rfl
  | i + 1 => by
    show hN (gro o t k G i) + 1 = _
    rw [gro_N i]
    omega
theorem gro_C {o t k : Nat} {G : AH} : ∀ i, hC (gro o t k G i) = hC G + i
  | 0 => rfl
  | i + 1 => by
    show hC (gro o t k G i) + 1 = _
    rw [gro_C i]
    omega
theorem gro_S {o t k : Nat} {G : AH} : ∀ i, hS (gro o t k G i) = hS G + i * k
  | 0 => by rw [Nat.zero_mul]; rfl
  | i + 1 => by
    show hS (gro o t k G i) + k = _
    rw [gro_S i, Nat.succ_mul]
    omega
theorem gro_T {o t k b : Nat} {G : AH} (hb : b < hN G) : ∀ i, hT (gro o t k G i) b = hT G b ∧ hL (gro o t k G i) b = hL G b
  | 0 => ⟨rfl, rfl⟩
  | i + 1 => by
    have h := gro_T (o := o) (t := t) (k := k) hb i
    have hN := gro_N (o := o) (t := t) (k := k) (G := G) i
    show hT (mkx (gro o t k G i) t k 1 k) b = _ ∧ hL (mkx (gro o t k G i) t k 1 k) b = _
    rw [hT_mkx, hL_mkx, if_neg (by omega), if_neg (by omega)]
    exact h
section
variable {E : CtlPost} {e : Env} {d : Bool} {acts : List Action} {s : State}
theorem wp_nA {c comp : ClassId} {k : Class} {ty : FieldType} {n : Nat} {v : Value} (hk : s.vm.classes[c]? = some k) (hki : k.kind = .array comp ty) (h1 : ¬ n > e.platform.arrayLengthLimit) (h2 : ¬ n * componentBytes ty > e.platform.maxHeapBytes) (hf : fits ty v = true) (hd : v.isDefault = true) {Q : Addr → Pre} (h3 : s.heap.size < e.platform.maxCells) (h4 : s.slotsUsed + n ≤ e.platform.maxSlots)
    (hq : Q s.heap.size d acts (s.pushCell (arrV c n (fun _ => v)))) : wp (Jvm.newArray c n v) Q E e d acts s := by
  rw [← arrV_rep] at hq
  have hfit : ∀ i w, (Array.replicate n v)[i]? = some w → s.fitsSlot c .none i w = true := by
    intro i w hw
    rw [Array.getElem?_replicate] at hw
    split at hw
    · cases hw
      simp [State.fitsSlot, State.slotType?, hk, hki, hf]
    · cases hw
  have hal : allocActs (Array.replicate n v) s.heap.size acts = acts := by
    have : ((Array.replicate n v).all (·.isDefault)) = true := by
      rw [Array.all_replicate]
      split
      · rfl
      · exact hd
    unfold allocActs
    rw [if_pos this]
  simp only [Jvm.newArray, Jvm.arrayFits, wp_bind', W.ask, W.ite, h1, if_false, wp_pure', W.theClass, hk, hki, h2, W.alloc, W.stop, Option.some.injEq, exists_eq_left', Array.size_replicate, hal]
  rw [if_neg (by omega)]
  exact ⟨h3, h4, hfit, hq⟩
end
/-- the states of the loop that makes the rows -/
def fil (T : State) (cA cC : ClassId) (N M : Nat) (dv : Value) : Nat → State
  | 0 => T.pushCell (arrV cA N (fun _ => .null))
  | i + 1 => ((fil T cA cC N M dv i).pushCell (arrV cC M (fun _ => dv))).setCell T.heap.size ((((fil T cA cC N M dv i).pushCell (arrV cC M (fun _ => dv))).heap.getD T.heap.size (arrV cA N (fun _ => .null))).setSlot i (.ref (fil T cA cC N M dv i).heap.size))
theorem fil_succ (T : State) (cA cC : ClassId) (N M : Nat) (dv : Value) (i : Nat) : fil T cA cC N M dv (i + 1) = ((fil T cA cC N M dv i).pushCell (arrV cC M (fun _ => dv))).setCell T.heap.size ((((fil T cA cC N M dv i).pushCell (arrV cC M (fun _ => dv))).heap.getD T.heap.size (arrV cA N (fun _ => .null))).setSlot i (.ref (fil T cA cC N M dv i).heap.size)) := rfl
theorem newG_mem {t : Nat} (h : newG.contains t = true) : t = 51 ∨ t = 52 := by
  revert h
  unfold newG
  simp
set_option maxHeartbeats 4000000 in
theorem mul_all {Z : SS0} {D : DD} {l : Launch} (hB : Base Z D) : MulOK Z D l := by
  intro p e R s m args below meth c Q y pc k t L st G H locs cells slots ls ad q C hd hcl hk hs S hR K
  obtain ⟨hx, hb, hml, hW, hown, -, -, -⟩ := C
  have hlink := hB.word hW (args := args) (cl_all hcl)
  obtain ⟨t2, ty, e2, ht2, ht1, hty, hty2, hnm, hov, hac, hdf, hdd, hby⟩ : ∃ (t2 : Nat) (ty : FieldType), (if t = 51 then 40 else 41) = t2 ∧ t2 ∈ arrTg ∧ t ∈ arrTg ∧ aty t = .array ty ∧ aty t2 = ty ∧ clN t = "[" ++ (FieldType.array ty).toString ∧ Cond.arrayOver (.array ty) ∈ lw_tbl ∧ Cond.arrayClass ty ∈ lw_all ∧ fits ty (defaultValue ty) = true ∧ (defaultValue ty).isDefault = true ∧ componentBytes ty ≤ 8 := by
    rcases newG_mem hk with rfl | rfl
    · exact ⟨40, .int, rfl, by decide, by decide, rfl, rfl, by decide +kernel, q199, q222, rfl, rfl, by decide⟩
    · exact ⟨41, .long, rfl, by decide, by decide, rfl, rfl, by decide +kernel, q204, q197, rfl, rfl, by decide⟩
  have h40 : ¬ t = 41 ∧ ¬ t < 50 := by rcases newG_mem hk with rfl | rfl <;> decide
  rw [e2] at hs
  unfold sGrid at hs
  split at hs
  case h_2 => cases hs
  next kk n st2 =>
  split at hs
  case isFalse => cases hs
  next hbig =>
  cases hs
  have hn0 : ¬ n < 0 := i32_nlt.mpr hbig.1
  have hk0 : ¬ kk < 0 := i32_nlt.mpr hbig.2.2.1
  have hclm : ∀ x : Int32, x ≤ 1024 → ix x ≤ 1024 := fun x hx => by
    have h1 : x.toInt ≤ 1024 := Int32.le_iff_toInt_le.mp hx
    unfold ix
    rw [Int32.toNatClampNeg]
    omega
  have bN := hclm n hbig.2.1
  have bM := hclm kk hbig.2.2.2
  have hnc : n.toNatClampNeg = ix n := rfl
  have hkc : kk.toNatClampNeg = ix kk := rfl
  generalize ix n = N at bN hnc hR K
  generalize ix kk = M at bM hkc hR K
  have eG : mkGrid G t t2 N M = gro (hN G) t2 M (mkx G t N 1 N) N := by
    unfold mkGrid
    have := gro_rows (hN G) t2 M (mkx G t N 1 N) N 0
    rw [Nat.zero_add] at this
    exact this
  rw [eG] at hR K
  unfold Rm at hR
  simp only [gro_C, gro_S, hC_mkx, hS_mkx] at hR
  intro T hT X
  subst hT
  rw [← hb] at hd
  have hpl : e.platform.magicAccessors = ({} : Platform).magicAccessors := by rw [X.admits.platform]
  -- the classes
  obtain ⟨compZ, cAZ, kAZ, z1, -, z3, z4, z5⟩ := arrayOverA_spec (hB.1 _ hov)
  obtain ⟨c0, hfc0, hcl0⟩ := Cond.classLink_spec hown hlink e.platform hpl
  obtain ⟨hg₁, hwarm₁, hready₁⟩ := State.classEntry (e := e) X.warmed hcl0
  obtain ⟨vm₁, hvm₁⟩ : ∃ vm₁, T.vm.noted m.cls k (.cls c0) = vm₁ := ⟨_, rfl⟩
  rw [hvm₁] at hg₁ hwarm₁ hready₁
  have hal : Z.s.vm.Alike vm₁ := hW.alike.trans hwarm₁.alike
  obtain ⟨kA, hkA, heA⟩ := hal.2.2 _ _ z3
  have hkiA : kA.kind = .array compZ (.array ty) := by rw [heA]; exact z4
  obtain ⟨comp', kC0, cc, z6, z7, z8⟩ := Cond.arrayClass_spec (hB.1 _ (lw_all_tbl hac))
  cases z1.symm.trans z6
  obtain ⟨kC, hkC, heC⟩ := hal.2.2 _ _ z7
  have hkiC : kC.kind = .array cc ty := by rw [heC]; exact z8
  have eA : cAZ = D.2.2 t := by
    have := (hB.2.2.2.1 t ht1).2
    rw [hty] at this
    exact Option.some.inj (z5.symm.trans this)
  have eC : compZ = D.2.2 t2 := by
    have := (hB.2.2.2.1 t2 ht2).2
    rw [hty2] at this
    have h6 : Z.s.vm.findClass (FieldType.array ty).toString = some (D.2.2 t2) := by
      rcases newG_mem hk with rfl | rfl
      · cases hty
        exact this
      · cases hty
        exact this
    exact Option.some.inj (z1.symm.trans h6)
  subst eA
  subst eC
  have e0 : c0 = D.2.2 t := by
    rw [hnm] at hfc0
    have h6 : s.vm.findClass ("[" ++ (FieldType.array ty).toString) = some (D.2.2 t) := by
      have := (hB.arr hW ht1).2
      rw [hty] at this
      exact this
    exact Option.some.inj (hfc0.symm.trans h6)
  subst e0
  have X1 := X.noted hwarm₁
  obtain ⟨hr1, hr2⟩ := X.roomAbove (a := 1 + N) (b := N + N * M) (by omega) (by omega)
  have hl1 : ¬ N > e.platform.arrayLengthLimit := by rw [Launch.admits_arrayLengthLimit X.admits]; omega
  have hh1 : ¬ N * componentBytes (.array ty) > e.platform.maxHeapBytes := by
    rw [Launch.admits_maxHeapBytes X.admits]; show ¬ N * 4 > 536870912; omega
  have hl2 : ¬ M > e.platform.arrayLengthLimit := by rw [Launch.admits_arrayLengthLimit X.admits]; omega
  have hh2 : ¬ M * componentBytes ty > e.platform.maxHeapBytes := by
    rw [Launch.admits_maxHeapBytes X.admits]
    have : M * componentBytes ty ≤ 1024 * 8 := Nat.mul_le_mul bM hby
    omega
  have hgo : ∀ (T' : State) (locs' : List Loc) (ad' : Nat → Nat), Stand p l e R s m args below meth c T' locs' (cells + 1 + N) (slots + N + N * M) → Sim Z D ad' (gro (hN G) t2 M (mkx G t N 1 N) N) L (vr (some (hN G)) :: st2) T'.heap locs' ls → (∀ r, r < hN G → ad' r = ad r) → ad' (hN G) = T.heap.size → ∃ tg, Steps p.tables e below (T'.setTop (F0 m (pc + 4) ls (.ref T.heap.size :: st2.map (cvl ad)))) tg ∧ Q tg := by
    intro T' locs' ad' X' S' ha1 ha2
    have := K T'.heap locs' ls ad' (cells + 1 + N) (slots + N + N * M) S' ha1 (by simp only [gro_C, hC_mkx]; omega) (by simp only [gro_S, hS_mkx]; omega) T' rfl X'
    have em : (vr (some (hN G)) :: st2).map (cvl ad') = .ref T.heap.size :: st2.map (cvl ad) := by
      rw [List.map_cons, map_ext (G := G) ha1 (fun v hv => S.2.2.2.1 v (List.mem_cons_of_mem _ (List.mem_cons_of_mem _ hv))), cvl_r]
      show Value.ref (ad' (hN G)) :: _ = _
      rw [ha2]
    rw [em] at this
    exact this
  have hmulN : ∀ i, i < N → i * M + M ≤ N * M := fun i hi => by
    have := Nat.mul_le_mul_right M (show i + 1 ≤ N from hi)
    rw [Nat.succ_mul] at this
    exact this
  -- the rows, one by one
  have hrow : ∀ i, i ≤ N → ∃ (locs' : List Loc) (ad' : Nat → Nat), Stand p l e R s m args below meth c (fil (T.setVm vm₁) (D.2.2 t) (D.2.2 t2) N M (defaultValue ty) i) locs' (cells + 1 + i) (slots + N + i * M) ∧ Sim Z D ad' (gro (hN G) t2 M (mkx G t N 1 N) i) L (vr (some (hN G)) :: st2) (fil (T.setVm vm₁) (D.2.2 t) (D.2.2 t2) N M (defaultValue ty) i).heap locs' ls ∧ (∀ r, r < hN G → ad' r = ad r) ∧ ad' (hN G) = T.heap.size ∧ (fil (T.setVm vm₁) (D.2.2 t) (D.2.2 t2) N M (defaultValue ty) i).heap.size = T.heap.size + 1 + i ∧ (fil (T.setVm vm₁) (D.2.2 t) (D.2.2 t2) N M (defaultValue ty) i).vm = vm₁ ∧ (fil (T.setVm vm₁) (D.2.2 t) (D.2.2 t2) N M (defaultValue ty) i).slotsUsed = T.slotsUsed + N + i * M := by
    intro i
    induction i with
    | zero =>
      intro _
      refine ⟨locs, adx ad (hN G) T.heap.size, ?_, ?_, fun r hr => adx_lt hr, adx_eq, ?_, rfl, ?_⟩
      · have := X1.pushed (arrV (D.2.2 t) N (fun _ => .null))
        rw [arrV_size] at this
        rw [Nat.zero_mul]
        exact this
      · have gH : (T.heap.push (arrV (D.2.2 t) N (fun _ => Value.null)))[T.heap.size]? = some (arrV (D.2.2 t) N (fun _ => defaultValue (aty t))) := by
          rw [hty]
          simp [defaultValue]
        have gO : ∀ q, q < T.heap.size → (T.heap.push (arrV (D.2.2 t) N (fun _ => Value.null)))[q]? = T.heap[q]? := by
          intro q hq
          rw [Array.getElem?_push, if_neg (by omega)]
        have hc' : Conc Z D (adx ad (hN G) T.heap.size) (mkx G t N 1 N) (T.heap.push (arrV (D.2.2 t) N (fun _ => Value.null))) := S.1.born hB (by simp) gO (Nat.le_refl _) (by simp) rfl (fun b hb => mkx_T hb) (fun b hb => mkx_L hb) (fun b i hb => mkx_I hb) (fun b i hb => mkx_J hb) (fun b i hb => mkx_R hb) (mkx_S S.1) (CellA.arr ht1 (by omega) gH)
        exact S.born hc' rfl (fun v hv => by
          rcases List.mem_cons.mp hv with h | h
          · exact Or.inr h
          · exact Or.inl (List.mem_cons_of_mem _ (List.mem_cons_of_mem _ h)))
      · show (T.heap.push _).size = _
        simp
      · show T.slotsUsed + (arrV (D.2.2 t) N (fun _ => Value.null)).slots.size = _
        rw [arrV_size, Nat.zero_mul]
        rfl
    | succ i ih =>
      intro hi
      obtain ⟨locs', ad', Xi, Si, a1, a2, s1, s2, s3⟩ := ih (by omega)
      rw [fil_succ]
      generalize fil (T.setVm vm₁) (D.2.2 t) (D.2.2 t2) N M (defaultValue ty) i = U at Xi Si s1 s2 s3 ⊢
      have eNi := gro_N (o := hN G) (t := t2) (k := M) (G := mkx G t N 1 N) i
      have hTi := gro_T (o := hN G) (t := t2) (k := M) (G := mkx G t N 1 N) (b := hN G) (by rw [hN_mkx]; omega) i
      rw [hT_mkx, if_pos rfl, hL_mkx, if_pos rfl] at hTi
      rw [hN_mkx] at eNi
      have Xp := Xi.pushed (arrV (D.2.2 t2) M (fun _ => defaultValue ty))
      rw [arrV_size] at Xp
      generalize hGi : gro (hN G) t2 M (mkx G t N 1 N) i = Gi at Si eNi hTi
      have gH : (U.pushCell (arrV (D.2.2 t2) M (fun _ => defaultValue ty))).heap[U.heap.size]? = some (arrV (D.2.2 t2) M (fun _ => defaultValue (aty t2))) := by
        rw [hty2]
        show (U.heap.push _)[U.heap.size]? = _
        simp
      have gO : ∀ q, q < U.heap.size → (U.pushCell (arrV (D.2.2 t2) M (fun _ => defaultValue ty))).heap[q]? = U.heap[q]? := by
        intro q hq
        show (U.heap.push _)[q]? = _
        rw [Array.getElem?_push, if_neg (by omega)]
      have gS : (U.pushCell (arrV (D.2.2 t2) M (fun _ => defaultValue ty))).heap.size = U.heap.size + 1 := by
        show (U.heap.push _).size = _
        simp
      have hc' : Conc Z D (adx ad' (hN Gi) U.heap.size) (mkx Gi t2 M 1 M) (U.pushCell (arrV (D.2.2 t2) M (fun _ => defaultValue ty))).heap := Si.1.born hB (by omega) gO (Nat.le_refl _) (by omega) rfl (fun b hb => mkx_T hb) (fun b hb => mkx_L hb) (fun b i hb => mkx_I hb) (fun b i hb => mkx_J hb) (fun b i hb => mkx_R hb) (mkx_S Si.1) (CellA.arr ht2 (by omega) gH)
      have Sp := Si.born (st' := vr (some (hN G)) :: st2) hc' rfl (fun v hv => Or.inl hv)
      have sU : (U.pushCell (arrV (D.2.2 t2) M (fun _ => defaultValue ty))).slotsUsed = U.slotsUsed + M := by
        show U.slotsUsed + (arrV (D.2.2 t2) M (fun _ => defaultValue ty)).slots.size = _
        rw [arrV_size]
      have vU : (U.pushCell (arrV (D.2.2 t2) M (fun _ => defaultValue ty))).vm = U.vm := rfl
      generalize U.pushCell (arrV (D.2.2 t2) M (fun _ => defaultValue ty)) = V at Xp gS hc' Sp sU vU ⊢
      have hoT : hT (mkx Gi t2 M 1 M) (hN G) = t := by rw [mkx_T (by omega)]; exact hTi.1
      have hoL : hL (mkx Gi t2 M 1 M) (hN G) = N := by rw [mkx_L (by omega)]; exact hTi.2
      have hoA : adx ad' (hN Gi) U.heap.size (hN G) = T.heap.size := by rw [adx_lt (by omega)]; exact a2
      have hcell := hc'.arrAt (a := hN G) (by rw [hN_mkx]; omega) (by rw [hoT]; exact ht1)
      rw [hoT, hoL, hoA] at hcell
      have hsz0 : (T.setVm vm₁).heap.size = T.heap.size := rfl
      rw [hsz0]
      have hgd : V.heap.getD T.heap.size (arrV (D.2.2 t) N (fun _ => .null)) = arrV (D.2.2 t) N (fun i => aval (adx ad' (hN Gi) U.heap.size) (mkx Gi t2 M 1 M) (hN G) t i) := by
        rw [Array.getD_eq_getD_getElem?, hcell]
        rfl
      rw [hgd]
      have hlt : T.heap.size < V.heap.size := by omega
      have hin : inb (nI i) (hL (mkx Gi t2 M 1 M) (hN G)) = true := by
        rw [hoL, inb_nI (by omega)]
        exact decide_eq_true hi
      have hixi : (nI i).toNatClampNeg = i := nI_clamp (by omega)
      have hw := hc'.wrote (a := hN G) (j := nI i) (v := .ref U.heap.size) (G' := sR (mkx Gi t2 M 1 M) (hN G) i (some (hN Gi))) (H' := (V.setCell T.heap.size ((arrV (D.2.2 t) N (fun i => aval (adx ad' (hN Gi) U.heap.size) (mkx Gi t2 M 1 M) (hN G) t i)).setSlot i (.ref U.heap.size))).heap) (by rw [hN_mkx]; omega) (by rw [hoT]; exact ht1) hin
        (by rw [hoT, hoL, hoA, hixi]; exact heapAt_setCell_self _ hlt) (size_setCell _ _ _) (fun q hq => by rw [hoA] at hq; exact heapAt_setCell_ne _ (Ne.symm hq)) rfl (fun _ => rfl) (fun _ => rfl) (fun _ _ _ => rfl) (fun _ _ _ => rfl) (fun b i hb => by rw [hR_sR, if_neg (fun q => hb q.1)]) (fun j r hr => by
          rw [hR_sR] at hr
          split at hr
          · cases hr
            rw [hN_mkx]
            omega
          · exact hc'.2.2.2.1 _ _ _ hr) (fun j => by
          rw [hoT]
          unfold aval
          rw [if_neg h40.1, if_neg h40.2, if_neg h40.1, if_neg h40.2, hR_sR]
          have hixx : ix (nI i) = i := hixi
          rw [hixx]
          by_cases hj : j = i
          · rw [if_pos ⟨rfl, hj⟩, if_pos hj]
            show Value.ref (adx ad' (hN Gi) U.heap.size (hN Gi)) = _
            rw [adx_eq]
          · rw [if_neg (fun q => hj q.2), if_neg hj])
      refine ⟨locs' ++ [⟨T.heap.size, i⟩], adx ad' (hN Gi) U.heap.size, ?_, ?_, fun r hr => by rw [adx_lt (by omega)]; exact a1 r hr, hoA, by rw [size_setCell]; omega, vU.trans s2, ?_⟩
      · have h5 := Xp.stored hcell i (.ref U.heap.size)
        have h6 : slots + N + (i + 1) * M = slots + N + i * M + M := by rw [Nat.succ_mul]; omega
        rw [h6]
        exact h5
      · have h7 := Sp.stored (st' := vr (some (hN G)) :: st2) (n := i) hw rfl (a := hN G) (by have := S.1.2.2.2.2.1; omega) (by rw [hN_mkx]; omega) (fun w hw => hw)
        rw [hoA] at h7
        show Sim Z D _ (sR (mkx (gro (hN G) t2 M (mkx G t N 1 N) i) t2 M 1 M) (hN G) i (some (hN (gro (hN G) t2 M (mkx G t N 1 N) i)))) _ _ _ _ _
        rw [hGi]
        exact h7
      · show V.slotsUsed = _
        rw [Nat.succ_mul]
        omega
  obtain ⟨locsN, adN, XN, SN, aN1, aN2, -⟩ := hrow N (Nat.le_refl _)
  obtain ⟨tg, hst, hQ⟩ := hgo _ locsN adN XN SN aN1 aN2
  refine ⟨tg, ?_, hQ⟩
  have eM : (.inl kk :: .inl n :: st2 : List AV).map (cvl ad) = .int kk :: .int n :: st2.map (cvl ad) := rfl
  rw [eM]
  jvm_step X.here [hx, hd]
  have hmt := State.method?_setTop (s := T) (F0 m pc ls (.int kk :: .int n :: st2.map (cvl ad))) X.here.top
  simp only [multianewarray.sem, wp_bind', W.resolveClassAt_links (vm' := vm₁) hmt hg₁]
  rw [W.popN, if_neg (by decide)]
  refine ⟨_, State.topJava?_setTop' (s := T.setVm vm₁) _ X.here.top, [.int n, .int kk], st2.map (cvl ad), rfl, rfl, ?_⟩
  simp only [List.mapM_cons, List.mapM_nil, wp_bind', wp_pure']
  have eS : ((T.setTop (F0 m pc ls (.int kk :: .int n :: st2.map (cvl ad)))).setVm vm₁).setTop { (F0 m pc ls (.int kk :: .int n :: st2.map (cvl ad))) with stack := st2.map (cvl ad) } = (T.setVm vm₁).setTop (F0 m pc ls (st2.map (cvl ad))) := by
    show ((T.setVm vm₁).setTop _).setTop _ = _
    rw [State.setTop_setTop]
  rw [eS]
  have hfind : ([kk].find? (· < 0)) = none := by simp [hk0]
  rw [multianewarray.make]
  simp only [wp_bind', W.ite, hn0, if_false, wp_pure', W.theClass]
  refine ⟨kA, hkA, ?_⟩
  simp only [hkiA]
  rw [wp_bind', hnc]
  refine wp_nA (n := N) (v := .null) hkA hkiA hl1 hh1 rfl rfl (by show T.heap.size < _; omega) (by show T.slotsUsed + N ≤ _; have := Nat.zero_le (N * M); omega) ?_
  simp only [hfind]
  rw [ite_self, wp_bind', Std.Legacy.Range.forIn_eq_forIn_range']
  have hsz : ([:N] : Std.Legacy.Range).size = N := by simp [Std.Legacy.Range.size]
  rw [hsz]
  show wp (forIn (List.range' 0 N 1) PUnit.unit _) _ _ e _ _ _
  refine wp_forIn_inv (fun rest s' => ∃ i, i ≤ N ∧ rest = List.range' i (N - i) ∧ s' = (fil (T.setVm vm₁) (D.2.2 t) (D.2.2 t2) N M (defaultValue ty) i).setTop (F0 m pc ls (st2.map (cvl ad)))) _ _ ⟨0, Nat.zero_le _, rfl, rfl⟩ ?_ ?_
  · rintro i rest s' d' acts' Q' ⟨i0, hi, hl, rfl⟩ hnext
    have hlt : i0 < N := by
      rcases Nat.lt_or_ge i0 N with h | h
      · exact h
      · rw [show N - i0 = 0 by omega] at hl
        cases hl
    rw [show N - i0 = (N - (i0 + 1)) + 1 by omega, List.range'_succ] at hl
    cases hl
    obtain ⟨locs', ad', Xi, Si, a1, a2, s1, s2, s3⟩ := hrow i (by omega)
    have hTi := gro_T (o := hN G) (t := t2) (k := M) (G := mkx G t N 1 N) (b := hN G) (by rw [hN_mkx]; omega) i
    rw [hT_mkx, if_pos rfl, hL_mkx, if_pos rfl] at hTi
    have hcell := Si.1.arrAt (a := hN G) (by rw [gro_N, hN_mkx]; omega) (by rw [hTi.1]; exact ht1)
    rw [hTi.1, hTi.2, a2] at hcell
    have hnx : ∀ d'' acts'', Q' (ForInStep.yield PUnit.unit) d'' acts'' ((fil (T.setVm vm₁) (D.2.2 t) (D.2.2 t2) N M (defaultValue ty) (i + 1)).setTop (F0 m pc ls (st2.map (cvl ad)))) := fun d'' acts'' => hnext _ d'' acts'' ⟨i + 1, hlt, rfl, rfl⟩
    rw [fil_succ] at hnx
    have hmi := hmulN i hlt
    generalize fil (T.setVm vm₁) (D.2.2 t) (D.2.2 t2) N M (defaultValue ty) i = U at hnx hcell s1 s2 s3 ⊢
    simp only [wp_bind']
    rw [multianewarray.make]
    simp only [wp_bind', W.ite, hk0, if_false, wp_pure', W.theClass]
    refine ⟨kC, by show U.vm.classes[_]? = _; rw [s2]; exact hkC, ?_⟩
    simp only [hkiC]
    rw [hkc]
    refine wp_nA (n := M) (v := defaultValue ty) (by show U.vm.classes[_]? = _; rw [s2]; exact hkC) hkiC hl2 hh2 hdf hdd (by show U.heap.size < _; omega) (by show U.slotsUsed + M ≤ _; omega) ?_
    simp only [wp_bind', W.writeLoc, wp_pure', State.heap_setTop]
    have hcV : ((U.setTop (F0 m pc ls (st2.map (cvl ad)))).pushCell (arrV (D.2.2 t2) M (fun _ => defaultValue ty))).heap[T.heap.size]? = some (arrV (D.2.2 t) N (fun j => aval ad' (gro (hN G) t2 M (mkx G t N 1 N) i) (hN G) t j)) := by
      show (U.heap.push _)[T.heap.size]? = _
      rw [Array.getElem?_push, if_neg (by omega)]
      exact hcell
    refine ⟨_, hcV, (fun h => by cases h), by rw [arrV_size]; exact hlt, ?_, ?_⟩
    · show State.fitsSlot _ (D.2.2 t) .none i _ = true
      have h9 : U.vm.classes[D.2.2 t]? = some kA := by
        rw [s2]
        exact hkA
      simp [State.fitsSlot, State.slotType?, h9, hkiA, fits]
    · have h8 : (U.pushCell (arrV (D.2.2 t2) M (fun _ => defaultValue ty))).heap.getD (T.setVm vm₁).heap.size (arrV (D.2.2 t) N (fun _ => .null)) = arrV (D.2.2 t) N (fun j => aval ad' (gro (hN G) t2 M (mkx G t N 1 N) i) (hN G) t j) := by
        rw [Array.getD_eq_getD_getElem?]
        show Option.getD ((U.heap.push _)[T.heap.size]?) _ = _
        rw [show (U.heap.push (arrV (D.2.2 t2) M (fun _ => defaultValue ty)))[T.heap.size]? = _ from hcV]
        rfl
      rw [h8] at hnx
      exact hnx _ _
  · rintro s' d' acts' ⟨i, hi, hl, rfl⟩
    have hiN : i = N := by
      rcases Nat.lt_or_ge i N with h | h
      · rw [show N - i = (N - (i + 1)) + 1 by omega, List.range'_succ] at hl
        cases hl
      · omega
    subst hiN
    simp only [wp_bind', wp_pure', W.mark, W.pushRef, State.topJava?_setTop' _ XN.here.top, Option.some.injEq, exists_eq_left', State.setTop_setTop]
    intro acts
    simp [jvm, XN.here.top]
    exact hst
