/-! soundness 7: longs and references written; lengths; new cells -/
theorem okA_some {G : AH} {t r : Nat} (h : okA G t (some r) = true) : (t = 50 ∧ hT G r ∈ [3, 4, 5, 7, 8, 9, 10, 11]) ∨ (t = 53 ∧ hT G r = 13) ∨ (t = 54 ∧ hT G r = 1) := by
  unfold okA at h
  simp only [Bool.or_eq_true, Bool.and_eq_true, beq_iff_eq, List.contains_eq_mem, decide_eq_true_eq] at h
  rcases h with (h | h) | h
  · exact Or.inl h
  · exact Or.inr (Or.inl h)
  · exact Or.inr (Or.inr h)
theorem okA_none {G : AH} {t : Nat} (h : okA G t none = true) : t ∈ [50, 53, 54] := by
  unfold okA at h
  simpa using h
theorem cast_obj : ∀ t ∈ [3, 4, 5, 7, 8, 9, 10, 11], Cond.castable (cnm t) "java/lang/Object" ∈ lw_tbl := by
  intro t ht
  simp only [List.mem_cons, List.not_mem_nil, or_false] at ht
  rcases ht with rfl | rfl | rfl | rfl | rfl | rfl | rfl | rfl
  · exact q2677
  · exact q2678
  · exact q2679
  · exact q2680
  · exact q2681
  · exact q2682
  · exact q2683
  · exact q2684
section
variable {Z : SS0} {D : DD} {p : Program} {l : Launch} {e : Env} {R : Room} {s : State} {m : MethodId} {args : Array Value} {below : List Frame} {meth : Method} {c : Code} {Q : State → Prop} {y pc k f : Nat} {L : AL} {st : List AV} {G : AH} {H : Heap} {locs : List Loc} {cells slots : Nat} {ls : Array Slot} {ad : Nat → Nat} {q : Nat × AL × List AV × AH}
theorem gSJ (hB : Base Z D) (C : Ctx Z p s m meth c y) (hd : decode (mcode y) pc = .ok (.lastore, 1)) (hs : sSJ y pc L st G = some (.inl q)) (S : Sim Z D ad G L st H locs ls) (K : Nx Z D p l e R s m args below meth c Q cells slots ad G q) : W p l e R s m args below meth c H locs cells slots Q (F0 m pc ls (st.map (cvl ad))) := by
  obtain ⟨hx, hb, hml, hW, hown, -, -, -⟩ := C
  unfold sSJ at hs
  split at hs
  · next x j a st2 =>
    have ha : a < hN G := S.2.2.2.1 _ (List.mem_cons_of_mem _ (List.mem_cons_of_mem _ List.mem_cons_self)) a rfl
    split at hs
    · next ht =>
      have hm : hT G a ∈ arrTg := by rw [ht]; decide
      split at hs
      · next hin =>
        cases hs
        refine W.last (x := x) hx hb (S.1.arrAt ha hm) (by rw [ht]; exact (hB.arr hW (t := 41) (by decide)).1 _ _) (fun q => by cases q) (by rw [arrV_size]; exact inb_in hin) rfl rfl hd fun H' g1 g2 g3 => ?_
        refine K H' _ ls ad cells slots (S.stored (S.1.wrote (G' := sJ G a (ix j) x) ha hm hin g1 g2 g3 rfl (fun _ => rfl) (fun _ => rfl) (fun _ _ _ => rfl) (fun b i hb => by rw [hJ_sJ, if_neg (fun q => hb q.1)]) (fun _ _ _ => rfl) (fun i r hr => S.1.2.2.2.1 a i r hr) (fun i => ?_)) rfl (S.1.arr3 hm) ha (fun w hw => List.mem_cons_of_mem _ (List.mem_cons_of_mem _ (List.mem_cons_of_mem _ hw)))) (fun _ _ => rfl) rfl rfl
        unfold aval
        rw [if_pos ht, if_pos ht, hJ_sJ]
        by_cases hi : i = ix j
        · rw [if_pos ⟨rfl, hi⟩, if_pos hi]
        · rw [if_neg (fun q => hi q.2), if_neg hi]
      · unfold sX at hs
        split at hs <;> cases hs
    · cases hs
  · unfold sX at hs
    split at hs <;> cases hs
  · cases hs
theorem gSR (hB : Base Z D) (C : Ctx Z p s m meth c y) (hd : decode (mcode y) pc = .ok (.aastore, 1)) (hs : sSR pc L st G = some (.inl q)) (S : Sim Z D ad G L st H locs ls) (K : Nx Z D p l e R s m args below meth c Q cells slots ad G q) : W p l e R s m args below meth c H locs cells slots Q (F0 m pc ls (st.map (cvl ad))) := by
  obtain ⟨hx, hb, hml, hW, hown, -, -, -⟩ := C
  unfold sSR at hs
  split at hs
  · next x j a st2 =>
    have ha : a < hN G := S.2.2.2.1 _ (List.mem_cons_of_mem _ (List.mem_cons_of_mem _ List.mem_cons_self)) a rfl
    have hsc : Scp G (vr x) := S.2.2.2.1 _ List.mem_cons_self
    split at hs
    · next hok =>
      have h3 : hT G a ∈ [50, 53, 54] := by
        cases x with
        | none => exact okA_none hok
        | some r =>
          rcases okA_some hok with ⟨q, -⟩ | ⟨q, -⟩ | ⟨q, -⟩ <;> rw [q] <;> decide
      have hm : hT G a ∈ arrTg := (show ∀ t ∈ [50, 53, 54], t ∈ arrTg by decide) _ h3
      have n41 : ¬ hT G a = 41 := (show ∀ t ∈ [50, 53, 54], ¬ t = 41 by decide) _ h3
      have l50 : ¬ hT G a < 50 := (show ∀ t ∈ [50, 53, 54], ¬ t < 50 by decide) _ h3
      split at hs
      · next hin =>
        cases hs
        have hgo : ∀ H' : Heap, H'[ad a]? = some ((arrV (D.2.2 (hT G a)) (hL G a) (fun i => aval ad G a (hT G a) i)).setSlot j.toNatClampNeg (cvr ad x)) → H'.size = H.size → (∀ q, q ≠ ad a → H'[q]? = H[q]?) → W p l e R s m args below meth c H' (locs ++ [⟨ad a, j.toNatClampNeg⟩]) cells slots Q (F0 m (pc + 1) ls (st2.map (cvl ad))) := by
          intro H' g1 g2 g3
          refine K H' _ ls ad cells slots (S.stored (S.1.wrote (G' := sR G a (ix j) x) ha hm hin g1 g2 g3 rfl (fun _ => rfl) (fun _ => rfl) (fun _ _ _ => rfl) (fun _ _ _ => rfl) (fun b i hb => by rw [hR_sR, if_neg (fun q => hb q.1)]) (fun i r hr => ?_) (fun i => ?_)) rfl (S.1.arr3 hm) ha (fun w hw => List.mem_cons_of_mem _ (List.mem_cons_of_mem _ (List.mem_cons_of_mem _ hw)))) (fun _ _ => rfl) rfl rfl
          · rw [hR_sR] at hr
            by_cases e : a = a ∧ i = ix j
            · rw [if_pos e] at hr
              exact hsc r (by rw [hr])
            · rw [if_neg e] at hr
              exact S.1.2.2.2.1 a i r hr
          · unfold aval
            rw [if_neg n41, if_neg l50, if_neg n41, if_neg l50, hR_sR]
            by_cases hi : i = ix j
            · rw [if_pos ⟨rfl, hi⟩, if_pos hi]
            · rw [if_neg (fun q => hi q.2), if_neg hi]
        have hobj : ∃ C0, aty (hT G a) = .object C0 := (show ∀ t ∈ [50, 53, 54], ∃ C0, aty t = .object C0 from fun t ht => by
          simp only [List.mem_cons, List.not_mem_nil, or_false] at ht
          rcases ht with rfl | rfl | rfl <;> exact ⟨_, rfl⟩) _ h3
        obtain ⟨C0, hC0⟩ := hobj
        obtain ⟨hA1, hA2⟩ := hB.arr hW hm
        rw [hC0] at hA1 hA2
        cases x with
        | none => exact va_WaastN (C := C0) hx hb (S.1.arrAt ha hm) (hA1 _ _) (fun h => by cases h) (by rw [arrV_size]; exact inb_in hin) rfl rfl hd hgo
        | some r =>
          have hr : r < hN G := hsc r rfl
          obtain ⟨kA, comp, k1, k2, k3, -⟩ := hA2
          obtain ⟨kE, hkE, -⟩ := Vm.findClass_spec k3
          have hto : hT G r ∈ objT := by
            rcases okA_some hok with ⟨-, q⟩ | ⟨-, q⟩ | ⟨-, q⟩
            · exact (show ∀ t ∈ [3, 4, 5, 7, 8, 9, 10, 11], t ∈ objT by decide) _ q
            · rw [q]; decide
            · rw [q]; decide
          obtain ⟨cellV, g1, g2, g3, -⟩ := (S.1.1 r (S.1.obj3 hto) hr).1 hto
          have hcls := (hB.obj hW hto).2
          obtain ⟨kC, hkC, -⟩ := hcls.2
          have hasg : s.vm.assignable (D.1 (hT G r)) comp = true := by
            rcases okA_some hok with ⟨qa, q⟩ | ⟨qa, q⟩ | ⟨qa, q⟩
            · obtain ⟨c0, t1, f1, f2, f3⟩ := Cond.castable_spec (va_Nw.use (A := args) rfl (va_Nw.warmC hW (va_Nw.of rfl (hB.1 _ (cast_obj _ q)))))
              cases hcls.1.symm.trans f1
              rw [qa] at hC0
              cases hC0
              cases k3.symm.trans f2
              exact f3
            · rw [qa] at hC0
              cases hC0
              rw [q] at hcls ⊢
              cases k3.symm.trans hcls.1
              exact va_assign hcls
            · rw [qa] at hC0
              cases hC0
              rw [q] at hcls ⊢
              cases k3.symm.trans hcls.1
              exact va_assign hcls
          refine W.aast hx hb (S.1.arrAt ha hm) (fun q h => by cases h) (fun h => by cases h) k1 k2 rfl hkE ⟨fun q => inb_in hin (Or.inl q), by rw [arrV_size]; exact inb_lt hin⟩ g1 (fun q h => by rw [g3] at h; cases h) (by rw [g2]; exact hkC) (by rw [g2]; exact hasg) rfl rfl hd hgo
      · cases hs
    · cases hs
  · cases hs
end
