/-! soundness 5: putfield -/
theorem fd_inj : ∀ t ∈ objT, ∀ j, j < nf t → ∀ k, k < nf t → fdOf t j = fdOf t k → j = k := by decide +kernel
theorem fd_fin : ∀ t ∈ objT, ∀ k, k < nf t → (cTT t k).2.2.2 = true → fdOf t k ∈ finT := by decide +kernel
theorem pf_ok : ∀ q ∈ pfT, minit q.1 = true ∧ cnm (mcls q.1) = fOwn q.2 := by decide +kernel
theorem fd_ty : ∀ t ∈ objT, ∀ k, k < nf t → (fsort (fdOf t k) = 0 → cty t k = .int) ∧ (fsort (fdOf t k) = 1 → cty t k = .long) ∧ (fsort (fdOf t k) = 3 → cty t k = .boolean) ∧ (fsort (fdOf t k) = 2 → (cty t k).isReference = true) := by decide +kernel
theorem ref_fits {ty : FieldType} (h : ty.isReference = true) (ad : Nat → Nat) (o : Option Nat) : narrow ty (cvr ad o) = cvr ad o ∧ fits ty (cvr ad o) = true := by
  cases ty <;> first | (simp [FieldType.isReference] at h; done) | (cases o <;> exact ⟨rfl, rfl⟩)
/-- a value that a field of sort n takes -/
def tkn (n : Nat) (v : AV) : Prop := (n = 0 ∧ ∃ x, v = vi x) ∨ (n = 1 ∧ ∃ x, v = vl x) ∨ (n = 3 ∧ ∃ x, v = vi x ∧ b01 x = true) ∨ (n = 2 ∧ ∃ o, v = vr o)
theorem tkn_fits {t k : Nat} (ht : t ∈ objT) (hk : k < nf t) {v : AV} (h : tkn (fsort (fdOf t k)) v) (ad : Nat → Nat) : narrow (cty t k) (cvl ad v) = cvl ad v ∧ fits (cty t k) (cvl ad v) = true := by
  obtain ⟨h0, h1, h3, h2⟩ := fd_ty t ht k hk
  rcases h with ⟨e, x, rfl⟩ | ⟨e, x, rfl⟩ | ⟨e, x, rfl, hx⟩ | ⟨e, o, rfl⟩
  · rw [h0 e]; exact ⟨rfl, rfl⟩
  · rw [h1 e]; exact ⟨rfl, rfl⟩
  · rw [h3 e]
    have : x = 0 ∨ x = 1 := by unfold b01 at hx; simpa using hx
    rcases this with rfl | rfl
    · exact ⟨rfl, rfl⟩
    · exact ⟨rfl, rfl⟩
  · exact ref_fits (h2 e) ad o
section
variable {Z : SS0} {D : DD} {p : Program} {l : Launch} {e : Env} {R : Room} {s : State} {m : MethodId} {args : Array Value} {below : List Frame} {meth : Method} {c : Code} {Q : State → Prop} {y pc k f : Nat} {L : AL} {st : List AV} {G : AH} {H : Heap} {locs : List Loc} {cells slots : Nat} {ls : Array Slot} {ad : Nat → Nat} {q : Nat × AL × List AV × AH}
theorem gPut0 {a : Nat} {v : AV} {rest : List Value} {G' : AH} (hB : Base Z D) (C : Ctx Z p s m meth c y) (hf : FLf (mcls y) k f) (hpf : pfOK y f = true) (hd : decode (mcode y) pc = .ok (.putfield k, 3)) (hc : Conc Z D ad G H) (ha : a < hN G) (hok : okF (hT G a) f = true) (hv : tkn (fsort f) v) (hsc : Scp G v)
    (eN : hN G' = hN G) (eT : ∀ b, hT G' b = hT G b) (eL : ∀ b, hL G' b = hL G b) (eI : ∀ b i, b ≠ a → hI G' b i = hI G b i) (eJ : ∀ b i, b ≠ a → hJ G' b i = hJ G b i) (eR : ∀ b i, b ≠ a → hR G' b i = hR G b i) (eS : ∀ i r, hR G' a i = some r → hR G a i = some r ∨ v = vr (some r))
    (eV : ∀ g, fval ad G' a g = if g = f then cvl ad v else fval ad G a g)
    (K : ∀ (H' : Heap) (n : Nat), Conc Z D ad G' H' → W p l e R s m args below meth c H' (locs ++ [⟨ad a, n⟩]) cells slots Q (F0 m (pc + 3) ls rest)) : W p l e R s m args below meth c H locs cells slots Q (F0 m pc ls (cvl ad v :: .ref (ad a) :: rest)) := by
  obtain ⟨hx, hb, hml, hW, hown, -, -, hini⟩ := C
  obtain ⟨ht, k0, hk0, rfl⟩ := okF_obj hok
  have h3 := hc.obj3 ht
  have hts : ∀ w ∈ lw_all, w.before args s = true := fun w hw => hB.word hW hw
  obtain ⟨cf, kf, fi, fd, kC, hi, hsl, hst, hfc, hkC, hkind⟩ := fld_found hB hW (args := args) ht hk0
  obtain ⟨cell, q1, q2, q3, q4⟩ := (hc.1 a h3 ha).1 ht
  obtain ⟨e1, e2, e3⟩ := cTT_ok _ ht k0 hk0
  have hty := ty_all _ ht k0 hk0
  obtain ⟨hn, hfit⟩ := tkn_fits ht hk0 hv ad
  have hi' : s.fieldFound? (cTT (hT G a) k0).1 (cTT (hT G a) k0).2.1 (cTT (hT G a) k0).2.2.1 = some (cf, kf, fi, fd) := by rw [e1, e2, e3]; exact hi
  have hlt : fd.slot < cell.slots.size := by rw [hsl]; exact k2_hasslot (q4 k0 hk0)
  have hlay := hts _ (lays_all _ ht _ (u_in_lay hk0))
  have hgo : ∀ H' : Heap, H'[ad a]? = some (cell.setSlot fd.slot (cvl ad v)) → H'.size = H.size → (∀ q, q ≠ ad a → H'[q]? = H[q]?) → Conc Z D ad G' H' := by
    intro H' g1 g2 g3
    refine hc.upd h3 ha g2 g3 eN eT eL eI eJ eR (fun i r hr => ?_) ?_
    · rcases eS i r hr with q | q
      · exact hc.2.2.2.1 a i r q
      · exact hsc r q
    · refine ⟨fun _ => ?_, fun q => ?_, fun q => ?_, Or.inl (by rw [eT]; exact ht)⟩
      · rw [eT]
        refine ⟨_, g1, q2, q3, fun j hj => ?_⟩
        have hset := t_set q4 (fld_apart hB hW ht) hk0 (cvl ad v) j hj
        rw [hsl, hset]
        congr 1
        show updV _ k0 (cvl ad v) j = fval ad G' a (fdOf (hT G a) j)
        rw [eV]
        unfold updV
        by_cases hj0 : j = k0
        · subst hj0; rw [if_pos rfl, if_pos rfl]
        · rw [if_neg hj0, if_neg (fun q => hj0 (fd_inj _ ht j hj k0 hk0 q))]
      · exfalso
        rw [eT] at q
        revert q
        exact (show ∀ t ∈ objT, ¬ t ∈ arrTg by decide) _ ht
      · exfalso
        rw [eT] at q
        revert q
        exact (show ∀ t ∈ objT, ¬ t ∈ excT by decide) _ ht
  by_cases hfin : (cTT (hT G a) k0).2.2.2 = true
  · -- a final field, in its class's constructor
    have hm : (y, fdOf (hT G a) k0) ∈ pfT := by
      have := fd_fin _ ht k0 hk0 hfin
      unfold pfOK at hpf
      simp only [Bool.or_eq_true, Bool.not_eq_true', List.contains_eq_mem, decide_eq_true_eq, decide_eq_false_iff_not] at hpf
      rcases hpf with q | q
      · exact absurd this q
      · exact q
    obtain ⟨m1, m2⟩ := pf_ok _ hm
    have m2 : cnm (mcls y) = fOwn (fdOf (hT G a) k0) := m2
    unfold u_lay at hlay
    rw [if_pos hfin] at hlay
    have hcf : m.cls = cf := by
      obtain ⟨_, _, c', _, _, _, -, -, hf', -, -, -, hown2, -⟩ := Cond.laysFinal_spec hlay
      have e4 : c' = cf := by have := hi'.symm.trans hf'; simp at this; exact this.1.symm
      rw [e1, ← m2] at hown2
      rw [← e4]; exact Option.some.inj (hown.symm.trans hown2)
    have h6 := u_fits hfc hkC hkind (Or.inr hlay) hi' hty hn hfit
    rcases hf with ⟨ref, hl, hsame⟩ | ⟨host, hl⟩
    · refine W.putFinK hx hb hown (hts _ hl) (cf := cf) (i := fi) (k := kf) (f := fd) ?_ hst hcf (hini m1) (by rw [q2]; exact h6) q1 q3 hlt rfl rfl hd fun H' g1 g2 g3 => K H' _ (hgo H' g1 g2 g3)
      rcases hsame with q | q
      · rw [q]; exact hi
      · exact u_same (args := args) (hts _ q) _ hi
    · have hw : (Cond.fieldLinkNest (cnm (mcls y)) k (fOwn (fdOf (hT G a) k0)) (fNam (fdOf (hT G a) k0)) (fDsc (fdOf (hT G a) k0)) host).before args s = true :=
        va_Nw.use rfl (va_Nw.warmF hW (va_Nw.of rfl (hB.1 _ hl)))
      have hal : ad a < H.size := (Array.getElem?_eq_some_iff.mp q1).1
      refine va_Wputf hx hb hown hw hi hst (Or.inr ⟨hcf, hini m1⟩) q1 (by rw [q3]; exact fun h => by cases h) hlt h6.1 (by rw [q2, q3]; exact h6.2) rfl rfl hd ?_
      refine K _ _ (hgo _ ?_ ?_ ?_)
      · simp [Array.getElem?_setIfInBounds, hal]
      · simp
      · intro q hq
        simp [Array.getElem?_setIfInBounds, Ne.symm hq]
  · have hfin : (cTT (hT G a) k0).2.2.2 = false := by simpa using hfin
    unfold u_lay at hlay
    rw [if_neg (by rw [hfin]; decide)] at hlay
    have h6 := u_store hfc hkC hkind hlay hi' hty hn hfit
    rcases hf with ⟨ref, hl, hsame⟩ | ⟨host, hl⟩
    · refine W.putK hx hb (f := fd) ⟨hown, hts _ hl, ⟨cf, kf, fi, ?_⟩, hst⟩ (by rw [q2]; exact h6) q1 q3 hlt rfl rfl hd fun H' g1 g2 g3 => K H' _ (hgo H' g1 g2 g3)
      rcases hsame with q | q
      · rw [q]; exact hi
      · exact u_same (args := args) (hts _ q) _ hi
    · have hw : (Cond.fieldLinkNest (cnm (mcls y)) k (fOwn (fdOf (hT G a) k0)) (fNam (fdOf (hT G a) k0)) (fDsc (fdOf (hT G a) k0)) host).before args s = true :=
        va_Nw.use rfl (va_Nw.warmF hW (va_Nw.of rfl (hB.1 _ hl)))
      exact va_WputK hx hb (f := fd) hown hw hi hst (by rw [q2]; exact h6) q1 q3 hlt rfl rfl hd fun H' g1 g2 g3 => K H' _ (hgo H' g1 g2 g3)
end
