/-! soundness 3: plain instructions -/
section
variable {Z : SS0} {D : DD} {p : Program} {l : Launch} {e : Env} {R : Room} {s : State} {m : MethodId} {args : Array Value} {below : List Frame} {meth : Method} {c : Code} {Q : State → Prop} {y pc pc2 k : Nat} {L : AL} {st : List AV} {G : AH} {H : Heap} {locs : List Loc} {cells slots : Nat} {ls : Array Slot} {ad : Nat → Nat} {q : Nat × AL × List AV × AH}
/-- how the walk goes on -/
def Nx (Z : SS0) (D : DD) (p : Program) (l : Launch) (e : Env) (R : Room) (s : State) (m : MethodId) (args : Array Value) (below : List Frame) (meth : Method) (c : Code) (Q : State → Prop) (cells slots : Nat) (ad : Nat → Nat) (G : AH) (q : Nat × AL × List AV × AH) : Prop :=
  ∀ (H' : Heap) (locs' : List Loc) (ls' : Array Slot) (ad' : Nat → Nat) (cells' slots' : Nat), Sim Z D ad' q.2.2.2 q.2.1 q.2.2.1 H' locs' ls' → (∀ r, r < hN G → ad' r = ad r) → cells' + hC G = cells + hC q.2.2.2 → slots' + hS G = slots + hS q.2.2.2 →
    W p l e R s m args below meth c H' locs' cells' slots' Q (F0 m q.1 ls' (q.2.2.1.map (cvl ad')))
/-- at the same heap -/
theorem Nx.same {pc' : Nat} {L' : AL} {st' : List AV} {ls' : Array Slot} (K : Nx Z D p l e R s m args below meth c Q cells slots ad G (pc', L', st', G)) (S : Sim Z D ad G L' st' H locs ls') : W p l e R s m args below meth c H locs cells slots Q (F0 m pc' ls' (st'.map (cvl ad))) := K H locs ls' ad cells slots S (fun _ _ => rfl) rfl rfl
theorem gLdI (hs : sLdI k pc2 L st G = some (.inl q)) (S : Sim Z D ad G L st H locs ls) (K : Nx Z D p l e R s m args below meth c Q cells slots ad G q)
    (row : ∀ x, ls[k]? = some (.val (.int x)) → W p l e R s m args below meth c H locs cells slots Q (F0 m pc2 ls (.int x :: st.map (cvl ad))) → W p l e R s m args below meth c H locs cells slots Q (F0 m pc ls (st.map (cvl ad)))) : W p l e R s m args below meth c H locs cells slots Q (F0 m pc ls (st.map (cvl ad))) := by
  unfold sLdI at hs
  split at hs
  · next x hx =>
    cases hs
    exact row x (S.2.1.at hx) (Nx.same K (S.push (v := vi x) Scp.i fun w hw => List.mem_cons.mp hw))
  · cases hs
theorem gLdL (hs : sLdL k pc2 L st G = some (.inl q)) (S : Sim Z D ad G L st H locs ls) (K : Nx Z D p l e R s m args below meth c Q cells slots ad G q)
    (row : ∀ x, ls[k]? = some (.val (.long x)) → W p l e R s m args below meth c H locs cells slots Q (F0 m pc2 ls (.long x :: st.map (cvl ad))) → W p l e R s m args below meth c H locs cells slots Q (F0 m pc ls (st.map (cvl ad)))) : W p l e R s m args below meth c H locs cells slots Q (F0 m pc ls (st.map (cvl ad))) := by
  unfold sLdL at hs
  split at hs
  · next x hx =>
    cases hs
    exact row x (S.2.1.at hx) (Nx.same K (S.push (v := vl x) Scp.l fun w hw => List.mem_cons.mp hw))
  · cases hs
theorem gLdR (hs : sLdR k pc2 L st G = some (.inl q)) (S : Sim Z D ad G L st H locs ls) (K : Nx Z D p l e R s m args below meth c Q cells slots ad G q)
    (row : ∀ v : Value, (v = .null ∨ ∃ a, v = .ref a) → ls[k]? = some (.val v) → W p l e R s m args below meth c H locs cells slots Q (F0 m pc2 ls (v :: st.map (cvl ad))) → W p l e R s m args below meth c H locs cells slots Q (F0 m pc ls (st.map (cvl ad)))) : W p l e R s m args below meth c H locs cells slots Q (F0 m pc ls (st.map (cvl ad))) := by
  unfold sLdR at hs
  split at hs
  · next x hx =>
    cases hs
    have h1 := S.2.1.at hx
    have h2 := S.ld hx
    refine row (cvr ad x) ?_ h1 (Nx.same K (S.push (v := vr x) h2 fun w hw => List.mem_cons.mp hw))
    cases x with
    | none => exact Or.inl rfl
    | some r => exact Or.inr ⟨_, rfl⟩
  · cases hs
theorem gStI (hs : sStI k pc2 L st G = some (.inl q)) (S : Sim Z D ad G L st H locs ls) (K : Nx Z D p l e R s m args below meth c Q cells slots ad G q)
    (row : ∀ (x : Int32) (rest : List Value), k < L.length → (∀ ls', lv_has ls' L.length ((k, Value.int x) :: (prs ad L).filter (fun q => !(q.1 == k) && !(q.1 + 1 == k && q.2.category == 2))) → W p l e R s m args below meth c H locs cells slots Q (F0 m pc2 ls' rest)) → W p l e R s m args below meth c H locs cells slots Q (F0 m pc ls (.int x :: rest))) : W p l e R s m args below meth c H locs cells slots Q (F0 m pc ls (st.map (cvl ad))) := by
  unfold sStI at hs
  split at hs
  · next x st2 =>
    split at hs
    · next L2 hL =>
      cases hs
      obtain ⟨h1, h2, h3, h4⟩ := sto_spec _ _ _ _ hL
      refine row x (st2.map (cvl ad)) h1 fun ls' hl => ?_
      refine Nx.same K (S.locals (LR.of1 (v := vi x) hl hL) (fun i v hi => ?_) (fun w hw => List.mem_cons_of_mem _ hw))
      by_cases hik : i = k
      · subst hik; rw [h3] at hi; cases hi; exact Scp.i
      · exact S.2.2.1 i v (h4 i hik v hi).1
    · cases hs
  · cases hs
theorem gStR (hs : sStR k pc2 L st G = some (.inl q)) (S : Sim Z D ad G L st H locs ls) (K : Nx Z D p l e R s m args below meth c Q cells slots ad G q)
    (row : ∀ (v : Value) (rest : List Value), (v = .null ∨ ∃ a, v = .ref a) → k < L.length → (∀ ls', lv_has ls' L.length ((k, v) :: (prs ad L).filter (fun q => !(q.1 == k) && !(q.1 + 1 == k && q.2.category == 2))) → W p l e R s m args below meth c H locs cells slots Q (F0 m pc2 ls' rest)) → W p l e R s m args below meth c H locs cells slots Q (F0 m pc ls (v :: rest))) : W p l e R s m args below meth c H locs cells slots Q (F0 m pc ls (st.map (cvl ad))) := by
  unfold sStR at hs
  split at hs
  · next x st2 =>
    split at hs
    · next L2 hL =>
      cases hs
      obtain ⟨h1, h2, h3, h4⟩ := sto_spec _ _ _ _ hL
      have hsc : Scp G (vr x) := S.2.2.2.1 _ List.mem_cons_self
      refine row (cvr ad x) (st2.map (cvl ad)) ?_ h1 fun ls' hl => ?_
      · cases x with
        | none => exact Or.inl rfl
        | some r => exact Or.inr ⟨_, rfl⟩
      refine Nx.same K (S.locals (LR.of1 (v := vr x) hl hL) (fun i v hi => ?_) (fun w hw => List.mem_cons_of_mem _ hw))
      by_cases hik : i = k
      · subst hik; rw [h3] at hi; cases hi; exact hsc
      · exact S.2.2.1 i v (h4 i hik v hi).1
    · cases hs
  · cases hs
theorem gStL (hs : sStL k pc2 L st G = some (.inl q)) (S : Sim Z D ad G L st H locs ls) (K : Nx Z D p l e R s m args below meth c Q cells slots ad G q)
    (row : ∀ (x : Int64) (rest : List Value), k + 1 < L.length → (∀ ls', lv_has ls' L.length ((k, Value.long x) :: (prs ad L).filter (fun q => !(q.1 == k) && (!(q.1 == k + 1) && !(q.1 + 1 == k && q.2.category == 2)))) → W p l e R s m args below meth c H locs cells slots Q (F0 m pc2 ls' rest)) → W p l e R s m args below meth c H locs cells slots Q (F0 m pc ls (.long x :: rest))) : W p l e R s m args below meth c H locs cells slots Q (F0 m pc ls (st.map (cvl ad))) := by
  unfold sStL at hs
  split at hs
  · next x st2 =>
    split at hs
    · next L2 hL =>
      cases hs
      obtain ⟨h1, h2, h3, h4⟩ := sto2_spec _ _ _ _ hL
      refine row x (st2.map (cvl ad)) h1 fun ls' hl => ?_
      refine Nx.same K (S.locals (LR.of2 (v := vl x) hl hL) (fun i v hi => ?_) (fun w hw => List.mem_cons_of_mem _ hw))
      by_cases hik : i = k
      · subst hik; rw [h3] at hi; cases hi; exact Scp.l
      · exact S.2.2.1 i v (h4 i hik v hi).1
    · cases hs
  · cases hs
theorem gBin {f : Int32 → Int32 → Int32} (hs : sBin f pc L st G = some (.inl q)) (S : Sim Z D ad G L st H locs ls) (K : Nx Z D p l e R s m args below meth c Q cells slots ad G q)
    (row : ∀ (x z : Int32) (rest : List Value), W p l e R s m args below meth c H locs cells slots Q (F0 m (pc + 1) ls (.int (f x z) :: rest)) → W p l e R s m args below meth c H locs cells slots Q (F0 m pc ls (.int z :: .int x :: rest))) : W p l e R s m args below meth c H locs cells slots Q (F0 m pc ls (st.map (cvl ad))) := by
  unfold sBin at hs
  split at hs
  · next z x st2 =>
    cases hs
    exact row x z _ (Nx.same K (S.sub fun w hw => by
      rcases List.mem_cons.mp hw with e | e
      · rw [e]; exact Scp.i
      · exact S.2.2.2.1 w (List.mem_cons_of_mem _ (List.mem_cons_of_mem _ e))))
  · cases hs
theorem gBinL {f : Int64 → Int64 → Int64} (hs : sBinL f pc L st G = some (.inl q)) (S : Sim Z D ad G L st H locs ls) (K : Nx Z D p l e R s m args below meth c Q cells slots ad G q)
    (row : ∀ (x z : Int64) (rest : List Value), W p l e R s m args below meth c H locs cells slots Q (F0 m (pc + 1) ls (.long (f x z) :: rest)) → W p l e R s m args below meth c H locs cells slots Q (F0 m pc ls (.long z :: .long x :: rest))) : W p l e R s m args below meth c H locs cells slots Q (F0 m pc ls (st.map (cvl ad))) := by
  unfold sBinL at hs
  split at hs
  · next z x st2 =>
    cases hs
    exact row x z _ (Nx.same K (S.sub fun w hw => by
      rcases List.mem_cons.mp hw with e | e
      · rw [e]; exact Scp.l
      · exact S.2.2.2.1 w (List.mem_cons_of_mem _ (List.mem_cons_of_mem _ e))))
  · cases hs
theorem gShL {f : Int64 → Int32 → Int64} (hs : sShL f pc L st G = some (.inl q)) (S : Sim Z D ad G L st H locs ls) (K : Nx Z D p l e R s m args below meth c Q cells slots ad G q)
    (row : ∀ (x : Int64) (z : Int32) (rest : List Value), W p l e R s m args below meth c H locs cells slots Q (F0 m (pc + 1) ls (.long (f x z) :: rest)) → W p l e R s m args below meth c H locs cells slots Q (F0 m pc ls (.int z :: .long x :: rest))) : W p l e R s m args below meth c H locs cells slots Q (F0 m pc ls (st.map (cvl ad))) := by
  unfold sShL at hs
  split at hs
  · next z x st2 =>
    cases hs
    exact row x z _ (Nx.same K (S.sub fun w hw => by
      rcases List.mem_cons.mp hw with e | e
      · rw [e]; exact Scp.l
      · exact S.2.2.2.1 w (List.mem_cons_of_mem _ (List.mem_cons_of_mem _ e))))
  · cases hs
theorem gUn {f : Int32 → Int32} (hs : sUn f pc L st G = some (.inl q)) (S : Sim Z D ad G L st H locs ls) (K : Nx Z D p l e R s m args below meth c Q cells slots ad G q)
    (row : ∀ (x : Int32) (rest : List Value), W p l e R s m args below meth c H locs cells slots Q (F0 m (pc + 1) ls (.int (f x) :: rest)) → W p l e R s m args below meth c H locs cells slots Q (F0 m pc ls (.int x :: rest))) : W p l e R s m args below meth c H locs cells slots Q (F0 m pc ls (st.map (cvl ad))) := by
  unfold sUn at hs
  split at hs
  · next x st2 =>
    cases hs
    exact row x _ (Nx.same K (S.sub fun w hw => by
      rcases List.mem_cons.mp hw with e | e
      · rw [e]; exact Scp.i
      · exact S.2.2.2.1 w (List.mem_cons_of_mem _ e)))
  · cases hs
theorem gPushI {v : Int32} (hs : sGo pc2 L (vi v :: st) G = some (.inl q)) (S : Sim Z D ad G L st H locs ls) (K : Nx Z D p l e R s m args below meth c Q cells slots ad G q)
    (row : W p l e R s m args below meth c H locs cells slots Q (F0 m pc2 ls (.int v :: st.map (cvl ad))) → W p l e R s m args below meth c H locs cells slots Q (F0 m pc ls (st.map (cvl ad)))) : W p l e R s m args below meth c H locs cells slots Q (F0 m pc ls (st.map (cvl ad))) := by
  cases hs
  exact row (Nx.same K (S.push (v := vi v) Scp.i fun w hw => List.mem_cons.mp hw))
theorem gPushL {v : Int64} (hs : sGo pc2 L (vl v :: st) G = some (.inl q)) (S : Sim Z D ad G L st H locs ls) (K : Nx Z D p l e R s m args below meth c Q cells slots ad G q)
    (row : W p l e R s m args below meth c H locs cells slots Q (F0 m pc2 ls (.long v :: st.map (cvl ad))) → W p l e R s m args below meth c H locs cells slots Q (F0 m pc ls (st.map (cvl ad)))) : W p l e R s m args below meth c H locs cells slots Q (F0 m pc ls (st.map (cvl ad))) := by
  cases hs
  exact row (Nx.same K (S.push (v := vl v) Scp.l fun w hw => List.mem_cons.mp hw))
end
