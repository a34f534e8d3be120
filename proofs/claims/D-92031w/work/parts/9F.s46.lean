/-! soundness 46: System.arraycopy that throws -/
theorem txt_a {u : String} (h : u.toList.length ≤ 1000) : (("arraycopy: " ++ u) == notModelled) = false ∧ (stringBytes (stringToUtf16 ("arraycopy: " ++ u))).size ≤ 10000 := by
  have hl : ("arraycopy: " ++ u).toList.length ≤ 1100 := by
    rw [String.toList_append, List.length_append]
    have : "arraycopy: ".toList.length = 11 := by decide
    omega
  refine ⟨?_, ?_⟩
  · rw [beq_eq_false_iff_ne]
    intro h2
    have h3 := congrArg String.toList h2
    rw [String.toList_append] at h3
    have h4 : notModelled.toList = '\u0000' :: " a message that is not modelled".toList := by decide
    have h5 : "arraycopy: ".toList = 'a' :: "rraycopy: ".toList := by decide
    rw [h4, h5] at h3
    simp at h3
  · have b1 := stringBytes_size_le (stringToUtf16 ("arraycopy: " ++ u))
    have b2 := utf16_size_le ("arraycopy: " ++ u)
    omega
theorem txt_b {tx : String} (h1 : tx.toList.length ≤ 1200) (h2 : ∃ t : List Char, tx.toList = 'a' :: t) : (tx == notModelled) = false ∧ (stringBytes (stringToUtf16 tx)).size ≤ 10000 := by
  refine ⟨?_, ?_⟩
  · rw [beq_eq_false_iff_ne]
    intro h
    obtain ⟨t, ht⟩ := h2
    rw [h] at ht
    have h4 : notModelled.toList = '\u0000' :: " a message that is not modelled".toList := by decide
    rw [h4] at ht
    simp at ht
  · have b1 := stringBytes_size_le (stringToUtf16 tx)
    have b2 := utf16_size_le tx
    omega
theorem int_print {x : Int} (h1 : -8589934592 ≤ x) (h2 : x ≤ 8589934592) : (toString x).toList.length ≤ 11 := by
  show (Int.repr x).toList.length ≤ 11
  cases x with
  | ofNat m =>
    have h2' : (m : Int) ≤ 8589934592 := h2
    have := nat_print (n := m) (by omega)
    show (toString m).toList.length ≤ 11
    omega
  | negSucc m =>
    have h1' : -8589934592 ≤ -((m : Int) + 1) := by
      have : Int.negSucc m = -((m : Int) + 1) := Int.negSucc_eq m
      rw [← this]
      exact h1
    have := nat_print (n := m + 1) (by omega)
    show ("-" ++ toString (m + 1)).toList.length ≤ 11
    rw [String.toList_append, List.length_append]
    have : "-".toList.length = 1 := by decide
    omega
theorem kind_len (ty : FieldType) : (Native.java_lang_System.arraycopy.kindName ty).toList.length ≤ 20 := by
  cases ty <;> first | decide | (show "object array".toList.length ≤ 20; decide)
section
variable {e : Env} {s : State}
theorem cp_null {v1 v2 : Value} {i j n : Int32} (h : v1 = .null ∨ (∃ a, v1 = .ref a) ∧ v2 = .null) (E : CtlPost) {Q : Option Value → Pre} {d : Bool} {acts : List Action} (hE : ∀ acts', E (.throwNew "java/lang/NullPointerException" none) acts' s) : wp (Native.java_lang_System.arraycopy.sem #[v1, .int i, v2, .int j, .int n]) Q E e d acts s := by
  rcases h with rfl | ⟨⟨a, rfl⟩, rfl⟩
  · show wp (do Jvm.mark "nat.java_lang_System.arraycopy/null"; Jvm.throwNew "java/lang/NullPointerException") Q E e d acts s
    simp only [wp_bind', W.mark, W.throwNew]
    exact hE _
  · show wp (do Jvm.mark "nat.java_lang_System.arraycopy/null"; Jvm.throwNew "java/lang/NullPointerException") Q E e d acts s
    simp only [wp_bind', W.mark, W.throwNew]
    exact hE _
theorem cp_types {src dst : Addr} {i j n : Int32} {cs cd : Cell} {sT dT : FieldType} (hty : ((refKind sT != refKind dT) || (!refKind sT && sT != dT)) = true) :
    ∃ tx : String, ((tx == notModelled) = false ∧ (stringBytes (stringToUtf16 tx)).size ≤ 10000) ∧ ∀ (s : State) (ks kd : Class) (sC dC : ClassId), ks.kind = .array sC sT → kd.kind = .array dC dT → s.heap[src]? = some cs → s.heap[dst]? = some cd → (∀ k, cs.vm ≠ .statics k) → (∀ k, cd.vm ≠ .statics k) → s.vm.classes[cs.cls]? = some ks → s.vm.classes[cd.cls]? = some kd → ∀ (E : CtlPost) {Q : Option Value → Pre} {d : Bool} {acts : List Action}, (∀ acts', E (.throwNew "java/lang/ArrayStoreException" (some tx)) acts' s) → wp (Native.java_lang_System.arraycopy.sem #[.ref src, .int i, .ref dst, .int j, .int n]) Q E e d acts s := by
  apply Exists.intro
  apply And.intro
  rotate_left
  · intro s ks kd sC dC hsk hdk hs hd hso hdo hks hkd E Q d acts hE
    rw [Native.java_lang_System.arraycopy.sem_refs]
    unfold Native.java_lang_System.arraycopy.behind
    simp only [wp_bind', W.classOf, W.theClass, hs, hd, hks, hkd, Option.some.injEq, exists_eq_left', hsk, hdk]
    refine ⟨hso, hdo, ?_⟩
    unfold refKind at hty
    simp only [hty, if_true]
    simp only [wp_bind', W.mark, W.throwNew]
    exact hE _
  · have a1 := kind_len sT
    have a2 := kind_len dT
    have a3 : (toString "arraycopy: type mismatch: can not copy ").toList.length = 39 := by decide
    have a4 : (toString "[] into ").toList.length = 8 := by decide
    have a5 : (toString "[]").toList.length = 2 := by decide
    have a6 : (toString (Native.java_lang_System.arraycopy.kindName sT)).toList.length ≤ 20 := a1
    have a7 : (toString (Native.java_lang_System.arraycopy.kindName dT)).toList.length ≤ 20 := a2
    refine txt_b ?_ ⟨"rraycopy: type mismatch: can not copy ".toList ++ (Native.java_lang_System.arraycopy.kindName sT).toList ++ "[] into ".toList ++ (Native.java_lang_System.arraycopy.kindName dT).toList ++ "[]".toList, ?_⟩
    · simp only [String.toList_append, List.length_append]
      omega
    · simp only [String.toList_append]
      rfl
theorem cp_bounds {src dst : Addr} {i j n : Int32} {cs cd : Cell} {sT dT : FieldType} (hty : ((refKind sT != refKind dT) || (!refKind sT && sT != dT)) = false) (hl1 : cs.slots.size < 2 ^ 31) (hl2 : cd.slots.size < 2 ^ 31) (hbad : ¬ (0 ≤ i ∧ 0 ≤ j ∧ 0 ≤ n ∧ i.toInt + n.toInt ≤ cs.slots.size ∧ j.toInt + n.toInt ≤ cd.slots.size)) :
    ∃ tx : String, ((tx == notModelled) = false ∧ (stringBytes (stringToUtf16 tx)).size ≤ 10000) ∧ ∀ (s : State) (ks kd : Class) (sC dC : ClassId), ks.kind = .array sC sT → kd.kind = .array dC dT → s.heap[src]? = some cs → s.heap[dst]? = some cd → (∀ k, cs.vm ≠ .statics k) → (∀ k, cd.vm ≠ .statics k) → s.vm.classes[cs.cls]? = some ks → s.vm.classes[cd.cls]? = some kd → ∀ (E : CtlPost) {Q : Option Value → Pre} {d : Bool} {acts : List Action}, (∀ acts', E (.throwNew "java/lang/ArrayIndexOutOfBoundsException" (some tx)) acts' s) → wp (Native.java_lang_System.arraycopy.sem #[.ref src, .int i, .ref dst, .int j, .int n]) Q E e d acts s := by
  have k1 := kind_len sT
  have k2 := kind_len dT
  have p1 := int32_print i
  have p2 := int32_print j
  have p3 := int32_print n
  have q1 := nat_print (n := cs.slots.size) (by omega)
  have q2 := nat_print (n := cd.slots.size) (by omega)
  have r1 : (toString (i.toInt + n.toInt)).toList.length ≤ 11 := by
    have a1 := Int32.toInt_lt i
    have a2 := Int32.le_toInt i
    have a3 := Int32.toInt_lt n
    have a4 := Int32.le_toInt n
    exact int_print (by omega) (by omega)
  have r2 : (toString (j.toInt + n.toInt)).toList.length ≤ 11 := by
    have a1 := Int32.toInt_lt j
    have a2 := Int32.le_toInt j
    have a3 := Int32.toInt_lt n
    have a4 := Int32.le_toInt n
    exact int_print (by omega) (by omega)
  have kk1 : (toString (Native.java_lang_System.arraycopy.kindName sT)).toList.length ≤ 20 := k1
  have kk2 : (toString (Native.java_lang_System.arraycopy.kindName dT)).toList.length ≤ 20 := k2
  have hs0 : ∀ x : String, toString x = x := fun _ => rfl
  have c1 : "".toList.length = 0 := by decide
  have c2 : "[".toList.length = 1 := by decide
  have c3 : "]".toList.length = 1 := by decide
  have c4 : "source index ".toList.length = 13 := by decide
  have c5 : " out of bounds for ".toList.length = 19 := by decide
  have c6 : "destination index ".toList.length = 18 := by decide
  have c7 : "length ".toList.length = 7 := by decide
  have c8 : " is negative".toList.length = 12 := by decide
  have c9 : "last source index ".toList.length = 18 := by decide
  have c10 : "last destination index ".toList.length = 23 := by decide
  have hgen : ∃ u : String, u.toList.length ≤ 1000 ∧ ∀ (s : State) (ks kd : Class) (sC dC : ClassId), ks.kind = .array sC sT → kd.kind = .array dC dT → s.heap[src]? = some cs → s.heap[dst]? = some cd → (∀ k, cs.vm ≠ .statics k) → (∀ k, cd.vm ≠ .statics k) → s.vm.classes[cs.cls]? = some ks → s.vm.classes[cd.cls]? = some kd → ∀ (E : CtlPost) {Q : Option Value → Pre} {d : Bool} {acts : List Action}, (∀ acts', E (.throwNew "java/lang/ArrayIndexOutOfBoundsException" (some ("arraycopy: " ++ u))) acts' s) → wp (Native.java_lang_System.arraycopy.sem #[.ref src, .int i, .ref dst, .int j, .int n]) Q E e d acts s := by
    unfold refKind at hty
    by_cases b1 : i < 0
    · apply Exists.intro
      apply And.intro
      rotate_left
      · intro s ks kd sC dC hsk hdk hs hd hso hdo hks hkd E Q d acts hE
        rw [Native.java_lang_System.arraycopy.sem_refs]
        unfold Native.java_lang_System.arraycopy.behind
        simp only [wp_bind', W.classOf, W.theClass, hs, hd, hks, hkd, Option.some.injEq, exists_eq_left', hsk, hdk]
        refine ⟨hso, hdo, ?_⟩
        simp only [hty, Bool.false_eq_true, if_false, wp_bind', W.sizeOf, hs, hd, Option.some.injEq, exists_eq_left', b1, if_true, W.mark, W.throwNew]
        exact hE _
      · simp only [hs0, String.toList_append, List.length_append]
        simp only [hs0] at kk1 kk2
        omega
    by_cases b2 : j < 0
    · apply Exists.intro
      apply And.intro
      rotate_left
      · intro s ks kd sC dC hsk hdk hs hd hso hdo hks hkd E Q d acts hE
        rw [Native.java_lang_System.arraycopy.sem_refs]
        unfold Native.java_lang_System.arraycopy.behind
        simp only [wp_bind', W.classOf, W.theClass, hs, hd, hks, hkd, Option.some.injEq, exists_eq_left', hsk, hdk]
        refine ⟨hso, hdo, ?_⟩
        simp only [hty, Bool.false_eq_true, if_false, wp_bind', W.sizeOf, hs, hd, Option.some.injEq, exists_eq_left', b1, b2, if_true, W.mark, W.throwNew]
        exact hE _
      · simp only [hs0, String.toList_append, List.length_append]
        simp only [hs0] at kk1 kk2
        omega
    by_cases b3 : n < 0
    · apply Exists.intro
      apply And.intro
      rotate_left
      · intro s ks kd sC dC hsk hdk hs hd hso hdo hks hkd E Q d acts hE
        rw [Native.java_lang_System.arraycopy.sem_refs]
        unfold Native.java_lang_System.arraycopy.behind
        simp only [wp_bind', W.classOf, W.theClass, hs, hd, hks, hkd, Option.some.injEq, exists_eq_left', hsk, hdk]
        refine ⟨hso, hdo, ?_⟩
        simp only [hty, Bool.false_eq_true, if_false, wp_bind', W.sizeOf, hs, hd, Option.some.injEq, exists_eq_left', b1, b2, b3, if_true, W.mark, W.throwNew]
        exact hE _
      · simp only [hs0, String.toList_append, List.length_append]
        omega
    by_cases b4 : i.toInt + n.toInt > cs.slots.size
    · apply Exists.intro
      apply And.intro
      rotate_left
      · intro s ks kd sC dC hsk hdk hs hd hso hdo hks hkd E Q d acts hE
        rw [Native.java_lang_System.arraycopy.sem_refs]
        unfold Native.java_lang_System.arraycopy.behind
        simp only [wp_bind', W.classOf, W.theClass, hs, hd, hks, hkd, Option.some.injEq, exists_eq_left', hsk, hdk]
        refine ⟨hso, hdo, ?_⟩
        simp only [hty, Bool.false_eq_true, if_false, wp_bind', W.sizeOf, hs, hd, Option.some.injEq, exists_eq_left', b1, b2, b3, b4, if_true, W.mark, W.throwNew]
        exact hE _
      · simp only [hs0, String.toList_append, List.length_append]
        simp only [hs0] at kk1 kk2
        omega
    have b5 : j.toInt + n.toInt > cd.slots.size := by
      refine Classical.byContradiction fun q => hbad ⟨i32_nlt.mp b1, i32_nlt.mp b2, i32_nlt.mp b3, by omega, by omega⟩
    · apply Exists.intro
      apply And.intro
      rotate_left
      · intro s ks kd sC dC hsk hdk hs hd hso hdo hks hkd E Q d acts hE
        rw [Native.java_lang_System.arraycopy.sem_refs]
        unfold Native.java_lang_System.arraycopy.behind
        simp only [wp_bind', W.classOf, W.theClass, hs, hd, hks, hkd, Option.some.injEq, exists_eq_left', hsk, hdk]
        refine ⟨hso, hdo, ?_⟩
        simp only [hty, Bool.false_eq_true, if_false, wp_bind', W.sizeOf, hs, hd, Option.some.injEq, exists_eq_left', b1, b2, b3, b4, b5, if_true, W.mark, W.throwNew]
        exact hE _
      · simp only [hs0, String.toList_append, List.length_append]
        simp only [hs0] at kk1 kk2
        omega
  obtain ⟨u, h1, h2⟩ := hgen
  exact ⟨_, txt_a h1, h2⟩
end
