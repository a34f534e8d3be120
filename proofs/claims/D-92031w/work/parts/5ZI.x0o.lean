/-! the class: things come -/
def i3 (G : AH) (r : Nat) (x y z : Int32) : AH := sI (sI (sI (sJ (sR G r 176 (some 3)) r 172 (-1)) r 171 x) r 174 y) r 175 z
def thK (G : AH) (k : Nat) (n a mo ti : Int32) : AH := if k = 0 then i3 (mkx G 3 0 1 6) (hN G) n mo ti else if k = 1 then sI (i3 (sR (mkx G 4 0 1 8) (hN G) 178 (some 3)) (hN G) n (-9) (-9)) (hN G) 177 a else sI (i3 (sR (sR (mkx G 5 0 1 9) (hN G) 179 (some 3)) (hN G) 178 (some 3)) (hN G) n (-9) (-9)) (hN G) 177 a
section
variable {d n r m : Nat} {G G' K H : AH} {s s' σ : SGT} {h h' : Nat → Nat → Int64} {w w' : Int32} {et em : Nat} {rt rm : Nat → Nat} {l f : List Nat} {P : Nat → Bool}
theorem i3_I {x y z : Int32} {a i : Nat} : hI (i3 G r x y z) a i = if a = r ∧ i = 175 then z else if a = r ∧ i = 174 then y else if a = r ∧ i = 171 then x else hI G a i := rfl
theorem i3_J {x y z : Int32} {a i : Nat} : hJ (i3 G r x y z) a i = if a = r ∧ i = 172 then -1 else hJ G a i := rfl
theorem i3_R {x y z : Int32} {a i : Nat} : hR (i3 G r x y z) a i = if a = r ∧ i = 176 then some 3 else hR G a i := rfl
theorem i3_T {x y z : Int32} : hT (i3 G r x y z) = hT G := rfl
theorem i3_L {x y z : Int32} : hL (i3 G r x y z) = hL G := rfl
theorem i3_N {x y z : Int32} : hN (i3 G r x y z) = hN G := rfl
theorem x_init3 {x y z : Int32} (htg : List.contains [3, 4, 5] (hT G r) = true) : cl d 279 [vr (some r), vr (some 3), vi x, vi y, vi z] G = some (.inl none, i3 G r x y z) := by
  obtain ⟨o1, o2, o3, o4, o5, o6⟩ := th_ok htg
  rw [en279]
  simp (disch := omega) only [rX3_init_0, rX3_init_1, rX3_init_2, rX3_init_5, rX3_init_6, rX3_init_9, rX3_init_10, rX3_init_13, rX3_init_16, rX3_init_17, rX3_init_18, rX3_init_21, rX3_init_22, rX3_init_23, rX3_init_26, rX3_init_27, rX3_init_29, rX3_init_32, psh_some, psh_none, bnd_r1, bnd_r0, b01_0, b01_1, lg_lt, lg_eq, lg_gt, lg_ge, lg_le, reduceIte, Bool.false_eq_true, and_true, true_and, and_false, false_and, not_true_eq_false, not_false_eq_true, eq_self, hT_sI, hT_sJ, hT_sR, o1, o2, o3, o4, o5, o6]
  rfl
theorem x_init4 {x a : Int32} (hT4 : hT G r = 4 ∨ hT G r = 5) (hd : 1 ≤ d) : cl d 287 [vr (some r), vr (some 3), vi x, vi a] G = some (.inl none, sI (i3 (sR G r 178 (some 3)) r x (-9) (-9)) r 177 a) := by
  have htg : List.contains [3, 4, 5] (hT (sR G r 178 (some 3)) r) = true := by
    rw [hT_sR]
    rcases hT4 with q | q <;> rw [q] <;> decide
  have h3 := x_init3 (d := d - 1) (x := x) (y := -9) (z := -9) htg
  have o1 : okF (hT G r) 178 = true := by rcases hT4 with q | q <;> rw [q] <;> decide
  have o2 : okF (hT G r) 177 = true := by rcases hT4 with q | q <;> rw [q] <;> decide
  have e3 : hT (i3 (sR G r 178 (some 3)) r x (-9) (-9)) r = hT G r := rfl
  rw [en287]
  simp (disch := omega) only [rX4_init_0, rX4_init_1, rX4_init_2, rX4_init_5, rX4_init_6, rX4_init_7, rX4_init_8, rX4_init_10, rX4_init_12, rX4_init_15, rX4_init_16, rX4_init_17, rX4_init_20, psh_some, psh_none, bnd_r1, bnd_r0, b01_0, b01_1, lg_lt, lg_eq, lg_gt, lg_ge, lg_le, reduceIte, Bool.false_eq_true, and_true, true_and, and_false, false_and, not_true_eq_false, not_false_eq_true, eq_self, o1, o2, h3, e3]
theorem x_init5 {x a : Int32} (hT5 : hT G r = 5) (hd : 2 ≤ d) : cl d 290 [vr (some r), vr (some 3), vi x, vi a] G = some (.inl none, sI (i3 (sR (sR G r 179 (some 3)) r 178 (some 3)) r x (-9) (-9)) r 177 a) := by
  have h4 := x_init4 (d := d - 1) (G := sR G r 179 (some 3)) (r := r) (x := x) (a := a) (Or.inr hT5) (by omega)
  have o1 : okF (hT G r) 179 = true := by rw [hT5]; decide
  rw [en290]
  simp (disch := omega) only [rX5_init_0, rX5_init_1, rX5_init_2, rX5_init_5, rX5_init_6, rX5_init_7, rX5_init_8, rX5_init_9, rX5_init_12, psh_some, psh_none, bnd_r1, bnd_r0, b01_0, b01_1, lg_lt, lg_eq, lg_gt, lg_ge, lg_le, reduceIte, Bool.false_eq_true, and_true, true_and, and_false, false_and, not_true_eq_false, not_false_eq_true, eq_self, o1, h4]
/-- what was there stays -/
def Old (c z : Nat) (G K : AH) : Prop := hN G ≤ hN K ∧ Gb c z G K ∧ ∀ b, b < hN G → hT K b = hT G b ∧ hL K b = hL G b ∧ (∀ i, hI K b i = hI G b i) ∧ (∀ i, hJ K b i = hJ G b i) ∧ ∀ i, hR K b i = hR G b i
theorem thK_old {k : Nat} {x a mo ti : Int32} (hk : k ≤ 2) : Old 1 20 G (thK G k x a mo ti) ∧ hN (thK G k x a mo ti) = hN G + 1 := by
  unfold thK
  rcases (show k = 0 ∨ k = 1 ∨ k = 2 by omega) with rfl | rfl | rfl
  · rw [if_pos rfl]
    refine ⟨⟨Nat.le_succ _, ⟨Nat.le_add_right _ _, Nat.le_refl _, Nat.le_add_right _ _, Nat.add_le_add_left (by decide) _⟩, fun b hb => ?_⟩, rfl⟩
    have : ¬ b = hN G := by omega
    exact ⟨by rw [i3_T, hT_mkx, if_neg this], by rw [i3_L, hL_mkx, if_neg this], fun i => by rw [i3_I, if_neg (by omega), if_neg (by omega), if_neg (by omega), hI_mkx, if_neg this], fun i => by rw [i3_J, if_neg (by omega), hJ_mkx, if_neg this], fun i => by rw [i3_R, if_neg (by omega), hR_mkx, if_neg this]⟩
  · rw [if_neg (by decide), if_pos rfl]
    refine ⟨⟨Nat.le_succ _, ⟨Nat.le_add_right _ _, Nat.le_refl _, Nat.le_add_right _ _, Nat.add_le_add_left (by decide) _⟩, fun b hb => ?_⟩, rfl⟩
    have : ¬ b = hN G := by omega
    exact ⟨by rw [hT_sI, i3_T, hT_sR, hT_mkx, if_neg this], by rw [hL_sI, i3_L, hL_sR, hL_mkx, if_neg this], fun i => by rw [hI_sI, if_neg (by omega), i3_I, if_neg (by omega), if_neg (by omega), if_neg (by omega), hI_sR, hI_mkx, if_neg this], fun i => by rw [hJ_sI, i3_J, if_neg (by omega), hJ_sR, hJ_mkx, if_neg this], fun i => by rw [hR_sI, i3_R, if_neg (by omega), hR_sR, if_neg (by omega), hR_mkx, if_neg this]⟩
  · rw [if_neg (by decide), if_neg (by decide)]
    refine ⟨⟨Nat.le_succ _, ⟨Nat.le_add_right _ _, Nat.le_refl _, Nat.le_add_right _ _, Nat.add_le_add_left (by decide) _⟩, fun b hb => ?_⟩, rfl⟩
    have : ¬ b = hN G := by omega
    exact ⟨by rw [hT_sI, i3_T, hT_sR, hT_sR, hT_mkx, if_neg this], by rw [hL_sI, i3_L, hL_sR, hL_sR, hL_mkx, if_neg this], fun i => by rw [hI_sI, if_neg (by omega), i3_I, if_neg (by omega), if_neg (by omega), if_neg (by omega), hI_sR, hI_sR, hI_mkx, if_neg this], fun i => by rw [hJ_sI, i3_J, if_neg (by omega), hJ_sR, hJ_sR, hJ_mkx, if_neg this], fun i => by rw [hR_sI, i3_R, if_neg (by omega), hR_sR, if_neg (by omega), hR_sR, if_neg (by omega), hR_mkx, if_neg this]⟩
theorem thK_th {k t a mo ti : Nat} (hk : k ≤ 2) (h184 : 184 ≤ hN G) (e2 : σ 2 t = k) (e3 : σ 3 t = a) (e6 : σ 6 t = mo) (e7 : σ 7 t = ti) (hm : 0 < k → mo = 1000 ∧ ti = 1000) : TH σ t (hN G) (thK G k (nI t) (nI a) (nN mo) (nN ti)) ∧ hJ (thK G k (nI t) (nI a) (nN mo) (nN ti)) (hN G) 172 = -1 ∧ hI (thK G k (nI t) (nI a) (nN mo) (nN ti)) (hN G) 173 = nI 0 := by
  unfold TH
  rw [e2, e3, e6, e7]
  unfold thK
  rcases (show k = 0 ∨ k = 1 ∨ k = 2 by omega) with rfl | rfl | rfl
  · rw [if_pos rfl]
    refine ⟨⟨h184, Nat.lt_succ_self _, by rw [i3_T, hT_mkx, if_pos rfl], by rw [i3_I, if_neg (by omega), if_neg (by omega), if_pos ⟨rfl, rfl⟩], by rw [i3_I, if_neg (by omega), if_pos ⟨rfl, rfl⟩], by rw [i3_I, if_pos ⟨rfl, rfl⟩], by rw [i3_R, if_pos ⟨rfl, rfl⟩], fun q => absurd q (by omega), fun q => absurd q (by omega)⟩, by rw [i3_J, if_pos ⟨rfl, rfl⟩], by rw [i3_I, if_neg (by omega), if_neg (by omega), if_neg (by omega), hI_mkx, if_pos rfl]; rfl⟩
  · obtain ⟨hm1, hm2⟩ := hm (by omega)
    subst hm1
    subst hm2
    rw [if_neg (by omega), if_pos rfl]
    refine ⟨⟨h184, Nat.lt_succ_self _, by rw [hT_sI, i3_T, hT_sR, hT_mkx, if_pos rfl], by rw [hI_sI, if_neg (by omega), i3_I, if_neg (by omega), if_neg (by omega), if_pos ⟨rfl, rfl⟩], by rw [hI_sI, if_neg (by omega), i3_I, if_neg (by omega), if_pos ⟨rfl, rfl⟩]; rfl, by rw [hI_sI, if_neg (by omega), i3_I, if_pos ⟨rfl, rfl⟩]; rfl, by rw [hR_sI, i3_R, if_pos ⟨rfl, rfl⟩], fun _ => ⟨by rw [hI_sI, if_pos ⟨rfl, rfl⟩], by rw [hR_sI, i3_R, if_neg (by omega), hR_sR, if_pos ⟨rfl, rfl⟩]⟩, fun q => absurd q (by omega)⟩, by rw [hJ_sI, i3_J, if_pos ⟨rfl, rfl⟩], by rw [hI_sI, if_neg (by omega), i3_I, if_neg (by omega), if_neg (by omega), if_neg (by omega), hI_sR, hI_mkx, if_pos rfl]; rfl⟩
  · obtain ⟨hm1, hm2⟩ := hm (by omega)
    subst hm1
    subst hm2
    rw [if_neg (by omega), if_neg (by omega)]
    refine ⟨⟨h184, Nat.lt_succ_self _, by rw [hT_sI, i3_T, hT_sR, hT_sR, hT_mkx, if_pos rfl], by rw [hI_sI, if_neg (by omega), i3_I, if_neg (by omega), if_neg (by omega), if_pos ⟨rfl, rfl⟩], by rw [hI_sI, if_neg (by omega), i3_I, if_neg (by omega), if_pos ⟨rfl, rfl⟩]; rfl, by rw [hI_sI, if_neg (by omega), i3_I, if_pos ⟨rfl, rfl⟩]; rfl, by rw [hR_sI, i3_R, if_pos ⟨rfl, rfl⟩], fun _ => ⟨by rw [hI_sI, if_pos ⟨rfl, rfl⟩], by rw [hR_sI, i3_R, if_neg (by omega), hR_sR, if_pos ⟨rfl, rfl⟩]⟩, fun _ => by rw [hR_sI, i3_R, if_neg (by omega), hR_sR, if_neg (by omega), hR_sR, if_pos ⟨rfl, rfl⟩]⟩, by rw [hJ_sI, i3_J, if_pos ⟨rfl, rfl⟩], by rw [hI_sI, if_neg (by omega), i3_I, if_neg (by omega), if_neg (by omega), if_neg (by omega), hI_sR, hI_sR, hI_mkx, if_pos rfl]; rfl⟩
/-- a new thing's words -/
theorem addT_at {k a mo ti : Nat} : addT s k a mo ti 2 (s 0 2) = k ∧ addT s k a mo ti 3 (s 0 2) = a ∧ addT s k a mo ti 5 (s 0 2) = 0 ∧ addT s k a mo ti 6 (s 0 2) = mo ∧ addT s k a mo ti 7 (s 0 2) = ti ∧ addT s k a mo ti 8 (s 0 2) = 1000 := by
  unfold addT up
  simp
theorem addT_u {k a mo ti t : Nat} (h : t ≠ s 0 2) : addT s k a mo ti 2 t = s 2 t ∧ addT s k a mo ti 3 t = s 3 t ∧ addT s k a mo ti 5 t = s 5 t ∧ addT s k a mo ti 6 t = s 6 t ∧ addT s k a mo ti 7 t = s 7 t ∧ addT s k a mo ti 8 t = s 8 t := by
  unfold addT up
  simp [h]
theorem addT_b {k a mo ti : Nat} : addT s k a mo ti 4 (4 * s 0 2) = 0 ∧ addT s k a mo ti 4 (4 * s 0 2 + 1) = 0 ∧ addT s k a mo ti 4 (4 * s 0 2 + 2) = 7 ∧ addT s k a mo ti 4 (4 * s 0 2 + 3) = 7 ∧ ∀ j, (j < 4 * s 0 2 ∨ 4 * s 0 2 + 3 < j) → addT s k a mo ti 4 j = s 4 j := by
  refine ⟨?_, ?_, ?_, ?_, fun j hj => ?_⟩
  · unfold addT up; simp
  · unfold addT up; simp
  · unfold addT up; simp
  · unfold addT up; simp
  · unfold addT
    rw [up_ne (by decide), up_ne (by decide), up_ne (by decide), up_ne (by decide), up_ne (by decide), up_nj (by omega), up_nj (by omega), up_nj (by omega), up_nj (by omega), up_ne (by decide), up_ne (by decide)]
theorem addT_z {k a mo ti : Nat} : (∀ j, j ≠ 2 → addT s k a mo ti 0 j = s 0 j) ∧ ∀ g, g = 1 ∨ 9 ≤ g → addT s k a mo ti g = s g := by
  refine ⟨fun j hj => ?_, fun g hg => addT_f g (by omega) (by omega) (by omega) (by omega) (by omega) (by omega) (by omega) (by omega)⟩
  unfold addT
  rw [up_nj hj, up_ne (by decide), up_ne (by decide), up_ne (by decide), up_ne (by decide), up_ne (by decide), up_ne (by decide), up_ne (by decide), up_ne (by decide), up_ne (by decide), up_ne (by decide)]
theorem addT_in {k a mo ti : Nat} : (∀ t, t ≠ s 0 2 → inbox (addT s k a mo ti) t = inbox s t) ∧ wd (inbox (addT s k a mo ti) (s 0 2)) = -1 := by
  obtain ⟨b0, b1, b2, b3, b4⟩ := addT_b (s := s) (k := k) (a := a) (mo := mo) (ti := ti)
  refine ⟨fun t ht => ?_, ?_⟩
  · funext c
    unfold inbox
    rw [b4 _ (by omega), b4 _ (by omega), b4 _ (by omega), b4 _ (by omega)]
  · rw [← wd_all]
    refine wd_congr fun c hc => ?_
    unfold inbox
    rw [b0, b1, b2, b3, decide_eq_true (by omega), decide_eq_true (by omega)]
    rfl
theorem Old.lv {c z : Nat} (k : Old c z G K) : Lv et em G K := ⟨k.1, fun a ha => ⟨(k.2.2 a ha).1, (k.2.2 a ha).2.1⟩, fun a i _ q _ _ => (k.2.2 a q).2.2.2.2 i, fun a i _ q _ _ => (k.2.2 a q).2.2.1 i, fun a i _ q _ _ => (k.2.2 a q).2.2.2.1 i⟩
/-- a list has got one more: all that lies about -/
theorem LA.lv {p e e' x : Nat} (k : LA K G' p e e' n x) (hp : p < 184) (h : e = et ∨ e = em) : Lv et em K G' := by
  obtain ⟨⟨k1, k2, k3⟩, k4, -⟩ := k
  exact ⟨k1, fun a ha => ⟨(k4 a ha).1, (k4 a ha).2.1⟩, fun a i q1 q2 q3 q4 => (k4 a q2).2.2.2.2 i (by omega) (by omega), fun a i q1 q2 _ _ => (k4 a q2).2.2.1 i (by omega), fun a i q1 q2 _ _ => (k4 a q2).2.2.2.1 i⟩
set_option maxHeartbeats 1000000 in
theorem x_addT {s0 : SGT} {k a mo ti : Nat} (hSI : SI s0) (hD : DK s w et em rt rm G) (hS : SB s) (hX : CX s0 h et em G) (hn : s 0 2 < 24) (hk : k ≤ 2) (m1 : hN K = hN G + 1) (m2 : Old 1 20 G K) (m3 : TH (addT s k a mo ti) (s 0 2) (hN G) K) (m4 : hJ K (hN G) 172 = -1) (m5 : hI K (hN G) 173 = nI 0) (hd : 6 ≤ d) : ∃ G' et' rt', cl d 338 [vr (some 5), vr (some (hN G))] K = some (.inl (some (vi (nI 1))), G') ∧ DK (addT s k a mo ti) w et' em rt' rm G' ∧ CX s0 h et' em G' ∧ Fq 2 1020 G G' ∧ XS K ∧ (∀ a i, a < 136 → a ≠ 5 → hI G' a i = hI G a i) := by
  have hD0 := hD
  obtain ⟨b1, b2, b3, ⟨b4, b5⟩, ⟨b6, b7⟩, b8, b9⟩ := hD
  obtain ⟨-, mg, mo2⟩ := m2
  have hTL : ∀ a, a < hN G → hT K a = hT G a ∧ hL K a = hL G a := fun a ha => ⟨(mo2 a ha).1, (mo2 a ha).2.1⟩
  have hXK : XS K := XS.of b1 (fun a f q => (mo2 a (by omega)).2.2.2.2 f) (fun a q => hTL a (by omega))
  have hLK : LSt K 5 (s 0 2) et := b4.of (by omega) hTL ((mo2 _ (by omega)).2.2.1 _) ((mo2 _ (by omega)).2.2.2.2 _) b2
  have he1 := b4.2.2.2.2.2.2.2.1
  have he2 := b6.2.2.2.2.2.2.2.1
  have hEl : Els K et (s 0 2) := fun z hz => by
    obtain ⟨c1, c2, -⟩ := b5 z hz
    have hb := (hS.2.2.1 z hz).1
    refine ⟨rt z, by rw [(mo2 et he1).2.2.2.2]; exact c1, by have := c2.2.1; omega, ?_⟩
    rw [(mo2 _ c2.2.1).1, c2.2.2.1]
    rcases (show s 2 z = 0 ∨ s 2 z = 1 ∨ s 2 z = 2 by omega) with q | q | q <;> rw [q] <;> decide
  have hTn : hT K (hN G) = 3 + k := by rw [m3.2.2.1, addT_at.1]
  have hnt : List.contains tgs (hT K (hN G)) = true := by
    rw [hTn]
    rcases (show k = 0 ∨ k = 1 ∨ k = 2 by omega) with q | q | q <;> rw [q] <;> decide
  obtain ⟨G', et', e1, hLA⟩ := c_add (d := d) hLK (by omega) (by omega) hEl (x := hN G) hnt (by omega) hd
  have hlv : Lv et em K G' := hLA.lv (by omega) (Or.inl rfl)
  have hlv0 : Lv et em G K := Old.lv ⟨by omega, mg, mo2⟩
  have hlv2 : Lv et em G G' := hlv0.trans hlv (Or.inl rfl) (Or.inr (Or.inl rfl))
  obtain ⟨⟨k1, k2, k3⟩, k4, k5, k6, k7, k8, k9, k10, k11⟩ := hLA
  have he50 := dk_e50 hD0
  have hf50 := dk_f50 hD0
  have hI' : ∀ a i, a < hN G → a ≠ 5 → hI G' a i = hI G a i := fun a i q1 q2 => ((k4 a (by omega)).2.2.1 i q2).trans ((mo2 a q1).2.2.1 i)
  have hJ' : ∀ a i, a < hN G → hJ G' a i = hJ G a i := fun a i q1 => ((k4 a (by omega)).2.2.2.1 i).trans ((mo2 a q1).2.2.2.1 i)
  have hR' : ∀ a i, a < hN G → a ≠ 5 → (a ≠ et ∨ et = 1) → hR G' a i = hR G a i := fun a i q1 q2 q3 => ((k4 a (by omega)).2.2.2.2 i q2 q3).trans ((mo2 a q1).2.2.2.2 i)
  have hT' : ∀ a, a < hN G → hT G' a = hT G a ∧ hL G' a = hL G a := fun a q => ⟨((k4 a (by omega)).1).trans (hTL a q).1, ((k4 a (by omega)).2.1).trans (hTL a q).2⟩
  obtain ⟨z0, zg⟩ := addT_z (s := s) (k := k) (a := a) (mo := mo) (ti := ti)
  have hXG : XS G' := XS.of b1 (fun a f q => hR' a f (by omega) (by omega) (by omega)) (fun a q => hT' a (by omega))
  have n2 : addT s k a mo ti 0 2 = s 0 2 + 1 := addT_n.2
  have n3 : addT s k a mo ti 0 3 = s 0 3 := addT_n.1
  have hkp : ∀ m, kpt (addT s k a mo ti) m = kpt s m := fun m => by
    funext c e
    unfold kpt
    rw [zg 9 (by omega), zg 12 (by omega), zg 13 (by omega), fre_agr (z0 0 (by omega)) (z0 1 (by omega)) (zg 1 (by omega))]
  refine ⟨G', et', fun t => if t = s 0 2 then hN G else rt t, e1, ⟨hXG, by omega, ?_, ⟨by rw [n2]; exact k5, fun t ht => ?_⟩, ⟨by rw [n3]; exact b6.of (by omega) hT' (hI' _ _ (by omega) (by decide)) (hR' _ _ (by omega) (by decide) (by omega)) b2, fun m hm => ?_⟩, ?_, b9⟩, ?_, ⟨⟨by omega, fun b hb => ?_⟩, (mg.trans k3).mono (by omega) (by omega)⟩, hXK, fun a i q1 q2 => hI' a i (by omega) q2⟩
  · obtain ⟨c1, c2, c3, c4, c5, c6, c7, c8, c9, c10⟩ := b3
    unfold CR
    rw [z0 0 (by omega), z0 1 (by omega), zg 1 (by omega), zg 26 (by omega), zg 15 (by omega), zg 16 (by omega), zg 17 (by omega)]
    have h3 : ∀ i, hI G' 3 i = hI G 3 i := fun i => hI' 3 i (by omega) (by decide)
    refine ⟨(h3 _).trans c1, (h3 _).trans c2, (hJ' 3 _ (by omega)).trans c3, (h3 _).trans c4, (h3 _).trans c5, (h3 _).trans c6, (h3 _).trans c7, (h3 _).trans c8, fun t ht => ?_, fun j hj => ⟨(hI' _ _ (by omega) (by decide)).trans (c10 j hj).1, (hI' _ _ (by omega) (by decide)).trans (c10 j hj).2.1, (hI' _ _ (by omega) (by decide)).trans (c10 j hj).2.2⟩⟩
    rw [hI' _ _ (by omega) (by decide), c9 t ht]
    by_cases q : t = s 0 2
    · rw [q, addT_at.2.2.2.2.2]
      rcases hS.2.2.2.2.1 (s 0 2) hn with y | y
      · rw [y]
      · omega
    · rw [(addT_u q).2.2.2.2.2]
  · rw [n2] at ht
    dsimp only
    by_cases q : t = s 0 2
    · subst q
      rw [if_pos rfl]
      refine ⟨k11, ?_, ?_, ?_⟩
      · have := m3
        exact this.of (by omega) (k4 _ (by omega)).1 (fun i _ => (k4 _ (by omega)).2.2.1 i (by omega)) (fun i => (k4 _ (by omega)).2.2.2.2 i (by omega) (by omega))
      · rw [addT_in.2, (k4 _ (by omega)).2.2.2.1]
        exact m4
      · rw [addT_at.2.2.1, (k4 _ (by omega)).2.2.1 _ (by omega)]
        exact m5
    · rw [if_neg q]
      obtain ⟨c1, c2, c3, c4⟩ := b5 t (by omega)
      obtain ⟨u2, u3, u5, u6, u7, u8⟩ := addT_u (s := s) (k := k) (a := a) (mo := mo) (ti := ti) q
      have h184 := c2.1
      have hlt := c2.2.1
      have hb := (hS.2.2.1 t (by omega)).1
      refine ⟨?_, ?_, ?_, ?_⟩
      · rw [k10 t (by omega), (mo2 et he1).2.2.2.2]
        exact c1
      · have := c2.lv hb hlv2 he50 hf50
        unfold TH
        rw [u2, u3, u6, u7]
        exact this
      · rw [addT_in.1 t q, hJ' _ _ hlt]
        exact c3
      · rw [u5, hI' _ _ hlt (by omega)]
        exact c4
  · rw [n3] at hm
    obtain ⟨c1, c2, c3, c4⟩ := b7 m hm
    have h184 := c2.1
    have hlt := c2.2.1
    have hb := (hS.2.2.2.2.2.1 m hm).1
    refine ⟨?_, ?_, ?_, ?_⟩
    · rw [hR' _ _ he2 (by have := b6.2.2.2.2.2.1; rintro rfl; have := b4.1; omega) (by omega)]
      exact c1
    · have := c2.lv hb hlv2 he50 hf50
      unfold ME
      rw [zg 9 (by omega), zg 10 (by omega), zg 11 (by omega), zg 12 (by omega), zg 13 (by omega)]
      exact this
    · intro c hc
      rw [hkp, hJ' _ _ (by omega), hJ' _ _ (by omega)]
      exact c3 c hc
    · rw [zg 14 (by omega), hI' _ _ (by omega) (by omega)]
      exact c4
  · rcases k6 with q | q
    · rw [q]; exact b8
    · right
      rw [q]
      omega
  · have hX0 := hX
    obtain ⟨⟨f1, f2, f3, f4, g1, g2, g3, g4, g5, g6, g7, g8⟩, c2, -, -, -, nm1, nm2⟩ := hX
    have h3 : ∀ i, hI G' 3 i = hI G 3 i := fun i => hI' 3 i (by omega) (by decide)
    refine hX0.lv hSI b2 he50 hf50 he1 he2 hlv2 ⟨f1, f2, f3, f4, g1, g2, g3, g4, (h3 _).trans g5, (h3 _).trans g6, (h3 _).trans g7, (h3 _).trans g8⟩ ((h3 _).trans c2) (fun j _ => hR' _ _ (by omega) (by omega) (by omega)) (fun j _ => hR' _ _ (by omega) (by omega) (by omega)) (fun j _ => hR' _ _ (by omega) (by decide) (by omega)) ?_ (by omega) (Or.inl rfl) ?_ (Nat.le_of_eq (hT' _ he2).2.symm)
    · rcases (show hN G' = hN G + 1 ∨ hN G' = hN G + 2 by omega) with q | q
      · rw [q, Nat.add_sub_cancel, show hN G + 1 - 2 = hN G - 1 by omega]
        refine ⟨Or.inl (by rw [(k4 _ (by omega)).1, hTn]; omega), nm1.of (hT' _ (by omega)).1⟩
      · rw [q, show hN G + 2 - 1 = hN K by omega, show hN G + 2 - 2 = hN G by omega]
        refine ⟨Or.inr (by rw [k9 (by omega)]; omega), Or.inl (by rw [(k4 _ (by omega)).1, hTn]; omega)⟩
    · rw [← (hTL et he1).2]
      exact k7
  · obtain ⟨q1, q2, q3, q4, q5⟩ := mo2 b (by omega)
    exact ⟨(hT' b (by omega)).1, (hT' b (by omega)).2, fun i => hR' b i (by omega) (by omega) (by omega), fun i => hI' b i (by omega) (by omega), fun i => hJ' b i (by omega)⟩
end
