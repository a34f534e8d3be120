set_option maxRecDepth 100000
theorem mw276 : mRow 276 = (cX1_init, 1, 0, 1, []) := rfl
theorem mc276 : mcode 276 = cX1_init := congrArg (fun q => q.1) mw276
theorem mk276 : mcls 276 = 1 := congrArg (fun q => q.2.2.2.1) mw276
theorem mr276 : mret 276 = 0 := congrArg (fun q => q.2.2.1) mw276
theorem mx276 : mmax 276 = 1 := congrArg (fun q => q.2.1) mw276
theorem mh276 : mhnd 276 = [] := congrArg (fun q => q.2.2.2.2) mw276
theorem en276 {d : Nat} {G : AH} {o0 : Option Nat} : cl d 276 [vr o0] G = At d 276 0 [some (vr o0)] [] G := by
  unfold cl
  rw [mx276]
  rfl
theorem rX1_init_0 {d : Nat} {G : AH} {x : Option Nat} {L : AL} {st : List AV} : At d 276 0 (some (vr x) :: L) st G = At d 276 1 (some (vr x) :: L) (vr x :: st) G := At_aload_n mc276 mk276 mr276 dX1_init_0 rfl
theorem rX1_init_1 {d : Nat} {G : AH} {a : Nat} {L : AL} : At d 276 1 L [vr (some a)] G = At d 276 4 L [] G := At_obj (n := 0) mc276 mk276 mr276 dX1_init_1 rfl (Nat.le_of_ble_eq_true rfl)
theorem rX1_init_4 {d : Nat} {G : AH} {L : AL} : At d 276 4 L [] G = some (.inl none, G) := At_vret mc276 mk276 mr276 dX1_init_4
theorem mw277 : mRow 277 = (cX3_isKnown, 1, 4, 3, []) := rfl
theorem mc277 : mcode 277 = cX3_isKnown := congrArg (fun q => q.1) mw277
theorem mk277 : mcls 277 = 3 := congrArg (fun q => q.2.2.2.1) mw277
theorem mr277 : mret 277 = 4 := congrArg (fun q => q.2.2.1) mw277
theorem mx277 : mmax 277 = 1 := congrArg (fun q => q.2.1) mw277
theorem mh277 : mhnd 277 = [] := congrArg (fun q => q.2.2.2.2) mw277
theorem en277 {d : Nat} {G : AH} {o0 : Option Nat} : cl d 277 [vr o0] G = At d 277 0 [some (vr o0)] [] G := by
  unfold cl
  rw [mx277]
  rfl
theorem rX3_isKnown_0 {d : Nat} {G : AH} {L : AL} {st : List AV} : At d 277 0 L st G = At d 277 1 L (vi (nI 0) :: st) G := At_c1 mc277 mk277 mr277 dX3_isKnown_0 (by decide)
theorem rX3_isKnown_1 {d : Nat} {G : AH} {x : Int32} {L : AL} : At d 277 1 L [vi x] G = if b01 x = true then some (.inl (some (vi x)), G) else none := At_zret mc277 mk277 mr277 dX3_isKnown_1
theorem mw278 : mRow 278 = (cX3_told, 1, 2, 3, []) := rfl
theorem mc278 : mcode 278 = cX3_told := congrArg (fun q => q.1) mw278
theorem mk278 : mcls 278 = 3 := congrArg (fun q => q.2.2.2.1) mw278
theorem mr278 : mret 278 = 2 := congrArg (fun q => q.2.2.1) mw278
theorem mx278 : mmax 278 = 1 := congrArg (fun q => q.2.1) mw278
theorem mh278 : mhnd 278 = [] := congrArg (fun q => q.2.2.2.2) mw278
theorem en278 {d : Nat} {G : AH} {o0 : Option Nat} : cl d 278 [vr o0] G = At d 278 0 [some (vr o0)] [] G := by
  unfold cl
  rw [mx278]
  rfl
theorem rX3_told_0 {d : Nat} {G : AH} {x : Option Nat} {L : AL} {st : List AV} : At d 278 0 (some (vr x) :: L) st G = At d 278 1 (some (vr x) :: L) (vr x :: st) G := At_aload_n mc278 mk278 mr278 dX3_told_0 rfl
theorem rX3_told_1 {d : Nat} {G : AH} {a : Nat} {L : AL} {st : List AV} : At d 278 1 L (vr (some a) :: st) G = if okF (hT G a) 176 = true then At d 278 4 L (vr (hR G a 176) :: st) G else none := At_getR mc278 mk278 mr278 dX3_told_1 rfl rfl
theorem rX3_told_4 {d : Nat} {G : AH} (h0 : 0 < d) {a : Nat} {L : AL} : At d 278 4 L [vr (some a)] G = if hT G a = 0 then bnd (cl (d - 1) 13 [vr (some a)] G) (fun v G => At d 278 7 L (psh v []) G) (fun a G => AtX d 278 4 L a G) else none := At_invV1 (k := 33) (t := 0) (z := 13) (n := 1) h0 mc278 mk278 mr278 dX3_told_4 rfl rfl rfl (by decide) (by decide) (Nat.le_of_ble_eq_true rfl) rfl (Nat.le_of_ble_eq_true rfl) (Nat.le_of_ble_eq_true rfl)
theorem rX3_told_7 {d : Nat} {G : AH} {x : Option Nat} {L : AL} {st : List AV} : At d 278 7 (some (vr x) :: L) st G = At d 278 8 (some (vr x) :: L) (vr x :: st) G := At_aload_n mc278 mk278 mr278 dX3_told_7 rfl
theorem rX3_told_8 {d : Nat} {G : AH} {a : Nat} {L : AL} {st : List AV} : At d 278 8 L (vr (some a) :: st) G = if okF (hT G a) 172 = true then At d 278 11 L (vl (hJ G a 172) :: st) G else none := At_getJ mc278 mk278 mr278 dX3_told_8 rfl rfl
theorem rX3_told_11 {d : Nat} {G : AH} {x z : Int64} {L : AL} {st : List AV} : At d 278 11 L (vl z :: vl x :: st) G = At d 278 12 L (vl (x &&& z) :: st) G := At_land mc278 mk278 mr278 dX3_told_11
theorem rX3_told_12 {d : Nat} {G : AH} {x : Int64} {L : AL} : At d 278 12 L [vl x] G = some (.inl (some (vl x)), G) := At_lret mc278 mk278 mr278 dX3_told_12
theorem mw279 : mRow 279 = (cX3_init, 5, 0, 3, []) := rfl
theorem mc279 : mcode 279 = cX3_init := congrArg (fun q => q.1) mw279
theorem mk279 : mcls 279 = 3 := congrArg (fun q => q.2.2.2.1) mw279
theorem mr279 : mret 279 = 0 := congrArg (fun q => q.2.2.1) mw279
theorem mx279 : mmax 279 = 5 := congrArg (fun q => q.2.1) mw279
theorem mh279 : mhnd 279 = [] := congrArg (fun q => q.2.2.2.2) mw279
theorem en279 {d : Nat} {G : AH} {o0 : Option Nat} {o1 : Option Nat} {x2 : Int32} {x3 : Int32} {x4 : Int32} : cl d 279 [vr o0, vr o1, vi x2, vi x3, vi x4] G = At d 279 0 [some (vr o0), some (vr o1), some (vi x2), some (vi x3), some (vi x4)] [] G := by
  unfold cl
  rw [mx279]
  rfl
theorem rX3_init_0 {d : Nat} {G : AH} {x : Option Nat} {L : AL} {st : List AV} : At d 279 0 (some (vr x) :: L) st G = At d 279 1 (some (vr x) :: L) (vr x :: st) G := At_aload_n mc279 mk279 mr279 dX3_init_0 rfl
theorem rX3_init_1 {d : Nat} {G : AH} {l0 : Option AV} {x : Option Nat} {L : AL} {st : List AV} : At d 279 1 (l0 :: some (vr x) :: L) st G = At d 279 2 (l0 :: some (vr x) :: L) (vr x :: st) G := At_aload_n mc279 mk279 mr279 dX3_init_1 rfl
theorem rX3_init_2 {d : Nat} {G : AH} {a : Nat} {x : Option Nat} {L : AL} {st : List AV} : At d 279 2 L (vr x :: vr (some a) :: st) G = if okF (hT G a) 176 = true then At d 279 5 L st (sR G a 176 x) else none := At_putR mc279 mk279 mr279 dX3_init_2 rfl rfl rfl
theorem rX3_init_5 {d : Nat} {G : AH} {x : Option Nat} {L : AL} {st : List AV} : At d 279 5 (some (vr x) :: L) st G = At d 279 6 (some (vr x) :: L) (vr x :: st) G := At_aload_n mc279 mk279 mr279 dX3_init_5 rfl
theorem rX3_init_6 {d : Nat} {G : AH} {a : Nat} {L : AL} : At d 279 6 L [vr (some a)] G = At d 279 9 L [] G := At_obj (n := 0) mc279 mk279 mr279 dX3_init_6 rfl (Nat.le_of_ble_eq_true rfl)
theorem rX3_init_9 {d : Nat} {G : AH} {x : Option Nat} {L : AL} {st : List AV} : At d 279 9 (some (vr x) :: L) st G = At d 279 10 (some (vr x) :: L) (vr x :: st) G := At_aload_n mc279 mk279 mr279 dX3_init_9 rfl
theorem rX3_init_10 {d : Nat} {G : AH} {L : AL} {st : List AV} : At d 279 10 L st G = At d 279 13 L (vl (-1) :: st) G := At_ldc2 mc279 mk279 mr279 dX3_init_10 rfl
theorem rX3_init_13 {d : Nat} {G : AH} {a : Nat} {x : Int64} {L : AL} {st : List AV} : At d 279 13 L (vl x :: vr (some a) :: st) G = if okF (hT G a) 172 = true then At d 279 16 L st (sJ G a 172 x) else none := At_putJ mc279 mk279 mr279 dX3_init_13 rfl rfl rfl
theorem rX3_init_16 {d : Nat} {G : AH} {x : Option Nat} {L : AL} {st : List AV} : At d 279 16 (some (vr x) :: L) st G = At d 279 17 (some (vr x) :: L) (vr x :: st) G := At_aload_n mc279 mk279 mr279 dX3_init_16 rfl
theorem rX3_init_17 {d : Nat} {G : AH} {l0 l1 : Option AV} {x : Int32} {L : AL} {st : List AV} : At d 279 17 (l0 :: l1 :: some (vi x) :: L) st G = At d 279 18 (l0 :: l1 :: some (vi x) :: L) (vi x :: st) G := At_iload_n mc279 mk279 mr279 dX3_init_17 rfl
theorem rX3_init_18 {d : Nat} {G : AH} {a : Nat} {x : Int32} {L : AL} {st : List AV} : At d 279 18 L (vi x :: vr (some a) :: st) G = if okF (hT G a) 171 = true then At d 279 21 L st (sI G a 171 x) else none := At_putI mc279 mk279 mr279 dX3_init_18 rfl rfl rfl
theorem rX3_init_21 {d : Nat} {G : AH} {x : Option Nat} {L : AL} {st : List AV} : At d 279 21 (some (vr x) :: L) st G = At d 279 22 (some (vr x) :: L) (vr x :: st) G := At_aload_n mc279 mk279 mr279 dX3_init_21 rfl
theorem rX3_init_22 {d : Nat} {G : AH} {l0 l1 l2 : Option AV} {x : Int32} {L : AL} {st : List AV} : At d 279 22 (l0 :: l1 :: l2 :: some (vi x) :: L) st G = At d 279 23 (l0 :: l1 :: l2 :: some (vi x) :: L) (vi x :: st) G := At_iload_n mc279 mk279 mr279 dX3_init_22 rfl
theorem rX3_init_23 {d : Nat} {G : AH} {a : Nat} {x : Int32} {L : AL} {st : List AV} : At d 279 23 L (vi x :: vr (some a) :: st) G = if okF (hT G a) 174 = true then At d 279 26 L st (sI G a 174 x) else none := At_putI mc279 mk279 mr279 dX3_init_23 rfl rfl rfl
theorem rX3_init_26 {d : Nat} {G : AH} {x : Option Nat} {L : AL} {st : List AV} : At d 279 26 (some (vr x) :: L) st G = At d 279 27 (some (vr x) :: L) (vr x :: st) G := At_aload_n mc279 mk279 mr279 dX3_init_26 rfl
theorem rX3_init_27 {d : Nat} {G : AH} {l0 l1 l2 l3 : Option AV} {x : Int32} {L : AL} {st : List AV} : At d 279 27 (l0 :: l1 :: l2 :: l3 :: some (vi x) :: L) st G = At d 279 29 (l0 :: l1 :: l2 :: l3 :: some (vi x) :: L) (vi x :: st) G := At_iload mc279 mk279 mr279 dX3_init_27 rfl
theorem rX3_init_29 {d : Nat} {G : AH} {a : Nat} {x : Int32} {L : AL} {st : List AV} : At d 279 29 L (vi x :: vr (some a) :: st) G = if okF (hT G a) 175 = true then At d 279 32 L st (sI G a 175 x) else none := At_putI mc279 mk279 mr279 dX3_init_29 rfl rfl rfl
theorem rX3_init_32 {d : Nat} {G : AH} {L : AL} : At d 279 32 L [] G = some (.inl none, G) := At_vret mc279 mk279 mr279 dX3_init_32
theorem mw280 : mRow 280 = (cX3_kind, 1, 1, 3, []) := rfl
theorem mc280 : mcode 280 = cX3_kind := congrArg (fun q => q.1) mw280
theorem mk280 : mcls 280 = 3 := congrArg (fun q => q.2.2.2.1) mw280
theorem mr280 : mret 280 = 1 := congrArg (fun q => q.2.2.1) mw280
theorem mx280 : mmax 280 = 1 := congrArg (fun q => q.2.1) mw280
theorem mh280 : mhnd 280 = [] := congrArg (fun q => q.2.2.2.2) mw280
theorem en280 {d : Nat} {G : AH} {o0 : Option Nat} : cl d 280 [vr o0] G = At d 280 0 [some (vr o0)] [] G := by
  unfold cl
  rw [mx280]
  rfl
theorem rX3_kind_0 {d : Nat} {G : AH} {L : AL} {st : List AV} : At d 280 0 L st G = At d 280 1 L (vi (nI 0) :: st) G := At_c1 mc280 mk280 mr280 dX3_kind_0 (by decide)
theorem rX3_kind_1 {d : Nat} {G : AH} {x : Int32} {L : AL} : At d 280 1 L [vi x] G = some (.inl (some (vi x)), G) := At_iret mc280 mk280 mr280 dX3_kind_1
theorem mw281 : mRow 281 = (cX3_mayLie, 1, 4, 3, []) := rfl
theorem mc281 : mcode 281 = cX3_mayLie := congrArg (fun q => q.1) mw281
theorem mk281 : mcls 281 = 3 := congrArg (fun q => q.2.2.2.1) mw281
theorem mr281 : mret 281 = 4 := congrArg (fun q => q.2.2.1) mw281
theorem mx281 : mmax 281 = 1 := congrArg (fun q => q.2.1) mw281
theorem mh281 : mhnd 281 = [] := congrArg (fun q => q.2.2.2.2) mw281
theorem en281 {d : Nat} {G : AH} {o0 : Option Nat} : cl d 281 [vr o0] G = At d 281 0 [some (vr o0)] [] G := by
  unfold cl
  rw [mx281]
  rfl
theorem rX3_mayLie_0 {d : Nat} {G : AH} {x : Option Nat} {L : AL} {st : List AV} : At d 281 0 (some (vr x) :: L) st G = At d 281 1 (some (vr x) :: L) (vr x :: st) G := At_aload_n mc281 mk281 mr281 dX3_mayLie_0 rfl
theorem rX3_mayLie_1 {d : Nat} {G : AH} {a : Nat} {L : AL} {st : List AV} : At d 281 1 L (vr (some a) :: st) G = if okF (hT G a) 173 = true then At d 281 4 L (vi (hI G a 173) :: st) G else none := At_getI mc281 mk281 mr281 dX3_mayLie_1 rfl (Or.inr rfl)
theorem rX3_mayLie_4 {d : Nat} {G : AH} {x : Int32} {L : AL} {st : List AV} : At d 281 4 L (vi x :: st) G = if ¬ x = nI 0 then At d 281 11 L st G else At d 281 7 L st G := At_if mc281 mk281 mr281 dX3_mayLie_4 (by decide) cnd_ne
theorem rX3_mayLie_7 {d : Nat} {G : AH} {L : AL} {st : List AV} : At d 281 7 L st G = At d 281 8 L (vi (nI 1) :: st) G := At_c1 mc281 mk281 mr281 dX3_mayLie_7 (by decide)
theorem rX3_mayLie_8 {d : Nat} {G : AH} {L : AL} {st : List AV} : At d 281 8 L st G = At d 281 12 L st G := At_goto mc281 mk281 mr281 dX3_mayLie_8 (by decide)
theorem rX3_mayLie_11 {d : Nat} {G : AH} {L : AL} {st : List AV} : At d 281 11 L st G = At d 281 12 L (vi (nI 0) :: st) G := At_c1 mc281 mk281 mr281 dX3_mayLie_11 (by decide)
theorem rX3_mayLie_12 {d : Nat} {G : AH} {x : Int32} {L : AL} : At d 281 12 L [vi x] G = if b01 x = true then some (.inl (some (vi x)), G) else none := At_zret mc281 mk281 mr281 dX3_mayLie_12
theorem mw282 : mRow 282 = (cX3_plain, 1, 1, 3, []) := rfl
theorem mc282 : mcode 282 = cX3_plain := congrArg (fun q => q.1) mw282
theorem mk282 : mcls 282 = 3 := congrArg (fun q => q.2.2.2.1) mw282
theorem mr282 : mret 282 = 1 := congrArg (fun q => q.2.2.1) mw282
theorem mx282 : mmax 282 = 1 := congrArg (fun q => q.2.1) mw282
theorem mh282 : mhnd 282 = [] := congrArg (fun q => q.2.2.2.2) mw282
theorem en282 {d : Nat} {G : AH} {o0 : Option Nat} : cl d 282 [vr o0] G = At d 282 0 [some (vr o0)] [] G := by
  unfold cl
  rw [mx282]
  rfl
theorem rX3_plain_0 {d : Nat} {G : AH} {x : Option Nat} {L : AL} {st : List AV} : At d 282 0 (some (vr x) :: L) st G = At d 282 1 (some (vr x) :: L) (vr x :: st) G := At_aload_n mc282 mk282 mr282 dX3_plain_0 rfl
theorem rX3_plain_1 {d : Nat} {G : AH} {a : Nat} {L : AL} {st : List AV} : At d 282 1 L (vr (some a) :: st) G = if okF (hT G a) 176 = true then At d 282 4 L (vr (hR G a 176) :: st) G else none := At_getR mc282 mk282 mr282 dX3_plain_1 rfl rfl
theorem rX3_plain_4 {d : Nat} {G : AH} {L : AL} {st : List AV} : At d 282 4 L st G = At d 282 5 L (vi (nI 1) :: st) G := At_c1 mc282 mk282 mr282 dX3_plain_4 (by decide)
theorem rX3_plain_5 {d : Nat} {G : AH} (h0 : 0 < d) {x0 : Int32} {a : Nat} {L : AL} : At d 282 5 L [vi x0, vr (some a)] G = if hT G a = 0 then bnd (cl (d - 1) 129 [vr (some a), vi x0] G) (fun v G => At d 282 8 L (psh v []) G) (fun a G => AtX d 282 5 L a G) else none := At_invV1 (k := 39) (t := 0) (z := 129) (n := 2) h0 mc282 mk282 mr282 dX3_plain_5 rfl rfl rfl (by decide) (by decide) (Nat.le_of_ble_eq_true rfl) rfl (Nat.le_of_ble_eq_true rfl) (Nat.le_of_ble_eq_true rfl)
theorem rX3_plain_8 {d : Nat} {G : AH} {L : AL} {st : List AV} : At d 282 8 L st G = At d 282 9 L (vi (nI 3) :: st) G := At_c1 mc282 mk282 mr282 dX3_plain_8 (by decide)
theorem rX3_plain_9 {d : Nat} {G : AH} {x : Option Nat} {L : AL} {st : List AV} : At d 282 9 (some (vr x) :: L) st G = At d 282 10 (some (vr x) :: L) (vr x :: st) G := At_aload_n mc282 mk282 mr282 dX3_plain_9 rfl
theorem rX3_plain_10 {d : Nat} {G : AH} {a : Nat} {L : AL} {st : List AV} : At d 282 10 L (vr (some a) :: st) G = if okF (hT G a) 171 = true then At d 282 13 L (vi (hI G a 171) :: st) G else none := At_getI mc282 mk282 mr282 dX3_plain_10 rfl (Or.inl rfl)
theorem rX3_plain_13 {d : Nat} {G : AH} {x z : Int32} {L : AL} {st : List AV} : At d 282 13 L (vi z :: vi x :: st) G = At d 282 14 L (vi (x * z) :: st) G := At_imul mc282 mk282 mr282 dX3_plain_13
theorem rX3_plain_14 {d : Nat} {G : AH} {x : Int32} {L : AL} : At d 282 14 L [vi x] G = some (.inl (some (vi x)), G) := At_iret mc282 mk282 mr282 dX3_plain_14
theorem mw283 : mRow 283 = (cX3_tell, 1, 1, 3, []) := rfl
theorem mc283 : mcode 283 = cX3_tell := congrArg (fun q => q.1) mw283
theorem mk283 : mcls 283 = 3 := congrArg (fun q => q.2.2.2.1) mw283
theorem mr283 : mret 283 = 1 := congrArg (fun q => q.2.2.1) mw283
theorem mx283 : mmax 283 = 1 := congrArg (fun q => q.2.1) mw283
theorem mh283 : mhnd 283 = [] := congrArg (fun q => q.2.2.2.2) mw283
theorem en283 {d : Nat} {G : AH} {o0 : Option Nat} : cl d 283 [vr o0] G = At d 283 0 [some (vr o0)] [] G := by
  unfold cl
  rw [mx283]
  rfl
theorem rX3_tell_0 {d : Nat} {G : AH} {x : Option Nat} {L : AL} {st : List AV} : At d 283 0 (some (vr x) :: L) st G = At d 283 1 (some (vr x) :: L) (vr x :: st) G := At_aload_n mc283 mk283 mr283 dX3_tell_0 rfl
theorem rX3_tell_1_t3 {d : Nat} {G : AH} (h0 : 0 < d) {a : Nat} {L : AL} (ht : hT G a = 3) : At d 283 1 L [vr (some a)] G = bnd (cl (d - 1) 282 [vr (some a)] G) (fun v G => At d 283 4 L (psh v []) G) (fun a G => AtX d 283 1 L a G) := At_invV (k := 43) (z := 282) (n := 1) (ts := [(3, 282), (4, 282), (5, 282)]) h0 ht mc283 mk283 mr283 dX3_tell_1 rfl rfl rfl rfl (by decide) (Nat.le_of_ble_eq_true rfl) rfl (Nat.le_of_ble_eq_true rfl) (Nat.le_of_ble_eq_true rfl)
theorem rX3_tell_1_t4 {d : Nat} {G : AH} (h0 : 0 < d) {a : Nat} {L : AL} (ht : hT G a = 4) : At d 283 1 L [vr (some a)] G = bnd (cl (d - 1) 282 [vr (some a)] G) (fun v G => At d 283 4 L (psh v []) G) (fun a G => AtX d 283 1 L a G) := At_invV (k := 43) (z := 282) (n := 1) (ts := [(3, 282), (4, 282), (5, 282)]) h0 ht mc283 mk283 mr283 dX3_tell_1 rfl rfl rfl rfl (by decide) (Nat.le_of_ble_eq_true rfl) rfl (Nat.le_of_ble_eq_true rfl) (Nat.le_of_ble_eq_true rfl)
theorem rX3_tell_1_t5 {d : Nat} {G : AH} (h0 : 0 < d) {a : Nat} {L : AL} (ht : hT G a = 5) : At d 283 1 L [vr (some a)] G = bnd (cl (d - 1) 282 [vr (some a)] G) (fun v G => At d 283 4 L (psh v []) G) (fun a G => AtX d 283 1 L a G) := At_invV (k := 43) (z := 282) (n := 1) (ts := [(3, 282), (4, 282), (5, 282)]) h0 ht mc283 mk283 mr283 dX3_tell_1 rfl rfl rfl rfl (by decide) (Nat.le_of_ble_eq_true rfl) rfl (Nat.le_of_ble_eq_true rfl) (Nat.le_of_ble_eq_true rfl)
theorem rX3_tell_4 {d : Nat} {G : AH} {x : Int32} {L : AL} : At d 283 4 L [vi x] G = some (.inl (some (vi x)), G) := At_iret mc283 mk283 mr283 dX3_tell_4
theorem mw284 : mRow 284 = (cX3_usual, 1, 1, 3, []) := rfl
theorem mc284 : mcode 284 = cX3_usual := congrArg (fun q => q.1) mw284
theorem mk284 : mcls 284 = 3 := congrArg (fun q => q.2.2.2.1) mw284
theorem mr284 : mret 284 = 1 := congrArg (fun q => q.2.2.1) mw284
theorem mx284 : mmax 284 = 1 := congrArg (fun q => q.2.1) mw284
theorem mh284 : mhnd 284 = [] := congrArg (fun q => q.2.2.2.2) mw284
theorem en284 {d : Nat} {G : AH} {o0 : Option Nat} : cl d 284 [vr o0] G = At d 284 0 [some (vr o0)] [] G := by
  unfold cl
  rw [mx284]
  rfl
theorem rX3_usual_0 {d : Nat} {G : AH} {x : Option Nat} {L : AL} {st : List AV} : At d 284 0 (some (vr x) :: L) st G = At d 284 1 (some (vr x) :: L) (vr x :: st) G := At_aload_n mc284 mk284 mr284 dX3_usual_0 rfl
theorem rX3_usual_1 {d : Nat} {G : AH} {a : Nat} {L : AL} {st : List AV} : At d 284 1 L (vr (some a) :: st) G = if okF (hT G a) 176 = true then At d 284 4 L (vr (hR G a 176) :: st) G else none := At_getR mc284 mk284 mr284 dX3_usual_1 rfl rfl
theorem rX3_usual_4 {d : Nat} {G : AH} {L : AL} {st : List AV} : At d 284 4 L st G = At d 284 6 L (vi (nI 9) :: st) G := At_c2 mc284 mk284 mr284 dX3_usual_4 (by decide)
theorem rX3_usual_6 {d : Nat} {G : AH} (h0 : 0 < d) {x0 : Int32} {a : Nat} {L : AL} : At d 284 6 L [vi x0, vr (some a)] G = if hT G a = 0 then bnd (cl (d - 1) 129 [vr (some a), vi x0] G) (fun v G => At d 284 9 L (psh v []) G) (fun a G => AtX d 284 6 L a G) else none := At_invV1 (k := 39) (t := 0) (z := 129) (n := 2) h0 mc284 mk284 mr284 dX3_usual_6 rfl rfl rfl (by decide) (by decide) (Nat.le_of_ble_eq_true rfl) rfl (Nat.le_of_ble_eq_true rfl) (Nat.le_of_ble_eq_true rfl)
theorem rX3_usual_9 {d : Nat} {G : AH} {x : Option Nat} {L : AL} {st : List AV} : At d 284 9 (some (vr x) :: L) st G = At d 284 10 (some (vr x) :: L) (vr x :: st) G := At_aload_n mc284 mk284 mr284 dX3_usual_9 rfl
theorem rX3_usual_10 {d : Nat} {G : AH} {a : Nat} {L : AL} {st : List AV} : At d 284 10 L (vr (some a) :: st) G = if okF (hT G a) 171 = true then At d 284 13 L (vi (hI G a 171) :: st) G else none := At_getI mc284 mk284 mr284 dX3_usual_10 rfl (Or.inl rfl)
theorem rX3_usual_13 {d : Nat} {G : AH} {x : Int32} {L : AL} : At d 284 13 L [vi x] G = some (.inl (some (vi x)), G) := At_iret mc284 mk284 mr284 dX3_usual_13
theorem mw285 : mRow 285 = (cX4_isKnown, 1, 4, 4, []) := rfl
theorem mc285 : mcode 285 = cX4_isKnown := congrArg (fun q => q.1) mw285
theorem mk285 : mcls 285 = 4 := congrArg (fun q => q.2.2.2.1) mw285
theorem mr285 : mret 285 = 4 := congrArg (fun q => q.2.2.1) mw285
theorem mx285 : mmax 285 = 1 := congrArg (fun q => q.2.1) mw285
theorem mh285 : mhnd 285 = [] := congrArg (fun q => q.2.2.2.2) mw285
theorem en285 {d : Nat} {G : AH} {o0 : Option Nat} : cl d 285 [vr o0] G = At d 285 0 [some (vr o0)] [] G := by
  unfold cl
  rw [mx285]
  rfl
theorem rX4_isKnown_0 {d : Nat} {G : AH} {L : AL} {st : List AV} : At d 285 0 L st G = At d 285 1 L (vi (nI 1) :: st) G := At_c1 mc285 mk285 mr285 dX4_isKnown_0 (by decide)
theorem rX4_isKnown_1 {d : Nat} {G : AH} {x : Int32} {L : AL} : At d 285 1 L [vi x] G = if b01 x = true then some (.inl (some (vi x)), G) else none := At_zret mc285 mk285 mr285 dX4_isKnown_1
theorem mw286 : mRow 286 = (cX4_told, 1, 2, 4, []) := rfl
theorem mc286 : mcode 286 = cX4_told := congrArg (fun q => q.1) mw286
theorem mk286 : mcls 286 = 4 := congrArg (fun q => q.2.2.2.1) mw286
theorem mr286 : mret 286 = 2 := congrArg (fun q => q.2.2.1) mw286
theorem mx286 : mmax 286 = 1 := congrArg (fun q => q.2.1) mw286
theorem mh286 : mhnd 286 = [] := congrArg (fun q => q.2.2.2.2) mw286
theorem en286 {d : Nat} {G : AH} {o0 : Option Nat} : cl d 286 [vr o0] G = At d 286 0 [some (vr o0)] [] G := by
  unfold cl
  rw [mx286]
  rfl
theorem rX4_told_0 {d : Nat} {G : AH} {x : Option Nat} {L : AL} {st : List AV} : At d 286 0 (some (vr x) :: L) st G = At d 286 1 (some (vr x) :: L) (vr x :: st) G := At_aload_n mc286 mk286 mr286 dX4_told_0 rfl
theorem rX4_told_1 {d : Nat} {G : AH} {a : Nat} {L : AL} {st : List AV} : At d 286 1 L (vr (some a) :: st) G = if okF (hT G a) 177 = true then At d 286 4 L (vi (hI G a 177) :: st) G else none := At_getI mc286 mk286 mr286 dX4_told_1 rfl (Or.inl rfl)
theorem rX4_told_4 {d : Nat} {G : AH} (h0 : 0 < d) {x0 : Int32} {L : AL} : At d 286 4 L [vi x0] G = bnd (cl (d - 1) 12 [vi x0] G) (fun v G => At d 286 7 L (psh v []) G) (fun a G => AtX d 286 4 L a G) := At_inv (k := 19) (z := 12) (n := 1) h0 mc286 mk286 mr286 dX4_told_4 rfl rfl rfl (by decide) (Nat.le_of_ble_eq_true rfl) rfl (Nat.le_of_ble_eq_true rfl) (Nat.le_of_ble_eq_true rfl)
theorem rX4_told_7 {d : Nat} {G : AH} {x : Int64} {L : AL} : At d 286 7 L [vl x] G = some (.inl (some (vl x)), G) := At_lret mc286 mk286 mr286 dX4_told_7
theorem mw287 : mRow 287 = (cX4_init, 4, 0, 4, []) := rfl
theorem mc287 : mcode 287 = cX4_init := congrArg (fun q => q.1) mw287
theorem mk287 : mcls 287 = 4 := congrArg (fun q => q.2.2.2.1) mw287
theorem mr287 : mret 287 = 0 := congrArg (fun q => q.2.2.1) mw287
theorem mx287 : mmax 287 = 4 := congrArg (fun q => q.2.1) mw287
theorem mh287 : mhnd 287 = [] := congrArg (fun q => q.2.2.2.2) mw287
theorem en287 {d : Nat} {G : AH} {o0 : Option Nat} {o1 : Option Nat} {x2 : Int32} {x3 : Int32} : cl d 287 [vr o0, vr o1, vi x2, vi x3] G = At d 287 0 [some (vr o0), some (vr o1), some (vi x2), some (vi x3)] [] G := by
  unfold cl
  rw [mx287]
  rfl
theorem rX4_init_0 {d : Nat} {G : AH} {x : Option Nat} {L : AL} {st : List AV} : At d 287 0 (some (vr x) :: L) st G = At d 287 1 (some (vr x) :: L) (vr x :: st) G := At_aload_n mc287 mk287 mr287 dX4_init_0 rfl
theorem rX4_init_1 {d : Nat} {G : AH} {l0 : Option AV} {x : Option Nat} {L : AL} {st : List AV} : At d 287 1 (l0 :: some (vr x) :: L) st G = At d 287 2 (l0 :: some (vr x) :: L) (vr x :: st) G := At_aload_n mc287 mk287 mr287 dX4_init_1 rfl
theorem rX4_init_2 {d : Nat} {G : AH} {a : Nat} {x : Option Nat} {L : AL} {st : List AV} : At d 287 2 L (vr x :: vr (some a) :: st) G = if okF (hT G a) 178 = true then At d 287 5 L st (sR G a 178 x) else none := At_putR mc287 mk287 mr287 dX4_init_2 rfl rfl rfl
theorem rX4_init_5 {d : Nat} {G : AH} {x : Option Nat} {L : AL} {st : List AV} : At d 287 5 (some (vr x) :: L) st G = At d 287 6 (some (vr x) :: L) (vr x :: st) G := At_aload_n mc287 mk287 mr287 dX4_init_5 rfl
theorem rX4_init_6 {d : Nat} {G : AH} {l0 : Option AV} {x : Option Nat} {L : AL} {st : List AV} : At d 287 6 (l0 :: some (vr x) :: L) st G = At d 287 7 (l0 :: some (vr x) :: L) (vr x :: st) G := At_aload_n mc287 mk287 mr287 dX4_init_6 rfl
theorem rX4_init_7 {d : Nat} {G : AH} {l0 l1 : Option AV} {x : Int32} {L : AL} {st : List AV} : At d 287 7 (l0 :: l1 :: some (vi x) :: L) st G = At d 287 8 (l0 :: l1 :: some (vi x) :: L) (vi x :: st) G := At_iload_n mc287 mk287 mr287 dX4_init_7 rfl
theorem rX4_init_8 {d : Nat} {G : AH} {L : AL} {st : List AV} : At d 287 8 L st G = At d 287 10 L (vi (-9) :: st) G := At_c2 mc287 mk287 mr287 dX4_init_8 (by decide)
theorem rX4_init_10 {d : Nat} {G : AH} {L : AL} {st : List AV} : At d 287 10 L st G = At d 287 12 L (vi (-9) :: st) G := At_c2 mc287 mk287 mr287 dX4_init_10 (by decide)
theorem rX4_init_12 {d : Nat} {G : AH} (h0 : 0 < d) {x0 : Int32} {x1 : Int32} {x2 : Int32} {o3 : Option Nat} {a : Nat} {L : AL} : At d 287 12 L [vi x0, vi x1, vi x2, vr o3, vr (some a)] G = bnd (cl (d - 1) 279 [vr (some a), vr o3, vi x2, vi x1, vi x0] G) (fun v G => At d 287 15 L (psh v []) G) (fun a G => AtX d 287 12 L a G) := At_invS (k := 9) (z := 279) (n := 5) h0 mc287 mk287 mr287 dX4_init_12 rfl rfl rfl (by decide) (Nat.le_of_ble_eq_true rfl) rfl (Nat.le_of_ble_eq_true rfl) (Nat.le_of_ble_eq_true rfl)
theorem rX4_init_15 {d : Nat} {G : AH} {x : Option Nat} {L : AL} {st : List AV} : At d 287 15 (some (vr x) :: L) st G = At d 287 16 (some (vr x) :: L) (vr x :: st) G := At_aload_n mc287 mk287 mr287 dX4_init_15 rfl
theorem rX4_init_16 {d : Nat} {G : AH} {l0 l1 l2 : Option AV} {x : Int32} {L : AL} {st : List AV} : At d 287 16 (l0 :: l1 :: l2 :: some (vi x) :: L) st G = At d 287 17 (l0 :: l1 :: l2 :: some (vi x) :: L) (vi x :: st) G := At_iload_n mc287 mk287 mr287 dX4_init_16 rfl
theorem rX4_init_17 {d : Nat} {G : AH} {a : Nat} {x : Int32} {L : AL} {st : List AV} : At d 287 17 L (vi x :: vr (some a) :: st) G = if okF (hT G a) 177 = true then At d 287 20 L st (sI G a 177 x) else none := At_putI mc287 mk287 mr287 dX4_init_17 rfl rfl rfl
theorem rX4_init_20 {d : Nat} {G : AH} {L : AL} : At d 287 20 L [] G = some (.inl none, G) := At_vret mc287 mk287 mr287 dX4_init_20
theorem mw288 : mRow 288 = (cX4_kind, 1, 1, 4, []) := rfl
theorem mc288 : mcode 288 = cX4_kind := congrArg (fun q => q.1) mw288
theorem mk288 : mcls 288 = 4 := congrArg (fun q => q.2.2.2.1) mw288
theorem mr288 : mret 288 = 1 := congrArg (fun q => q.2.2.1) mw288
theorem mx288 : mmax 288 = 1 := congrArg (fun q => q.2.1) mw288
theorem mh288 : mhnd 288 = [] := congrArg (fun q => q.2.2.2.2) mw288
theorem en288 {d : Nat} {G : AH} {o0 : Option Nat} : cl d 288 [vr o0] G = At d 288 0 [some (vr o0)] [] G := by
  unfold cl
  rw [mx288]
  rfl
theorem rX4_kind_0 {d : Nat} {G : AH} {L : AL} {st : List AV} : At d 288 0 L st G = At d 288 1 L (vi (nI 1) :: st) G := At_c1 mc288 mk288 mr288 dX4_kind_0 (by decide)
theorem rX4_kind_1 {d : Nat} {G : AH} {x : Int32} {L : AL} : At d 288 1 L [vi x] G = some (.inl (some (vi x)), G) := At_iret mc288 mk288 mr288 dX4_kind_1
theorem mw289 : mRow 289 = (cX4_tell, 1, 1, 4, []) := rfl
theorem mc289 : mcode 289 = cX4_tell := congrArg (fun q => q.1) mw289
theorem mk289 : mcls 289 = 4 := congrArg (fun q => q.2.2.2.1) mw289
theorem mr289 : mret 289 = 1 := congrArg (fun q => q.2.2.1) mw289
theorem mx289 : mmax 289 = 1 := congrArg (fun q => q.2.1) mw289
theorem mh289 : mhnd 289 = [] := congrArg (fun q => q.2.2.2.2) mw289
theorem en289 {d : Nat} {G : AH} {o0 : Option Nat} : cl d 289 [vr o0] G = At d 289 0 [some (vr o0)] [] G := by
  unfold cl
  rw [mx289]
  rfl
theorem rX4_tell_0 {d : Nat} {G : AH} {x : Option Nat} {L : AL} {st : List AV} : At d 289 0 (some (vr x) :: L) st G = At d 289 1 (some (vr x) :: L) (vr x :: st) G := At_aload_n mc289 mk289 mr289 dX4_tell_0 rfl
theorem rX4_tell_1 {d : Nat} {G : AH} {a : Nat} {L : AL} {st : List AV} : At d 289 1 L (vr (some a) :: st) G = if okF (hT G a) 178 = true then At d 289 4 L (vr (hR G a 178) :: st) G else none := At_getR mc289 mk289 mr289 dX4_tell_1 rfl rfl
theorem rX4_tell_4 {d : Nat} {G : AH} {L : AL} {st : List AV} : At d 289 4 L st G = At d 289 5 L (vi (nI 2) :: st) G := At_c1 mc289 mk289 mr289 dX4_tell_4 (by decide)
theorem rX4_tell_5 {d : Nat} {G : AH} (h0 : 0 < d) {x0 : Int32} {a : Nat} {L : AL} : At d 289 5 L [vi x0, vr (some a)] G = if hT G a = 0 then bnd (cl (d - 1) 129 [vr (some a), vi x0] G) (fun v G => At d 289 8 L (psh v []) G) (fun a G => AtX d 289 5 L a G) else none := At_invV1 (k := 23) (t := 0) (z := 129) (n := 2) h0 mc289 mk289 mr289 dX4_tell_5 rfl rfl rfl (by decide) (by decide) (Nat.le_of_ble_eq_true rfl) rfl (Nat.le_of_ble_eq_true rfl) (Nat.le_of_ble_eq_true rfl)
theorem rX4_tell_8 {d : Nat} {G : AH} {x : Option Nat} {L : AL} {st : List AV} : At d 289 8 (some (vr x) :: L) st G = At d 289 9 (some (vr x) :: L) (vr x :: st) G := At_aload_n mc289 mk289 mr289 dX4_tell_8 rfl
theorem rX4_tell_9 {d : Nat} {G : AH} (h0 : 0 < d) {a : Nat} {L : AL} : At d 289 9 L [vr (some a)] G = if hT G a < 40 then bnd (cl (d - 1) 283 [vr (some a)] G) (fun v G => At d 289 12 L (psh v []) G) (fun a G => AtX d 289 9 L a G) else none := At_invU (k := 27) (z := 283) (n := 1) h0 mc289 mk289 mr289 dX4_tell_9 rfl rfl rfl (by decide) (Nat.le_of_ble_eq_true rfl) rfl (Nat.le_of_ble_eq_true rfl) (Nat.le_of_ble_eq_true rfl)
theorem rX4_tell_12 {d : Nat} {G : AH} {x : Option Nat} {L : AL} {st : List AV} : At d 289 12 (some (vr x) :: L) st G = At d 289 13 (some (vr x) :: L) (vr x :: st) G := At_aload_n mc289 mk289 mr289 dX4_tell_12 rfl
theorem rX4_tell_13 {d : Nat} {G : AH} {a : Nat} {L : AL} {st : List AV} : At d 289 13 L (vr (some a) :: st) G = if okF (hT G a) 177 = true then At d 289 16 L (vi (hI G a 177) :: st) G else none := At_getI mc289 mk289 mr289 dX4_tell_13 rfl (Or.inl rfl)
theorem rX4_tell_16 {d : Nat} {G : AH} {x z : Int32} {L : AL} {st : List AV} : At d 289 16 L (vi z :: vi x :: st) G = At d 289 17 L (vi (x + z) :: st) G := At_iadd mc289 mk289 mr289 dX4_tell_16
theorem rX4_tell_17 {d : Nat} {G : AH} {x : Int32} {L : AL} : At d 289 17 L [vi x] G = some (.inl (some (vi x)), G) := At_iret mc289 mk289 mr289 dX4_tell_17
theorem mw290 : mRow 290 = (cX5_init, 4, 0, 5, []) := rfl
theorem mc290 : mcode 290 = cX5_init := congrArg (fun q => q.1) mw290
theorem mk290 : mcls 290 = 5 := congrArg (fun q => q.2.2.2.1) mw290
theorem mr290 : mret 290 = 0 := congrArg (fun q => q.2.2.1) mw290
theorem mx290 : mmax 290 = 4 := congrArg (fun q => q.2.1) mw290
theorem mh290 : mhnd 290 = [] := congrArg (fun q => q.2.2.2.2) mw290
theorem en290 {d : Nat} {G : AH} {o0 : Option Nat} {o1 : Option Nat} {x2 : Int32} {x3 : Int32} : cl d 290 [vr o0, vr o1, vi x2, vi x3] G = At d 290 0 [some (vr o0), some (vr o1), some (vi x2), some (vi x3)] [] G := by
  unfold cl
  rw [mx290]
  rfl
theorem rX5_init_0 {d : Nat} {G : AH} {x : Option Nat} {L : AL} {st : List AV} : At d 290 0 (some (vr x) :: L) st G = At d 290 1 (some (vr x) :: L) (vr x :: st) G := At_aload_n mc290 mk290 mr290 dX5_init_0 rfl
theorem rX5_init_1 {d : Nat} {G : AH} {l0 : Option AV} {x : Option Nat} {L : AL} {st : List AV} : At d 290 1 (l0 :: some (vr x) :: L) st G = At d 290 2 (l0 :: some (vr x) :: L) (vr x :: st) G := At_aload_n mc290 mk290 mr290 dX5_init_1 rfl
theorem rX5_init_2 {d : Nat} {G : AH} {a : Nat} {x : Option Nat} {L : AL} {st : List AV} : At d 290 2 L (vr x :: vr (some a) :: st) G = if okF (hT G a) 179 = true then At d 290 5 L st (sR G a 179 x) else none := At_putR mc290 mk290 mr290 dX5_init_2 rfl rfl rfl
theorem rX5_init_5 {d : Nat} {G : AH} {x : Option Nat} {L : AL} {st : List AV} : At d 290 5 (some (vr x) :: L) st G = At d 290 6 (some (vr x) :: L) (vr x :: st) G := At_aload_n mc290 mk290 mr290 dX5_init_5 rfl
theorem rX5_init_6 {d : Nat} {G : AH} {l0 : Option AV} {x : Option Nat} {L : AL} {st : List AV} : At d 290 6 (l0 :: some (vr x) :: L) st G = At d 290 7 (l0 :: some (vr x) :: L) (vr x :: st) G := At_aload_n mc290 mk290 mr290 dX5_init_6 rfl
theorem rX5_init_7 {d : Nat} {G : AH} {l0 l1 : Option AV} {x : Int32} {L : AL} {st : List AV} : At d 290 7 (l0 :: l1 :: some (vi x) :: L) st G = At d 290 8 (l0 :: l1 :: some (vi x) :: L) (vi x :: st) G := At_iload_n mc290 mk290 mr290 dX5_init_7 rfl
theorem rX5_init_8 {d : Nat} {G : AH} {l0 l1 l2 : Option AV} {x : Int32} {L : AL} {st : List AV} : At d 290 8 (l0 :: l1 :: l2 :: some (vi x) :: L) st G = At d 290 9 (l0 :: l1 :: l2 :: some (vi x) :: L) (vi x :: st) G := At_iload_n mc290 mk290 mr290 dX5_init_8 rfl
theorem rX5_init_9 {d : Nat} {G : AH} (h0 : 0 < d) {x0 : Int32} {x1 : Int32} {o2 : Option Nat} {a : Nat} {L : AL} : At d 290 9 L [vi x0, vi x1, vr o2, vr (some a)] G = bnd (cl (d - 1) 287 [vr (some a), vr o2, vi x1, vi x0] G) (fun v G => At d 290 12 L (psh v []) G) (fun a G => AtX d 290 9 L a G) := At_invS (k := 7) (z := 287) (n := 4) h0 mc290 mk290 mr290 dX5_init_9 rfl rfl rfl (by decide) (Nat.le_of_ble_eq_true rfl) rfl (Nat.le_of_ble_eq_true rfl) (Nat.le_of_ble_eq_true rfl)
theorem rX5_init_12 {d : Nat} {G : AH} {L : AL} : At d 290 12 L [] G = some (.inl none, G) := At_vret mc290 mk290 mr290 dX5_init_12
theorem mw291 : mRow 291 = (cX5_kind, 1, 1, 5, []) := rfl
theorem mc291 : mcode 291 = cX5_kind := congrArg (fun q => q.1) mw291
theorem mk291 : mcls 291 = 5 := congrArg (fun q => q.2.2.2.1) mw291
theorem mr291 : mret 291 = 1 := congrArg (fun q => q.2.2.1) mw291
theorem mx291 : mmax 291 = 1 := congrArg (fun q => q.2.1) mw291
theorem mh291 : mhnd 291 = [] := congrArg (fun q => q.2.2.2.2) mw291
theorem en291 {d : Nat} {G : AH} {o0 : Option Nat} : cl d 291 [vr o0] G = At d 291 0 [some (vr o0)] [] G := by
  unfold cl
  rw [mx291]
  rfl
theorem rX5_kind_0 {d : Nat} {G : AH} {L : AL} {st : List AV} : At d 291 0 L st G = At d 291 1 L (vi (nI 2) :: st) G := At_c1 mc291 mk291 mr291 dX5_kind_0 (by decide)
theorem rX5_kind_1 {d : Nat} {G : AH} {x : Int32} {L : AL} : At d 291 1 L [vi x] G = some (.inl (some (vi x)), G) := At_iret mc291 mk291 mr291 dX5_kind_1
theorem mw292 : mRow 292 = (cX5_mayLie, 1, 4, 5, []) := rfl
theorem mc292 : mcode 292 = cX5_mayLie := congrArg (fun q => q.1) mw292
theorem mk292 : mcls 292 = 5 := congrArg (fun q => q.2.2.2.1) mw292
theorem mr292 : mret 292 = 4 := congrArg (fun q => q.2.2.1) mw292
theorem mx292 : mmax 292 = 1 := congrArg (fun q => q.2.1) mw292
theorem mh292 : mhnd 292 = [] := congrArg (fun q => q.2.2.2.2) mw292
theorem en292 {d : Nat} {G : AH} {o0 : Option Nat} : cl d 292 [vr o0] G = At d 292 0 [some (vr o0)] [] G := by
  unfold cl
  rw [mx292]
  rfl
theorem rX5_mayLie_0 {d : Nat} {G : AH} {L : AL} {st : List AV} : At d 292 0 L st G = At d 292 1 L (vi (nI 0) :: st) G := At_c1 mc292 mk292 mr292 dX5_mayLie_0 (by decide)
theorem rX5_mayLie_1 {d : Nat} {G : AH} {x : Int32} {L : AL} : At d 292 1 L [vi x] G = if b01 x = true then some (.inl (some (vi x)), G) else none := At_zret mc292 mk292 mr292 dX5_mayLie_1
theorem mw293 : mRow 293 = (cX5_tell, 1, 1, 5, []) := rfl
theorem mc293 : mcode 293 = cX5_tell := congrArg (fun q => q.1) mw293
theorem mk293 : mcls 293 = 5 := congrArg (fun q => q.2.2.2.1) mw293
theorem mr293 : mret 293 = 1 := congrArg (fun q => q.2.2.1) mw293
theorem mx293 : mmax 293 = 1 := congrArg (fun q => q.2.1) mw293
theorem mh293 : mhnd 293 = [] := congrArg (fun q => q.2.2.2.2) mw293
theorem en293 {d : Nat} {G : AH} {o0 : Option Nat} : cl d 293 [vr o0] G = At d 293 0 [some (vr o0)] [] G := by
  unfold cl
  rw [mx293]
  rfl
theorem rX5_tell_0 {d : Nat} {G : AH} {x : Option Nat} {L : AL} {st : List AV} : At d 293 0 (some (vr x) :: L) st G = At d 293 1 (some (vr x) :: L) (vr x :: st) G := At_aload_n mc293 mk293 mr293 dX5_tell_0 rfl
theorem rX5_tell_1 {d : Nat} {G : AH} {a : Nat} {L : AL} {st : List AV} : At d 293 1 L (vr (some a) :: st) G = if okF (hT G a) 179 = true then At d 293 4 L (vr (hR G a 179) :: st) G else none := At_getR mc293 mk293 mr293 dX5_tell_1 rfl rfl
theorem rX5_tell_4 {d : Nat} {G : AH} {L : AL} {st : List AV} : At d 293 4 L st G = At d 293 5 L (vi (nI 3) :: st) G := At_c1 mc293 mk293 mr293 dX5_tell_4 (by decide)
theorem rX5_tell_5 {d : Nat} {G : AH} (h0 : 0 < d) {x0 : Int32} {a : Nat} {L : AL} : At d 293 5 L [vi x0, vr (some a)] G = if hT G a = 0 then bnd (cl (d - 1) 129 [vr (some a), vi x0] G) (fun v G => At d 293 8 L (psh v []) G) (fun a G => AtX d 293 5 L a G) else none := At_invV1 (k := 13) (t := 0) (z := 129) (n := 2) h0 mc293 mk293 mr293 dX5_tell_5 rfl rfl rfl (by decide) (by decide) (Nat.le_of_ble_eq_true rfl) rfl (Nat.le_of_ble_eq_true rfl) (Nat.le_of_ble_eq_true rfl)
theorem rX5_tell_8 {d : Nat} {G : AH} {x : Option Nat} {L : AL} {st : List AV} : At d 293 8 (some (vr x) :: L) st G = At d 293 9 (some (vr x) :: L) (vr x :: st) G := At_aload_n mc293 mk293 mr293 dX5_tell_8 rfl
theorem rX5_tell_9 {d : Nat} {G : AH} (h0 : 0 < d) {a : Nat} {L : AL} : At d 293 9 L [vr (some a)] G = if hT G a < 40 then bnd (cl (d - 1) 289 [vr (some a)] G) (fun v G => At d 293 12 L (psh v []) G) (fun a G => AtX d 293 9 L a G) else none := At_invU (k := 19) (z := 289) (n := 1) h0 mc293 mk293 mr293 dX5_tell_9 rfl rfl rfl (by decide) (Nat.le_of_ble_eq_true rfl) rfl (Nat.le_of_ble_eq_true rfl) (Nat.le_of_ble_eq_true rfl)
theorem rX5_tell_12 {d : Nat} {G : AH} {x : Option Nat} {L : AL} {st : List AV} : At d 293 12 (some (vr x) :: L) st G = At d 293 13 (some (vr x) :: L) (vr x :: st) G := At_aload_n mc293 mk293 mr293 dX5_tell_12 rfl
theorem rX5_tell_13 {d : Nat} {G : AH} (h0 : 0 < d) {a : Nat} {x1 : Int32} {L : AL} : At d 293 13 L [vr (some a), vi x1] G = if hT G a = 5 then bnd (cl (d - 1) 282 [vr (some a)] G) (fun v G => At d 293 16 L (psh v [vi x1]) G) (fun a G => AtX d 293 13 L a G) else none := At_invV1 (k := 23) (t := 5) (z := 282) (n := 1) h0 mc293 mk293 mr293 dX5_tell_13 rfl rfl rfl (by decide) (by decide) (Nat.le_of_ble_eq_true rfl) rfl (Nat.le_of_ble_eq_true rfl) (Nat.le_of_ble_eq_true rfl)
theorem rX5_tell_16 {d : Nat} {G : AH} {x z : Int32} {L : AL} {st : List AV} : At d 293 16 L (vi z :: vi x :: st) G = At d 293 17 L (vi (x + z) :: st) G := At_iadd mc293 mk293 mr293 dX5_tell_16
theorem rX5_tell_17 {d : Nat} {G : AH} {x : Int32} {L : AL} : At d 293 17 L [vi x] G = some (.inl (some (vi x)), G) := At_iret mc293 mk293 mr293 dX5_tell_17
theorem mw294 : mRow 294 = (cX5_greet, 1, 1, 5, []) := rfl
theorem mc294 : mcode 294 = cX5_greet := congrArg (fun q => q.1) mw294
theorem mk294 : mcls 294 = 5 := congrArg (fun q => q.2.2.2.1) mw294
theorem mr294 : mret 294 = 1 := congrArg (fun q => q.2.2.1) mw294
theorem mx294 : mmax 294 = 1 := congrArg (fun q => q.2.1) mw294
theorem mh294 : mhnd 294 = [] := congrArg (fun q => q.2.2.2.2) mw294
theorem en294 {d : Nat} {G : AH} {o0 : Option Nat} : cl d 294 [vr o0] G = At d 294 0 [some (vr o0)] [] G := by
  unfold cl
  rw [mx294]
  rfl
theorem rX5_greet_0 {d : Nat} {G : AH} {x : Option Nat} {L : AL} {st : List AV} : At d 294 0 (some (vr x) :: L) st G = At d 294 1 (some (vr x) :: L) (vr x :: st) G := At_aload_n mc294 mk294 mr294 dX5_greet_0 rfl
theorem rX5_greet_1 {d : Nat} {G : AH} {a : Nat} {L : AL} {st : List AV} : At d 294 1 L (vr (some a) :: st) G = if okF (hT G a) 179 = true then At d 294 4 L (vr (hR G a 179) :: st) G else none := At_getR mc294 mk294 mr294 dX5_greet_1 rfl rfl
theorem rX5_greet_4 {d : Nat} {G : AH} {L : AL} {st : List AV} : At d 294 4 L st G = At d 294 6 L (vi (nI 10) :: st) G := At_c2 mc294 mk294 mr294 dX5_greet_4 (by decide)
theorem rX5_greet_6 {d : Nat} {G : AH} (h0 : 0 < d) {x0 : Int32} {a : Nat} {L : AL} : At d 294 6 L [vi x0, vr (some a)] G = if hT G a = 0 then bnd (cl (d - 1) 129 [vr (some a), vi x0] G) (fun v G => At d 294 9 L (psh v []) G) (fun a G => AtX d 294 6 L a G) else none := At_invV1 (k := 13) (t := 0) (z := 129) (n := 2) h0 mc294 mk294 mr294 dX5_greet_6 rfl rfl rfl (by decide) (by decide) (Nat.le_of_ble_eq_true rfl) rfl (Nat.le_of_ble_eq_true rfl) (Nat.le_of_ble_eq_true rfl)
theorem rX5_greet_9 {d : Nat} {G : AH} {L : AL} {st : List AV} : At d 294 9 L st G = At d 294 12 L (vi (nI 500) :: st) G := At_c3 mc294 mk294 mr294 dX5_greet_9 (by decide)
theorem rX5_greet_12 {d : Nat} {G : AH} {x : Option Nat} {L : AL} {st : List AV} : At d 294 12 (some (vr x) :: L) st G = At d 294 13 (some (vr x) :: L) (vr x :: st) G := At_aload_n mc294 mk294 mr294 dX5_greet_12 rfl
theorem rX5_greet_13 {d : Nat} {G : AH} (h0 : 0 < d) {a : Nat} {x1 : Int32} {L : AL} : At d 294 13 L [vr (some a), vi x1] G = if hT G a = 5 then bnd (cl (d - 1) 284 [vr (some a)] G) (fun v G => At d 294 16 L (psh v [vi x1]) G) (fun a G => AtX d 294 13 L a G) else none := At_invV1 (k := 26) (t := 5) (z := 284) (n := 1) h0 mc294 mk294 mr294 dX5_greet_13 rfl rfl rfl (by decide) (by decide) (Nat.le_of_ble_eq_true rfl) rfl (Nat.le_of_ble_eq_true rfl) (Nat.le_of_ble_eq_true rfl)
theorem rX5_greet_16 {d : Nat} {G : AH} {x z : Int32} {L : AL} {st : List AV} : At d 294 16 L (vi z :: vi x :: st) G = At d 294 17 L (vi (x + z) :: st) G := At_iadd mc294 mk294 mr294 dX5_greet_16
theorem rX5_greet_17 {d : Nat} {G : AH} {x : Int32} {L : AL} : At d 294 17 L [vi x] G = some (.inl (some (vi x)), G) := At_iret mc294 mk294 mr294 dX5_greet_17
theorem mw295 : mRow 295 = (cX6_makeAnew, 1, 0, 6, []) := rfl
theorem mc295 : mcode 295 = cX6_makeAnew := congrArg (fun q => q.1) mw295
theorem mk295 : mcls 295 = 6 := congrArg (fun q => q.2.2.2.1) mw295
theorem mr295 : mret 295 = 0 := congrArg (fun q => q.2.2.1) mw295
theorem mx295 : mmax 295 = 1 := congrArg (fun q => q.2.1) mw295
theorem mh295 : mhnd 295 = [] := congrArg (fun q => q.2.2.2.2) mw295
theorem en295 {d : Nat} {G : AH} {o0 : Option Nat} : cl d 295 [vr o0] G = At d 295 0 [some (vr o0)] [] G := by
  unfold cl
  rw [mx295]
  rfl
theorem rX6_makeAnew_0 {d : Nat} {G : AH} {L : AL} : At d 295 0 L [] G = some (.inl none, G) := At_vret mc295 mk295 mr295 dX6_makeAnew_0
theorem mw296 : mRow 296 = (cX6_isOf, 2, 4, 6, []) := rfl
theorem mc296 : mcode 296 = cX6_isOf := congrArg (fun q => q.1) mw296
theorem mk296 : mcls 296 = 6 := congrArg (fun q => q.2.2.2.1) mw296
theorem mr296 : mret 296 = 4 := congrArg (fun q => q.2.2.1) mw296
theorem mx296 : mmax 296 = 2 := congrArg (fun q => q.2.1) mw296
theorem mh296 : mhnd 296 = [] := congrArg (fun q => q.2.2.2.2) mw296
theorem en296 {d : Nat} {G : AH} {o0 : Option Nat} {x1 : Int32} : cl d 296 [vr o0, vi x1] G = At d 296 0 [some (vr o0), some (vi x1)] [] G := by
  unfold cl
  rw [mx296]
  rfl
theorem rX6_isOf_0 {d : Nat} {G : AH} {x : Option Nat} {L : AL} {st : List AV} : At d 296 0 (some (vr x) :: L) st G = At d 296 1 (some (vr x) :: L) (vr x :: st) G := At_aload_n mc296 mk296 mr296 dX6_isOf_0 rfl
theorem rX6_isOf_1 {d : Nat} {G : AH} {a : Nat} {L : AL} {st : List AV} : At d 296 1 L (vr (some a) :: st) G = if okF (hT G a) 144 = true then At d 296 4 L (vi (hI G a 144) :: st) G else none := At_getI mc296 mk296 mr296 dX6_isOf_1 rfl (Or.inl rfl)
theorem rX6_isOf_4 {d : Nat} {G : AH} {l0 : Option AV} {x : Int32} {L : AL} {st : List AV} : At d 296 4 (l0 :: some (vi x) :: L) st G = At d 296 5 (l0 :: some (vi x) :: L) (vi x :: st) G := At_iload_n mc296 mk296 mr296 dX6_isOf_4 rfl
theorem rX6_isOf_5 {d : Nat} {G : AH} {x z : Int32} {L : AL} {st : List AV} : At d 296 5 L (vi z :: vi x :: st) G = if x = z then At d 296 16 L st G else At d 296 8 L st G := At_icmp mc296 mk296 mr296 dX6_isOf_5 (by decide) cnd_eq
theorem rX6_isOf_8 {d : Nat} {G : AH} {x : Option Nat} {L : AL} {st : List AV} : At d 296 8 (some (vr x) :: L) st G = At d 296 9 (some (vr x) :: L) (vr x :: st) G := At_aload_n mc296 mk296 mr296 dX6_isOf_8 rfl
theorem rX6_isOf_9 {d : Nat} {G : AH} {a : Nat} {L : AL} {st : List AV} : At d 296 9 L (vr (some a) :: st) G = if okF (hT G a) 145 = true then At d 296 12 L (vi (hI G a 145) :: st) G else none := At_getI mc296 mk296 mr296 dX6_isOf_9 rfl (Or.inl rfl)
theorem rX6_isOf_12 {d : Nat} {G : AH} {l0 : Option AV} {x : Int32} {L : AL} {st : List AV} : At d 296 12 (l0 :: some (vi x) :: L) st G = At d 296 13 (l0 :: some (vi x) :: L) (vi x :: st) G := At_iload_n mc296 mk296 mr296 dX6_isOf_12 rfl
theorem rX6_isOf_13 {d : Nat} {G : AH} {x z : Int32} {L : AL} {st : List AV} : At d 296 13 L (vi z :: vi x :: st) G = if ¬ x = z then At d 296 20 L st G else At d 296 16 L st G := At_icmp mc296 mk296 mr296 dX6_isOf_13 (by decide) cnd_ne
theorem rX6_isOf_16 {d : Nat} {G : AH} {L : AL} {st : List AV} : At d 296 16 L st G = At d 296 17 L (vi (nI 1) :: st) G := At_c1 mc296 mk296 mr296 dX6_isOf_16 (by decide)
theorem rX6_isOf_17 {d : Nat} {G : AH} {L : AL} {st : List AV} : At d 296 17 L st G = At d 296 21 L st G := At_goto mc296 mk296 mr296 dX6_isOf_17 (by decide)
theorem rX6_isOf_20 {d : Nat} {G : AH} {L : AL} {st : List AV} : At d 296 20 L st G = At d 296 21 L (vi (nI 0) :: st) G := At_c1 mc296 mk296 mr296 dX6_isOf_20 (by decide)
theorem rX6_isOf_21 {d : Nat} {G : AH} {x : Int32} {L : AL} : At d 296 21 L [vi x] G = if b01 x = true then some (.inl (some (vi x)), G) else none := At_zret mc296 mk296 mr296 dX6_isOf_21
theorem mw297 : mRow 297 = (cX6_init, 5, 0, 6, []) := rfl
theorem mc297 : mcode 297 = cX6_init := congrArg (fun q => q.1) mw297
theorem mk297 : mcls 297 = 6 := congrArg (fun q => q.2.2.2.1) mw297
theorem mr297 : mret 297 = 0 := congrArg (fun q => q.2.2.1) mw297
theorem mx297 : mmax 297 = 5 := congrArg (fun q => q.2.1) mw297
theorem mh297 : mhnd 297 = [] := congrArg (fun q => q.2.2.2.2) mw297
theorem en297 {d : Nat} {G : AH} {o0 : Option Nat} {o1 : Option Nat} {x2 : Int32} {x3 : Int32} {x4 : Int32} : cl d 297 [vr o0, vr o1, vi x2, vi x3, vi x4] G = At d 297 0 [some (vr o0), some (vr o1), some (vi x2), some (vi x3), some (vi x4)] [] G := by
  unfold cl
  rw [mx297]
  rfl
theorem rX6_init_0 {d : Nat} {G : AH} {x : Option Nat} {L : AL} {st : List AV} : At d 297 0 (some (vr x) :: L) st G = At d 297 1 (some (vr x) :: L) (vr x :: st) G := At_aload_n mc297 mk297 mr297 dX6_init_0 rfl
theorem rX6_init_1 {d : Nat} {G : AH} {l0 : Option AV} {x : Option Nat} {L : AL} {st : List AV} : At d 297 1 (l0 :: some (vr x) :: L) st G = At d 297 2 (l0 :: some (vr x) :: L) (vr x :: st) G := At_aload_n mc297 mk297 mr297 dX6_init_1 rfl
theorem rX6_init_2 {d : Nat} {G : AH} {a : Nat} {x : Option Nat} {L : AL} {st : List AV} : At d 297 2 L (vr x :: vr (some a) :: st) G = if okF (hT G a) 149 = true then At d 297 5 L st (sR G a 149 x) else none := At_putR mc297 mk297 mr297 dX6_init_2 rfl rfl rfl
theorem rX6_init_5 {d : Nat} {G : AH} {x : Option Nat} {L : AL} {st : List AV} : At d 297 5 (some (vr x) :: L) st G = At d 297 6 (some (vr x) :: L) (vr x :: st) G := At_aload_n mc297 mk297 mr297 dX6_init_5 rfl
theorem rX6_init_6 {d : Nat} {G : AH} {a : Nat} {L : AL} : At d 297 6 L [vr (some a)] G = At d 297 9 L [] G := At_obj (n := 0) mc297 mk297 mr297 dX6_init_6 rfl (Nat.le_of_ble_eq_true rfl)
theorem rX6_init_9 {d : Nat} {G : AH} {x : Option Nat} {L : AL} {st : List AV} : At d 297 9 (some (vr x) :: L) st G = At d 297 10 (some (vr x) :: L) (vr x :: st) G := At_aload_n mc297 mk297 mr297 dX6_init_9 rfl
theorem rX6_init_10 {d : Nat} {G : AH} {L : AL} {st : List AV} : At d 297 10 L st G = At d 297 11 L (vi (nI 1) :: st) G := At_c1 mc297 mk297 mr297 dX6_init_10 (by decide)
theorem rX6_init_11 {d : Nat} {G : AH} {a : Nat} {x : Int32} {L : AL} {st : List AV} : At d 297 11 L (vi x :: vr (some a) :: st) G = if okF (hT G a) 146 = true then (if b01 x = true then At d 297 14 L st (sI G a 146 x) else none) else none := At_putZ mc297 mk297 mr297 dX6_init_11 rfl rfl rfl
theorem rX6_init_14 {d : Nat} {G : AH} {x : Option Nat} {L : AL} {st : List AV} : At d 297 14 (some (vr x) :: L) st G = At d 297 15 (some (vr x) :: L) (vr x :: st) G := At_aload_n mc297 mk297 mr297 dX6_init_14 rfl
theorem rX6_init_15 {d : Nat} {G : AH} {L : AL} {st : List AV} : At d 297 15 L st G = At d 297 17 L (vi (nI 64) :: st) G := At_c2 mc297 mk297 mr297 dX6_init_15 (by decide)
theorem rX6_init_17 {d : Nat} {G : AH} {x : Int32} {L : AL} {st : List AV} : At d 297 17 L (vi x :: st) G = if x < 0 then AtS d 297 17 L 23 (vi x :: st) G else if x ≤ 65536 then At d 297 19 L (vr (some (hN G)) :: st) (mkx G 41 (ix x) 1 (ix x)) else none := At_newa mc297 mk297 mr297 dX6_init_17 rfl (by decide)
theorem rX6_init_19 {d : Nat} {G : AH} {a : Nat} {x : Option Nat} {L : AL} {st : List AV} : At d 297 19 L (vr x :: vr (some a) :: st) G = if okF (hT G a) 147 = true then At d 297 22 L st (sR G a 147 x) else none := At_putR mc297 mk297 mr297 dX6_init_19 rfl rfl rfl
theorem rX6_init_22 {d : Nat} {G : AH} {x : Option Nat} {L : AL} {st : List AV} : At d 297 22 (some (vr x) :: L) st G = At d 297 23 (some (vr x) :: L) (vr x :: st) G := At_aload_n mc297 mk297 mr297 dX6_init_22 rfl
theorem rX6_init_23 {d : Nat} {G : AH} {L : AL} {st : List AV} : At d 297 23 L st G = At d 297 25 L (vi (nI 64) :: st) G := At_c2 mc297 mk297 mr297 dX6_init_23 (by decide)
theorem rX6_init_25 {d : Nat} {G : AH} {x : Int32} {L : AL} {st : List AV} : At d 297 25 L (vi x :: st) G = if x < 0 then AtS d 297 25 L 23 (vi x :: st) G else if x ≤ 65536 then At d 297 27 L (vr (some (hN G)) :: st) (mkx G 41 (ix x) 1 (ix x)) else none := At_newa mc297 mk297 mr297 dX6_init_25 rfl (by decide)
theorem rX6_init_27 {d : Nat} {G : AH} {a : Nat} {x : Option Nat} {L : AL} {st : List AV} : At d 297 27 L (vr x :: vr (some a) :: st) G = if okF (hT G a) 148 = true then At d 297 30 L st (sR G a 148 x) else none := At_putR mc297 mk297 mr297 dX6_init_27 rfl rfl rfl
theorem rX6_init_30 {d : Nat} {G : AH} {x : Option Nat} {L : AL} {st : List AV} : At d 297 30 (some (vr x) :: L) st G = At d 297 31 (some (vr x) :: L) (vr x :: st) G := At_aload_n mc297 mk297 mr297 dX6_init_30 rfl
theorem rX6_init_31 {d : Nat} {G : AH} {l0 : Option AV} {x : Option Nat} {L : AL} {st : List AV} : At d 297 31 (l0 :: some (vr x) :: L) st G = At d 297 32 (l0 :: some (vr x) :: L) (vr x :: st) G := At_aload_n mc297 mk297 mr297 dX6_init_31 rfl
theorem rX6_init_32 {d : Nat} {G : AH} {a : Nat} {L : AL} {st : List AV} : At d 297 32 L (vr (some a) :: st) G = if okF (hT G a) 7 = true then At d 297 35 L (vr (hR G a 7) :: st) G else none := At_getR mc297 mk297 mr297 dX6_init_32 rfl rfl
theorem rX6_init_35 {d : Nat} {G : AH} (h0 : 0 < d) {a : Nat} {o1 : Option Nat} {L : AL} : At d 297 35 L [vr (some a), vr o1] G = if hT G a = 16 then bnd (cl (d - 1) 335 [vr (some a)] G) (fun v G => At d 297 40 L (psh v [vr o1]) G) (fun a G => AtX d 297 35 L a G) else none := At_invF1 (k := 30) (t := 16) (z := 335) (n := 1) h0 mc297 mk297 mr297 dX6_init_35 rfl rfl rfl (by decide) (by decide) (Nat.le_of_ble_eq_true rfl) rfl (Nat.le_of_ble_eq_true rfl) (Nat.le_of_ble_eq_true rfl)
theorem rX6_init_40 {d : Nat} {G : AH} {a : Nat} {x : Int32} {L : AL} {st : List AV} : At d 297 40 L (vi x :: vr (some a) :: st) G = if okF (hT G a) 142 = true then At d 297 43 L st (sI G a 142 x) else none := At_putI mc297 mk297 mr297 dX6_init_40 rfl rfl rfl
theorem rX6_init_43 {d : Nat} {G : AH} {x : Option Nat} {L : AL} {st : List AV} : At d 297 43 (some (vr x) :: L) st G = At d 297 44 (some (vr x) :: L) (vr x :: st) G := At_aload_n mc297 mk297 mr297 dX6_init_43 rfl
theorem rX6_init_44 {d : Nat} {G : AH} {l0 l1 : Option AV} {x : Int32} {L : AL} {st : List AV} : At d 297 44 (l0 :: l1 :: some (vi x) :: L) st G = At d 297 45 (l0 :: l1 :: some (vi x) :: L) (vi x :: st) G := At_iload_n mc297 mk297 mr297 dX6_init_44 rfl
theorem rX6_init_45 {d : Nat} {G : AH} {a : Nat} {x : Int32} {L : AL} {st : List AV} : At d 297 45 L (vi x :: vr (some a) :: st) G = if okF (hT G a) 143 = true then At d 297 48 L st (sI G a 143 x) else none := At_putI mc297 mk297 mr297 dX6_init_45 rfl rfl rfl
theorem rX6_init_48 {d : Nat} {G : AH} {x : Option Nat} {L : AL} {st : List AV} : At d 297 48 (some (vr x) :: L) st G = At d 297 49 (some (vr x) :: L) (vr x :: st) G := At_aload_n mc297 mk297 mr297 dX6_init_48 rfl
theorem rX6_init_49 {d : Nat} {G : AH} {l0 l1 l2 : Option AV} {x : Int32} {L : AL} {st : List AV} : At d 297 49 (l0 :: l1 :: l2 :: some (vi x) :: L) st G = At d 297 50 (l0 :: l1 :: l2 :: some (vi x) :: L) (vi x :: st) G := At_iload_n mc297 mk297 mr297 dX6_init_49 rfl
theorem rX6_init_50 {d : Nat} {G : AH} {a : Nat} {x : Int32} {L : AL} {st : List AV} : At d 297 50 L (vi x :: vr (some a) :: st) G = if okF (hT G a) 144 = true then At d 297 53 L st (sI G a 144 x) else none := At_putI mc297 mk297 mr297 dX6_init_50 rfl rfl rfl
theorem rX6_init_53 {d : Nat} {G : AH} {x : Option Nat} {L : AL} {st : List AV} : At d 297 53 (some (vr x) :: L) st G = At d 297 54 (some (vr x) :: L) (vr x :: st) G := At_aload_n mc297 mk297 mr297 dX6_init_53 rfl
theorem rX6_init_54 {d : Nat} {G : AH} {l0 l1 l2 l3 : Option AV} {x : Int32} {L : AL} {st : List AV} : At d 297 54 (l0 :: l1 :: l2 :: l3 :: some (vi x) :: L) st G = At d 297 56 (l0 :: l1 :: l2 :: l3 :: some (vi x) :: L) (vi x :: st) G := At_iload mc297 mk297 mr297 dX6_init_54 rfl
theorem rX6_init_56 {d : Nat} {G : AH} {a : Nat} {x : Int32} {L : AL} {st : List AV} : At d 297 56 L (vi x :: vr (some a) :: st) G = if okF (hT G a) 145 = true then At d 297 59 L st (sI G a 145 x) else none := At_putI mc297 mk297 mr297 dX6_init_56 rfl rfl rfl
theorem rX6_init_59 {d : Nat} {G : AH} {L : AL} : At d 297 59 L [] G = some (.inl none, G) := At_vret mc297 mk297 mr297 dX6_init_59
theorem mw298 : mRow 298 = (cX6_make, 3, 0, 6, []) := rfl
theorem mc298 : mcode 298 = cX6_make := congrArg (fun q => q.1) mw298
theorem mk298 : mcls 298 = 6 := congrArg (fun q => q.2.2.2.1) mw298
theorem mr298 : mret 298 = 0 := congrArg (fun q => q.2.2.1) mw298
theorem mx298 : mmax 298 = 3 := congrArg (fun q => q.2.1) mw298
theorem mh298 : mhnd 298 = [] := congrArg (fun q => q.2.2.2.2) mw298
theorem en298 {d : Nat} {G : AH} {o0 : Option Nat} : cl d 298 [vr o0] G = At d 298 0 [some (vr o0), none, none] [] G := by
  unfold cl
  rw [mx298]
  rfl
theorem rX6_make_0 {d : Nat} {G : AH} {L : AL} {st : List AV} : At d 298 0 L st G = At d 298 1 L (vi (nI 0) :: st) G := At_c1 mc298 mk298 mr298 dX6_make_0 (by decide)
theorem rX6_make_1 {d : Nat} {G : AH} {l0 l1 : Option AV} {x : Int32} {L : AL} {st : List AV} : At d 298 1 (l0 :: l1 :: L) (vi x :: st) G = At d 298 2 (nl l0 :: some (vi x) :: L) st G := At_istore_n mc298 mk298 mr298 dX6_make_1 rfl
theorem rX6_make_2 {d : Nat} {G : AH} {l0 : Option AV} {x : Int32} {L : AL} {st : List AV} : At d 298 2 (l0 :: some (vi x) :: L) st G = At d 298 3 (l0 :: some (vi x) :: L) (vi x :: st) G := At_iload_n mc298 mk298 mr298 dX6_make_2 rfl
theorem rX6_make_3 {d : Nat} {G : AH} {L : AL} {st : List AV} : At d 298 3 L st G = At d 298 5 L (vi (nI 64) :: st) G := At_c2 mc298 mk298 mr298 dX6_make_3 (by decide)
theorem rX6_make_5 {d : Nat} {G : AH} {x z : Int32} {L : AL} {st : List AV} : At d 298 5 L (vi z :: vi x :: st) G = if z ≤ x then At d 298 28 L st G else At d 298 8 L st G := At_icmp mc298 mk298 mr298 dX6_make_5 (by decide) cnd_ge
theorem rX6_make_8 {d : Nat} {G : AH} {x : Option Nat} {L : AL} {st : List AV} : At d 298 8 (some (vr x) :: L) st G = At d 298 9 (some (vr x) :: L) (vr x :: st) G := At_aload_n mc298 mk298 mr298 dX6_make_8 rfl
theorem rX6_make_9 {d : Nat} {G : AH} {a : Nat} {L : AL} {st : List AV} : At d 298 9 L (vr (some a) :: st) G = if okF (hT G a) 147 = true then At d 298 12 L (vr (hR G a 147) :: st) G else none := At_getR mc298 mk298 mr298 dX6_make_9 rfl rfl
theorem rX6_make_12 {d : Nat} {G : AH} {l0 : Option AV} {x : Int32} {L : AL} {st : List AV} : At d 298 12 (l0 :: some (vi x) :: L) st G = At d 298 13 (l0 :: some (vi x) :: L) (vi x :: st) G := At_iload_n mc298 mk298 mr298 dX6_make_12 rfl
theorem rX6_make_13 {d : Nat} {G : AH} {L : AL} {st : List AV} : At d 298 13 L st G = At d 298 14 L (vl 0 :: st) G := At_lconst mc298 mk298 mr298 dX6_make_13
theorem rX6_make_14 {d : Nat} {G : AH} {a : Nat} {x : Int64} {j : Int32} {L : AL} {st : List AV} : At d 298 14 L (vl x :: vi j :: vr (some a) :: st) G = if hT G a = 41 then (if inb j (hL G a) = true then At d 298 15 L st (sJ G a (ix j) x) else AtS d 298 14 L 22 (vl x :: vi j :: vr (some a) :: st) G) else none := At_last mc298 mk298 mr298 dX6_make_14
theorem rX6_make_15 {d : Nat} {G : AH} {x : Option Nat} {L : AL} {st : List AV} : At d 298 15 (some (vr x) :: L) st G = At d 298 16 (some (vr x) :: L) (vr x :: st) G := At_aload_n mc298 mk298 mr298 dX6_make_15 rfl
theorem rX6_make_16 {d : Nat} {G : AH} {a : Nat} {L : AL} {st : List AV} : At d 298 16 L (vr (some a) :: st) G = if okF (hT G a) 148 = true then At d 298 19 L (vr (hR G a 148) :: st) G else none := At_getR mc298 mk298 mr298 dX6_make_16 rfl rfl
theorem rX6_make_19 {d : Nat} {G : AH} {l0 : Option AV} {x : Int32} {L : AL} {st : List AV} : At d 298 19 (l0 :: some (vi x) :: L) st G = At d 298 20 (l0 :: some (vi x) :: L) (vi x :: st) G := At_iload_n mc298 mk298 mr298 dX6_make_19 rfl
theorem rX6_make_20 {d : Nat} {G : AH} {L : AL} {st : List AV} : At d 298 20 L st G = At d 298 21 L (vl 0 :: st) G := At_lconst mc298 mk298 mr298 dX6_make_20
theorem rX6_make_21 {d : Nat} {G : AH} {a : Nat} {x : Int64} {j : Int32} {L : AL} {st : List AV} : At d 298 21 L (vl x :: vi j :: vr (some a) :: st) G = if hT G a = 41 then (if inb j (hL G a) = true then At d 298 22 L st (sJ G a (ix j) x) else AtS d 298 21 L 22 (vl x :: vi j :: vr (some a) :: st) G) else none := At_last mc298 mk298 mr298 dX6_make_21
theorem rX6_make_22 {d : Nat} {G : AH} {l0 : Option AV} {x : Int32} {L : AL} {st : List AV} : At d 298 22 (l0 :: some (vi x) :: L) st G = At d 298 25 (l0 :: some (vi (x + nI 1)) :: L) st G := At_iinc (x := nI 1) mc298 mk298 mr298 dX6_make_22 (by decide) rfl
theorem rX6_make_25 {d : Nat} {G : AH} {L : AL} {st : List AV} : At d 298 25 L st G = At d 298 2 L st G := At_goto mc298 mk298 mr298 dX6_make_25 (by decide)
theorem rX6_make_28 {d : Nat} {G : AH} {L : AL} {st : List AV} : At d 298 28 L st G = At d 298 29 L (vi (nI 0) :: st) G := At_c1 mc298 mk298 mr298 dX6_make_28 (by decide)
theorem rX6_make_29 {d : Nat} {G : AH} {l0 l1 : Option AV} {x : Int32} {L : AL} {st : List AV} : At d 298 29 (l0 :: l1 :: L) (vi x :: st) G = At d 298 30 (nl l0 :: some (vi x) :: L) st G := At_istore_n mc298 mk298 mr298 dX6_make_29 rfl
theorem rX6_make_30 {d : Nat} {G : AH} {l0 : Option AV} {x : Int32} {L : AL} {st : List AV} : At d 298 30 (l0 :: some (vi x) :: L) st G = At d 298 31 (l0 :: some (vi x) :: L) (vi x :: st) G := At_iload_n mc298 mk298 mr298 dX6_make_30 rfl
theorem rX6_make_31 {d : Nat} {G : AH} {L : AL} {st : List AV} : At d 298 31 L st G = At d 298 33 L (vi (nI 64) :: st) G := At_c2 mc298 mk298 mr298 dX6_make_31 (by decide)
theorem rX6_make_33 {d : Nat} {G : AH} {x z : Int32} {L : AL} {st : List AV} : At d 298 33 L (vi z :: vi x :: st) G = if z ≤ x then At d 298 94 L st G else At d 298 36 L st G := At_icmp mc298 mk298 mr298 dX6_make_33 (by decide) cnd_ge
theorem rX6_make_36 {d : Nat} {G : AH} {L : AL} {st : List AV} : At d 298 36 L st G = At d 298 37 L (vi (nI 0) :: st) G := At_c1 mc298 mk298 mr298 dX6_make_36 (by decide)
theorem rX6_make_37 {d : Nat} {G : AH} {l0 l1 l2 : Option AV} {x : Int32} {L : AL} {st : List AV} : At d 298 37 (l0 :: l1 :: l2 :: L) (vi x :: st) G = At d 298 38 (l0 :: nl l1 :: some (vi x) :: L) st G := At_istore_n mc298 mk298 mr298 dX6_make_37 rfl
theorem rX6_make_38 {d : Nat} {G : AH} {l0 l1 : Option AV} {x : Int32} {L : AL} {st : List AV} : At d 298 38 (l0 :: l1 :: some (vi x) :: L) st G = At d 298 39 (l0 :: l1 :: some (vi x) :: L) (vi x :: st) G := At_iload_n mc298 mk298 mr298 dX6_make_38 rfl
theorem rX6_make_39 {d : Nat} {G : AH} {L : AL} {st : List AV} : At d 298 39 L st G = At d 298 41 L (vi (nI 64) :: st) G := At_c2 mc298 mk298 mr298 dX6_make_39 (by decide)
theorem rX6_make_41 {d : Nat} {G : AH} {x z : Int32} {L : AL} {st : List AV} : At d 298 41 L (vi z :: vi x :: st) G = if z ≤ x then At d 298 88 L st G else At d 298 44 L st G := At_icmp mc298 mk298 mr298 dX6_make_41 (by decide) cnd_ge
theorem rX6_make_44 {d : Nat} {G : AH} {x : Option Nat} {L : AL} {st : List AV} : At d 298 44 (some (vr x) :: L) st G = At d 298 45 (some (vr x) :: L) (vr x :: st) G := At_aload_n mc298 mk298 mr298 dX6_make_44 rfl
theorem rX6_make_45 {d : Nat} {G : AH} {l0 : Option AV} {x : Int32} {L : AL} {st : List AV} : At d 298 45 (l0 :: some (vi x) :: L) st G = At d 298 46 (l0 :: some (vi x) :: L) (vi x :: st) G := At_iload_n mc298 mk298 mr298 dX6_make_45 rfl
theorem rX6_make_46 {d : Nat} {G : AH} {l0 l1 : Option AV} {x : Int32} {L : AL} {st : List AV} : At d 298 46 (l0 :: l1 :: some (vi x) :: L) st G = At d 298 47 (l0 :: l1 :: some (vi x) :: L) (vi x :: st) G := At_iload_n mc298 mk298 mr298 dX6_make_46 rfl
theorem rX6_make_47_t7 {d : Nat} {G : AH} (h0 : 0 < d) {x0 : Int32} {x1 : Int32} {a : Nat} {L : AL} (ht : hT G a = 7) : At d 298 47 L [vi x0, vi x1, vr (some a)] G = bnd (cl (d - 1) 307 [vr (some a), vi x1, vi x0] G) (fun v G => At d 298 50 L (psh v []) G) (fun a G => AtX d 298 47 L a G) := At_invV (k := 49) (z := 307) (n := 3) (ts := [(7, 307), (8, 307), (9, 316), (10, 319), (11, 324)]) h0 ht mc298 mk298 mr298 dX6_make_47 rfl rfl rfl rfl (by decide) (Nat.le_of_ble_eq_true rfl) rfl (Nat.le_of_ble_eq_true rfl) (Nat.le_of_ble_eq_true rfl)
theorem rX6_make_47_t8 {d : Nat} {G : AH} (h0 : 0 < d) {x0 : Int32} {x1 : Int32} {a : Nat} {L : AL} (ht : hT G a = 8) : At d 298 47 L [vi x0, vi x1, vr (some a)] G = bnd (cl (d - 1) 307 [vr (some a), vi x1, vi x0] G) (fun v G => At d 298 50 L (psh v []) G) (fun a G => AtX d 298 47 L a G) := At_invV (k := 49) (z := 307) (n := 3) (ts := [(7, 307), (8, 307), (9, 316), (10, 319), (11, 324)]) h0 ht mc298 mk298 mr298 dX6_make_47 rfl rfl rfl rfl (by decide) (Nat.le_of_ble_eq_true rfl) rfl (Nat.le_of_ble_eq_true rfl) (Nat.le_of_ble_eq_true rfl)
theorem rX6_make_47_t9 {d : Nat} {G : AH} (h0 : 0 < d) {x0 : Int32} {x1 : Int32} {a : Nat} {L : AL} (ht : hT G a = 9) : At d 298 47 L [vi x0, vi x1, vr (some a)] G = bnd (cl (d - 1) 316 [vr (some a), vi x1, vi x0] G) (fun v G => At d 298 50 L (psh v []) G) (fun a G => AtX d 298 47 L a G) := At_invV (k := 49) (z := 316) (n := 3) (ts := [(7, 307), (8, 307), (9, 316), (10, 319), (11, 324)]) h0 ht mc298 mk298 mr298 dX6_make_47 rfl rfl rfl rfl (by decide) (Nat.le_of_ble_eq_true rfl) rfl (Nat.le_of_ble_eq_true rfl) (Nat.le_of_ble_eq_true rfl)
theorem rX6_make_47_t10 {d : Nat} {G : AH} (h0 : 0 < d) {x0 : Int32} {x1 : Int32} {a : Nat} {L : AL} (ht : hT G a = 10) : At d 298 47 L [vi x0, vi x1, vr (some a)] G = bnd (cl (d - 1) 319 [vr (some a), vi x1, vi x0] G) (fun v G => At d 298 50 L (psh v []) G) (fun a G => AtX d 298 47 L a G) := At_invV (k := 49) (z := 319) (n := 3) (ts := [(7, 307), (8, 307), (9, 316), (10, 319), (11, 324)]) h0 ht mc298 mk298 mr298 dX6_make_47 rfl rfl rfl rfl (by decide) (Nat.le_of_ble_eq_true rfl) rfl (Nat.le_of_ble_eq_true rfl) (Nat.le_of_ble_eq_true rfl)
theorem rX6_make_47_t11 {d : Nat} {G : AH} (h0 : 0 < d) {x0 : Int32} {x1 : Int32} {a : Nat} {L : AL} (ht : hT G a = 11) : At d 298 47 L [vi x0, vi x1, vr (some a)] G = bnd (cl (d - 1) 324 [vr (some a), vi x1, vi x0] G) (fun v G => At d 298 50 L (psh v []) G) (fun a G => AtX d 298 47 L a G) := At_invV (k := 49) (z := 324) (n := 3) (ts := [(7, 307), (8, 307), (9, 316), (10, 319), (11, 324)]) h0 ht mc298 mk298 mr298 dX6_make_47 rfl rfl rfl rfl (by decide) (Nat.le_of_ble_eq_true rfl) rfl (Nat.le_of_ble_eq_true rfl) (Nat.le_of_ble_eq_true rfl)
theorem rX6_make_50 {d : Nat} {G : AH} {x : Int32} {L : AL} {st : List AV} : At d 298 50 L (vi x :: st) G = if ¬ x = nI 0 then At d 298 56 L st G else At d 298 53 L st G := At_if mc298 mk298 mr298 dX6_make_50 (by decide) cnd_ne
theorem rX6_make_53 {d : Nat} {G : AH} {L : AL} {st : List AV} : At d 298 53 L st G = At d 298 82 L st G := At_goto mc298 mk298 mr298 dX6_make_53 (by decide)
theorem rX6_make_56 {d : Nat} {G : AH} {x : Option Nat} {L : AL} {st : List AV} : At d 298 56 (some (vr x) :: L) st G = At d 298 57 (some (vr x) :: L) (vr x :: st) G := At_aload_n mc298 mk298 mr298 dX6_make_56 rfl
theorem rX6_make_57 {d : Nat} {G : AH} {a : Nat} {L : AL} {st : List AV} : At d 298 57 L (vr (some a) :: st) G = if okF (hT G a) 147 = true then At d 298 60 L (vr (hR G a 147) :: st) G else none := At_getR mc298 mk298 mr298 dX6_make_57 rfl rfl
theorem rX6_make_60 {d : Nat} {G : AH} {l0 : Option AV} {x : Int32} {L : AL} {st : List AV} : At d 298 60 (l0 :: some (vi x) :: L) st G = At d 298 61 (l0 :: some (vi x) :: L) (vi x :: st) G := At_iload_n mc298 mk298 mr298 dX6_make_60 rfl
theorem rX6_make_61 {d : Nat} {G : AH} {x : Int32} {z : Option Nat} {L : AL} {st : List AV} : At d 298 61 L (vi x :: vr z :: st) G = At d 298 62 L (vi x :: vr z :: vi x :: vr z :: st) G := At_dup2 mc298 mk298 mr298 dX6_make_61
theorem rX6_make_62 {d : Nat} {G : AH} {a : Nat} {j : Int32} {L : AL} {st : List AV} : At d 298 62 L (vi j :: vr (some a) :: st) G = if hT G a = 41 then (if inb j (hL G a) = true then At d 298 63 L (vl (hJ G a (ix j)) :: st) G else AtS d 298 62 L 22 (vi j :: vr (some a) :: st) G) else none := At_AJ mc298 mk298 mr298 dX6_make_62
theorem rX6_make_63 {d : Nat} {G : AH} {l0 l1 : Option AV} {x : Int32} {L : AL} {st : List AV} : At d 298 63 (l0 :: l1 :: some (vi x) :: L) st G = At d 298 64 (l0 :: l1 :: some (vi x) :: L) (vi x :: st) G := At_iload_n mc298 mk298 mr298 dX6_make_63 rfl
theorem rX6_make_64 {d : Nat} {G : AH} (h0 : 0 < d) {x0 : Int32} {x1 : Int64} {x2 : Int32} {o3 : Option Nat} {L : AL} : At d 298 64 L [vi x0, vl x1, vi x2, vr o3] G = bnd (cl (d - 1) 12 [vi x0] G) (fun v G => At d 298 67 L (psh v [vl x1, vi x2, vr o3]) G) (fun a G => AtX d 298 64 L a G) := At_inv (k := 53) (z := 12) (n := 1) h0 mc298 mk298 mr298 dX6_make_64 rfl rfl rfl (by decide) (Nat.le_of_ble_eq_true rfl) rfl (Nat.le_of_ble_eq_true rfl) (Nat.le_of_ble_eq_true rfl)
theorem rX6_make_67 {d : Nat} {G : AH} {x z : Int64} {L : AL} {st : List AV} : At d 298 67 L (vl z :: vl x :: st) G = At d 298 68 L (vl (x ||| z) :: st) G := At_lor mc298 mk298 mr298 dX6_make_67
theorem rX6_make_68 {d : Nat} {G : AH} {a : Nat} {x : Int64} {j : Int32} {L : AL} {st : List AV} : At d 298 68 L (vl x :: vi j :: vr (some a) :: st) G = if hT G a = 41 then (if inb j (hL G a) = true then At d 298 69 L st (sJ G a (ix j) x) else AtS d 298 68 L 22 (vl x :: vi j :: vr (some a) :: st) G) else none := At_last mc298 mk298 mr298 dX6_make_68
theorem rX6_make_69 {d : Nat} {G : AH} {x : Option Nat} {L : AL} {st : List AV} : At d 298 69 (some (vr x) :: L) st G = At d 298 70 (some (vr x) :: L) (vr x :: st) G := At_aload_n mc298 mk298 mr298 dX6_make_69 rfl
theorem rX6_make_70 {d : Nat} {G : AH} {a : Nat} {L : AL} {st : List AV} : At d 298 70 L (vr (some a) :: st) G = if okF (hT G a) 148 = true then At d 298 73 L (vr (hR G a 148) :: st) G else none := At_getR mc298 mk298 mr298 dX6_make_70 rfl rfl
theorem rX6_make_73 {d : Nat} {G : AH} {l0 l1 : Option AV} {x : Int32} {L : AL} {st : List AV} : At d 298 73 (l0 :: l1 :: some (vi x) :: L) st G = At d 298 74 (l0 :: l1 :: some (vi x) :: L) (vi x :: st) G := At_iload_n mc298 mk298 mr298 dX6_make_73 rfl
theorem rX6_make_74 {d : Nat} {G : AH} {x : Int32} {z : Option Nat} {L : AL} {st : List AV} : At d 298 74 L (vi x :: vr z :: st) G = At d 298 75 L (vi x :: vr z :: vi x :: vr z :: st) G := At_dup2 mc298 mk298 mr298 dX6_make_74
theorem rX6_make_75 {d : Nat} {G : AH} {a : Nat} {j : Int32} {L : AL} {st : List AV} : At d 298 75 L (vi j :: vr (some a) :: st) G = if hT G a = 41 then (if inb j (hL G a) = true then At d 298 76 L (vl (hJ G a (ix j)) :: st) G else AtS d 298 75 L 22 (vi j :: vr (some a) :: st) G) else none := At_AJ mc298 mk298 mr298 dX6_make_75
theorem rX6_make_76 {d : Nat} {G : AH} {l0 : Option AV} {x : Int32} {L : AL} {st : List AV} : At d 298 76 (l0 :: some (vi x) :: L) st G = At d 298 77 (l0 :: some (vi x) :: L) (vi x :: st) G := At_iload_n mc298 mk298 mr298 dX6_make_76 rfl
theorem rX6_make_77 {d : Nat} {G : AH} (h0 : 0 < d) {x0 : Int32} {x1 : Int64} {x2 : Int32} {o3 : Option Nat} {L : AL} : At d 298 77 L [vi x0, vl x1, vi x2, vr o3] G = bnd (cl (d - 1) 12 [vi x0] G) (fun v G => At d 298 80 L (psh v [vl x1, vi x2, vr o3]) G) (fun a G => AtX d 298 77 L a G) := At_inv (k := 53) (z := 12) (n := 1) h0 mc298 mk298 mr298 dX6_make_77 rfl rfl rfl (by decide) (Nat.le_of_ble_eq_true rfl) rfl (Nat.le_of_ble_eq_true rfl) (Nat.le_of_ble_eq_true rfl)
theorem rX6_make_80 {d : Nat} {G : AH} {x z : Int64} {L : AL} {st : List AV} : At d 298 80 L (vl z :: vl x :: st) G = At d 298 81 L (vl (x ||| z) :: st) G := At_lor mc298 mk298 mr298 dX6_make_80
theorem rX6_make_81 {d : Nat} {G : AH} {a : Nat} {x : Int64} {j : Int32} {L : AL} {st : List AV} : At d 298 81 L (vl x :: vi j :: vr (some a) :: st) G = if hT G a = 41 then (if inb j (hL G a) = true then At d 298 82 L st (sJ G a (ix j) x) else AtS d 298 81 L 22 (vl x :: vi j :: vr (some a) :: st) G) else none := At_last mc298 mk298 mr298 dX6_make_81
theorem rX6_make_82 {d : Nat} {G : AH} {l0 l1 : Option AV} {x : Int32} {L : AL} {st : List AV} : At d 298 82 (l0 :: l1 :: some (vi x) :: L) st G = At d 298 85 (l0 :: l1 :: some (vi (x + nI 1)) :: L) st G := At_iinc (x := nI 1) mc298 mk298 mr298 dX6_make_82 (by decide) rfl
theorem rX6_make_85 {d : Nat} {G : AH} {L : AL} {st : List AV} : At d 298 85 L st G = At d 298 38 L st G := At_goto mc298 mk298 mr298 dX6_make_85 (by decide)
theorem rX6_make_88 {d : Nat} {G : AH} {l0 : Option AV} {x : Int32} {L : AL} {st : List AV} : At d 298 88 (l0 :: some (vi x) :: L) st G = At d 298 91 (l0 :: some (vi (x + nI 1)) :: L) st G := At_iinc (x := nI 1) mc298 mk298 mr298 dX6_make_88 (by decide) rfl
theorem rX6_make_91 {d : Nat} {G : AH} {L : AL} {st : List AV} : At d 298 91 L st G = At d 298 30 L st G := At_goto mc298 mk298 mr298 dX6_make_91 (by decide)
theorem rX6_make_94 {d : Nat} {G : AH} {L : AL} : At d 298 94 L [] G = some (.inl none, G) := At_vret mc298 mk298 mr298 dX6_make_94
theorem mw299 : mRow 299 = (cX6_p, 1, 1, 6, []) := rfl
theorem mc299 : mcode 299 = cX6_p := congrArg (fun q => q.1) mw299
theorem mk299 : mcls 299 = 6 := congrArg (fun q => q.2.2.2.1) mw299
theorem mr299 : mret 299 = 1 := congrArg (fun q => q.2.2.1) mw299
theorem mx299 : mmax 299 = 1 := congrArg (fun q => q.2.1) mw299
theorem mh299 : mhnd 299 = [] := congrArg (fun q => q.2.2.2.2) mw299
theorem en299 {d : Nat} {G : AH} {o0 : Option Nat} : cl d 299 [vr o0] G = At d 299 0 [some (vr o0)] [] G := by
  unfold cl
  rw [mx299]
  rfl
theorem rX6_p_0 {d : Nat} {G : AH} {L : AL} {st : List AV} : At d 299 0 L st G = At d 299 1 L (vi (nI 0) :: st) G := At_c1 mc299 mk299 mr299 dX6_p_0 (by decide)
theorem rX6_p_1 {d : Nat} {G : AH} {x : Int32} {L : AL} : At d 299 1 L [vi x] G = some (.inl (some (vi x)), G) := At_iret mc299 mk299 mr299 dX6_p_1
theorem mw300 : mRow 300 = (cX6_q, 1, 1, 6, []) := rfl
theorem mc300 : mcode 300 = cX6_q := congrArg (fun q => q.1) mw300
theorem mk300 : mcls 300 = 6 := congrArg (fun q => q.2.2.2.1) mw300
theorem mr300 : mret 300 = 1 := congrArg (fun q => q.2.2.1) mw300
theorem mx300 : mmax 300 = 1 := congrArg (fun q => q.2.1) mw300
theorem mh300 : mhnd 300 = [] := congrArg (fun q => q.2.2.2.2) mw300
theorem en300 {d : Nat} {G : AH} {o0 : Option Nat} : cl d 300 [vr o0] G = At d 300 0 [some (vr o0)] [] G := by
  unfold cl
  rw [mx300]
  rfl
theorem rX6_q_0 {d : Nat} {G : AH} {L : AL} {st : List AV} : At d 300 0 L st G = At d 300 1 L (vi (nI 0) :: st) G := At_c1 mc300 mk300 mr300 dX6_q_0 (by decide)
theorem rX6_q_1 {d : Nat} {G : AH} {x : Int32} {L : AL} : At d 300 1 L [vi x] G = some (.inl (some (vi x)), G) := At_iret mc300 mk300 mr300 dX6_q_1
theorem mw301 : mRow 301 = (cX6_other, 2, 1, 6, []) := rfl
theorem mc301 : mcode 301 = cX6_other := congrArg (fun q => q.1) mw301
theorem mk301 : mcls 301 = 6 := congrArg (fun q => q.2.2.2.1) mw301
theorem mr301 : mret 301 = 1 := congrArg (fun q => q.2.2.1) mw301
theorem mx301 : mmax 301 = 2 := congrArg (fun q => q.2.1) mw301
theorem mh301 : mhnd 301 = [] := congrArg (fun q => q.2.2.2.2) mw301
theorem en301 {d : Nat} {G : AH} {o0 : Option Nat} {x1 : Int32} : cl d 301 [vr o0, vi x1] G = At d 301 0 [some (vr o0), some (vi x1)] [] G := by
  unfold cl
  rw [mx301]
  rfl
theorem rX6_other_0 {d : Nat} {G : AH} {x : Option Nat} {L : AL} {st : List AV} : At d 301 0 (some (vr x) :: L) st G = At d 301 1 (some (vr x) :: L) (vr x :: st) G := At_aload_n mc301 mk301 mr301 dX6_other_0 rfl
theorem rX6_other_1 {d : Nat} {G : AH} {a : Nat} {L : AL} {st : List AV} : At d 301 1 L (vr (some a) :: st) G = if okF (hT G a) 144 = true then At d 301 4 L (vi (hI G a 144) :: st) G else none := At_getI mc301 mk301 mr301 dX6_other_1 rfl (Or.inl rfl)
theorem rX6_other_4 {d : Nat} {G : AH} {l0 : Option AV} {x : Int32} {L : AL} {st : List AV} : At d 301 4 (l0 :: some (vi x) :: L) st G = At d 301 5 (l0 :: some (vi x) :: L) (vi x :: st) G := At_iload_n mc301 mk301 mr301 dX6_other_4 rfl
theorem rX6_other_5 {d : Nat} {G : AH} {x z : Int32} {L : AL} {st : List AV} : At d 301 5 L (vi z :: vi x :: st) G = if ¬ x = z then At d 301 15 L st G else At d 301 8 L st G := At_icmp mc301 mk301 mr301 dX6_other_5 (by decide) cnd_ne
theorem rX6_other_8 {d : Nat} {G : AH} {x : Option Nat} {L : AL} {st : List AV} : At d 301 8 (some (vr x) :: L) st G = At d 301 9 (some (vr x) :: L) (vr x :: st) G := At_aload_n mc301 mk301 mr301 dX6_other_8 rfl
theorem rX6_other_9 {d : Nat} {G : AH} {a : Nat} {L : AL} {st : List AV} : At d 301 9 L (vr (some a) :: st) G = if okF (hT G a) 145 = true then At d 301 12 L (vi (hI G a 145) :: st) G else none := At_getI mc301 mk301 mr301 dX6_other_9 rfl (Or.inl rfl)
theorem rX6_other_12 {d : Nat} {G : AH} {L : AL} {st : List AV} : At d 301 12 L st G = At d 301 19 L st G := At_goto mc301 mk301 mr301 dX6_other_12 (by decide)
theorem rX6_other_15 {d : Nat} {G : AH} {x : Option Nat} {L : AL} {st : List AV} : At d 301 15 (some (vr x) :: L) st G = At d 301 16 (some (vr x) :: L) (vr x :: st) G := At_aload_n mc301 mk301 mr301 dX6_other_15 rfl
theorem rX6_other_16 {d : Nat} {G : AH} {a : Nat} {L : AL} {st : List AV} : At d 301 16 L (vr (some a) :: st) G = if okF (hT G a) 144 = true then At d 301 19 L (vi (hI G a 144) :: st) G else none := At_getI mc301 mk301 mr301 dX6_other_16 rfl (Or.inl rfl)
theorem rX6_other_19 {d : Nat} {G : AH} {x : Int32} {L : AL} : At d 301 19 L [vi x] G = some (.inl (some (vi x)), G) := At_iret mc301 mk301 mr301 dX6_other_19
theorem mw302 : mRow 302 = (cX6_with, 3, 2, 6, []) := rfl
theorem mc302 : mcode 302 = cX6_with := congrArg (fun q => q.1) mw302
theorem mk302 : mcls 302 = 6 := congrArg (fun q => q.2.2.2.1) mw302
theorem mr302 : mret 302 = 2 := congrArg (fun q => q.2.2.1) mw302
theorem mx302 : mmax 302 = 3 := congrArg (fun q => q.2.1) mw302
theorem mh302 : mhnd 302 = [] := congrArg (fun q => q.2.2.2.2) mw302
theorem en302 {d : Nat} {G : AH} {o0 : Option Nat} {x1 : Int32} {x2 : Int32} : cl d 302 [vr o0, vi x1, vi x2] G = At d 302 0 [some (vr o0), some (vi x1), some (vi x2)] [] G := by
  unfold cl
  rw [mx302]
  rfl
theorem rX6_with_0 {d : Nat} {G : AH} {x : Option Nat} {L : AL} {st : List AV} : At d 302 0 (some (vr x) :: L) st G = At d 302 1 (some (vr x) :: L) (vr x :: st) G := At_aload_n mc302 mk302 mr302 dX6_with_0 rfl
theorem rX6_with_1 {d : Nat} {G : AH} {a : Nat} {L : AL} {st : List AV} : At d 302 1 L (vr (some a) :: st) G = if okF (hT G a) 144 = true then At d 302 4 L (vi (hI G a 144) :: st) G else none := At_getI mc302 mk302 mr302 dX6_with_1 rfl (Or.inl rfl)
theorem rX6_with_4 {d : Nat} {G : AH} {l0 : Option AV} {x : Int32} {L : AL} {st : List AV} : At d 302 4 (l0 :: some (vi x) :: L) st G = At d 302 5 (l0 :: some (vi x) :: L) (vi x :: st) G := At_iload_n mc302 mk302 mr302 dX6_with_4 rfl
theorem rX6_with_5 {d : Nat} {G : AH} {x z : Int32} {L : AL} {st : List AV} : At d 302 5 L (vi z :: vi x :: st) G = if ¬ x = z then At d 302 17 L st G else At d 302 8 L st G := At_icmp mc302 mk302 mr302 dX6_with_5 (by decide) cnd_ne
theorem rX6_with_8 {d : Nat} {G : AH} {x : Option Nat} {L : AL} {st : List AV} : At d 302 8 (some (vr x) :: L) st G = At d 302 9 (some (vr x) :: L) (vr x :: st) G := At_aload_n mc302 mk302 mr302 dX6_with_8 rfl
theorem rX6_with_9 {d : Nat} {G : AH} {a : Nat} {L : AL} {st : List AV} : At d 302 9 L (vr (some a) :: st) G = if okF (hT G a) 147 = true then At d 302 12 L (vr (hR G a 147) :: st) G else none := At_getR mc302 mk302 mr302 dX6_with_9 rfl rfl
theorem rX6_with_12 {d : Nat} {G : AH} {l0 l1 : Option AV} {x : Int32} {L : AL} {st : List AV} : At d 302 12 (l0 :: l1 :: some (vi x) :: L) st G = At d 302 13 (l0 :: l1 :: some (vi x) :: L) (vi x :: st) G := At_iload_n mc302 mk302 mr302 dX6_with_12 rfl
theorem rX6_with_13 {d : Nat} {G : AH} {a : Nat} {j : Int32} {L : AL} {st : List AV} : At d 302 13 L (vi j :: vr (some a) :: st) G = if hT G a = 41 then (if inb j (hL G a) = true then At d 302 14 L (vl (hJ G a (ix j)) :: st) G else AtS d 302 13 L 22 (vi j :: vr (some a) :: st) G) else none := At_AJ mc302 mk302 mr302 dX6_with_13
theorem rX6_with_14 {d : Nat} {G : AH} {L : AL} {st : List AV} : At d 302 14 L st G = At d 302 23 L st G := At_goto mc302 mk302 mr302 dX6_with_14 (by decide)
theorem rX6_with_17 {d : Nat} {G : AH} {x : Option Nat} {L : AL} {st : List AV} : At d 302 17 (some (vr x) :: L) st G = At d 302 18 (some (vr x) :: L) (vr x :: st) G := At_aload_n mc302 mk302 mr302 dX6_with_17 rfl
theorem rX6_with_18 {d : Nat} {G : AH} {a : Nat} {L : AL} {st : List AV} : At d 302 18 L (vr (some a) :: st) G = if okF (hT G a) 148 = true then At d 302 21 L (vr (hR G a 148) :: st) G else none := At_getR mc302 mk302 mr302 dX6_with_18 rfl rfl
theorem rX6_with_21 {d : Nat} {G : AH} {l0 l1 : Option AV} {x : Int32} {L : AL} {st : List AV} : At d 302 21 (l0 :: l1 :: some (vi x) :: L) st G = At d 302 22 (l0 :: l1 :: some (vi x) :: L) (vi x :: st) G := At_iload_n mc302 mk302 mr302 dX6_with_21 rfl
theorem rX6_with_22 {d : Nat} {G : AH} {a : Nat} {j : Int32} {L : AL} {st : List AV} : At d 302 22 L (vi j :: vr (some a) :: st) G = if hT G a = 41 then (if inb j (hL G a) = true then At d 302 23 L (vl (hJ G a (ix j)) :: st) G else AtS d 302 22 L 22 (vi j :: vr (some a) :: st) G) else none := At_AJ mc302 mk302 mr302 dX6_with_22
theorem rX6_with_23 {d : Nat} {G : AH} {x : Int64} {L : AL} : At d 302 23 L [vl x] G = some (.inl (some (vl x)), G) := At_lret mc302 mk302 mr302 dX6_with_23
theorem mw303 : mRow 303 = (cX6_sum, 1, 1, 6, []) := rfl
theorem mc303 : mcode 303 = cX6_sum := congrArg (fun q => q.1) mw303
theorem mk303 : mcls 303 = 6 := congrArg (fun q => q.2.2.2.1) mw303
theorem mr303 : mret 303 = 1 := congrArg (fun q => q.2.2.1) mw303
theorem mx303 : mmax 303 = 1 := congrArg (fun q => q.2.1) mw303
theorem mh303 : mhnd 303 = [] := congrArg (fun q => q.2.2.2.2) mw303
theorem en303 {d : Nat} {G : AH} {o0 : Option Nat} : cl d 303 [vr o0] G = At d 303 0 [some (vr o0)] [] G := by
  unfold cl
  rw [mx303]
  rfl
theorem rX6_sum_0 {d : Nat} {G : AH} {x : Option Nat} {L : AL} {st : List AV} : At d 303 0 (some (vr x) :: L) st G = At d 303 1 (some (vr x) :: L) (vr x :: st) G := At_aload_n mc303 mk303 mr303 dX6_sum_0 rfl
theorem rX6_sum_1 {d : Nat} {G : AH} {a : Nat} {L : AL} {st : List AV} : At d 303 1 L (vr (some a) :: st) G = if okF (hT G a) 149 = true then At d 303 4 L (vr (hR G a 149) :: st) G else none := At_getR mc303 mk303 mr303 dX6_sum_1 rfl rfl
theorem rX6_sum_4 {d : Nat} {G : AH} {L : AL} {st : List AV} : At d 303 4 L st G = At d 303 5 L (vi (nI 4) :: st) G := At_c1 mc303 mk303 mr303 dX6_sum_4 (by decide)
theorem rX6_sum_5 {d : Nat} {G : AH} (h0 : 0 < d) {x0 : Int32} {a : Nat} {L : AL} : At d 303 5 L [vi x0, vr (some a)] G = if hT G a = 0 then bnd (cl (d - 1) 129 [vr (some a), vi x0] G) (fun v G => At d 303 8 L (psh v []) G) (fun a G => AtX d 303 5 L a G) else none := At_invV1 (k := 57) (t := 0) (z := 129) (n := 2) h0 mc303 mk303 mr303 dX6_sum_5 rfl rfl rfl (by decide) (by decide) (Nat.le_of_ble_eq_true rfl) rfl (Nat.le_of_ble_eq_true rfl) (Nat.le_of_ble_eq_true rfl)
theorem rX6_sum_8 {d : Nat} {G : AH} {x : Option Nat} {L : AL} {st : List AV} : At d 303 8 (some (vr x) :: L) st G = At d 303 9 (some (vr x) :: L) (vr x :: st) G := At_aload_n mc303 mk303 mr303 dX6_sum_8 rfl
theorem rX6_sum_9 {d : Nat} {G : AH} {a : Nat} {L : AL} {st : List AV} : At d 303 9 L (vr (some a) :: st) G = if okF (hT G a) 144 = true then At d 303 12 L (vi (hI G a 144) :: st) G else none := At_getI mc303 mk303 mr303 dX6_sum_9 rfl (Or.inl rfl)
theorem rX6_sum_12 {d : Nat} {G : AH} {x : Option Nat} {L : AL} {st : List AV} : At d 303 12 (some (vr x) :: L) st G = At d 303 13 (some (vr x) :: L) (vr x :: st) G := At_aload_n mc303 mk303 mr303 dX6_sum_12 rfl
theorem rX6_sum_13 {d : Nat} {G : AH} {a : Nat} {L : AL} {st : List AV} : At d 303 13 L (vr (some a) :: st) G = if okF (hT G a) 145 = true then At d 303 16 L (vi (hI G a 145) :: st) G else none := At_getI mc303 mk303 mr303 dX6_sum_13 rfl (Or.inl rfl)
theorem rX6_sum_16 {d : Nat} {G : AH} {x z : Int32} {L : AL} {st : List AV} : At d 303 16 L (vi z :: vi x :: st) G = At d 303 17 L (vi (x + z) :: st) G := At_iadd mc303 mk303 mr303 dX6_sum_16
theorem rX6_sum_17 {d : Nat} {G : AH} {x : Int32} {L : AL} : At d 303 17 L [vi x] G = some (.inl (some (vi x)), G) := At_iret mc303 mk303 mr303 dX6_sum_17
theorem mw304 : mRow 304 = (cX6_tell, 1, 1, 6, []) := rfl
theorem mc304 : mcode 304 = cX6_tell := congrArg (fun q => q.1) mw304
theorem mk304 : mcls 304 = 6 := congrArg (fun q => q.2.2.2.1) mw304
theorem mr304 : mret 304 = 1 := congrArg (fun q => q.2.2.1) mw304
theorem mx304 : mmax 304 = 1 := congrArg (fun q => q.2.1) mw304
theorem mh304 : mhnd 304 = [] := congrArg (fun q => q.2.2.2.2) mw304
theorem en304 {d : Nat} {G : AH} {o0 : Option Nat} : cl d 304 [vr o0] G = At d 304 0 [some (vr o0)] [] G := by
  unfold cl
  rw [mx304]
  rfl
theorem rX6_tell_0 {d : Nat} {G : AH} {x : Option Nat} {L : AL} {st : List AV} : At d 304 0 (some (vr x) :: L) st G = At d 304 1 (some (vr x) :: L) (vr x :: st) G := At_aload_n mc304 mk304 mr304 dX6_tell_0 rfl
theorem rX6_tell_1_t7 {d : Nat} {G : AH} (h0 : 0 < d) {a : Nat} {L : AL} (ht : hT G a = 7) : At d 304 1 L [vr (some a)] G = bnd (cl (d - 1) 303 [vr (some a)] G) (fun v G => At d 304 4 L (psh v []) G) (fun a G => AtX d 304 1 L a G) := At_invV (k := 61) (z := 303) (n := 1) (ts := [(7, 303), (8, 303), (9, 303), (10, 303), (11, 303)]) h0 ht mc304 mk304 mr304 dX6_tell_1 rfl rfl rfl rfl (by decide) (Nat.le_of_ble_eq_true rfl) rfl (Nat.le_of_ble_eq_true rfl) (Nat.le_of_ble_eq_true rfl)
theorem rX6_tell_1_t8 {d : Nat} {G : AH} (h0 : 0 < d) {a : Nat} {L : AL} (ht : hT G a = 8) : At d 304 1 L [vr (some a)] G = bnd (cl (d - 1) 303 [vr (some a)] G) (fun v G => At d 304 4 L (psh v []) G) (fun a G => AtX d 304 1 L a G) := At_invV (k := 61) (z := 303) (n := 1) (ts := [(7, 303), (8, 303), (9, 303), (10, 303), (11, 303)]) h0 ht mc304 mk304 mr304 dX6_tell_1 rfl rfl rfl rfl (by decide) (Nat.le_of_ble_eq_true rfl) rfl (Nat.le_of_ble_eq_true rfl) (Nat.le_of_ble_eq_true rfl)
theorem rX6_tell_1_t9 {d : Nat} {G : AH} (h0 : 0 < d) {a : Nat} {L : AL} (ht : hT G a = 9) : At d 304 1 L [vr (some a)] G = bnd (cl (d - 1) 303 [vr (some a)] G) (fun v G => At d 304 4 L (psh v []) G) (fun a G => AtX d 304 1 L a G) := At_invV (k := 61) (z := 303) (n := 1) (ts := [(7, 303), (8, 303), (9, 303), (10, 303), (11, 303)]) h0 ht mc304 mk304 mr304 dX6_tell_1 rfl rfl rfl rfl (by decide) (Nat.le_of_ble_eq_true rfl) rfl (Nat.le_of_ble_eq_true rfl) (Nat.le_of_ble_eq_true rfl)
theorem rX6_tell_1_t10 {d : Nat} {G : AH} (h0 : 0 < d) {a : Nat} {L : AL} (ht : hT G a = 10) : At d 304 1 L [vr (some a)] G = bnd (cl (d - 1) 303 [vr (some a)] G) (fun v G => At d 304 4 L (psh v []) G) (fun a G => AtX d 304 1 L a G) := At_invV (k := 61) (z := 303) (n := 1) (ts := [(7, 303), (8, 303), (9, 303), (10, 303), (11, 303)]) h0 ht mc304 mk304 mr304 dX6_tell_1 rfl rfl rfl rfl (by decide) (Nat.le_of_ble_eq_true rfl) rfl (Nat.le_of_ble_eq_true rfl) (Nat.le_of_ble_eq_true rfl)
theorem rX6_tell_1_t11 {d : Nat} {G : AH} (h0 : 0 < d) {a : Nat} {L : AL} (ht : hT G a = 11) : At d 304 1 L [vr (some a)] G = bnd (cl (d - 1) 303 [vr (some a)] G) (fun v G => At d 304 4 L (psh v []) G) (fun a G => AtX d 304 1 L a G) := At_invV (k := 61) (z := 303) (n := 1) (ts := [(7, 303), (8, 303), (9, 303), (10, 303), (11, 303)]) h0 ht mc304 mk304 mr304 dX6_tell_1 rfl rfl rfl rfl (by decide) (Nat.le_of_ble_eq_true rfl) rfl (Nat.le_of_ble_eq_true rfl) (Nat.le_of_ble_eq_true rfl)
theorem rX6_tell_4 {d : Nat} {G : AH} {x : Int32} {L : AL} : At d 304 4 L [vi x] G = some (.inl (some (vi x)), G) := At_iret mc304 mk304 mr304 dX6_tell_4
theorem mw305 : mRow 305 = (cX6_usual, 1, 1, 6, []) := rfl
theorem mc305 : mcode 305 = cX6_usual := congrArg (fun q => q.1) mw305
theorem mk305 : mcls 305 = 6 := congrArg (fun q => q.2.2.2.1) mw305
theorem mr305 : mret 305 = 1 := congrArg (fun q => q.2.2.1) mw305
theorem mx305 : mmax 305 = 1 := congrArg (fun q => q.2.1) mw305
theorem mh305 : mhnd 305 = [] := congrArg (fun q => q.2.2.2.2) mw305
theorem en305 {d : Nat} {G : AH} {o0 : Option Nat} : cl d 305 [vr o0] G = At d 305 0 [some (vr o0)] [] G := by
  unfold cl
  rw [mx305]
  rfl
theorem rX6_usual_0 {d : Nat} {G : AH} {x : Option Nat} {L : AL} {st : List AV} : At d 305 0 (some (vr x) :: L) st G = At d 305 1 (some (vr x) :: L) (vr x :: st) G := At_aload_n mc305 mk305 mr305 dX6_usual_0 rfl
theorem rX6_usual_1 {d : Nat} {G : AH} {a : Nat} {L : AL} {st : List AV} : At d 305 1 L (vr (some a) :: st) G = if okF (hT G a) 149 = true then At d 305 4 L (vr (hR G a 149) :: st) G else none := At_getR mc305 mk305 mr305 dX6_usual_1 rfl rfl
theorem rX6_usual_4 {d : Nat} {G : AH} {L : AL} {st : List AV} : At d 305 4 L st G = At d 305 6 L (vi (nI 11) :: st) G := At_c2 mc305 mk305 mr305 dX6_usual_4 (by decide)
theorem rX6_usual_6 {d : Nat} {G : AH} (h0 : 0 < d) {x0 : Int32} {a : Nat} {L : AL} : At d 305 6 L [vi x0, vr (some a)] G = if hT G a = 0 then bnd (cl (d - 1) 129 [vr (some a), vi x0] G) (fun v G => At d 305 9 L (psh v []) G) (fun a G => AtX d 305 6 L a G) else none := At_invV1 (k := 57) (t := 0) (z := 129) (n := 2) h0 mc305 mk305 mr305 dX6_usual_6 rfl rfl rfl (by decide) (by decide) (Nat.le_of_ble_eq_true rfl) rfl (Nat.le_of_ble_eq_true rfl) (Nat.le_of_ble_eq_true rfl)
theorem rX6_usual_9 {d : Nat} {G : AH} {L : AL} {st : List AV} : At d 305 9 L st G = At d 305 11 L (vi (nI 10) :: st) G := At_c2 mc305 mk305 mr305 dX6_usual_9 (by decide)
theorem rX6_usual_11 {d : Nat} {G : AH} {x : Option Nat} {L : AL} {st : List AV} : At d 305 11 (some (vr x) :: L) st G = At d 305 12 (some (vr x) :: L) (vr x :: st) G := At_aload_n mc305 mk305 mr305 dX6_usual_11 rfl
theorem rX6_usual_12 {d : Nat} {G : AH} {a : Nat} {L : AL} {st : List AV} : At d 305 12 L (vr (some a) :: st) G = if okF (hT G a) 143 = true then At d 305 15 L (vi (hI G a 143) :: st) G else none := At_getI mc305 mk305 mr305 dX6_usual_12 rfl (Or.inl rfl)
theorem rX6_usual_15 {d : Nat} {G : AH} {x z : Int32} {L : AL} {st : List AV} : At d 305 15 L (vi z :: vi x :: st) G = At d 305 16 L (vi (x + z) :: st) G := At_iadd mc305 mk305 mr305 dX6_usual_15
theorem rX6_usual_16 {d : Nat} {G : AH} {x : Int32} {L : AL} : At d 305 16 L [vi x] G = some (.inl (some (vi x)), G) := At_iret mc305 mk305 mr305 dX6_usual_16
theorem mw306 : mRow 306 = (cX7_init, 7, 0, 7, []) := rfl
theorem mc306 : mcode 306 = cX7_init := congrArg (fun q => q.1) mw306
theorem mk306 : mcls 306 = 7 := congrArg (fun q => q.2.2.2.1) mw306
theorem mr306 : mret 306 = 0 := congrArg (fun q => q.2.2.1) mw306
theorem mx306 : mmax 306 = 7 := congrArg (fun q => q.2.1) mw306
theorem mh306 : mhnd 306 = [] := congrArg (fun q => q.2.2.2.2) mw306
theorem en306 {d : Nat} {G : AH} {o0 : Option Nat} {o1 : Option Nat} {x2 : Int32} {x3 : Int32} {x4 : Int32} {x5 : Int32} {x6 : Int32} : cl d 306 [vr o0, vr o1, vi x2, vi x3, vi x4, vi x5, vi x6] G = At d 306 0 [some (vr o0), some (vr o1), some (vi x2), some (vi x3), some (vi x4), some (vi x5), some (vi x6)] [] G := by
  unfold cl
  rw [mx306]
  rfl
theorem rX7_init_0 {d : Nat} {G : AH} {x : Option Nat} {L : AL} {st : List AV} : At d 306 0 (some (vr x) :: L) st G = At d 306 1 (some (vr x) :: L) (vr x :: st) G := At_aload_n mc306 mk306 mr306 dX7_init_0 rfl
theorem rX7_init_1 {d : Nat} {G : AH} {l0 : Option AV} {x : Option Nat} {L : AL} {st : List AV} : At d 306 1 (l0 :: some (vr x) :: L) st G = At d 306 2 (l0 :: some (vr x) :: L) (vr x :: st) G := At_aload_n mc306 mk306 mr306 dX7_init_1 rfl
theorem rX7_init_2 {d : Nat} {G : AH} {a : Nat} {x : Option Nat} {L : AL} {st : List AV} : At d 306 2 L (vr x :: vr (some a) :: st) G = if okF (hT G a) 154 = true then At d 306 5 L st (sR G a 154 x) else none := At_putR mc306 mk306 mr306 dX7_init_2 rfl rfl rfl
theorem rX7_init_5 {d : Nat} {G : AH} {x : Option Nat} {L : AL} {st : List AV} : At d 306 5 (some (vr x) :: L) st G = At d 306 6 (some (vr x) :: L) (vr x :: st) G := At_aload_n mc306 mk306 mr306 dX7_init_5 rfl
theorem rX7_init_6 {d : Nat} {G : AH} {l0 : Option AV} {x : Option Nat} {L : AL} {st : List AV} : At d 306 6 (l0 :: some (vr x) :: L) st G = At d 306 7 (l0 :: some (vr x) :: L) (vr x :: st) G := At_aload_n mc306 mk306 mr306 dX7_init_6 rfl
theorem rX7_init_7 {d : Nat} {G : AH} {l0 l1 : Option AV} {x : Int32} {L : AL} {st : List AV} : At d 306 7 (l0 :: l1 :: some (vi x) :: L) st G = At d 306 8 (l0 :: l1 :: some (vi x) :: L) (vi x :: st) G := At_iload_n mc306 mk306 mr306 dX7_init_7 rfl
theorem rX7_init_8 {d : Nat} {G : AH} {l0 l1 l2 : Option AV} {x : Int32} {L : AL} {st : List AV} : At d 306 8 (l0 :: l1 :: l2 :: some (vi x) :: L) st G = At d 306 9 (l0 :: l1 :: l2 :: some (vi x) :: L) (vi x :: st) G := At_iload_n mc306 mk306 mr306 dX7_init_8 rfl
theorem rX7_init_9 {d : Nat} {G : AH} {l0 l1 l2 l3 : Option AV} {x : Int32} {L : AL} {st : List AV} : At d 306 9 (l0 :: l1 :: l2 :: l3 :: some (vi x) :: L) st G = At d 306 11 (l0 :: l1 :: l2 :: l3 :: some (vi x) :: L) (vi x :: st) G := At_iload mc306 mk306 mr306 dX7_init_9 rfl
theorem rX7_init_11 {d : Nat} {G : AH} (h0 : 0 < d) {x0 : Int32} {x1 : Int32} {x2 : Int32} {o3 : Option Nat} {a : Nat} {L : AL} : At d 306 11 L [vi x0, vi x1, vi x2, vr o3, vr (some a)] G = bnd (cl (d - 1) 297 [vr (some a), vr o3, vi x2, vi x1, vi x0] G) (fun v G => At d 306 14 L (psh v []) G) (fun a G => AtX d 306 11 L a G) := At_invS (k := 7) (z := 297) (n := 5) h0 mc306 mk306 mr306 dX7_init_11 rfl rfl rfl (by decide) (Nat.le_of_ble_eq_true rfl) rfl (Nat.le_of_ble_eq_true rfl) (Nat.le_of_ble_eq_true rfl)
theorem rX7_init_14 {d : Nat} {G : AH} {x : Option Nat} {L : AL} {st : List AV} : At d 306 14 (some (vr x) :: L) st G = At d 306 15 (some (vr x) :: L) (vr x :: st) G := At_aload_n mc306 mk306 mr306 dX7_init_14 rfl
theorem rX7_init_15 {d : Nat} {G : AH} {l0 l1 l2 l3 l4 : Option AV} {x : Int32} {L : AL} {st : List AV} : At d 306 15 (l0 :: l1 :: l2 :: l3 :: l4 :: some (vi x) :: L) st G = At d 306 17 (l0 :: l1 :: l2 :: l3 :: l4 :: some (vi x) :: L) (vi x :: st) G := At_iload mc306 mk306 mr306 dX7_init_15 rfl
theorem rX7_init_17 {d : Nat} {G : AH} {a : Nat} {x : Int32} {L : AL} {st : List AV} : At d 306 17 L (vi x :: vr (some a) :: st) G = if okF (hT G a) 152 = true then At d 306 20 L st (sI G a 152 x) else none := At_putI mc306 mk306 mr306 dX7_init_17 rfl rfl rfl
theorem rX7_init_20 {d : Nat} {G : AH} {x : Option Nat} {L : AL} {st : List AV} : At d 306 20 (some (vr x) :: L) st G = At d 306 21 (some (vr x) :: L) (vr x :: st) G := At_aload_n mc306 mk306 mr306 dX7_init_20 rfl
theorem rX7_init_21 {d : Nat} {G : AH} {l0 l1 l2 l3 l4 l5 : Option AV} {x : Int32} {L : AL} {st : List AV} : At d 306 21 (l0 :: l1 :: l2 :: l3 :: l4 :: l5 :: some (vi x) :: L) st G = At d 306 23 (l0 :: l1 :: l2 :: l3 :: l4 :: l5 :: some (vi x) :: L) (vi x :: st) G := At_iload mc306 mk306 mr306 dX7_init_21 rfl
theorem rX7_init_23 {d : Nat} {G : AH} {a : Nat} {x : Int32} {L : AL} {st : List AV} : At d 306 23 L (vi x :: vr (some a) :: st) G = if okF (hT G a) 153 = true then At d 306 26 L st (sI G a 153 x) else none := At_putI mc306 mk306 mr306 dX7_init_23 rfl rfl rfl
theorem rX7_init_26 {d : Nat} {G : AH} {L : AL} : At d 306 26 L [] G = some (.inl none, G) := At_vret mc306 mk306 mr306 dX7_init_26
theorem mw307 : mRow 307 = (cX7_isKept, 3, 4, 7, []) := rfl
theorem mc307 : mcode 307 = cX7_isKept := congrArg (fun q => q.1) mw307
theorem mk307 : mcls 307 = 7 := congrArg (fun q => q.2.2.2.1) mw307
theorem mr307 : mret 307 = 4 := congrArg (fun q => q.2.2.1) mw307
theorem mx307 : mmax 307 = 3 := congrArg (fun q => q.2.1) mw307
theorem mh307 : mhnd 307 = [] := congrArg (fun q => q.2.2.2.2) mw307
theorem en307 {d : Nat} {G : AH} {o0 : Option Nat} {x1 : Int32} {x2 : Int32} : cl d 307 [vr o0, vi x1, vi x2] G = At d 307 0 [some (vr o0), some (vi x1), some (vi x2)] [] G := by
  unfold cl
  rw [mx307]
  rfl
theorem rX7_isKept_0 {d : Nat} {G : AH} {l0 : Option AV} {x : Int32} {L : AL} {st : List AV} : At d 307 0 (l0 :: some (vi x) :: L) st G = At d 307 1 (l0 :: some (vi x) :: L) (vi x :: st) G := At_iload_n mc307 mk307 mr307 dX7_isKept_0 rfl
theorem rX7_isKept_1 {d : Nat} {G : AH} {l0 l1 : Option AV} {x : Int32} {L : AL} {st : List AV} : At d 307 1 (l0 :: l1 :: some (vi x) :: L) st G = At d 307 2 (l0 :: l1 :: some (vi x) :: L) (vi x :: st) G := At_iload_n mc307 mk307 mr307 dX7_isKept_1 rfl
theorem rX7_isKept_2 {d : Nat} {G : AH} (h0 : 0 < d) {x0 : Int32} {x1 : Int32} {L : AL} : At d 307 2 L [vi x0, vi x1] G = bnd (cl (d - 1) 19 [vi x1, vi x0] G) (fun v G => At d 307 5 L (psh v []) G) (fun a G => AtX d 307 2 L a G) := At_inv (k := 20) (z := 19) (n := 2) h0 mc307 mk307 mr307 dX7_isKept_2 rfl rfl rfl (by decide) (Nat.le_of_ble_eq_true rfl) rfl (Nat.le_of_ble_eq_true rfl) (Nat.le_of_ble_eq_true rfl)
theorem rX7_isKept_5 {d : Nat} {G : AH} {x : Int32} {L : AL} {st : List AV} : At d 307 5 L (vi x :: st) G = At d 307 6 L (vl x.toInt64 :: st) G := At_i2l mc307 mk307 mr307 dX7_isKept_5
theorem rX7_isKept_6 {d : Nat} {G : AH} {x : Option Nat} {L : AL} {st : List AV} : At d 307 6 (some (vr x) :: L) st G = At d 307 7 (some (vr x) :: L) (vr x :: st) G := At_aload_n mc307 mk307 mr307 dX7_isKept_6 rfl
theorem rX7_isKept_7 {d : Nat} {G : AH} {a : Nat} {L : AL} {st : List AV} : At d 307 7 L (vr (some a) :: st) G = if okF (hT G a) 152 = true then At d 307 10 L (vi (hI G a 152) :: st) G else none := At_getI mc307 mk307 mr307 dX7_isKept_7 rfl (Or.inl rfl)
theorem rX7_isKept_10 {d : Nat} {G : AH} {x : Int32} {L : AL} {st : List AV} : At d 307 10 L (vi x :: st) G = At d 307 11 L (vl x.toInt64 :: st) G := At_i2l mc307 mk307 mr307 dX7_isKept_10
theorem rX7_isKept_11 {d : Nat} {G : AH} {x : Option Nat} {L : AL} {st : List AV} : At d 307 11 (some (vr x) :: L) st G = At d 307 12 (some (vr x) :: L) (vr x :: st) G := At_aload_n mc307 mk307 mr307 dX7_isKept_11 rfl
theorem rX7_isKept_12 {d : Nat} {G : AH} {a : Nat} {L : AL} {st : List AV} : At d 307 12 L (vr (some a) :: st) G = if okF (hT G a) 153 = true then At d 307 15 L (vi (hI G a 153) :: st) G else none := At_getI mc307 mk307 mr307 dX7_isKept_12 rfl (Or.inl rfl)
theorem rX7_isKept_15 {d : Nat} {G : AH} {x : Int32} {L : AL} {st : List AV} : At d 307 15 L (vi x :: st) G = At d 307 16 L (vl x.toInt64 :: st) G := At_i2l mc307 mk307 mr307 dX7_isKept_15
theorem rX7_isKept_16 {d : Nat} {G : AH} (h0 : 0 < d) {x0 : Int64} {x1 : Int64} {x2 : Int64} {L : AL} : At d 307 16 L [vl x0, vl x1, vl x2] G = bnd (cl (d - 1) 4 [vl x2, vl x1, vl x0] G) (fun v G => At d 307 19 L (psh v []) G) (fun a G => AtX d 307 16 L a G) := At_inv (k := 26) (z := 4) (n := 3) h0 mc307 mk307 mr307 dX7_isKept_16 rfl rfl rfl (by decide) (Nat.le_of_ble_eq_true rfl) rfl (Nat.le_of_ble_eq_true rfl) (Nat.le_of_ble_eq_true rfl)
theorem rX7_isKept_19 {d : Nat} {G : AH} {x : Int32} {L : AL} : At d 307 19 L [vi x] G = if b01 x = true then some (.inl (some (vi x)), G) else none := At_zret mc307 mk307 mr307 dX7_isKept_19
theorem mw308 : mRow 308 = (cX7_p, 1, 1, 7, []) := rfl
theorem mc308 : mcode 308 = cX7_p := congrArg (fun q => q.1) mw308
theorem mk308 : mcls 308 = 7 := congrArg (fun q => q.2.2.2.1) mw308
theorem mr308 : mret 308 = 1 := congrArg (fun q => q.2.2.1) mw308
theorem mx308 : mmax 308 = 1 := congrArg (fun q => q.2.1) mw308
theorem mh308 : mhnd 308 = [] := congrArg (fun q => q.2.2.2.2) mw308
theorem en308 {d : Nat} {G : AH} {o0 : Option Nat} : cl d 308 [vr o0] G = At d 308 0 [some (vr o0)] [] G := by
  unfold cl
  rw [mx308]
  rfl
theorem rX7_p_0 {d : Nat} {G : AH} {x : Option Nat} {L : AL} {st : List AV} : At d 308 0 (some (vr x) :: L) st G = At d 308 1 (some (vr x) :: L) (vr x :: st) G := At_aload_n mc308 mk308 mr308 dX7_p_0 rfl
theorem rX7_p_1 {d : Nat} {G : AH} {a : Nat} {L : AL} {st : List AV} : At d 308 1 L (vr (some a) :: st) G = if okF (hT G a) 152 = true then At d 308 4 L (vi (hI G a 152) :: st) G else none := At_getI mc308 mk308 mr308 dX7_p_1 rfl (Or.inl rfl)
theorem rX7_p_4 {d : Nat} {G : AH} {x : Int32} {L : AL} : At d 308 4 L [vi x] G = some (.inl (some (vi x)), G) := At_iret mc308 mk308 mr308 dX7_p_4
theorem mw309 : mRow 309 = (cX7_q, 1, 1, 7, []) := rfl
theorem mc309 : mcode 309 = cX7_q := congrArg (fun q => q.1) mw309
theorem mk309 : mcls 309 = 7 := congrArg (fun q => q.2.2.2.1) mw309
theorem mr309 : mret 309 = 1 := congrArg (fun q => q.2.2.1) mw309
theorem mx309 : mmax 309 = 1 := congrArg (fun q => q.2.1) mw309
theorem mh309 : mhnd 309 = [] := congrArg (fun q => q.2.2.2.2) mw309
theorem en309 {d : Nat} {G : AH} {o0 : Option Nat} : cl d 309 [vr o0] G = At d 309 0 [some (vr o0)] [] G := by
  unfold cl
  rw [mx309]
  rfl
theorem rX7_q_0 {d : Nat} {G : AH} {x : Option Nat} {L : AL} {st : List AV} : At d 309 0 (some (vr x) :: L) st G = At d 309 1 (some (vr x) :: L) (vr x :: st) G := At_aload_n mc309 mk309 mr309 dX7_q_0 rfl
theorem rX7_q_1 {d : Nat} {G : AH} {a : Nat} {L : AL} {st : List AV} : At d 309 1 L (vr (some a) :: st) G = if okF (hT G a) 153 = true then At d 309 4 L (vi (hI G a 153) :: st) G else none := At_getI mc309 mk309 mr309 dX7_q_1 rfl (Or.inl rfl)
theorem rX7_q_4 {d : Nat} {G : AH} {x : Int32} {L : AL} : At d 309 4 L [vi x] G = some (.inl (some (vi x)), G) := At_iret mc309 mk309 mr309 dX7_q_4
theorem mw310 : mRow 310 = (cX7_tell, 1, 1, 7, []) := rfl
theorem mc310 : mcode 310 = cX7_tell := congrArg (fun q => q.1) mw310
theorem mk310 : mcls 310 = 7 := congrArg (fun q => q.2.2.2.1) mw310
theorem mr310 : mret 310 = 1 := congrArg (fun q => q.2.2.1) mw310
theorem mx310 : mmax 310 = 1 := congrArg (fun q => q.2.1) mw310
theorem mh310 : mhnd 310 = [] := congrArg (fun q => q.2.2.2.2) mw310
theorem en310 {d : Nat} {G : AH} {o0 : Option Nat} : cl d 310 [vr o0] G = At d 310 0 [some (vr o0)] [] G := by
  unfold cl
  rw [mx310]
  rfl
theorem rX7_tell_0 {d : Nat} {G : AH} {x : Option Nat} {L : AL} {st : List AV} : At d 310 0 (some (vr x) :: L) st G = At d 310 1 (some (vr x) :: L) (vr x :: st) G := At_aload_n mc310 mk310 mr310 dX7_tell_0 rfl
theorem rX7_tell_1_t7 {d : Nat} {G : AH} (h0 : 0 < d) {a : Nat} {L : AL} (ht : hT G a = 7) : At d 310 1 L [vr (some a)] G = bnd (cl (d - 1) 311 [vr (some a)] G) (fun v G => At d 310 4 L (psh v []) G) (fun a G => AtX d 310 1 L a G) := At_invV (k := 44) (z := 311) (n := 1) (ts := [(7, 311), (8, 311), (9, 311), (11, 311)]) h0 ht mc310 mk310 mr310 dX7_tell_1 rfl rfl rfl rfl (by decide) (Nat.le_of_ble_eq_true rfl) rfl (Nat.le_of_ble_eq_true rfl) (Nat.le_of_ble_eq_true rfl)
theorem rX7_tell_1_t8 {d : Nat} {G : AH} (h0 : 0 < d) {a : Nat} {L : AL} (ht : hT G a = 8) : At d 310 1 L [vr (some a)] G = bnd (cl (d - 1) 311 [vr (some a)] G) (fun v G => At d 310 4 L (psh v []) G) (fun a G => AtX d 310 1 L a G) := At_invV (k := 44) (z := 311) (n := 1) (ts := [(7, 311), (8, 311), (9, 311), (11, 311)]) h0 ht mc310 mk310 mr310 dX7_tell_1 rfl rfl rfl rfl (by decide) (Nat.le_of_ble_eq_true rfl) rfl (Nat.le_of_ble_eq_true rfl) (Nat.le_of_ble_eq_true rfl)
theorem rX7_tell_1_t9 {d : Nat} {G : AH} (h0 : 0 < d) {a : Nat} {L : AL} (ht : hT G a = 9) : At d 310 1 L [vr (some a)] G = bnd (cl (d - 1) 311 [vr (some a)] G) (fun v G => At d 310 4 L (psh v []) G) (fun a G => AtX d 310 1 L a G) := At_invV (k := 44) (z := 311) (n := 1) (ts := [(7, 311), (8, 311), (9, 311), (11, 311)]) h0 ht mc310 mk310 mr310 dX7_tell_1 rfl rfl rfl rfl (by decide) (Nat.le_of_ble_eq_true rfl) rfl (Nat.le_of_ble_eq_true rfl) (Nat.le_of_ble_eq_true rfl)
theorem rX7_tell_1_t11 {d : Nat} {G : AH} (h0 : 0 < d) {a : Nat} {L : AL} (ht : hT G a = 11) : At d 310 1 L [vr (some a)] G = bnd (cl (d - 1) 311 [vr (some a)] G) (fun v G => At d 310 4 L (psh v []) G) (fun a G => AtX d 310 1 L a G) := At_invV (k := 44) (z := 311) (n := 1) (ts := [(7, 311), (8, 311), (9, 311), (11, 311)]) h0 ht mc310 mk310 mr310 dX7_tell_1 rfl rfl rfl rfl (by decide) (Nat.le_of_ble_eq_true rfl) rfl (Nat.le_of_ble_eq_true rfl) (Nat.le_of_ble_eq_true rfl)
theorem rX7_tell_4 {d : Nat} {G : AH} {x : Int32} {L : AL} : At d 310 4 L [vi x] G = some (.inl (some (vi x)), G) := At_iret mc310 mk310 mr310 dX7_tell_4
theorem mw311 : mRow 311 = (cX7_farTold, 1, 1, 7, []) := rfl
theorem mc311 : mcode 311 = cX7_farTold := congrArg (fun q => q.1) mw311
theorem mk311 : mcls 311 = 7 := congrArg (fun q => q.2.2.2.1) mw311
theorem mr311 : mret 311 = 1 := congrArg (fun q => q.2.2.1) mw311
theorem mx311 : mmax 311 = 1 := congrArg (fun q => q.2.1) mw311
theorem mh311 : mhnd 311 = [] := congrArg (fun q => q.2.2.2.2) mw311
theorem en311 {d : Nat} {G : AH} {o0 : Option Nat} : cl d 311 [vr o0] G = At d 311 0 [some (vr o0)] [] G := by
  unfold cl
  rw [mx311]
  rfl
theorem rX7_farTold_0 {d : Nat} {G : AH} {x : Option Nat} {L : AL} {st : List AV} : At d 311 0 (some (vr x) :: L) st G = At d 311 1 (some (vr x) :: L) (vr x :: st) G := At_aload_n mc311 mk311 mr311 dX7_farTold_0 rfl
theorem rX7_farTold_1 {d : Nat} {G : AH} {a : Nat} {L : AL} {st : List AV} : At d 311 1 L (vr (some a) :: st) G = if okF (hT G a) 154 = true then At d 311 4 L (vr (hR G a 154) :: st) G else none := At_getR mc311 mk311 mr311 dX7_farTold_1 rfl rfl
theorem rX7_farTold_4 {d : Nat} {G : AH} {L : AL} {st : List AV} : At d 311 4 L st G = At d 311 5 L (vi (nI 5) :: st) G := At_c1 mc311 mk311 mr311 dX7_farTold_4 (by decide)
theorem rX7_farTold_5 {d : Nat} {G : AH} (h0 : 0 < d) {x0 : Int32} {a : Nat} {L : AL} : At d 311 5 L [vi x0, vr (some a)] G = if hT G a = 0 then bnd (cl (d - 1) 129 [vr (some a), vi x0] G) (fun v G => At d 311 8 L (psh v []) G) (fun a G => AtX d 311 5 L a G) else none := At_invV1 (k := 30) (t := 0) (z := 129) (n := 2) h0 mc311 mk311 mr311 dX7_farTold_5 rfl rfl rfl (by decide) (by decide) (Nat.le_of_ble_eq_true rfl) rfl (Nat.le_of_ble_eq_true rfl) (Nat.le_of_ble_eq_true rfl)
theorem rX7_farTold_8 {d : Nat} {G : AH} {x : Option Nat} {L : AL} {st : List AV} : At d 311 8 (some (vr x) :: L) st G = At d 311 9 (some (vr x) :: L) (vr x :: st) G := At_aload_n mc311 mk311 mr311 dX7_farTold_8 rfl
theorem rX7_farTold_9_t7 {d : Nat} {G : AH} (h0 : 0 < d) {a : Nat} {L : AL} (ht : hT G a = 7) : At d 311 9 L [vr (some a)] G = bnd (cl (d - 1) 303 [vr (some a)] G) (fun v G => At d 311 12 L (psh v []) G) (fun a G => AtX d 311 9 L a G) := At_invV (k := 34) (z := 303) (n := 1) (ts := [(7, 303), (8, 303), (9, 303), (11, 303)]) h0 ht mc311 mk311 mr311 dX7_farTold_9 rfl rfl rfl rfl (by decide) (Nat.le_of_ble_eq_true rfl) rfl (Nat.le_of_ble_eq_true rfl) (Nat.le_of_ble_eq_true rfl)
theorem rX7_farTold_9_t8 {d : Nat} {G : AH} (h0 : 0 < d) {a : Nat} {L : AL} (ht : hT G a = 8) : At d 311 9 L [vr (some a)] G = bnd (cl (d - 1) 303 [vr (some a)] G) (fun v G => At d 311 12 L (psh v []) G) (fun a G => AtX d 311 9 L a G) := At_invV (k := 34) (z := 303) (n := 1) (ts := [(7, 303), (8, 303), (9, 303), (11, 303)]) h0 ht mc311 mk311 mr311 dX7_farTold_9 rfl rfl rfl rfl (by decide) (Nat.le_of_ble_eq_true rfl) rfl (Nat.le_of_ble_eq_true rfl) (Nat.le_of_ble_eq_true rfl)
theorem rX7_farTold_9_t9 {d : Nat} {G : AH} (h0 : 0 < d) {a : Nat} {L : AL} (ht : hT G a = 9) : At d 311 9 L [vr (some a)] G = bnd (cl (d - 1) 303 [vr (some a)] G) (fun v G => At d 311 12 L (psh v []) G) (fun a G => AtX d 311 9 L a G) := At_invV (k := 34) (z := 303) (n := 1) (ts := [(7, 303), (8, 303), (9, 303), (11, 303)]) h0 ht mc311 mk311 mr311 dX7_farTold_9 rfl rfl rfl rfl (by decide) (Nat.le_of_ble_eq_true rfl) rfl (Nat.le_of_ble_eq_true rfl) (Nat.le_of_ble_eq_true rfl)
theorem rX7_farTold_9_t11 {d : Nat} {G : AH} (h0 : 0 < d) {a : Nat} {L : AL} (ht : hT G a = 11) : At d 311 9 L [vr (some a)] G = bnd (cl (d - 1) 303 [vr (some a)] G) (fun v G => At d 311 12 L (psh v []) G) (fun a G => AtX d 311 9 L a G) := At_invV (k := 34) (z := 303) (n := 1) (ts := [(7, 303), (8, 303), (9, 303), (11, 303)]) h0 ht mc311 mk311 mr311 dX7_farTold_9 rfl rfl rfl rfl (by decide) (Nat.le_of_ble_eq_true rfl) rfl (Nat.le_of_ble_eq_true rfl) (Nat.le_of_ble_eq_true rfl)
theorem rX7_farTold_12 {d : Nat} {G : AH} {x : Option Nat} {L : AL} {st : List AV} : At d 311 12 (some (vr x) :: L) st G = At d 311 13 (some (vr x) :: L) (vr x :: st) G := At_aload_n mc311 mk311 mr311 dX7_farTold_12 rfl
theorem rX7_farTold_13_t7 {d : Nat} {G : AH} (h0 : 0 < d) {a : Nat} {x1 : Int32} {L : AL} (ht : hT G a = 7) : At d 311 13 L [vr (some a), vi x1] G = bnd (cl (d - 1) 308 [vr (some a)] G) (fun v G => At d 311 16 L (psh v [vi x1]) G) (fun a G => AtX d 311 13 L a G) := At_invV (k := 38) (z := 308) (n := 1) (ts := [(7, 308), (8, 308), (9, 308), (11, 325)]) h0 ht mc311 mk311 mr311 dX7_farTold_13 rfl rfl rfl rfl (by decide) (Nat.le_of_ble_eq_true rfl) rfl (Nat.le_of_ble_eq_true rfl) (Nat.le_of_ble_eq_true rfl)
theorem rX7_farTold_13_t8 {d : Nat} {G : AH} (h0 : 0 < d) {a : Nat} {x1 : Int32} {L : AL} (ht : hT G a = 8) : At d 311 13 L [vr (some a), vi x1] G = bnd (cl (d - 1) 308 [vr (some a)] G) (fun v G => At d 311 16 L (psh v [vi x1]) G) (fun a G => AtX d 311 13 L a G) := At_invV (k := 38) (z := 308) (n := 1) (ts := [(7, 308), (8, 308), (9, 308), (11, 325)]) h0 ht mc311 mk311 mr311 dX7_farTold_13 rfl rfl rfl rfl (by decide) (Nat.le_of_ble_eq_true rfl) rfl (Nat.le_of_ble_eq_true rfl) (Nat.le_of_ble_eq_true rfl)
theorem rX7_farTold_13_t9 {d : Nat} {G : AH} (h0 : 0 < d) {a : Nat} {x1 : Int32} {L : AL} (ht : hT G a = 9) : At d 311 13 L [vr (some a), vi x1] G = bnd (cl (d - 1) 308 [vr (some a)] G) (fun v G => At d 311 16 L (psh v [vi x1]) G) (fun a G => AtX d 311 13 L a G) := At_invV (k := 38) (z := 308) (n := 1) (ts := [(7, 308), (8, 308), (9, 308), (11, 325)]) h0 ht mc311 mk311 mr311 dX7_farTold_13 rfl rfl rfl rfl (by decide) (Nat.le_of_ble_eq_true rfl) rfl (Nat.le_of_ble_eq_true rfl) (Nat.le_of_ble_eq_true rfl)
theorem rX7_farTold_13_t11 {d : Nat} {G : AH} (h0 : 0 < d) {a : Nat} {x1 : Int32} {L : AL} (ht : hT G a = 11) : At d 311 13 L [vr (some a), vi x1] G = bnd (cl (d - 1) 325 [vr (some a)] G) (fun v G => At d 311 16 L (psh v [vi x1]) G) (fun a G => AtX d 311 13 L a G) := At_invV (k := 38) (z := 325) (n := 1) (ts := [(7, 308), (8, 308), (9, 308), (11, 325)]) h0 ht mc311 mk311 mr311 dX7_farTold_13 rfl rfl rfl rfl (by decide) (Nat.le_of_ble_eq_true rfl) rfl (Nat.le_of_ble_eq_true rfl) (Nat.le_of_ble_eq_true rfl)
theorem rX7_farTold_16 {d : Nat} {G : AH} {x z : Int32} {L : AL} {st : List AV} : At d 311 16 L (vi z :: vi x :: st) G = At d 311 17 L (vi (x + z) :: st) G := At_iadd mc311 mk311 mr311 dX7_farTold_16
theorem rX7_farTold_17 {d : Nat} {G : AH} {x : Option Nat} {L : AL} {st : List AV} : At d 311 17 (some (vr x) :: L) st G = At d 311 18 (some (vr x) :: L) (vr x :: st) G := At_aload_n mc311 mk311 mr311 dX7_farTold_17 rfl
theorem rX7_farTold_18_t7 {d : Nat} {G : AH} (h0 : 0 < d) {a : Nat} {x1 : Int32} {L : AL} (ht : hT G a = 7) : At d 311 18 L [vr (some a), vi x1] G = bnd (cl (d - 1) 309 [vr (some a)] G) (fun v G => At d 311 21 L (psh v [vi x1]) G) (fun a G => AtX d 311 18 L a G) := At_invV (k := 41) (z := 309) (n := 1) (ts := [(7, 309), (8, 309), (9, 309), (11, 309)]) h0 ht mc311 mk311 mr311 dX7_farTold_18 rfl rfl rfl rfl (by decide) (Nat.le_of_ble_eq_true rfl) rfl (Nat.le_of_ble_eq_true rfl) (Nat.le_of_ble_eq_true rfl)
theorem rX7_farTold_18_t8 {d : Nat} {G : AH} (h0 : 0 < d) {a : Nat} {x1 : Int32} {L : AL} (ht : hT G a = 8) : At d 311 18 L [vr (some a), vi x1] G = bnd (cl (d - 1) 309 [vr (some a)] G) (fun v G => At d 311 21 L (psh v [vi x1]) G) (fun a G => AtX d 311 18 L a G) := At_invV (k := 41) (z := 309) (n := 1) (ts := [(7, 309), (8, 309), (9, 309), (11, 309)]) h0 ht mc311 mk311 mr311 dX7_farTold_18 rfl rfl rfl rfl (by decide) (Nat.le_of_ble_eq_true rfl) rfl (Nat.le_of_ble_eq_true rfl) (Nat.le_of_ble_eq_true rfl)
theorem rX7_farTold_18_t9 {d : Nat} {G : AH} (h0 : 0 < d) {a : Nat} {x1 : Int32} {L : AL} (ht : hT G a = 9) : At d 311 18 L [vr (some a), vi x1] G = bnd (cl (d - 1) 309 [vr (some a)] G) (fun v G => At d 311 21 L (psh v [vi x1]) G) (fun a G => AtX d 311 18 L a G) := At_invV (k := 41) (z := 309) (n := 1) (ts := [(7, 309), (8, 309), (9, 309), (11, 309)]) h0 ht mc311 mk311 mr311 dX7_farTold_18 rfl rfl rfl rfl (by decide) (Nat.le_of_ble_eq_true rfl) rfl (Nat.le_of_ble_eq_true rfl) (Nat.le_of_ble_eq_true rfl)
theorem rX7_farTold_18_t11 {d : Nat} {G : AH} (h0 : 0 < d) {a : Nat} {x1 : Int32} {L : AL} (ht : hT G a = 11) : At d 311 18 L [vr (some a), vi x1] G = bnd (cl (d - 1) 309 [vr (some a)] G) (fun v G => At d 311 21 L (psh v [vi x1]) G) (fun a G => AtX d 311 18 L a G) := At_invV (k := 41) (z := 309) (n := 1) (ts := [(7, 309), (8, 309), (9, 309), (11, 309)]) h0 ht mc311 mk311 mr311 dX7_farTold_18 rfl rfl rfl rfl (by decide) (Nat.le_of_ble_eq_true rfl) rfl (Nat.le_of_ble_eq_true rfl) (Nat.le_of_ble_eq_true rfl)
theorem rX7_farTold_21 {d : Nat} {G : AH} {x z : Int32} {L : AL} {st : List AV} : At d 311 21 L (vi z :: vi x :: st) G = At d 311 22 L (vi (x + z) :: st) G := At_iadd mc311 mk311 mr311 dX7_farTold_21
theorem rX7_farTold_22 {d : Nat} {G : AH} {x : Int32} {L : AL} : At d 311 22 L [vi x] G = some (.inl (some (vi x)), G) := At_iret mc311 mk311 mr311 dX7_farTold_22
theorem mw312 : mRow 312 = (cX8_init, 6, 0, 8, []) := rfl
theorem mc312 : mcode 312 = cX8_init := congrArg (fun q => q.1) mw312
theorem mk312 : mcls 312 = 8 := congrArg (fun q => q.2.2.2.1) mw312
theorem mr312 : mret 312 = 0 := congrArg (fun q => q.2.2.1) mw312
theorem mx312 : mmax 312 = 6 := congrArg (fun q => q.2.1) mw312
theorem mh312 : mhnd 312 = [] := congrArg (fun q => q.2.2.2.2) mw312
theorem en312 {d : Nat} {G : AH} {o0 : Option Nat} {o1 : Option Nat} {x2 : Int32} {x3 : Int32} {x4 : Int32} {x5 : Int32} : cl d 312 [vr o0, vr o1, vi x2, vi x3, vi x4, vi x5] G = At d 312 0 [some (vr o0), some (vr o1), some (vi x2), some (vi x3), some (vi x4), some (vi x5)] [] G := by
  unfold cl
  rw [mx312]
  rfl
theorem rX8_init_0 {d : Nat} {G : AH} {x : Option Nat} {L : AL} {st : List AV} : At d 312 0 (some (vr x) :: L) st G = At d 312 1 (some (vr x) :: L) (vr x :: st) G := At_aload_n mc312 mk312 mr312 dX8_init_0 rfl
theorem rX8_init_1 {d : Nat} {G : AH} {l0 : Option AV} {x : Option Nat} {L : AL} {st : List AV} : At d 312 1 (l0 :: some (vr x) :: L) st G = At d 312 2 (l0 :: some (vr x) :: L) (vr x :: st) G := At_aload_n mc312 mk312 mr312 dX8_init_1 rfl
theorem rX8_init_2 {d : Nat} {G : AH} {a : Nat} {x : Option Nat} {L : AL} {st : List AV} : At d 312 2 L (vr x :: vr (some a) :: st) G = if okF (hT G a) 155 = true then At d 312 5 L st (sR G a 155 x) else none := At_putR mc312 mk312 mr312 dX8_init_2 rfl rfl rfl
theorem rX8_init_5 {d : Nat} {G : AH} {x : Option Nat} {L : AL} {st : List AV} : At d 312 5 (some (vr x) :: L) st G = At d 312 6 (some (vr x) :: L) (vr x :: st) G := At_aload_n mc312 mk312 mr312 dX8_init_5 rfl
theorem rX8_init_6 {d : Nat} {G : AH} {l0 : Option AV} {x : Option Nat} {L : AL} {st : List AV} : At d 312 6 (l0 :: some (vr x) :: L) st G = At d 312 7 (l0 :: some (vr x) :: L) (vr x :: st) G := At_aload_n mc312 mk312 mr312 dX8_init_6 rfl
theorem rX8_init_7 {d : Nat} {G : AH} {l0 l1 : Option AV} {x : Int32} {L : AL} {st : List AV} : At d 312 7 (l0 :: l1 :: some (vi x) :: L) st G = At d 312 8 (l0 :: l1 :: some (vi x) :: L) (vi x :: st) G := At_iload_n mc312 mk312 mr312 dX8_init_7 rfl
theorem rX8_init_8 {d : Nat} {G : AH} {l0 l1 l2 : Option AV} {x : Int32} {L : AL} {st : List AV} : At d 312 8 (l0 :: l1 :: l2 :: some (vi x) :: L) st G = At d 312 9 (l0 :: l1 :: l2 :: some (vi x) :: L) (vi x :: st) G := At_iload_n mc312 mk312 mr312 dX8_init_8 rfl
theorem rX8_init_9 {d : Nat} {G : AH} {l0 l1 l2 l3 : Option AV} {x : Int32} {L : AL} {st : List AV} : At d 312 9 (l0 :: l1 :: l2 :: l3 :: some (vi x) :: L) st G = At d 312 11 (l0 :: l1 :: l2 :: l3 :: some (vi x) :: L) (vi x :: st) G := At_iload mc312 mk312 mr312 dX8_init_9 rfl
theorem rX8_init_11 {d : Nat} {G : AH} {L : AL} {st : List AV} : At d 312 11 L st G = At d 312 12 L (vi (nI 0) :: st) G := At_c1 mc312 mk312 mr312 dX8_init_11 (by decide)
theorem rX8_init_12 {d : Nat} {G : AH} {l0 l1 l2 l3 l4 : Option AV} {x : Int32} {L : AL} {st : List AV} : At d 312 12 (l0 :: l1 :: l2 :: l3 :: l4 :: some (vi x) :: L) st G = At d 312 14 (l0 :: l1 :: l2 :: l3 :: l4 :: some (vi x) :: L) (vi x :: st) G := At_iload mc312 mk312 mr312 dX8_init_12 rfl
theorem rX8_init_14 {d : Nat} {G : AH} (h0 : 0 < d) {x0 : Int32} {x1 : Int32} {x2 : Int32} {x3 : Int32} {x4 : Int32} {o5 : Option Nat} {a : Nat} {L : AL} : At d 312 14 L [vi x0, vi x1, vi x2, vi x3, vi x4, vr o5, vr (some a)] G = bnd (cl (d - 1) 306 [vr (some a), vr o5, vi x4, vi x3, vi x2, vi x1, vi x0] G) (fun v G => At d 312 17 L (psh v []) G) (fun a G => AtX d 312 14 L a G) := At_invS (k := 7) (z := 306) (n := 7) h0 mc312 mk312 mr312 dX8_init_14 rfl rfl rfl (by decide) (Nat.le_of_ble_eq_true rfl) rfl (Nat.le_of_ble_eq_true rfl) (Nat.le_of_ble_eq_true rfl)
theorem rX8_init_17 {d : Nat} {G : AH} {L : AL} : At d 312 17 L [] G = some (.inl none, G) := At_vret mc312 mk312 mr312 dX8_init_17
theorem mw313 : mRow 313 = (cX8_tell, 1, 1, 8, []) := rfl
theorem mc313 : mcode 313 = cX8_tell := congrArg (fun q => q.1) mw313
theorem mk313 : mcls 313 = 8 := congrArg (fun q => q.2.2.2.1) mw313
theorem mr313 : mret 313 = 1 := congrArg (fun q => q.2.2.1) mw313
theorem mx313 : mmax 313 = 1 := congrArg (fun q => q.2.1) mw313
theorem mh313 : mhnd 313 = [] := congrArg (fun q => q.2.2.2.2) mw313
theorem en313 {d : Nat} {G : AH} {o0 : Option Nat} : cl d 313 [vr o0] G = At d 313 0 [some (vr o0)] [] G := by
  unfold cl
  rw [mx313]
  rfl
theorem rX8_tell_0 {d : Nat} {G : AH} {x : Option Nat} {L : AL} {st : List AV} : At d 313 0 (some (vr x) :: L) st G = At d 313 1 (some (vr x) :: L) (vr x :: st) G := At_aload_n mc313 mk313 mr313 dX8_tell_0 rfl
theorem rX8_tell_1 {d : Nat} {G : AH} {a : Nat} {L : AL} {st : List AV} : At d 313 1 L (vr (some a) :: st) G = if okF (hT G a) 155 = true then At d 313 4 L (vr (hR G a 155) :: st) G else none := At_getR mc313 mk313 mr313 dX8_tell_1 rfl rfl
theorem rX8_tell_4 {d : Nat} {G : AH} {L : AL} {st : List AV} : At d 313 4 L st G = At d 313 6 L (vi (nI 6) :: st) G := At_c2 mc313 mk313 mr313 dX8_tell_4 (by decide)
theorem rX8_tell_6 {d : Nat} {G : AH} (h0 : 0 < d) {x0 : Int32} {a : Nat} {L : AL} : At d 313 6 L [vi x0, vr (some a)] G = if hT G a = 0 then bnd (cl (d - 1) 129 [vr (some a), vi x0] G) (fun v G => At d 313 9 L (psh v []) G) (fun a G => AtX d 313 6 L a G) else none := At_invV1 (k := 13) (t := 0) (z := 129) (n := 2) h0 mc313 mk313 mr313 dX8_tell_6 rfl rfl rfl (by decide) (by decide) (Nat.le_of_ble_eq_true rfl) rfl (Nat.le_of_ble_eq_true rfl) (Nat.le_of_ble_eq_true rfl)
theorem rX8_tell_9 {d : Nat} {G : AH} {x : Option Nat} {L : AL} {st : List AV} : At d 313 9 (some (vr x) :: L) st G = At d 313 10 (some (vr x) :: L) (vr x :: st) G := At_aload_n mc313 mk313 mr313 dX8_tell_9 rfl
theorem rX8_tell_10 {d : Nat} {G : AH} (h0 : 0 < d) {a : Nat} {L : AL} : At d 313 10 L [vr (some a)] G = if hT G a < 40 then bnd (cl (d - 1) 310 [vr (some a)] G) (fun v G => At d 313 13 L (psh v []) G) (fun a G => AtX d 313 10 L a G) else none := At_invU (k := 19) (z := 310) (n := 1) h0 mc313 mk313 mr313 dX8_tell_10 rfl rfl rfl (by decide) (Nat.le_of_ble_eq_true rfl) rfl (Nat.le_of_ble_eq_true rfl) (Nat.le_of_ble_eq_true rfl)
theorem rX8_tell_13 {d : Nat} {G : AH} {L : AL} {st : List AV} : At d 313 13 L st G = At d 313 16 L (vi (nI 1000) :: st) G := At_c3 mc313 mk313 mr313 dX8_tell_13 (by decide)
theorem rX8_tell_16 {d : Nat} {G : AH} {x z : Int32} {L : AL} {st : List AV} : At d 313 16 L (vi z :: vi x :: st) G = At d 313 17 L (vi (x - z) :: st) G := At_isub mc313 mk313 mr313 dX8_tell_16
theorem rX8_tell_17 {d : Nat} {G : AH} {x : Int32} {L : AL} : At d 313 17 L [vi x] G = some (.inl (some (vi x)), G) := At_iret mc313 mk313 mr313 dX8_tell_17
theorem mw314 : mRow 314 = (cX8_weigh, 1, 1, 8, []) := rfl
theorem mc314 : mcode 314 = cX8_weigh := congrArg (fun q => q.1) mw314
theorem mk314 : mcls 314 = 8 := congrArg (fun q => q.2.2.2.1) mw314
theorem mr314 : mret 314 = 1 := congrArg (fun q => q.2.2.1) mw314
theorem mx314 : mmax 314 = 1 := congrArg (fun q => q.2.1) mw314
theorem mh314 : mhnd 314 = [] := congrArg (fun q => q.2.2.2.2) mw314
theorem en314 {d : Nat} {G : AH} {o0 : Option Nat} : cl d 314 [vr o0] G = At d 314 0 [some (vr o0)] [] G := by
  unfold cl
  rw [mx314]
  rfl
theorem rX8_weigh_0 {d : Nat} {G : AH} {x : Option Nat} {L : AL} {st : List AV} : At d 314 0 (some (vr x) :: L) st G = At d 314 1 (some (vr x) :: L) (vr x :: st) G := At_aload_n mc314 mk314 mr314 dX8_weigh_0 rfl
theorem rX8_weigh_1 {d : Nat} {G : AH} {a : Nat} {L : AL} {st : List AV} : At d 314 1 L (vr (some a) :: st) G = if okF (hT G a) 155 = true then At d 314 4 L (vr (hR G a 155) :: st) G else none := At_getR mc314 mk314 mr314 dX8_weigh_1 rfl rfl
theorem rX8_weigh_4 {d : Nat} {G : AH} {L : AL} {st : List AV} : At d 314 4 L st G = At d 314 6 L (vi (nI 12) :: st) G := At_c2 mc314 mk314 mr314 dX8_weigh_4 (by decide)
theorem rX8_weigh_6 {d : Nat} {G : AH} (h0 : 0 < d) {x0 : Int32} {a : Nat} {L : AL} : At d 314 6 L [vi x0, vr (some a)] G = if hT G a = 0 then bnd (cl (d - 1) 129 [vr (some a), vi x0] G) (fun v G => At d 314 9 L (psh v []) G) (fun a G => AtX d 314 6 L a G) else none := At_invV1 (k := 13) (t := 0) (z := 129) (n := 2) h0 mc314 mk314 mr314 dX8_weigh_6 rfl rfl rfl (by decide) (by decide) (Nat.le_of_ble_eq_true rfl) rfl (Nat.le_of_ble_eq_true rfl) (Nat.le_of_ble_eq_true rfl)
theorem rX8_weigh_9 {d : Nat} {G : AH} {L : AL} {st : List AV} : At d 314 9 L st G = At d 314 11 L (vi (nI 7) :: st) G := At_c2 mc314 mk314 mr314 dX8_weigh_9 (by decide)
theorem rX8_weigh_11 {d : Nat} {G : AH} {x : Int32} {L : AL} : At d 314 11 L [vi x] G = some (.inl (some (vi x)), G) := At_iret mc314 mk314 mr314 dX8_weigh_11
theorem mw315 : mRow 315 = (cX9_init, 5, 0, 9, []) := rfl
theorem mc315 : mcode 315 = cX9_init := congrArg (fun q => q.1) mw315
theorem mk315 : mcls 315 = 9 := congrArg (fun q => q.2.2.2.1) mw315
theorem mr315 : mret 315 = 0 := congrArg (fun q => q.2.2.1) mw315
theorem mx315 : mmax 315 = 5 := congrArg (fun q => q.2.1) mw315
theorem mh315 : mhnd 315 = [] := congrArg (fun q => q.2.2.2.2) mw315
theorem en315 {d : Nat} {G : AH} {o0 : Option Nat} {o1 : Option Nat} {x2 : Int32} {x3 : Int32} {x4 : Int32} : cl d 315 [vr o0, vr o1, vi x2, vi x3, vi x4] G = At d 315 0 [some (vr o0), some (vr o1), some (vi x2), some (vi x3), some (vi x4)] [] G := by
  unfold cl
  rw [mx315]
  rfl
theorem rX9_init_0 {d : Nat} {G : AH} {x : Option Nat} {L : AL} {st : List AV} : At d 315 0 (some (vr x) :: L) st G = At d 315 1 (some (vr x) :: L) (vr x :: st) G := At_aload_n mc315 mk315 mr315 dX9_init_0 rfl
theorem rX9_init_1 {d : Nat} {G : AH} {l0 : Option AV} {x : Option Nat} {L : AL} {st : List AV} : At d 315 1 (l0 :: some (vr x) :: L) st G = At d 315 2 (l0 :: some (vr x) :: L) (vr x :: st) G := At_aload_n mc315 mk315 mr315 dX9_init_1 rfl
theorem rX9_init_2 {d : Nat} {G : AH} {a : Nat} {x : Option Nat} {L : AL} {st : List AV} : At d 315 2 L (vr x :: vr (some a) :: st) G = if okF (hT G a) 180 = true then At d 315 5 L st (sR G a 180 x) else none := At_putR mc315 mk315 mr315 dX9_init_2 rfl rfl rfl
theorem rX9_init_5 {d : Nat} {G : AH} {x : Option Nat} {L : AL} {st : List AV} : At d 315 5 (some (vr x) :: L) st G = At d 315 6 (some (vr x) :: L) (vr x :: st) G := At_aload_n mc315 mk315 mr315 dX9_init_5 rfl
theorem rX9_init_6 {d : Nat} {G : AH} {l0 : Option AV} {x : Option Nat} {L : AL} {st : List AV} : At d 315 6 (l0 :: some (vr x) :: L) st G = At d 315 7 (l0 :: some (vr x) :: L) (vr x :: st) G := At_aload_n mc315 mk315 mr315 dX9_init_6 rfl
theorem rX9_init_7 {d : Nat} {G : AH} {L : AL} {st : List AV} : At d 315 7 L st G = At d 315 8 L (vi (nI 2) :: st) G := At_c1 mc315 mk315 mr315 dX9_init_7 (by decide)
theorem rX9_init_8 {d : Nat} {G : AH} {l0 l1 : Option AV} {x : Int32} {L : AL} {st : List AV} : At d 315 8 (l0 :: l1 :: some (vi x) :: L) st G = At d 315 9 (l0 :: l1 :: some (vi x) :: L) (vi x :: st) G := At_iload_n mc315 mk315 mr315 dX9_init_8 rfl
theorem rX9_init_9 {d : Nat} {G : AH} {l0 l1 l2 : Option AV} {x : Int32} {L : AL} {st : List AV} : At d 315 9 (l0 :: l1 :: l2 :: some (vi x) :: L) st G = At d 315 10 (l0 :: l1 :: l2 :: some (vi x) :: L) (vi x :: st) G := At_iload_n mc315 mk315 mr315 dX9_init_9 rfl
theorem rX9_init_10 {d : Nat} {G : AH} {l0 l1 l2 l3 : Option AV} {x : Int32} {L : AL} {st : List AV} : At d 315 10 (l0 :: l1 :: l2 :: l3 :: some (vi x) :: L) st G = At d 315 12 (l0 :: l1 :: l2 :: l3 :: some (vi x) :: L) (vi x :: st) G := At_iload mc315 mk315 mr315 dX9_init_10 rfl
theorem rX9_init_12 {d : Nat} {G : AH} (h0 : 0 < d) {x0 : Int32} {x1 : Int32} {x2 : Int32} {x3 : Int32} {o4 : Option Nat} {a : Nat} {L : AL} : At d 315 12 L [vi x0, vi x1, vi x2, vi x3, vr o4, vr (some a)] G = bnd (cl (d - 1) 312 [vr (some a), vr o4, vi x3, vi x2, vi x1, vi x0] G) (fun v G => At d 315 15 L (psh v []) G) (fun a G => AtX d 315 12 L a G) := At_invS (k := 7) (z := 312) (n := 6) h0 mc315 mk315 mr315 dX9_init_12 rfl rfl rfl (by decide) (Nat.le_of_ble_eq_true rfl) rfl (Nat.le_of_ble_eq_true rfl) (Nat.le_of_ble_eq_true rfl)
theorem rX9_init_15 {d : Nat} {G : AH} {L : AL} : At d 315 15 L [] G = some (.inl none, G) := At_vret mc315 mk315 mr315 dX9_init_15
theorem mw316 : mRow 316 = (cX9_isKept, 3, 4, 9, []) := rfl
theorem mc316 : mcode 316 = cX9_isKept := congrArg (fun q => q.1) mw316
theorem mk316 : mcls 316 = 9 := congrArg (fun q => q.2.2.2.1) mw316
theorem mr316 : mret 316 = 4 := congrArg (fun q => q.2.2.1) mw316
theorem mx316 : mmax 316 = 3 := congrArg (fun q => q.2.1) mw316
theorem mh316 : mhnd 316 = [] := congrArg (fun q => q.2.2.2.2) mw316
theorem en316 {d : Nat} {G : AH} {o0 : Option Nat} {x1 : Int32} {x2 : Int32} : cl d 316 [vr o0, vi x1, vi x2] G = At d 316 0 [some (vr o0), some (vi x1), some (vi x2)] [] G := by
  unfold cl
  rw [mx316]
  rfl
theorem rX9_isKept_0 {d : Nat} {G : AH} {x : Option Nat} {L : AL} {st : List AV} : At d 316 0 (some (vr x) :: L) st G = At d 316 1 (some (vr x) :: L) (vr x :: st) G := At_aload_n mc316 mk316 mr316 dX9_isKept_0 rfl
theorem rX9_isKept_1 {d : Nat} {G : AH} {l0 : Option AV} {x : Int32} {L : AL} {st : List AV} : At d 316 1 (l0 :: some (vi x) :: L) st G = At d 316 2 (l0 :: some (vi x) :: L) (vi x :: st) G := At_iload_n mc316 mk316 mr316 dX9_isKept_1 rfl
theorem rX9_isKept_2 {d : Nat} {G : AH} {l0 l1 : Option AV} {x : Int32} {L : AL} {st : List AV} : At d 316 2 (l0 :: l1 :: some (vi x) :: L) st G = At d 316 3 (l0 :: l1 :: some (vi x) :: L) (vi x :: st) G := At_iload_n mc316 mk316 mr316 dX9_isKept_2 rfl
theorem rX9_isKept_3 {d : Nat} {G : AH} (h0 : 0 < d) {x0 : Int32} {x1 : Int32} {a : Nat} {L : AL} : At d 316 3 L [vi x0, vi x1, vr (some a)] G = if hT G a < 40 then bnd (cl (d - 1) 307 [vr (some a), vi x1, vi x0] G) (fun v G => At d 316 6 L (psh v []) G) (fun a G => AtX d 316 3 L a G) else none := At_invU (k := 13) (z := 307) (n := 3) h0 mc316 mk316 mr316 dX9_isKept_3 rfl rfl rfl (by decide) (Nat.le_of_ble_eq_true rfl) rfl (Nat.le_of_ble_eq_true rfl) (Nat.le_of_ble_eq_true rfl)
theorem rX9_isKept_6 {d : Nat} {G : AH} {x : Int32} {L : AL} {st : List AV} : At d 316 6 L (vi x :: st) G = if ¬ x = nI 0 then At d 316 13 L st G else At d 316 9 L st G := At_if mc316 mk316 mr316 dX9_isKept_6 (by decide) cnd_ne
theorem rX9_isKept_9 {d : Nat} {G : AH} {L : AL} {st : List AV} : At d 316 9 L st G = At d 316 10 L (vi (nI 1) :: st) G := At_c1 mc316 mk316 mr316 dX9_isKept_9 (by decide)
theorem rX9_isKept_10 {d : Nat} {G : AH} {L : AL} {st : List AV} : At d 316 10 L st G = At d 316 14 L st G := At_goto mc316 mk316 mr316 dX9_isKept_10 (by decide)
theorem rX9_isKept_13 {d : Nat} {G : AH} {L : AL} {st : List AV} : At d 316 13 L st G = At d 316 14 L (vi (nI 0) :: st) G := At_c1 mc316 mk316 mr316 dX9_isKept_13 (by decide)
theorem rX9_isKept_14 {d : Nat} {G : AH} {x : Int32} {L : AL} : At d 316 14 L [vi x] G = if b01 x = true then some (.inl (some (vi x)), G) else none := At_zret mc316 mk316 mr316 dX9_isKept_14
theorem mw317 : mRow 317 = (cX9_tell, 1, 1, 9, []) := rfl
theorem mc317 : mcode 317 = cX9_tell := congrArg (fun q => q.1) mw317
theorem mk317 : mcls 317 = 9 := congrArg (fun q => q.2.2.2.1) mw317
theorem mr317 : mret 317 = 1 := congrArg (fun q => q.2.2.1) mw317
theorem mx317 : mmax 317 = 1 := congrArg (fun q => q.2.1) mw317
theorem mh317 : mhnd 317 = [] := congrArg (fun q => q.2.2.2.2) mw317
theorem en317 {d : Nat} {G : AH} {o0 : Option Nat} : cl d 317 [vr o0] G = At d 317 0 [some (vr o0)] [] G := by
  unfold cl
  rw [mx317]
  rfl
theorem rX9_tell_0 {d : Nat} {G : AH} {x : Option Nat} {L : AL} {st : List AV} : At d 317 0 (some (vr x) :: L) st G = At d 317 1 (some (vr x) :: L) (vr x :: st) G := At_aload_n mc317 mk317 mr317 dX9_tell_0 rfl
theorem rX9_tell_1 {d : Nat} {G : AH} {a : Nat} {L : AL} {st : List AV} : At d 317 1 L (vr (some a) :: st) G = if okF (hT G a) 180 = true then At d 317 4 L (vr (hR G a 180) :: st) G else none := At_getR mc317 mk317 mr317 dX9_tell_1 rfl rfl
theorem rX9_tell_4 {d : Nat} {G : AH} {L : AL} {st : List AV} : At d 317 4 L st G = At d 317 6 L (vi (nI 7) :: st) G := At_c2 mc317 mk317 mr317 dX9_tell_4 (by decide)
theorem rX9_tell_6 {d : Nat} {G : AH} (h0 : 0 < d) {x0 : Int32} {a : Nat} {L : AL} : At d 317 6 L [vi x0, vr (some a)] G = if hT G a = 0 then bnd (cl (d - 1) 129 [vr (some a), vi x0] G) (fun v G => At d 317 9 L (psh v []) G) (fun a G => AtX d 317 6 L a G) else none := At_invV1 (k := 17) (t := 0) (z := 129) (n := 2) h0 mc317 mk317 mr317 dX9_tell_6 rfl rfl rfl (by decide) (by decide) (Nat.le_of_ble_eq_true rfl) rfl (Nat.le_of_ble_eq_true rfl) (Nat.le_of_ble_eq_true rfl)
theorem rX9_tell_9 {d : Nat} {G : AH} {x : Option Nat} {L : AL} {st : List AV} : At d 317 9 (some (vr x) :: L) st G = At d 317 10 (some (vr x) :: L) (vr x :: st) G := At_aload_n mc317 mk317 mr317 dX9_tell_9 rfl
theorem rX9_tell_10 {d : Nat} {G : AH} (h0 : 0 < d) {a : Nat} {L : AL} : At d 317 10 L [vr (some a)] G = if hT G a < 40 then bnd (cl (d - 1) 313 [vr (some a)] G) (fun v G => At d 317 13 L (psh v []) G) (fun a G => AtX d 317 10 L a G) else none := At_invU (k := 23) (z := 313) (n := 1) h0 mc317 mk317 mr317 dX9_tell_10 rfl rfl rfl (by decide) (Nat.le_of_ble_eq_true rfl) rfl (Nat.le_of_ble_eq_true rfl) (Nat.le_of_ble_eq_true rfl)
theorem rX9_tell_13 {d : Nat} {G : AH} {x : Option Nat} {L : AL} {st : List AV} : At d 317 13 (some (vr x) :: L) st G = At d 317 14 (some (vr x) :: L) (vr x :: st) G := At_aload_n mc317 mk317 mr317 dX9_tell_13 rfl
theorem rX9_tell_14 {d : Nat} {G : AH} (h0 : 0 < d) {a : Nat} {x1 : Int32} {L : AL} : At d 317 14 L [vr (some a), vi x1] G = if hT G a = 9 then bnd (cl (d - 1) 303 [vr (some a)] G) (fun v G => At d 317 17 L (psh v [vi x1]) G) (fun a G => AtX d 317 14 L a G) else none := At_invV1 (k := 27) (t := 9) (z := 303) (n := 1) h0 mc317 mk317 mr317 dX9_tell_14 rfl rfl rfl (by decide) (by decide) (Nat.le_of_ble_eq_true rfl) rfl (Nat.le_of_ble_eq_true rfl) (Nat.le_of_ble_eq_true rfl)
theorem rX9_tell_17 {d : Nat} {G : AH} {x z : Int32} {L : AL} {st : List AV} : At d 317 17 L (vi z :: vi x :: st) G = At d 317 18 L (vi (x + z) :: st) G := At_iadd mc317 mk317 mr317 dX9_tell_17
theorem rX9_tell_18 {d : Nat} {G : AH} {x : Int32} {L : AL} : At d 317 18 L [vi x] G = some (.inl (some (vi x)), G) := At_iret mc317 mk317 mr317 dX9_tell_18
theorem mw318 : mRow 318 = (cX10_init, 5, 0, 10, []) := rfl
theorem mc318 : mcode 318 = cX10_init := congrArg (fun q => q.1) mw318
theorem mk318 : mcls 318 = 10 := congrArg (fun q => q.2.2.2.1) mw318
theorem mr318 : mret 318 = 0 := congrArg (fun q => q.2.2.1) mw318
theorem mx318 : mmax 318 = 5 := congrArg (fun q => q.2.1) mw318
theorem mh318 : mhnd 318 = [] := congrArg (fun q => q.2.2.2.2) mw318
theorem en318 {d : Nat} {G : AH} {o0 : Option Nat} {o1 : Option Nat} {x2 : Int32} {x3 : Int32} {x4 : Int32} : cl d 318 [vr o0, vr o1, vi x2, vi x3, vi x4] G = At d 318 0 [some (vr o0), some (vr o1), some (vi x2), some (vi x3), some (vi x4)] [] G := by
  unfold cl
  rw [mx318]
  rfl
theorem rX10_init_0 {d : Nat} {G : AH} {x : Option Nat} {L : AL} {st : List AV} : At d 318 0 (some (vr x) :: L) st G = At d 318 1 (some (vr x) :: L) (vr x :: st) G := At_aload_n mc318 mk318 mr318 dX10_init_0 rfl
theorem rX10_init_1 {d : Nat} {G : AH} {l0 : Option AV} {x : Option Nat} {L : AL} {st : List AV} : At d 318 1 (l0 :: some (vr x) :: L) st G = At d 318 2 (l0 :: some (vr x) :: L) (vr x :: st) G := At_aload_n mc318 mk318 mr318 dX10_init_1 rfl
theorem rX10_init_2 {d : Nat} {G : AH} {a : Nat} {x : Option Nat} {L : AL} {st : List AV} : At d 318 2 L (vr x :: vr (some a) :: st) G = if okF (hT G a) 151 = true then At d 318 5 L st (sR G a 151 x) else none := At_putR mc318 mk318 mr318 dX10_init_2 rfl rfl rfl
theorem rX10_init_5 {d : Nat} {G : AH} {x : Option Nat} {L : AL} {st : List AV} : At d 318 5 (some (vr x) :: L) st G = At d 318 6 (some (vr x) :: L) (vr x :: st) G := At_aload_n mc318 mk318 mr318 dX10_init_5 rfl
theorem rX10_init_6 {d : Nat} {G : AH} {l0 : Option AV} {x : Option Nat} {L : AL} {st : List AV} : At d 318 6 (l0 :: some (vr x) :: L) st G = At d 318 7 (l0 :: some (vr x) :: L) (vr x :: st) G := At_aload_n mc318 mk318 mr318 dX10_init_6 rfl
theorem rX10_init_7 {d : Nat} {G : AH} {L : AL} {st : List AV} : At d 318 7 L st G = At d 318 8 L (vi (nI 3) :: st) G := At_c1 mc318 mk318 mr318 dX10_init_7 (by decide)
theorem rX10_init_8 {d : Nat} {G : AH} {l0 l1 : Option AV} {x : Int32} {L : AL} {st : List AV} : At d 318 8 (l0 :: l1 :: some (vi x) :: L) st G = At d 318 9 (l0 :: l1 :: some (vi x) :: L) (vi x :: st) G := At_iload_n mc318 mk318 mr318 dX10_init_8 rfl
theorem rX10_init_9 {d : Nat} {G : AH} {l0 l1 l2 : Option AV} {x : Int32} {L : AL} {st : List AV} : At d 318 9 (l0 :: l1 :: l2 :: some (vi x) :: L) st G = At d 318 10 (l0 :: l1 :: l2 :: some (vi x) :: L) (vi x :: st) G := At_iload_n mc318 mk318 mr318 dX10_init_9 rfl
theorem rX10_init_10 {d : Nat} {G : AH} (h0 : 0 < d) {x0 : Int32} {x1 : Int32} {x2 : Int32} {o3 : Option Nat} {a : Nat} {L : AL} : At d 318 10 L [vi x0, vi x1, vi x2, vr o3, vr (some a)] G = bnd (cl (d - 1) 297 [vr (some a), vr o3, vi x2, vi x1, vi x0] G) (fun v G => At d 318 13 L (psh v []) G) (fun a G => AtX d 318 10 L a G) := At_invS (k := 7) (z := 297) (n := 5) h0 mc318 mk318 mr318 dX10_init_10 rfl rfl rfl (by decide) (Nat.le_of_ble_eq_true rfl) rfl (Nat.le_of_ble_eq_true rfl) (Nat.le_of_ble_eq_true rfl)
theorem rX10_init_13 {d : Nat} {G : AH} {x : Option Nat} {L : AL} {st : List AV} : At d 318 13 (some (vr x) :: L) st G = At d 318 14 (some (vr x) :: L) (vr x :: st) G := At_aload_n mc318 mk318 mr318 dX10_init_13 rfl
theorem rX10_init_14 {d : Nat} {G : AH} {l0 l1 l2 l3 : Option AV} {x : Int32} {L : AL} {st : List AV} : At d 318 14 (l0 :: l1 :: l2 :: l3 :: some (vi x) :: L) st G = At d 318 16 (l0 :: l1 :: l2 :: l3 :: some (vi x) :: L) (vi x :: st) G := At_iload mc318 mk318 mr318 dX10_init_14 rfl
theorem rX10_init_16 {d : Nat} {G : AH} {a : Nat} {x : Int32} {L : AL} {st : List AV} : At d 318 16 L (vi x :: vr (some a) :: st) G = if okF (hT G a) 150 = true then At d 318 19 L st (sI G a 150 x) else none := At_putI mc318 mk318 mr318 dX10_init_16 rfl rfl rfl
theorem rX10_init_19 {d : Nat} {G : AH} {L : AL} : At d 318 19 L [] G = some (.inl none, G) := At_vret mc318 mk318 mr318 dX10_init_19
theorem mw319 : mRow 319 = (cX10_isKept, 5, 4, 10, []) := rfl
theorem mc319 : mcode 319 = cX10_isKept := congrArg (fun q => q.1) mw319
theorem mk319 : mcls 319 = 10 := congrArg (fun q => q.2.2.2.1) mw319
theorem mr319 : mret 319 = 4 := congrArg (fun q => q.2.2.1) mw319
theorem mx319 : mmax 319 = 5 := congrArg (fun q => q.2.1) mw319
theorem mh319 : mhnd 319 = [] := congrArg (fun q => q.2.2.2.2) mw319
theorem en319 {d : Nat} {G : AH} {o0 : Option Nat} {x1 : Int32} {x2 : Int32} : cl d 319 [vr o0, vi x1, vi x2] G = At d 319 0 [some (vr o0), some (vi x1), some (vi x2), none, none] [] G := by
  unfold cl
  rw [mx319]
  rfl
theorem rX10_isKept_0 {d : Nat} {G : AH} {l0 l1 : Option AV} {x : Int32} {L : AL} {st : List AV} : At d 319 0 (l0 :: l1 :: some (vi x) :: L) st G = At d 319 1 (l0 :: l1 :: some (vi x) :: L) (vi x :: st) G := At_iload_n mc319 mk319 mr319 dX10_isKept_0 rfl
theorem rX10_isKept_1 {d : Nat} {G : AH} (h0 : 0 < d) {x0 : Int32} {L : AL} : At d 319 1 L [vi x0] G = bnd (cl (d - 1) 8 [vi x0] G) (fun v G => At d 319 4 L (psh v []) G) (fun a G => AtX d 319 1 L a G) := At_inv (k := 17) (z := 8) (n := 1) h0 mc319 mk319 mr319 dX10_isKept_1 rfl rfl rfl (by decide) (Nat.le_of_ble_eq_true rfl) rfl (Nat.le_of_ble_eq_true rfl) (Nat.le_of_ble_eq_true rfl)
theorem rX10_isKept_4 {d : Nat} {G : AH} {l0 : Option AV} {x : Int32} {L : AL} {st : List AV} : At d 319 4 (l0 :: some (vi x) :: L) st G = At d 319 5 (l0 :: some (vi x) :: L) (vi x :: st) G := At_iload_n mc319 mk319 mr319 dX10_isKept_4 rfl
theorem rX10_isKept_5 {d : Nat} {G : AH} (h0 : 0 < d) {x0 : Int32} {x1 : Int32} {L : AL} : At d 319 5 L [vi x0, vi x1] G = bnd (cl (d - 1) 8 [vi x0] G) (fun v G => At d 319 8 L (psh v [vi x1]) G) (fun a G => AtX d 319 5 L a G) := At_inv (k := 17) (z := 8) (n := 1) h0 mc319 mk319 mr319 dX10_isKept_5 rfl rfl rfl (by decide) (Nat.le_of_ble_eq_true rfl) rfl (Nat.le_of_ble_eq_true rfl) (Nat.le_of_ble_eq_true rfl)
theorem rX10_isKept_8 {d : Nat} {G : AH} {x z : Int32} {L : AL} {st : List AV} : At d 319 8 L (vi z :: vi x :: st) G = At d 319 9 L (vi (x - z) :: st) G := At_isub mc319 mk319 mr319 dX10_isKept_8
theorem rX10_isKept_9 {d : Nat} {G : AH} {l0 l1 l2 l3 : Option AV} {x : Int32} {L : AL} {st : List AV} : At d 319 9 (l0 :: l1 :: l2 :: l3 :: L) (vi x :: st) G = At d 319 10 (l0 :: l1 :: nl l2 :: some (vi x) :: L) st G := At_istore_n mc319 mk319 mr319 dX10_isKept_9 rfl
theorem rX10_isKept_10 {d : Nat} {G : AH} {l0 l1 : Option AV} {x : Int32} {L : AL} {st : List AV} : At d 319 10 (l0 :: l1 :: some (vi x) :: L) st G = At d 319 11 (l0 :: l1 :: some (vi x) :: L) (vi x :: st) G := At_iload_n mc319 mk319 mr319 dX10_isKept_10 rfl
theorem rX10_isKept_11 {d : Nat} {G : AH} (h0 : 0 < d) {x0 : Int32} {L : AL} : At d 319 11 L [vi x0] G = bnd (cl (d - 1) 9 [vi x0] G) (fun v G => At d 319 14 L (psh v []) G) (fun a G => AtX d 319 11 L a G) := At_inv (k := 23) (z := 9) (n := 1) h0 mc319 mk319 mr319 dX10_isKept_11 rfl rfl rfl (by decide) (Nat.le_of_ble_eq_true rfl) rfl (Nat.le_of_ble_eq_true rfl) (Nat.le_of_ble_eq_true rfl)
theorem rX10_isKept_14 {d : Nat} {G : AH} {l0 : Option AV} {x : Int32} {L : AL} {st : List AV} : At d 319 14 (l0 :: some (vi x) :: L) st G = At d 319 15 (l0 :: some (vi x) :: L) (vi x :: st) G := At_iload_n mc319 mk319 mr319 dX10_isKept_14 rfl
theorem rX10_isKept_15 {d : Nat} {G : AH} (h0 : 0 < d) {x0 : Int32} {x1 : Int32} {L : AL} : At d 319 15 L [vi x0, vi x1] G = bnd (cl (d - 1) 9 [vi x0] G) (fun v G => At d 319 18 L (psh v [vi x1]) G) (fun a G => AtX d 319 15 L a G) := At_inv (k := 23) (z := 9) (n := 1) h0 mc319 mk319 mr319 dX10_isKept_15 rfl rfl rfl (by decide) (Nat.le_of_ble_eq_true rfl) rfl (Nat.le_of_ble_eq_true rfl) (Nat.le_of_ble_eq_true rfl)
theorem rX10_isKept_18 {d : Nat} {G : AH} {x z : Int32} {L : AL} {st : List AV} : At d 319 18 L (vi z :: vi x :: st) G = At d 319 19 L (vi (x - z) :: st) G := At_isub mc319 mk319 mr319 dX10_isKept_18
theorem rX10_isKept_19 {d : Nat} {G : AH} {l0 l1 l2 l3 l4 : Option AV} {x : Int32} {L : AL} {st : List AV} : At d 319 19 (l0 :: l1 :: l2 :: l3 :: l4 :: L) (vi x :: st) G = At d 319 21 (l0 :: l1 :: l2 :: nl l3 :: some (vi x) :: L) st G := At_istore mc319 mk319 mr319 dX10_isKept_19 rfl
theorem rX10_isKept_21 {d : Nat} {G : AH} {x : Option Nat} {L : AL} {st : List AV} : At d 319 21 (some (vr x) :: L) st G = At d 319 22 (some (vr x) :: L) (vr x :: st) G := At_aload_n mc319 mk319 mr319 dX10_isKept_21 rfl
theorem rX10_isKept_22 {d : Nat} {G : AH} {a : Nat} {L : AL} {st : List AV} : At d 319 22 L (vr (some a) :: st) G = if okF (hT G a) 150 = true then At d 319 25 L (vi (hI G a 150) :: st) G else none := At_getI mc319 mk319 mr319 dX10_isKept_22 rfl (Or.inl rfl)
theorem rX10_isKept_25_k0 {d : Nat} {G : AH} {L : AL} {st : List AV} : At d 319 25 L (vi (nI 0) :: st) G = At d 319 52 L st G := At_tabK mc319 mk319 mr319 dX10_isKept_25 (by decide +kernel) (by decide) rfl rfl
theorem rX10_isKept_25_k1 {d : Nat} {G : AH} {L : AL} {st : List AV} : At d 319 25 L (vi (nI 1) :: st) G = At d 319 71 L st G := At_tabK mc319 mk319 mr319 dX10_isKept_25 (by decide +kernel) (by decide) rfl rfl
theorem rX10_isKept_25_k2 {d : Nat} {G : AH} {L : AL} {st : List AV} : At d 319 25 L (vi (nI 2) :: st) G = At d 319 91 L st G := At_tabK mc319 mk319 mr319 dX10_isKept_25 (by decide +kernel) (by decide) rfl rfl
theorem rX10_isKept_25_df {d : Nat} {G : AH} {x : Int32} (hx : x.toInt < 0 ∨ 2 < x.toInt) {L : AL} {st : List AV} : At d 319 25 L (vi x :: st) G = At d 319 111 L st G := At_tabD hx mc319 mk319 mr319 dX10_isKept_25 (by decide +kernel) rfl
theorem rX10_isKept_52 {d : Nat} {G : AH} {l0 l1 l2 : Option AV} {x : Int32} {L : AL} {st : List AV} : At d 319 52 (l0 :: l1 :: l2 :: some (vi x) :: L) st G = At d 319 53 (l0 :: l1 :: l2 :: some (vi x) :: L) (vi x :: st) G := At_iload_n mc319 mk319 mr319 dX10_isKept_52 rfl
theorem rX10_isKept_53 {d : Nat} {G : AH} {x : Int32} {L : AL} {st : List AV} : At d 319 53 L (vi x :: st) G = if x ≤ nI 0 then At d 319 69 L st G else At d 319 56 L st G := At_if mc319 mk319 mr319 dX10_isKept_53 (by decide) cnd_le
theorem rX10_isKept_56 {d : Nat} {G : AH} {l0 l1 l2 l3 : Option AV} {x : Int32} {L : AL} {st : List AV} : At d 319 56 (l0 :: l1 :: l2 :: l3 :: some (vi x) :: L) st G = At d 319 58 (l0 :: l1 :: l2 :: l3 :: some (vi x) :: L) (vi x :: st) G := At_iload mc319 mk319 mr319 dX10_isKept_56 rfl
theorem rX10_isKept_58 {d : Nat} {G : AH} (h0 : 0 < d) {x0 : Int32} {L : AL} : At d 319 58 L [vi x0] G = bnd (cl (d - 1) 356 [vi x0] G) (fun v G => At d 319 61 L (psh v []) G) (fun a G => AtX d 319 58 L a G) := At_inv (k := 26) (z := 356) (n := 1) h0 mc319 mk319 mr319 dX10_isKept_58 rfl rfl rfl (by decide) (Nat.le_of_ble_eq_true rfl) rfl (Nat.le_of_ble_eq_true rfl) (Nat.le_of_ble_eq_true rfl)
theorem rX10_isKept_61 {d : Nat} {G : AH} {l0 l1 l2 : Option AV} {x : Int32} {L : AL} {st : List AV} : At d 319 61 (l0 :: l1 :: l2 :: some (vi x) :: L) st G = At d 319 62 (l0 :: l1 :: l2 :: some (vi x) :: L) (vi x :: st) G := At_iload_n mc319 mk319 mr319 dX10_isKept_61 rfl
theorem rX10_isKept_62 {d : Nat} {G : AH} {x z : Int32} {L : AL} {st : List AV} : At d 319 62 L (vi z :: vi x :: st) G = if z < x then At d 319 69 L st G else At d 319 65 L st G := At_icmp mc319 mk319 mr319 dX10_isKept_62 (by decide) cnd_gt
theorem rX10_isKept_65 {d : Nat} {G : AH} {L : AL} {st : List AV} : At d 319 65 L st G = At d 319 66 L (vi (nI 1) :: st) G := At_c1 mc319 mk319 mr319 dX10_isKept_65 (by decide)
theorem rX10_isKept_66 {d : Nat} {G : AH} {L : AL} {st : List AV} : At d 319 66 L st G = At d 319 70 L st G := At_goto mc319 mk319 mr319 dX10_isKept_66 (by decide)
theorem rX10_isKept_69 {d : Nat} {G : AH} {L : AL} {st : List AV} : At d 319 69 L st G = At d 319 70 L (vi (nI 0) :: st) G := At_c1 mc319 mk319 mr319 dX10_isKept_69 (by decide)
theorem rX10_isKept_70 {d : Nat} {G : AH} {x : Int32} {L : AL} : At d 319 70 L [vi x] G = if b01 x = true then some (.inl (some (vi x)), G) else none := At_zret mc319 mk319 mr319 dX10_isKept_70
theorem rX10_isKept_71 {d : Nat} {G : AH} {l0 l1 l2 l3 : Option AV} {x : Int32} {L : AL} {st : List AV} : At d 319 71 (l0 :: l1 :: l2 :: l3 :: some (vi x) :: L) st G = At d 319 73 (l0 :: l1 :: l2 :: l3 :: some (vi x) :: L) (vi x :: st) G := At_iload mc319 mk319 mr319 dX10_isKept_71 rfl
theorem rX10_isKept_73 {d : Nat} {G : AH} {x : Int32} {L : AL} {st : List AV} : At d 319 73 L (vi x :: st) G = if x ≤ nI 0 then At d 319 89 L st G else At d 319 76 L st G := At_if mc319 mk319 mr319 dX10_isKept_73 (by decide) cnd_le
theorem rX10_isKept_76 {d : Nat} {G : AH} {l0 l1 l2 : Option AV} {x : Int32} {L : AL} {st : List AV} : At d 319 76 (l0 :: l1 :: l2 :: some (vi x) :: L) st G = At d 319 77 (l0 :: l1 :: l2 :: some (vi x) :: L) (vi x :: st) G := At_iload_n mc319 mk319 mr319 dX10_isKept_76 rfl
theorem rX10_isKept_77 {d : Nat} {G : AH} (h0 : 0 < d) {x0 : Int32} {L : AL} : At d 319 77 L [vi x0] G = bnd (cl (d - 1) 356 [vi x0] G) (fun v G => At d 319 80 L (psh v []) G) (fun a G => AtX d 319 77 L a G) := At_inv (k := 26) (z := 356) (n := 1) h0 mc319 mk319 mr319 dX10_isKept_77 rfl rfl rfl (by decide) (Nat.le_of_ble_eq_true rfl) rfl (Nat.le_of_ble_eq_true rfl) (Nat.le_of_ble_eq_true rfl)
theorem rX10_isKept_80 {d : Nat} {G : AH} {l0 l1 l2 l3 : Option AV} {x : Int32} {L : AL} {st : List AV} : At d 319 80 (l0 :: l1 :: l2 :: l3 :: some (vi x) :: L) st G = At d 319 82 (l0 :: l1 :: l2 :: l3 :: some (vi x) :: L) (vi x :: st) G := At_iload mc319 mk319 mr319 dX10_isKept_80 rfl
theorem rX10_isKept_82 {d : Nat} {G : AH} {x z : Int32} {L : AL} {st : List AV} : At d 319 82 L (vi z :: vi x :: st) G = if z < x then At d 319 89 L st G else At d 319 85 L st G := At_icmp mc319 mk319 mr319 dX10_isKept_82 (by decide) cnd_gt
theorem rX10_isKept_85 {d : Nat} {G : AH} {L : AL} {st : List AV} : At d 319 85 L st G = At d 319 86 L (vi (nI 1) :: st) G := At_c1 mc319 mk319 mr319 dX10_isKept_85 (by decide)
theorem rX10_isKept_86 {d : Nat} {G : AH} {L : AL} {st : List AV} : At d 319 86 L st G = At d 319 90 L st G := At_goto mc319 mk319 mr319 dX10_isKept_86 (by decide)
theorem rX10_isKept_89 {d : Nat} {G : AH} {L : AL} {st : List AV} : At d 319 89 L st G = At d 319 90 L (vi (nI 0) :: st) G := At_c1 mc319 mk319 mr319 dX10_isKept_89 (by decide)
theorem rX10_isKept_90 {d : Nat} {G : AH} {x : Int32} {L : AL} : At d 319 90 L [vi x] G = if b01 x = true then some (.inl (some (vi x)), G) else none := At_zret mc319 mk319 mr319 dX10_isKept_90
theorem rX10_isKept_91 {d : Nat} {G : AH} {l0 l1 l2 : Option AV} {x : Int32} {L : AL} {st : List AV} : At d 319 91 (l0 :: l1 :: l2 :: some (vi x) :: L) st G = At d 319 92 (l0 :: l1 :: l2 :: some (vi x) :: L) (vi x :: st) G := At_iload_n mc319 mk319 mr319 dX10_isKept_91 rfl
theorem rX10_isKept_92 {d : Nat} {G : AH} {x : Int32} {L : AL} {st : List AV} : At d 319 92 L (vi x :: st) G = if nI 0 ≤ x then At d 319 109 L st G else At d 319 95 L st G := At_if mc319 mk319 mr319 dX10_isKept_92 (by decide) cnd_ge
theorem rX10_isKept_95 {d : Nat} {G : AH} {l0 l1 l2 l3 : Option AV} {x : Int32} {L : AL} {st : List AV} : At d 319 95 (l0 :: l1 :: l2 :: l3 :: some (vi x) :: L) st G = At d 319 97 (l0 :: l1 :: l2 :: l3 :: some (vi x) :: L) (vi x :: st) G := At_iload mc319 mk319 mr319 dX10_isKept_95 rfl
theorem rX10_isKept_97 {d : Nat} {G : AH} (h0 : 0 < d) {x0 : Int32} {L : AL} : At d 319 97 L [vi x0] G = bnd (cl (d - 1) 356 [vi x0] G) (fun v G => At d 319 100 L (psh v []) G) (fun a G => AtX d 319 97 L a G) := At_inv (k := 26) (z := 356) (n := 1) h0 mc319 mk319 mr319 dX10_isKept_97 rfl rfl rfl (by decide) (Nat.le_of_ble_eq_true rfl) rfl (Nat.le_of_ble_eq_true rfl) (Nat.le_of_ble_eq_true rfl)
theorem rX10_isKept_100 {d : Nat} {G : AH} {l0 l1 l2 : Option AV} {x : Int32} {L : AL} {st : List AV} : At d 319 100 (l0 :: l1 :: l2 :: some (vi x) :: L) st G = At d 319 101 (l0 :: l1 :: l2 :: some (vi x) :: L) (vi x :: st) G := At_iload_n mc319 mk319 mr319 dX10_isKept_100 rfl
theorem rX10_isKept_101 {d : Nat} {G : AH} {x : Int32} {L : AL} {st : List AV} : At d 319 101 L (vi x :: st) G = At d 319 102 L (vi (-x) :: st) G := At_ineg mc319 mk319 mr319 dX10_isKept_101
theorem rX10_isKept_102 {d : Nat} {G : AH} {x z : Int32} {L : AL} {st : List AV} : At d 319 102 L (vi z :: vi x :: st) G = if z < x then At d 319 109 L st G else At d 319 105 L st G := At_icmp mc319 mk319 mr319 dX10_isKept_102 (by decide) cnd_gt
theorem rX10_isKept_105 {d : Nat} {G : AH} {L : AL} {st : List AV} : At d 319 105 L st G = At d 319 106 L (vi (nI 1) :: st) G := At_c1 mc319 mk319 mr319 dX10_isKept_105 (by decide)
theorem rX10_isKept_106 {d : Nat} {G : AH} {L : AL} {st : List AV} : At d 319 106 L st G = At d 319 110 L st G := At_goto mc319 mk319 mr319 dX10_isKept_106 (by decide)
theorem rX10_isKept_109 {d : Nat} {G : AH} {L : AL} {st : List AV} : At d 319 109 L st G = At d 319 110 L (vi (nI 0) :: st) G := At_c1 mc319 mk319 mr319 dX10_isKept_109 (by decide)
theorem rX10_isKept_110 {d : Nat} {G : AH} {x : Int32} {L : AL} : At d 319 110 L [vi x] G = if b01 x = true then some (.inl (some (vi x)), G) else none := At_zret mc319 mk319 mr319 dX10_isKept_110
theorem rX10_isKept_111 {d : Nat} {G : AH} {l0 l1 l2 l3 : Option AV} {x : Int32} {L : AL} {st : List AV} : At d 319 111 (l0 :: l1 :: l2 :: l3 :: some (vi x) :: L) st G = At d 319 113 (l0 :: l1 :: l2 :: l3 :: some (vi x) :: L) (vi x :: st) G := At_iload mc319 mk319 mr319 dX10_isKept_111 rfl
theorem rX10_isKept_113 {d : Nat} {G : AH} {x : Int32} {L : AL} {st : List AV} : At d 319 113 L (vi x :: st) G = if nI 0 ≤ x then At d 319 130 L st G else At d 319 116 L st G := At_if mc319 mk319 mr319 dX10_isKept_113 (by decide) cnd_ge
theorem rX10_isKept_116 {d : Nat} {G : AH} {l0 l1 l2 : Option AV} {x : Int32} {L : AL} {st : List AV} : At d 319 116 (l0 :: l1 :: l2 :: some (vi x) :: L) st G = At d 319 117 (l0 :: l1 :: l2 :: some (vi x) :: L) (vi x :: st) G := At_iload_n mc319 mk319 mr319 dX10_isKept_116 rfl
theorem rX10_isKept_117 {d : Nat} {G : AH} (h0 : 0 < d) {x0 : Int32} {L : AL} : At d 319 117 L [vi x0] G = bnd (cl (d - 1) 356 [vi x0] G) (fun v G => At d 319 120 L (psh v []) G) (fun a G => AtX d 319 117 L a G) := At_inv (k := 26) (z := 356) (n := 1) h0 mc319 mk319 mr319 dX10_isKept_117 rfl rfl rfl (by decide) (Nat.le_of_ble_eq_true rfl) rfl (Nat.le_of_ble_eq_true rfl) (Nat.le_of_ble_eq_true rfl)
theorem rX10_isKept_120 {d : Nat} {G : AH} {l0 l1 l2 l3 : Option AV} {x : Int32} {L : AL} {st : List AV} : At d 319 120 (l0 :: l1 :: l2 :: l3 :: some (vi x) :: L) st G = At d 319 122 (l0 :: l1 :: l2 :: l3 :: some (vi x) :: L) (vi x :: st) G := At_iload mc319 mk319 mr319 dX10_isKept_120 rfl
theorem rX10_isKept_122 {d : Nat} {G : AH} {x : Int32} {L : AL} {st : List AV} : At d 319 122 L (vi x :: st) G = At d 319 123 L (vi (-x) :: st) G := At_ineg mc319 mk319 mr319 dX10_isKept_122
theorem rX10_isKept_123 {d : Nat} {G : AH} {x z : Int32} {L : AL} {st : List AV} : At d 319 123 L (vi z :: vi x :: st) G = if z < x then At d 319 130 L st G else At d 319 126 L st G := At_icmp mc319 mk319 mr319 dX10_isKept_123 (by decide) cnd_gt
theorem rX10_isKept_126 {d : Nat} {G : AH} {L : AL} {st : List AV} : At d 319 126 L st G = At d 319 127 L (vi (nI 1) :: st) G := At_c1 mc319 mk319 mr319 dX10_isKept_126 (by decide)
theorem rX10_isKept_127 {d : Nat} {G : AH} {L : AL} {st : List AV} : At d 319 127 L st G = At d 319 131 L st G := At_goto mc319 mk319 mr319 dX10_isKept_127 (by decide)
theorem rX10_isKept_130 {d : Nat} {G : AH} {L : AL} {st : List AV} : At d 319 130 L st G = At d 319 131 L (vi (nI 0) :: st) G := At_c1 mc319 mk319 mr319 dX10_isKept_130 (by decide)
theorem rX10_isKept_131 {d : Nat} {G : AH} {x : Int32} {L : AL} : At d 319 131 L [vi x] G = if b01 x = true then some (.inl (some (vi x)), G) else none := At_zret mc319 mk319 mr319 dX10_isKept_131
theorem mw320 : mRow 320 = (cX10_p, 1, 1, 10, []) := rfl
theorem mc320 : mcode 320 = cX10_p := congrArg (fun q => q.1) mw320
theorem mk320 : mcls 320 = 10 := congrArg (fun q => q.2.2.2.1) mw320
theorem mr320 : mret 320 = 1 := congrArg (fun q => q.2.2.1) mw320
theorem mx320 : mmax 320 = 1 := congrArg (fun q => q.2.1) mw320
theorem mh320 : mhnd 320 = [] := congrArg (fun q => q.2.2.2.2) mw320
theorem en320 {d : Nat} {G : AH} {o0 : Option Nat} : cl d 320 [vr o0] G = At d 320 0 [some (vr o0)] [] G := by
  unfold cl
  rw [mx320]
  rfl
theorem rX10_p_0 {d : Nat} {G : AH} {x : Option Nat} {L : AL} {st : List AV} : At d 320 0 (some (vr x) :: L) st G = At d 320 1 (some (vr x) :: L) (vr x :: st) G := At_aload_n mc320 mk320 mr320 dX10_p_0 rfl
theorem rX10_p_1 {d : Nat} {G : AH} {a : Nat} {L : AL} {st : List AV} : At d 320 1 L (vr (some a) :: st) G = if okF (hT G a) 150 = true then At d 320 4 L (vi (hI G a 150) :: st) G else none := At_getI mc320 mk320 mr320 dX10_p_1 rfl (Or.inl rfl)
theorem rX10_p_4 {d : Nat} {G : AH} {x : Int32} {L : AL} : At d 320 4 L [vi x] G = some (.inl (some (vi x)), G) := At_iret mc320 mk320 mr320 dX10_p_4
theorem mw321 : mRow 321 = (cX11_makeAnew, 1, 0, 11, []) := rfl
theorem mc321 : mcode 321 = cX11_makeAnew := congrArg (fun q => q.1) mw321
theorem mk321 : mcls 321 = 11 := congrArg (fun q => q.2.2.2.1) mw321
theorem mr321 : mret 321 = 0 := congrArg (fun q => q.2.2.1) mw321
theorem mx321 : mmax 321 = 1 := congrArg (fun q => q.2.1) mw321
theorem mh321 : mhnd 321 = [] := congrArg (fun q => q.2.2.2.2) mw321
theorem en321 {d : Nat} {G : AH} {o0 : Option Nat} : cl d 321 [vr o0] G = At d 321 0 [some (vr o0)] [] G := by
  unfold cl
  rw [mx321]
  rfl
theorem rX11_makeAnew_0 {d : Nat} {G : AH} {x : Option Nat} {L : AL} {st : List AV} : At d 321 0 (some (vr x) :: L) st G = At d 321 1 (some (vr x) :: L) (vr x :: st) G := At_aload_n mc321 mk321 mr321 dX11_makeAnew_0 rfl
theorem rX11_makeAnew_1 {d : Nat} {G : AH} (h0 : 0 < d) {a : Nat} {L : AL} : At d 321 1 L [vr (some a)] G = if hT G a = 11 then bnd (cl (d - 1) 322 [vr (some a)] G) (fun v G => At d 321 4 L (psh v []) G) (fun a G => AtX d 321 1 L a G) else none := At_invV1 (k := 41) (t := 11) (z := 322) (n := 1) h0 mc321 mk321 mr321 dX11_makeAnew_1 rfl rfl rfl (by decide) (by decide) (Nat.le_of_ble_eq_true rfl) rfl (Nat.le_of_ble_eq_true rfl) (Nat.le_of_ble_eq_true rfl)
theorem rX11_makeAnew_4 {d : Nat} {G : AH} {L : AL} : At d 321 4 L [] G = some (.inl none, G) := At_vret mc321 mk321 mr321 dX11_makeAnew_4
theorem mw322 : mRow 322 = (cX11_make, 2, 0, 11, []) := rfl
theorem mc322 : mcode 322 = cX11_make := congrArg (fun q => q.1) mw322
theorem mk322 : mcls 322 = 11 := congrArg (fun q => q.2.2.2.1) mw322
theorem mr322 : mret 322 = 0 := congrArg (fun q => q.2.2.1) mw322
theorem mx322 : mmax 322 = 2 := congrArg (fun q => q.2.1) mw322
theorem mh322 : mhnd 322 = [] := congrArg (fun q => q.2.2.2.2) mw322
theorem en322 {d : Nat} {G : AH} {o0 : Option Nat} : cl d 322 [vr o0] G = At d 322 0 [some (vr o0), none] [] G := by
  unfold cl
  rw [mx322]
  rfl
theorem rX11_make_0 {d : Nat} {G : AH} {x : Option Nat} {L : AL} {st : List AV} : At d 322 0 (some (vr x) :: L) st G = At d 322 1 (some (vr x) :: L) (vr x :: st) G := At_aload_n mc322 mk322 mr322 dX11_make_0 rfl
theorem rX11_make_1 {d : Nat} {G : AH} {a : Nat} {L : AL} {st : List AV} : At d 322 1 L (vr (some a) :: st) G = if okF (hT G a) 157 = true then At d 322 4 L (vr (hR G a 157) :: st) G else none := At_getR mc322 mk322 mr322 dX11_make_1 rfl rfl
theorem rX11_make_4 {d : Nat} {G : AH} {x : Option Nat} {L : AL} {st : List AV} : At d 322 4 (some (vr x) :: L) st G = At d 322 5 (some (vr x) :: L) (vr x :: st) G := At_aload_n mc322 mk322 mr322 dX11_make_4 rfl
theorem rX11_make_5 {d : Nat} {G : AH} {a : Nat} {L : AL} {st : List AV} : At d 322 5 L (vr (some a) :: st) G = if okF (hT G a) 153 = true then At d 322 8 L (vi (hI G a 153) :: st) G else none := At_getI mc322 mk322 mr322 dX11_make_5 rfl (Or.inl rfl)
theorem rX11_make_8 {d : Nat} {G : AH} (h0 : 0 < d) {x0 : Int32} {a : Nat} {L : AL} : At d 322 8 L [vi x0, vr (some a)] G = if hT G a = 0 then bnd (cl (d - 1) 18 [vr (some a), vi x0] G) (fun v G => At d 322 11 L (psh v []) G) (fun a G => AtX d 322 8 L a G) else none := At_invV1 (k := 30) (t := 0) (z := 18) (n := 2) h0 mc322 mk322 mr322 dX11_make_8 rfl rfl rfl (by decide) (by decide) (Nat.le_of_ble_eq_true rfl) rfl (Nat.le_of_ble_eq_true rfl) (Nat.le_of_ble_eq_true rfl)
theorem rX11_make_11 {d : Nat} {G : AH} {L : AL} {st : List AV} : At d 322 11 L st G = At d 322 12 L (vi (nI 0) :: st) G := At_c1 mc322 mk322 mr322 dX11_make_11 (by decide)
theorem rX11_make_12 {d : Nat} {G : AH} {l0 l1 : Option AV} {x : Int32} {L : AL} {st : List AV} : At d 322 12 (l0 :: l1 :: L) (vi x :: st) G = At d 322 13 (nl l0 :: some (vi x) :: L) st G := At_istore_n mc322 mk322 mr322 dX11_make_12 rfl
theorem rX11_make_13 {d : Nat} {G : AH} {l0 : Option AV} {x : Int32} {L : AL} {st : List AV} : At d 322 13 (l0 :: some (vi x) :: L) st G = At d 322 14 (l0 :: some (vi x) :: L) (vi x :: st) G := At_iload_n mc322 mk322 mr322 dX11_make_13 rfl
theorem rX11_make_14 {d : Nat} {G : AH} {L : AL} {st : List AV} : At d 322 14 L st G = At d 322 16 L (vi (nI 64) :: st) G := At_c2 mc322 mk322 mr322 dX11_make_14 (by decide)
theorem rX11_make_16 {d : Nat} {G : AH} {x z : Int32} {L : AL} {st : List AV} : At d 322 16 L (vi z :: vi x :: st) G = if z ≤ x then At d 322 55 L st G else At d 322 19 L st G := At_icmp mc322 mk322 mr322 dX11_make_16 (by decide) cnd_ge
theorem rX11_make_19 {d : Nat} {G : AH} {x : Option Nat} {L : AL} {st : List AV} : At d 322 19 (some (vr x) :: L) st G = At d 322 20 (some (vr x) :: L) (vr x :: st) G := At_aload_n mc322 mk322 mr322 dX11_make_19 rfl
theorem rX11_make_20 {d : Nat} {G : AH} {a : Nat} {L : AL} {st : List AV} : At d 322 20 L (vr (some a) :: st) G = if okF (hT G a) 147 = true then At d 322 23 L (vr (hR G a 147) :: st) G else none := At_getR mc322 mk322 mr322 dX11_make_20 rfl rfl
theorem rX11_make_23 {d : Nat} {G : AH} {l0 : Option AV} {x : Int32} {L : AL} {st : List AV} : At d 322 23 (l0 :: some (vi x) :: L) st G = At d 322 24 (l0 :: some (vi x) :: L) (vi x :: st) G := At_iload_n mc322 mk322 mr322 dX11_make_23 rfl
theorem rX11_make_24 {d : Nat} {G : AH} {x : Option Nat} {L : AL} {st : List AV} : At d 322 24 (some (vr x) :: L) st G = At d 322 25 (some (vr x) :: L) (vr x :: st) G := At_aload_n mc322 mk322 mr322 dX11_make_24 rfl
theorem rX11_make_25 {d : Nat} {G : AH} {a : Nat} {L : AL} {st : List AV} : At d 322 25 L (vr (some a) :: st) G = if okF (hT G a) 157 = true then At d 322 28 L (vr (hR G a 157) :: st) G else none := At_getR mc322 mk322 mr322 dX11_make_25 rfl rfl
theorem rX11_make_28 {d : Nat} {G : AH} {l0 : Option AV} {x : Int32} {L : AL} {st : List AV} : At d 322 28 (l0 :: some (vi x) :: L) st G = At d 322 29 (l0 :: some (vi x) :: L) (vi x :: st) G := At_iload_n mc322 mk322 mr322 dX11_make_28 rfl
theorem rX11_make_29 {d : Nat} {G : AH} {x : Option Nat} {L : AL} {st : List AV} : At d 322 29 (some (vr x) :: L) st G = At d 322 30 (some (vr x) :: L) (vr x :: st) G := At_aload_n mc322 mk322 mr322 dX11_make_29 rfl
theorem rX11_make_30 {d : Nat} {G : AH} {a : Nat} {L : AL} {st : List AV} : At d 322 30 L (vr (some a) :: st) G = if okF (hT G a) 156 = true then At d 322 33 L (vi (hI G a 156) :: st) G else none := At_getI mc322 mk322 mr322 dX11_make_30 rfl (Or.inl rfl)
theorem rX11_make_33 {d : Nat} {G : AH} (h0 : 0 < d) {x0 : Int32} {x1 : Int32} {a : Nat} {x3 : Int32} {o4 : Option Nat} {L : AL} : At d 322 33 L [vi x0, vi x1, vr (some a), vi x3, vr o4] G = if hT G a = 0 then bnd (cl (d - 1) 20 [vr (some a), vi x1, vi x0] G) (fun v G => At d 322 36 L (psh v [vi x3, vr o4]) G) (fun a G => AtX d 322 33 L a G) else none := At_invV1 (k := 34) (t := 0) (z := 20) (n := 3) h0 mc322 mk322 mr322 dX11_make_33 rfl rfl rfl (by decide) (by decide) (Nat.le_of_ble_eq_true rfl) rfl (Nat.le_of_ble_eq_true rfl) (Nat.le_of_ble_eq_true rfl)
theorem rX11_make_36 {d : Nat} {G : AH} {a : Nat} {x : Int64} {j : Int32} {L : AL} {st : List AV} : At d 322 36 L (vl x :: vi j :: vr (some a) :: st) G = if hT G a = 41 then (if inb j (hL G a) = true then At d 322 37 L st (sJ G a (ix j) x) else AtS d 322 36 L 22 (vl x :: vi j :: vr (some a) :: st) G) else none := At_last mc322 mk322 mr322 dX11_make_36
theorem rX11_make_37 {d : Nat} {G : AH} {x : Option Nat} {L : AL} {st : List AV} : At d 322 37 (some (vr x) :: L) st G = At d 322 38 (some (vr x) :: L) (vr x :: st) G := At_aload_n mc322 mk322 mr322 dX11_make_37 rfl
theorem rX11_make_38 {d : Nat} {G : AH} {a : Nat} {L : AL} {st : List AV} : At d 322 38 L (vr (some a) :: st) G = if okF (hT G a) 148 = true then At d 322 41 L (vr (hR G a 148) :: st) G else none := At_getR mc322 mk322 mr322 dX11_make_38 rfl rfl
theorem rX11_make_41 {d : Nat} {G : AH} {l0 : Option AV} {x : Int32} {L : AL} {st : List AV} : At d 322 41 (l0 :: some (vi x) :: L) st G = At d 322 42 (l0 :: some (vi x) :: L) (vi x :: st) G := At_iload_n mc322 mk322 mr322 dX11_make_41 rfl
theorem rX11_make_42 {d : Nat} {G : AH} {x : Option Nat} {L : AL} {st : List AV} : At d 322 42 (some (vr x) :: L) st G = At d 322 43 (some (vr x) :: L) (vr x :: st) G := At_aload_n mc322 mk322 mr322 dX11_make_42 rfl
theorem rX11_make_43 {d : Nat} {G : AH} {a : Nat} {L : AL} {st : List AV} : At d 322 43 L (vr (some a) :: st) G = if okF (hT G a) 147 = true then At d 322 46 L (vr (hR G a 147) :: st) G else none := At_getR mc322 mk322 mr322 dX11_make_43 rfl rfl
theorem rX11_make_46 {d : Nat} {G : AH} {l0 : Option AV} {x : Int32} {L : AL} {st : List AV} : At d 322 46 (l0 :: some (vi x) :: L) st G = At d 322 47 (l0 :: some (vi x) :: L) (vi x :: st) G := At_iload_n mc322 mk322 mr322 dX11_make_46 rfl
theorem rX11_make_47 {d : Nat} {G : AH} {a : Nat} {j : Int32} {L : AL} {st : List AV} : At d 322 47 L (vi j :: vr (some a) :: st) G = if hT G a = 41 then (if inb j (hL G a) = true then At d 322 48 L (vl (hJ G a (ix j)) :: st) G else AtS d 322 47 L 22 (vi j :: vr (some a) :: st) G) else none := At_AJ mc322 mk322 mr322 dX11_make_47
theorem rX11_make_48 {d : Nat} {G : AH} {a : Nat} {x : Int64} {j : Int32} {L : AL} {st : List AV} : At d 322 48 L (vl x :: vi j :: vr (some a) :: st) G = if hT G a = 41 then (if inb j (hL G a) = true then At d 322 49 L st (sJ G a (ix j) x) else AtS d 322 48 L 22 (vl x :: vi j :: vr (some a) :: st) G) else none := At_last mc322 mk322 mr322 dX11_make_48
theorem rX11_make_49 {d : Nat} {G : AH} {l0 : Option AV} {x : Int32} {L : AL} {st : List AV} : At d 322 49 (l0 :: some (vi x) :: L) st G = At d 322 52 (l0 :: some (vi (x + nI 1)) :: L) st G := At_iinc (x := nI 1) mc322 mk322 mr322 dX11_make_49 (by decide) rfl
theorem rX11_make_52 {d : Nat} {G : AH} {L : AL} {st : List AV} : At d 322 52 L st G = At d 322 13 L st G := At_goto mc322 mk322 mr322 dX11_make_52 (by decide)
theorem rX11_make_55 {d : Nat} {G : AH} {L : AL} : At d 322 55 L [] G = some (.inl none, G) := At_vret mc322 mk322 mr322 dX11_make_55
theorem mw323 : mRow 323 = (cX11_init, 6, 0, 11, []) := rfl
theorem mc323 : mcode 323 = cX11_init := congrArg (fun q => q.1) mw323
theorem mk323 : mcls 323 = 11 := congrArg (fun q => q.2.2.2.1) mw323
theorem mr323 : mret 323 = 0 := congrArg (fun q => q.2.2.1) mw323
theorem mx323 : mmax 323 = 6 := congrArg (fun q => q.2.1) mw323
theorem mh323 : mhnd 323 = [] := congrArg (fun q => q.2.2.2.2) mw323
theorem en323 {d : Nat} {G : AH} {o0 : Option Nat} {o1 : Option Nat} {x2 : Int32} {x3 : Int32} {x4 : Int32} {x5 : Int32} : cl d 323 [vr o0, vr o1, vi x2, vi x3, vi x4, vi x5] G = At d 323 0 [some (vr o0), some (vr o1), some (vi x2), some (vi x3), some (vi x4), some (vi x5)] [] G := by
  unfold cl
  rw [mx323]
  rfl
theorem rX11_init_0 {d : Nat} {G : AH} {x : Option Nat} {L : AL} {st : List AV} : At d 323 0 (some (vr x) :: L) st G = At d 323 1 (some (vr x) :: L) (vr x :: st) G := At_aload_n mc323 mk323 mr323 dX11_init_0 rfl
theorem rX11_init_1 {d : Nat} {G : AH} {l0 : Option AV} {x : Option Nat} {L : AL} {st : List AV} : At d 323 1 (l0 :: some (vr x) :: L) st G = At d 323 2 (l0 :: some (vr x) :: L) (vr x :: st) G := At_aload_n mc323 mk323 mr323 dX11_init_1 rfl
theorem rX11_init_2 {d : Nat} {G : AH} {a : Nat} {x : Option Nat} {L : AL} {st : List AV} : At d 323 2 L (vr x :: vr (some a) :: st) G = if okF (hT G a) 157 = true then At d 323 5 L st (sR G a 157 x) else none := At_putR mc323 mk323 mr323 dX11_init_2 rfl rfl rfl
theorem rX11_init_5 {d : Nat} {G : AH} {x : Option Nat} {L : AL} {st : List AV} : At d 323 5 (some (vr x) :: L) st G = At d 323 6 (some (vr x) :: L) (vr x :: st) G := At_aload_n mc323 mk323 mr323 dX11_init_5 rfl
theorem rX11_init_6 {d : Nat} {G : AH} {l0 : Option AV} {x : Option Nat} {L : AL} {st : List AV} : At d 323 6 (l0 :: some (vr x) :: L) st G = At d 323 7 (l0 :: some (vr x) :: L) (vr x :: st) G := At_aload_n mc323 mk323 mr323 dX11_init_6 rfl
theorem rX11_init_7 {d : Nat} {G : AH} {L : AL} {st : List AV} : At d 323 7 L st G = At d 323 8 L (vi (nI 4) :: st) G := At_c1 mc323 mk323 mr323 dX11_init_7 (by decide)
theorem rX11_init_8 {d : Nat} {G : AH} {l0 l1 : Option AV} {x : Int32} {L : AL} {st : List AV} : At d 323 8 (l0 :: l1 :: some (vi x) :: L) st G = At d 323 9 (l0 :: l1 :: some (vi x) :: L) (vi x :: st) G := At_iload_n mc323 mk323 mr323 dX11_init_8 rfl
theorem rX11_init_9 {d : Nat} {G : AH} {l0 l1 l2 : Option AV} {x : Int32} {L : AL} {st : List AV} : At d 323 9 (l0 :: l1 :: l2 :: some (vi x) :: L) st G = At d 323 10 (l0 :: l1 :: l2 :: some (vi x) :: L) (vi x :: st) G := At_iload_n mc323 mk323 mr323 dX11_init_9 rfl
theorem rX11_init_10 {d : Nat} {G : AH} {l0 l1 l2 l3 l4 : Option AV} {x : Int32} {L : AL} {st : List AV} : At d 323 10 (l0 :: l1 :: l2 :: l3 :: l4 :: some (vi x) :: L) st G = At d 323 12 (l0 :: l1 :: l2 :: l3 :: l4 :: some (vi x) :: L) (vi x :: st) G := At_iload mc323 mk323 mr323 dX11_init_10 rfl
theorem rX11_init_12 {d : Nat} {G : AH} (h0 : 0 < d) {x0 : Int32} {x1 : Int32} {x2 : Int32} {x3 : Int32} {o4 : Option Nat} {a : Nat} {L : AL} : At d 323 12 L [vi x0, vi x1, vi x2, vi x3, vr o4, vr (some a)] G = bnd (cl (d - 1) 312 [vr (some a), vr o4, vi x3, vi x2, vi x1, vi x0] G) (fun v G => At d 323 15 L (psh v []) G) (fun a G => AtX d 323 12 L a G) := At_invS (k := 9) (z := 312) (n := 6) h0 mc323 mk323 mr323 dX11_init_12 rfl rfl rfl (by decide) (Nat.le_of_ble_eq_true rfl) rfl (Nat.le_of_ble_eq_true rfl) (Nat.le_of_ble_eq_true rfl)
theorem rX11_init_15 {d : Nat} {G : AH} {x : Option Nat} {L : AL} {st : List AV} : At d 323 15 (some (vr x) :: L) st G = At d 323 16 (some (vr x) :: L) (vr x :: st) G := At_aload_n mc323 mk323 mr323 dX11_init_15 rfl
theorem rX11_init_16 {d : Nat} {G : AH} {l0 l1 l2 l3 : Option AV} {x : Int32} {L : AL} {st : List AV} : At d 323 16 (l0 :: l1 :: l2 :: l3 :: some (vi x) :: L) st G = At d 323 18 (l0 :: l1 :: l2 :: l3 :: some (vi x) :: L) (vi x :: st) G := At_iload mc323 mk323 mr323 dX11_init_16 rfl
theorem rX11_init_18 {d : Nat} {G : AH} {a : Nat} {x : Int32} {L : AL} {st : List AV} : At d 323 18 L (vi x :: vr (some a) :: st) G = if okF (hT G a) 156 = true then At d 323 21 L st (sI G a 156 x) else none := At_putI mc323 mk323 mr323 dX11_init_18 rfl rfl rfl
theorem rX11_init_21 {d : Nat} {G : AH} {L : AL} : At d 323 21 L [] G = some (.inl none, G) := At_vret mc323 mk323 mr323 dX11_init_21
theorem mw324 : mRow 324 = (cX11_isKept, 3, 4, 11, []) := rfl
theorem mc324 : mcode 324 = cX11_isKept := congrArg (fun q => q.1) mw324
theorem mk324 : mcls 324 = 11 := congrArg (fun q => q.2.2.2.1) mw324
theorem mr324 : mret 324 = 4 := congrArg (fun q => q.2.2.1) mw324
theorem mx324 : mmax 324 = 3 := congrArg (fun q => q.2.1) mw324
theorem mh324 : mhnd 324 = [] := congrArg (fun q => q.2.2.2.2) mw324
theorem en324 {d : Nat} {G : AH} {o0 : Option Nat} {x1 : Int32} {x2 : Int32} : cl d 324 [vr o0, vi x1, vi x2] G = At d 324 0 [some (vr o0), some (vi x1), some (vi x2)] [] G := by
  unfold cl
  rw [mx324]
  rfl
theorem rX11_isKept_0 {d : Nat} {G : AH} {x : Option Nat} {L : AL} {st : List AV} : At d 324 0 (some (vr x) :: L) st G = At d 324 1 (some (vr x) :: L) (vr x :: st) G := At_aload_n mc324 mk324 mr324 dX11_isKept_0 rfl
theorem rX11_isKept_1 {d : Nat} {G : AH} {a : Nat} {L : AL} {st : List AV} : At d 324 1 L (vr (some a) :: st) G = if okF (hT G a) 147 = true then At d 324 4 L (vr (hR G a 147) :: st) G else none := At_getR mc324 mk324 mr324 dX11_isKept_1 rfl rfl
theorem rX11_isKept_4 {d : Nat} {G : AH} {l0 : Option AV} {x : Int32} {L : AL} {st : List AV} : At d 324 4 (l0 :: some (vi x) :: L) st G = At d 324 5 (l0 :: some (vi x) :: L) (vi x :: st) G := At_iload_n mc324 mk324 mr324 dX11_isKept_4 rfl
theorem rX11_isKept_5 {d : Nat} {G : AH} {a : Nat} {j : Int32} {L : AL} {st : List AV} : At d 324 5 L (vi j :: vr (some a) :: st) G = if hT G a = 41 then (if inb j (hL G a) = true then At d 324 6 L (vl (hJ G a (ix j)) :: st) G else AtS d 324 5 L 22 (vi j :: vr (some a) :: st) G) else none := At_AJ mc324 mk324 mr324 dX11_isKept_5
theorem rX11_isKept_6 {d : Nat} {G : AH} {l0 l1 : Option AV} {x : Int32} {L : AL} {st : List AV} : At d 324 6 (l0 :: l1 :: some (vi x) :: L) st G = At d 324 7 (l0 :: l1 :: some (vi x) :: L) (vi x :: st) G := At_iload_n mc324 mk324 mr324 dX11_isKept_6 rfl
theorem rX11_isKept_7 {d : Nat} {G : AH} (h0 : 0 < d) {x0 : Int32} {x1 : Int64} {L : AL} : At d 324 7 L [vi x0, vl x1] G = bnd (cl (d - 1) 16 [vl x1, vi x0] G) (fun v G => At d 324 10 L (psh v []) G) (fun a G => AtX d 324 7 L a G) := At_inv (k := 23) (z := 16) (n := 2) h0 mc324 mk324 mr324 dX11_isKept_7 rfl rfl rfl (by decide) (Nat.le_of_ble_eq_true rfl) rfl (Nat.le_of_ble_eq_true rfl) (Nat.le_of_ble_eq_true rfl)
theorem rX11_isKept_10 {d : Nat} {G : AH} {x : Int32} {L : AL} : At d 324 10 L [vi x] G = if b01 x = true then some (.inl (some (vi x)), G) else none := At_zret mc324 mk324 mr324 dX11_isKept_10
theorem mw325 : mRow 325 = (cX11_p, 1, 1, 11, []) := rfl
theorem mc325 : mcode 325 = cX11_p := congrArg (fun q => q.1) mw325
theorem mk325 : mcls 325 = 11 := congrArg (fun q => q.2.2.2.1) mw325
theorem mr325 : mret 325 = 1 := congrArg (fun q => q.2.2.1) mw325
theorem mx325 : mmax 325 = 1 := congrArg (fun q => q.2.1) mw325
theorem mh325 : mhnd 325 = [] := congrArg (fun q => q.2.2.2.2) mw325
theorem en325 {d : Nat} {G : AH} {o0 : Option Nat} : cl d 325 [vr o0] G = At d 325 0 [some (vr o0)] [] G := by
  unfold cl
  rw [mx325]
  rfl
theorem rX11_p_0 {d : Nat} {G : AH} {x : Option Nat} {L : AL} {st : List AV} : At d 325 0 (some (vr x) :: L) st G = At d 325 1 (some (vr x) :: L) (vr x :: st) G := At_aload_n mc325 mk325 mr325 dX11_p_0 rfl
theorem rX11_p_1 {d : Nat} {G : AH} {a : Nat} {L : AL} {st : List AV} : At d 325 1 L (vr (some a) :: st) G = if okF (hT G a) 156 = true then At d 325 4 L (vi (hI G a 156) :: st) G else none := At_getI mc325 mk325 mr325 dX11_p_1 rfl (Or.inl rfl)
theorem rX11_p_4 {d : Nat} {G : AH} {x : Int32} {L : AL} : At d 325 4 L [vi x] G = some (.inl (some (vi x)), G) := At_iret mc325 mk325 mr325 dX11_p_4
theorem mw326 : mRow 326 = (cX11_tell, 1, 1, 11, []) := rfl
theorem mc326 : mcode 326 = cX11_tell := congrArg (fun q => q.1) mw326
theorem mk326 : mcls 326 = 11 := congrArg (fun q => q.2.2.2.1) mw326
theorem mr326 : mret 326 = 1 := congrArg (fun q => q.2.2.1) mw326
theorem mx326 : mmax 326 = 1 := congrArg (fun q => q.2.1) mw326
theorem mh326 : mhnd 326 = [] := congrArg (fun q => q.2.2.2.2) mw326
theorem en326 {d : Nat} {G : AH} {o0 : Option Nat} : cl d 326 [vr o0] G = At d 326 0 [some (vr o0)] [] G := by
  unfold cl
  rw [mx326]
  rfl
theorem rX11_tell_0 {d : Nat} {G : AH} {x : Option Nat} {L : AL} {st : List AV} : At d 326 0 (some (vr x) :: L) st G = At d 326 1 (some (vr x) :: L) (vr x :: st) G := At_aload_n mc326 mk326 mr326 dX11_tell_0 rfl
theorem rX11_tell_1 {d : Nat} {G : AH} {a : Nat} {L : AL} {st : List AV} : At d 326 1 L (vr (some a) :: st) G = if okF (hT G a) 157 = true then At d 326 4 L (vr (hR G a 157) :: st) G else none := At_getR mc326 mk326 mr326 dX11_tell_1 rfl rfl
theorem rX11_tell_4 {d : Nat} {G : AH} {L : AL} {st : List AV} : At d 326 4 L st G = At d 326 6 L (vi (nI 8) :: st) G := At_c2 mc326 mk326 mr326 dX11_tell_4 (by decide)
theorem rX11_tell_6 {d : Nat} {G : AH} (h0 : 0 < d) {x0 : Int32} {a : Nat} {L : AL} : At d 326 6 L [vi x0, vr (some a)] G = if hT G a = 0 then bnd (cl (d - 1) 129 [vr (some a), vi x0] G) (fun v G => At d 326 9 L (psh v []) G) (fun a G => AtX d 326 6 L a G) else none := At_invV1 (k := 45) (t := 0) (z := 129) (n := 2) h0 mc326 mk326 mr326 dX11_tell_6 rfl rfl rfl (by decide) (by decide) (Nat.le_of_ble_eq_true rfl) rfl (Nat.le_of_ble_eq_true rfl) (Nat.le_of_ble_eq_true rfl)
theorem rX11_tell_9 {d : Nat} {G : AH} {L : AL} {st : List AV} : At d 326 9 L st G = At d 326 10 L (vi (nI 2) :: st) G := At_c1 mc326 mk326 mr326 dX11_tell_9 (by decide)
theorem rX11_tell_10 {d : Nat} {G : AH} {x : Option Nat} {L : AL} {st : List AV} : At d 326 10 (some (vr x) :: L) st G = At d 326 11 (some (vr x) :: L) (vr x :: st) G := At_aload_n mc326 mk326 mr326 dX11_tell_10 rfl
theorem rX11_tell_11 {d : Nat} {G : AH} (h0 : 0 < d) {a : Nat} {x1 : Int32} {L : AL} : At d 326 11 L [vr (some a), vi x1] G = if hT G a = 11 then bnd (cl (d - 1) 311 [vr (some a)] G) (fun v G => At d 326 14 L (psh v [vi x1]) G) (fun a G => AtX d 326 11 L a G) else none := At_invV1 (k := 48) (t := 11) (z := 311) (n := 1) h0 mc326 mk326 mr326 dX11_tell_11 rfl rfl rfl (by decide) (by decide) (Nat.le_of_ble_eq_true rfl) rfl (Nat.le_of_ble_eq_true rfl) (Nat.le_of_ble_eq_true rfl)
theorem rX11_tell_14 {d : Nat} {G : AH} {x z : Int32} {L : AL} {st : List AV} : At d 326 14 L (vi z :: vi x :: st) G = At d 326 15 L (vi (x * z) :: st) G := At_imul mc326 mk326 mr326 dX11_tell_14
theorem rX11_tell_15 {d : Nat} {G : AH} {x : Int32} {L : AL} : At d 326 15 L [vi x] G = some (.inl (some (vi x)), G) := At_iret mc326 mk326 mr326 dX11_tell_15
theorem mw327 : mRow 327 = (cX11_weigh, 1, 1, 11, []) := rfl
theorem mc327 : mcode 327 = cX11_weigh := congrArg (fun q => q.1) mw327
theorem mk327 : mcls 327 = 11 := congrArg (fun q => q.2.2.2.1) mw327
theorem mr327 : mret 327 = 1 := congrArg (fun q => q.2.2.1) mw327
theorem mx327 : mmax 327 = 1 := congrArg (fun q => q.2.1) mw327
theorem mh327 : mhnd 327 = [] := congrArg (fun q => q.2.2.2.2) mw327
theorem en327 {d : Nat} {G : AH} {o0 : Option Nat} : cl d 327 [vr o0] G = At d 327 0 [some (vr o0)] [] G := by
  unfold cl
  rw [mx327]
  rfl
theorem rX11_weigh_0 {d : Nat} {G : AH} {x : Option Nat} {L : AL} {st : List AV} : At d 327 0 (some (vr x) :: L) st G = At d 327 1 (some (vr x) :: L) (vr x :: st) G := At_aload_n mc327 mk327 mr327 dX11_weigh_0 rfl
theorem rX11_weigh_1 {d : Nat} {G : AH} {a : Nat} {L : AL} {st : List AV} : At d 327 1 L (vr (some a) :: st) G = if okF (hT G a) 157 = true then At d 327 4 L (vr (hR G a 157) :: st) G else none := At_getR mc327 mk327 mr327 dX11_weigh_1 rfl rfl
theorem rX11_weigh_4 {d : Nat} {G : AH} {L : AL} {st : List AV} : At d 327 4 L st G = At d 327 6 L (vi (nI 13) :: st) G := At_c2 mc327 mk327 mr327 dX11_weigh_4 (by decide)
theorem rX11_weigh_6 {d : Nat} {G : AH} (h0 : 0 < d) {x0 : Int32} {a : Nat} {L : AL} : At d 327 6 L [vi x0, vr (some a)] G = if hT G a = 0 then bnd (cl (d - 1) 129 [vr (some a), vi x0] G) (fun v G => At d 327 9 L (psh v []) G) (fun a G => AtX d 327 6 L a G) else none := At_invV1 (k := 45) (t := 0) (z := 129) (n := 2) h0 mc327 mk327 mr327 dX11_weigh_6 rfl rfl rfl (by decide) (by decide) (Nat.le_of_ble_eq_true rfl) rfl (Nat.le_of_ble_eq_true rfl) (Nat.le_of_ble_eq_true rfl)
theorem rX11_weigh_9 {d : Nat} {G : AH} {x : Option Nat} {L : AL} {st : List AV} : At d 327 9 (some (vr x) :: L) st G = At d 327 10 (some (vr x) :: L) (vr x :: st) G := At_aload_n mc327 mk327 mr327 dX11_weigh_9 rfl
theorem rX11_weigh_10 {d : Nat} {G : AH} (h0 : 0 < d) {a : Nat} {L : AL} : At d 327 10 L [vr (some a)] G = if hT G a < 40 then bnd (cl (d - 1) 314 [vr (some a)] G) (fun v G => At d 327 13 L (psh v []) G) (fun a G => AtX d 327 10 L a G) else none := At_invU (k := 52) (z := 314) (n := 1) h0 mc327 mk327 mr327 dX11_weigh_10 rfl rfl rfl (by decide) (Nat.le_of_ble_eq_true rfl) rfl (Nat.le_of_ble_eq_true rfl) (Nat.le_of_ble_eq_true rfl)
theorem rX11_weigh_13 {d : Nat} {G : AH} {x : Option Nat} {L : AL} {st : List AV} : At d 327 13 (some (vr x) :: L) st G = At d 327 14 (some (vr x) :: L) (vr x :: st) G := At_aload_n mc327 mk327 mr327 dX11_weigh_13 rfl
theorem rX11_weigh_14 {d : Nat} {G : AH} (h0 : 0 < d) {a : Nat} {x1 : Int32} {L : AL} : At d 327 14 L [vr (some a), vi x1] G = if hT G a = 11 then bnd (cl (d - 1) 305 [vr (some a)] G) (fun v G => At d 327 17 L (psh v [vi x1]) G) (fun a G => AtX d 327 14 L a G) else none := At_invV1 (k := 55) (t := 11) (z := 305) (n := 1) h0 mc327 mk327 mr327 dX11_weigh_14 rfl rfl rfl (by decide) (by decide) (Nat.le_of_ble_eq_true rfl) rfl (Nat.le_of_ble_eq_true rfl) (Nat.le_of_ble_eq_true rfl)
theorem rX11_weigh_17 {d : Nat} {G : AH} {x z : Int32} {L : AL} {st : List AV} : At d 327 17 L (vi z :: vi x :: st) G = At d 327 18 L (vi (x + z) :: st) G := At_iadd mc327 mk327 mr327 dX11_weigh_17
theorem rX11_weigh_18 {d : Nat} {G : AH} {x : Int32} {L : AL} : At d 327 18 L [vi x] G = some (.inl (some (vi x)), G) := At_iret mc327 mk327 mr327 dX11_weigh_18
theorem mw328 : mRow 328 = (cX13_init, 1, 0, 13, []) := rfl
theorem mc328 : mcode 328 = cX13_init := congrArg (fun q => q.1) mw328
theorem mk328 : mcls 328 = 13 := congrArg (fun q => q.2.2.2.1) mw328
theorem mr328 : mret 328 = 0 := congrArg (fun q => q.2.2.1) mw328
theorem mx328 : mmax 328 = 1 := congrArg (fun q => q.2.1) mw328
theorem mh328 : mhnd 328 = [] := congrArg (fun q => q.2.2.2.2) mw328
theorem en328 {d : Nat} {G : AH} {o0 : Option Nat} : cl d 328 [vr o0] G = At d 328 0 [some (vr o0)] [] G := by
  unfold cl
  rw [mx328]
  rfl
theorem rX13_init_0 {d : Nat} {G : AH} {x : Option Nat} {L : AL} {st : List AV} : At d 328 0 (some (vr x) :: L) st G = At d 328 1 (some (vr x) :: L) (vr x :: st) G := At_aload_n mc328 mk328 mr328 dX13_init_0 rfl
theorem rX13_init_1 {d : Nat} {G : AH} {a : Nat} {L : AL} : At d 328 1 L [vr (some a)] G = At d 328 4 L [] G := At_obj (n := 0) mc328 mk328 mr328 dX13_init_1 rfl (Nat.le_of_ble_eq_true rfl)
theorem rX13_init_4 {d : Nat} {G : AH} {x : Option Nat} {L : AL} {st : List AV} : At d 328 4 (some (vr x) :: L) st G = At d 328 5 (some (vr x) :: L) (vr x :: st) G := At_aload_n mc328 mk328 mr328 dX13_init_4 rfl
theorem rX13_init_5 {d : Nat} {G : AH} {L : AL} {st : List AV} : At d 328 5 L st G = At d 328 8 L (vr (some (hN G)) :: st) (mkx G 16 0 1 3) := At_new mc328 mk328 mr328 dX13_init_5 rfl rfl rfl
theorem rX13_init_8 {d : Nat} {G : AH} {x : Option Nat} {L : AL} {st : List AV} : At d 328 8 L (vr x :: st) G = At d 328 9 L (vr x :: vr x :: st) G := At_dupR mc328 mk328 mr328 dX13_init_8
theorem rX13_init_9 {d : Nat} {G : AH} (h0 : 0 < d) {a : Nat} {o1 : Option Nat} {o2 : Option Nat} {L : AL} : At d 328 9 L [vr (some a), vr o1, vr o2] G = bnd (cl (d - 1) 333 [vr (some a)] G) (fun v G => At d 328 12 L (psh v [vr o1, vr o2]) G) (fun a G => AtX d 328 9 L a G) := At_invS (k := 11) (z := 333) (n := 1) h0 mc328 mk328 mr328 dX13_init_9 rfl rfl rfl (by decide) (Nat.le_of_ble_eq_true rfl) rfl (Nat.le_of_ble_eq_true rfl) (Nat.le_of_ble_eq_true rfl)
theorem rX13_init_12 {d : Nat} {G : AH} {a : Nat} {x : Option Nat} {L : AL} {st : List AV} : At d 328 12 L (vr x :: vr (some a) :: st) G = if okF (hT G a) 163 = true then At d 328 15 L st (sR G a 163 x) else none := At_putR mc328 mk328 mr328 dX13_init_12 rfl rfl rfl
theorem rX13_init_15 {d : Nat} {G : AH} {x : Option Nat} {L : AL} {st : List AV} : At d 328 15 (some (vr x) :: L) st G = At d 328 16 (some (vr x) :: L) (vr x :: st) G := At_aload_n mc328 mk328 mr328 dX13_init_15 rfl
theorem rX13_init_16 {d : Nat} {G : AH} {L : AL} {st : List AV} : At d 328 16 L st G = At d 328 19 L (vr (some (hN G)) :: st) (mkx G 16 0 1 3) := At_new mc328 mk328 mr328 dX13_init_16 rfl rfl rfl
theorem rX13_init_19 {d : Nat} {G : AH} {x : Option Nat} {L : AL} {st : List AV} : At d 328 19 L (vr x :: st) G = At d 328 20 L (vr x :: vr x :: st) G := At_dupR mc328 mk328 mr328 dX13_init_19
theorem rX13_init_20 {d : Nat} {G : AH} (h0 : 0 < d) {a : Nat} {o1 : Option Nat} {o2 : Option Nat} {L : AL} : At d 328 20 L [vr (some a), vr o1, vr o2] G = bnd (cl (d - 1) 333 [vr (some a)] G) (fun v G => At d 328 23 L (psh v [vr o1, vr o2]) G) (fun a G => AtX d 328 20 L a G) := At_invS (k := 11) (z := 333) (n := 1) h0 mc328 mk328 mr328 dX13_init_20 rfl rfl rfl (by decide) (Nat.le_of_ble_eq_true rfl) rfl (Nat.le_of_ble_eq_true rfl) (Nat.le_of_ble_eq_true rfl)
theorem rX13_init_23 {d : Nat} {G : AH} {a : Nat} {x : Option Nat} {L : AL} {st : List AV} : At d 328 23 L (vr x :: vr (some a) :: st) G = if okF (hT G a) 164 = true then At d 328 26 L st (sR G a 164 x) else none := At_putR mc328 mk328 mr328 dX13_init_23 rfl rfl rfl
theorem rX13_init_26 {d : Nat} {G : AH} {x : Option Nat} {L : AL} {st : List AV} : At d 328 26 (some (vr x) :: L) st G = At d 328 27 (some (vr x) :: L) (vr x :: st) G := At_aload_n mc328 mk328 mr328 dX13_init_26 rfl
theorem rX13_init_27 {d : Nat} {G : AH} {L : AL} {st : List AV} : At d 328 27 L st G = At d 328 29 L (vi (nI 24) :: st) G := At_c2 mc328 mk328 mr328 dX13_init_27 (by decide)
theorem rX13_init_29 {d : Nat} {G : AH} {x : Int32} {L : AL} {st : List AV} : At d 328 29 L (vi x :: st) G = if x < 0 then AtS d 328 29 L 23 (vi x :: st) G else if x ≤ 65536 then At d 328 31 L (vr (some (hN G)) :: st) (mkx G 41 (ix x) 1 (ix x)) else none := At_newa mc328 mk328 mr328 dX13_init_29 rfl (by decide)
theorem rX13_init_31 {d : Nat} {G : AH} {a : Nat} {x : Option Nat} {L : AL} {st : List AV} : At d 328 31 L (vr x :: vr (some a) :: st) G = if okF (hT G a) 165 = true then At d 328 34 L st (sR G a 165 x) else none := At_putR mc328 mk328 mr328 dX13_init_31 rfl rfl rfl
theorem rX13_init_34 {d : Nat} {G : AH} {x : Option Nat} {L : AL} {st : List AV} : At d 328 34 (some (vr x) :: L) st G = At d 328 35 (some (vr x) :: L) (vr x :: st) G := At_aload_n mc328 mk328 mr328 dX13_init_34 rfl
theorem rX13_init_35 {d : Nat} {G : AH} {L : AL} {st : List AV} : At d 328 35 L st G = At d 328 37 L (vi (nI 24) :: st) G := At_c2 mc328 mk328 mr328 dX13_init_35 (by decide)
theorem rX13_init_37 {d : Nat} {G : AH} {x : Int32} {L : AL} {st : List AV} : At d 328 37 L (vi x :: st) G = if x < 0 then AtS d 328 37 L 23 (vi x :: st) G else if x ≤ 65536 then At d 328 39 L (vr (some (hN G)) :: st) (mkx G 44 (ix x) 1 (ix x)) else none := At_newa mc328 mk328 mr328 dX13_init_37 rfl (by decide)
theorem rX13_init_39 {d : Nat} {G : AH} {a : Nat} {x : Option Nat} {L : AL} {st : List AV} : At d 328 39 L (vr x :: vr (some a) :: st) G = if okF (hT G a) 166 = true then At d 328 42 L st (sR G a 166 x) else none := At_putR mc328 mk328 mr328 dX13_init_39 rfl rfl rfl
theorem rX13_init_42 {d : Nat} {G : AH} {x : Option Nat} {L : AL} {st : List AV} : At d 328 42 (some (vr x) :: L) st G = At d 328 43 (some (vr x) :: L) (vr x :: st) G := At_aload_n mc328 mk328 mr328 dX13_init_42 rfl
theorem rX13_init_43 {d : Nat} {G : AH} {L : AL} {st : List AV} : At d 328 43 L st G = At d 328 45 L (vi (nI 60) :: st) G := At_c2 mc328 mk328 mr328 dX13_init_43 (by decide)
theorem rX13_init_45 {d : Nat} {G : AH} {x : Int32} {L : AL} {st : List AV} : At d 328 45 L (vi x :: st) G = if x < 0 then AtS d 328 45 L 23 (vi x :: st) G else if x ≤ 65536 then At d 328 47 L (vr (some (hN G)) :: st) (mkx G 44 (ix x) 1 (ix x)) else none := At_newa mc328 mk328 mr328 dX13_init_45 rfl (by decide)
theorem rX13_init_47 {d : Nat} {G : AH} {a : Nat} {x : Option Nat} {L : AL} {st : List AV} : At d 328 47 L (vr x :: vr (some a) :: st) G = if okF (hT G a) 167 = true then At d 328 50 L st (sR G a 167 x) else none := At_putR mc328 mk328 mr328 dX13_init_47 rfl rfl rfl
theorem rX13_init_50 {d : Nat} {G : AH} {x : Option Nat} {L : AL} {st : List AV} : At d 328 50 (some (vr x) :: L) st G = At d 328 51 (some (vr x) :: L) (vr x :: st) G := At_aload_n mc328 mk328 mr328 dX13_init_50 rfl
theorem rX13_init_51 {d : Nat} {G : AH} {L : AL} {st : List AV} : At d 328 51 L st G = At d 328 53 L (vi (nI 24) :: st) G := At_c2 mc328 mk328 mr328 dX13_init_51 (by decide)
theorem rX13_init_53 {d : Nat} {G : AH} {x : Int32} {L : AL} {st : List AV} : At d 328 53 L (vi x :: st) G = if x < 0 then AtS d 328 53 L 23 (vi x :: st) G else if x ≤ 65536 then At d 328 55 L (vr (some (hN G)) :: st) (mkx G 40 (ix x) 1 (ix x)) else none := At_newa mc328 mk328 mr328 dX13_init_53 rfl (by decide)
theorem rX13_init_55 {d : Nat} {G : AH} {a : Nat} {x : Option Nat} {L : AL} {st : List AV} : At d 328 55 L (vr x :: vr (some a) :: st) G = if okF (hT G a) 168 = true then At d 328 58 L st (sR G a 168 x) else none := At_putR mc328 mk328 mr328 dX13_init_55 rfl rfl rfl
theorem rX13_init_58 {d : Nat} {G : AH} {x : Option Nat} {L : AL} {st : List AV} : At d 328 58 (some (vr x) :: L) st G = At d 328 59 (some (vr x) :: L) (vr x :: st) G := At_aload_n mc328 mk328 mr328 dX13_init_58 rfl
theorem rX13_init_59 {d : Nat} {G : AH} {L : AL} {st : List AV} : At d 328 59 L st G = At d 328 61 L (vi (nI 9) :: st) G := At_c2 mc328 mk328 mr328 dX13_init_59 (by decide)
theorem rX13_init_61 {d : Nat} {G : AH} {x : Int32} {L : AL} {st : List AV} : At d 328 61 L (vi x :: st) G = if x < 0 then AtS d 328 61 L 23 (vi x :: st) G else if x ≤ 65536 then At d 328 63 L (vr (some (hN G)) :: st) (mkx G 40 (ix x) 1 (ix x)) else none := At_newa mc328 mk328 mr328 dX13_init_61 rfl (by decide)
theorem rX13_init_63 {d : Nat} {G : AH} {a : Nat} {x : Option Nat} {L : AL} {st : List AV} : At d 328 63 L (vr x :: vr (some a) :: st) G = if okF (hT G a) 169 = true then At d 328 66 L st (sR G a 169 x) else none := At_putR mc328 mk328 mr328 dX13_init_63 rfl rfl rfl
theorem rX13_init_66 {d : Nat} {G : AH} {L : AL} : At d 328 66 L [] G = some (.inl none, G) := At_vret mc328 mk328 mr328 dX13_init_66
theorem mw329 : mRow 329 = (cX14_greet, 1, 1, 14, []) := rfl
theorem mc329 : mcode 329 = cX14_greet := congrArg (fun q => q.1) mw329
theorem mk329 : mcls 329 = 14 := congrArg (fun q => q.2.2.2.1) mw329
theorem mr329 : mret 329 = 1 := congrArg (fun q => q.2.2.1) mw329
theorem mx329 : mmax 329 = 1 := congrArg (fun q => q.2.1) mw329
theorem mh329 : mhnd 329 = [] := congrArg (fun q => q.2.2.2.2) mw329
theorem en329 {d : Nat} {G : AH} {o0 : Option Nat} : cl d 329 [vr o0] G = At d 329 0 [some (vr o0)] [] G := by
  unfold cl
  rw [mx329]
  rfl
theorem rX14_greet_0 {d : Nat} {G : AH} {x : Option Nat} {L : AL} {st : List AV} : At d 329 0 (some (vr x) :: L) st G = At d 329 1 (some (vr x) :: L) (vr x :: st) G := At_aload_n mc329 mk329 mr329 dX14_greet_0 rfl
theorem rX14_greet_1_t3 {d : Nat} {G : AH} (h0 : 0 < d) {a : Nat} {L : AL} (ht : hT G a = 3) : At d 329 1 L [vr (some a)] G = bnd (cl (d - 1) 284 [vr (some a)] G) (fun v G => At d 329 6 L (psh v []) G) (fun a G => AtX d 329 1 L a G) := At_invF (k := 1) (z := 284) (n := 1) (ts := [(103, 284), (104, 284), (105, 284)]) h0 ht mc329 mk329 mr329 dX14_greet_1 rfl rfl rfl rfl (by decide) (Nat.le_of_ble_eq_true rfl) rfl (Nat.le_of_ble_eq_true rfl) (Nat.le_of_ble_eq_true rfl)
theorem rX14_greet_1_t4 {d : Nat} {G : AH} (h0 : 0 < d) {a : Nat} {L : AL} (ht : hT G a = 4) : At d 329 1 L [vr (some a)] G = bnd (cl (d - 1) 284 [vr (some a)] G) (fun v G => At d 329 6 L (psh v []) G) (fun a G => AtX d 329 1 L a G) := At_invF (k := 1) (z := 284) (n := 1) (ts := [(103, 284), (104, 284), (105, 284)]) h0 ht mc329 mk329 mr329 dX14_greet_1 rfl rfl rfl rfl (by decide) (Nat.le_of_ble_eq_true rfl) rfl (Nat.le_of_ble_eq_true rfl) (Nat.le_of_ble_eq_true rfl)
theorem rX14_greet_1_t5 {d : Nat} {G : AH} (h0 : 0 < d) {a : Nat} {L : AL} (ht : hT G a = 5) : At d 329 1 L [vr (some a)] G = bnd (cl (d - 1) 284 [vr (some a)] G) (fun v G => At d 329 6 L (psh v []) G) (fun a G => AtX d 329 1 L a G) := At_invF (k := 1) (z := 284) (n := 1) (ts := [(103, 284), (104, 284), (105, 284)]) h0 ht mc329 mk329 mr329 dX14_greet_1 rfl rfl rfl rfl (by decide) (Nat.le_of_ble_eq_true rfl) rfl (Nat.le_of_ble_eq_true rfl) (Nat.le_of_ble_eq_true rfl)
theorem rX14_greet_6 {d : Nat} {G : AH} {x : Int32} {L : AL} : At d 329 6 L [vi x] G = some (.inl (some (vi x)), G) := At_iret mc329 mk329 mr329 dX14_greet_6
theorem mw330 : mRow 330 = (cX15_weigh, 1, 1, 15, []) := rfl
theorem mc330 : mcode 330 = cX15_weigh := congrArg (fun q => q.1) mw330
theorem mk330 : mcls 330 = 15 := congrArg (fun q => q.2.2.2.1) mw330
theorem mr330 : mret 330 = 1 := congrArg (fun q => q.2.2.1) mw330
theorem mx330 : mmax 330 = 1 := congrArg (fun q => q.2.1) mw330
theorem mh330 : mhnd 330 = [] := congrArg (fun q => q.2.2.2.2) mw330
theorem en330 {d : Nat} {G : AH} {o0 : Option Nat} : cl d 330 [vr o0] G = At d 330 0 [some (vr o0)] [] G := by
  unfold cl
  rw [mx330]
  rfl
theorem rX15_weigh_0 {d : Nat} {G : AH} {x : Option Nat} {L : AL} {st : List AV} : At d 330 0 (some (vr x) :: L) st G = At d 330 1 (some (vr x) :: L) (vr x :: st) G := At_aload_n mc330 mk330 mr330 dX15_weigh_0 rfl
theorem rX15_weigh_1_t7 {d : Nat} {G : AH} (h0 : 0 < d) {a : Nat} {L : AL} (ht : hT G a = 7) : At d 330 1 L [vr (some a)] G = bnd (cl (d - 1) 305 [vr (some a)] G) (fun v G => At d 330 6 L (psh v []) G) (fun a G => AtX d 330 1 L a G) := At_invF (k := 1) (z := 305) (n := 1) (ts := [(107, 305), (108, 305), (109, 305), (110, 305), (111, 305)]) h0 ht mc330 mk330 mr330 dX15_weigh_1 rfl rfl rfl rfl (by decide) (Nat.le_of_ble_eq_true rfl) rfl (Nat.le_of_ble_eq_true rfl) (Nat.le_of_ble_eq_true rfl)
theorem rX15_weigh_1_t8 {d : Nat} {G : AH} (h0 : 0 < d) {a : Nat} {L : AL} (ht : hT G a = 8) : At d 330 1 L [vr (some a)] G = bnd (cl (d - 1) 305 [vr (some a)] G) (fun v G => At d 330 6 L (psh v []) G) (fun a G => AtX d 330 1 L a G) := At_invF (k := 1) (z := 305) (n := 1) (ts := [(107, 305), (108, 305), (109, 305), (110, 305), (111, 305)]) h0 ht mc330 mk330 mr330 dX15_weigh_1 rfl rfl rfl rfl (by decide) (Nat.le_of_ble_eq_true rfl) rfl (Nat.le_of_ble_eq_true rfl) (Nat.le_of_ble_eq_true rfl)
theorem rX15_weigh_1_t9 {d : Nat} {G : AH} (h0 : 0 < d) {a : Nat} {L : AL} (ht : hT G a = 9) : At d 330 1 L [vr (some a)] G = bnd (cl (d - 1) 305 [vr (some a)] G) (fun v G => At d 330 6 L (psh v []) G) (fun a G => AtX d 330 1 L a G) := At_invF (k := 1) (z := 305) (n := 1) (ts := [(107, 305), (108, 305), (109, 305), (110, 305), (111, 305)]) h0 ht mc330 mk330 mr330 dX15_weigh_1 rfl rfl rfl rfl (by decide) (Nat.le_of_ble_eq_true rfl) rfl (Nat.le_of_ble_eq_true rfl) (Nat.le_of_ble_eq_true rfl)
theorem rX15_weigh_1_t10 {d : Nat} {G : AH} (h0 : 0 < d) {a : Nat} {L : AL} (ht : hT G a = 10) : At d 330 1 L [vr (some a)] G = bnd (cl (d - 1) 305 [vr (some a)] G) (fun v G => At d 330 6 L (psh v []) G) (fun a G => AtX d 330 1 L a G) := At_invF (k := 1) (z := 305) (n := 1) (ts := [(107, 305), (108, 305), (109, 305), (110, 305), (111, 305)]) h0 ht mc330 mk330 mr330 dX15_weigh_1 rfl rfl rfl rfl (by decide) (Nat.le_of_ble_eq_true rfl) rfl (Nat.le_of_ble_eq_true rfl) (Nat.le_of_ble_eq_true rfl)
theorem rX15_weigh_1_t11 {d : Nat} {G : AH} (h0 : 0 < d) {a : Nat} {L : AL} (ht : hT G a = 11) : At d 330 1 L [vr (some a)] G = bnd (cl (d - 1) 305 [vr (some a)] G) (fun v G => At d 330 6 L (psh v []) G) (fun a G => AtX d 330 1 L a G) := At_invF (k := 1) (z := 305) (n := 1) (ts := [(107, 305), (108, 305), (109, 305), (110, 305), (111, 305)]) h0 ht mc330 mk330 mr330 dX15_weigh_1 rfl rfl rfl rfl (by decide) (Nat.le_of_ble_eq_true rfl) rfl (Nat.le_of_ble_eq_true rfl) (Nat.le_of_ble_eq_true rfl)
theorem rX15_weigh_6 {d : Nat} {G : AH} {x : Int32} {L : AL} : At d 330 6 L [vi x] G = some (.inl (some (vi x)), G) := At_iret mc330 mk330 mr330 dX15_weigh_6
theorem mw331 : mRow 331 = (cJ0_init, 1, 0, 18, []) := rfl
theorem mc331 : mcode 331 = cJ0_init := congrArg (fun q => q.1) mw331
theorem mk331 : mcls 331 = 18 := congrArg (fun q => q.2.2.2.1) mw331
theorem mr331 : mret 331 = 0 := congrArg (fun q => q.2.2.1) mw331
theorem mx331 : mmax 331 = 1 := congrArg (fun q => q.2.1) mw331
theorem mh331 : mhnd 331 = [] := congrArg (fun q => q.2.2.2.2) mw331
theorem en331 {d : Nat} {G : AH} {o0 : Option Nat} : cl d 331 [vr o0] G = At d 331 0 [some (vr o0)] [] G := by
  unfold cl
  rw [mx331]
  rfl
theorem rJ0_init_0 {d : Nat} {G : AH} {x : Option Nat} {L : AL} {st : List AV} : At d 331 0 (some (vr x) :: L) st G = At d 331 1 (some (vr x) :: L) (vr x :: st) G := At_aload_n mc331 mk331 mr331 dJ0_init_0 rfl
theorem rJ0_init_1 {d : Nat} {G : AH} {a : Nat} {L : AL} : At d 331 1 L [vr (some a)] G = At d 331 4 L [] G := At_obj (n := 0) mc331 mk331 mr331 dJ0_init_1 rfl (Nat.le_of_ble_eq_true rfl)
theorem rJ0_init_4 {d : Nat} {G : AH} {L : AL} : At d 331 4 L [] G = some (.inl none, G) := At_vret mc331 mk331 mr331 dJ0_init_4
theorem mw332 : mRow 332 = (cJ1_init, 1, 0, 19, []) := rfl
theorem mc332 : mcode 332 = cJ1_init := congrArg (fun q => q.1) mw332
theorem mk332 : mcls 332 = 19 := congrArg (fun q => q.2.2.2.1) mw332
theorem mr332 : mret 332 = 0 := congrArg (fun q => q.2.2.1) mw332
theorem mx332 : mmax 332 = 1 := congrArg (fun q => q.2.1) mw332
theorem mh332 : mhnd 332 = [] := congrArg (fun q => q.2.2.2.2) mw332
theorem en332 {d : Nat} {G : AH} {o0 : Option Nat} : cl d 332 [vr o0] G = At d 332 0 [some (vr o0)] [] G := by
  unfold cl
  rw [mx332]
  rfl
theorem rJ1_init_0 {d : Nat} {G : AH} {x : Option Nat} {L : AL} {st : List AV} : At d 332 0 (some (vr x) :: L) st G = At d 332 1 (some (vr x) :: L) (vr x :: st) G := At_aload_n mc332 mk332 mr332 dJ1_init_0 rfl
theorem rJ1_init_1 {d : Nat} {G : AH} (h0 : 0 < d) {a : Nat} {L : AL} : At d 332 1 L [vr (some a)] G = bnd (cl (d - 1) 331 [vr (some a)] G) (fun v G => At d 332 4 L (psh v []) G) (fun a G => AtX d 332 1 L a G) := At_invS (k := 1) (z := 331) (n := 1) h0 mc332 mk332 mr332 dJ1_init_1 rfl rfl rfl (by decide) (Nat.le_of_ble_eq_true rfl) rfl (Nat.le_of_ble_eq_true rfl) (Nat.le_of_ble_eq_true rfl)
theorem rJ1_init_4 {d : Nat} {G : AH} {x : Option Nat} {L : AL} {st : List AV} : At d 332 4 (some (vr x) :: L) st G = At d 332 5 (some (vr x) :: L) (vr x :: st) G := At_aload_n mc332 mk332 mr332 dJ1_init_4 rfl
theorem rJ1_init_5 {d : Nat} {G : AH} {L : AL} {st : List AV} : At d 332 5 L st G = At d 332 6 L (vi (nI 0) :: st) G := At_c1 mc332 mk332 mr332 dJ1_init_5 (by decide)
theorem rJ1_init_6 {d : Nat} {G : AH} {a : Nat} {x : Int32} {L : AL} {st : List AV} : At d 332 6 L (vi x :: vr (some a) :: st) G = if okF (hT G a) 138 = true then At d 332 9 L st (sI G a 138 x) else none := At_putI mc332 mk332 mr332 dJ1_init_6 rfl rfl rfl
theorem rJ1_init_9 {d : Nat} {G : AH} {L : AL} : At d 332 9 L [] G = some (.inl none, G) := At_vret mc332 mk332 mr332 dJ1_init_9
theorem mw333 : mRow 333 = (cJ2_init, 1, 0, 16, []) := rfl
theorem mc333 : mcode 333 = cJ2_init := congrArg (fun q => q.1) mw333
theorem mk333 : mcls 333 = 16 := congrArg (fun q => q.2.2.2.1) mw333
theorem mr333 : mret 333 = 0 := congrArg (fun q => q.2.2.1) mw333
theorem mx333 : mmax 333 = 1 := congrArg (fun q => q.2.1) mw333
theorem mh333 : mhnd 333 = [] := congrArg (fun q => q.2.2.2.2) mw333
theorem en333 {d : Nat} {G : AH} {o0 : Option Nat} : cl d 333 [vr o0] G = At d 333 0 [some (vr o0)] [] G := by
  unfold cl
  rw [mx333]
  rfl
theorem rJ2_init_0 {d : Nat} {G : AH} {x : Option Nat} {L : AL} {st : List AV} : At d 333 0 (some (vr x) :: L) st G = At d 333 1 (some (vr x) :: L) (vr x :: st) G := At_aload_n mc333 mk333 mr333 dJ2_init_0 rfl
theorem rJ2_init_1 {d : Nat} {G : AH} (h0 : 0 < d) {a : Nat} {L : AL} : At d 333 1 L [vr (some a)] G = bnd (cl (d - 1) 332 [vr (some a)] G) (fun v G => At d 333 4 L (psh v []) G) (fun a G => AtX d 333 1 L a G) := At_invS (k := 1) (z := 332) (n := 1) h0 mc333 mk333 mr333 dJ2_init_1 rfl rfl rfl (by decide) (Nat.le_of_ble_eq_true rfl) rfl (Nat.le_of_ble_eq_true rfl) (Nat.le_of_ble_eq_true rfl)
theorem rJ2_init_4 {d : Nat} {G : AH} {x : Option Nat} {L : AL} {st : List AV} : At d 333 4 (some (vr x) :: L) st G = At d 333 5 (some (vr x) :: L) (vr x :: st) G := At_aload_n mc333 mk333 mr333 dJ2_init_4 rfl
theorem rJ2_init_5 {d : Nat} {G : AH} {L : AL} {st : List AV} : At d 333 5 L st G = At d 333 8 L (vr (some 1) :: st) G := At_go mc333 mk333 mr333 dJ2_init_5 rfl rfl
theorem rJ2_init_8 {d : Nat} {G : AH} {a : Nat} {x : Option Nat} {L : AL} {st : List AV} : At d 333 8 L (vr x :: vr (some a) :: st) G = if okF (hT G a) 139 = true then At d 333 11 L st (sR G a 139 x) else none := At_putR mc333 mk333 mr333 dJ2_init_8 rfl rfl rfl
theorem rJ2_init_11 {d : Nat} {G : AH} {L : AL} : At d 333 11 L [] G = some (.inl none, G) := At_vret mc333 mk333 mr333 dJ2_init_11
theorem mw334 : mRow 334 = (cJ2_clear, 4, 0, 16, []) := rfl
theorem mc334 : mcode 334 = cJ2_clear := congrArg (fun q => q.1) mw334
theorem mk334 : mcls 334 = 16 := congrArg (fun q => q.2.2.2.1) mw334
theorem mr334 : mret 334 = 0 := congrArg (fun q => q.2.2.1) mw334
theorem mx334 : mmax 334 = 4 := congrArg (fun q => q.2.1) mw334
theorem mh334 : mhnd 334 = [] := congrArg (fun q => q.2.2.2.2) mw334
theorem en334 {d : Nat} {G : AH} {o0 : Option Nat} : cl d 334 [vr o0] G = At d 334 0 [some (vr o0), none, none, none] [] G := by
  unfold cl
  rw [mx334]
  rfl
theorem rJ2_clear_0 {d : Nat} {G : AH} {x : Option Nat} {L : AL} {st : List AV} : At d 334 0 (some (vr x) :: L) st G = At d 334 1 (some (vr x) :: L) (vr x :: st) G := At_aload_n mc334 mk334 mr334 dJ2_clear_0 rfl
theorem rJ2_clear_1 {d : Nat} {G : AH} {x : Option Nat} {L : AL} {st : List AV} : At d 334 1 L (vr x :: st) G = At d 334 2 L (vr x :: vr x :: st) G := At_dupR mc334 mk334 mr334 dJ2_clear_1
theorem rJ2_clear_2 {d : Nat} {G : AH} {a : Nat} {L : AL} {st : List AV} : At d 334 2 L (vr (some a) :: st) G = if okF (hT G a) 138 = true then At d 334 5 L (vi (hI G a 138) :: st) G else none := At_getI mc334 mk334 mr334 dJ2_clear_2 rfl (Or.inl rfl)
theorem rJ2_clear_5 {d : Nat} {G : AH} {L : AL} {st : List AV} : At d 334 5 L st G = At d 334 6 L (vi (nI 1) :: st) G := At_c1 mc334 mk334 mr334 dJ2_clear_5 (by decide)
theorem rJ2_clear_6 {d : Nat} {G : AH} {x z : Int32} {L : AL} {st : List AV} : At d 334 6 L (vi z :: vi x :: st) G = At d 334 7 L (vi (x + z) :: st) G := At_iadd mc334 mk334 mr334 dJ2_clear_6
theorem rJ2_clear_7 {d : Nat} {G : AH} {a : Nat} {x : Int32} {L : AL} {st : List AV} : At d 334 7 L (vi x :: vr (some a) :: st) G = if okF (hT G a) 138 = true then At d 334 10 L st (sI G a 138 x) else none := At_putI mc334 mk334 mr334 dJ2_clear_7 rfl rfl rfl
theorem rJ2_clear_10 {d : Nat} {G : AH} {x : Option Nat} {L : AL} {st : List AV} : At d 334 10 (some (vr x) :: L) st G = At d 334 11 (some (vr x) :: L) (vr x :: st) G := At_aload_n mc334 mk334 mr334 dJ2_clear_10 rfl
theorem rJ2_clear_11 {d : Nat} {G : AH} {a : Nat} {L : AL} {st : List AV} : At d 334 11 L (vr (some a) :: st) G = if okF (hT G a) 139 = true then At d 334 14 L (vr (hR G a 139) :: st) G else none := At_getR mc334 mk334 mr334 dJ2_clear_11 rfl rfl
theorem rJ2_clear_14 {d : Nat} {G : AH} {l0 l1 : Option AV} {x : Option Nat} {L : AL} {st : List AV} : At d 334 14 (l0 :: l1 :: L) (vr x :: st) G = At d 334 15 (nl l0 :: some (vr x) :: L) st G := At_astore_n mc334 mk334 mr334 dJ2_clear_14 rfl
theorem rJ2_clear_15 {d : Nat} {G : AH} {x : Option Nat} {L : AL} {st : List AV} : At d 334 15 (some (vr x) :: L) st G = At d 334 16 (some (vr x) :: L) (vr x :: st) G := At_aload_n mc334 mk334 mr334 dJ2_clear_15 rfl
theorem rJ2_clear_16 {d : Nat} {G : AH} {a : Nat} {L : AL} {st : List AV} : At d 334 16 L (vr (some a) :: st) G = if okF (hT G a) 140 = true then At d 334 19 L (vi (hI G a 140) :: st) G else none := At_getI mc334 mk334 mr334 dJ2_clear_16 rfl (Or.inl rfl)
theorem rJ2_clear_19 {d : Nat} {G : AH} {l0 l1 l2 : Option AV} {x : Int32} {L : AL} {st : List AV} : At d 334 19 (l0 :: l1 :: l2 :: L) (vi x :: st) G = At d 334 20 (l0 :: nl l1 :: some (vi x) :: L) st G := At_istore_n mc334 mk334 mr334 dJ2_clear_19 rfl
theorem rJ2_clear_20 {d : Nat} {G : AH} {x : Option Nat} {L : AL} {st : List AV} : At d 334 20 (some (vr x) :: L) st G = At d 334 21 (some (vr x) :: L) (vr x :: st) G := At_aload_n mc334 mk334 mr334 dJ2_clear_20 rfl
theorem rJ2_clear_21 {d : Nat} {G : AH} {L : AL} {st : List AV} : At d 334 21 L st G = At d 334 22 L (vi (nI 0) :: st) G := At_c1 mc334 mk334 mr334 dJ2_clear_21 (by decide)
theorem rJ2_clear_22 {d : Nat} {G : AH} {x : Int32} {z : Option Nat} {L : AL} {st : List AV} : At d 334 22 L (vi x :: vr z :: st) G = At d 334 23 L (vi x :: vr z :: vi x :: st) G := At_dup_x1I mc334 mk334 mr334 dJ2_clear_22
theorem rJ2_clear_23 {d : Nat} {G : AH} {a : Nat} {x : Int32} {L : AL} {st : List AV} : At d 334 23 L (vi x :: vr (some a) :: st) G = if okF (hT G a) 140 = true then At d 334 26 L st (sI G a 140 x) else none := At_putI mc334 mk334 mr334 dJ2_clear_23 rfl rfl rfl
theorem rJ2_clear_26 {d : Nat} {G : AH} {l0 l1 l2 l3 : Option AV} {x : Int32} {L : AL} {st : List AV} : At d 334 26 (l0 :: l1 :: l2 :: l3 :: L) (vi x :: st) G = At d 334 27 (l0 :: l1 :: nl l2 :: some (vi x) :: L) st G := At_istore_n mc334 mk334 mr334 dJ2_clear_26 rfl
theorem rJ2_clear_27 {d : Nat} {G : AH} {l0 l1 l2 : Option AV} {x : Int32} {L : AL} {st : List AV} : At d 334 27 (l0 :: l1 :: l2 :: some (vi x) :: L) st G = At d 334 28 (l0 :: l1 :: l2 :: some (vi x) :: L) (vi x :: st) G := At_iload_n mc334 mk334 mr334 dJ2_clear_27 rfl
theorem rJ2_clear_28 {d : Nat} {G : AH} {l0 l1 : Option AV} {x : Int32} {L : AL} {st : List AV} : At d 334 28 (l0 :: l1 :: some (vi x) :: L) st G = At d 334 29 (l0 :: l1 :: some (vi x) :: L) (vi x :: st) G := At_iload_n mc334 mk334 mr334 dJ2_clear_28 rfl
theorem rJ2_clear_29 {d : Nat} {G : AH} {x z : Int32} {L : AL} {st : List AV} : At d 334 29 L (vi z :: vi x :: st) G = if z ≤ x then At d 334 42 L st G else At d 334 32 L st G := At_icmp mc334 mk334 mr334 dJ2_clear_29 (by decide) cnd_ge
theorem rJ2_clear_32 {d : Nat} {G : AH} {l0 : Option AV} {x : Option Nat} {L : AL} {st : List AV} : At d 334 32 (l0 :: some (vr x) :: L) st G = At d 334 33 (l0 :: some (vr x) :: L) (vr x :: st) G := At_aload_n mc334 mk334 mr334 dJ2_clear_32 rfl
theorem rJ2_clear_33 {d : Nat} {G : AH} {l0 l1 l2 : Option AV} {x : Int32} {L : AL} {st : List AV} : At d 334 33 (l0 :: l1 :: l2 :: some (vi x) :: L) st G = At d 334 34 (l0 :: l1 :: l2 :: some (vi x) :: L) (vi x :: st) G := At_iload_n mc334 mk334 mr334 dJ2_clear_33 rfl
theorem rJ2_clear_34 {d : Nat} {G : AH} {L : AL} {st : List AV} : At d 334 34 L st G = At d 334 35 L (vr none :: st) G := At_anull mc334 mk334 mr334 dJ2_clear_34
theorem rJ2_clear_35 {d : Nat} {G : AH} {a : Nat} {x : Option Nat} {j : Int32} {L : AL} {st : List AV} : At d 334 35 L (vr x :: vi j :: vr (some a) :: st) G = if okA G (hT G a) x = true then (if inb j (hL G a) = true then At d 334 36 L st (sR G a (ix j) x) else none) else none := At_aast mc334 mk334 mr334 dJ2_clear_35
theorem rJ2_clear_36 {d : Nat} {G : AH} {l0 l1 l2 : Option AV} {x : Int32} {L : AL} {st : List AV} : At d 334 36 (l0 :: l1 :: l2 :: some (vi x) :: L) st G = At d 334 39 (l0 :: l1 :: l2 :: some (vi (x + nI 1)) :: L) st G := At_iinc (x := nI 1) mc334 mk334 mr334 dJ2_clear_36 (by decide) rfl
theorem rJ2_clear_39 {d : Nat} {G : AH} {L : AL} {st : List AV} : At d 334 39 L st G = At d 334 27 L st G := At_goto mc334 mk334 mr334 dJ2_clear_39 (by decide)
theorem rJ2_clear_42 {d : Nat} {G : AH} {L : AL} : At d 334 42 L [] G = some (.inl none, G) := At_vret mc334 mk334 mr334 dJ2_clear_42
theorem mw335 : mRow 335 = (cJ2_size, 1, 1, 16, []) := rfl
theorem mc335 : mcode 335 = cJ2_size := congrArg (fun q => q.1) mw335
theorem mk335 : mcls 335 = 16 := congrArg (fun q => q.2.2.2.1) mw335
theorem mr335 : mret 335 = 1 := congrArg (fun q => q.2.2.1) mw335
theorem mx335 : mmax 335 = 1 := congrArg (fun q => q.2.1) mw335
theorem mh335 : mhnd 335 = [] := congrArg (fun q => q.2.2.2.2) mw335
theorem en335 {d : Nat} {G : AH} {o0 : Option Nat} : cl d 335 [vr o0] G = At d 335 0 [some (vr o0)] [] G := by
  unfold cl
  rw [mx335]
  rfl
theorem rJ2_size_0 {d : Nat} {G : AH} {x : Option Nat} {L : AL} {st : List AV} : At d 335 0 (some (vr x) :: L) st G = At d 335 1 (some (vr x) :: L) (vr x :: st) G := At_aload_n mc335 mk335 mr335 dJ2_size_0 rfl
theorem rJ2_size_1 {d : Nat} {G : AH} {a : Nat} {L : AL} {st : List AV} : At d 335 1 L (vr (some a) :: st) G = if okF (hT G a) 140 = true then At d 335 4 L (vi (hI G a 140) :: st) G else none := At_getI mc335 mk335 mr335 dJ2_size_1 rfl (Or.inl rfl)
theorem rJ2_size_4 {d : Nat} {G : AH} {x : Int32} {L : AL} : At d 335 4 L [vi x] G = some (.inl (some (vi x)), G) := At_iret mc335 mk335 mr335 dJ2_size_4
theorem mw336 : mRow 336 = (cJ2_get, 2, 3, 16, []) := rfl
theorem mc336 : mcode 336 = cJ2_get := congrArg (fun q => q.1) mw336
theorem mk336 : mcls 336 = 16 := congrArg (fun q => q.2.2.2.1) mw336
theorem mr336 : mret 336 = 3 := congrArg (fun q => q.2.2.1) mw336
theorem mx336 : mmax 336 = 2 := congrArg (fun q => q.2.1) mw336
theorem mh336 : mhnd 336 = [] := congrArg (fun q => q.2.2.2.2) mw336
theorem en336 {d : Nat} {G : AH} {o0 : Option Nat} {x1 : Int32} : cl d 336 [vr o0, vi x1] G = At d 336 0 [some (vr o0), some (vi x1)] [] G := by
  unfold cl
  rw [mx336]
  rfl
theorem rJ2_get_0 {d : Nat} {G : AH} {l0 : Option AV} {x : Int32} {L : AL} {st : List AV} : At d 336 0 (l0 :: some (vi x) :: L) st G = At d 336 1 (l0 :: some (vi x) :: L) (vi x :: st) G := At_iload_n mc336 mk336 mr336 dJ2_get_0 rfl
theorem rJ2_get_1 {d : Nat} {G : AH} {x : Option Nat} {L : AL} {st : List AV} : At d 336 1 (some (vr x) :: L) st G = At d 336 2 (some (vr x) :: L) (vr x :: st) G := At_aload_n mc336 mk336 mr336 dJ2_get_1 rfl
theorem rJ2_get_2 {d : Nat} {G : AH} {a : Nat} {L : AL} {st : List AV} : At d 336 2 L (vr (some a) :: st) G = if okF (hT G a) 140 = true then At d 336 5 L (vi (hI G a 140) :: st) G else none := At_getI mc336 mk336 mr336 dJ2_get_2 rfl (Or.inl rfl)
theorem rJ2_get_5 {d : Nat} {G : AH} (h0 : 0 < d) {x0 : Int32} {x1 : Int32} {L : AL} : At d 336 5 L [vi x0, vi x1] G = bnd (cl (d - 1) 347 [vi x1, vi x0] G) (fun v G => At d 336 8 L (psh v []) G) (fun a G => AtX d 336 5 L a G) := At_inv (k := 118) (z := 347) (n := 2) h0 mc336 mk336 mr336 dJ2_get_5 rfl rfl rfl (by decide) (Nat.le_of_ble_eq_true rfl) rfl (Nat.le_of_ble_eq_true rfl) (Nat.le_of_ble_eq_true rfl)
theorem rJ2_get_8 {d : Nat} {G : AH} {x : Int32} {L : AL} {st : List AV} : At d 336 8 L (vi x :: st) G = At d 336 9 L st G := At_popI mc336 mk336 mr336 dJ2_get_8
theorem rJ2_get_9 {d : Nat} {G : AH} {x : Option Nat} {L : AL} {st : List AV} : At d 336 9 (some (vr x) :: L) st G = At d 336 10 (some (vr x) :: L) (vr x :: st) G := At_aload_n mc336 mk336 mr336 dJ2_get_9 rfl
theorem rJ2_get_10 {d : Nat} {G : AH} {l0 : Option AV} {x : Int32} {L : AL} {st : List AV} : At d 336 10 (l0 :: some (vi x) :: L) st G = At d 336 11 (l0 :: some (vi x) :: L) (vi x :: st) G := At_iload_n mc336 mk336 mr336 dJ2_get_10 rfl
theorem rJ2_get_11 {d : Nat} {G : AH} (h0 : 0 < d) {x0 : Int32} {a : Nat} {L : AL} : At d 336 11 L [vi x0, vr (some a)] G = if hT G a = 16 then bnd (cl (d - 1) 337 [vr (some a), vi x0] G) (fun v G => At d 336 14 L (psh v []) G) (fun a G => AtX d 336 11 L a G) else none := At_invV1 (k := 123) (t := 16) (z := 337) (n := 2) h0 mc336 mk336 mr336 dJ2_get_11 rfl rfl rfl (by decide) (by decide) (Nat.le_of_ble_eq_true rfl) rfl (Nat.le_of_ble_eq_true rfl) (Nat.le_of_ble_eq_true rfl)
theorem rJ2_get_14 {d : Nat} {G : AH} {x : Option Nat} {L : AL} : At d 336 14 L [vr x] G = some (.inl (some (vr x)), G) := At_aret mc336 mk336 mr336 dJ2_get_14
theorem mw337 : mRow 337 = (cJ2_elementData, 2, 3, 16, []) := rfl
theorem mc337 : mcode 337 = cJ2_elementData := congrArg (fun q => q.1) mw337
theorem mk337 : mcls 337 = 16 := congrArg (fun q => q.2.2.2.1) mw337
theorem mr337 : mret 337 = 3 := congrArg (fun q => q.2.2.1) mw337
theorem mx337 : mmax 337 = 2 := congrArg (fun q => q.2.1) mw337
theorem mh337 : mhnd 337 = [] := congrArg (fun q => q.2.2.2.2) mw337
theorem en337 {d : Nat} {G : AH} {o0 : Option Nat} {x1 : Int32} : cl d 337 [vr o0, vi x1] G = At d 337 0 [some (vr o0), some (vi x1)] [] G := by
  unfold cl
  rw [mx337]
  rfl
theorem rJ2_elementData_0 {d : Nat} {G : AH} {x : Option Nat} {L : AL} {st : List AV} : At d 337 0 (some (vr x) :: L) st G = At d 337 1 (some (vr x) :: L) (vr x :: st) G := At_aload_n mc337 mk337 mr337 dJ2_elementData_0 rfl
theorem rJ2_elementData_1 {d : Nat} {G : AH} {a : Nat} {L : AL} {st : List AV} : At d 337 1 L (vr (some a) :: st) G = if okF (hT G a) 139 = true then At d 337 4 L (vr (hR G a 139) :: st) G else none := At_getR mc337 mk337 mr337 dJ2_elementData_1 rfl rfl
theorem rJ2_elementData_4 {d : Nat} {G : AH} {l0 : Option AV} {x : Int32} {L : AL} {st : List AV} : At d 337 4 (l0 :: some (vi x) :: L) st G = At d 337 5 (l0 :: some (vi x) :: L) (vi x :: st) G := At_iload_n mc337 mk337 mr337 dJ2_elementData_4 rfl
theorem rJ2_elementData_5 {d : Nat} {G : AH} {a : Nat} {j : Int32} {L : AL} {st : List AV} : At d 337 5 L (vi j :: vr (some a) :: st) G = if refA.contains (hT G a) = true then (if inb j (hL G a) = true then At d 337 6 L (vr (hR G a (ix j)) :: st) G else none) else none := At_AR mc337 mk337 mr337 dJ2_elementData_5
theorem rJ2_elementData_6 {d : Nat} {G : AH} {x : Option Nat} {L : AL} : At d 337 6 L [vr x] G = some (.inl (some (vr x)), G) := At_aret mc337 mk337 mr337 dJ2_elementData_6
theorem mw338 : mRow 338 = (cJ2_add, 2, 4, 16, []) := rfl
theorem mc338 : mcode 338 = cJ2_add := congrArg (fun q => q.1) mw338
theorem mk338 : mcls 338 = 16 := congrArg (fun q => q.2.2.2.1) mw338
theorem mr338 : mret 338 = 4 := congrArg (fun q => q.2.2.1) mw338
theorem mx338 : mmax 338 = 2 := congrArg (fun q => q.2.1) mw338
theorem mh338 : mhnd 338 = [] := congrArg (fun q => q.2.2.2.2) mw338
theorem en338 {d : Nat} {G : AH} {o0 : Option Nat} {o1 : Option Nat} : cl d 338 [vr o0, vr o1] G = At d 338 0 [some (vr o0), some (vr o1)] [] G := by
  unfold cl
  rw [mx338]
  rfl
theorem rJ2_add_0 {d : Nat} {G : AH} {x : Option Nat} {L : AL} {st : List AV} : At d 338 0 (some (vr x) :: L) st G = At d 338 1 (some (vr x) :: L) (vr x :: st) G := At_aload_n mc338 mk338 mr338 dJ2_add_0 rfl
theorem rJ2_add_1 {d : Nat} {G : AH} {x : Option Nat} {L : AL} {st : List AV} : At d 338 1 L (vr x :: st) G = At d 338 2 L (vr x :: vr x :: st) G := At_dupR mc338 mk338 mr338 dJ2_add_1
theorem rJ2_add_2 {d : Nat} {G : AH} {a : Nat} {L : AL} {st : List AV} : At d 338 2 L (vr (some a) :: st) G = if okF (hT G a) 138 = true then At d 338 5 L (vi (hI G a 138) :: st) G else none := At_getI mc338 mk338 mr338 dJ2_add_2 rfl (Or.inl rfl)
theorem rJ2_add_5 {d : Nat} {G : AH} {L : AL} {st : List AV} : At d 338 5 L st G = At d 338 6 L (vi (nI 1) :: st) G := At_c1 mc338 mk338 mr338 dJ2_add_5 (by decide)
theorem rJ2_add_6 {d : Nat} {G : AH} {x z : Int32} {L : AL} {st : List AV} : At d 338 6 L (vi z :: vi x :: st) G = At d 338 7 L (vi (x + z) :: st) G := At_iadd mc338 mk338 mr338 dJ2_add_6
theorem rJ2_add_7 {d : Nat} {G : AH} {a : Nat} {x : Int32} {L : AL} {st : List AV} : At d 338 7 L (vi x :: vr (some a) :: st) G = if okF (hT G a) 138 = true then At d 338 10 L st (sI G a 138 x) else none := At_putI mc338 mk338 mr338 dJ2_add_7 rfl rfl rfl
theorem rJ2_add_10 {d : Nat} {G : AH} {x : Option Nat} {L : AL} {st : List AV} : At d 338 10 (some (vr x) :: L) st G = At d 338 11 (some (vr x) :: L) (vr x :: st) G := At_aload_n mc338 mk338 mr338 dJ2_add_10 rfl
theorem rJ2_add_11 {d : Nat} {G : AH} {l0 : Option AV} {x : Option Nat} {L : AL} {st : List AV} : At d 338 11 (l0 :: some (vr x) :: L) st G = At d 338 12 (l0 :: some (vr x) :: L) (vr x :: st) G := At_aload_n mc338 mk338 mr338 dJ2_add_11 rfl
theorem rJ2_add_12 {d : Nat} {G : AH} {x : Option Nat} {L : AL} {st : List AV} : At d 338 12 (some (vr x) :: L) st G = At d 338 13 (some (vr x) :: L) (vr x :: st) G := At_aload_n mc338 mk338 mr338 dJ2_add_12 rfl
theorem rJ2_add_13 {d : Nat} {G : AH} {a : Nat} {L : AL} {st : List AV} : At d 338 13 L (vr (some a) :: st) G = if okF (hT G a) 139 = true then At d 338 16 L (vr (hR G a 139) :: st) G else none := At_getR mc338 mk338 mr338 dJ2_add_13 rfl rfl
theorem rJ2_add_16 {d : Nat} {G : AH} {x : Option Nat} {L : AL} {st : List AV} : At d 338 16 (some (vr x) :: L) st G = At d 338 17 (some (vr x) :: L) (vr x :: st) G := At_aload_n mc338 mk338 mr338 dJ2_add_16 rfl
theorem rJ2_add_17 {d : Nat} {G : AH} {a : Nat} {L : AL} {st : List AV} : At d 338 17 L (vr (some a) :: st) G = if okF (hT G a) 140 = true then At d 338 20 L (vi (hI G a 140) :: st) G else none := At_getI mc338 mk338 mr338 dJ2_add_17 rfl (Or.inl rfl)
theorem rJ2_add_20 {d : Nat} {G : AH} (h0 : 0 < d) {x0 : Int32} {o1 : Option Nat} {o2 : Option Nat} {a : Nat} {L : AL} : At d 338 20 L [vi x0, vr o1, vr o2, vr (some a)] G = if hT G a = 16 then bnd (cl (d - 1) 339 [vr (some a), vr o2, vr o1, vi x0] G) (fun v G => At d 338 23 L (psh v []) G) (fun a G => AtX d 338 20 L a G) else none := At_invV1 (k := 131) (t := 16) (z := 339) (n := 4) h0 mc338 mk338 mr338 dJ2_add_20 rfl rfl rfl (by decide) (by decide) (Nat.le_of_ble_eq_true rfl) rfl (Nat.le_of_ble_eq_true rfl) (Nat.le_of_ble_eq_true rfl)
theorem rJ2_add_23 {d : Nat} {G : AH} {L : AL} {st : List AV} : At d 338 23 L st G = At d 338 24 L (vi (nI 1) :: st) G := At_c1 mc338 mk338 mr338 dJ2_add_23 (by decide)
theorem rJ2_add_24 {d : Nat} {G : AH} {x : Int32} {L : AL} : At d 338 24 L [vi x] G = if b01 x = true then some (.inl (some (vi x)), G) else none := At_zret mc338 mk338 mr338 dJ2_add_24
theorem mw339 : mRow 339 = (cJ2_add_2, 4, 0, 16, []) := rfl
theorem mc339 : mcode 339 = cJ2_add_2 := congrArg (fun q => q.1) mw339
theorem mk339 : mcls 339 = 16 := congrArg (fun q => q.2.2.2.1) mw339
theorem mr339 : mret 339 = 0 := congrArg (fun q => q.2.2.1) mw339
theorem mx339 : mmax 339 = 4 := congrArg (fun q => q.2.1) mw339
theorem mh339 : mhnd 339 = [] := congrArg (fun q => q.2.2.2.2) mw339
theorem en339 {d : Nat} {G : AH} {o0 : Option Nat} {o1 : Option Nat} {o2 : Option Nat} {x3 : Int32} : cl d 339 [vr o0, vr o1, vr o2, vi x3] G = At d 339 0 [some (vr o0), some (vr o1), some (vr o2), some (vi x3)] [] G := by
  unfold cl
  rw [mx339]
  rfl
theorem rJ2_add_2_0 {d : Nat} {G : AH} {l0 l1 l2 : Option AV} {x : Int32} {L : AL} {st : List AV} : At d 339 0 (l0 :: l1 :: l2 :: some (vi x) :: L) st G = At d 339 1 (l0 :: l1 :: l2 :: some (vi x) :: L) (vi x :: st) G := At_iload_n mc339 mk339 mr339 dJ2_add_2_0 rfl
theorem rJ2_add_2_1 {d : Nat} {G : AH} {l0 l1 : Option AV} {x : Option Nat} {L : AL} {st : List AV} : At d 339 1 (l0 :: l1 :: some (vr x) :: L) st G = At d 339 2 (l0 :: l1 :: some (vr x) :: L) (vr x :: st) G := At_aload_n mc339 mk339 mr339 dJ2_add_2_1 rfl
theorem rJ2_add_2_2 {d : Nat} {G : AH} {a : Nat} {L : AL} {st : List AV} : At d 339 2 L (vr (some a) :: st) G = if 40 ≤ hT G a ∧ hT G a < 60 then At d 339 3 L (vi (nI (hL G a)) :: st) G else none := At_alen mc339 mk339 mr339 dJ2_add_2_2
theorem rJ2_add_2_3 {d : Nat} {G : AH} {x z : Int32} {L : AL} {st : List AV} : At d 339 3 L (vi z :: vi x :: st) G = if ¬ x = z then At d 339 11 L st G else At d 339 6 L st G := At_icmp mc339 mk339 mr339 dJ2_add_2_3 (by decide) cnd_ne
theorem rJ2_add_2_6 {d : Nat} {G : AH} {x : Option Nat} {L : AL} {st : List AV} : At d 339 6 (some (vr x) :: L) st G = At d 339 7 (some (vr x) :: L) (vr x :: st) G := At_aload_n mc339 mk339 mr339 dJ2_add_2_6 rfl
theorem rJ2_add_2_7 {d : Nat} {G : AH} (h0 : 0 < d) {a : Nat} {L : AL} : At d 339 7 L [vr (some a)] G = if hT G a = 16 then bnd (cl (d - 1) 340 [vr (some a)] G) (fun v G => At d 339 10 L (psh v []) G) (fun a G => AtX d 339 7 L a G) else none := At_invV1 (k := 129) (t := 16) (z := 340) (n := 1) h0 mc339 mk339 mr339 dJ2_add_2_7 rfl rfl rfl (by decide) (by decide) (Nat.le_of_ble_eq_true rfl) rfl (Nat.le_of_ble_eq_true rfl) (Nat.le_of_ble_eq_true rfl)
theorem rJ2_add_2_10 {d : Nat} {G : AH} {l0 l1 l2 : Option AV} {x : Option Nat} {L : AL} {st : List AV} : At d 339 10 (l0 :: l1 :: l2 :: L) (vr x :: st) G = At d 339 11 (l0 :: nl l1 :: some (vr x) :: L) st G := At_astore_n mc339 mk339 mr339 dJ2_add_2_10 rfl
theorem rJ2_add_2_11 {d : Nat} {G : AH} {l0 l1 : Option AV} {x : Option Nat} {L : AL} {st : List AV} : At d 339 11 (l0 :: l1 :: some (vr x) :: L) st G = At d 339 12 (l0 :: l1 :: some (vr x) :: L) (vr x :: st) G := At_aload_n mc339 mk339 mr339 dJ2_add_2_11 rfl
theorem rJ2_add_2_12 {d : Nat} {G : AH} {l0 l1 l2 : Option AV} {x : Int32} {L : AL} {st : List AV} : At d 339 12 (l0 :: l1 :: l2 :: some (vi x) :: L) st G = At d 339 13 (l0 :: l1 :: l2 :: some (vi x) :: L) (vi x :: st) G := At_iload_n mc339 mk339 mr339 dJ2_add_2_12 rfl
theorem rJ2_add_2_13 {d : Nat} {G : AH} {l0 : Option AV} {x : Option Nat} {L : AL} {st : List AV} : At d 339 13 (l0 :: some (vr x) :: L) st G = At d 339 14 (l0 :: some (vr x) :: L) (vr x :: st) G := At_aload_n mc339 mk339 mr339 dJ2_add_2_13 rfl
theorem rJ2_add_2_14 {d : Nat} {G : AH} {a : Nat} {x : Option Nat} {j : Int32} {L : AL} {st : List AV} : At d 339 14 L (vr x :: vi j :: vr (some a) :: st) G = if okA G (hT G a) x = true then (if inb j (hL G a) = true then At d 339 15 L st (sR G a (ix j) x) else none) else none := At_aast mc339 mk339 mr339 dJ2_add_2_14
theorem rJ2_add_2_15 {d : Nat} {G : AH} {x : Option Nat} {L : AL} {st : List AV} : At d 339 15 (some (vr x) :: L) st G = At d 339 16 (some (vr x) :: L) (vr x :: st) G := At_aload_n mc339 mk339 mr339 dJ2_add_2_15 rfl
theorem rJ2_add_2_16 {d : Nat} {G : AH} {l0 l1 l2 : Option AV} {x : Int32} {L : AL} {st : List AV} : At d 339 16 (l0 :: l1 :: l2 :: some (vi x) :: L) st G = At d 339 17 (l0 :: l1 :: l2 :: some (vi x) :: L) (vi x :: st) G := At_iload_n mc339 mk339 mr339 dJ2_add_2_16 rfl
theorem rJ2_add_2_17 {d : Nat} {G : AH} {L : AL} {st : List AV} : At d 339 17 L st G = At d 339 18 L (vi (nI 1) :: st) G := At_c1 mc339 mk339 mr339 dJ2_add_2_17 (by decide)
theorem rJ2_add_2_18 {d : Nat} {G : AH} {x z : Int32} {L : AL} {st : List AV} : At d 339 18 L (vi z :: vi x :: st) G = At d 339 19 L (vi (x + z) :: st) G := At_iadd mc339 mk339 mr339 dJ2_add_2_18
theorem rJ2_add_2_19 {d : Nat} {G : AH} {a : Nat} {x : Int32} {L : AL} {st : List AV} : At d 339 19 L (vi x :: vr (some a) :: st) G = if okF (hT G a) 140 = true then At d 339 22 L st (sI G a 140 x) else none := At_putI mc339 mk339 mr339 dJ2_add_2_19 rfl rfl rfl
theorem rJ2_add_2_22 {d : Nat} {G : AH} {L : AL} : At d 339 22 L [] G = some (.inl none, G) := At_vret mc339 mk339 mr339 dJ2_add_2_22
theorem mw340 : mRow 340 = (cJ2_grow, 1, 3, 16, []) := rfl
theorem mc340 : mcode 340 = cJ2_grow := congrArg (fun q => q.1) mw340
theorem mk340 : mcls 340 = 16 := congrArg (fun q => q.2.2.2.1) mw340
theorem mr340 : mret 340 = 3 := congrArg (fun q => q.2.2.1) mw340
theorem mx340 : mmax 340 = 1 := congrArg (fun q => q.2.1) mw340
theorem mh340 : mhnd 340 = [] := congrArg (fun q => q.2.2.2.2) mw340
theorem en340 {d : Nat} {G : AH} {o0 : Option Nat} : cl d 340 [vr o0] G = At d 340 0 [some (vr o0)] [] G := by
  unfold cl
  rw [mx340]
  rfl
theorem rJ2_grow_0 {d : Nat} {G : AH} {x : Option Nat} {L : AL} {st : List AV} : At d 340 0 (some (vr x) :: L) st G = At d 340 1 (some (vr x) :: L) (vr x :: st) G := At_aload_n mc340 mk340 mr340 dJ2_grow_0 rfl
theorem rJ2_grow_1 {d : Nat} {G : AH} {x : Option Nat} {L : AL} {st : List AV} : At d 340 1 (some (vr x) :: L) st G = At d 340 2 (some (vr x) :: L) (vr x :: st) G := At_aload_n mc340 mk340 mr340 dJ2_grow_1 rfl
theorem rJ2_grow_2 {d : Nat} {G : AH} {a : Nat} {L : AL} {st : List AV} : At d 340 2 L (vr (some a) :: st) G = if okF (hT G a) 140 = true then At d 340 5 L (vi (hI G a 140) :: st) G else none := At_getI mc340 mk340 mr340 dJ2_grow_2 rfl (Or.inl rfl)
theorem rJ2_grow_5 {d : Nat} {G : AH} {L : AL} {st : List AV} : At d 340 5 L st G = At d 340 6 L (vi (nI 1) :: st) G := At_c1 mc340 mk340 mr340 dJ2_grow_5 (by decide)
theorem rJ2_grow_6 {d : Nat} {G : AH} {x z : Int32} {L : AL} {st : List AV} : At d 340 6 L (vi z :: vi x :: st) G = At d 340 7 L (vi (x + z) :: st) G := At_iadd mc340 mk340 mr340 dJ2_grow_6
theorem rJ2_grow_7 {d : Nat} {G : AH} (h0 : 0 < d) {x0 : Int32} {a : Nat} {L : AL} : At d 340 7 L [vi x0, vr (some a)] G = if hT G a = 16 then bnd (cl (d - 1) 341 [vr (some a), vi x0] G) (fun v G => At d 340 10 L (psh v []) G) (fun a G => AtX d 340 7 L a G) else none := At_invV1 (k := 69) (t := 16) (z := 341) (n := 2) h0 mc340 mk340 mr340 dJ2_grow_7 rfl rfl rfl (by decide) (by decide) (Nat.le_of_ble_eq_true rfl) rfl (Nat.le_of_ble_eq_true rfl) (Nat.le_of_ble_eq_true rfl)
theorem rJ2_grow_10 {d : Nat} {G : AH} {x : Option Nat} {L : AL} : At d 340 10 L [vr x] G = some (.inl (some (vr x)), G) := At_aret mc340 mk340 mr340 dJ2_grow_10
theorem mw341 : mRow 341 = (cJ2_grow_2, 4, 3, 16, []) := rfl
theorem mc341 : mcode 341 = cJ2_grow_2 := congrArg (fun q => q.1) mw341
theorem mk341 : mcls 341 = 16 := congrArg (fun q => q.2.2.2.1) mw341
theorem mr341 : mret 341 = 3 := congrArg (fun q => q.2.2.1) mw341
theorem mx341 : mmax 341 = 4 := congrArg (fun q => q.2.1) mw341
theorem mh341 : mhnd 341 = [] := congrArg (fun q => q.2.2.2.2) mw341
theorem en341 {d : Nat} {G : AH} {o0 : Option Nat} {x1 : Int32} : cl d 341 [vr o0, vi x1] G = At d 341 0 [some (vr o0), some (vi x1), none, none] [] G := by
  unfold cl
  rw [mx341]
  rfl
theorem rJ2_grow_2_0 {d : Nat} {G : AH} {x : Option Nat} {L : AL} {st : List AV} : At d 341 0 (some (vr x) :: L) st G = At d 341 1 (some (vr x) :: L) (vr x :: st) G := At_aload_n mc341 mk341 mr341 dJ2_grow_2_0 rfl
theorem rJ2_grow_2_1 {d : Nat} {G : AH} {a : Nat} {L : AL} {st : List AV} : At d 341 1 L (vr (some a) :: st) G = if okF (hT G a) 139 = true then At d 341 4 L (vr (hR G a 139) :: st) G else none := At_getR mc341 mk341 mr341 dJ2_grow_2_1 rfl rfl
theorem rJ2_grow_2_4 {d : Nat} {G : AH} {a : Nat} {L : AL} {st : List AV} : At d 341 4 L (vr (some a) :: st) G = if 40 ≤ hT G a ∧ hT G a < 60 then At d 341 5 L (vi (nI (hL G a)) :: st) G else none := At_alen mc341 mk341 mr341 dJ2_grow_2_4
theorem rJ2_grow_2_5 {d : Nat} {G : AH} {l0 l1 l2 : Option AV} {x : Int32} {L : AL} {st : List AV} : At d 341 5 (l0 :: l1 :: l2 :: L) (vi x :: st) G = At d 341 6 (l0 :: nl l1 :: some (vi x) :: L) st G := At_istore_n mc341 mk341 mr341 dJ2_grow_2_5 rfl
theorem rJ2_grow_2_6 {d : Nat} {G : AH} {l0 l1 : Option AV} {x : Int32} {L : AL} {st : List AV} : At d 341 6 (l0 :: l1 :: some (vi x) :: L) st G = At d 341 7 (l0 :: l1 :: some (vi x) :: L) (vi x :: st) G := At_iload_n mc341 mk341 mr341 dJ2_grow_2_6 rfl
theorem rJ2_grow_2_7 {d : Nat} {G : AH} {x : Int32} {L : AL} {st : List AV} : At d 341 7 L (vi x :: st) G = if nI 0 < x then At d 341 20 L st G else At d 341 10 L st G := At_if mc341 mk341 mr341 dJ2_grow_2_7 (by decide) cnd_gt
theorem rJ2_grow_2_10 {d : Nat} {G : AH} {x : Option Nat} {L : AL} {st : List AV} : At d 341 10 (some (vr x) :: L) st G = At d 341 11 (some (vr x) :: L) (vr x :: st) G := At_aload_n mc341 mk341 mr341 dJ2_grow_2_10 rfl
theorem rJ2_grow_2_11 {d : Nat} {G : AH} {a : Nat} {L : AL} {st : List AV} : At d 341 11 L (vr (some a) :: st) G = if okF (hT G a) 139 = true then At d 341 14 L (vr (hR G a 139) :: st) G else none := At_getR mc341 mk341 mr341 dJ2_grow_2_11 rfl rfl
theorem rJ2_grow_2_14 {d : Nat} {G : AH} {L : AL} {st : List AV} : At d 341 14 L st G = At d 341 17 L (vr (some 1) :: st) G := At_go mc341 mk341 mr341 dJ2_grow_2_14 rfl rfl
theorem rJ2_grow_2_17 {d : Nat} {G : AH} {x z : Option Nat} {L : AL} {st : List AV} : At d 341 17 L (vr z :: vr x :: st) G = if acOK x z = true then (if x = z then At d 341 45 L st G else At d 341 20 L st G) else none := At_acmp_eq mc341 mk341 mr341 dJ2_grow_2_17 (by decide)
theorem rJ2_grow_2_20 {d : Nat} {G : AH} {l0 l1 : Option AV} {x : Int32} {L : AL} {st : List AV} : At d 341 20 (l0 :: l1 :: some (vi x) :: L) st G = At d 341 21 (l0 :: l1 :: some (vi x) :: L) (vi x :: st) G := At_iload_n mc341 mk341 mr341 dJ2_grow_2_20 rfl
theorem rJ2_grow_2_21 {d : Nat} {G : AH} {l0 : Option AV} {x : Int32} {L : AL} {st : List AV} : At d 341 21 (l0 :: some (vi x) :: L) st G = At d 341 22 (l0 :: some (vi x) :: L) (vi x :: st) G := At_iload_n mc341 mk341 mr341 dJ2_grow_2_21 rfl
theorem rJ2_grow_2_22 {d : Nat} {G : AH} {l0 l1 : Option AV} {x : Int32} {L : AL} {st : List AV} : At d 341 22 (l0 :: l1 :: some (vi x) :: L) st G = At d 341 23 (l0 :: l1 :: some (vi x) :: L) (vi x :: st) G := At_iload_n mc341 mk341 mr341 dJ2_grow_2_22 rfl
theorem rJ2_grow_2_23 {d : Nat} {G : AH} {x z : Int32} {L : AL} {st : List AV} : At d 341 23 L (vi z :: vi x :: st) G = At d 341 24 L (vi (x - z) :: st) G := At_isub mc341 mk341 mr341 dJ2_grow_2_23
theorem rJ2_grow_2_24 {d : Nat} {G : AH} {l0 l1 : Option AV} {x : Int32} {L : AL} {st : List AV} : At d 341 24 (l0 :: l1 :: some (vi x) :: L) st G = At d 341 25 (l0 :: l1 :: some (vi x) :: L) (vi x :: st) G := At_iload_n mc341 mk341 mr341 dJ2_grow_2_24 rfl
theorem rJ2_grow_2_25 {d : Nat} {G : AH} {L : AL} {st : List AV} : At d 341 25 L st G = At d 341 26 L (vi (nI 1) :: st) G := At_c1 mc341 mk341 mr341 dJ2_grow_2_25 (by decide)
theorem rJ2_grow_2_26 {d : Nat} {G : AH} {x z : Int32} {L : AL} {st : List AV} : At d 341 26 L (vi z :: vi x :: st) G = At d 341 27 L (vi (x >>> (z &&& 31)) :: st) G := At_ishr mc341 mk341 mr341 dJ2_grow_2_26
theorem rJ2_grow_2_27 {d : Nat} {G : AH} (h0 : 0 < d) {x0 : Int32} {x1 : Int32} {x2 : Int32} {L : AL} : At d 341 27 L [vi x0, vi x1, vi x2] G = bnd (cl (d - 1) 353 [vi x2, vi x1, vi x0] G) (fun v G => At d 341 30 L (psh v []) G) (fun a G => AtX d 341 27 L a G) := At_inv (k := 73) (z := 353) (n := 3) h0 mc341 mk341 mr341 dJ2_grow_2_27 rfl rfl rfl (by decide) (Nat.le_of_ble_eq_true rfl) rfl (Nat.le_of_ble_eq_true rfl) (Nat.le_of_ble_eq_true rfl)
theorem rJ2_grow_2_30 {d : Nat} {G : AH} {l0 l1 l2 l3 : Option AV} {x : Int32} {L : AL} {st : List AV} : At d 341 30 (l0 :: l1 :: l2 :: l3 :: L) (vi x :: st) G = At d 341 31 (l0 :: l1 :: nl l2 :: some (vi x) :: L) st G := At_istore_n mc341 mk341 mr341 dJ2_grow_2_30 rfl
theorem rJ2_grow_2_31 {d : Nat} {G : AH} {x : Option Nat} {L : AL} {st : List AV} : At d 341 31 (some (vr x) :: L) st G = At d 341 32 (some (vr x) :: L) (vr x :: st) G := At_aload_n mc341 mk341 mr341 dJ2_grow_2_31 rfl
theorem rJ2_grow_2_32 {d : Nat} {G : AH} {x : Option Nat} {L : AL} {st : List AV} : At d 341 32 (some (vr x) :: L) st G = At d 341 33 (some (vr x) :: L) (vr x :: st) G := At_aload_n mc341 mk341 mr341 dJ2_grow_2_32 rfl
theorem rJ2_grow_2_33 {d : Nat} {G : AH} {a : Nat} {L : AL} {st : List AV} : At d 341 33 L (vr (some a) :: st) G = if okF (hT G a) 139 = true then At d 341 36 L (vr (hR G a 139) :: st) G else none := At_getR mc341 mk341 mr341 dJ2_grow_2_33 rfl rfl
theorem rJ2_grow_2_36 {d : Nat} {G : AH} {l0 l1 l2 : Option AV} {x : Int32} {L : AL} {st : List AV} : At d 341 36 (l0 :: l1 :: l2 :: some (vi x) :: L) st G = At d 341 37 (l0 :: l1 :: l2 :: some (vi x) :: L) (vi x :: st) G := At_iload_n mc341 mk341 mr341 dJ2_grow_2_36 rfl
theorem rJ2_grow_2_37 {d : Nat} {G : AH} (h0 : 0 < d) {x0 : Int32} {o1 : Option Nat} {o2 : Option Nat} {L : AL} : At d 341 37 L [vi x0, vr o1, vr o2] G = bnd (cl (d - 1) 345 [vr o1, vi x0] G) (fun v G => At d 341 40 L (psh v [vr o2]) G) (fun a G => AtX d 341 37 L a G) := At_inv (k := 66) (z := 345) (n := 2) h0 mc341 mk341 mr341 dJ2_grow_2_37 rfl rfl rfl (by decide) (Nat.le_of_ble_eq_true rfl) rfl (Nat.le_of_ble_eq_true rfl) (Nat.le_of_ble_eq_true rfl)
theorem rJ2_grow_2_40 {d : Nat} {G : AH} {x z : Option Nat} {L : AL} {st : List AV} : At d 341 40 L (vr x :: vr z :: st) G = At d 341 41 L (vr x :: vr z :: vr x :: st) G := At_dup_x1R mc341 mk341 mr341 dJ2_grow_2_40
theorem rJ2_grow_2_41 {d : Nat} {G : AH} {a : Nat} {x : Option Nat} {L : AL} {st : List AV} : At d 341 41 L (vr x :: vr (some a) :: st) G = if okF (hT G a) 139 = true then At d 341 44 L st (sR G a 139 x) else none := At_putR mc341 mk341 mr341 dJ2_grow_2_41 rfl rfl rfl
theorem rJ2_grow_2_44 {d : Nat} {G : AH} {x : Option Nat} {L : AL} : At d 341 44 L [vr x] G = some (.inl (some (vr x)), G) := At_aret mc341 mk341 mr341 dJ2_grow_2_44
theorem rJ2_grow_2_45 {d : Nat} {G : AH} {x : Option Nat} {L : AL} {st : List AV} : At d 341 45 (some (vr x) :: L) st G = At d 341 46 (some (vr x) :: L) (vr x :: st) G := At_aload_n mc341 mk341 mr341 dJ2_grow_2_45 rfl
theorem rJ2_grow_2_46 {d : Nat} {G : AH} {L : AL} {st : List AV} : At d 341 46 L st G = At d 341 48 L (vi (nI 10) :: st) G := At_c2 mc341 mk341 mr341 dJ2_grow_2_46 (by decide)
theorem rJ2_grow_2_48 {d : Nat} {G : AH} {l0 : Option AV} {x : Int32} {L : AL} {st : List AV} : At d 341 48 (l0 :: some (vi x) :: L) st G = At d 341 49 (l0 :: some (vi x) :: L) (vi x :: st) G := At_iload_n mc341 mk341 mr341 dJ2_grow_2_48 rfl
theorem rJ2_grow_2_49 {d : Nat} {G : AH} (h0 : 0 < d) {x0 : Int32} {x1 : Int32} {o2 : Option Nat} {L : AL} : At d 341 49 L [vi x0, vi x1, vr o2] G = bnd (cl (d - 1) 354 [vi x1, vi x0] G) (fun v G => At d 341 52 L (psh v [vr o2]) G) (fun a G => AtX d 341 49 L a G) := At_inv (k := 79) (z := 354) (n := 2) h0 mc341 mk341 mr341 dJ2_grow_2_49 rfl rfl rfl (by decide) (Nat.le_of_ble_eq_true rfl) rfl (Nat.le_of_ble_eq_true rfl) (Nat.le_of_ble_eq_true rfl)
theorem rJ2_grow_2_52 {d : Nat} {G : AH} {x : Int32} {L : AL} {st : List AV} : At d 341 52 L (vi x :: st) G = if 0 ≤ x ∧ x ≤ 65536 then At d 341 55 L (vr (some (hN G)) :: st) (mkx G 50 (ix x) 1 (ix x)) else none := At_newr mc341 mk341 mr341 dJ2_grow_2_52 rfl rfl rfl
theorem rJ2_grow_2_55 {d : Nat} {G : AH} {x z : Option Nat} {L : AL} {st : List AV} : At d 341 55 L (vr x :: vr z :: st) G = At d 341 56 L (vr x :: vr z :: vr x :: st) G := At_dup_x1R mc341 mk341 mr341 dJ2_grow_2_55
theorem rJ2_grow_2_56 {d : Nat} {G : AH} {a : Nat} {x : Option Nat} {L : AL} {st : List AV} : At d 341 56 L (vr x :: vr (some a) :: st) G = if okF (hT G a) 139 = true then At d 341 59 L st (sR G a 139 x) else none := At_putR mc341 mk341 mr341 dJ2_grow_2_56 rfl rfl rfl
theorem rJ2_grow_2_59 {d : Nat} {G : AH} {x : Option Nat} {L : AL} : At d 341 59 L [vr x] G = some (.inl (some (vr x)), G) := At_aret mc341 mk341 mr341 dJ2_grow_2_59
theorem mw342 : mRow 342 = (cJ2_addAll, 6, 4, 16, []) := rfl
theorem mc342 : mcode 342 = cJ2_addAll := congrArg (fun q => q.1) mw342
theorem mk342 : mcls 342 = 16 := congrArg (fun q => q.2.2.2.1) mw342
theorem mr342 : mret 342 = 4 := congrArg (fun q => q.2.2.1) mw342
theorem mx342 : mmax 342 = 6 := congrArg (fun q => q.2.1) mw342
theorem mh342 : mhnd 342 = [] := congrArg (fun q => q.2.2.2.2) mw342
theorem en342 {d : Nat} {G : AH} {o0 : Option Nat} {o1 : Option Nat} : cl d 342 [vr o0, vr o1] G = At d 342 0 [some (vr o0), some (vr o1), none, none, none, none] [] G := by
  unfold cl
  rw [mx342]
  rfl
theorem rJ2_addAll_0 {d : Nat} {G : AH} {l0 : Option AV} {x : Option Nat} {L : AL} {st : List AV} : At d 342 0 (l0 :: some (vr x) :: L) st G = At d 342 1 (l0 :: some (vr x) :: L) (vr x :: st) G := At_aload_n mc342 mk342 mr342 dJ2_addAll_0 rfl
theorem rJ2_addAll_1 {d : Nat} {G : AH} (h0 : 0 < d) {a : Nat} {L : AL} : At d 342 1 L [vr (some a)] G = if hT G a = 16 then bnd (cl (d - 1) 343 [vr (some a)] G) (fun v G => At d 342 6 L (psh v []) G) (fun a G => AtX d 342 1 L a G) else none := At_invF1 (k := 42) (t := 16) (z := 343) (n := 1) h0 mc342 mk342 mr342 dJ2_addAll_1 rfl rfl rfl (by decide) (by decide) (Nat.le_of_ble_eq_true rfl) rfl (Nat.le_of_ble_eq_true rfl) (Nat.le_of_ble_eq_true rfl)
theorem rJ2_addAll_6 {d : Nat} {G : AH} {l0 l1 l2 : Option AV} {x : Option Nat} {L : AL} {st : List AV} : At d 342 6 (l0 :: l1 :: l2 :: L) (vr x :: st) G = At d 342 7 (l0 :: nl l1 :: some (vr x) :: L) st G := At_astore_n mc342 mk342 mr342 dJ2_addAll_6 rfl
theorem rJ2_addAll_7 {d : Nat} {G : AH} {x : Option Nat} {L : AL} {st : List AV} : At d 342 7 (some (vr x) :: L) st G = At d 342 8 (some (vr x) :: L) (vr x :: st) G := At_aload_n mc342 mk342 mr342 dJ2_addAll_7 rfl
theorem rJ2_addAll_8 {d : Nat} {G : AH} {x : Option Nat} {L : AL} {st : List AV} : At d 342 8 L (vr x :: st) G = At d 342 9 L (vr x :: vr x :: st) G := At_dupR mc342 mk342 mr342 dJ2_addAll_8
theorem rJ2_addAll_9 {d : Nat} {G : AH} {a : Nat} {L : AL} {st : List AV} : At d 342 9 L (vr (some a) :: st) G = if okF (hT G a) 138 = true then At d 342 12 L (vi (hI G a 138) :: st) G else none := At_getI mc342 mk342 mr342 dJ2_addAll_9 rfl (Or.inl rfl)
theorem rJ2_addAll_12 {d : Nat} {G : AH} {L : AL} {st : List AV} : At d 342 12 L st G = At d 342 13 L (vi (nI 1) :: st) G := At_c1 mc342 mk342 mr342 dJ2_addAll_12 (by decide)
theorem rJ2_addAll_13 {d : Nat} {G : AH} {x z : Int32} {L : AL} {st : List AV} : At d 342 13 L (vi z :: vi x :: st) G = At d 342 14 L (vi (x + z) :: st) G := At_iadd mc342 mk342 mr342 dJ2_addAll_13
theorem rJ2_addAll_14 {d : Nat} {G : AH} {a : Nat} {x : Int32} {L : AL} {st : List AV} : At d 342 14 L (vi x :: vr (some a) :: st) G = if okF (hT G a) 138 = true then At d 342 17 L st (sI G a 138 x) else none := At_putI mc342 mk342 mr342 dJ2_addAll_14 rfl rfl rfl
theorem rJ2_addAll_17 {d : Nat} {G : AH} {l0 l1 : Option AV} {x : Option Nat} {L : AL} {st : List AV} : At d 342 17 (l0 :: l1 :: some (vr x) :: L) st G = At d 342 18 (l0 :: l1 :: some (vr x) :: L) (vr x :: st) G := At_aload_n mc342 mk342 mr342 dJ2_addAll_17 rfl
theorem rJ2_addAll_18 {d : Nat} {G : AH} {a : Nat} {L : AL} {st : List AV} : At d 342 18 L (vr (some a) :: st) G = if 40 ≤ hT G a ∧ hT G a < 60 then At d 342 19 L (vi (nI (hL G a)) :: st) G else none := At_alen mc342 mk342 mr342 dJ2_addAll_18
theorem rJ2_addAll_19 {d : Nat} {G : AH} {l0 l1 l2 l3 : Option AV} {x : Int32} {L : AL} {st : List AV} : At d 342 19 (l0 :: l1 :: l2 :: l3 :: L) (vi x :: st) G = At d 342 20 (l0 :: l1 :: nl l2 :: some (vi x) :: L) st G := At_istore_n mc342 mk342 mr342 dJ2_addAll_19 rfl
theorem rJ2_addAll_20 {d : Nat} {G : AH} {l0 l1 l2 : Option AV} {x : Int32} {L : AL} {st : List AV} : At d 342 20 (l0 :: l1 :: l2 :: some (vi x) :: L) st G = At d 342 21 (l0 :: l1 :: l2 :: some (vi x) :: L) (vi x :: st) G := At_iload_n mc342 mk342 mr342 dJ2_addAll_20 rfl
theorem rJ2_addAll_21 {d : Nat} {G : AH} {x : Int32} {L : AL} {st : List AV} : At d 342 21 L (vi x :: st) G = if ¬ x = nI 0 then At d 342 26 L st G else At d 342 24 L st G := At_if mc342 mk342 mr342 dJ2_addAll_21 (by decide) cnd_ne
theorem rJ2_addAll_24 {d : Nat} {G : AH} {L : AL} {st : List AV} : At d 342 24 L st G = At d 342 25 L (vi (nI 0) :: st) G := At_c1 mc342 mk342 mr342 dJ2_addAll_24 (by decide)
theorem rJ2_addAll_25 {d : Nat} {G : AH} {x : Int32} {L : AL} : At d 342 25 L [vi x] G = if b01 x = true then some (.inl (some (vi x)), G) else none := At_zret mc342 mk342 mr342 dJ2_addAll_25
theorem rJ2_addAll_26 {d : Nat} {G : AH} {l0 l1 l2 : Option AV} {x : Int32} {L : AL} {st : List AV} : At d 342 26 (l0 :: l1 :: l2 :: some (vi x) :: L) st G = At d 342 27 (l0 :: l1 :: l2 :: some (vi x) :: L) (vi x :: st) G := At_iload_n mc342 mk342 mr342 dJ2_addAll_26 rfl
theorem rJ2_addAll_27 {d : Nat} {G : AH} {x : Option Nat} {L : AL} {st : List AV} : At d 342 27 (some (vr x) :: L) st G = At d 342 28 (some (vr x) :: L) (vr x :: st) G := At_aload_n mc342 mk342 mr342 dJ2_addAll_27 rfl
theorem rJ2_addAll_28 {d : Nat} {G : AH} {a : Nat} {L : AL} {st : List AV} : At d 342 28 L (vr (some a) :: st) G = if okF (hT G a) 139 = true then At d 342 31 L (vr (hR G a 139) :: st) G else none := At_getR mc342 mk342 mr342 dJ2_addAll_28 rfl rfl
theorem rJ2_addAll_31 {d : Nat} {G : AH} {x : Option Nat} {L : AL} {st : List AV} : At d 342 31 L (vr x :: st) G = At d 342 32 L (vr x :: vr x :: st) G := At_dupR mc342 mk342 mr342 dJ2_addAll_31
theorem rJ2_addAll_32 {d : Nat} {G : AH} {l0 l1 l2 l3 l4 : Option AV} {x : Option Nat} {L : AL} {st : List AV} : At d 342 32 (l0 :: l1 :: l2 :: l3 :: l4 :: L) (vr x :: st) G = At d 342 34 (l0 :: l1 :: l2 :: nl l3 :: some (vr x) :: L) st G := At_astore mc342 mk342 mr342 dJ2_addAll_32 rfl
theorem rJ2_addAll_34 {d : Nat} {G : AH} {a : Nat} {L : AL} {st : List AV} : At d 342 34 L (vr (some a) :: st) G = if 40 ≤ hT G a ∧ hT G a < 60 then At d 342 35 L (vi (nI (hL G a)) :: st) G else none := At_alen mc342 mk342 mr342 dJ2_addAll_34
theorem rJ2_addAll_35 {d : Nat} {G : AH} {x : Option Nat} {L : AL} {st : List AV} : At d 342 35 (some (vr x) :: L) st G = At d 342 36 (some (vr x) :: L) (vr x :: st) G := At_aload_n mc342 mk342 mr342 dJ2_addAll_35 rfl
theorem rJ2_addAll_36 {d : Nat} {G : AH} {a : Nat} {L : AL} {st : List AV} : At d 342 36 L (vr (some a) :: st) G = if okF (hT G a) 140 = true then At d 342 39 L (vi (hI G a 140) :: st) G else none := At_getI mc342 mk342 mr342 dJ2_addAll_36 rfl (Or.inl rfl)
theorem rJ2_addAll_39 {d : Nat} {G : AH} {x : Int32} {L : AL} {st : List AV} : At d 342 39 L (vi x :: st) G = At d 342 40 L (vi x :: vi x :: st) G := At_dupI mc342 mk342 mr342 dJ2_addAll_39
theorem rJ2_addAll_40 {d : Nat} {G : AH} {l0 l1 l2 l3 l4 l5 : Option AV} {x : Int32} {L : AL} {st : List AV} : At d 342 40 (l0 :: l1 :: l2 :: l3 :: l4 :: l5 :: L) (vi x :: st) G = At d 342 42 (l0 :: l1 :: l2 :: l3 :: nl l4 :: some (vi x) :: L) st G := At_istore mc342 mk342 mr342 dJ2_addAll_40 rfl
theorem rJ2_addAll_42 {d : Nat} {G : AH} {x z : Int32} {L : AL} {st : List AV} : At d 342 42 L (vi z :: vi x :: st) G = At d 342 43 L (vi (x - z) :: st) G := At_isub mc342 mk342 mr342 dJ2_addAll_42
theorem rJ2_addAll_43 {d : Nat} {G : AH} {x z : Int32} {L : AL} {st : List AV} : At d 342 43 L (vi z :: vi x :: st) G = if x ≤ z then At d 342 56 L st G else At d 342 46 L st G := At_icmp mc342 mk342 mr342 dJ2_addAll_43 (by decide) cnd_le
theorem rJ2_addAll_46 {d : Nat} {G : AH} {x : Option Nat} {L : AL} {st : List AV} : At d 342 46 (some (vr x) :: L) st G = At d 342 47 (some (vr x) :: L) (vr x :: st) G := At_aload_n mc342 mk342 mr342 dJ2_addAll_46 rfl
theorem rJ2_addAll_47 {d : Nat} {G : AH} {l0 l1 l2 l3 l4 : Option AV} {x : Int32} {L : AL} {st : List AV} : At d 342 47 (l0 :: l1 :: l2 :: l3 :: l4 :: some (vi x) :: L) st G = At d 342 49 (l0 :: l1 :: l2 :: l3 :: l4 :: some (vi x) :: L) (vi x :: st) G := At_iload mc342 mk342 mr342 dJ2_addAll_47 rfl
theorem rJ2_addAll_49 {d : Nat} {G : AH} {l0 l1 l2 : Option AV} {x : Int32} {L : AL} {st : List AV} : At d 342 49 (l0 :: l1 :: l2 :: some (vi x) :: L) st G = At d 342 50 (l0 :: l1 :: l2 :: some (vi x) :: L) (vi x :: st) G := At_iload_n mc342 mk342 mr342 dJ2_addAll_49 rfl
theorem rJ2_addAll_50 {d : Nat} {G : AH} {x z : Int32} {L : AL} {st : List AV} : At d 342 50 L (vi z :: vi x :: st) G = At d 342 51 L (vi (x + z) :: st) G := At_iadd mc342 mk342 mr342 dJ2_addAll_50
theorem rJ2_addAll_51 {d : Nat} {G : AH} (h0 : 0 < d) {x0 : Int32} {a : Nat} {L : AL} : At d 342 51 L [vi x0, vr (some a)] G = if hT G a = 16 then bnd (cl (d - 1) 341 [vr (some a), vi x0] G) (fun v G => At d 342 54 L (psh v []) G) (fun a G => AtX d 342 51 L a G) else none := At_invV1 (k := 69) (t := 16) (z := 341) (n := 2) h0 mc342 mk342 mr342 dJ2_addAll_51 rfl rfl rfl (by decide) (by decide) (Nat.le_of_ble_eq_true rfl) rfl (Nat.le_of_ble_eq_true rfl) (Nat.le_of_ble_eq_true rfl)
theorem rJ2_addAll_54 {d : Nat} {G : AH} {l0 l1 l2 l3 l4 : Option AV} {x : Option Nat} {L : AL} {st : List AV} : At d 342 54 (l0 :: l1 :: l2 :: l3 :: l4 :: L) (vr x :: st) G = At d 342 56 (l0 :: l1 :: l2 :: nl l3 :: some (vr x) :: L) st G := At_astore mc342 mk342 mr342 dJ2_addAll_54 rfl
theorem rJ2_addAll_56 {d : Nat} {G : AH} {l0 l1 : Option AV} {x : Option Nat} {L : AL} {st : List AV} : At d 342 56 (l0 :: l1 :: some (vr x) :: L) st G = At d 342 57 (l0 :: l1 :: some (vr x) :: L) (vr x :: st) G := At_aload_n mc342 mk342 mr342 dJ2_addAll_56 rfl
theorem rJ2_addAll_57 {d : Nat} {G : AH} {L : AL} {st : List AV} : At d 342 57 L st G = At d 342 58 L (vi (nI 0) :: st) G := At_c1 mc342 mk342 mr342 dJ2_addAll_57 (by decide)
theorem rJ2_addAll_58 {d : Nat} {G : AH} {l0 l1 l2 l3 : Option AV} {x : Option Nat} {L : AL} {st : List AV} : At d 342 58 (l0 :: l1 :: l2 :: l3 :: some (vr x) :: L) st G = At d 342 60 (l0 :: l1 :: l2 :: l3 :: some (vr x) :: L) (vr x :: st) G := At_aload mc342 mk342 mr342 dJ2_addAll_58 rfl
theorem rJ2_addAll_60 {d : Nat} {G : AH} {l0 l1 l2 l3 l4 : Option AV} {x : Int32} {L : AL} {st : List AV} : At d 342 60 (l0 :: l1 :: l2 :: l3 :: l4 :: some (vi x) :: L) st G = At d 342 62 (l0 :: l1 :: l2 :: l3 :: l4 :: some (vi x) :: L) (vi x :: st) G := At_iload mc342 mk342 mr342 dJ2_addAll_60 rfl
theorem rJ2_addAll_62 {d : Nat} {G : AH} {l0 l1 l2 : Option AV} {x : Int32} {L : AL} {st : List AV} : At d 342 62 (l0 :: l1 :: l2 :: some (vi x) :: L) st G = At d 342 63 (l0 :: l1 :: l2 :: some (vi x) :: L) (vi x :: st) G := At_iload_n mc342 mk342 mr342 dJ2_addAll_62 rfl
theorem rJ2_addAll_66 {d : Nat} {G : AH} {x : Option Nat} {L : AL} {st : List AV} : At d 342 66 (some (vr x) :: L) st G = At d 342 67 (some (vr x) :: L) (vr x :: st) G := At_aload_n mc342 mk342 mr342 dJ2_addAll_66 rfl
theorem rJ2_addAll_67 {d : Nat} {G : AH} {l0 l1 l2 l3 l4 : Option AV} {x : Int32} {L : AL} {st : List AV} : At d 342 67 (l0 :: l1 :: l2 :: l3 :: l4 :: some (vi x) :: L) st G = At d 342 69 (l0 :: l1 :: l2 :: l3 :: l4 :: some (vi x) :: L) (vi x :: st) G := At_iload mc342 mk342 mr342 dJ2_addAll_67 rfl
theorem rJ2_addAll_69 {d : Nat} {G : AH} {l0 l1 l2 : Option AV} {x : Int32} {L : AL} {st : List AV} : At d 342 69 (l0 :: l1 :: l2 :: some (vi x) :: L) st G = At d 342 70 (l0 :: l1 :: l2 :: some (vi x) :: L) (vi x :: st) G := At_iload_n mc342 mk342 mr342 dJ2_addAll_69 rfl
theorem rJ2_addAll_70 {d : Nat} {G : AH} {x z : Int32} {L : AL} {st : List AV} : At d 342 70 L (vi z :: vi x :: st) G = At d 342 71 L (vi (x + z) :: st) G := At_iadd mc342 mk342 mr342 dJ2_addAll_70
theorem rJ2_addAll_71 {d : Nat} {G : AH} {a : Nat} {x : Int32} {L : AL} {st : List AV} : At d 342 71 L (vi x :: vr (some a) :: st) G = if okF (hT G a) 140 = true then At d 342 74 L st (sI G a 140 x) else none := At_putI mc342 mk342 mr342 dJ2_addAll_71 rfl rfl rfl
theorem rJ2_addAll_74 {d : Nat} {G : AH} {L : AL} {st : List AV} : At d 342 74 L st G = At d 342 75 L (vi (nI 1) :: st) G := At_c1 mc342 mk342 mr342 dJ2_addAll_74 (by decide)
theorem rJ2_addAll_75 {d : Nat} {G : AH} {x : Int32} {L : AL} : At d 342 75 L [vi x] G = if b01 x = true then some (.inl (some (vi x)), G) else none := At_zret mc342 mk342 mr342 dJ2_addAll_75
theorem mw343 : mRow 343 = (cJ2_toArray, 1, 3, 16, []) := rfl
theorem mc343 : mcode 343 = cJ2_toArray := congrArg (fun q => q.1) mw343
theorem mk343 : mcls 343 = 16 := congrArg (fun q => q.2.2.2.1) mw343
theorem mr343 : mret 343 = 3 := congrArg (fun q => q.2.2.1) mw343
theorem mx343 : mmax 343 = 1 := congrArg (fun q => q.2.1) mw343
theorem mh343 : mhnd 343 = [] := congrArg (fun q => q.2.2.2.2) mw343
theorem en343 {d : Nat} {G : AH} {o0 : Option Nat} : cl d 343 [vr o0] G = At d 343 0 [some (vr o0)] [] G := by
  unfold cl
  rw [mx343]
  rfl
theorem rJ2_toArray_0 {d : Nat} {G : AH} {x : Option Nat} {L : AL} {st : List AV} : At d 343 0 (some (vr x) :: L) st G = At d 343 1 (some (vr x) :: L) (vr x :: st) G := At_aload_n mc343 mk343 mr343 dJ2_toArray_0 rfl
theorem rJ2_toArray_1 {d : Nat} {G : AH} {a : Nat} {L : AL} {st : List AV} : At d 343 1 L (vr (some a) :: st) G = if okF (hT G a) 139 = true then At d 343 4 L (vr (hR G a 139) :: st) G else none := At_getR mc343 mk343 mr343 dJ2_toArray_1 rfl rfl
theorem rJ2_toArray_4 {d : Nat} {G : AH} {x : Option Nat} {L : AL} {st : List AV} : At d 343 4 (some (vr x) :: L) st G = At d 343 5 (some (vr x) :: L) (vr x :: st) G := At_aload_n mc343 mk343 mr343 dJ2_toArray_4 rfl
theorem rJ2_toArray_5 {d : Nat} {G : AH} {a : Nat} {L : AL} {st : List AV} : At d 343 5 L (vr (some a) :: st) G = if okF (hT G a) 140 = true then At d 343 8 L (vi (hI G a 140) :: st) G else none := At_getI mc343 mk343 mr343 dJ2_toArray_5 rfl (Or.inl rfl)
theorem rJ2_toArray_8 {d : Nat} {G : AH} (h0 : 0 < d) {x0 : Int32} {o1 : Option Nat} {L : AL} : At d 343 8 L [vi x0, vr o1] G = bnd (cl (d - 1) 345 [vr o1, vi x0] G) (fun v G => At d 343 11 L (psh v []) G) (fun a G => AtX d 343 8 L a G) := At_inv (k := 66) (z := 345) (n := 2) h0 mc343 mk343 mr343 dJ2_toArray_8 rfl rfl rfl (by decide) (Nat.le_of_ble_eq_true rfl) rfl (Nat.le_of_ble_eq_true rfl) (Nat.le_of_ble_eq_true rfl)
theorem rJ2_toArray_11 {d : Nat} {G : AH} {x : Option Nat} {L : AL} : At d 343 11 L [vr x] G = some (.inl (some (vr x)), G) := At_aret mc343 mk343 mr343 dJ2_toArray_11
theorem mw344 : mRow 344 = (cJ3_fill, 4, 0, 30, []) := rfl
theorem mc344 : mcode 344 = cJ3_fill := congrArg (fun q => q.1) mw344
theorem mk344 : mcls 344 = 30 := congrArg (fun q => q.2.2.2.1) mw344
theorem mr344 : mret 344 = 0 := congrArg (fun q => q.2.2.1) mw344
theorem mx344 : mmax 344 = 4 := congrArg (fun q => q.2.1) mw344
theorem mh344 : mhnd 344 = [] := congrArg (fun q => q.2.2.2.2) mw344
theorem en344 {d : Nat} {G : AH} {o0 : Option Nat} {x1 : Int32} : cl d 344 [vr o0, vi x1] G = At d 344 0 [some (vr o0), some (vi x1), none, none] [] G := by
  unfold cl
  rw [mx344]
  rfl
theorem rJ3_fill_0 {d : Nat} {G : AH} {L : AL} {st : List AV} : At d 344 0 L st G = At d 344 1 L (vi (nI 0) :: st) G := At_c1 mc344 mk344 mr344 dJ3_fill_0 (by decide)
theorem rJ3_fill_1 {d : Nat} {G : AH} {l0 l1 l2 : Option AV} {x : Int32} {L : AL} {st : List AV} : At d 344 1 (l0 :: l1 :: l2 :: L) (vi x :: st) G = At d 344 2 (l0 :: nl l1 :: some (vi x) :: L) st G := At_istore_n mc344 mk344 mr344 dJ3_fill_1 rfl
theorem rJ3_fill_2 {d : Nat} {G : AH} {x : Option Nat} {L : AL} {st : List AV} : At d 344 2 (some (vr x) :: L) st G = At d 344 3 (some (vr x) :: L) (vr x :: st) G := At_aload_n mc344 mk344 mr344 dJ3_fill_2 rfl
theorem rJ3_fill_3 {d : Nat} {G : AH} {a : Nat} {L : AL} {st : List AV} : At d 344 3 L (vr (some a) :: st) G = if 40 ≤ hT G a ∧ hT G a < 60 then At d 344 4 L (vi (nI (hL G a)) :: st) G else none := At_alen mc344 mk344 mr344 dJ3_fill_3
theorem rJ3_fill_4 {d : Nat} {G : AH} {l0 l1 l2 l3 : Option AV} {x : Int32} {L : AL} {st : List AV} : At d 344 4 (l0 :: l1 :: l2 :: l3 :: L) (vi x :: st) G = At d 344 5 (l0 :: l1 :: nl l2 :: some (vi x) :: L) st G := At_istore_n mc344 mk344 mr344 dJ3_fill_4 rfl
theorem rJ3_fill_5 {d : Nat} {G : AH} {l0 l1 : Option AV} {x : Int32} {L : AL} {st : List AV} : At d 344 5 (l0 :: l1 :: some (vi x) :: L) st G = At d 344 6 (l0 :: l1 :: some (vi x) :: L) (vi x :: st) G := At_iload_n mc344 mk344 mr344 dJ3_fill_5 rfl
theorem rJ3_fill_6 {d : Nat} {G : AH} {l0 l1 l2 : Option AV} {x : Int32} {L : AL} {st : List AV} : At d 344 6 (l0 :: l1 :: l2 :: some (vi x) :: L) st G = At d 344 7 (l0 :: l1 :: l2 :: some (vi x) :: L) (vi x :: st) G := At_iload_n mc344 mk344 mr344 dJ3_fill_6 rfl
theorem rJ3_fill_7 {d : Nat} {G : AH} {x z : Int32} {L : AL} {st : List AV} : At d 344 7 L (vi z :: vi x :: st) G = if z ≤ x then At d 344 20 L st G else At d 344 10 L st G := At_icmp mc344 mk344 mr344 dJ3_fill_7 (by decide) cnd_ge
theorem rJ3_fill_10 {d : Nat} {G : AH} {x : Option Nat} {L : AL} {st : List AV} : At d 344 10 (some (vr x) :: L) st G = At d 344 11 (some (vr x) :: L) (vr x :: st) G := At_aload_n mc344 mk344 mr344 dJ3_fill_10 rfl
theorem rJ3_fill_11 {d : Nat} {G : AH} {l0 l1 : Option AV} {x : Int32} {L : AL} {st : List AV} : At d 344 11 (l0 :: l1 :: some (vi x) :: L) st G = At d 344 12 (l0 :: l1 :: some (vi x) :: L) (vi x :: st) G := At_iload_n mc344 mk344 mr344 dJ3_fill_11 rfl
theorem rJ3_fill_12 {d : Nat} {G : AH} {l0 : Option AV} {x : Int32} {L : AL} {st : List AV} : At d 344 12 (l0 :: some (vi x) :: L) st G = At d 344 13 (l0 :: some (vi x) :: L) (vi x :: st) G := At_iload_n mc344 mk344 mr344 dJ3_fill_12 rfl
theorem rJ3_fill_13 {d : Nat} {G : AH} {a : Nat} {x j : Int32} {L : AL} {st : List AV} : At d 344 13 L (vi x :: vi j :: vr (some a) :: st) G = if hT G a = 40 then (if inb j (hL G a) = true then At d 344 14 L st (sI G a (ix j) x) else AtS d 344 13 L 22 (vi x :: vi j :: vr (some a) :: st) G) else none := At_iast mc344 mk344 mr344 dJ3_fill_13
theorem rJ3_fill_14 {d : Nat} {G : AH} {l0 l1 : Option AV} {x : Int32} {L : AL} {st : List AV} : At d 344 14 (l0 :: l1 :: some (vi x) :: L) st G = At d 344 17 (l0 :: l1 :: some (vi (x + nI 1)) :: L) st G := At_iinc (x := nI 1) mc344 mk344 mr344 dJ3_fill_14 (by decide) rfl
theorem rJ3_fill_17 {d : Nat} {G : AH} {L : AL} {st : List AV} : At d 344 17 L st G = At d 344 5 L st G := At_goto mc344 mk344 mr344 dJ3_fill_17 (by decide)
theorem rJ3_fill_20 {d : Nat} {G : AH} {L : AL} : At d 344 20 L [] G = some (.inl none, G) := At_vret mc344 mk344 mr344 dJ3_fill_20
theorem mw345 : mRow 345 = (cJ3_copyOf, 2, 3, 30, []) := rfl
theorem mc345 : mcode 345 = cJ3_copyOf := congrArg (fun q => q.1) mw345
theorem mk345 : mcls 345 = 30 := congrArg (fun q => q.2.2.2.1) mw345
theorem mr345 : mret 345 = 3 := congrArg (fun q => q.2.2.1) mw345
theorem mx345 : mmax 345 = 2 := congrArg (fun q => q.2.1) mw345
theorem mh345 : mhnd 345 = [] := congrArg (fun q => q.2.2.2.2) mw345
theorem en345 {d : Nat} {G : AH} {o0 : Option Nat} {x1 : Int32} : cl d 345 [vr o0, vi x1] G = At d 345 0 [some (vr o0), some (vi x1)] [] G := by
  unfold cl
  rw [mx345]
  rfl
theorem rJ3_copyOf_0 {d : Nat} {G : AH} {x : Option Nat} {L : AL} {st : List AV} : At d 345 0 (some (vr x) :: L) st G = At d 345 1 (some (vr x) :: L) (vr x :: st) G := At_aload_n mc345 mk345 mr345 dJ3_copyOf_0 rfl
theorem rJ3_copyOf_1 {d : Nat} {G : AH} {l0 : Option AV} {x : Int32} {L : AL} {st : List AV} : At d 345 1 (l0 :: some (vi x) :: L) st G = At d 345 2 (l0 :: some (vi x) :: L) (vi x :: st) G := At_iload_n mc345 mk345 mr345 dJ3_copyOf_1 rfl
theorem rJ3_copyOf_2 {d : Nat} {G : AH} {x : Option Nat} {L : AL} {st : List AV} : At d 345 2 (some (vr x) :: L) st G = At d 345 3 (some (vr x) :: L) (vr x :: st) G := At_aload_n mc345 mk345 mr345 dJ3_copyOf_2 rfl
theorem rJ3_copyOf_6 {d : Nat} {G : AH} (h0 : 0 < d) {o0 : Option Nat} {x1 : Int32} {o2 : Option Nat} {L : AL} : At d 345 6 L [vr o0, vi x1, vr o2] G = bnd (cl (d - 1) 346 [vr o2, vi x1, vr o0] G) (fun v G => At d 345 9 L (psh v []) G) (fun a G => AtX d 345 6 L a G) := At_inv (k := 300) (z := 346) (n := 3) h0 mc345 mk345 mr345 dJ3_copyOf_6 rfl rfl rfl (by decide) (Nat.le_of_ble_eq_true rfl) rfl (Nat.le_of_ble_eq_true rfl) (Nat.le_of_ble_eq_true rfl)
theorem rJ3_copyOf_9 {d : Nat} {G : AH} {x : Option Nat} {L : AL} : At d 345 9 L [vr x] G = some (.inl (some (vr x)), G) := At_aret mc345 mk345 mr345 dJ3_copyOf_9
theorem mw346 : mRow 346 = (cJ3_copyOf_2, 4, 3, 30, []) := rfl
theorem mc346 : mcode 346 = cJ3_copyOf_2 := congrArg (fun q => q.1) mw346
theorem mk346 : mcls 346 = 30 := congrArg (fun q => q.2.2.2.1) mw346
theorem mr346 : mret 346 = 3 := congrArg (fun q => q.2.2.1) mw346
theorem mx346 : mmax 346 = 4 := congrArg (fun q => q.2.1) mw346
theorem mh346 : mhnd 346 = [] := congrArg (fun q => q.2.2.2.2) mw346
theorem en346 {d : Nat} {G : AH} {o0 : Option Nat} {x1 : Int32} {o2 : Option Nat} : cl d 346 [vr o0, vi x1, vr o2] G = At d 346 0 [some (vr o0), some (vi x1), some (vr o2), none] [] G := by
  unfold cl
  rw [mx346]
  rfl
theorem rJ3_copyOf_2_0 {d : Nat} {G : AH} {l0 l1 : Option AV} {x : Option Nat} {L : AL} {st : List AV} : At d 346 0 (l0 :: l1 :: some (vr x) :: L) st G = At d 346 1 (l0 :: l1 :: some (vr x) :: L) (vr x :: st) G := At_aload_n mc346 mk346 mr346 dJ3_copyOf_2_0 rfl
theorem rJ3_copyOf_2_1 {d : Nat} {G : AH} {L : AL} {st : List AV} : At d 346 1 L st G = At d 346 3 L (vr (some 2) :: st) G := At_go mc346 mk346 mr346 dJ3_copyOf_2_1 rfl rfl
theorem rJ3_copyOf_2_3 {d : Nat} {G : AH} {x z : Option Nat} {L : AL} {st : List AV} : At d 346 3 L (vr z :: vr x :: st) G = if acOK x z = true then (if ¬ x = z then At d 346 13 L st G else At d 346 6 L st G) else none := At_acmp_ne mc346 mk346 mr346 dJ3_copyOf_2_3 (by decide)
theorem rJ3_copyOf_2_6 {d : Nat} {G : AH} {l0 : Option AV} {x : Int32} {L : AL} {st : List AV} : At d 346 6 (l0 :: some (vi x) :: L) st G = At d 346 7 (l0 :: some (vi x) :: L) (vi x :: st) G := At_iload_n mc346 mk346 mr346 dJ3_copyOf_2_6 rfl
theorem rJ3_copyOf_2_7 {d : Nat} {G : AH} {x : Int32} {L : AL} {st : List AV} : At d 346 7 L (vi x :: st) G = if 0 ≤ x ∧ x ≤ 65536 then At d 346 10 L (vr (some (hN G)) :: st) (mkx G 50 (ix x) 1 (ix x)) else none := At_newr mc346 mk346 mr346 dJ3_copyOf_2_7 rfl rfl rfl
theorem rJ3_copyOf_2_10 {d : Nat} {G : AH} {L : AL} {st : List AV} : At d 346 10 L st G = At d 346 24 L st G := At_goto mc346 mk346 mr346 dJ3_copyOf_2_10 (by decide)
theorem rJ3_copyOf_2_13 {d : Nat} {G : AH} {l0 l1 : Option AV} {x : Option Nat} {L : AL} {st : List AV} : At d 346 13 (l0 :: l1 :: some (vr x) :: L) st G = At d 346 14 (l0 :: l1 :: some (vr x) :: L) (vr x :: st) G := At_aload_n mc346 mk346 mr346 dJ3_copyOf_2_13 rfl
theorem rJ3_copyOf_2_24 {d : Nat} {G : AH} {l0 l1 l2 l3 : Option AV} {x : Option Nat} {L : AL} {st : List AV} : At d 346 24 (l0 :: l1 :: l2 :: l3 :: L) (vr x :: st) G = At d 346 25 (l0 :: l1 :: nl l2 :: some (vr x) :: L) st G := At_astore_n mc346 mk346 mr346 dJ3_copyOf_2_24 rfl
theorem rJ3_copyOf_2_25 {d : Nat} {G : AH} {x : Option Nat} {L : AL} {st : List AV} : At d 346 25 (some (vr x) :: L) st G = At d 346 26 (some (vr x) :: L) (vr x :: st) G := At_aload_n mc346 mk346 mr346 dJ3_copyOf_2_25 rfl
theorem rJ3_copyOf_2_26 {d : Nat} {G : AH} {L : AL} {st : List AV} : At d 346 26 L st G = At d 346 27 L (vi (nI 0) :: st) G := At_c1 mc346 mk346 mr346 dJ3_copyOf_2_26 (by decide)
theorem rJ3_copyOf_2_27 {d : Nat} {G : AH} {l0 l1 l2 : Option AV} {x : Option Nat} {L : AL} {st : List AV} : At d 346 27 (l0 :: l1 :: l2 :: some (vr x) :: L) st G = At d 346 28 (l0 :: l1 :: l2 :: some (vr x) :: L) (vr x :: st) G := At_aload_n mc346 mk346 mr346 dJ3_copyOf_2_27 rfl
theorem rJ3_copyOf_2_28 {d : Nat} {G : AH} {L : AL} {st : List AV} : At d 346 28 L st G = At d 346 29 L (vi (nI 0) :: st) G := At_c1 mc346 mk346 mr346 dJ3_copyOf_2_28 (by decide)
theorem rJ3_copyOf_2_29 {d : Nat} {G : AH} {x : Option Nat} {L : AL} {st : List AV} : At d 346 29 (some (vr x) :: L) st G = At d 346 30 (some (vr x) :: L) (vr x :: st) G := At_aload_n mc346 mk346 mr346 dJ3_copyOf_2_29 rfl
theorem rJ3_copyOf_2_30 {d : Nat} {G : AH} {a : Nat} {L : AL} {st : List AV} : At d 346 30 L (vr (some a) :: st) G = if 40 ≤ hT G a ∧ hT G a < 60 then At d 346 31 L (vi (nI (hL G a)) :: st) G else none := At_alen mc346 mk346 mr346 dJ3_copyOf_2_30
theorem rJ3_copyOf_2_31 {d : Nat} {G : AH} {l0 : Option AV} {x : Int32} {L : AL} {st : List AV} : At d 346 31 (l0 :: some (vi x) :: L) st G = At d 346 32 (l0 :: some (vi x) :: L) (vi x :: st) G := At_iload_n mc346 mk346 mr346 dJ3_copyOf_2_31 rfl
theorem rJ3_copyOf_2_32 {d : Nat} {G : AH} (h0 : 0 < d) {x0 : Int32} {x1 : Int32} {x2 : Int32} {o3 : Option Nat} {x4 : Int32} {o5 : Option Nat} {L : AL} : At d 346 32 L [vi x0, vi x1, vi x2, vr o3, vi x4, vr o5] G = bnd (cl (d - 1) 355 [vi x1, vi x0] G) (fun v G => At d 346 35 L (psh v [vi x2, vr o3, vi x4, vr o5]) G) (fun a G => AtX d 346 32 L a G) := At_inv (k := 304) (z := 355) (n := 2) h0 mc346 mk346 mr346 dJ3_copyOf_2_32 rfl rfl rfl (by decide) (Nat.le_of_ble_eq_true rfl) rfl (Nat.le_of_ble_eq_true rfl) (Nat.le_of_ble_eq_true rfl)
theorem rJ3_copyOf_2_38 {d : Nat} {G : AH} {l0 l1 l2 : Option AV} {x : Option Nat} {L : AL} {st : List AV} : At d 346 38 (l0 :: l1 :: l2 :: some (vr x) :: L) st G = At d 346 39 (l0 :: l1 :: l2 :: some (vr x) :: L) (vr x :: st) G := At_aload_n mc346 mk346 mr346 dJ3_copyOf_2_38 rfl
theorem rJ3_copyOf_2_39 {d : Nat} {G : AH} {x : Option Nat} {L : AL} : At d 346 39 L [vr x] G = some (.inl (some (vr x)), G) := At_aret mc346 mk346 mr346 dJ3_copyOf_2_39
theorem mw347 : mRow 347 = (cJ4_checkIndex, 2, 1, 31, []) := rfl
theorem mc347 : mcode 347 = cJ4_checkIndex := congrArg (fun q => q.1) mw347
theorem mk347 : mcls 347 = 31 := congrArg (fun q => q.2.2.2.1) mw347
theorem mr347 : mret 347 = 1 := congrArg (fun q => q.2.2.1) mw347
theorem mx347 : mmax 347 = 2 := congrArg (fun q => q.2.1) mw347
theorem mh347 : mhnd 347 = [] := congrArg (fun q => q.2.2.2.2) mw347
theorem en347 {d : Nat} {G : AH} {x0 : Int32} {x1 : Int32} : cl d 347 [vi x0, vi x1] G = At d 347 0 [some (vi x0), some (vi x1)] [] G := by
  unfold cl
  rw [mx347]
  rfl
theorem rJ4_checkIndex_0 {d : Nat} {G : AH} {x : Int32} {L : AL} {st : List AV} : At d 347 0 (some (vi x) :: L) st G = At d 347 1 (some (vi x) :: L) (vi x :: st) G := At_iload_n mc347 mk347 mr347 dJ4_checkIndex_0 rfl
theorem rJ4_checkIndex_1 {d : Nat} {G : AH} {l0 : Option AV} {x : Int32} {L : AL} {st : List AV} : At d 347 1 (l0 :: some (vi x) :: L) st G = At d 347 2 (l0 :: some (vi x) :: L) (vi x :: st) G := At_iload_n mc347 mk347 mr347 dJ4_checkIndex_1 rfl
theorem rJ4_checkIndex_2 {d : Nat} {G : AH} {L : AL} {st : List AV} : At d 347 2 L st G = At d 347 3 L (vr none :: st) G := At_anull mc347 mk347 mr347 dJ4_checkIndex_2
theorem rJ4_checkIndex_3 {d : Nat} {G : AH} (h0 : 0 < d) {o0 : Option Nat} {x1 : Int32} {x2 : Int32} {L : AL} : At d 347 3 L [vr o0, vi x1, vi x2] G = bnd (cl (d - 1) 348 [vi x2, vi x1, vr o0] G) (fun v G => At d 347 6 L (psh v []) G) (fun a G => AtX d 347 3 L a G) := At_inv (k := 105) (z := 348) (n := 3) h0 mc347 mk347 mr347 dJ4_checkIndex_3 rfl rfl rfl (by decide) (Nat.le_of_ble_eq_true rfl) rfl (Nat.le_of_ble_eq_true rfl) (Nat.le_of_ble_eq_true rfl)
theorem rJ4_checkIndex_6 {d : Nat} {G : AH} {x : Int32} {L : AL} : At d 347 6 L [vi x] G = some (.inl (some (vi x)), G) := At_iret mc347 mk347 mr347 dJ4_checkIndex_6
theorem mw348 : mRow 348 = (cJ5_checkIndex, 3, 1, 32, []) := rfl
theorem mc348 : mcode 348 = cJ5_checkIndex := congrArg (fun q => q.1) mw348
theorem mk348 : mcls 348 = 32 := congrArg (fun q => q.2.2.2.1) mw348
theorem mr348 : mret 348 = 1 := congrArg (fun q => q.2.2.1) mw348
theorem mx348 : mmax 348 = 3 := congrArg (fun q => q.2.1) mw348
theorem mh348 : mhnd 348 = [] := congrArg (fun q => q.2.2.2.2) mw348
theorem en348 {d : Nat} {G : AH} {x0 : Int32} {x1 : Int32} {o2 : Option Nat} : cl d 348 [vi x0, vi x1, vr o2] G = At d 348 0 [some (vi x0), some (vi x1), some (vr o2)] [] G := by
  unfold cl
  rw [mx348]
  rfl
theorem rJ5_checkIndex_0 {d : Nat} {G : AH} {x : Int32} {L : AL} {st : List AV} : At d 348 0 (some (vi x) :: L) st G = At d 348 1 (some (vi x) :: L) (vi x :: st) G := At_iload_n mc348 mk348 mr348 dJ5_checkIndex_0 rfl
theorem rJ5_checkIndex_1 {d : Nat} {G : AH} {x : Int32} {L : AL} {st : List AV} : At d 348 1 L (vi x :: st) G = if x < nI 0 then At d 348 9 L st G else At d 348 4 L st G := At_if mc348 mk348 mr348 dJ5_checkIndex_1 (by decide) cnd_lt
theorem rJ5_checkIndex_4 {d : Nat} {G : AH} {x : Int32} {L : AL} {st : List AV} : At d 348 4 (some (vi x) :: L) st G = At d 348 5 (some (vi x) :: L) (vi x :: st) G := At_iload_n mc348 mk348 mr348 dJ5_checkIndex_4 rfl
theorem rJ5_checkIndex_5 {d : Nat} {G : AH} {l0 : Option AV} {x : Int32} {L : AL} {st : List AV} : At d 348 5 (l0 :: some (vi x) :: L) st G = At d 348 6 (l0 :: some (vi x) :: L) (vi x :: st) G := At_iload_n mc348 mk348 mr348 dJ5_checkIndex_5 rfl
theorem rJ5_checkIndex_6 {d : Nat} {G : AH} {x z : Int32} {L : AL} {st : List AV} : At d 348 6 L (vi z :: vi x :: st) G = if x < z then At d 348 16 L st G else At d 348 9 L st G := At_icmp mc348 mk348 mr348 dJ5_checkIndex_6 (by decide) cnd_lt
theorem rJ5_checkIndex_9 {d : Nat} {G : AH} {l0 l1 : Option AV} {x : Option Nat} {L : AL} {st : List AV} : At d 348 9 (l0 :: l1 :: some (vr x) :: L) st G = At d 348 10 (l0 :: l1 :: some (vr x) :: L) (vr x :: st) G := At_aload_n mc348 mk348 mr348 dJ5_checkIndex_9 rfl
theorem rJ5_checkIndex_10 {d : Nat} {G : AH} {x : Int32} {L : AL} {st : List AV} : At d 348 10 (some (vi x) :: L) st G = At d 348 11 (some (vi x) :: L) (vi x :: st) G := At_iload_n mc348 mk348 mr348 dJ5_checkIndex_10 rfl
theorem rJ5_checkIndex_11 {d : Nat} {G : AH} {l0 : Option AV} {x : Int32} {L : AL} {st : List AV} : At d 348 11 (l0 :: some (vi x) :: L) st G = At d 348 12 (l0 :: some (vi x) :: L) (vi x :: st) G := At_iload_n mc348 mk348 mr348 dJ5_checkIndex_11 rfl
theorem rJ5_checkIndex_16 {d : Nat} {G : AH} {x : Int32} {L : AL} {st : List AV} : At d 348 16 (some (vi x) :: L) st G = At d 348 17 (some (vi x) :: L) (vi x :: st) G := At_iload_n mc348 mk348 mr348 dJ5_checkIndex_16 rfl
theorem rJ5_checkIndex_17 {d : Nat} {G : AH} {x : Int32} {L : AL} : At d 348 17 L [vi x] G = some (.inl (some (vi x)), G) := At_iret mc348 mk348 mr348 dJ5_checkIndex_17
theorem mw349 : mRow 349 = (cJ6_numberOfTrailingZeros, 3, 1, 33, []) := rfl
theorem mc349 : mcode 349 = cJ6_numberOfTrailingZeros := congrArg (fun q => q.1) mw349
theorem mk349 : mcls 349 = 33 := congrArg (fun q => q.2.2.2.1) mw349
theorem mr349 : mret 349 = 1 := congrArg (fun q => q.2.2.1) mw349
theorem mx349 : mmax 349 = 3 := congrArg (fun q => q.2.1) mw349
theorem mh349 : mhnd 349 = [] := congrArg (fun q => q.2.2.2.2) mw349
theorem en349 {d : Nat} {G : AH} {x0 : Int64} : cl d 349 [vl x0] G = At d 349 0 [some (vl x0), none, none] [] G := by
  unfold cl
  rw [mx349]
  rfl
theorem rJ6_numberOfTrailingZeros_0 {d : Nat} {G : AH} {x : Int64} {L : AL} {st : List AV} : At d 349 0 (some (vl x) :: L) st G = At d 349 1 (some (vl x) :: L) (vl x :: st) G := At_lload_n mc349 mk349 mr349 dJ6_numberOfTrailingZeros_0 rfl
theorem rJ6_numberOfTrailingZeros_1 {d : Nat} {G : AH} {x : Int64} {L : AL} {st : List AV} : At d 349 1 L (vl x :: st) G = At d 349 2 L (vi x.toInt32 :: st) G := At_l2i mc349 mk349 mr349 dJ6_numberOfTrailingZeros_1
theorem rJ6_numberOfTrailingZeros_2 {d : Nat} {G : AH} {l0 l1 l2 : Option AV} {x : Int32} {L : AL} {st : List AV} : At d 349 2 (l0 :: l1 :: l2 :: L) (vi x :: st) G = At d 349 3 (l0 :: nl l1 :: some (vi x) :: L) st G := At_istore_n mc349 mk349 mr349 dJ6_numberOfTrailingZeros_2 rfl
theorem rJ6_numberOfTrailingZeros_3 {d : Nat} {G : AH} {l0 l1 : Option AV} {x : Int32} {L : AL} {st : List AV} : At d 349 3 (l0 :: l1 :: some (vi x) :: L) st G = At d 349 4 (l0 :: l1 :: some (vi x) :: L) (vi x :: st) G := At_iload_n mc349 mk349 mr349 dJ6_numberOfTrailingZeros_3 rfl
theorem rJ6_numberOfTrailingZeros_4 {d : Nat} {G : AH} {x : Int32} {L : AL} {st : List AV} : At d 349 4 L (vi x :: st) G = if ¬ x = nI 0 then At d 349 21 L st G else At d 349 7 L st G := At_if mc349 mk349 mr349 dJ6_numberOfTrailingZeros_4 (by decide) cnd_ne
theorem rJ6_numberOfTrailingZeros_7 {d : Nat} {G : AH} {L : AL} {st : List AV} : At d 349 7 L st G = At d 349 9 L (vi (nI 32) :: st) G := At_c2 mc349 mk349 mr349 dJ6_numberOfTrailingZeros_7 (by decide)
theorem rJ6_numberOfTrailingZeros_9 {d : Nat} {G : AH} {x : Int64} {L : AL} {st : List AV} : At d 349 9 (some (vl x) :: L) st G = At d 349 10 (some (vl x) :: L) (vl x :: st) G := At_lload_n mc349 mk349 mr349 dJ6_numberOfTrailingZeros_9 rfl
theorem rJ6_numberOfTrailingZeros_10 {d : Nat} {G : AH} {L : AL} {st : List AV} : At d 349 10 L st G = At d 349 12 L (vi (nI 32) :: st) G := At_c2 mc349 mk349 mr349 dJ6_numberOfTrailingZeros_10 (by decide)
theorem rJ6_numberOfTrailingZeros_12 {d : Nat} {G : AH} {x : Int64} {z : Int32} {L : AL} {st : List AV} : At d 349 12 L (vi z :: vl x :: st) G = At d 349 13 L (vl ((x.toUInt64 >>> (z.toInt64.toUInt64 &&& Int64.toUInt64 63)).toInt64) :: st) G := At_lushr mc349 mk349 mr349 dJ6_numberOfTrailingZeros_12
theorem rJ6_numberOfTrailingZeros_13 {d : Nat} {G : AH} {x : Int64} {L : AL} {st : List AV} : At d 349 13 L (vl x :: st) G = At d 349 14 L (vi x.toInt32 :: st) G := At_l2i mc349 mk349 mr349 dJ6_numberOfTrailingZeros_13
theorem rJ6_numberOfTrailingZeros_14 {d : Nat} {G : AH} (h0 : 0 < d) {x0 : Int32} {x1 : Int32} {L : AL} : At d 349 14 L [vi x0, vi x1] G = bnd (cl (d - 1) 351 [vi x0] G) (fun v G => At d 349 17 L (psh v [vi x1]) G) (fun a G => AtX d 349 14 L a G) := At_inv (k := 311) (z := 351) (n := 1) h0 mc349 mk349 mr349 dJ6_numberOfTrailingZeros_14 rfl rfl rfl (by decide) (Nat.le_of_ble_eq_true rfl) rfl (Nat.le_of_ble_eq_true rfl) (Nat.le_of_ble_eq_true rfl)
theorem rJ6_numberOfTrailingZeros_17 {d : Nat} {G : AH} {x z : Int32} {L : AL} {st : List AV} : At d 349 17 L (vi z :: vi x :: st) G = At d 349 18 L (vi (x + z) :: st) G := At_iadd mc349 mk349 mr349 dJ6_numberOfTrailingZeros_17
theorem rJ6_numberOfTrailingZeros_18 {d : Nat} {G : AH} {L : AL} {st : List AV} : At d 349 18 L st G = At d 349 25 L st G := At_goto mc349 mk349 mr349 dJ6_numberOfTrailingZeros_18 (by decide)
theorem rJ6_numberOfTrailingZeros_21 {d : Nat} {G : AH} {l0 l1 : Option AV} {x : Int32} {L : AL} {st : List AV} : At d 349 21 (l0 :: l1 :: some (vi x) :: L) st G = At d 349 22 (l0 :: l1 :: some (vi x) :: L) (vi x :: st) G := At_iload_n mc349 mk349 mr349 dJ6_numberOfTrailingZeros_21 rfl
theorem rJ6_numberOfTrailingZeros_22 {d : Nat} {G : AH} (h0 : 0 < d) {x0 : Int32} {L : AL} : At d 349 22 L [vi x0] G = bnd (cl (d - 1) 351 [vi x0] G) (fun v G => At d 349 25 L (psh v []) G) (fun a G => AtX d 349 22 L a G) := At_inv (k := 311) (z := 351) (n := 1) h0 mc349 mk349 mr349 dJ6_numberOfTrailingZeros_22 rfl rfl rfl (by decide) (Nat.le_of_ble_eq_true rfl) rfl (Nat.le_of_ble_eq_true rfl) (Nat.le_of_ble_eq_true rfl)
theorem rJ6_numberOfTrailingZeros_25 {d : Nat} {G : AH} {x : Int32} {L : AL} : At d 349 25 L [vi x] G = some (.inl (some (vi x)), G) := At_iret mc349 mk349 mr349 dJ6_numberOfTrailingZeros_25
theorem mw350 : mRow 350 = (cJ6_bitCount, 2, 1, 33, []) := rfl
theorem mc350 : mcode 350 = cJ6_bitCount := congrArg (fun q => q.1) mw350
theorem mk350 : mcls 350 = 33 := congrArg (fun q => q.2.2.2.1) mw350
theorem mr350 : mret 350 = 1 := congrArg (fun q => q.2.2.1) mw350
theorem mx350 : mmax 350 = 2 := congrArg (fun q => q.2.1) mw350
theorem mh350 : mhnd 350 = [] := congrArg (fun q => q.2.2.2.2) mw350
theorem en350 {d : Nat} {G : AH} {x0 : Int64} : cl d 350 [vl x0] G = At d 350 0 [some (vl x0), none] [] G := by
  unfold cl
  rw [mx350]
  rfl
theorem rJ6_bitCount_0 {d : Nat} {G : AH} {x : Int64} {L : AL} {st : List AV} : At d 350 0 (some (vl x) :: L) st G = At d 350 1 (some (vl x) :: L) (vl x :: st) G := At_lload_n mc350 mk350 mr350 dJ6_bitCount_0 rfl
theorem rJ6_bitCount_1 {d : Nat} {G : AH} {x : Int64} {L : AL} {st : List AV} : At d 350 1 (some (vl x) :: L) st G = At d 350 2 (some (vl x) :: L) (vl x :: st) G := At_lload_n mc350 mk350 mr350 dJ6_bitCount_1 rfl
theorem rJ6_bitCount_2 {d : Nat} {G : AH} {L : AL} {st : List AV} : At d 350 2 L st G = At d 350 3 L (vi (nI 1) :: st) G := At_c1 mc350 mk350 mr350 dJ6_bitCount_2 (by decide)
theorem rJ6_bitCount_3 {d : Nat} {G : AH} {x : Int64} {z : Int32} {L : AL} {st : List AV} : At d 350 3 L (vi z :: vl x :: st) G = At d 350 4 L (vl ((x.toUInt64 >>> (z.toInt64.toUInt64 &&& Int64.toUInt64 63)).toInt64) :: st) G := At_lushr mc350 mk350 mr350 dJ6_bitCount_3
theorem rJ6_bitCount_4 {d : Nat} {G : AH} {L : AL} {st : List AV} : At d 350 4 L st G = At d 350 7 L (vl (6148914691236517205) :: st) G := At_ldc2 mc350 mk350 mr350 dJ6_bitCount_4 rfl
theorem rJ6_bitCount_7 {d : Nat} {G : AH} {x z : Int64} {L : AL} {st : List AV} : At d 350 7 L (vl z :: vl x :: st) G = At d 350 8 L (vl (x &&& z) :: st) G := At_land mc350 mk350 mr350 dJ6_bitCount_7
theorem rJ6_bitCount_8 {d : Nat} {G : AH} {x z : Int64} {L : AL} {st : List AV} : At d 350 8 L (vl z :: vl x :: st) G = At d 350 9 L (vl (x - z) :: st) G := At_lsub mc350 mk350 mr350 dJ6_bitCount_8
theorem rJ6_bitCount_9 {d : Nat} {G : AH} {l0 l1 : Option AV} {x : Int64} {L : AL} {st : List AV} : At d 350 9 (l0 :: l1 :: L) (vl x :: st) G = At d 350 10 (some (vl x) :: none :: L) st G := At_lstore_n mc350 mk350 mr350 dJ6_bitCount_9 rfl
theorem rJ6_bitCount_10 {d : Nat} {G : AH} {x : Int64} {L : AL} {st : List AV} : At d 350 10 (some (vl x) :: L) st G = At d 350 11 (some (vl x) :: L) (vl x :: st) G := At_lload_n mc350 mk350 mr350 dJ6_bitCount_10 rfl
theorem rJ6_bitCount_11 {d : Nat} {G : AH} {L : AL} {st : List AV} : At d 350 11 L st G = At d 350 14 L (vl (3689348814741910323) :: st) G := At_ldc2 mc350 mk350 mr350 dJ6_bitCount_11 rfl
theorem rJ6_bitCount_14 {d : Nat} {G : AH} {x z : Int64} {L : AL} {st : List AV} : At d 350 14 L (vl z :: vl x :: st) G = At d 350 15 L (vl (x &&& z) :: st) G := At_land mc350 mk350 mr350 dJ6_bitCount_14
theorem rJ6_bitCount_15 {d : Nat} {G : AH} {x : Int64} {L : AL} {st : List AV} : At d 350 15 (some (vl x) :: L) st G = At d 350 16 (some (vl x) :: L) (vl x :: st) G := At_lload_n mc350 mk350 mr350 dJ6_bitCount_15 rfl
theorem rJ6_bitCount_16 {d : Nat} {G : AH} {L : AL} {st : List AV} : At d 350 16 L st G = At d 350 17 L (vi (nI 2) :: st) G := At_c1 mc350 mk350 mr350 dJ6_bitCount_16 (by decide)
theorem rJ6_bitCount_17 {d : Nat} {G : AH} {x : Int64} {z : Int32} {L : AL} {st : List AV} : At d 350 17 L (vi z :: vl x :: st) G = At d 350 18 L (vl ((x.toUInt64 >>> (z.toInt64.toUInt64 &&& Int64.toUInt64 63)).toInt64) :: st) G := At_lushr mc350 mk350 mr350 dJ6_bitCount_17
theorem rJ6_bitCount_18 {d : Nat} {G : AH} {L : AL} {st : List AV} : At d 350 18 L st G = At d 350 21 L (vl (3689348814741910323) :: st) G := At_ldc2 mc350 mk350 mr350 dJ6_bitCount_18 rfl
theorem rJ6_bitCount_21 {d : Nat} {G : AH} {x z : Int64} {L : AL} {st : List AV} : At d 350 21 L (vl z :: vl x :: st) G = At d 350 22 L (vl (x &&& z) :: st) G := At_land mc350 mk350 mr350 dJ6_bitCount_21
theorem rJ6_bitCount_22 {d : Nat} {G : AH} {x z : Int64} {L : AL} {st : List AV} : At d 350 22 L (vl z :: vl x :: st) G = At d 350 23 L (vl (x + z) :: st) G := At_ladd mc350 mk350 mr350 dJ6_bitCount_22
theorem rJ6_bitCount_23 {d : Nat} {G : AH} {l0 l1 : Option AV} {x : Int64} {L : AL} {st : List AV} : At d 350 23 (l0 :: l1 :: L) (vl x :: st) G = At d 350 24 (some (vl x) :: none :: L) st G := At_lstore_n mc350 mk350 mr350 dJ6_bitCount_23 rfl
theorem rJ6_bitCount_24 {d : Nat} {G : AH} {x : Int64} {L : AL} {st : List AV} : At d 350 24 (some (vl x) :: L) st G = At d 350 25 (some (vl x) :: L) (vl x :: st) G := At_lload_n mc350 mk350 mr350 dJ6_bitCount_24 rfl
theorem rJ6_bitCount_25 {d : Nat} {G : AH} {x : Int64} {L : AL} {st : List AV} : At d 350 25 (some (vl x) :: L) st G = At d 350 26 (some (vl x) :: L) (vl x :: st) G := At_lload_n mc350 mk350 mr350 dJ6_bitCount_25 rfl
theorem rJ6_bitCount_26 {d : Nat} {G : AH} {L : AL} {st : List AV} : At d 350 26 L st G = At d 350 27 L (vi (nI 4) :: st) G := At_c1 mc350 mk350 mr350 dJ6_bitCount_26 (by decide)
theorem rJ6_bitCount_27 {d : Nat} {G : AH} {x : Int64} {z : Int32} {L : AL} {st : List AV} : At d 350 27 L (vi z :: vl x :: st) G = At d 350 28 L (vl ((x.toUInt64 >>> (z.toInt64.toUInt64 &&& Int64.toUInt64 63)).toInt64) :: st) G := At_lushr mc350 mk350 mr350 dJ6_bitCount_27
theorem rJ6_bitCount_28 {d : Nat} {G : AH} {x z : Int64} {L : AL} {st : List AV} : At d 350 28 L (vl z :: vl x :: st) G = At d 350 29 L (vl (x + z) :: st) G := At_ladd mc350 mk350 mr350 dJ6_bitCount_28
theorem rJ6_bitCount_29 {d : Nat} {G : AH} {L : AL} {st : List AV} : At d 350 29 L st G = At d 350 32 L (vl (1085102592571150095) :: st) G := At_ldc2 mc350 mk350 mr350 dJ6_bitCount_29 rfl
theorem rJ6_bitCount_32 {d : Nat} {G : AH} {x z : Int64} {L : AL} {st : List AV} : At d 350 32 L (vl z :: vl x :: st) G = At d 350 33 L (vl (x &&& z) :: st) G := At_land mc350 mk350 mr350 dJ6_bitCount_32
theorem rJ6_bitCount_33 {d : Nat} {G : AH} {l0 l1 : Option AV} {x : Int64} {L : AL} {st : List AV} : At d 350 33 (l0 :: l1 :: L) (vl x :: st) G = At d 350 34 (some (vl x) :: none :: L) st G := At_lstore_n mc350 mk350 mr350 dJ6_bitCount_33 rfl
theorem rJ6_bitCount_34 {d : Nat} {G : AH} {x : Int64} {L : AL} {st : List AV} : At d 350 34 (some (vl x) :: L) st G = At d 350 35 (some (vl x) :: L) (vl x :: st) G := At_lload_n mc350 mk350 mr350 dJ6_bitCount_34 rfl
theorem rJ6_bitCount_35 {d : Nat} {G : AH} {x : Int64} {L : AL} {st : List AV} : At d 350 35 (some (vl x) :: L) st G = At d 350 36 (some (vl x) :: L) (vl x :: st) G := At_lload_n mc350 mk350 mr350 dJ6_bitCount_35 rfl
theorem rJ6_bitCount_36 {d : Nat} {G : AH} {L : AL} {st : List AV} : At d 350 36 L st G = At d 350 38 L (vi (nI 8) :: st) G := At_c2 mc350 mk350 mr350 dJ6_bitCount_36 (by decide)
theorem rJ6_bitCount_38 {d : Nat} {G : AH} {x : Int64} {z : Int32} {L : AL} {st : List AV} : At d 350 38 L (vi z :: vl x :: st) G = At d 350 39 L (vl ((x.toUInt64 >>> (z.toInt64.toUInt64 &&& Int64.toUInt64 63)).toInt64) :: st) G := At_lushr mc350 mk350 mr350 dJ6_bitCount_38
theorem rJ6_bitCount_39 {d : Nat} {G : AH} {x z : Int64} {L : AL} {st : List AV} : At d 350 39 L (vl z :: vl x :: st) G = At d 350 40 L (vl (x + z) :: st) G := At_ladd mc350 mk350 mr350 dJ6_bitCount_39
theorem rJ6_bitCount_40 {d : Nat} {G : AH} {l0 l1 : Option AV} {x : Int64} {L : AL} {st : List AV} : At d 350 40 (l0 :: l1 :: L) (vl x :: st) G = At d 350 41 (some (vl x) :: none :: L) st G := At_lstore_n mc350 mk350 mr350 dJ6_bitCount_40 rfl
theorem rJ6_bitCount_41 {d : Nat} {G : AH} {x : Int64} {L : AL} {st : List AV} : At d 350 41 (some (vl x) :: L) st G = At d 350 42 (some (vl x) :: L) (vl x :: st) G := At_lload_n mc350 mk350 mr350 dJ6_bitCount_41 rfl
theorem rJ6_bitCount_42 {d : Nat} {G : AH} {x : Int64} {L : AL} {st : List AV} : At d 350 42 (some (vl x) :: L) st G = At d 350 43 (some (vl x) :: L) (vl x :: st) G := At_lload_n mc350 mk350 mr350 dJ6_bitCount_42 rfl
theorem rJ6_bitCount_43 {d : Nat} {G : AH} {L : AL} {st : List AV} : At d 350 43 L st G = At d 350 45 L (vi (nI 16) :: st) G := At_c2 mc350 mk350 mr350 dJ6_bitCount_43 (by decide)
theorem rJ6_bitCount_45 {d : Nat} {G : AH} {x : Int64} {z : Int32} {L : AL} {st : List AV} : At d 350 45 L (vi z :: vl x :: st) G = At d 350 46 L (vl ((x.toUInt64 >>> (z.toInt64.toUInt64 &&& Int64.toUInt64 63)).toInt64) :: st) G := At_lushr mc350 mk350 mr350 dJ6_bitCount_45
theorem rJ6_bitCount_46 {d : Nat} {G : AH} {x z : Int64} {L : AL} {st : List AV} : At d 350 46 L (vl z :: vl x :: st) G = At d 350 47 L (vl (x + z) :: st) G := At_ladd mc350 mk350 mr350 dJ6_bitCount_46
theorem rJ6_bitCount_47 {d : Nat} {G : AH} {l0 l1 : Option AV} {x : Int64} {L : AL} {st : List AV} : At d 350 47 (l0 :: l1 :: L) (vl x :: st) G = At d 350 48 (some (vl x) :: none :: L) st G := At_lstore_n mc350 mk350 mr350 dJ6_bitCount_47 rfl
theorem rJ6_bitCount_48 {d : Nat} {G : AH} {x : Int64} {L : AL} {st : List AV} : At d 350 48 (some (vl x) :: L) st G = At d 350 49 (some (vl x) :: L) (vl x :: st) G := At_lload_n mc350 mk350 mr350 dJ6_bitCount_48 rfl
theorem rJ6_bitCount_49 {d : Nat} {G : AH} {x : Int64} {L : AL} {st : List AV} : At d 350 49 (some (vl x) :: L) st G = At d 350 50 (some (vl x) :: L) (vl x :: st) G := At_lload_n mc350 mk350 mr350 dJ6_bitCount_49 rfl
theorem rJ6_bitCount_50 {d : Nat} {G : AH} {L : AL} {st : List AV} : At d 350 50 L st G = At d 350 52 L (vi (nI 32) :: st) G := At_c2 mc350 mk350 mr350 dJ6_bitCount_50 (by decide)
theorem rJ6_bitCount_52 {d : Nat} {G : AH} {x : Int64} {z : Int32} {L : AL} {st : List AV} : At d 350 52 L (vi z :: vl x :: st) G = At d 350 53 L (vl ((x.toUInt64 >>> (z.toInt64.toUInt64 &&& Int64.toUInt64 63)).toInt64) :: st) G := At_lushr mc350 mk350 mr350 dJ6_bitCount_52
theorem rJ6_bitCount_53 {d : Nat} {G : AH} {x z : Int64} {L : AL} {st : List AV} : At d 350 53 L (vl z :: vl x :: st) G = At d 350 54 L (vl (x + z) :: st) G := At_ladd mc350 mk350 mr350 dJ6_bitCount_53
theorem rJ6_bitCount_54 {d : Nat} {G : AH} {l0 l1 : Option AV} {x : Int64} {L : AL} {st : List AV} : At d 350 54 (l0 :: l1 :: L) (vl x :: st) G = At d 350 55 (some (vl x) :: none :: L) st G := At_lstore_n mc350 mk350 mr350 dJ6_bitCount_54 rfl
theorem rJ6_bitCount_55 {d : Nat} {G : AH} {x : Int64} {L : AL} {st : List AV} : At d 350 55 (some (vl x) :: L) st G = At d 350 56 (some (vl x) :: L) (vl x :: st) G := At_lload_n mc350 mk350 mr350 dJ6_bitCount_55 rfl
theorem rJ6_bitCount_56 {d : Nat} {G : AH} {x : Int64} {L : AL} {st : List AV} : At d 350 56 L (vl x :: st) G = At d 350 57 L (vi x.toInt32 :: st) G := At_l2i mc350 mk350 mr350 dJ6_bitCount_56
theorem rJ6_bitCount_57 {d : Nat} {G : AH} {L : AL} {st : List AV} : At d 350 57 L st G = At d 350 59 L (vi (nI 127) :: st) G := At_c2 mc350 mk350 mr350 dJ6_bitCount_57 (by decide)
theorem rJ6_bitCount_59 {d : Nat} {G : AH} {x z : Int32} {L : AL} {st : List AV} : At d 350 59 L (vi z :: vi x :: st) G = At d 350 60 L (vi (x &&& z) :: st) G := At_iand mc350 mk350 mr350 dJ6_bitCount_59
theorem rJ6_bitCount_60 {d : Nat} {G : AH} {x : Int32} {L : AL} : At d 350 60 L [vi x] G = some (.inl (some (vi x)), G) := At_iret mc350 mk350 mr350 dJ6_bitCount_60
theorem mw351 : mRow 351 = (cJ7_numberOfTrailingZeros, 2, 1, 34, []) := rfl
theorem mc351 : mcode 351 = cJ7_numberOfTrailingZeros := congrArg (fun q => q.1) mw351
theorem mk351 : mcls 351 = 34 := congrArg (fun q => q.2.2.2.1) mw351
theorem mr351 : mret 351 = 1 := congrArg (fun q => q.2.2.1) mw351
theorem mx351 : mmax 351 = 2 := congrArg (fun q => q.2.1) mw351
theorem mh351 : mhnd 351 = [] := congrArg (fun q => q.2.2.2.2) mw351
theorem en351 {d : Nat} {G : AH} {x0 : Int32} : cl d 351 [vi x0] G = At d 351 0 [some (vi x0), none] [] G := by
  unfold cl
  rw [mx351]
  rfl
theorem rJ7_numberOfTrailingZeros_0 {d : Nat} {G : AH} {x : Int32} {L : AL} {st : List AV} : At d 351 0 (some (vi x) :: L) st G = At d 351 1 (some (vi x) :: L) (vi x :: st) G := At_iload_n mc351 mk351 mr351 dJ7_numberOfTrailingZeros_0 rfl
theorem rJ7_numberOfTrailingZeros_1 {d : Nat} {G : AH} {L : AL} {st : List AV} : At d 351 1 L st G = At d 351 2 L (vi (-1) :: st) G := At_c1 mc351 mk351 mr351 dJ7_numberOfTrailingZeros_1 (by decide)
theorem rJ7_numberOfTrailingZeros_2 {d : Nat} {G : AH} {x z : Int32} {L : AL} {st : List AV} : At d 351 2 L (vi z :: vi x :: st) G = At d 351 3 L (vi (x ^^^ z) :: st) G := At_ixor mc351 mk351 mr351 dJ7_numberOfTrailingZeros_2
theorem rJ7_numberOfTrailingZeros_3 {d : Nat} {G : AH} {x : Int32} {L : AL} {st : List AV} : At d 351 3 (some (vi x) :: L) st G = At d 351 4 (some (vi x) :: L) (vi x :: st) G := At_iload_n mc351 mk351 mr351 dJ7_numberOfTrailingZeros_3 rfl
theorem rJ7_numberOfTrailingZeros_4 {d : Nat} {G : AH} {L : AL} {st : List AV} : At d 351 4 L st G = At d 351 5 L (vi (nI 1) :: st) G := At_c1 mc351 mk351 mr351 dJ7_numberOfTrailingZeros_4 (by decide)
theorem rJ7_numberOfTrailingZeros_5 {d : Nat} {G : AH} {x z : Int32} {L : AL} {st : List AV} : At d 351 5 L (vi z :: vi x :: st) G = At d 351 6 L (vi (x - z) :: st) G := At_isub mc351 mk351 mr351 dJ7_numberOfTrailingZeros_5
theorem rJ7_numberOfTrailingZeros_6 {d : Nat} {G : AH} {x z : Int32} {L : AL} {st : List AV} : At d 351 6 L (vi z :: vi x :: st) G = At d 351 7 L (vi (x &&& z) :: st) G := At_iand mc351 mk351 mr351 dJ7_numberOfTrailingZeros_6
theorem rJ7_numberOfTrailingZeros_7 {d : Nat} {G : AH} {l0 : Option AV} {x : Int32} {L : AL} {st : List AV} : At d 351 7 (l0 :: L) (vi x :: st) G = At d 351 8 (some (vi x) :: L) st G := At_istore_n mc351 mk351 mr351 dJ7_numberOfTrailingZeros_7 rfl
theorem rJ7_numberOfTrailingZeros_8 {d : Nat} {G : AH} {x : Int32} {L : AL} {st : List AV} : At d 351 8 (some (vi x) :: L) st G = At d 351 9 (some (vi x) :: L) (vi x :: st) G := At_iload_n mc351 mk351 mr351 dJ7_numberOfTrailingZeros_8 rfl
theorem rJ7_numberOfTrailingZeros_9 {d : Nat} {G : AH} {x : Int32} {L : AL} {st : List AV} : At d 351 9 L (vi x :: st) G = if nI 0 < x then At d 351 17 L st G else At d 351 12 L st G := At_if mc351 mk351 mr351 dJ7_numberOfTrailingZeros_9 (by decide) cnd_gt
theorem rJ7_numberOfTrailingZeros_12 {d : Nat} {G : AH} {x : Int32} {L : AL} {st : List AV} : At d 351 12 (some (vi x) :: L) st G = At d 351 13 (some (vi x) :: L) (vi x :: st) G := At_iload_n mc351 mk351 mr351 dJ7_numberOfTrailingZeros_12 rfl
theorem rJ7_numberOfTrailingZeros_13 {d : Nat} {G : AH} {L : AL} {st : List AV} : At d 351 13 L st G = At d 351 15 L (vi (nI 32) :: st) G := At_c2 mc351 mk351 mr351 dJ7_numberOfTrailingZeros_13 (by decide)
theorem rJ7_numberOfTrailingZeros_15 {d : Nat} {G : AH} {x z : Int32} {L : AL} {st : List AV} : At d 351 15 L (vi z :: vi x :: st) G = At d 351 16 L (vi (x &&& z) :: st) G := At_iand mc351 mk351 mr351 dJ7_numberOfTrailingZeros_15
theorem rJ7_numberOfTrailingZeros_16 {d : Nat} {G : AH} {x : Int32} {L : AL} : At d 351 16 L [vi x] G = some (.inl (some (vi x)), G) := At_iret mc351 mk351 mr351 dJ7_numberOfTrailingZeros_16
theorem rJ7_numberOfTrailingZeros_17 {d : Nat} {G : AH} {L : AL} {st : List AV} : At d 351 17 L st G = At d 351 18 L (vi (nI 1) :: st) G := At_c1 mc351 mk351 mr351 dJ7_numberOfTrailingZeros_17 (by decide)
theorem rJ7_numberOfTrailingZeros_18 {d : Nat} {G : AH} {l0 l1 : Option AV} {x : Int32} {L : AL} {st : List AV} : At d 351 18 (l0 :: l1 :: L) (vi x :: st) G = At d 351 19 (nl l0 :: some (vi x) :: L) st G := At_istore_n mc351 mk351 mr351 dJ7_numberOfTrailingZeros_18 rfl
theorem rJ7_numberOfTrailingZeros_19 {d : Nat} {G : AH} {x : Int32} {L : AL} {st : List AV} : At d 351 19 (some (vi x) :: L) st G = At d 351 20 (some (vi x) :: L) (vi x :: st) G := At_iload_n mc351 mk351 mr351 dJ7_numberOfTrailingZeros_19 rfl
theorem rJ7_numberOfTrailingZeros_20 {d : Nat} {G : AH} {L : AL} {st : List AV} : At d 351 20 L st G = At d 351 23 L (vi (nI 65536) :: st) G := At_ldcw mc351 mk351 mr351 dJ7_numberOfTrailingZeros_20 rfl
theorem rJ7_numberOfTrailingZeros_23 {d : Nat} {G : AH} {x z : Int32} {L : AL} {st : List AV} : At d 351 23 L (vi z :: vi x :: st) G = if x ≤ z then At d 351 34 L st G else At d 351 26 L st G := At_icmp mc351 mk351 mr351 dJ7_numberOfTrailingZeros_23 (by decide) cnd_le
theorem rJ7_numberOfTrailingZeros_26 {d : Nat} {G : AH} {l0 : Option AV} {x : Int32} {L : AL} {st : List AV} : At d 351 26 (l0 :: some (vi x) :: L) st G = At d 351 29 (l0 :: some (vi (x + nI 16)) :: L) st G := At_iinc (x := nI 16) mc351 mk351 mr351 dJ7_numberOfTrailingZeros_26 (by decide) rfl
theorem rJ7_numberOfTrailingZeros_29 {d : Nat} {G : AH} {x : Int32} {L : AL} {st : List AV} : At d 351 29 (some (vi x) :: L) st G = At d 351 30 (some (vi x) :: L) (vi x :: st) G := At_iload_n mc351 mk351 mr351 dJ7_numberOfTrailingZeros_29 rfl
theorem rJ7_numberOfTrailingZeros_30 {d : Nat} {G : AH} {L : AL} {st : List AV} : At d 351 30 L st G = At d 351 32 L (vi (nI 16) :: st) G := At_c2 mc351 mk351 mr351 dJ7_numberOfTrailingZeros_30 (by decide)
theorem rJ7_numberOfTrailingZeros_32 {d : Nat} {G : AH} {x z : Int32} {L : AL} {st : List AV} : At d 351 32 L (vi z :: vi x :: st) G = At d 351 33 L (vi ((x.toUInt32 >>> (z.toUInt32 &&& Int32.toUInt32 31)).toInt32) :: st) G := At_iushr mc351 mk351 mr351 dJ7_numberOfTrailingZeros_32
theorem rJ7_numberOfTrailingZeros_33 {d : Nat} {G : AH} {l0 : Option AV} {x : Int32} {L : AL} {st : List AV} : At d 351 33 (l0 :: L) (vi x :: st) G = At d 351 34 (some (vi x) :: L) st G := At_istore_n mc351 mk351 mr351 dJ7_numberOfTrailingZeros_33 rfl
theorem rJ7_numberOfTrailingZeros_34 {d : Nat} {G : AH} {x : Int32} {L : AL} {st : List AV} : At d 351 34 (some (vi x) :: L) st G = At d 351 35 (some (vi x) :: L) (vi x :: st) G := At_iload_n mc351 mk351 mr351 dJ7_numberOfTrailingZeros_34 rfl
theorem rJ7_numberOfTrailingZeros_35 {d : Nat} {G : AH} {L : AL} {st : List AV} : At d 351 35 L st G = At d 351 38 L (vi (nI 256) :: st) G := At_c3 mc351 mk351 mr351 dJ7_numberOfTrailingZeros_35 (by decide)
theorem rJ7_numberOfTrailingZeros_38 {d : Nat} {G : AH} {x z : Int32} {L : AL} {st : List AV} : At d 351 38 L (vi z :: vi x :: st) G = if x ≤ z then At d 351 49 L st G else At d 351 41 L st G := At_icmp mc351 mk351 mr351 dJ7_numberOfTrailingZeros_38 (by decide) cnd_le
theorem rJ7_numberOfTrailingZeros_41 {d : Nat} {G : AH} {l0 : Option AV} {x : Int32} {L : AL} {st : List AV} : At d 351 41 (l0 :: some (vi x) :: L) st G = At d 351 44 (l0 :: some (vi (x + nI 8)) :: L) st G := At_iinc (x := nI 8) mc351 mk351 mr351 dJ7_numberOfTrailingZeros_41 (by decide) rfl
theorem rJ7_numberOfTrailingZeros_44 {d : Nat} {G : AH} {x : Int32} {L : AL} {st : List AV} : At d 351 44 (some (vi x) :: L) st G = At d 351 45 (some (vi x) :: L) (vi x :: st) G := At_iload_n mc351 mk351 mr351 dJ7_numberOfTrailingZeros_44 rfl
theorem rJ7_numberOfTrailingZeros_45 {d : Nat} {G : AH} {L : AL} {st : List AV} : At d 351 45 L st G = At d 351 47 L (vi (nI 8) :: st) G := At_c2 mc351 mk351 mr351 dJ7_numberOfTrailingZeros_45 (by decide)
theorem rJ7_numberOfTrailingZeros_47 {d : Nat} {G : AH} {x z : Int32} {L : AL} {st : List AV} : At d 351 47 L (vi z :: vi x :: st) G = At d 351 48 L (vi ((x.toUInt32 >>> (z.toUInt32 &&& Int32.toUInt32 31)).toInt32) :: st) G := At_iushr mc351 mk351 mr351 dJ7_numberOfTrailingZeros_47
theorem rJ7_numberOfTrailingZeros_48 {d : Nat} {G : AH} {l0 : Option AV} {x : Int32} {L : AL} {st : List AV} : At d 351 48 (l0 :: L) (vi x :: st) G = At d 351 49 (some (vi x) :: L) st G := At_istore_n mc351 mk351 mr351 dJ7_numberOfTrailingZeros_48 rfl
theorem rJ7_numberOfTrailingZeros_49 {d : Nat} {G : AH} {x : Int32} {L : AL} {st : List AV} : At d 351 49 (some (vi x) :: L) st G = At d 351 50 (some (vi x) :: L) (vi x :: st) G := At_iload_n mc351 mk351 mr351 dJ7_numberOfTrailingZeros_49 rfl
theorem rJ7_numberOfTrailingZeros_50 {d : Nat} {G : AH} {L : AL} {st : List AV} : At d 351 50 L st G = At d 351 52 L (vi (nI 16) :: st) G := At_c2 mc351 mk351 mr351 dJ7_numberOfTrailingZeros_50 (by decide)
theorem rJ7_numberOfTrailingZeros_52 {d : Nat} {G : AH} {x z : Int32} {L : AL} {st : List AV} : At d 351 52 L (vi z :: vi x :: st) G = if x ≤ z then At d 351 62 L st G else At d 351 55 L st G := At_icmp mc351 mk351 mr351 dJ7_numberOfTrailingZeros_52 (by decide) cnd_le
theorem rJ7_numberOfTrailingZeros_55 {d : Nat} {G : AH} {l0 : Option AV} {x : Int32} {L : AL} {st : List AV} : At d 351 55 (l0 :: some (vi x) :: L) st G = At d 351 58 (l0 :: some (vi (x + nI 4)) :: L) st G := At_iinc (x := nI 4) mc351 mk351 mr351 dJ7_numberOfTrailingZeros_55 (by decide) rfl
theorem rJ7_numberOfTrailingZeros_58 {d : Nat} {G : AH} {x : Int32} {L : AL} {st : List AV} : At d 351 58 (some (vi x) :: L) st G = At d 351 59 (some (vi x) :: L) (vi x :: st) G := At_iload_n mc351 mk351 mr351 dJ7_numberOfTrailingZeros_58 rfl
theorem rJ7_numberOfTrailingZeros_59 {d : Nat} {G : AH} {L : AL} {st : List AV} : At d 351 59 L st G = At d 351 60 L (vi (nI 4) :: st) G := At_c1 mc351 mk351 mr351 dJ7_numberOfTrailingZeros_59 (by decide)
theorem rJ7_numberOfTrailingZeros_60 {d : Nat} {G : AH} {x z : Int32} {L : AL} {st : List AV} : At d 351 60 L (vi z :: vi x :: st) G = At d 351 61 L (vi ((x.toUInt32 >>> (z.toUInt32 &&& Int32.toUInt32 31)).toInt32) :: st) G := At_iushr mc351 mk351 mr351 dJ7_numberOfTrailingZeros_60
theorem rJ7_numberOfTrailingZeros_61 {d : Nat} {G : AH} {l0 : Option AV} {x : Int32} {L : AL} {st : List AV} : At d 351 61 (l0 :: L) (vi x :: st) G = At d 351 62 (some (vi x) :: L) st G := At_istore_n mc351 mk351 mr351 dJ7_numberOfTrailingZeros_61 rfl
theorem rJ7_numberOfTrailingZeros_62 {d : Nat} {G : AH} {x : Int32} {L : AL} {st : List AV} : At d 351 62 (some (vi x) :: L) st G = At d 351 63 (some (vi x) :: L) (vi x :: st) G := At_iload_n mc351 mk351 mr351 dJ7_numberOfTrailingZeros_62 rfl
theorem rJ7_numberOfTrailingZeros_63 {d : Nat} {G : AH} {L : AL} {st : List AV} : At d 351 63 L st G = At d 351 64 L (vi (nI 4) :: st) G := At_c1 mc351 mk351 mr351 dJ7_numberOfTrailingZeros_63 (by decide)
theorem rJ7_numberOfTrailingZeros_64 {d : Nat} {G : AH} {x z : Int32} {L : AL} {st : List AV} : At d 351 64 L (vi z :: vi x :: st) G = if x ≤ z then At d 351 74 L st G else At d 351 67 L st G := At_icmp mc351 mk351 mr351 dJ7_numberOfTrailingZeros_64 (by decide) cnd_le
theorem rJ7_numberOfTrailingZeros_67 {d : Nat} {G : AH} {l0 : Option AV} {x : Int32} {L : AL} {st : List AV} : At d 351 67 (l0 :: some (vi x) :: L) st G = At d 351 70 (l0 :: some (vi (x + nI 2)) :: L) st G := At_iinc (x := nI 2) mc351 mk351 mr351 dJ7_numberOfTrailingZeros_67 (by decide) rfl
theorem rJ7_numberOfTrailingZeros_70 {d : Nat} {G : AH} {x : Int32} {L : AL} {st : List AV} : At d 351 70 (some (vi x) :: L) st G = At d 351 71 (some (vi x) :: L) (vi x :: st) G := At_iload_n mc351 mk351 mr351 dJ7_numberOfTrailingZeros_70 rfl
theorem rJ7_numberOfTrailingZeros_71 {d : Nat} {G : AH} {L : AL} {st : List AV} : At d 351 71 L st G = At d 351 72 L (vi (nI 2) :: st) G := At_c1 mc351 mk351 mr351 dJ7_numberOfTrailingZeros_71 (by decide)
theorem rJ7_numberOfTrailingZeros_72 {d : Nat} {G : AH} {x z : Int32} {L : AL} {st : List AV} : At d 351 72 L (vi z :: vi x :: st) G = At d 351 73 L (vi ((x.toUInt32 >>> (z.toUInt32 &&& Int32.toUInt32 31)).toInt32) :: st) G := At_iushr mc351 mk351 mr351 dJ7_numberOfTrailingZeros_72
theorem rJ7_numberOfTrailingZeros_73 {d : Nat} {G : AH} {l0 : Option AV} {x : Int32} {L : AL} {st : List AV} : At d 351 73 (l0 :: L) (vi x :: st) G = At d 351 74 (some (vi x) :: L) st G := At_istore_n mc351 mk351 mr351 dJ7_numberOfTrailingZeros_73 rfl
theorem rJ7_numberOfTrailingZeros_74 {d : Nat} {G : AH} {l0 : Option AV} {x : Int32} {L : AL} {st : List AV} : At d 351 74 (l0 :: some (vi x) :: L) st G = At d 351 75 (l0 :: some (vi x) :: L) (vi x :: st) G := At_iload_n mc351 mk351 mr351 dJ7_numberOfTrailingZeros_74 rfl
theorem rJ7_numberOfTrailingZeros_75 {d : Nat} {G : AH} {x : Int32} {L : AL} {st : List AV} : At d 351 75 (some (vi x) :: L) st G = At d 351 76 (some (vi x) :: L) (vi x :: st) G := At_iload_n mc351 mk351 mr351 dJ7_numberOfTrailingZeros_75 rfl
theorem rJ7_numberOfTrailingZeros_76 {d : Nat} {G : AH} {L : AL} {st : List AV} : At d 351 76 L st G = At d 351 77 L (vi (nI 1) :: st) G := At_c1 mc351 mk351 mr351 dJ7_numberOfTrailingZeros_76 (by decide)
theorem rJ7_numberOfTrailingZeros_77 {d : Nat} {G : AH} {x z : Int32} {L : AL} {st : List AV} : At d 351 77 L (vi z :: vi x :: st) G = At d 351 78 L (vi ((x.toUInt32 >>> (z.toUInt32 &&& Int32.toUInt32 31)).toInt32) :: st) G := At_iushr mc351 mk351 mr351 dJ7_numberOfTrailingZeros_77
theorem rJ7_numberOfTrailingZeros_78 {d : Nat} {G : AH} {x z : Int32} {L : AL} {st : List AV} : At d 351 78 L (vi z :: vi x :: st) G = At d 351 79 L (vi (x + z) :: st) G := At_iadd mc351 mk351 mr351 dJ7_numberOfTrailingZeros_78
theorem rJ7_numberOfTrailingZeros_79 {d : Nat} {G : AH} {x : Int32} {L : AL} : At d 351 79 L [vi x] G = some (.inl (some (vi x)), G) := At_iret mc351 mk351 mr351 dJ7_numberOfTrailingZeros_79
theorem mw352 : mRow 352 = (cJ7_bitCount, 1, 1, 34, []) := rfl
theorem mc352 : mcode 352 = cJ7_bitCount := congrArg (fun q => q.1) mw352
theorem mk352 : mcls 352 = 34 := congrArg (fun q => q.2.2.2.1) mw352
theorem mr352 : mret 352 = 1 := congrArg (fun q => q.2.2.1) mw352
theorem mx352 : mmax 352 = 1 := congrArg (fun q => q.2.1) mw352
theorem mh352 : mhnd 352 = [] := congrArg (fun q => q.2.2.2.2) mw352
theorem en352 {d : Nat} {G : AH} {x0 : Int32} : cl d 352 [vi x0] G = At d 352 0 [some (vi x0)] [] G := by
  unfold cl
  rw [mx352]
  rfl
theorem rJ7_bitCount_0 {d : Nat} {G : AH} {x : Int32} {L : AL} {st : List AV} : At d 352 0 (some (vi x) :: L) st G = At d 352 1 (some (vi x) :: L) (vi x :: st) G := At_iload_n mc352 mk352 mr352 dJ7_bitCount_0 rfl
theorem rJ7_bitCount_1 {d : Nat} {G : AH} {x : Int32} {L : AL} {st : List AV} : At d 352 1 (some (vi x) :: L) st G = At d 352 2 (some (vi x) :: L) (vi x :: st) G := At_iload_n mc352 mk352 mr352 dJ7_bitCount_1 rfl
theorem rJ7_bitCount_2 {d : Nat} {G : AH} {L : AL} {st : List AV} : At d 352 2 L st G = At d 352 3 L (vi (nI 1) :: st) G := At_c1 mc352 mk352 mr352 dJ7_bitCount_2 (by decide)
theorem rJ7_bitCount_3 {d : Nat} {G : AH} {x z : Int32} {L : AL} {st : List AV} : At d 352 3 L (vi z :: vi x :: st) G = At d 352 4 L (vi ((x.toUInt32 >>> (z.toUInt32 &&& Int32.toUInt32 31)).toInt32) :: st) G := At_iushr mc352 mk352 mr352 dJ7_bitCount_3
theorem rJ7_bitCount_4 {d : Nat} {G : AH} {L : AL} {st : List AV} : At d 352 4 L st G = At d 352 7 L (vi (nI 1431655765) :: st) G := At_ldcw mc352 mk352 mr352 dJ7_bitCount_4 rfl
theorem rJ7_bitCount_7 {d : Nat} {G : AH} {x z : Int32} {L : AL} {st : List AV} : At d 352 7 L (vi z :: vi x :: st) G = At d 352 8 L (vi (x &&& z) :: st) G := At_iand mc352 mk352 mr352 dJ7_bitCount_7
theorem rJ7_bitCount_8 {d : Nat} {G : AH} {x z : Int32} {L : AL} {st : List AV} : At d 352 8 L (vi z :: vi x :: st) G = At d 352 9 L (vi (x - z) :: st) G := At_isub mc352 mk352 mr352 dJ7_bitCount_8
theorem rJ7_bitCount_9 {d : Nat} {G : AH} {l0 : Option AV} {x : Int32} {L : AL} {st : List AV} : At d 352 9 (l0 :: L) (vi x :: st) G = At d 352 10 (some (vi x) :: L) st G := At_istore_n mc352 mk352 mr352 dJ7_bitCount_9 rfl
theorem rJ7_bitCount_10 {d : Nat} {G : AH} {x : Int32} {L : AL} {st : List AV} : At d 352 10 (some (vi x) :: L) st G = At d 352 11 (some (vi x) :: L) (vi x :: st) G := At_iload_n mc352 mk352 mr352 dJ7_bitCount_10 rfl
theorem rJ7_bitCount_11 {d : Nat} {G : AH} {L : AL} {st : List AV} : At d 352 11 L st G = At d 352 14 L (vi (nI 858993459) :: st) G := At_ldcw mc352 mk352 mr352 dJ7_bitCount_11 rfl
theorem rJ7_bitCount_14 {d : Nat} {G : AH} {x z : Int32} {L : AL} {st : List AV} : At d 352 14 L (vi z :: vi x :: st) G = At d 352 15 L (vi (x &&& z) :: st) G := At_iand mc352 mk352 mr352 dJ7_bitCount_14
theorem rJ7_bitCount_15 {d : Nat} {G : AH} {x : Int32} {L : AL} {st : List AV} : At d 352 15 (some (vi x) :: L) st G = At d 352 16 (some (vi x) :: L) (vi x :: st) G := At_iload_n mc352 mk352 mr352 dJ7_bitCount_15 rfl
theorem rJ7_bitCount_16 {d : Nat} {G : AH} {L : AL} {st : List AV} : At d 352 16 L st G = At d 352 17 L (vi (nI 2) :: st) G := At_c1 mc352 mk352 mr352 dJ7_bitCount_16 (by decide)
theorem rJ7_bitCount_17 {d : Nat} {G : AH} {x z : Int32} {L : AL} {st : List AV} : At d 352 17 L (vi z :: vi x :: st) G = At d 352 18 L (vi ((x.toUInt32 >>> (z.toUInt32 &&& Int32.toUInt32 31)).toInt32) :: st) G := At_iushr mc352 mk352 mr352 dJ7_bitCount_17
theorem rJ7_bitCount_18 {d : Nat} {G : AH} {L : AL} {st : List AV} : At d 352 18 L st G = At d 352 21 L (vi (nI 858993459) :: st) G := At_ldcw mc352 mk352 mr352 dJ7_bitCount_18 rfl
theorem rJ7_bitCount_21 {d : Nat} {G : AH} {x z : Int32} {L : AL} {st : List AV} : At d 352 21 L (vi z :: vi x :: st) G = At d 352 22 L (vi (x &&& z) :: st) G := At_iand mc352 mk352 mr352 dJ7_bitCount_21
theorem rJ7_bitCount_22 {d : Nat} {G : AH} {x z : Int32} {L : AL} {st : List AV} : At d 352 22 L (vi z :: vi x :: st) G = At d 352 23 L (vi (x + z) :: st) G := At_iadd mc352 mk352 mr352 dJ7_bitCount_22
theorem rJ7_bitCount_23 {d : Nat} {G : AH} {l0 : Option AV} {x : Int32} {L : AL} {st : List AV} : At d 352 23 (l0 :: L) (vi x :: st) G = At d 352 24 (some (vi x) :: L) st G := At_istore_n mc352 mk352 mr352 dJ7_bitCount_23 rfl
theorem rJ7_bitCount_24 {d : Nat} {G : AH} {x : Int32} {L : AL} {st : List AV} : At d 352 24 (some (vi x) :: L) st G = At d 352 25 (some (vi x) :: L) (vi x :: st) G := At_iload_n mc352 mk352 mr352 dJ7_bitCount_24 rfl
theorem rJ7_bitCount_25 {d : Nat} {G : AH} {x : Int32} {L : AL} {st : List AV} : At d 352 25 (some (vi x) :: L) st G = At d 352 26 (some (vi x) :: L) (vi x :: st) G := At_iload_n mc352 mk352 mr352 dJ7_bitCount_25 rfl
theorem rJ7_bitCount_26 {d : Nat} {G : AH} {L : AL} {st : List AV} : At d 352 26 L st G = At d 352 27 L (vi (nI 4) :: st) G := At_c1 mc352 mk352 mr352 dJ7_bitCount_26 (by decide)
theorem rJ7_bitCount_27 {d : Nat} {G : AH} {x z : Int32} {L : AL} {st : List AV} : At d 352 27 L (vi z :: vi x :: st) G = At d 352 28 L (vi ((x.toUInt32 >>> (z.toUInt32 &&& Int32.toUInt32 31)).toInt32) :: st) G := At_iushr mc352 mk352 mr352 dJ7_bitCount_27
theorem rJ7_bitCount_28 {d : Nat} {G : AH} {x z : Int32} {L : AL} {st : List AV} : At d 352 28 L (vi z :: vi x :: st) G = At d 352 29 L (vi (x + z) :: st) G := At_iadd mc352 mk352 mr352 dJ7_bitCount_28
theorem rJ7_bitCount_29 {d : Nat} {G : AH} {L : AL} {st : List AV} : At d 352 29 L st G = At d 352 32 L (vi (nI 252645135) :: st) G := At_ldcw mc352 mk352 mr352 dJ7_bitCount_29 rfl
theorem rJ7_bitCount_32 {d : Nat} {G : AH} {x z : Int32} {L : AL} {st : List AV} : At d 352 32 L (vi z :: vi x :: st) G = At d 352 33 L (vi (x &&& z) :: st) G := At_iand mc352 mk352 mr352 dJ7_bitCount_32
theorem rJ7_bitCount_33 {d : Nat} {G : AH} {l0 : Option AV} {x : Int32} {L : AL} {st : List AV} : At d 352 33 (l0 :: L) (vi x :: st) G = At d 352 34 (some (vi x) :: L) st G := At_istore_n mc352 mk352 mr352 dJ7_bitCount_33 rfl
theorem rJ7_bitCount_34 {d : Nat} {G : AH} {x : Int32} {L : AL} {st : List AV} : At d 352 34 (some (vi x) :: L) st G = At d 352 35 (some (vi x) :: L) (vi x :: st) G := At_iload_n mc352 mk352 mr352 dJ7_bitCount_34 rfl
theorem rJ7_bitCount_35 {d : Nat} {G : AH} {x : Int32} {L : AL} {st : List AV} : At d 352 35 (some (vi x) :: L) st G = At d 352 36 (some (vi x) :: L) (vi x :: st) G := At_iload_n mc352 mk352 mr352 dJ7_bitCount_35 rfl
theorem rJ7_bitCount_36 {d : Nat} {G : AH} {L : AL} {st : List AV} : At d 352 36 L st G = At d 352 38 L (vi (nI 8) :: st) G := At_c2 mc352 mk352 mr352 dJ7_bitCount_36 (by decide)
theorem rJ7_bitCount_38 {d : Nat} {G : AH} {x z : Int32} {L : AL} {st : List AV} : At d 352 38 L (vi z :: vi x :: st) G = At d 352 39 L (vi ((x.toUInt32 >>> (z.toUInt32 &&& Int32.toUInt32 31)).toInt32) :: st) G := At_iushr mc352 mk352 mr352 dJ7_bitCount_38
theorem rJ7_bitCount_39 {d : Nat} {G : AH} {x z : Int32} {L : AL} {st : List AV} : At d 352 39 L (vi z :: vi x :: st) G = At d 352 40 L (vi (x + z) :: st) G := At_iadd mc352 mk352 mr352 dJ7_bitCount_39
theorem rJ7_bitCount_40 {d : Nat} {G : AH} {l0 : Option AV} {x : Int32} {L : AL} {st : List AV} : At d 352 40 (l0 :: L) (vi x :: st) G = At d 352 41 (some (vi x) :: L) st G := At_istore_n mc352 mk352 mr352 dJ7_bitCount_40 rfl
theorem rJ7_bitCount_41 {d : Nat} {G : AH} {x : Int32} {L : AL} {st : List AV} : At d 352 41 (some (vi x) :: L) st G = At d 352 42 (some (vi x) :: L) (vi x :: st) G := At_iload_n mc352 mk352 mr352 dJ7_bitCount_41 rfl
theorem rJ7_bitCount_42 {d : Nat} {G : AH} {x : Int32} {L : AL} {st : List AV} : At d 352 42 (some (vi x) :: L) st G = At d 352 43 (some (vi x) :: L) (vi x :: st) G := At_iload_n mc352 mk352 mr352 dJ7_bitCount_42 rfl
theorem rJ7_bitCount_43 {d : Nat} {G : AH} {L : AL} {st : List AV} : At d 352 43 L st G = At d 352 45 L (vi (nI 16) :: st) G := At_c2 mc352 mk352 mr352 dJ7_bitCount_43 (by decide)
theorem rJ7_bitCount_45 {d : Nat} {G : AH} {x z : Int32} {L : AL} {st : List AV} : At d 352 45 L (vi z :: vi x :: st) G = At d 352 46 L (vi ((x.toUInt32 >>> (z.toUInt32 &&& Int32.toUInt32 31)).toInt32) :: st) G := At_iushr mc352 mk352 mr352 dJ7_bitCount_45
theorem rJ7_bitCount_46 {d : Nat} {G : AH} {x z : Int32} {L : AL} {st : List AV} : At d 352 46 L (vi z :: vi x :: st) G = At d 352 47 L (vi (x + z) :: st) G := At_iadd mc352 mk352 mr352 dJ7_bitCount_46
theorem rJ7_bitCount_47 {d : Nat} {G : AH} {l0 : Option AV} {x : Int32} {L : AL} {st : List AV} : At d 352 47 (l0 :: L) (vi x :: st) G = At d 352 48 (some (vi x) :: L) st G := At_istore_n mc352 mk352 mr352 dJ7_bitCount_47 rfl
theorem rJ7_bitCount_48 {d : Nat} {G : AH} {x : Int32} {L : AL} {st : List AV} : At d 352 48 (some (vi x) :: L) st G = At d 352 49 (some (vi x) :: L) (vi x :: st) G := At_iload_n mc352 mk352 mr352 dJ7_bitCount_48 rfl
theorem rJ7_bitCount_49 {d : Nat} {G : AH} {L : AL} {st : List AV} : At d 352 49 L st G = At d 352 51 L (vi (nI 63) :: st) G := At_c2 mc352 mk352 mr352 dJ7_bitCount_49 (by decide)
theorem rJ7_bitCount_51 {d : Nat} {G : AH} {x z : Int32} {L : AL} {st : List AV} : At d 352 51 L (vi z :: vi x :: st) G = At d 352 52 L (vi (x &&& z) :: st) G := At_iand mc352 mk352 mr352 dJ7_bitCount_51
theorem rJ7_bitCount_52 {d : Nat} {G : AH} {x : Int32} {L : AL} : At d 352 52 L [vi x] G = some (.inl (some (vi x)), G) := At_iret mc352 mk352 mr352 dJ7_bitCount_52
theorem mw353 : mRow 353 = (cJ16_newLength, 4, 1, 35, []) := rfl
theorem mc353 : mcode 353 = cJ16_newLength := congrArg (fun q => q.1) mw353
theorem mk353 : mcls 353 = 35 := congrArg (fun q => q.2.2.2.1) mw353
theorem mr353 : mret 353 = 1 := congrArg (fun q => q.2.2.1) mw353
theorem mx353 : mmax 353 = 4 := congrArg (fun q => q.2.1) mw353
theorem mh353 : mhnd 353 = [] := congrArg (fun q => q.2.2.2.2) mw353
theorem en353 {d : Nat} {G : AH} {x0 : Int32} {x1 : Int32} {x2 : Int32} : cl d 353 [vi x0, vi x1, vi x2] G = At d 353 0 [some (vi x0), some (vi x1), some (vi x2), none] [] G := by
  unfold cl
  rw [mx353]
  rfl
theorem rJ16_newLength_0 {d : Nat} {G : AH} {x : Int32} {L : AL} {st : List AV} : At d 353 0 (some (vi x) :: L) st G = At d 353 1 (some (vi x) :: L) (vi x :: st) G := At_iload_n mc353 mk353 mr353 dJ16_newLength_0 rfl
theorem rJ16_newLength_1 {d : Nat} {G : AH} {l0 : Option AV} {x : Int32} {L : AL} {st : List AV} : At d 353 1 (l0 :: some (vi x) :: L) st G = At d 353 2 (l0 :: some (vi x) :: L) (vi x :: st) G := At_iload_n mc353 mk353 mr353 dJ16_newLength_1 rfl
theorem rJ16_newLength_2 {d : Nat} {G : AH} {l0 l1 : Option AV} {x : Int32} {L : AL} {st : List AV} : At d 353 2 (l0 :: l1 :: some (vi x) :: L) st G = At d 353 3 (l0 :: l1 :: some (vi x) :: L) (vi x :: st) G := At_iload_n mc353 mk353 mr353 dJ16_newLength_2 rfl
theorem rJ16_newLength_3 {d : Nat} {G : AH} (h0 : 0 < d) {x0 : Int32} {x1 : Int32} {x2 : Int32} {L : AL} : At d 353 3 L [vi x0, vi x1, vi x2] G = bnd (cl (d - 1) 354 [vi x1, vi x0] G) (fun v G => At d 353 6 L (psh v [vi x2]) G) (fun a G => AtX d 353 3 L a G) := At_inv (k := 194) (z := 354) (n := 2) h0 mc353 mk353 mr353 dJ16_newLength_3 rfl rfl rfl (by decide) (Nat.le_of_ble_eq_true rfl) rfl (Nat.le_of_ble_eq_true rfl) (Nat.le_of_ble_eq_true rfl)
theorem rJ16_newLength_6 {d : Nat} {G : AH} {x z : Int32} {L : AL} {st : List AV} : At d 353 6 L (vi z :: vi x :: st) G = At d 353 7 L (vi (x + z) :: st) G := At_iadd mc353 mk353 mr353 dJ16_newLength_6
theorem rJ16_newLength_7 {d : Nat} {G : AH} {l0 l1 l2 l3 : Option AV} {x : Int32} {L : AL} {st : List AV} : At d 353 7 (l0 :: l1 :: l2 :: l3 :: L) (vi x :: st) G = At d 353 8 (l0 :: l1 :: nl l2 :: some (vi x) :: L) st G := At_istore_n mc353 mk353 mr353 dJ16_newLength_7 rfl
theorem rJ16_newLength_8 {d : Nat} {G : AH} {L : AL} {st : List AV} : At d 353 8 L st G = At d 353 9 L (vi (nI 0) :: st) G := At_c1 mc353 mk353 mr353 dJ16_newLength_8 (by decide)
theorem rJ16_newLength_9 {d : Nat} {G : AH} {l0 l1 l2 : Option AV} {x : Int32} {L : AL} {st : List AV} : At d 353 9 (l0 :: l1 :: l2 :: some (vi x) :: L) st G = At d 353 10 (l0 :: l1 :: l2 :: some (vi x) :: L) (vi x :: st) G := At_iload_n mc353 mk353 mr353 dJ16_newLength_9 rfl
theorem rJ16_newLength_10 {d : Nat} {G : AH} {x z : Int32} {L : AL} {st : List AV} : At d 353 10 L (vi z :: vi x :: st) G = if z ≤ x then At d 353 21 L st G else At d 353 13 L st G := At_icmp mc353 mk353 mr353 dJ16_newLength_10 (by decide) cnd_ge
theorem rJ16_newLength_13 {d : Nat} {G : AH} {l0 l1 l2 : Option AV} {x : Int32} {L : AL} {st : List AV} : At d 353 13 (l0 :: l1 :: l2 :: some (vi x) :: L) st G = At d 353 14 (l0 :: l1 :: l2 :: some (vi x) :: L) (vi x :: st) G := At_iload_n mc353 mk353 mr353 dJ16_newLength_13 rfl
theorem rJ16_newLength_14 {d : Nat} {G : AH} {L : AL} {st : List AV} : At d 353 14 L st G = At d 353 16 L (vi (nI 2147483639) :: st) G := At_ldc mc353 mk353 mr353 dJ16_newLength_14 (by decide) rfl
theorem rJ16_newLength_16 {d : Nat} {G : AH} {x z : Int32} {L : AL} {st : List AV} : At d 353 16 L (vi z :: vi x :: st) G = if z < x then At d 353 21 L st G else At d 353 19 L st G := At_icmp mc353 mk353 mr353 dJ16_newLength_16 (by decide) cnd_gt
theorem rJ16_newLength_19 {d : Nat} {G : AH} {l0 l1 l2 : Option AV} {x : Int32} {L : AL} {st : List AV} : At d 353 19 (l0 :: l1 :: l2 :: some (vi x) :: L) st G = At d 353 20 (l0 :: l1 :: l2 :: some (vi x) :: L) (vi x :: st) G := At_iload_n mc353 mk353 mr353 dJ16_newLength_19 rfl
theorem rJ16_newLength_20 {d : Nat} {G : AH} {x : Int32} {L : AL} : At d 353 20 L [vi x] G = some (.inl (some (vi x)), G) := At_iret mc353 mk353 mr353 dJ16_newLength_20
theorem rJ16_newLength_21 {d : Nat} {G : AH} {x : Int32} {L : AL} {st : List AV} : At d 353 21 (some (vi x) :: L) st G = At d 353 22 (some (vi x) :: L) (vi x :: st) G := At_iload_n mc353 mk353 mr353 dJ16_newLength_21 rfl
theorem rJ16_newLength_22 {d : Nat} {G : AH} {l0 : Option AV} {x : Int32} {L : AL} {st : List AV} : At d 353 22 (l0 :: some (vi x) :: L) st G = At d 353 23 (l0 :: some (vi x) :: L) (vi x :: st) G := At_iload_n mc353 mk353 mr353 dJ16_newLength_22 rfl
theorem rJ16_newLength_26 {d : Nat} {G : AH} {x : Int32} {L : AL} : At d 353 26 L [vi x] G = some (.inl (some (vi x)), G) := At_iret mc353 mk353 mr353 dJ16_newLength_26
theorem mw354 : mRow 354 = (cJ17_max, 2, 1, 36, []) := rfl
theorem mc354 : mcode 354 = cJ17_max := congrArg (fun q => q.1) mw354
theorem mk354 : mcls 354 = 36 := congrArg (fun q => q.2.2.2.1) mw354
theorem mr354 : mret 354 = 1 := congrArg (fun q => q.2.2.1) mw354
theorem mx354 : mmax 354 = 2 := congrArg (fun q => q.2.1) mw354
theorem mh354 : mhnd 354 = [] := congrArg (fun q => q.2.2.2.2) mw354
theorem en354 {d : Nat} {G : AH} {x0 : Int32} {x1 : Int32} : cl d 354 [vi x0, vi x1] G = At d 354 0 [some (vi x0), some (vi x1)] [] G := by
  unfold cl
  rw [mx354]
  rfl
theorem rJ17_max_0 {d : Nat} {G : AH} {x : Int32} {L : AL} {st : List AV} : At d 354 0 (some (vi x) :: L) st G = At d 354 1 (some (vi x) :: L) (vi x :: st) G := At_iload_n mc354 mk354 mr354 dJ17_max_0 rfl
theorem rJ17_max_1 {d : Nat} {G : AH} {l0 : Option AV} {x : Int32} {L : AL} {st : List AV} : At d 354 1 (l0 :: some (vi x) :: L) st G = At d 354 2 (l0 :: some (vi x) :: L) (vi x :: st) G := At_iload_n mc354 mk354 mr354 dJ17_max_1 rfl
theorem rJ17_max_2 {d : Nat} {G : AH} {x z : Int32} {L : AL} {st : List AV} : At d 354 2 L (vi z :: vi x :: st) G = if x < z then At d 354 9 L st G else At d 354 5 L st G := At_icmp mc354 mk354 mr354 dJ17_max_2 (by decide) cnd_lt
theorem rJ17_max_5 {d : Nat} {G : AH} {x : Int32} {L : AL} {st : List AV} : At d 354 5 (some (vi x) :: L) st G = At d 354 6 (some (vi x) :: L) (vi x :: st) G := At_iload_n mc354 mk354 mr354 dJ17_max_5 rfl
theorem rJ17_max_6 {d : Nat} {G : AH} {L : AL} {st : List AV} : At d 354 6 L st G = At d 354 10 L st G := At_goto mc354 mk354 mr354 dJ17_max_6 (by decide)
theorem rJ17_max_9 {d : Nat} {G : AH} {l0 : Option AV} {x : Int32} {L : AL} {st : List AV} : At d 354 9 (l0 :: some (vi x) :: L) st G = At d 354 10 (l0 :: some (vi x) :: L) (vi x :: st) G := At_iload_n mc354 mk354 mr354 dJ17_max_9 rfl
theorem rJ17_max_10 {d : Nat} {G : AH} {x : Int32} {L : AL} : At d 354 10 L [vi x] G = some (.inl (some (vi x)), G) := At_iret mc354 mk354 mr354 dJ17_max_10
theorem mw355 : mRow 355 = (cJ17_min, 2, 1, 36, []) := rfl
theorem mc355 : mcode 355 = cJ17_min := congrArg (fun q => q.1) mw355
theorem mk355 : mcls 355 = 36 := congrArg (fun q => q.2.2.2.1) mw355
theorem mr355 : mret 355 = 1 := congrArg (fun q => q.2.2.1) mw355
theorem mx355 : mmax 355 = 2 := congrArg (fun q => q.2.1) mw355
theorem mh355 : mhnd 355 = [] := congrArg (fun q => q.2.2.2.2) mw355
theorem en355 {d : Nat} {G : AH} {x0 : Int32} {x1 : Int32} : cl d 355 [vi x0, vi x1] G = At d 355 0 [some (vi x0), some (vi x1)] [] G := by
  unfold cl
  rw [mx355]
  rfl
theorem rJ17_min_0 {d : Nat} {G : AH} {x : Int32} {L : AL} {st : List AV} : At d 355 0 (some (vi x) :: L) st G = At d 355 1 (some (vi x) :: L) (vi x :: st) G := At_iload_n mc355 mk355 mr355 dJ17_min_0 rfl
theorem rJ17_min_1 {d : Nat} {G : AH} {l0 : Option AV} {x : Int32} {L : AL} {st : List AV} : At d 355 1 (l0 :: some (vi x) :: L) st G = At d 355 2 (l0 :: some (vi x) :: L) (vi x :: st) G := At_iload_n mc355 mk355 mr355 dJ17_min_1 rfl
theorem rJ17_min_2 {d : Nat} {G : AH} {x z : Int32} {L : AL} {st : List AV} : At d 355 2 L (vi z :: vi x :: st) G = if z < x then At d 355 9 L st G else At d 355 5 L st G := At_icmp mc355 mk355 mr355 dJ17_min_2 (by decide) cnd_gt
theorem rJ17_min_5 {d : Nat} {G : AH} {x : Int32} {L : AL} {st : List AV} : At d 355 5 (some (vi x) :: L) st G = At d 355 6 (some (vi x) :: L) (vi x :: st) G := At_iload_n mc355 mk355 mr355 dJ17_min_5 rfl
theorem rJ17_min_6 {d : Nat} {G : AH} {L : AL} {st : List AV} : At d 355 6 L st G = At d 355 10 L st G := At_goto mc355 mk355 mr355 dJ17_min_6 (by decide)
theorem rJ17_min_9 {d : Nat} {G : AH} {l0 : Option AV} {x : Int32} {L : AL} {st : List AV} : At d 355 9 (l0 :: some (vi x) :: L) st G = At d 355 10 (l0 :: some (vi x) :: L) (vi x :: st) G := At_iload_n mc355 mk355 mr355 dJ17_min_9 rfl
theorem rJ17_min_10 {d : Nat} {G : AH} {x : Int32} {L : AL} : At d 355 10 L [vi x] G = some (.inl (some (vi x)), G) := At_iret mc355 mk355 mr355 dJ17_min_10
theorem mw356 : mRow 356 = (cJ17_abs, 1, 1, 36, []) := rfl
theorem mc356 : mcode 356 = cJ17_abs := congrArg (fun q => q.1) mw356
theorem mk356 : mcls 356 = 36 := congrArg (fun q => q.2.2.2.1) mw356
theorem mr356 : mret 356 = 1 := congrArg (fun q => q.2.2.1) mw356
theorem mx356 : mmax 356 = 1 := congrArg (fun q => q.2.1) mw356
theorem mh356 : mhnd 356 = [] := congrArg (fun q => q.2.2.2.2) mw356
theorem en356 {d : Nat} {G : AH} {x0 : Int32} : cl d 356 [vi x0] G = At d 356 0 [some (vi x0)] [] G := by
  unfold cl
  rw [mx356]
  rfl
theorem rJ17_abs_0 {d : Nat} {G : AH} {x : Int32} {L : AL} {st : List AV} : At d 356 0 (some (vi x) :: L) st G = At d 356 1 (some (vi x) :: L) (vi x :: st) G := At_iload_n mc356 mk356 mr356 dJ17_abs_0 rfl
theorem rJ17_abs_1 {d : Nat} {G : AH} {x : Int32} {L : AL} {st : List AV} : At d 356 1 L (vi x :: st) G = if nI 0 ≤ x then At d 356 9 L st G else At d 356 4 L st G := At_if mc356 mk356 mr356 dJ17_abs_1 (by decide) cnd_ge
theorem rJ17_abs_4 {d : Nat} {G : AH} {x : Int32} {L : AL} {st : List AV} : At d 356 4 (some (vi x) :: L) st G = At d 356 5 (some (vi x) :: L) (vi x :: st) G := At_iload_n mc356 mk356 mr356 dJ17_abs_4 rfl
theorem rJ17_abs_5 {d : Nat} {G : AH} {x : Int32} {L : AL} {st : List AV} : At d 356 5 L (vi x :: st) G = At d 356 6 L (vi (-x) :: st) G := At_ineg mc356 mk356 mr356 dJ17_abs_5
theorem rJ17_abs_6 {d : Nat} {G : AH} {L : AL} {st : List AV} : At d 356 6 L st G = At d 356 10 L st G := At_goto mc356 mk356 mr356 dJ17_abs_6 (by decide)
theorem rJ17_abs_9 {d : Nat} {G : AH} {x : Int32} {L : AL} {st : List AV} : At d 356 9 (some (vi x) :: L) st G = At d 356 10 (some (vi x) :: L) (vi x :: st) G := At_iload_n mc356 mk356 mr356 dJ17_abs_9 rfl
theorem rJ17_abs_10 {d : Nat} {G : AH} {x : Int32} {L : AL} : At d 356 10 L [vi x] G = some (.inl (some (vi x)), G) := At_iret mc356 mk356 mr356 dJ17_abs_10
