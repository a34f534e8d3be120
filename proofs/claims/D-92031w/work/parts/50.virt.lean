/-! calls with several bodies, merged; printed by wip/gen/gen_virt.py -/
def vd0 (t : Nat) : Nat := if t = 3 then 277 else if t = 4 then 285 else 285
theorem vd0_3 : vd0 3 = 277 := by decide
theorem vd0_4 : vd0 4 = 285 := by decide
theorem vd0_5 : vd0 5 = 285 := by decide
theorem rX0_known_34_v {d : Nat} {G : AH} (h0 : 0 < d) {a : Nat} {x1 : Int64} {L : AL} (ht : List.contains [3, 4, 5] (hT G a) = true) : At d 11 34 L [vr (some a), vl x1] G = bnd (cl (d - 1) (vd0 (hT G a)) [vr (some a)] G) (fun v G => At d 11 37 L (psh v [vl x1]) G) (fun a G => AtX d 11 34 L a G) := by
  have hh : hT G a = 3 ∨ hT G a = 4 ∨ hT G a = 5 := by simpa using ht
  rcases hh with h | h | h
  · rw [rX0_known_34_t3 h0 h, h, vd0_3]
  · rw [rX0_known_34_t4 h0 h, h, vd0_4]
  · rw [rX0_known_34_t5 h0 h, h, vd0_5]
def vd1 (t : Nat) : Nat := if t = 3 then 278 else if t = 4 then 286 else 286
theorem vd1_3 : vd1 3 = 278 := by decide
theorem vd1_4 : vd1 4 = 286 := by decide
theorem vd1_5 : vd1 5 = 286 := by decide
theorem rX0_known_63_v {d : Nat} {G : AH} (h0 : 0 < d) {a : Nat} {x1 : Int64} {L : AL} (ht : List.contains [3, 4, 5] (hT G a) = true) : At d 11 63 L [vr (some a), vl x1] G = bnd (cl (d - 1) (vd1 (hT G a)) [vr (some a)] G) (fun v G => At d 11 66 L (psh v [vl x1]) G) (fun a G => AtX d 11 63 L a G) := by
  have hh : hT G a = 3 ∨ hT G a = 4 ∨ hT G a = 5 := by simpa using ht
  rcases hh with h | h | h
  · rw [rX0_known_63_t3 h0 h, h, vd1_3]
  · rw [rX0_known_63_t4 h0 h, h, vd1_4]
  · rw [rX0_known_63_t5 h0 h, h, vd1_5]
def vd2 (t : Nat) : Nat := if t = 7 then 295 else if t = 8 then 295 else if t = 9 then 295 else if t = 10 then 295 else 321
theorem vd2_7 : vd2 7 = 295 := by decide
theorem vd2_8 : vd2 8 = 295 := by decide
theorem vd2_9 : vd2 9 = 295 := by decide
theorem vd2_10 : vd2 10 = 295 := by decide
theorem vd2_11 : vd2 11 = 321 := by decide
theorem rX0_wallsBecome_33_v {d : Nat} {G : AH} (h0 : 0 < d) {a : Nat} {L : AL} (ht : List.contains [7, 8, 9, 10, 11] (hT G a) = true) : At d 17 33 L [vr (some a)] G = bnd (cl (d - 1) (vd2 (hT G a)) [vr (some a)] G) (fun v G => At d 17 36 L (psh v []) G) (fun a G => AtX d 17 33 L a G) := by
  have hh : hT G a = 7 ∨ hT G a = 8 ∨ hT G a = 9 ∨ hT G a = 10 ∨ hT G a = 11 := by simpa using ht
  rcases hh with h | h | h | h | h
  · rw [rX0_wallsBecome_33_t7 h0 h, h, vd2_7]
  · rw [rX0_wallsBecome_33_t8 h0 h, h, vd2_8]
  · rw [rX0_wallsBecome_33_t9 h0 h, h, vd2_9]
  · rw [rX0_wallsBecome_33_t10 h0 h, h, vd2_10]
  · rw [rX0_wallsBecome_33_t11 h0 h, h, vd2_11]
theorem rX0_box_27_v {d : Nat} {G : AH} (h0 : 0 < d) {a : Nat} {L : AL} (ht : List.contains [3, 4, 5] (hT G a) = true) : At d 32 27 L [vr (some a)] G = bnd (cl (d - 1) (vd0 (hT G a)) [vr (some a)] G) (fun v G => At d 32 30 L (psh v []) G) (fun a G => AtX d 32 27 L a G) := by
  have hh : hT G a = 3 ∨ hT G a = 4 ∨ hT G a = 5 := by simpa using ht
  rcases hh with h | h | h
  · rw [rX0_box_27_t3 h0 h, h, vd0_3]
  · rw [rX0_box_27_t4 h0 h, h, vd0_4]
  · rw [rX0_box_27_t5 h0 h, h, vd0_5]
theorem rX0_box_145_v {d : Nat} {G : AH} (h0 : 0 < d) {a : Nat} {L : AL} (ht : List.contains [3, 4, 5] (hT G a) = true) : At d 32 145 L [vr (some a)] G = bnd (cl (d - 1) (vd1 (hT G a)) [vr (some a)] G) (fun v G => At d 32 148 L (psh v []) G) (fun a G => AtX d 32 145 L a G) := by
  have hh : hT G a = 3 ∨ hT G a = 4 ∨ hT G a = 5 := by simpa using ht
  rcases hh with h | h | h
  · rw [rX0_box_145_t3 h0 h, h, vd1_3]
  · rw [rX0_box_145_t4 h0 h, h, vd1_4]
  · rw [rX0_box_145_t5 h0 h, h, vd1_5]
def vd3 (t : Nat) : Nat := if t = 3 then 280 else if t = 4 then 288 else 291
theorem vd3_3 : vd3 3 = 280 := by decide
theorem vd3_4 : vd3 4 = 288 := by decide
theorem vd3_5 : vd3 5 = 291 := by decide
theorem rX0_about_77_v {d : Nat} {G : AH} (h0 : 0 < d) {a : Nat} {L : AL} (ht : List.contains [3, 4, 5] (hT G a) = true) : At d 35 77 L [vr (some a)] G = bnd (cl (d - 1) (vd3 (hT G a)) [vr (some a)] G) (fun v G => At d 35 80 L (psh v []) G) (fun a G => AtX d 35 77 L a G) := by
  have hh : hT G a = 3 ∨ hT G a = 4 ∨ hT G a = 5 := by simpa using ht
  rcases hh with h | h | h
  · rw [rX0_about_77_t3 h0 h, h, vd3_3]
  · rw [rX0_about_77_t4 h0 h, h, vd3_4]
  · rw [rX0_about_77_t5 h0 h, h, vd3_5]
theorem rX0_about_82_v {d : Nat} {G : AH} (h0 : 0 < d) {a : Nat} {L : AL} (ht : List.contains [3, 4, 5] (hT G a) = true) : At d 35 82 L [vr (some a)] G = bnd (cl (d - 1) (vd1 (hT G a)) [vr (some a)] G) (fun v G => At d 35 85 L (psh v []) G) (fun a G => AtX d 35 82 L a G) := by
  have hh : hT G a = 3 ∨ hT G a = 4 ∨ hT G a = 5 := by simpa using ht
  rcases hh with h | h | h
  · rw [rX0_about_82_t3 h0 h, h, vd1_3]
  · rw [rX0_about_82_t4 h0 h, h, vd1_4]
  · rw [rX0_about_82_t5 h0 h, h, vd1_5]
theorem rX0_settle_30_v {d : Nat} {G : AH} (h0 : 0 < d) {a : Nat} {x1 : Int32} {o2 : Option Nat} {L : AL} (ht : List.contains [3, 4, 5] (hT G a) = true) : At d 38 30 L [vr (some a), vi x1, vr o2] G = bnd (cl (d - 1) (vd1 (hT G a)) [vr (some a)] G) (fun v G => At d 38 33 L (psh v [vi x1, vr o2]) G) (fun a G => AtX d 38 30 L a G) := by
  have hh : hT G a = 3 ∨ hT G a = 4 ∨ hT G a = 5 := by simpa using ht
  rcases hh with h | h | h
  · rw [rX0_settle_30_t3 h0 h, h, vd1_3]
  · rw [rX0_settle_30_t4 h0 h, h, vd1_4]
  · rw [rX0_settle_30_t5 h0 h, h, vd1_5]
theorem rX0_measuresOf_51_v {d : Nat} {G : AH} (h0 : 0 < d) {x0 : Int32} {a : Nat} {x2 : Int32} {L : AL} (ht : List.contains [7, 8, 9, 10, 11] (hT G a) = true) : At d 42 51 L [vi x0, vr (some a), vi x2] G = bnd (cl (d - 1) 296 [vr (some a), vi x0] G) (fun v G => At d 42 54 L (psh v [vi x2]) G) (fun a G => AtX d 42 51 L a G) := by
  have hh : hT G a = 7 ∨ hT G a = 8 ∨ hT G a = 9 ∨ hT G a = 10 ∨ hT G a = 11 := by simpa using ht
  rcases hh with h | h | h | h | h
  · exact rX0_measuresOf_51_t7 h0 h
  · exact rX0_measuresOf_51_t8 h0 h
  · exact rX0_measuresOf_51_t9 h0 h
  · exact rX0_measuresOf_51_t10 h0 h
  · exact rX0_measuresOf_51_t11 h0 h
theorem rX0_can_52_v {d : Nat} {G : AH} (h0 : 0 < d) {a : Nat} {L : AL} (ht : List.contains [3, 4, 5] (hT G a) = true) : At d 43 52 L [vr (some a)] G = bnd (cl (d - 1) (vd1 (hT G a)) [vr (some a)] G) (fun v G => At d 43 55 L (psh v []) G) (fun a G => AtX d 43 52 L a G) := by
  have hh : hT G a = 3 ∨ hT G a = 4 ∨ hT G a = 5 := by simpa using ht
  rcases hh with h | h | h
  · rw [rX0_can_52_t3 h0 h, h, vd1_3]
  · rw [rX0_can_52_t4 h0 h, h, vd1_4]
  · rw [rX0_can_52_t5 h0 h, h, vd1_5]
def vd4 (t : Nat) : Nat := if t = 7 then 298 else if t = 8 then 298 else if t = 9 then 298 else if t = 10 then 298 else 322
theorem vd4_7 : vd4 7 = 298 := by decide
theorem vd4_8 : vd4 8 = 298 := by decide
theorem vd4_9 : vd4 9 = 298 := by decide
theorem vd4_10 : vd4 10 = 298 := by decide
theorem vd4_11 : vd4 11 = 322 := by decide
theorem rX0_lays_15_v {d : Nat} {G : AH} (h0 : 0 < d) {a : Nat} {L : AL} (ht : List.contains [7, 8, 9, 10, 11] (hT G a) = true) : At d 50 15 L [vr (some a)] G = bnd (cl (d - 1) (vd4 (hT G a)) [vr (some a)] G) (fun v G => At d 50 18 L (psh v []) G) (fun a G => AtX d 50 15 L a G) := by
  have hh : hT G a = 7 ∨ hT G a = 8 ∨ hT G a = 9 ∨ hT G a = 10 ∨ hT G a = 11 := by simpa using ht
  rcases hh with h | h | h | h | h
  · rw [rX0_lays_15_t7 h0 h, h, vd4_7]
  · rw [rX0_lays_15_t8 h0 h, h, vd4_8]
  · rw [rX0_lays_15_t9 h0 h, h, vd4_9]
  · rw [rX0_lays_15_t10 h0 h, h, vd4_10]
  · rw [rX0_lays_15_t11 h0 h, h, vd4_11]
def vd5 (t : Nat) : Nat := if t = 7 then 308 else if t = 8 then 308 else if t = 9 then 308 else if t = 10 then 320 else 325
theorem vd5_7 : vd5 7 = 308 := by decide
theorem vd5_8 : vd5 8 = 308 := by decide
theorem vd5_9 : vd5 9 = 308 := by decide
theorem vd5_10 : vd5 10 = 320 := by decide
theorem vd5_11 : vd5 11 = 325 := by decide
theorem rX0_told_84_v {d : Nat} {G : AH} (h0 : 0 < d) {a : Nat} {L : AL} (ht : List.contains [7, 8, 9, 10, 11] (hT G a) = true) : At d 58 84 L [vr (some a)] G = bnd (cl (d - 1) (vd5 (hT G a)) [vr (some a)] G) (fun v G => At d 58 87 L (psh v []) G) (fun a G => AtX d 58 84 L a G) := by
  have hh : hT G a = 7 ∨ hT G a = 8 ∨ hT G a = 9 ∨ hT G a = 10 ∨ hT G a = 11 := by simpa using ht
  rcases hh with h | h | h | h | h
  · rw [rX0_told_84_t7 h0 h, h, vd5_7]
  · rw [rX0_told_84_t8 h0 h, h, vd5_8]
  · rw [rX0_told_84_t9 h0 h, h, vd5_9]
  · rw [rX0_told_84_t10 h0 h, h, vd5_10]
  · rw [rX0_told_84_t11 h0 h, h, vd5_11]
def vd6 (t : Nat) : Nat := if t = 7 then 309 else if t = 8 then 309 else if t = 9 then 309 else if t = 10 then 300 else 309
theorem vd6_7 : vd6 7 = 309 := by decide
theorem vd6_8 : vd6 8 = 309 := by decide
theorem vd6_9 : vd6 9 = 309 := by decide
theorem vd6_10 : vd6 10 = 300 := by decide
theorem vd6_11 : vd6 11 = 309 := by decide
theorem rX0_told_89_v {d : Nat} {G : AH} (h0 : 0 < d) {a : Nat} {L : AL} (ht : List.contains [7, 8, 9, 10, 11] (hT G a) = true) : At d 58 89 L [vr (some a)] G = bnd (cl (d - 1) (vd6 (hT G a)) [vr (some a)] G) (fun v G => At d 58 92 L (psh v []) G) (fun a G => AtX d 58 89 L a G) := by
  have hh : hT G a = 7 ∨ hT G a = 8 ∨ hT G a = 9 ∨ hT G a = 10 ∨ hT G a = 11 := by simpa using ht
  rcases hh with h | h | h | h | h
  · rw [rX0_told_89_t7 h0 h, h, vd6_7]
  · rw [rX0_told_89_t8 h0 h, h, vd6_8]
  · rw [rX0_told_89_t9 h0 h, h, vd6_9]
  · rw [rX0_told_89_t10 h0 h, h, vd6_10]
  · rw [rX0_told_89_t11 h0 h, h, vd6_11]
theorem rX0_groupOf_13_v {d : Nat} {G : AH} (h0 : 0 < d) {a : Nat} {L : AL} (ht : List.contains [3, 4, 5] (hT G a) = true) : At d 65 13 L [vr (some a)] G = bnd (cl (d - 1) (vd0 (hT G a)) [vr (some a)] G) (fun v G => At d 65 16 L (psh v []) G) (fun a G => AtX d 65 13 L a G) := by
  have hh : hT G a = 3 ∨ hT G a = 4 ∨ hT G a = 5 := by simpa using ht
  rcases hh with h | h | h
  · rw [rX0_groupOf_13_t3 h0 h, h, vd0_3]
  · rw [rX0_groupOf_13_t4 h0 h, h, vd0_4]
  · rw [rX0_groupOf_13_t5 h0 h, h, vd0_5]
theorem rX0_isJoining_23_v {d : Nat} {G : AH} (h0 : 0 < d) {a : Nat} {L : AL} (ht : List.contains [3, 4, 5] (hT G a) = true) : At d 67 23 L [vr (some a)] G = bnd (cl (d - 1) (vd0 (hT G a)) [vr (some a)] G) (fun v G => At d 67 26 L (psh v []) G) (fun a G => AtX d 67 23 L a G) := by
  have hh : hT G a = 3 ∨ hT G a = 4 ∨ hT G a = 5 := by simpa using ht
  rcases hh with h | h | h
  · rw [rX0_isJoining_23_t3 h0 h, h, vd0_3]
  · rw [rX0_isJoining_23_t4 h0 h, h, vd0_4]
  · rw [rX0_isJoining_23_t5 h0 h, h, vd0_5]
theorem rX0_isJoining_45_v {d : Nat} {G : AH} (h0 : 0 < d) {a : Nat} {L : AL} (ht : List.contains [3, 4, 5] (hT G a) = true) : At d 67 45 L [vr (some a)] G = bnd (cl (d - 1) (vd0 (hT G a)) [vr (some a)] G) (fun v G => At d 67 48 L (psh v []) G) (fun a G => AtX d 67 45 L a G) := by
  have hh : hT G a = 3 ∨ hT G a = 4 ∨ hT G a = 5 := by simpa using ht
  rcases hh with h | h | h
  · rw [rX0_isJoining_45_t3 h0 h, h, vd0_3]
  · rw [rX0_isJoining_45_t4 h0 h, h, vd0_4]
  · rw [rX0_isJoining_45_t5 h0 h, h, vd0_5]
theorem rX0_allowed_58_v {d : Nat} {G : AH} (h0 : 0 < d) {x0 : Int32} {a : Nat} {L : AL} (ht : List.contains [7, 8, 9, 10, 11] (hT G a) = true) : At d 76 58 L [vi x0, vr (some a)] G = bnd (cl (d - 1) 296 [vr (some a), vi x0] G) (fun v G => At d 76 61 L (psh v []) G) (fun a G => AtX d 76 58 L a G) := by
  have hh : hT G a = 7 ∨ hT G a = 8 ∨ hT G a = 9 ∨ hT G a = 10 ∨ hT G a = 11 := by simpa using ht
  rcases hh with h | h | h | h | h
  · exact rX0_allowed_58_t7 h0 h
  · exact rX0_allowed_58_t8 h0 h
  · exact rX0_allowed_58_t9 h0 h
  · exact rX0_allowed_58_t10 h0 h
  · exact rX0_allowed_58_t11 h0 h
theorem rX0_allowed_71_v {d : Nat} {G : AH} (h0 : 0 < d) {x0 : Int32} {a : Nat} {o2 : Option Nat} {L : AL} (ht : List.contains [7, 8, 9, 10, 11] (hT G a) = true) : At d 76 71 L [vi x0, vr (some a), vr o2] G = bnd (cl (d - 1) 301 [vr (some a), vi x0] G) (fun v G => At d 76 74 L (psh v [vr o2]) G) (fun a G => AtX d 76 71 L a G) := by
  have hh : hT G a = 7 ∨ hT G a = 8 ∨ hT G a = 9 ∨ hT G a = 10 ∨ hT G a = 11 := by simpa using ht
  rcases hh with h | h | h | h | h
  · exact rX0_allowed_71_t7 h0 h
  · exact rX0_allowed_71_t8 h0 h
  · exact rX0_allowed_71_t9 h0 h
  · exact rX0_allowed_71_t10 h0 h
  · exact rX0_allowed_71_t11 h0 h
theorem rX0_allowed_102_v {d : Nat} {G : AH} (h0 : 0 < d) {x0 : Int32} {x1 : Int32} {a : Nat} {x3 : Int64} {L : AL} (ht : List.contains [7, 8, 9, 10, 11] (hT G a) = true) : At d 76 102 L [vi x0, vi x1, vr (some a), vl x3] G = bnd (cl (d - 1) 302 [vr (some a), vi x1, vi x0] G) (fun v G => At d 76 105 L (psh v [vl x3]) G) (fun a G => AtX d 76 102 L a G) := by
  have hh : hT G a = 7 ∨ hT G a = 8 ∨ hT G a = 9 ∨ hT G a = 10 ∨ hT G a = 11 := by simpa using ht
  rcases hh with h | h | h | h | h
  · exact rX0_allowed_102_t7 h0 h
  · exact rX0_allowed_102_t8 h0 h
  · exact rX0_allowed_102_t9 h0 h
  · exact rX0_allowed_102_t10 h0 h
  · exact rX0_allowed_102_t11 h0 h
theorem rX0_check_39_v {d : Nat} {G : AH} (h0 : 0 < d) {a : Nat} {L : AL} (ht : List.contains [3, 4, 5] (hT G a) = true) : At d 88 39 L [vr (some a)] G = bnd (cl (d - 1) (vd1 (hT G a)) [vr (some a)] G) (fun v G => At d 88 42 L (psh v []) G) (fun a G => AtX d 88 39 L a G) := by
  have hh : hT G a = 3 ∨ hT G a = 4 ∨ hT G a = 5 := by simpa using ht
  rcases hh with h | h | h
  · rw [rX0_check_39_t3 h0 h, h, vd1_3]
  · rw [rX0_check_39_t4 h0 h, h, vd1_4]
  · rw [rX0_check_39_t5 h0 h, h, vd1_5]
theorem rX0_mayJoint_33_v {d : Nat} {G : AH} (h0 : 0 < d) {a : Nat} {L : AL} (ht : List.contains [3, 4, 5] (hT G a) = true) : At d 95 33 L [vr (some a)] G = bnd (cl (d - 1) (vd0 (hT G a)) [vr (some a)] G) (fun v G => At d 95 36 L (psh v []) G) (fun a G => AtX d 95 33 L a G) := by
  have hh : hT G a = 3 ∨ hT G a = 4 ∨ hT G a = 5 := by simpa using ht
  rcases hh with h | h | h
  · rw [rX0_mayJoint_33_t3 h0 h, h, vd0_3]
  · rw [rX0_mayJoint_33_t4 h0 h, h, vd0_4]
  · rw [rX0_mayJoint_33_t5 h0 h, h, vd0_5]
theorem rX0_areTurned_92_v {d : Nat} {G : AH} (h0 : 0 < d) {a : Nat} {L : AL} (ht : List.contains [3, 4, 5] (hT G a) = true) : At d 102 92 L [vr (some a)] G = bnd (cl (d - 1) (vd1 (hT G a)) [vr (some a)] G) (fun v G => At d 102 95 L (psh v []) G) (fun a G => AtX d 102 92 L a G) := by
  have hh : hT G a = 3 ∨ hT G a = 4 ∨ hT G a = 5 := by simpa using ht
  rcases hh with h | h | h
  · rw [rX0_areTurned_92_t3 h0 h, h, vd1_3]
  · rw [rX0_areTurned_92_t4 h0 h, h, vd1_4]
  · rw [rX0_areTurned_92_t5 h0 h, h, vd1_5]
def vd7 (t : Nat) : Nat := if t = 3 then 281 else if t = 4 then 281 else 292
theorem vd7_3 : vd7 3 = 281 := by decide
theorem vd7_4 : vd7 4 = 281 := by decide
theorem vd7_5 : vd7 5 = 292 := by decide
theorem rX0_findLiars_91_v {d : Nat} {G : AH} (h0 : 0 < d) {a : Nat} {L : AL} (ht : List.contains [3, 4, 5] (hT G a) = true) : At d 116 91 L [vr (some a)] G = bnd (cl (d - 1) (vd7 (hT G a)) [vr (some a)] G) (fun v G => At d 116 94 L (psh v []) G) (fun a G => AtX d 116 91 L a G) := by
  have hh : hT G a = 3 ∨ hT G a = 4 ∨ hT G a = 5 := by simpa using ht
  rcases hh with h | h | h
  · rw [rX0_findLiars_91_t3 h0 h, h, vd7_3]
  · rw [rX0_findLiars_91_t4 h0 h, h, vd7_4]
  · rw [rX0_findLiars_91_t5 h0 h, h, vd7_5]
theorem rX0_findLiars_148_v {d : Nat} {G : AH} (h0 : 0 < d) {a : Nat} {L : AL} (ht : List.contains [3, 4, 5] (hT G a) = true) : At d 116 148 L [vr (some a)] G = bnd (cl (d - 1) (vd7 (hT G a)) [vr (some a)] G) (fun v G => At d 116 151 L (psh v []) G) (fun a G => AtX d 116 148 L a G) := by
  have hh : hT G a = 3 ∨ hT G a = 4 ∨ hT G a = 5 := by simpa using ht
  rcases hh with h | h | h
  · rw [rX0_findLiars_148_t3 h0 h, h, vd7_3]
  · rw [rX0_findLiars_148_t4 h0 h, h, vd7_4]
  · rw [rX0_findLiars_148_t5 h0 h, h, vd7_5]
def vd8 (t : Nat) : Nat := if t = 3 then 283 else if t = 4 then 289 else 293
theorem vd8_3 : vd8 3 = 283 := by decide
theorem vd8_4 : vd8 4 = 289 := by decide
theorem vd8_5 : vd8 5 = 293 := by decide
theorem rX0_tell_43_v {d : Nat} {G : AH} (h0 : 0 < d) {a : Nat} {L : AL} (ht : List.contains [3, 4, 5] (hT G a) = true) : At d 128 43 L [vr (some a)] G = bnd (cl (d - 1) (vd8 (hT G a)) [vr (some a)] G) (fun v G => At d 128 46 L (psh v []) G) (fun a G => AtX d 128 43 L a G) := by
  have hh : hT G a = 3 ∨ hT G a = 4 ∨ hT G a = 5 := by simpa using ht
  rcases hh with h | h | h
  · rw [rX0_tell_43_t3 h0 h, h, vd8_3]
  · rw [rX0_tell_43_t4 h0 h, h, vd8_4]
  · rw [rX0_tell_43_t5 h0 h, h, vd8_5]
def vd9 (t : Nat) : Nat := if t = 7 then 310 else if t = 8 then 313 else if t = 9 then 317 else if t = 10 then 304 else 326
theorem vd9_7 : vd9 7 = 310 := by decide
theorem vd9_8 : vd9 8 = 313 := by decide
theorem vd9_9 : vd9 9 = 317 := by decide
theorem vd9_10 : vd9 10 = 304 := by decide
theorem vd9_11 : vd9 11 = 326 := by decide
theorem rX0_tell_61_v {d : Nat} {G : AH} (h0 : 0 < d) {a : Nat} {L : AL} (ht : List.contains [7, 8, 9, 10, 11] (hT G a) = true) : At d 128 61 L [vr (some a)] G = bnd (cl (d - 1) (vd9 (hT G a)) [vr (some a)] G) (fun v G => At d 128 64 L (psh v []) G) (fun a G => AtX d 128 61 L a G) := by
  have hh : hT G a = 7 ∨ hT G a = 8 ∨ hT G a = 9 ∨ hT G a = 10 ∨ hT G a = 11 := by simpa using ht
  rcases hh with h | h | h | h | h
  · rw [rX0_tell_61_t7 h0 h, h, vd9_7]
  · rw [rX0_tell_61_t8 h0 h, h, vd9_8]
  · rw [rX0_tell_61_t9 h0 h, h, vd9_9]
  · rw [rX0_tell_61_t10 h0 h, h, vd9_10]
  · rw [rX0_tell_61_t11 h0 h, h, vd9_11]
def vd10 (t : Nat) : Nat := if t = 3 then 329 else if t = 4 then 329 else 294
theorem vd10_3 : vd10 3 = 329 := by decide
theorem vd10_4 : vd10 4 = 329 := by decide
theorem vd10_5 : vd10 5 = 294 := by decide
theorem rX0_greeted_1_v {d : Nat} {G : AH} (h0 : 0 < d) {a : Nat} {L : AL} (ht : List.contains [3, 4, 5] (hT G a) = true) : At d 131 1 L [vr (some a)] G = bnd (cl (d - 1) (vd10 (hT G a)) [vr (some a)] G) (fun v G => At d 131 6 L (psh v []) G) (fun a G => AtX d 131 1 L a G) := by
  have hh : hT G a = 3 ∨ hT G a = 4 ∨ hT G a = 5 := by simpa using ht
  rcases hh with h | h | h
  · rw [rX0_greeted_1_t3 h0 h, h, vd10_3]
  · rw [rX0_greeted_1_t4 h0 h, h, vd10_4]
  · rw [rX0_greeted_1_t5 h0 h, h, vd10_5]
def vd11 (t : Nat) : Nat := if t = 7 then 330 else if t = 8 then 314 else if t = 9 then 314 else if t = 10 then 330 else 327
theorem vd11_7 : vd11 7 = 330 := by decide
theorem vd11_8 : vd11 8 = 314 := by decide
theorem vd11_9 : vd11 9 = 314 := by decide
theorem vd11_10 : vd11 10 = 330 := by decide
theorem vd11_11 : vd11 11 = 327 := by decide
theorem rX0_weighed_1_v {d : Nat} {G : AH} (h0 : 0 < d) {a : Nat} {L : AL} (ht : List.contains [7, 8, 9, 10, 11] (hT G a) = true) : At d 132 1 L [vr (some a)] G = bnd (cl (d - 1) (vd11 (hT G a)) [vr (some a)] G) (fun v G => At d 132 6 L (psh v []) G) (fun a G => AtX d 132 1 L a G) := by
  have hh : hT G a = 7 ∨ hT G a = 8 ∨ hT G a = 9 ∨ hT G a = 10 ∨ hT G a = 11 := by simpa using ht
  rcases hh with h | h | h | h | h
  · rw [rX0_weighed_1_t7 h0 h, h, vd11_7]
  · rw [rX0_weighed_1_t8 h0 h, h, vd11_8]
  · rw [rX0_weighed_1_t9 h0 h, h, vd11_9]
  · rw [rX0_weighed_1_t10 h0 h, h, vd11_10]
  · rw [rX0_weighed_1_t11 h0 h, h, vd11_11]
theorem rX3_tell_1_v {d : Nat} {G : AH} (h0 : 0 < d) {a : Nat} {L : AL} (ht : List.contains [3, 4, 5] (hT G a) = true) : At d 283 1 L [vr (some a)] G = bnd (cl (d - 1) 282 [vr (some a)] G) (fun v G => At d 283 4 L (psh v []) G) (fun a G => AtX d 283 1 L a G) := by
  have hh : hT G a = 3 ∨ hT G a = 4 ∨ hT G a = 5 := by simpa using ht
  rcases hh with h | h | h
  · exact rX3_tell_1_t3 h0 h
  · exact rX3_tell_1_t4 h0 h
  · exact rX3_tell_1_t5 h0 h
def vd12 (t : Nat) : Nat := if t = 7 then 307 else if t = 8 then 307 else if t = 9 then 316 else if t = 10 then 319 else 324
theorem vd12_7 : vd12 7 = 307 := by decide
theorem vd12_8 : vd12 8 = 307 := by decide
theorem vd12_9 : vd12 9 = 316 := by decide
theorem vd12_10 : vd12 10 = 319 := by decide
theorem vd12_11 : vd12 11 = 324 := by decide
theorem rX6_make_47_v {d : Nat} {G : AH} (h0 : 0 < d) {x0 : Int32} {x1 : Int32} {a : Nat} {L : AL} (ht : List.contains [7, 8, 9, 10, 11] (hT G a) = true) : At d 298 47 L [vi x0, vi x1, vr (some a)] G = bnd (cl (d - 1) (vd12 (hT G a)) [vr (some a), vi x1, vi x0] G) (fun v G => At d 298 50 L (psh v []) G) (fun a G => AtX d 298 47 L a G) := by
  have hh : hT G a = 7 ∨ hT G a = 8 ∨ hT G a = 9 ∨ hT G a = 10 ∨ hT G a = 11 := by simpa using ht
  rcases hh with h | h | h | h | h
  · rw [rX6_make_47_t7 h0 h, h, vd12_7]
  · rw [rX6_make_47_t8 h0 h, h, vd12_8]
  · rw [rX6_make_47_t9 h0 h, h, vd12_9]
  · rw [rX6_make_47_t10 h0 h, h, vd12_10]
  · rw [rX6_make_47_t11 h0 h, h, vd12_11]
theorem rX6_tell_1_v {d : Nat} {G : AH} (h0 : 0 < d) {a : Nat} {L : AL} (ht : List.contains [7, 8, 9, 10, 11] (hT G a) = true) : At d 304 1 L [vr (some a)] G = bnd (cl (d - 1) 303 [vr (some a)] G) (fun v G => At d 304 4 L (psh v []) G) (fun a G => AtX d 304 1 L a G) := by
  have hh : hT G a = 7 ∨ hT G a = 8 ∨ hT G a = 9 ∨ hT G a = 10 ∨ hT G a = 11 := by simpa using ht
  rcases hh with h | h | h | h | h
  · exact rX6_tell_1_t7 h0 h
  · exact rX6_tell_1_t8 h0 h
  · exact rX6_tell_1_t9 h0 h
  · exact rX6_tell_1_t10 h0 h
  · exact rX6_tell_1_t11 h0 h
theorem rX7_tell_1_v {d : Nat} {G : AH} (h0 : 0 < d) {a : Nat} {L : AL} (ht : List.contains [7, 8, 9, 11] (hT G a) = true) : At d 310 1 L [vr (some a)] G = bnd (cl (d - 1) 311 [vr (some a)] G) (fun v G => At d 310 4 L (psh v []) G) (fun a G => AtX d 310 1 L a G) := by
  have hh : hT G a = 7 ∨ hT G a = 8 ∨ hT G a = 9 ∨ hT G a = 11 := by simpa using ht
  rcases hh with h | h | h | h
  · exact rX7_tell_1_t7 h0 h
  · exact rX7_tell_1_t8 h0 h
  · exact rX7_tell_1_t9 h0 h
  · exact rX7_tell_1_t11 h0 h
theorem rX7_farTold_9_v {d : Nat} {G : AH} (h0 : 0 < d) {a : Nat} {L : AL} (ht : List.contains [7, 8, 9, 11] (hT G a) = true) : At d 311 9 L [vr (some a)] G = bnd (cl (d - 1) 303 [vr (some a)] G) (fun v G => At d 311 12 L (psh v []) G) (fun a G => AtX d 311 9 L a G) := by
  have hh : hT G a = 7 ∨ hT G a = 8 ∨ hT G a = 9 ∨ hT G a = 11 := by simpa using ht
  rcases hh with h | h | h | h
  · exact rX7_farTold_9_t7 h0 h
  · exact rX7_farTold_9_t8 h0 h
  · exact rX7_farTold_9_t9 h0 h
  · exact rX7_farTold_9_t11 h0 h
def vd13 (t : Nat) : Nat := if t = 7 then 308 else if t = 8 then 308 else if t = 9 then 308 else 325
theorem vd13_7 : vd13 7 = 308 := by decide
theorem vd13_8 : vd13 8 = 308 := by decide
theorem vd13_9 : vd13 9 = 308 := by decide
theorem vd13_11 : vd13 11 = 325 := by decide
theorem rX7_farTold_13_v {d : Nat} {G : AH} (h0 : 0 < d) {a : Nat} {x1 : Int32} {L : AL} (ht : List.contains [7, 8, 9, 11] (hT G a) = true) : At d 311 13 L [vr (some a), vi x1] G = bnd (cl (d - 1) (vd13 (hT G a)) [vr (some a)] G) (fun v G => At d 311 16 L (psh v [vi x1]) G) (fun a G => AtX d 311 13 L a G) := by
  have hh : hT G a = 7 ∨ hT G a = 8 ∨ hT G a = 9 ∨ hT G a = 11 := by simpa using ht
  rcases hh with h | h | h | h
  · rw [rX7_farTold_13_t7 h0 h, h, vd13_7]
  · rw [rX7_farTold_13_t8 h0 h, h, vd13_8]
  · rw [rX7_farTold_13_t9 h0 h, h, vd13_9]
  · rw [rX7_farTold_13_t11 h0 h, h, vd13_11]
theorem rX7_farTold_18_v {d : Nat} {G : AH} (h0 : 0 < d) {a : Nat} {x1 : Int32} {L : AL} (ht : List.contains [7, 8, 9, 11] (hT G a) = true) : At d 311 18 L [vr (some a), vi x1] G = bnd (cl (d - 1) 309 [vr (some a)] G) (fun v G => At d 311 21 L (psh v [vi x1]) G) (fun a G => AtX d 311 18 L a G) := by
  have hh : hT G a = 7 ∨ hT G a = 8 ∨ hT G a = 9 ∨ hT G a = 11 := by simpa using ht
  rcases hh with h | h | h | h
  · exact rX7_farTold_18_t7 h0 h
  · exact rX7_farTold_18_t8 h0 h
  · exact rX7_farTold_18_t9 h0 h
  · exact rX7_farTold_18_t11 h0 h
theorem rX14_greet_1_v {d : Nat} {G : AH} (h0 : 0 < d) {a : Nat} {L : AL} (ht : List.contains [3, 4, 5] (hT G a) = true) : At d 329 1 L [vr (some a)] G = bnd (cl (d - 1) 284 [vr (some a)] G) (fun v G => At d 329 6 L (psh v []) G) (fun a G => AtX d 329 1 L a G) := by
  have hh : hT G a = 3 ∨ hT G a = 4 ∨ hT G a = 5 := by simpa using ht
  rcases hh with h | h | h
  · exact rX14_greet_1_t3 h0 h
  · exact rX14_greet_1_t4 h0 h
  · exact rX14_greet_1_t5 h0 h
theorem rX15_weigh_1_v {d : Nat} {G : AH} (h0 : 0 < d) {a : Nat} {L : AL} (ht : List.contains [7, 8, 9, 10, 11] (hT G a) = true) : At d 330 1 L [vr (some a)] G = bnd (cl (d - 1) 305 [vr (some a)] G) (fun v G => At d 330 6 L (psh v []) G) (fun a G => AtX d 330 1 L a G) := by
  have hh : hT G a = 7 ∨ hT G a = 8 ∨ hT G a = 9 ∨ hT G a = 10 ∨ hT G a = 11 := by simpa using ht
  rcases hh with h | h | h | h | h
  · exact rX15_weigh_1_t7 h0 h
  · exact rX15_weigh_1_t8 h0 h
  · exact rX15_weigh_1_t9 h0 h
  · exact rX15_weigh_1_t10 h0 h
  · exact rX15_weigh_1_t11 h0 h
