/-! HeardPlaces -/
set_option maxRecDepth 100000
def RX0 : String := "HeardPlaces"
def TX0 : u_T := fun k => match k with
  | 0 => ("HeardPlaces", "fault", "I", false)
  | 1 => ("HeardPlaces", "trace", "I", false)
  | 2 => ("HeardPlaces", "wide", "I", false)
  | 3 => ("HeardPlaces", "high", "I", false)
  | 4 => ("HeardPlaces", "walls", "J", false)
  | 5 => ("HeardPlaces", "hop", "[J", true)
  | 6 => ("HeardPlaces", "things", "Ljava/util/List;", true)
  | 7 => ("HeardPlaces", "measures", "Ljava/util/List;", true)
  | 8 => ("HeardPlaces", "narrowed", "[J", true)
  | 9 => ("HeardPlaces", "tried", "[J", true)
  | 10 => ("HeardPlaces", "isAsked", "[Z", true)
  | 11 => ("HeardPlaces", "isNarrow", "Z", false)
  | 12 => ("HeardPlaces", "isQuarrelFound", "Z", false)
  | 13 => ("HeardPlaces", "isQuarrel", "Z", false)
  | 14 => ("HeardPlaces", "isLeft", "[Z", true)
  | 15 => ("HeardPlaces", "leftMany", "I", false)
  | 16 => ("HeardPlaces", "isAlone", "Z", false)
  | 17 => ("HeardPlaces", "member", "[I", true)
  | 18 => ("HeardPlaces", "at", "[I", true)
  | 19 => ("HeardPlaces", "members", "I", false)
  | 20 => ("HeardPlaces", "barred", "J", false)
  | 21 => ("HeardPlaces", "trialMany", "I", false)
  | 22 => ("HeardPlaces", "trialsTold", "I", false)
  | 23 => ("HeardPlaces", "found", "I", false)
  | 24 => ("HeardPlaces", "seen", "[J", true)
  | 25 => ("HeardPlaces", "often", "[[I", true)
  | 26 => ("HeardPlaces", "apart", "[[I", true)
  | 27 => ("HeardPlaces", "wanted", "I", false)
  | 28 => ("HeardPlaces", "wantedAt", "[I", true)
  | 29 => ("HeardPlaces", "firstThing", "I", false)
  | 30 => ("HeardPlaces", "firstCell", "I", false)
  | 31 => ("HeardPlaces", "secondThing", "I", false)
  | 32 => ("HeardPlaces", "secondCell", "I", false)
  | 33 => ("HeardPlaces", "isMet", "Z", false)
  | 34 => ("HeardPlaces", "map", "[I", true)
  | 35 => ("HeardPlaces", "flipWanted", "I", false)
  | 36 => ("HeardPlaces", "flipMany", "I", false)
  | 37 => ("HeardPlaces", "flipFirst", "I", false)
  | 38 => ("HeardPlaces", "flipSecond", "I", false)
  | 39 => ("HeardPlaces", "flipWay", "I", false)
  | 40 => ("HeardPlaces", "flipPart", "I", false)
  | 41 => ("HeardPlaces", "after", "[I", true)
  | 42 => ("HeardPlaces", "moverFirst", "[I", true)
  | 43 => ("HeardPlaces", "moverTicks", "[I", true)
  | 44 => ("HeardPlaces", "moverReach", "[I", true)
  | 45 => ("HeardPlaces", "moverMany", "I", false)
  | 46 => ("HeardPlaces", "ways", "[[J", true)
  | 47 => ("HeardPlaces", "isLied", "Z", false)
  | 48 => ("HeardPlaces", "liarMany", "I", false)
  | 49 => ("HeardPlaces", "liarSets", "I", false)
  | 50 => ("HeardPlaces", "inAll", "I", false)
  | 51 => ("HeardPlaces", "inSome", "I", false)
  | 52 => ("HeardPlaces", "images", "[LHeardPlaces$Image;", true)
  | 53 => ("HeardPlaces", "holds", "[LHeardPlaces$Place;", true)
  | _ => ("HeardPlaces", "sheets", "[LHeardPlaces$Place;", true)
def tyX0 : Nat → FieldType := fun k => match k with
  | 0 => .int
  | 1 => .int
  | 2 => .int
  | 3 => .int
  | 4 => .long
  | 5 => .array .long
  | 6 => .object "java/util/List"
  | 7 => .object "java/util/List"
  | 8 => .array .long
  | 9 => .array .long
  | 10 => .array .boolean
  | 11 => .boolean
  | 12 => .boolean
  | 13 => .boolean
  | 14 => .array .boolean
  | 15 => .int
  | 16 => .boolean
  | 17 => .array .int
  | 18 => .array .int
  | 19 => .int
  | 20 => .long
  | 21 => .int
  | 22 => .int
  | 23 => .int
  | 24 => .array .long
  | 25 => .array (.array .int)
  | 26 => .array (.array .int)
  | 27 => .int
  | 28 => .array .int
  | 29 => .int
  | 30 => .int
  | 31 => .int
  | 32 => .int
  | 33 => .boolean
  | 34 => .array .int
  | 35 => .int
  | 36 => .int
  | 37 => .int
  | 38 => .int
  | 39 => .int
  | 40 => .int
  | 41 => .array .int
  | 42 => .array .int
  | 43 => .array .int
  | 44 => .array .int
  | 45 => .int
  | 46 => .array (.array .long)
  | 47 => .boolean
  | 48 => .int
  | 49 => .int
  | 50 => .int
  | 51 => .int
  | 52 => .array (.object "HeardPlaces$Image")
  | 53 => .array (.object "HeardPlaces$Place")
  | _ => .array (.object "HeardPlaces$Place")
abbrev wsX00 : List Cond := u_ws RX0 TX0 55
set_option maxRecDepth 100000 in
theorem nmX0 : ∀ a, a < 55 → ∀ b, b < 55 → a ≠ b → (TX0 a).2.1 ≠ (TX0 b).2.1 := by decide +kernel
set_option maxRecDepth 100000 in
theorem tyX0_ok : ∀ k, k < 55 → parseFieldDescriptor (TX0 k).2.2.1 = some (tyX0 k) := by decide +kernel
abbrev cX0_init : ByteArray := prog_1_method_1_code
def yX0_init : MethodName := ⟨RX0, "<init>", "()V"⟩
def dkwX0_init_9 : List UInt8 := [184, 0, 104, 181, 0, 108, 42, 7, 184, 0, 104, 181, 0, 112, 177]
abbrev dktX0_init_9 : List UInt8 := dkwX0_init_9 ++ []
def dkwX0_init_8 : List UInt8 := [197, 0, 90, 2, 181, 0, 92, 42, 16, 247, 181, 0, 95, 42, 5, 189, 0, 98, 181, 0, 100, 42, 16, 8]
abbrev dktX0_init_8 : List UInt8 := dkwX0_init_8 ++ dktX0_init_9
def dkwX0_init_7 : List UInt8 := [188, 10, 181, 0, 81, 42, 6, 188, 10, 181, 0, 84, 42, 6, 188, 10, 181, 0, 87, 42, 16, 8, 16, 64]
abbrev dktX0_init_7 : List UInt8 := dkwX0_init_7 ++ dktX0_init_8
def dkwX0_init_6 : List UInt8 := [188, 10, 181, 0, 69, 42, 180, 0, 69, 16, 247, 184, 0, 72, 42, 16, 24, 188, 10, 181, 0, 78, 42, 6]
abbrev dktX0_init_6 : List UInt8 := dkwX0_init_6 ++ dktX0_init_7
def dkwX0_init_5 : List UInt8 := [197, 0, 55, 2, 181, 0, 60, 42, 16, 247, 181, 0, 63, 42, 16, 9, 188, 10, 181, 0, 66, 42, 16, 24]
abbrev dktX0_init_5 : List UInt8 := dkwX0_init_5 ++ dktX0_init_6
def dkwX0_init_4 : List UInt8 := [16, 9, 188, 11, 181, 0, 52, 42, 16, 9, 16, 64, 197, 0, 55, 2, 181, 0, 57, 42, 16, 81, 16, 99]
abbrev dktX0_init_4 : List UInt8 := dkwX0_init_4 ++ dktX0_init_5
def dkwX0_init_3 : List UInt8 := [16, 60, 188, 4, 181, 0, 42, 42, 16, 9, 188, 10, 181, 0, 45, 42, 16, 9, 188, 10, 181, 0, 49, 42]
abbrev dktX0_init_3 : List UInt8 := dkwX0_init_3 ++ dktX0_init_4
def dkwX0_init_2 : List UInt8 := [16, 24, 188, 11, 181, 0, 32, 42, 16, 24, 188, 11, 181, 0, 35, 42, 16, 60, 188, 4, 181, 0, 38, 42]
abbrev dktX0_init_2 : List UInt8 := dkwX0_init_2 ++ dktX0_init_3
def dkwX0_init_1 : List UInt8 := [42, 187, 0, 22, 89, 183, 0, 24, 181, 0, 25, 42, 187, 0, 22, 89, 183, 0, 24, 181, 0, 29, 42]
abbrev dktX0_init_1 : List UInt8 := dkwX0_init_1 ++ dktX0_init_2
def dkwX0_init_0 : List UInt8 := [42, 183, 0, 3, 42, 16, 8, 181, 0, 11, 42, 16, 8, 181, 0, 15, 42, 16, 64, 188, 11, 181, 0, 18]
abbrev dktX0_init_0 : List UInt8 := dkwX0_init_0 ++ dktX0_init_1
theorem dksX0_init_0 : cX0_init.data.toList.drop 0 = dktX0_init_0 := by decide +kernel
theorem dksX0_init_1 : cX0_init.data.toList.drop 24 = dktX0_init_1 := dk_seg dksX0_init_0 24 rfl rfl
theorem dksX0_init_2 : cX0_init.data.toList.drop 47 = dktX0_init_2 := dk_seg dksX0_init_1 23 rfl rfl
theorem dksX0_init_3 : cX0_init.data.toList.drop 71 = dktX0_init_3 := dk_seg dksX0_init_2 24 rfl rfl
theorem dksX0_init_4 : cX0_init.data.toList.drop 95 = dktX0_init_4 := dk_seg dksX0_init_3 24 rfl rfl
theorem dksX0_init_5 : cX0_init.data.toList.drop 119 = dktX0_init_5 := dk_seg dksX0_init_4 24 rfl rfl
theorem dksX0_init_6 : cX0_init.data.toList.drop 143 = dktX0_init_6 := dk_seg dksX0_init_5 24 rfl rfl
theorem dksX0_init_7 : cX0_init.data.toList.drop 167 = dktX0_init_7 := dk_seg dksX0_init_6 24 rfl rfl
theorem dksX0_init_8 : cX0_init.data.toList.drop 191 = dktX0_init_8 := dk_seg dksX0_init_7 24 rfl rfl
theorem dksX0_init_9 : cX0_init.data.toList.drop 215 = dktX0_init_9 := dk_seg dksX0_init_8 24 rfl rfl
theorem dX0_init_0 : decode cX0_init 0 = .ok (.aload_n 0, 1) := dk_42 (dk_at dksX0_init_0 0 rfl rfl)
theorem dX0_init_1 : decode cX0_init 1 = .ok (.invokespecial 3, 3) := dk_183 0 3 (dk_at dksX0_init_0 1 rfl rfl)
theorem dX0_init_4 : decode cX0_init 4 = .ok (.aload_n 0, 1) := dk_42 (dk_at dksX0_init_0 4 rfl rfl)
theorem dX0_init_5 : decode cX0_init 5 = .ok (.bipush 8, 2) := dk_16 8 (dk_at dksX0_init_0 5 rfl rfl)
theorem dX0_init_7 : decode cX0_init 7 = .ok (.putfield 11, 3) := dk_181 0 11 (dk_at dksX0_init_0 7 rfl rfl)
theorem dX0_init_10 : decode cX0_init 10 = .ok (.aload_n 0, 1) := dk_42 (dk_at dksX0_init_0 10 rfl rfl)
theorem dX0_init_11 : decode cX0_init 11 = .ok (.bipush 8, 2) := dk_16 8 (dk_at dksX0_init_0 11 rfl rfl)
theorem dX0_init_13 : decode cX0_init 13 = .ok (.putfield 15, 3) := dk_181 0 15 (dk_at dksX0_init_0 13 rfl rfl)
theorem dX0_init_16 : decode cX0_init 16 = .ok (.aload_n 0, 1) := dk_42 (dk_at dksX0_init_0 16 rfl rfl)
theorem dX0_init_17 : decode cX0_init 17 = .ok (.bipush 64, 2) := dk_16 64 (dk_at dksX0_init_0 17 rfl rfl)
theorem dX0_init_19 : decode cX0_init 19 = .ok (.newarray .long, 2) := dk_188_11 (dk_at dksX0_init_0 19 rfl rfl)
theorem dX0_init_21 : decode cX0_init 21 = .ok (.putfield 18, 3) := dk_181 0 18 (dk_at dksX0_init_0 21 rfl rfl)
theorem dX0_init_24 : decode cX0_init 24 = .ok (.aload_n 0, 1) := dk_42 (dk_at dksX0_init_1 0 rfl rfl)
theorem dX0_init_25 : decode cX0_init 25 = .ok (.new 22, 3) := dk_187 0 22 (dk_at dksX0_init_1 1 rfl rfl)
theorem dX0_init_28 : decode cX0_init 28 = .ok (.dup, 1) := dk_89 (dk_at dksX0_init_1 4 rfl rfl)
theorem dX0_init_29 : decode cX0_init 29 = .ok (.invokespecial 24, 3) := dk_183 0 24 (dk_at dksX0_init_1 5 rfl rfl)
theorem dX0_init_32 : decode cX0_init 32 = .ok (.putfield 25, 3) := dk_181 0 25 (dk_at dksX0_init_1 8 rfl rfl)
theorem dX0_init_35 : decode cX0_init 35 = .ok (.aload_n 0, 1) := dk_42 (dk_at dksX0_init_1 11 rfl rfl)
theorem dX0_init_36 : decode cX0_init 36 = .ok (.new 22, 3) := dk_187 0 22 (dk_at dksX0_init_1 12 rfl rfl)
theorem dX0_init_39 : decode cX0_init 39 = .ok (.dup, 1) := dk_89 (dk_at dksX0_init_1 15 rfl rfl)
theorem dX0_init_40 : decode cX0_init 40 = .ok (.invokespecial 24, 3) := dk_183 0 24 (dk_at dksX0_init_1 16 rfl rfl)
theorem dX0_init_43 : decode cX0_init 43 = .ok (.putfield 29, 3) := dk_181 0 29 (dk_at dksX0_init_1 19 rfl rfl)
theorem dX0_init_46 : decode cX0_init 46 = .ok (.aload_n 0, 1) := dk_42 (dk_at dksX0_init_1 22 rfl rfl)
theorem dX0_init_47 : decode cX0_init 47 = .ok (.bipush 24, 2) := dk_16 24 (dk_at dksX0_init_2 0 rfl rfl)
theorem dX0_init_49 : decode cX0_init 49 = .ok (.newarray .long, 2) := dk_188_11 (dk_at dksX0_init_2 2 rfl rfl)
theorem dX0_init_51 : decode cX0_init 51 = .ok (.putfield 32, 3) := dk_181 0 32 (dk_at dksX0_init_2 4 rfl rfl)
theorem dX0_init_54 : decode cX0_init 54 = .ok (.aload_n 0, 1) := dk_42 (dk_at dksX0_init_2 7 rfl rfl)
theorem dX0_init_55 : decode cX0_init 55 = .ok (.bipush 24, 2) := dk_16 24 (dk_at dksX0_init_2 8 rfl rfl)
theorem dX0_init_57 : decode cX0_init 57 = .ok (.newarray .long, 2) := dk_188_11 (dk_at dksX0_init_2 10 rfl rfl)
theorem dX0_init_59 : decode cX0_init 59 = .ok (.putfield 35, 3) := dk_181 0 35 (dk_at dksX0_init_2 12 rfl rfl)
theorem dX0_init_62 : decode cX0_init 62 = .ok (.aload_n 0, 1) := dk_42 (dk_at dksX0_init_2 15 rfl rfl)
theorem dX0_init_63 : decode cX0_init 63 = .ok (.bipush 60, 2) := dk_16 60 (dk_at dksX0_init_2 16 rfl rfl)
theorem dX0_init_65 : decode cX0_init 65 = .ok (.newarray .boolean, 2) := dk_188_4 (dk_at dksX0_init_2 18 rfl rfl)
theorem dX0_init_67 : decode cX0_init 67 = .ok (.putfield 38, 3) := dk_181 0 38 (dk_at dksX0_init_2 20 rfl rfl)
theorem dX0_init_70 : decode cX0_init 70 = .ok (.aload_n 0, 1) := dk_42 (dk_at dksX0_init_2 23 rfl rfl)
theorem dX0_init_71 : decode cX0_init 71 = .ok (.bipush 60, 2) := dk_16 60 (dk_at dksX0_init_3 0 rfl rfl)
theorem dX0_init_73 : decode cX0_init 73 = .ok (.newarray .boolean, 2) := dk_188_4 (dk_at dksX0_init_3 2 rfl rfl)
theorem dX0_init_75 : decode cX0_init 75 = .ok (.putfield 42, 3) := dk_181 0 42 (dk_at dksX0_init_3 4 rfl rfl)
theorem dX0_init_78 : decode cX0_init 78 = .ok (.aload_n 0, 1) := dk_42 (dk_at dksX0_init_3 7 rfl rfl)
theorem dX0_init_79 : decode cX0_init 79 = .ok (.bipush 9, 2) := dk_16 9 (dk_at dksX0_init_3 8 rfl rfl)
theorem dX0_init_81 : decode cX0_init 81 = .ok (.newarray .int, 2) := dk_188_10 (dk_at dksX0_init_3 10 rfl rfl)
theorem dX0_init_83 : decode cX0_init 83 = .ok (.putfield 45, 3) := dk_181 0 45 (dk_at dksX0_init_3 12 rfl rfl)
theorem dX0_init_86 : decode cX0_init 86 = .ok (.aload_n 0, 1) := dk_42 (dk_at dksX0_init_3 15 rfl rfl)
theorem dX0_init_87 : decode cX0_init 87 = .ok (.bipush 9, 2) := dk_16 9 (dk_at dksX0_init_3 16 rfl rfl)
theorem dX0_init_89 : decode cX0_init 89 = .ok (.newarray .int, 2) := dk_188_10 (dk_at dksX0_init_3 18 rfl rfl)
theorem dX0_init_91 : decode cX0_init 91 = .ok (.putfield 49, 3) := dk_181 0 49 (dk_at dksX0_init_3 20 rfl rfl)
theorem dX0_init_94 : decode cX0_init 94 = .ok (.aload_n 0, 1) := dk_42 (dk_at dksX0_init_3 23 rfl rfl)
theorem dX0_init_95 : decode cX0_init 95 = .ok (.bipush 9, 2) := dk_16 9 (dk_at dksX0_init_4 0 rfl rfl)
theorem dX0_init_97 : decode cX0_init 97 = .ok (.newarray .long, 2) := dk_188_11 (dk_at dksX0_init_4 2 rfl rfl)
theorem dX0_init_99 : decode cX0_init 99 = .ok (.putfield 52, 3) := dk_181 0 52 (dk_at dksX0_init_4 4 rfl rfl)
theorem dX0_init_102 : decode cX0_init 102 = .ok (.aload_n 0, 1) := dk_42 (dk_at dksX0_init_4 7 rfl rfl)
theorem dX0_init_103 : decode cX0_init 103 = .ok (.bipush 9, 2) := dk_16 9 (dk_at dksX0_init_4 8 rfl rfl)
theorem dX0_init_105 : decode cX0_init 105 = .ok (.bipush 64, 2) := dk_16 64 (dk_at dksX0_init_4 10 rfl rfl)
theorem dX0_init_107 : decode cX0_init 107 = .ok (.multianewarray 55 2, 4) := by decide +kernel
theorem dX0_init_111 : decode cX0_init 111 = .ok (.putfield 57, 3) := dk_181 0 57 (dk_at dksX0_init_4 16 rfl rfl)
theorem dX0_init_114 : decode cX0_init 114 = .ok (.aload_n 0, 1) := dk_42 (dk_at dksX0_init_4 19 rfl rfl)
theorem dX0_init_115 : decode cX0_init 115 = .ok (.bipush 81, 2) := dk_16 81 (dk_at dksX0_init_4 20 rfl rfl)
theorem dX0_init_117 : decode cX0_init 117 = .ok (.bipush 99, 2) := dk_16 99 (dk_at dksX0_init_4 22 rfl rfl)
theorem dX0_init_119 : decode cX0_init 119 = .ok (.multianewarray 55 2, 4) := by decide +kernel
theorem dX0_init_123 : decode cX0_init 123 = .ok (.putfield 60, 3) := dk_181 0 60 (dk_at dksX0_init_5 4 rfl rfl)
theorem dX0_init_126 : decode cX0_init 126 = .ok (.aload_n 0, 1) := dk_42 (dk_at dksX0_init_5 7 rfl rfl)
theorem dX0_init_127 : decode cX0_init 127 = .ok (.bipush (-9), 2) := dk_16 247 (dk_at dksX0_init_5 8 rfl rfl)
theorem dX0_init_129 : decode cX0_init 129 = .ok (.putfield 63, 3) := dk_181 0 63 (dk_at dksX0_init_5 10 rfl rfl)
theorem dX0_init_132 : decode cX0_init 132 = .ok (.aload_n 0, 1) := dk_42 (dk_at dksX0_init_5 13 rfl rfl)
theorem dX0_init_133 : decode cX0_init 133 = .ok (.bipush 9, 2) := dk_16 9 (dk_at dksX0_init_5 14 rfl rfl)
theorem dX0_init_135 : decode cX0_init 135 = .ok (.newarray .int, 2) := dk_188_10 (dk_at dksX0_init_5 16 rfl rfl)
theorem dX0_init_137 : decode cX0_init 137 = .ok (.putfield 66, 3) := dk_181 0 66 (dk_at dksX0_init_5 18 rfl rfl)
theorem dX0_init_140 : decode cX0_init 140 = .ok (.aload_n 0, 1) := dk_42 (dk_at dksX0_init_5 21 rfl rfl)
theorem dX0_init_141 : decode cX0_init 141 = .ok (.bipush 24, 2) := dk_16 24 (dk_at dksX0_init_5 22 rfl rfl)
theorem dX0_init_143 : decode cX0_init 143 = .ok (.newarray .int, 2) := dk_188_10 (dk_at dksX0_init_6 0 rfl rfl)
theorem dX0_init_145 : decode cX0_init 145 = .ok (.putfield 69, 3) := dk_181 0 69 (dk_at dksX0_init_6 2 rfl rfl)
theorem dX0_init_148 : decode cX0_init 148 = .ok (.aload_n 0, 1) := dk_42 (dk_at dksX0_init_6 5 rfl rfl)
theorem dX0_init_149 : decode cX0_init 149 = .ok (.getfield 69, 3) := dk_180 0 69 (dk_at dksX0_init_6 6 rfl rfl)
theorem dX0_init_152 : decode cX0_init 152 = .ok (.bipush (-9), 2) := dk_16 247 (dk_at dksX0_init_6 9 rfl rfl)
theorem dX0_init_154 : decode cX0_init 154 = .ok (.invokestatic 72, 3) := dk_184 0 72 (dk_at dksX0_init_6 11 rfl rfl)
theorem dX0_init_157 : decode cX0_init 157 = .ok (.aload_n 0, 1) := dk_42 (dk_at dksX0_init_6 14 rfl rfl)
theorem dX0_init_158 : decode cX0_init 158 = .ok (.bipush 24, 2) := dk_16 24 (dk_at dksX0_init_6 15 rfl rfl)
theorem dX0_init_160 : decode cX0_init 160 = .ok (.newarray .int, 2) := dk_188_10 (dk_at dksX0_init_6 17 rfl rfl)
theorem dX0_init_162 : decode cX0_init 162 = .ok (.putfield 78, 3) := dk_181 0 78 (dk_at dksX0_init_6 19 rfl rfl)
theorem dX0_init_165 : decode cX0_init 165 = .ok (.aload_n 0, 1) := dk_42 (dk_at dksX0_init_6 22 rfl rfl)
theorem dX0_init_166 : decode cX0_init 166 = .ok (.iconst 3, 1) := dk_6 (dk_at dksX0_init_6 23 rfl rfl)
theorem dX0_init_167 : decode cX0_init 167 = .ok (.newarray .int, 2) := dk_188_10 (dk_at dksX0_init_7 0 rfl rfl)
theorem dX0_init_169 : decode cX0_init 169 = .ok (.putfield 81, 3) := dk_181 0 81 (dk_at dksX0_init_7 2 rfl rfl)
theorem dX0_init_172 : decode cX0_init 172 = .ok (.aload_n 0, 1) := dk_42 (dk_at dksX0_init_7 5 rfl rfl)
theorem dX0_init_173 : decode cX0_init 173 = .ok (.iconst 3, 1) := dk_6 (dk_at dksX0_init_7 6 rfl rfl)
theorem dX0_init_174 : decode cX0_init 174 = .ok (.newarray .int, 2) := dk_188_10 (dk_at dksX0_init_7 7 rfl rfl)
theorem dX0_init_176 : decode cX0_init 176 = .ok (.putfield 84, 3) := dk_181 0 84 (dk_at dksX0_init_7 9 rfl rfl)
theorem dX0_init_179 : decode cX0_init 179 = .ok (.aload_n 0, 1) := dk_42 (dk_at dksX0_init_7 12 rfl rfl)
theorem dX0_init_180 : decode cX0_init 180 = .ok (.iconst 3, 1) := dk_6 (dk_at dksX0_init_7 13 rfl rfl)
theorem dX0_init_181 : decode cX0_init 181 = .ok (.newarray .int, 2) := dk_188_10 (dk_at dksX0_init_7 14 rfl rfl)
theorem dX0_init_183 : decode cX0_init 183 = .ok (.putfield 87, 3) := dk_181 0 87 (dk_at dksX0_init_7 16 rfl rfl)
theorem dX0_init_186 : decode cX0_init 186 = .ok (.aload_n 0, 1) := dk_42 (dk_at dksX0_init_7 19 rfl rfl)
theorem dX0_init_187 : decode cX0_init 187 = .ok (.bipush 8, 2) := dk_16 8 (dk_at dksX0_init_7 20 rfl rfl)
theorem dX0_init_189 : decode cX0_init 189 = .ok (.bipush 64, 2) := dk_16 64 (dk_at dksX0_init_7 22 rfl rfl)
theorem dX0_init_191 : decode cX0_init 191 = .ok (.multianewarray 90 2, 4) := by decide +kernel
theorem dX0_init_195 : decode cX0_init 195 = .ok (.putfield 92, 3) := dk_181 0 92 (dk_at dksX0_init_8 4 rfl rfl)
theorem dX0_init_198 : decode cX0_init 198 = .ok (.aload_n 0, 1) := dk_42 (dk_at dksX0_init_8 7 rfl rfl)
theorem dX0_init_199 : decode cX0_init 199 = .ok (.bipush (-9), 2) := dk_16 247 (dk_at dksX0_init_8 8 rfl rfl)
theorem dX0_init_201 : decode cX0_init 201 = .ok (.putfield 95, 3) := dk_181 0 95 (dk_at dksX0_init_8 10 rfl rfl)
theorem dX0_init_204 : decode cX0_init 204 = .ok (.aload_n 0, 1) := dk_42 (dk_at dksX0_init_8 13 rfl rfl)
theorem dX0_init_205 : decode cX0_init 205 = .ok (.iconst 2, 1) := dk_5 (dk_at dksX0_init_8 14 rfl rfl)
theorem dX0_init_206 : decode cX0_init 206 = .ok (.anewarray 98, 3) := dk_189 0 98 (dk_at dksX0_init_8 15 rfl rfl)
theorem dX0_init_209 : decode cX0_init 209 = .ok (.putfield 100, 3) := dk_181 0 100 (dk_at dksX0_init_8 18 rfl rfl)
theorem dX0_init_212 : decode cX0_init 212 = .ok (.aload_n 0, 1) := dk_42 (dk_at dksX0_init_8 21 rfl rfl)
theorem dX0_init_213 : decode cX0_init 213 = .ok (.bipush 8, 2) := dk_16 8 (dk_at dksX0_init_8 22 rfl rfl)
theorem dX0_init_215 : decode cX0_init 215 = .ok (.invokestatic 104, 3) := dk_184 0 104 (dk_at dksX0_init_9 0 rfl rfl)
theorem dX0_init_218 : decode cX0_init 218 = .ok (.putfield 108, 3) := dk_181 0 108 (dk_at dksX0_init_9 3 rfl rfl)
theorem dX0_init_221 : decode cX0_init 221 = .ok (.aload_n 0, 1) := dk_42 (dk_at dksX0_init_9 6 rfl rfl)
theorem dX0_init_222 : decode cX0_init 222 = .ok (.iconst 4, 1) := dk_7 (dk_at dksX0_init_9 7 rfl rfl)
theorem dX0_init_223 : decode cX0_init 223 = .ok (.invokestatic 104, 3) := dk_184 0 104 (dk_at dksX0_init_9 8 rfl rfl)
theorem dX0_init_226 : decode cX0_init 226 = .ok (.putfield 112, 3) := dk_181 0 112 (dk_at dksX0_init_9 11 rfl rfl)
theorem dX0_init_229 : decode cX0_init 229 = .ok (.return_, 1) := dk_177 (dk_at dksX0_init_9 14 rfl rfl)
abbrev cX0_places : ByteArray := prog_1_method_128_code
def yX0_places : MethodName := ⟨RX0, "places", "(I)[LHeardPlaces$Place;"⟩
def dkwX0_places_1 : List UInt8 := [132, 2, 1, 167, 255, 238, 43, 176]
abbrev dktX0_places_1 : List UInt8 := dkwX0_places_1 ++ []
def dkwX0_places_0 : List UInt8 := [26, 189, 0, 248, 76, 3, 61, 28, 26, 162, 0, 19, 43, 28, 187, 0, 248, 89, 183, 2, 198, 83]
abbrev dktX0_places_0 : List UInt8 := dkwX0_places_0 ++ dktX0_places_1
theorem dksX0_places_0 : cX0_places.data.toList.drop 0 = dktX0_places_0 := by decide +kernel
theorem dksX0_places_1 : cX0_places.data.toList.drop 22 = dktX0_places_1 := dk_seg dksX0_places_0 22 rfl rfl
theorem dX0_places_0 : decode cX0_places 0 = .ok (.iload_n 0, 1) := dk_26 (dk_at dksX0_places_0 0 rfl rfl)
theorem dX0_places_1 : decode cX0_places 1 = .ok (.anewarray 248, 3) := dk_189 0 248 (dk_at dksX0_places_0 1 rfl rfl)
theorem dX0_places_4 : decode cX0_places 4 = .ok (.astore_n 1, 1) := dk_76 (dk_at dksX0_places_0 4 rfl rfl)
theorem dX0_places_5 : decode cX0_places 5 = .ok (.iconst 0, 1) := dk_3 (dk_at dksX0_places_0 5 rfl rfl)
theorem dX0_places_6 : decode cX0_places 6 = .ok (.istore_n 2, 1) := dk_61 (dk_at dksX0_places_0 6 rfl rfl)
theorem dX0_places_7 : decode cX0_places 7 = .ok (.iload_n 2, 1) := dk_28 (dk_at dksX0_places_0 7 rfl rfl)
theorem dX0_places_8 : decode cX0_places 8 = .ok (.iload_n 0, 1) := dk_26 (dk_at dksX0_places_0 8 rfl rfl)
theorem dX0_places_9 : decode cX0_places 9 = .ok (.if_icmp .ge 19, 3) := dk_162 0 19 (dk_at dksX0_places_0 9 rfl rfl)
theorem dX0_places_12 : decode cX0_places 12 = .ok (.aload_n 1, 1) := dk_43 (dk_at dksX0_places_0 12 rfl rfl)
theorem dX0_places_13 : decode cX0_places 13 = .ok (.iload_n 2, 1) := dk_28 (dk_at dksX0_places_0 13 rfl rfl)
theorem dX0_places_14 : decode cX0_places 14 = .ok (.new 248, 3) := dk_187 0 248 (dk_at dksX0_places_0 14 rfl rfl)
theorem dX0_places_17 : decode cX0_places 17 = .ok (.dup, 1) := dk_89 (dk_at dksX0_places_0 17 rfl rfl)
theorem dX0_places_18 : decode cX0_places 18 = .ok (.invokespecial 710, 3) := dk_183 2 198 (dk_at dksX0_places_0 18 rfl rfl)
theorem dX0_places_21 : decode cX0_places 21 = .ok (.aastore, 1) := dk_83 (dk_at dksX0_places_0 21 rfl rfl)
theorem dX0_places_22 : decode cX0_places 22 = .ok (.iinc 2 1, 3) := dk_132 2 1 (dk_at dksX0_places_1 0 rfl rfl)
theorem dX0_places_25 : decode cX0_places 25 = .ok (.goto (-18), 3) := dk_167 255 238 (dk_at dksX0_places_1 3 rfl rfl)
theorem dX0_places_28 : decode cX0_places 28 = .ok (.aload_n 1, 1) := dk_43 (dk_at dksX0_places_1 6 rfl rfl)
theorem dX0_places_29 : decode cX0_places 29 = .ok (.areturn, 1) := dk_176 (dk_at dksX0_places_1 7 rfl rfl)
abbrev cX0_field : ByteArray := prog_1_method_22_code
def yX0_field : MethodName := ⟨RX0, "field", "(II)I"⟩
def dkwX0_field_3 : List UInt8 := [42, 180, 0, 69, 16, 247, 184, 0, 72, 42, 182, 0, 211, 27, 28, 104, 172]
abbrev dktX0_field_3 : List UInt8 := dkwX0_field_3 ++ []
def dkwX0_field_2 : List UInt8 := [185, 0, 201, 1, 0, 42, 180, 0, 29, 185, 0, 201, 1, 0, 42, 3, 181, 0, 204, 42, 3, 181, 0, 207]
abbrev dktX0_field_2 : List UInt8 := dkwX0_field_2 ++ dktX0_field_3
def dkwX0_field_1 : List UInt8 := [16, 254, 172, 42, 27, 181, 0, 11, 42, 28, 181, 0, 15, 42, 9, 181, 0, 152, 42, 180, 0, 25]
abbrev dktX0_field_1 : List UInt8 := dkwX0_field_1 ++ dktX0_field_2
def dkwX0_field_0 : List UInt8 := [27, 133, 10, 20, 0, 199, 184, 0, 130, 153, 0, 15, 28, 133, 10, 20, 0, 199, 184, 0, 130, 154, 0, 6]
abbrev dktX0_field_0 : List UInt8 := dkwX0_field_0 ++ dktX0_field_1
theorem dksX0_field_0 : cX0_field.data.toList.drop 0 = dktX0_field_0 := by decide +kernel
theorem dksX0_field_1 : cX0_field.data.toList.drop 24 = dktX0_field_1 := dk_seg dksX0_field_0 24 rfl rfl
theorem dksX0_field_2 : cX0_field.data.toList.drop 46 = dktX0_field_2 := dk_seg dksX0_field_1 22 rfl rfl
theorem dksX0_field_3 : cX0_field.data.toList.drop 70 = dktX0_field_3 := dk_seg dksX0_field_2 24 rfl rfl
theorem dX0_field_0 : decode cX0_field 0 = .ok (.iload_n 1, 1) := dk_27 (dk_at dksX0_field_0 0 rfl rfl)
theorem dX0_field_1 : decode cX0_field 1 = .ok (.i2l, 1) := dk_133 (dk_at dksX0_field_0 1 rfl rfl)
theorem dX0_field_2 : decode cX0_field 2 = .ok (.lconst 1, 1) := dk_10 (dk_at dksX0_field_0 2 rfl rfl)
theorem dX0_field_3 : decode cX0_field 3 = .ok (.ldc2_w 199, 3) := dk_20 0 199 (dk_at dksX0_field_0 3 rfl rfl)
theorem dX0_field_6 : decode cX0_field 6 = .ok (.invokestatic 130, 3) := dk_184 0 130 (dk_at dksX0_field_0 6 rfl rfl)
theorem dX0_field_9 : decode cX0_field 9 = .ok (.ifCond .eq 15, 3) := dk_153 0 15 (dk_at dksX0_field_0 9 rfl rfl)
theorem dX0_field_12 : decode cX0_field 12 = .ok (.iload_n 2, 1) := dk_28 (dk_at dksX0_field_0 12 rfl rfl)
theorem dX0_field_13 : decode cX0_field 13 = .ok (.i2l, 1) := dk_133 (dk_at dksX0_field_0 13 rfl rfl)
theorem dX0_field_14 : decode cX0_field 14 = .ok (.lconst 1, 1) := dk_10 (dk_at dksX0_field_0 14 rfl rfl)
theorem dX0_field_15 : decode cX0_field 15 = .ok (.ldc2_w 199, 3) := dk_20 0 199 (dk_at dksX0_field_0 15 rfl rfl)
theorem dX0_field_18 : decode cX0_field 18 = .ok (.invokestatic 130, 3) := dk_184 0 130 (dk_at dksX0_field_0 18 rfl rfl)
theorem dX0_field_21 : decode cX0_field 21 = .ok (.ifCond .ne 6, 3) := dk_154 0 6 (dk_at dksX0_field_0 21 rfl rfl)
theorem dX0_field_24 : decode cX0_field 24 = .ok (.bipush (-2), 2) := dk_16 254 (dk_at dksX0_field_1 0 rfl rfl)
theorem dX0_field_26 : decode cX0_field 26 = .ok (.ireturn, 1) := dk_172 (dk_at dksX0_field_1 2 rfl rfl)
theorem dX0_field_27 : decode cX0_field 27 = .ok (.aload_n 0, 1) := dk_42 (dk_at dksX0_field_1 3 rfl rfl)
theorem dX0_field_28 : decode cX0_field 28 = .ok (.iload_n 1, 1) := dk_27 (dk_at dksX0_field_1 4 rfl rfl)
theorem dX0_field_29 : decode cX0_field 29 = .ok (.putfield 11, 3) := dk_181 0 11 (dk_at dksX0_field_1 5 rfl rfl)
theorem dX0_field_32 : decode cX0_field 32 = .ok (.aload_n 0, 1) := dk_42 (dk_at dksX0_field_1 8 rfl rfl)
theorem dX0_field_33 : decode cX0_field 33 = .ok (.iload_n 2, 1) := dk_28 (dk_at dksX0_field_1 9 rfl rfl)
theorem dX0_field_34 : decode cX0_field 34 = .ok (.putfield 15, 3) := dk_181 0 15 (dk_at dksX0_field_1 10 rfl rfl)
theorem dX0_field_37 : decode cX0_field 37 = .ok (.aload_n 0, 1) := dk_42 (dk_at dksX0_field_1 13 rfl rfl)
theorem dX0_field_38 : decode cX0_field 38 = .ok (.lconst 0, 1) := dk_9 (dk_at dksX0_field_1 14 rfl rfl)
theorem dX0_field_39 : decode cX0_field 39 = .ok (.putfield 152, 3) := dk_181 0 152 (dk_at dksX0_field_1 15 rfl rfl)
theorem dX0_field_42 : decode cX0_field 42 = .ok (.aload_n 0, 1) := dk_42 (dk_at dksX0_field_1 18 rfl rfl)
theorem dX0_field_43 : decode cX0_field 43 = .ok (.getfield 25, 3) := dk_180 0 25 (dk_at dksX0_field_1 19 rfl rfl)
theorem dX0_field_46 : decode cX0_field 46 = .ok (.invokeinterface 201 1, 5) := by decide +kernel
theorem dX0_field_51 : decode cX0_field 51 = .ok (.aload_n 0, 1) := dk_42 (dk_at dksX0_field_2 5 rfl rfl)
theorem dX0_field_52 : decode cX0_field 52 = .ok (.getfield 29, 3) := dk_180 0 29 (dk_at dksX0_field_2 6 rfl rfl)
theorem dX0_field_55 : decode cX0_field 55 = .ok (.invokeinterface 201 1, 5) := by decide +kernel
theorem dX0_field_60 : decode cX0_field 60 = .ok (.aload_n 0, 1) := dk_42 (dk_at dksX0_field_2 14 rfl rfl)
theorem dX0_field_61 : decode cX0_field 61 = .ok (.iconst 0, 1) := dk_3 (dk_at dksX0_field_2 15 rfl rfl)
theorem dX0_field_62 : decode cX0_field 62 = .ok (.putfield 204, 3) := dk_181 0 204 (dk_at dksX0_field_2 16 rfl rfl)
theorem dX0_field_65 : decode cX0_field 65 = .ok (.aload_n 0, 1) := dk_42 (dk_at dksX0_field_2 19 rfl rfl)
theorem dX0_field_66 : decode cX0_field 66 = .ok (.iconst 0, 1) := dk_3 (dk_at dksX0_field_2 20 rfl rfl)
theorem dX0_field_67 : decode cX0_field 67 = .ok (.putfield 207, 3) := dk_181 0 207 (dk_at dksX0_field_2 21 rfl rfl)
theorem dX0_field_70 : decode cX0_field 70 = .ok (.aload_n 0, 1) := dk_42 (dk_at dksX0_field_3 0 rfl rfl)
theorem dX0_field_71 : decode cX0_field 71 = .ok (.getfield 69, 3) := dk_180 0 69 (dk_at dksX0_field_3 1 rfl rfl)
theorem dX0_field_74 : decode cX0_field 74 = .ok (.bipush (-9), 2) := dk_16 247 (dk_at dksX0_field_3 4 rfl rfl)
theorem dX0_field_76 : decode cX0_field 76 = .ok (.invokestatic 72, 3) := dk_184 0 72 (dk_at dksX0_field_3 6 rfl rfl)
theorem dX0_field_79 : decode cX0_field 79 = .ok (.aload_n 0, 1) := dk_42 (dk_at dksX0_field_3 9 rfl rfl)
theorem dX0_field_80 : decode cX0_field 80 = .ok (.invokevirtual 211, 3) := dk_182 0 211 (dk_at dksX0_field_3 10 rfl rfl)
theorem dX0_field_83 : decode cX0_field 83 = .ok (.iload_n 1, 1) := dk_27 (dk_at dksX0_field_3 13 rfl rfl)
theorem dX0_field_84 : decode cX0_field 84 = .ok (.iload_n 2, 1) := dk_28 (dk_at dksX0_field_3 14 rfl rfl)
theorem dX0_field_85 : decode cX0_field 85 = .ok (.imul, 1) := dk_104 (dk_at dksX0_field_3 15 rfl rfl)
theorem dX0_field_86 : decode cX0_field 86 = .ok (.ireturn, 1) := dk_172 (dk_at dksX0_field_3 16 rfl rfl)
abbrev cX0_isIn : ByteArray := prog_1_method_2_code
def yX0_isIn : MethodName := ⟨RX0, "isIn", "(JJJ)Z"⟩
def dkwX0_isIn_0 : List UInt8 := [30, 32, 148, 155, 0, 14, 30, 22, 4, 148, 157, 0, 7, 4, 167, 0, 4, 3, 172]
abbrev dktX0_isIn_0 : List UInt8 := dkwX0_isIn_0 ++ []
theorem dksX0_isIn_0 : cX0_isIn.data.toList.drop 0 = dktX0_isIn_0 := by decide +kernel
theorem dX0_isIn_0 : decode cX0_isIn 0 = .ok (.lload_n 0, 1) := dk_30 (dk_at dksX0_isIn_0 0 rfl rfl)
theorem dX0_isIn_1 : decode cX0_isIn 1 = .ok (.lload_n 2, 1) := dk_32 (dk_at dksX0_isIn_0 1 rfl rfl)
theorem dX0_isIn_2 : decode cX0_isIn 2 = .ok (.lcmp, 1) := dk_148 (dk_at dksX0_isIn_0 2 rfl rfl)
theorem dX0_isIn_3 : decode cX0_isIn 3 = .ok (.ifCond .lt 14, 3) := dk_155 0 14 (dk_at dksX0_isIn_0 3 rfl rfl)
theorem dX0_isIn_6 : decode cX0_isIn 6 = .ok (.lload_n 0, 1) := dk_30 (dk_at dksX0_isIn_0 6 rfl rfl)
theorem dX0_isIn_7 : decode cX0_isIn 7 = .ok (.lload 4, 2) := dk_22 4 (dk_at dksX0_isIn_0 7 rfl rfl)
theorem dX0_isIn_9 : decode cX0_isIn 9 = .ok (.lcmp, 1) := dk_148 (dk_at dksX0_isIn_0 9 rfl rfl)
theorem dX0_isIn_10 : decode cX0_isIn 10 = .ok (.ifCond .gt 7, 3) := dk_157 0 7 (dk_at dksX0_isIn_0 10 rfl rfl)
theorem dX0_isIn_13 : decode cX0_isIn 13 = .ok (.iconst 1, 1) := dk_4 (dk_at dksX0_isIn_0 13 rfl rfl)
theorem dX0_isIn_14 : decode cX0_isIn 14 = .ok (.goto 4, 3) := dk_167 0 4 (dk_at dksX0_isIn_0 14 rfl rfl)
theorem dX0_isIn_17 : decode cX0_isIn 17 = .ok (.iconst 0, 1) := dk_3 (dk_at dksX0_isIn_0 17 rfl rfl)
theorem dX0_isIn_18 : decode cX0_isIn 18 = .ok (.ireturn, 1) := dk_172 (dk_at dksX0_isIn_0 18 rfl rfl)
abbrev cX0_changes : ByteArray := prog_1_method_50_code
def yX0_changes : MethodName := ⟨RX0, "changes", "()V"⟩
def dkwX0_changes_0 : List UInt8 := [42, 3, 181, 1, 166, 42, 3, 181, 1, 169, 42, 3, 181, 1, 172, 177]
abbrev dktX0_changes_0 : List UInt8 := dkwX0_changes_0 ++ []
theorem dksX0_changes_0 : cX0_changes.data.toList.drop 0 = dktX0_changes_0 := by decide +kernel
theorem dX0_changes_0 : decode cX0_changes 0 = .ok (.aload_n 0, 1) := dk_42 (dk_at dksX0_changes_0 0 rfl rfl)
theorem dX0_changes_1 : decode cX0_changes 1 = .ok (.iconst 0, 1) := dk_3 (dk_at dksX0_changes_0 1 rfl rfl)
theorem dX0_changes_2 : decode cX0_changes 2 = .ok (.putfield 422, 3) := dk_181 1 166 (dk_at dksX0_changes_0 2 rfl rfl)
theorem dX0_changes_5 : decode cX0_changes 5 = .ok (.aload_n 0, 1) := dk_42 (dk_at dksX0_changes_0 5 rfl rfl)
theorem dX0_changes_6 : decode cX0_changes 6 = .ok (.iconst 0, 1) := dk_3 (dk_at dksX0_changes_0 6 rfl rfl)
theorem dX0_changes_7 : decode cX0_changes 7 = .ok (.putfield 425, 3) := dk_181 1 169 (dk_at dksX0_changes_0 7 rfl rfl)
theorem dX0_changes_10 : decode cX0_changes 10 = .ok (.aload_n 0, 1) := dk_42 (dk_at dksX0_changes_0 10 rfl rfl)
theorem dX0_changes_11 : decode cX0_changes 11 = .ok (.iconst 0, 1) := dk_3 (dk_at dksX0_changes_0 11 rfl rfl)
theorem dX0_changes_12 : decode cX0_changes 12 = .ok (.putfield 428, 3) := dk_181 1 172 (dk_at dksX0_changes_0 12 rfl rfl)
theorem dX0_changes_15 : decode cX0_changes 15 = .ok (.return_, 1) := dk_177 (dk_at dksX0_changes_0 15 rfl rfl)
abbrev cX0_wall : ByteArray := prog_1_method_24_code
def yX0_wall : MethodName := ⟨RX0, "wall", "(IZ)I"⟩
def dkwX0_wall_2 : List UInt8 := [131, 182, 0, 226, 4, 172]
abbrev dktX0_wall_2 : List UInt8 := dkwX0_wall_2 ++ []
def dkwX0_wall_1 : List UInt8 := [172, 42, 180, 0, 152, 27, 184, 0, 161, 28, 160, 0, 5, 3, 172, 42, 42, 180, 0, 152, 27, 184, 0, 144]
abbrev dktX0_wall_1 : List UInt8 := dkwX0_wall_1 ++ dktX0_wall_2
def dkwX0_wall_0 : List UInt8 := [42, 27, 182, 0, 219, 154, 0, 5, 2, 172, 42, 3, 182, 0, 223, 27, 184, 0, 161, 153, 0, 6, 16, 253]
abbrev dktX0_wall_0 : List UInt8 := dkwX0_wall_0 ++ dktX0_wall_1
theorem dksX0_wall_0 : cX0_wall.data.toList.drop 0 = dktX0_wall_0 := by decide +kernel
theorem dksX0_wall_1 : cX0_wall.data.toList.drop 24 = dktX0_wall_1 := dk_seg dksX0_wall_0 24 rfl rfl
theorem dksX0_wall_2 : cX0_wall.data.toList.drop 48 = dktX0_wall_2 := dk_seg dksX0_wall_1 24 rfl rfl
theorem dX0_wall_0 : decode cX0_wall 0 = .ok (.aload_n 0, 1) := dk_42 (dk_at dksX0_wall_0 0 rfl rfl)
theorem dX0_wall_1 : decode cX0_wall 1 = .ok (.iload_n 1, 1) := dk_27 (dk_at dksX0_wall_0 1 rfl rfl)
theorem dX0_wall_2 : decode cX0_wall 2 = .ok (.invokevirtual 219, 3) := dk_182 0 219 (dk_at dksX0_wall_0 2 rfl rfl)
theorem dX0_wall_5 : decode cX0_wall 5 = .ok (.ifCond .ne 5, 3) := dk_154 0 5 (dk_at dksX0_wall_0 5 rfl rfl)
theorem dX0_wall_8 : decode cX0_wall 8 = .ok (.iconst (-1), 1) := dk_2 (dk_at dksX0_wall_0 8 rfl rfl)
theorem dX0_wall_9 : decode cX0_wall 9 = .ok (.ireturn, 1) := dk_172 (dk_at dksX0_wall_0 9 rfl rfl)
theorem dX0_wall_10 : decode cX0_wall 10 = .ok (.aload_n 0, 1) := dk_42 (dk_at dksX0_wall_0 10 rfl rfl)
theorem dX0_wall_11 : decode cX0_wall 11 = .ok (.iconst 0, 1) := dk_3 (dk_at dksX0_wall_0 11 rfl rfl)
theorem dX0_wall_12 : decode cX0_wall 12 = .ok (.invokevirtual 223, 3) := dk_182 0 223 (dk_at dksX0_wall_0 12 rfl rfl)
theorem dX0_wall_15 : decode cX0_wall 15 = .ok (.iload_n 1, 1) := dk_27 (dk_at dksX0_wall_0 15 rfl rfl)
theorem dX0_wall_16 : decode cX0_wall 16 = .ok (.invokestatic 161, 3) := dk_184 0 161 (dk_at dksX0_wall_0 16 rfl rfl)
theorem dX0_wall_19 : decode cX0_wall 19 = .ok (.ifCond .eq 6, 3) := dk_153 0 6 (dk_at dksX0_wall_0 19 rfl rfl)
theorem dX0_wall_22 : decode cX0_wall 22 = .ok (.bipush (-3), 2) := dk_16 253 (dk_at dksX0_wall_0 22 rfl rfl)
theorem dX0_wall_24 : decode cX0_wall 24 = .ok (.ireturn, 1) := dk_172 (dk_at dksX0_wall_1 0 rfl rfl)
theorem dX0_wall_25 : decode cX0_wall 25 = .ok (.aload_n 0, 1) := dk_42 (dk_at dksX0_wall_1 1 rfl rfl)
theorem dX0_wall_26 : decode cX0_wall 26 = .ok (.getfield 152, 3) := dk_180 0 152 (dk_at dksX0_wall_1 2 rfl rfl)
theorem dX0_wall_29 : decode cX0_wall 29 = .ok (.iload_n 1, 1) := dk_27 (dk_at dksX0_wall_1 5 rfl rfl)
theorem dX0_wall_30 : decode cX0_wall 30 = .ok (.invokestatic 161, 3) := dk_184 0 161 (dk_at dksX0_wall_1 6 rfl rfl)
theorem dX0_wall_33 : decode cX0_wall 33 = .ok (.iload_n 2, 1) := dk_28 (dk_at dksX0_wall_1 9 rfl rfl)
theorem dX0_wall_34 : decode cX0_wall 34 = .ok (.if_icmp .ne 5, 3) := dk_160 0 5 (dk_at dksX0_wall_1 10 rfl rfl)
theorem dX0_wall_37 : decode cX0_wall 37 = .ok (.iconst 0, 1) := dk_3 (dk_at dksX0_wall_1 13 rfl rfl)
theorem dX0_wall_38 : decode cX0_wall 38 = .ok (.ireturn, 1) := dk_172 (dk_at dksX0_wall_1 14 rfl rfl)
theorem dX0_wall_39 : decode cX0_wall 39 = .ok (.aload_n 0, 1) := dk_42 (dk_at dksX0_wall_1 15 rfl rfl)
theorem dX0_wall_40 : decode cX0_wall 40 = .ok (.aload_n 0, 1) := dk_42 (dk_at dksX0_wall_1 16 rfl rfl)
theorem dX0_wall_41 : decode cX0_wall 41 = .ok (.getfield 152, 3) := dk_180 0 152 (dk_at dksX0_wall_1 17 rfl rfl)
theorem dX0_wall_44 : decode cX0_wall 44 = .ok (.iload_n 1, 1) := dk_27 (dk_at dksX0_wall_1 20 rfl rfl)
theorem dX0_wall_45 : decode cX0_wall 45 = .ok (.invokestatic 144, 3) := dk_184 0 144 (dk_at dksX0_wall_1 21 rfl rfl)
theorem dX0_wall_48 : decode cX0_wall 48 = .ok (.lxor, 1) := dk_131 (dk_at dksX0_wall_2 0 rfl rfl)
theorem dX0_wall_49 : decode cX0_wall 49 = .ok (.invokevirtual 226, 3) := dk_182 0 226 (dk_at dksX0_wall_2 1 rfl rfl)
theorem dX0_wall_52 : decode cX0_wall 52 = .ok (.iconst 1, 1) := dk_4 (dk_at dksX0_wall_2 4 rfl rfl)
theorem dX0_wall_53 : decode cX0_wall 53 = .ok (.ireturn, 1) := dk_172 (dk_at dksX0_wall_2 5 rfl rfl)
abbrev cX0_isCell : ByteArray := prog_1_method_13_code
def yX0_isCell : MethodName := ⟨RX0, "isCell", "(I)Z"⟩
def dkwX0_isCell_1 : List UInt8 := [153, 0, 7, 4, 167, 0, 4, 3, 172]
abbrev dktX0_isCell_1 : List UInt8 := dkwX0_isCell_1 ++ []
def dkwX0_isCell_0 : List UInt8 := [27, 133, 9, 20, 0, 134, 184, 0, 130, 153, 0, 22, 42, 27, 184, 0, 123, 27, 184, 0, 127, 182, 0, 136]
abbrev dktX0_isCell_0 : List UInt8 := dkwX0_isCell_0 ++ dktX0_isCell_1
theorem dksX0_isCell_0 : cX0_isCell.data.toList.drop 0 = dktX0_isCell_0 := by decide +kernel
theorem dksX0_isCell_1 : cX0_isCell.data.toList.drop 24 = dktX0_isCell_1 := dk_seg dksX0_isCell_0 24 rfl rfl
theorem dX0_isCell_0 : decode cX0_isCell 0 = .ok (.iload_n 1, 1) := dk_27 (dk_at dksX0_isCell_0 0 rfl rfl)
theorem dX0_isCell_1 : decode cX0_isCell 1 = .ok (.i2l, 1) := dk_133 (dk_at dksX0_isCell_0 1 rfl rfl)
theorem dX0_isCell_2 : decode cX0_isCell 2 = .ok (.lconst 0, 1) := dk_9 (dk_at dksX0_isCell_0 2 rfl rfl)
theorem dX0_isCell_3 : decode cX0_isCell 3 = .ok (.ldc2_w 134, 3) := dk_20 0 134 (dk_at dksX0_isCell_0 3 rfl rfl)
theorem dX0_isCell_6 : decode cX0_isCell 6 = .ok (.invokestatic 130, 3) := dk_184 0 130 (dk_at dksX0_isCell_0 6 rfl rfl)
theorem dX0_isCell_9 : decode cX0_isCell 9 = .ok (.ifCond .eq 22, 3) := dk_153 0 22 (dk_at dksX0_isCell_0 9 rfl rfl)
theorem dX0_isCell_12 : decode cX0_isCell 12 = .ok (.aload_n 0, 1) := dk_42 (dk_at dksX0_isCell_0 12 rfl rfl)
theorem dX0_isCell_13 : decode cX0_isCell 13 = .ok (.iload_n 1, 1) := dk_27 (dk_at dksX0_isCell_0 13 rfl rfl)
theorem dX0_isCell_14 : decode cX0_isCell 14 = .ok (.invokestatic 123, 3) := dk_184 0 123 (dk_at dksX0_isCell_0 14 rfl rfl)
theorem dX0_isCell_17 : decode cX0_isCell 17 = .ok (.iload_n 1, 1) := dk_27 (dk_at dksX0_isCell_0 17 rfl rfl)
theorem dX0_isCell_18 : decode cX0_isCell 18 = .ok (.invokestatic 127, 3) := dk_184 0 127 (dk_at dksX0_isCell_0 18 rfl rfl)
theorem dX0_isCell_21 : decode cX0_isCell 21 = .ok (.invokevirtual 136, 3) := dk_182 0 136 (dk_at dksX0_isCell_0 21 rfl rfl)
theorem dX0_isCell_24 : decode cX0_isCell 24 = .ok (.ifCond .eq 7, 3) := dk_153 0 7 (dk_at dksX0_isCell_1 0 rfl rfl)
theorem dX0_isCell_27 : decode cX0_isCell 27 = .ok (.iconst 1, 1) := dk_4 (dk_at dksX0_isCell_1 3 rfl rfl)
theorem dX0_isCell_28 : decode cX0_isCell 28 = .ok (.goto 4, 3) := dk_167 0 4 (dk_at dksX0_isCell_1 4 rfl rfl)
theorem dX0_isCell_31 : decode cX0_isCell 31 = .ok (.iconst 0, 1) := dk_3 (dk_at dksX0_isCell_1 7 rfl rfl)
theorem dX0_isCell_32 : decode cX0_isCell 32 = .ok (.ireturn, 1) := dk_172 (dk_at dksX0_isCell_1 8 rfl rfl)
abbrev cX0_xOf : ByteArray := prog_1_method_7_code
def yX0_xOf : MethodName := ⟨RX0, "xOf", "(I)I"⟩
def dkwX0_xOf_0 : List UInt8 := [26, 16, 8, 112, 172]
abbrev dktX0_xOf_0 : List UInt8 := dkwX0_xOf_0 ++ []
theorem dksX0_xOf_0 : cX0_xOf.data.toList.drop 0 = dktX0_xOf_0 := by decide +kernel
theorem dX0_xOf_0 : decode cX0_xOf 0 = .ok (.iload_n 0, 1) := dk_26 (dk_at dksX0_xOf_0 0 rfl rfl)
theorem dX0_xOf_1 : decode cX0_xOf 1 = .ok (.bipush 8, 2) := dk_16 8 (dk_at dksX0_xOf_0 1 rfl rfl)
theorem dX0_xOf_3 : decode cX0_xOf 3 = .ok (.irem, 1) := dk_112 (dk_at dksX0_xOf_0 3 rfl rfl)
theorem dX0_xOf_4 : decode cX0_xOf 4 = .ok (.ireturn, 1) := dk_172 (dk_at dksX0_xOf_0 4 rfl rfl)
abbrev cX0_yOf : ByteArray := prog_1_method_8_code
def yX0_yOf : MethodName := ⟨RX0, "yOf", "(I)I"⟩
def dkwX0_yOf_0 : List UInt8 := [26, 16, 8, 108, 172]
abbrev dktX0_yOf_0 : List UInt8 := dkwX0_yOf_0 ++ []
theorem dksX0_yOf_0 : cX0_yOf.data.toList.drop 0 = dktX0_yOf_0 := by decide +kernel
theorem dX0_yOf_0 : decode cX0_yOf 0 = .ok (.iload_n 0, 1) := dk_26 (dk_at dksX0_yOf_0 0 rfl rfl)
theorem dX0_yOf_1 : decode cX0_yOf 1 = .ok (.bipush 8, 2) := dk_16 8 (dk_at dksX0_yOf_0 1 rfl rfl)
theorem dX0_yOf_3 : decode cX0_yOf 3 = .ok (.idiv, 1) := dk_108 (dk_at dksX0_yOf_0 3 rfl rfl)
theorem dX0_yOf_4 : decode cX0_yOf 4 = .ok (.ireturn, 1) := dk_172 (dk_at dksX0_yOf_0 4 rfl rfl)
abbrev cX0_isPlace : ByteArray := prog_1_method_12_code
def yX0_isPlace : MethodName := ⟨RX0, "isPlace", "(II)Z"⟩
def dkwX0_isPlace_1 : List UInt8 := [10, 101, 184, 0, 130, 153, 0, 7, 4, 167, 0, 4, 3, 172]
abbrev dktX0_isPlace_1 : List UInt8 := dkwX0_isPlace_1 ++ []
def dkwX0_isPlace_0 : List UInt8 := [27, 133, 9, 42, 180, 0, 11, 133, 10, 101, 184, 0, 130, 153, 0, 23, 28, 133, 9, 42, 180, 0, 15, 133]
abbrev dktX0_isPlace_0 : List UInt8 := dkwX0_isPlace_0 ++ dktX0_isPlace_1
theorem dksX0_isPlace_0 : cX0_isPlace.data.toList.drop 0 = dktX0_isPlace_0 := by decide +kernel
theorem dksX0_isPlace_1 : cX0_isPlace.data.toList.drop 24 = dktX0_isPlace_1 := dk_seg dksX0_isPlace_0 24 rfl rfl
theorem dX0_isPlace_0 : decode cX0_isPlace 0 = .ok (.iload_n 1, 1) := dk_27 (dk_at dksX0_isPlace_0 0 rfl rfl)
theorem dX0_isPlace_1 : decode cX0_isPlace 1 = .ok (.i2l, 1) := dk_133 (dk_at dksX0_isPlace_0 1 rfl rfl)
theorem dX0_isPlace_2 : decode cX0_isPlace 2 = .ok (.lconst 0, 1) := dk_9 (dk_at dksX0_isPlace_0 2 rfl rfl)
theorem dX0_isPlace_3 : decode cX0_isPlace 3 = .ok (.aload_n 0, 1) := dk_42 (dk_at dksX0_isPlace_0 3 rfl rfl)
theorem dX0_isPlace_4 : decode cX0_isPlace 4 = .ok (.getfield 11, 3) := dk_180 0 11 (dk_at dksX0_isPlace_0 4 rfl rfl)
theorem dX0_isPlace_7 : decode cX0_isPlace 7 = .ok (.i2l, 1) := dk_133 (dk_at dksX0_isPlace_0 7 rfl rfl)
theorem dX0_isPlace_8 : decode cX0_isPlace 8 = .ok (.lconst 1, 1) := dk_10 (dk_at dksX0_isPlace_0 8 rfl rfl)
theorem dX0_isPlace_9 : decode cX0_isPlace 9 = .ok (.lsub, 1) := dk_101 (dk_at dksX0_isPlace_0 9 rfl rfl)
theorem dX0_isPlace_10 : decode cX0_isPlace 10 = .ok (.invokestatic 130, 3) := dk_184 0 130 (dk_at dksX0_isPlace_0 10 rfl rfl)
theorem dX0_isPlace_13 : decode cX0_isPlace 13 = .ok (.ifCond .eq 23, 3) := dk_153 0 23 (dk_at dksX0_isPlace_0 13 rfl rfl)
theorem dX0_isPlace_16 : decode cX0_isPlace 16 = .ok (.iload_n 2, 1) := dk_28 (dk_at dksX0_isPlace_0 16 rfl rfl)
theorem dX0_isPlace_17 : decode cX0_isPlace 17 = .ok (.i2l, 1) := dk_133 (dk_at dksX0_isPlace_0 17 rfl rfl)
theorem dX0_isPlace_18 : decode cX0_isPlace 18 = .ok (.lconst 0, 1) := dk_9 (dk_at dksX0_isPlace_0 18 rfl rfl)
theorem dX0_isPlace_19 : decode cX0_isPlace 19 = .ok (.aload_n 0, 1) := dk_42 (dk_at dksX0_isPlace_0 19 rfl rfl)
theorem dX0_isPlace_20 : decode cX0_isPlace 20 = .ok (.getfield 15, 3) := dk_180 0 15 (dk_at dksX0_isPlace_0 20 rfl rfl)
theorem dX0_isPlace_23 : decode cX0_isPlace 23 = .ok (.i2l, 1) := dk_133 (dk_at dksX0_isPlace_0 23 rfl rfl)
theorem dX0_isPlace_24 : decode cX0_isPlace 24 = .ok (.lconst 1, 1) := dk_10 (dk_at dksX0_isPlace_1 0 rfl rfl)
theorem dX0_isPlace_25 : decode cX0_isPlace 25 = .ok (.lsub, 1) := dk_101 (dk_at dksX0_isPlace_1 1 rfl rfl)
theorem dX0_isPlace_26 : decode cX0_isPlace 26 = .ok (.invokestatic 130, 3) := dk_184 0 130 (dk_at dksX0_isPlace_1 2 rfl rfl)
theorem dX0_isPlace_29 : decode cX0_isPlace 29 = .ok (.ifCond .eq 7, 3) := dk_153 0 7 (dk_at dksX0_isPlace_1 5 rfl rfl)
theorem dX0_isPlace_32 : decode cX0_isPlace 32 = .ok (.iconst 1, 1) := dk_4 (dk_at dksX0_isPlace_1 8 rfl rfl)
theorem dX0_isPlace_33 : decode cX0_isPlace 33 = .ok (.goto 4, 3) := dk_167 0 4 (dk_at dksX0_isPlace_1 9 rfl rfl)
theorem dX0_isPlace_36 : decode cX0_isPlace 36 = .ok (.iconst 0, 1) := dk_3 (dk_at dksX0_isPlace_1 12 rfl rfl)
theorem dX0_isPlace_37 : decode cX0_isPlace 37 = .ok (.ireturn, 1) := dk_172 (dk_at dksX0_isPlace_1 13 rfl rfl)
abbrev cX0_known : ByteArray := prog_1_method_21_code
def yX0_known : MethodName := ⟨RX0, "known", "(I)J"⟩
def dkwX0_known_3 : List UInt8 := [129, 65, 132, 4, 1, 167, 255, 186, 32, 173]
abbrev dktX0_known_3 : List UInt8 := dkwX0_known_3 ++ []
def dkwX0_known_2 : List UInt8 := [154, 0, 23, 42, 180, 0, 25, 21, 4, 185, 0, 186, 2, 0, 192, 0, 190, 182, 0, 196, 167, 0, 4, 9]
abbrev dktX0_known_2 : List UInt8 := dkwX0_known_2 ++ dktX0_known_3
def dkwX0_known_1 : List UInt8 := [21, 4, 185, 0, 186, 2, 0, 192, 0, 190, 182, 0, 192, 153, 0, 32, 27, 21, 4, 122, 4, 126]
abbrev dktX0_known_1 : List UInt8 := dkwX0_known_1 ++ dktX0_known_2
def dkwX0_known_0 : List UInt8 := [9, 65, 3, 54, 4, 21, 4, 42, 180, 0, 25, 185, 0, 180, 1, 0, 162, 0, 62, 32, 42, 180, 0, 25]
abbrev dktX0_known_0 : List UInt8 := dkwX0_known_0 ++ dktX0_known_1
theorem dksX0_known_0 : cX0_known.data.toList.drop 0 = dktX0_known_0 := by decide +kernel
theorem dksX0_known_1 : cX0_known.data.toList.drop 24 = dktX0_known_1 := dk_seg dksX0_known_0 24 rfl rfl
theorem dksX0_known_2 : cX0_known.data.toList.drop 46 = dktX0_known_2 := dk_seg dksX0_known_1 22 rfl rfl
theorem dksX0_known_3 : cX0_known.data.toList.drop 70 = dktX0_known_3 := dk_seg dksX0_known_2 24 rfl rfl
theorem dX0_known_0 : decode cX0_known 0 = .ok (.lconst 0, 1) := dk_9 (dk_at dksX0_known_0 0 rfl rfl)
theorem dX0_known_1 : decode cX0_known 1 = .ok (.lstore_n 2, 1) := dk_65 (dk_at dksX0_known_0 1 rfl rfl)
theorem dX0_known_2 : decode cX0_known 2 = .ok (.iconst 0, 1) := dk_3 (dk_at dksX0_known_0 2 rfl rfl)
theorem dX0_known_3 : decode cX0_known 3 = .ok (.istore 4, 2) := dk_54 4 (dk_at dksX0_known_0 3 rfl rfl)
theorem dX0_known_5 : decode cX0_known 5 = .ok (.iload 4, 2) := dk_21 4 (dk_at dksX0_known_0 5 rfl rfl)
theorem dX0_known_7 : decode cX0_known 7 = .ok (.aload_n 0, 1) := dk_42 (dk_at dksX0_known_0 7 rfl rfl)
theorem dX0_known_8 : decode cX0_known 8 = .ok (.getfield 25, 3) := dk_180 0 25 (dk_at dksX0_known_0 8 rfl rfl)
theorem dX0_known_11 : decode cX0_known 11 = .ok (.invokeinterface 180 1, 5) := by decide +kernel
theorem dX0_known_16 : decode cX0_known 16 = .ok (.if_icmp .ge 62, 3) := dk_162 0 62 (dk_at dksX0_known_0 16 rfl rfl)
theorem dX0_known_19 : decode cX0_known 19 = .ok (.lload_n 2, 1) := dk_32 (dk_at dksX0_known_0 19 rfl rfl)
theorem dX0_known_20 : decode cX0_known 20 = .ok (.aload_n 0, 1) := dk_42 (dk_at dksX0_known_0 20 rfl rfl)
theorem dX0_known_21 : decode cX0_known 21 = .ok (.getfield 25, 3) := dk_180 0 25 (dk_at dksX0_known_0 21 rfl rfl)
theorem dX0_known_24 : decode cX0_known 24 = .ok (.iload 4, 2) := dk_21 4 (dk_at dksX0_known_1 0 rfl rfl)
theorem dX0_known_26 : decode cX0_known 26 = .ok (.invokeinterface 186 2, 5) := by decide +kernel
theorem dX0_known_31 : decode cX0_known 31 = .ok (.checkcast 190, 3) := dk_192 0 190 (dk_at dksX0_known_1 7 rfl rfl)
theorem dX0_known_34 : decode cX0_known 34 = .ok (.invokevirtual 192, 3) := dk_182 0 192 (dk_at dksX0_known_1 10 rfl rfl)
theorem dX0_known_37 : decode cX0_known 37 = .ok (.ifCond .eq 32, 3) := dk_153 0 32 (dk_at dksX0_known_1 13 rfl rfl)
theorem dX0_known_40 : decode cX0_known 40 = .ok (.iload_n 1, 1) := dk_27 (dk_at dksX0_known_1 16 rfl rfl)
theorem dX0_known_41 : decode cX0_known 41 = .ok (.iload 4, 2) := dk_21 4 (dk_at dksX0_known_1 17 rfl rfl)
theorem dX0_known_43 : decode cX0_known 43 = .ok (.ishr, 1) := dk_122 (dk_at dksX0_known_1 19 rfl rfl)
theorem dX0_known_44 : decode cX0_known 44 = .ok (.iconst 1, 1) := dk_4 (dk_at dksX0_known_1 20 rfl rfl)
theorem dX0_known_45 : decode cX0_known 45 = .ok (.iand, 1) := dk_126 (dk_at dksX0_known_1 21 rfl rfl)
theorem dX0_known_46 : decode cX0_known 46 = .ok (.ifCond .ne 23, 3) := dk_154 0 23 (dk_at dksX0_known_2 0 rfl rfl)
theorem dX0_known_49 : decode cX0_known 49 = .ok (.aload_n 0, 1) := dk_42 (dk_at dksX0_known_2 3 rfl rfl)
theorem dX0_known_50 : decode cX0_known 50 = .ok (.getfield 25, 3) := dk_180 0 25 (dk_at dksX0_known_2 4 rfl rfl)
theorem dX0_known_53 : decode cX0_known 53 = .ok (.iload 4, 2) := dk_21 4 (dk_at dksX0_known_2 7 rfl rfl)
theorem dX0_known_55 : decode cX0_known 55 = .ok (.invokeinterface 186 2, 5) := by decide +kernel
theorem dX0_known_60 : decode cX0_known 60 = .ok (.checkcast 190, 3) := dk_192 0 190 (dk_at dksX0_known_2 14 rfl rfl)
theorem dX0_known_63 : decode cX0_known 63 = .ok (.invokevirtual 196, 3) := dk_182 0 196 (dk_at dksX0_known_2 17 rfl rfl)
theorem dX0_known_66 : decode cX0_known 66 = .ok (.goto 4, 3) := dk_167 0 4 (dk_at dksX0_known_2 20 rfl rfl)
theorem dX0_known_69 : decode cX0_known 69 = .ok (.lconst 0, 1) := dk_9 (dk_at dksX0_known_2 23 rfl rfl)
theorem dX0_known_70 : decode cX0_known 70 = .ok (.lor, 1) := dk_129 (dk_at dksX0_known_3 0 rfl rfl)
theorem dX0_known_71 : decode cX0_known 71 = .ok (.lstore_n 2, 1) := dk_65 (dk_at dksX0_known_3 1 rfl rfl)
theorem dX0_known_72 : decode cX0_known 72 = .ok (.iinc 4 1, 3) := dk_132 4 1 (dk_at dksX0_known_3 2 rfl rfl)
theorem dX0_known_75 : decode cX0_known 75 = .ok (.goto (-70), 3) := dk_167 255 186 (dk_at dksX0_known_3 5 rfl rfl)
theorem dX0_known_78 : decode cX0_known 78 = .ok (.lload_n 2, 1) := dk_32 (dk_at dksX0_known_3 8 rfl rfl)
theorem dX0_known_79 : decode cX0_known 79 = .ok (.lreturn, 1) := dk_173 (dk_at dksX0_known_3 9 rfl rfl)
abbrev cX0_bit : ByteArray := prog_1_method_6_code
def yX0_bit : MethodName := ⟨RX0, "bit", "(I)J"⟩
def dkwX0_bit_0 : List UInt8 := [10, 26, 121, 173]
abbrev dktX0_bit_0 : List UInt8 := dkwX0_bit_0 ++ []
theorem dksX0_bit_0 : cX0_bit.data.toList.drop 0 = dktX0_bit_0 := by decide +kernel
theorem dX0_bit_0 : decode cX0_bit 0 = .ok (.lconst 1, 1) := dk_10 (dk_at dksX0_bit_0 0 rfl rfl)
theorem dX0_bit_1 : decode cX0_bit 1 = .ok (.iload_n 0, 1) := dk_26 (dk_at dksX0_bit_0 1 rfl rfl)
theorem dX0_bit_2 : decode cX0_bit 2 = .ok (.lshl, 1) := dk_121 (dk_at dksX0_bit_0 2 rfl rfl)
theorem dX0_bit_3 : decode cX0_bit 3 = .ok (.lreturn, 1) := dk_173 (dk_at dksX0_bit_0 3 rfl rfl)
abbrev cX0_free : ByteArray := prog_1_method_15_code
def yX0_free : MethodName := ⟨RX0, "free", "()J"⟩
def dkwX0_free_0 : List UInt8 := [42, 182, 0, 148, 42, 180, 0, 152, 20, 0, 156, 131, 127, 173]
abbrev dktX0_free_0 : List UInt8 := dkwX0_free_0 ++ []
theorem dksX0_free_0 : cX0_free.data.toList.drop 0 = dktX0_free_0 := by decide +kernel
theorem dX0_free_0 : decode cX0_free 0 = .ok (.aload_n 0, 1) := dk_42 (dk_at dksX0_free_0 0 rfl rfl)
theorem dX0_free_1 : decode cX0_free 1 = .ok (.invokevirtual 148, 3) := dk_182 0 148 (dk_at dksX0_free_0 1 rfl rfl)
theorem dX0_free_4 : decode cX0_free 4 = .ok (.aload_n 0, 1) := dk_42 (dk_at dksX0_free_0 4 rfl rfl)
theorem dX0_free_5 : decode cX0_free 5 = .ok (.getfield 152, 3) := dk_180 0 152 (dk_at dksX0_free_0 5 rfl rfl)
theorem dX0_free_8 : decode cX0_free 8 = .ok (.ldc2_w 156, 3) := dk_20 0 156 (dk_at dksX0_free_0 8 rfl rfl)
theorem dX0_free_11 : decode cX0_free 11 = .ok (.lxor, 1) := dk_131 (dk_at dksX0_free_0 11 rfl rfl)
theorem dX0_free_12 : decode cX0_free 12 = .ok (.land, 1) := dk_127 (dk_at dksX0_free_0 12 rfl rfl)
theorem dX0_free_13 : decode cX0_free 13 = .ok (.lreturn, 1) := dk_173 (dk_at dksX0_free_0 13 rfl rfl)
abbrev cX0_all : ByteArray := prog_1_method_14_code
def yX0_all : MethodName := ⟨RX0, "all", "()J"⟩
def dkwX0_all_2 : List UInt8 := [31, 173]
abbrev dktX0_all_2 : List UInt8 := dkwX0_all_2 ++ []
def dkwX0_all_1 : List UInt8 := [31, 21, 4, 29, 184, 0, 140, 184, 0, 144, 129, 64, 132, 4, 1, 167, 255, 232, 132, 3, 1, 167, 255, 215]
abbrev dktX0_all_1 : List UInt8 := dkwX0_all_1 ++ dktX0_all_2
def dkwX0_all_0 : List UInt8 := [9, 64, 3, 62, 29, 42, 180, 0, 15, 162, 0, 39, 3, 54, 4, 21, 4, 42, 180, 0, 11, 162, 0, 21]
abbrev dktX0_all_0 : List UInt8 := dkwX0_all_0 ++ dktX0_all_1
theorem dksX0_all_0 : cX0_all.data.toList.drop 0 = dktX0_all_0 := by decide +kernel
theorem dksX0_all_1 : cX0_all.data.toList.drop 24 = dktX0_all_1 := dk_seg dksX0_all_0 24 rfl rfl
theorem dksX0_all_2 : cX0_all.data.toList.drop 48 = dktX0_all_2 := dk_seg dksX0_all_1 24 rfl rfl
theorem dX0_all_0 : decode cX0_all 0 = .ok (.lconst 0, 1) := dk_9 (dk_at dksX0_all_0 0 rfl rfl)
theorem dX0_all_1 : decode cX0_all 1 = .ok (.lstore_n 1, 1) := dk_64 (dk_at dksX0_all_0 1 rfl rfl)
theorem dX0_all_2 : decode cX0_all 2 = .ok (.iconst 0, 1) := dk_3 (dk_at dksX0_all_0 2 rfl rfl)
theorem dX0_all_3 : decode cX0_all 3 = .ok (.istore_n 3, 1) := dk_62 (dk_at dksX0_all_0 3 rfl rfl)
theorem dX0_all_4 : decode cX0_all 4 = .ok (.iload_n 3, 1) := dk_29 (dk_at dksX0_all_0 4 rfl rfl)
theorem dX0_all_5 : decode cX0_all 5 = .ok (.aload_n 0, 1) := dk_42 (dk_at dksX0_all_0 5 rfl rfl)
theorem dX0_all_6 : decode cX0_all 6 = .ok (.getfield 15, 3) := dk_180 0 15 (dk_at dksX0_all_0 6 rfl rfl)
theorem dX0_all_9 : decode cX0_all 9 = .ok (.if_icmp .ge 39, 3) := dk_162 0 39 (dk_at dksX0_all_0 9 rfl rfl)
theorem dX0_all_12 : decode cX0_all 12 = .ok (.iconst 0, 1) := dk_3 (dk_at dksX0_all_0 12 rfl rfl)
theorem dX0_all_13 : decode cX0_all 13 = .ok (.istore 4, 2) := dk_54 4 (dk_at dksX0_all_0 13 rfl rfl)
theorem dX0_all_15 : decode cX0_all 15 = .ok (.iload 4, 2) := dk_21 4 (dk_at dksX0_all_0 15 rfl rfl)
theorem dX0_all_17 : decode cX0_all 17 = .ok (.aload_n 0, 1) := dk_42 (dk_at dksX0_all_0 17 rfl rfl)
theorem dX0_all_18 : decode cX0_all 18 = .ok (.getfield 11, 3) := dk_180 0 11 (dk_at dksX0_all_0 18 rfl rfl)
theorem dX0_all_21 : decode cX0_all 21 = .ok (.if_icmp .ge 21, 3) := dk_162 0 21 (dk_at dksX0_all_0 21 rfl rfl)
theorem dX0_all_24 : decode cX0_all 24 = .ok (.lload_n 1, 1) := dk_31 (dk_at dksX0_all_1 0 rfl rfl)
theorem dX0_all_25 : decode cX0_all 25 = .ok (.iload 4, 2) := dk_21 4 (dk_at dksX0_all_1 1 rfl rfl)
theorem dX0_all_27 : decode cX0_all 27 = .ok (.iload_n 3, 1) := dk_29 (dk_at dksX0_all_1 3 rfl rfl)
theorem dX0_all_28 : decode cX0_all 28 = .ok (.invokestatic 140, 3) := dk_184 0 140 (dk_at dksX0_all_1 4 rfl rfl)
theorem dX0_all_31 : decode cX0_all 31 = .ok (.invokestatic 144, 3) := dk_184 0 144 (dk_at dksX0_all_1 7 rfl rfl)
theorem dX0_all_34 : decode cX0_all 34 = .ok (.lor, 1) := dk_129 (dk_at dksX0_all_1 10 rfl rfl)
theorem dX0_all_35 : decode cX0_all 35 = .ok (.lstore_n 1, 1) := dk_64 (dk_at dksX0_all_1 11 rfl rfl)
theorem dX0_all_36 : decode cX0_all 36 = .ok (.iinc 4 1, 3) := dk_132 4 1 (dk_at dksX0_all_1 12 rfl rfl)
theorem dX0_all_39 : decode cX0_all 39 = .ok (.goto (-24), 3) := dk_167 255 232 (dk_at dksX0_all_1 15 rfl rfl)
theorem dX0_all_42 : decode cX0_all 42 = .ok (.iinc 3 1, 3) := dk_132 3 1 (dk_at dksX0_all_1 18 rfl rfl)
theorem dX0_all_45 : decode cX0_all 45 = .ok (.goto (-41), 3) := dk_167 255 215 (dk_at dksX0_all_1 21 rfl rfl)
theorem dX0_all_48 : decode cX0_all 48 = .ok (.lload_n 1, 1) := dk_31 (dk_at dksX0_all_2 0 rfl rfl)
theorem dX0_all_49 : decode cX0_all 49 = .ok (.lreturn, 1) := dk_173 (dk_at dksX0_all_2 1 rfl rfl)
abbrev cX0_cellAt : ByteArray := prog_1_method_9_code
def yX0_cellAt : MethodName := ⟨RX0, "cellAt", "(II)I"⟩
def dkwX0_cellAt_0 : List UInt8 := [16, 8, 27, 104, 26, 96, 172]
abbrev dktX0_cellAt_0 : List UInt8 := dkwX0_cellAt_0 ++ []
theorem dksX0_cellAt_0 : cX0_cellAt.data.toList.drop 0 = dktX0_cellAt_0 := by decide +kernel
theorem dX0_cellAt_0 : decode cX0_cellAt 0 = .ok (.bipush 8, 2) := dk_16 8 (dk_at dksX0_cellAt_0 0 rfl rfl)
theorem dX0_cellAt_2 : decode cX0_cellAt 2 = .ok (.iload_n 1, 1) := dk_27 (dk_at dksX0_cellAt_0 2 rfl rfl)
theorem dX0_cellAt_3 : decode cX0_cellAt 3 = .ok (.imul, 1) := dk_104 (dk_at dksX0_cellAt_0 3 rfl rfl)
theorem dX0_cellAt_4 : decode cX0_cellAt 4 = .ok (.iload_n 0, 1) := dk_26 (dk_at dksX0_cellAt_0 4 rfl rfl)
theorem dX0_cellAt_5 : decode cX0_cellAt 5 = .ok (.iadd, 1) := dk_96 (dk_at dksX0_cellAt_0 5 rfl rfl)
theorem dX0_cellAt_6 : decode cX0_cellAt 6 = .ok (.ireturn, 1) := dk_172 (dk_at dksX0_cellAt_0 6 rfl rfl)
abbrev cX0_isOn : ByteArray := prog_1_method_10_code
def yX0_isOn : MethodName := ⟨RX0, "isOn", "(JI)Z"⟩
def dkwX0_isOn_0 : List UInt8 := [30, 28, 123, 10, 127, 10, 148, 154, 0, 7, 4, 167, 0, 4, 3, 172]
abbrev dktX0_isOn_0 : List UInt8 := dkwX0_isOn_0 ++ []
theorem dksX0_isOn_0 : cX0_isOn.data.toList.drop 0 = dktX0_isOn_0 := by decide +kernel
theorem dX0_isOn_0 : decode cX0_isOn 0 = .ok (.lload_n 0, 1) := dk_30 (dk_at dksX0_isOn_0 0 rfl rfl)
theorem dX0_isOn_1 : decode cX0_isOn 1 = .ok (.iload_n 2, 1) := dk_28 (dk_at dksX0_isOn_0 1 rfl rfl)
theorem dX0_isOn_2 : decode cX0_isOn 2 = .ok (.lshr, 1) := dk_123 (dk_at dksX0_isOn_0 2 rfl rfl)
theorem dX0_isOn_3 : decode cX0_isOn 3 = .ok (.lconst 1, 1) := dk_10 (dk_at dksX0_isOn_0 3 rfl rfl)
theorem dX0_isOn_4 : decode cX0_isOn 4 = .ok (.land, 1) := dk_127 (dk_at dksX0_isOn_0 4 rfl rfl)
theorem dX0_isOn_5 : decode cX0_isOn 5 = .ok (.lconst 1, 1) := dk_10 (dk_at dksX0_isOn_0 5 rfl rfl)
theorem dX0_isOn_6 : decode cX0_isOn 6 = .ok (.lcmp, 1) := dk_148 (dk_at dksX0_isOn_0 6 rfl rfl)
theorem dX0_isOn_7 : decode cX0_isOn 7 = .ok (.ifCond .ne 7, 3) := dk_154 0 7 (dk_at dksX0_isOn_0 7 rfl rfl)
theorem dX0_isOn_10 : decode cX0_isOn 10 = .ok (.iconst 1, 1) := dk_4 (dk_at dksX0_isOn_0 10 rfl rfl)
theorem dX0_isOn_11 : decode cX0_isOn 11 = .ok (.goto 4, 3) := dk_167 0 4 (dk_at dksX0_isOn_0 11 rfl rfl)
theorem dX0_isOn_14 : decode cX0_isOn 14 = .ok (.iconst 0, 1) := dk_3 (dk_at dksX0_isOn_0 14 rfl rfl)
theorem dX0_isOn_15 : decode cX0_isOn 15 = .ok (.ireturn, 1) := dk_172 (dk_at dksX0_isOn_0 15 rfl rfl)
abbrev cX0_wallsBecome : ByteArray := prog_1_method_23_code
def yX0_wallsBecome : MethodName := ⟨RX0, "wallsBecome", "(J)V"⟩
def dkwX0_wallsBecome_1 : List UInt8 := [29, 185, 0, 186, 2, 0, 192, 0, 214, 182, 0, 216, 132, 3, 1, 167, 255, 224, 42, 182, 0, 211, 177]
abbrev dktX0_wallsBecome_1 : List UInt8 := dkwX0_wallsBecome_1 ++ []
def dkwX0_wallsBecome_0 : List UInt8 := [42, 31, 181, 0, 152, 3, 62, 29, 42, 180, 0, 29, 185, 0, 180, 1, 0, 162, 0, 25, 42, 180, 0, 29]
abbrev dktX0_wallsBecome_0 : List UInt8 := dkwX0_wallsBecome_0 ++ dktX0_wallsBecome_1
theorem dksX0_wallsBecome_0 : cX0_wallsBecome.data.toList.drop 0 = dktX0_wallsBecome_0 := by decide +kernel
theorem dksX0_wallsBecome_1 : cX0_wallsBecome.data.toList.drop 24 = dktX0_wallsBecome_1 := dk_seg dksX0_wallsBecome_0 24 rfl rfl
theorem dX0_wallsBecome_0 : decode cX0_wallsBecome 0 = .ok (.aload_n 0, 1) := dk_42 (dk_at dksX0_wallsBecome_0 0 rfl rfl)
theorem dX0_wallsBecome_1 : decode cX0_wallsBecome 1 = .ok (.lload_n 1, 1) := dk_31 (dk_at dksX0_wallsBecome_0 1 rfl rfl)
theorem dX0_wallsBecome_2 : decode cX0_wallsBecome 2 = .ok (.putfield 152, 3) := dk_181 0 152 (dk_at dksX0_wallsBecome_0 2 rfl rfl)
theorem dX0_wallsBecome_5 : decode cX0_wallsBecome 5 = .ok (.iconst 0, 1) := dk_3 (dk_at dksX0_wallsBecome_0 5 rfl rfl)
theorem dX0_wallsBecome_6 : decode cX0_wallsBecome 6 = .ok (.istore_n 3, 1) := dk_62 (dk_at dksX0_wallsBecome_0 6 rfl rfl)
theorem dX0_wallsBecome_7 : decode cX0_wallsBecome 7 = .ok (.iload_n 3, 1) := dk_29 (dk_at dksX0_wallsBecome_0 7 rfl rfl)
theorem dX0_wallsBecome_8 : decode cX0_wallsBecome 8 = .ok (.aload_n 0, 1) := dk_42 (dk_at dksX0_wallsBecome_0 8 rfl rfl)
theorem dX0_wallsBecome_9 : decode cX0_wallsBecome 9 = .ok (.getfield 29, 3) := dk_180 0 29 (dk_at dksX0_wallsBecome_0 9 rfl rfl)
theorem dX0_wallsBecome_12 : decode cX0_wallsBecome 12 = .ok (.invokeinterface 180 1, 5) := by decide +kernel
theorem dX0_wallsBecome_17 : decode cX0_wallsBecome 17 = .ok (.if_icmp .ge 25, 3) := dk_162 0 25 (dk_at dksX0_wallsBecome_0 17 rfl rfl)
theorem dX0_wallsBecome_20 : decode cX0_wallsBecome 20 = .ok (.aload_n 0, 1) := dk_42 (dk_at dksX0_wallsBecome_0 20 rfl rfl)
theorem dX0_wallsBecome_21 : decode cX0_wallsBecome 21 = .ok (.getfield 29, 3) := dk_180 0 29 (dk_at dksX0_wallsBecome_0 21 rfl rfl)
theorem dX0_wallsBecome_24 : decode cX0_wallsBecome 24 = .ok (.iload_n 3, 1) := dk_29 (dk_at dksX0_wallsBecome_1 0 rfl rfl)
theorem dX0_wallsBecome_25 : decode cX0_wallsBecome 25 = .ok (.invokeinterface 186 2, 5) := by decide +kernel
theorem dX0_wallsBecome_30 : decode cX0_wallsBecome 30 = .ok (.checkcast 214, 3) := dk_192 0 214 (dk_at dksX0_wallsBecome_1 6 rfl rfl)
theorem dX0_wallsBecome_33 : decode cX0_wallsBecome 33 = .ok (.invokevirtual 216, 3) := dk_182 0 216 (dk_at dksX0_wallsBecome_1 9 rfl rfl)
theorem dX0_wallsBecome_36 : decode cX0_wallsBecome 36 = .ok (.iinc 3 1, 3) := dk_132 3 1 (dk_at dksX0_wallsBecome_1 12 rfl rfl)
theorem dX0_wallsBecome_39 : decode cX0_wallsBecome 39 = .ok (.goto (-32), 3) := dk_167 255 224 (dk_at dksX0_wallsBecome_1 15 rfl rfl)
theorem dX0_wallsBecome_42 : decode cX0_wallsBecome 42 = .ok (.aload_n 0, 1) := dk_42 (dk_at dksX0_wallsBecome_1 18 rfl rfl)
theorem dX0_wallsBecome_43 : decode cX0_wallsBecome 43 = .ok (.invokevirtual 211, 3) := dk_182 0 211 (dk_at dksX0_wallsBecome_1 19 rfl rfl)
theorem dX0_wallsBecome_46 : decode cX0_wallsBecome 46 = .ok (.return_, 1) := dk_177 (dk_at dksX0_wallsBecome_1 22 rfl rfl)
abbrev cX0_layHops : ByteArray := prog_1_method_16_code
def yX0_layHops : MethodName := ⟨RX0, "layHops", "(I)V"⟩
def dkwX0_layHops_3 : List UInt8 := [184, 0, 144, 167, 0, 4, 9, 129, 80, 132, 5, 1, 167, 255, 198, 132, 4, 1, 167, 255, 174, 177]
abbrev dktX0_layHops_3 : List UInt8 := dkwX0_layHops_3 ++ []
def dkwX0_layHops_2 : List UInt8 := [92, 47, 32, 21, 5, 184, 0, 161, 153, 0, 22, 21, 4, 21, 5, 184, 0, 165, 27, 163, 0, 11, 21, 5]
abbrev dktX0_layHops_2 : List UInt8 := dkwX0_layHops_2 ++ dktX0_layHops_3
def dkwX0_layHops_1 : List UInt8 := [54, 5, 21, 5, 16, 64, 162, 0, 57, 32, 21, 4, 184, 0, 161, 153, 0, 48, 42, 180, 0, 18, 21, 4]
abbrev dktX0_layHops_1 : List UInt8 := dkwX0_layHops_1 ++ dktX0_layHops_2
def dkwX0_layHops_0 : List UInt8 := [42, 182, 0, 158, 65, 3, 54, 4, 21, 4, 16, 64, 162, 0, 81, 42, 180, 0, 18, 21, 4, 9, 80, 3]
abbrev dktX0_layHops_0 : List UInt8 := dkwX0_layHops_0 ++ dktX0_layHops_1
theorem dksX0_layHops_0 : cX0_layHops.data.toList.drop 0 = dktX0_layHops_0 := by decide +kernel
theorem dksX0_layHops_1 : cX0_layHops.data.toList.drop 24 = dktX0_layHops_1 := dk_seg dksX0_layHops_0 24 rfl rfl
theorem dksX0_layHops_2 : cX0_layHops.data.toList.drop 48 = dktX0_layHops_2 := dk_seg dksX0_layHops_1 24 rfl rfl
theorem dksX0_layHops_3 : cX0_layHops.data.toList.drop 72 = dktX0_layHops_3 := dk_seg dksX0_layHops_2 24 rfl rfl
theorem dX0_layHops_0 : decode cX0_layHops 0 = .ok (.aload_n 0, 1) := dk_42 (dk_at dksX0_layHops_0 0 rfl rfl)
theorem dX0_layHops_1 : decode cX0_layHops 1 = .ok (.invokevirtual 158, 3) := dk_182 0 158 (dk_at dksX0_layHops_0 1 rfl rfl)
theorem dX0_layHops_4 : decode cX0_layHops 4 = .ok (.lstore_n 2, 1) := dk_65 (dk_at dksX0_layHops_0 4 rfl rfl)
theorem dX0_layHops_5 : decode cX0_layHops 5 = .ok (.iconst 0, 1) := dk_3 (dk_at dksX0_layHops_0 5 rfl rfl)
theorem dX0_layHops_6 : decode cX0_layHops 6 = .ok (.istore 4, 2) := dk_54 4 (dk_at dksX0_layHops_0 6 rfl rfl)
theorem dX0_layHops_8 : decode cX0_layHops 8 = .ok (.iload 4, 2) := dk_21 4 (dk_at dksX0_layHops_0 8 rfl rfl)
theorem dX0_layHops_10 : decode cX0_layHops 10 = .ok (.bipush 64, 2) := dk_16 64 (dk_at dksX0_layHops_0 10 rfl rfl)
theorem dX0_layHops_12 : decode cX0_layHops 12 = .ok (.if_icmp .ge 81, 3) := dk_162 0 81 (dk_at dksX0_layHops_0 12 rfl rfl)
theorem dX0_layHops_15 : decode cX0_layHops 15 = .ok (.aload_n 0, 1) := dk_42 (dk_at dksX0_layHops_0 15 rfl rfl)
theorem dX0_layHops_16 : decode cX0_layHops 16 = .ok (.getfield 18, 3) := dk_180 0 18 (dk_at dksX0_layHops_0 16 rfl rfl)
theorem dX0_layHops_19 : decode cX0_layHops 19 = .ok (.iload 4, 2) := dk_21 4 (dk_at dksX0_layHops_0 19 rfl rfl)
theorem dX0_layHops_21 : decode cX0_layHops 21 = .ok (.lconst 0, 1) := dk_9 (dk_at dksX0_layHops_0 21 rfl rfl)
theorem dX0_layHops_22 : decode cX0_layHops 22 = .ok (.lastore, 1) := dk_80 (dk_at dksX0_layHops_0 22 rfl rfl)
theorem dX0_layHops_23 : decode cX0_layHops 23 = .ok (.iconst 0, 1) := dk_3 (dk_at dksX0_layHops_0 23 rfl rfl)
theorem dX0_layHops_24 : decode cX0_layHops 24 = .ok (.istore 5, 2) := dk_54 5 (dk_at dksX0_layHops_1 0 rfl rfl)
theorem dX0_layHops_26 : decode cX0_layHops 26 = .ok (.iload 5, 2) := dk_21 5 (dk_at dksX0_layHops_1 2 rfl rfl)
theorem dX0_layHops_28 : decode cX0_layHops 28 = .ok (.bipush 64, 2) := dk_16 64 (dk_at dksX0_layHops_1 4 rfl rfl)
theorem dX0_layHops_30 : decode cX0_layHops 30 = .ok (.if_icmp .ge 57, 3) := dk_162 0 57 (dk_at dksX0_layHops_1 6 rfl rfl)
theorem dX0_layHops_33 : decode cX0_layHops 33 = .ok (.lload_n 2, 1) := dk_32 (dk_at dksX0_layHops_1 9 rfl rfl)
theorem dX0_layHops_34 : decode cX0_layHops 34 = .ok (.iload 4, 2) := dk_21 4 (dk_at dksX0_layHops_1 10 rfl rfl)
theorem dX0_layHops_36 : decode cX0_layHops 36 = .ok (.invokestatic 161, 3) := dk_184 0 161 (dk_at dksX0_layHops_1 12 rfl rfl)
theorem dX0_layHops_39 : decode cX0_layHops 39 = .ok (.ifCond .eq 48, 3) := dk_153 0 48 (dk_at dksX0_layHops_1 15 rfl rfl)
theorem dX0_layHops_42 : decode cX0_layHops 42 = .ok (.aload_n 0, 1) := dk_42 (dk_at dksX0_layHops_1 18 rfl rfl)
theorem dX0_layHops_43 : decode cX0_layHops 43 = .ok (.getfield 18, 3) := dk_180 0 18 (dk_at dksX0_layHops_1 19 rfl rfl)
theorem dX0_layHops_46 : decode cX0_layHops 46 = .ok (.iload 4, 2) := dk_21 4 (dk_at dksX0_layHops_1 22 rfl rfl)
theorem dX0_layHops_48 : decode cX0_layHops 48 = .ok (.dup2, 1) := dk_92 (dk_at dksX0_layHops_2 0 rfl rfl)
theorem dX0_layHops_49 : decode cX0_layHops 49 = .ok (.laload, 1) := dk_47 (dk_at dksX0_layHops_2 1 rfl rfl)
theorem dX0_layHops_50 : decode cX0_layHops 50 = .ok (.lload_n 2, 1) := dk_32 (dk_at dksX0_layHops_2 2 rfl rfl)
theorem dX0_layHops_51 : decode cX0_layHops 51 = .ok (.iload 5, 2) := dk_21 5 (dk_at dksX0_layHops_2 3 rfl rfl)
theorem dX0_layHops_53 : decode cX0_layHops 53 = .ok (.invokestatic 161, 3) := dk_184 0 161 (dk_at dksX0_layHops_2 5 rfl rfl)
theorem dX0_layHops_56 : decode cX0_layHops 56 = .ok (.ifCond .eq 22, 3) := dk_153 0 22 (dk_at dksX0_layHops_2 8 rfl rfl)
theorem dX0_layHops_59 : decode cX0_layHops 59 = .ok (.iload 4, 2) := dk_21 4 (dk_at dksX0_layHops_2 11 rfl rfl)
theorem dX0_layHops_61 : decode cX0_layHops 61 = .ok (.iload 5, 2) := dk_21 5 (dk_at dksX0_layHops_2 13 rfl rfl)
theorem dX0_layHops_63 : decode cX0_layHops 63 = .ok (.invokestatic 165, 3) := dk_184 0 165 (dk_at dksX0_layHops_2 15 rfl rfl)
theorem dX0_layHops_66 : decode cX0_layHops 66 = .ok (.iload_n 1, 1) := dk_27 (dk_at dksX0_layHops_2 18 rfl rfl)
theorem dX0_layHops_67 : decode cX0_layHops 67 = .ok (.if_icmp .gt 11, 3) := dk_163 0 11 (dk_at dksX0_layHops_2 19 rfl rfl)
theorem dX0_layHops_70 : decode cX0_layHops 70 = .ok (.iload 5, 2) := dk_21 5 (dk_at dksX0_layHops_2 22 rfl rfl)
theorem dX0_layHops_72 : decode cX0_layHops 72 = .ok (.invokestatic 144, 3) := dk_184 0 144 (dk_at dksX0_layHops_3 0 rfl rfl)
theorem dX0_layHops_75 : decode cX0_layHops 75 = .ok (.goto 4, 3) := dk_167 0 4 (dk_at dksX0_layHops_3 3 rfl rfl)
theorem dX0_layHops_78 : decode cX0_layHops 78 = .ok (.lconst 0, 1) := dk_9 (dk_at dksX0_layHops_3 6 rfl rfl)
theorem dX0_layHops_79 : decode cX0_layHops 79 = .ok (.lor, 1) := dk_129 (dk_at dksX0_layHops_3 7 rfl rfl)
theorem dX0_layHops_80 : decode cX0_layHops 80 = .ok (.lastore, 1) := dk_80 (dk_at dksX0_layHops_3 8 rfl rfl)
theorem dX0_layHops_81 : decode cX0_layHops 81 = .ok (.iinc 5 1, 3) := dk_132 5 1 (dk_at dksX0_layHops_3 9 rfl rfl)
theorem dX0_layHops_84 : decode cX0_layHops 84 = .ok (.goto (-58), 3) := dk_167 255 198 (dk_at dksX0_layHops_3 12 rfl rfl)
theorem dX0_layHops_87 : decode cX0_layHops 87 = .ok (.iinc 4 1, 3) := dk_132 4 1 (dk_at dksX0_layHops_3 15 rfl rfl)
theorem dX0_layHops_90 : decode cX0_layHops 90 = .ok (.goto (-82), 3) := dk_167 255 174 (dk_at dksX0_layHops_3 18 rfl rfl)
theorem dX0_layHops_93 : decode cX0_layHops 93 = .ok (.return_, 1) := dk_177 (dk_at dksX0_layHops_3 21 rfl rfl)
abbrev cX0_far : ByteArray := prog_1_method_11_code
def yX0_far : MethodName := ⟨RX0, "far", "(II)I"⟩
def dkwX0_far_1 : List UInt8 := [29, 104, 96, 172]
abbrev dktX0_far_1 : List UInt8 := dkwX0_far_1 ++ []
def dkwX0_far_0 : List UInt8 := [27, 184, 0, 123, 26, 184, 0, 123, 100, 61, 27, 184, 0, 127, 26, 184, 0, 127, 100, 62, 28, 28, 104, 29]
abbrev dktX0_far_0 : List UInt8 := dkwX0_far_0 ++ dktX0_far_1
theorem dksX0_far_0 : cX0_far.data.toList.drop 0 = dktX0_far_0 := by decide +kernel
theorem dksX0_far_1 : cX0_far.data.toList.drop 24 = dktX0_far_1 := dk_seg dksX0_far_0 24 rfl rfl
theorem dX0_far_0 : decode cX0_far 0 = .ok (.iload_n 1, 1) := dk_27 (dk_at dksX0_far_0 0 rfl rfl)
theorem dX0_far_1 : decode cX0_far 1 = .ok (.invokestatic 123, 3) := dk_184 0 123 (dk_at dksX0_far_0 1 rfl rfl)
theorem dX0_far_4 : decode cX0_far 4 = .ok (.iload_n 0, 1) := dk_26 (dk_at dksX0_far_0 4 rfl rfl)
theorem dX0_far_5 : decode cX0_far 5 = .ok (.invokestatic 123, 3) := dk_184 0 123 (dk_at dksX0_far_0 5 rfl rfl)
theorem dX0_far_8 : decode cX0_far 8 = .ok (.isub, 1) := dk_100 (dk_at dksX0_far_0 8 rfl rfl)
theorem dX0_far_9 : decode cX0_far 9 = .ok (.istore_n 2, 1) := dk_61 (dk_at dksX0_far_0 9 rfl rfl)
theorem dX0_far_10 : decode cX0_far 10 = .ok (.iload_n 1, 1) := dk_27 (dk_at dksX0_far_0 10 rfl rfl)
theorem dX0_far_11 : decode cX0_far 11 = .ok (.invokestatic 127, 3) := dk_184 0 127 (dk_at dksX0_far_0 11 rfl rfl)
theorem dX0_far_14 : decode cX0_far 14 = .ok (.iload_n 0, 1) := dk_26 (dk_at dksX0_far_0 14 rfl rfl)
theorem dX0_far_15 : decode cX0_far 15 = .ok (.invokestatic 127, 3) := dk_184 0 127 (dk_at dksX0_far_0 15 rfl rfl)
theorem dX0_far_18 : decode cX0_far 18 = .ok (.isub, 1) := dk_100 (dk_at dksX0_far_0 18 rfl rfl)
theorem dX0_far_19 : decode cX0_far 19 = .ok (.istore_n 3, 1) := dk_62 (dk_at dksX0_far_0 19 rfl rfl)
theorem dX0_far_20 : decode cX0_far 20 = .ok (.iload_n 2, 1) := dk_28 (dk_at dksX0_far_0 20 rfl rfl)
theorem dX0_far_21 : decode cX0_far 21 = .ok (.iload_n 2, 1) := dk_28 (dk_at dksX0_far_0 21 rfl rfl)
theorem dX0_far_22 : decode cX0_far 22 = .ok (.imul, 1) := dk_104 (dk_at dksX0_far_0 22 rfl rfl)
theorem dX0_far_23 : decode cX0_far 23 = .ok (.iload_n 3, 1) := dk_29 (dk_at dksX0_far_0 23 rfl rfl)
theorem dX0_far_24 : decode cX0_far 24 = .ok (.iload_n 3, 1) := dk_29 (dk_at dksX0_far_1 0 rfl rfl)
theorem dX0_far_25 : decode cX0_far 25 = .ok (.imul, 1) := dk_104 (dk_at dksX0_far_1 1 rfl rfl)
theorem dX0_far_26 : decode cX0_far 26 = .ok (.iadd, 1) := dk_96 (dk_at dksX0_far_1 2 rfl rfl)
theorem dX0_far_27 : decode cX0_far 27 = .ok (.ireturn, 1) := dk_172 (dk_at dksX0_far_1 3 rfl rfl)
abbrev cX0_hopped : ByteArray := prog_1_method_18_code
def yX0_hopped : MethodName := ⟨RX0, "hopped", "(II)J"⟩
def dkwX0_hopped_2 : List UInt8 := [167, 255, 226, 22, 5, 173]
abbrev dktX0_hopped_2 : List UInt8 := dkwX0_hopped_2 ++ []
def dkwX0_hopped_1 : List UInt8 := [9, 148, 153, 0, 23, 42, 22, 5, 33, 182, 0, 172, 55, 5, 33, 22, 5, 129, 66, 132, 7, 1]
abbrev dktX0_hopped_1 : List UInt8 := dkwX0_hopped_1 ++ dktX0_hopped_2
def dkwX0_hopped_0 : List UInt8 := [27, 184, 0, 144, 42, 182, 0, 158, 127, 66, 33, 55, 5, 3, 54, 7, 21, 7, 28, 162, 0, 30, 22, 5]
abbrev dktX0_hopped_0 : List UInt8 := dkwX0_hopped_0 ++ dktX0_hopped_1
theorem dksX0_hopped_0 : cX0_hopped.data.toList.drop 0 = dktX0_hopped_0 := by decide +kernel
theorem dksX0_hopped_1 : cX0_hopped.data.toList.drop 24 = dktX0_hopped_1 := dk_seg dksX0_hopped_0 24 rfl rfl
theorem dksX0_hopped_2 : cX0_hopped.data.toList.drop 46 = dktX0_hopped_2 := dk_seg dksX0_hopped_1 22 rfl rfl
theorem dX0_hopped_0 : decode cX0_hopped 0 = .ok (.iload_n 1, 1) := dk_27 (dk_at dksX0_hopped_0 0 rfl rfl)
theorem dX0_hopped_1 : decode cX0_hopped 1 = .ok (.invokestatic 144, 3) := dk_184 0 144 (dk_at dksX0_hopped_0 1 rfl rfl)
theorem dX0_hopped_4 : decode cX0_hopped 4 = .ok (.aload_n 0, 1) := dk_42 (dk_at dksX0_hopped_0 4 rfl rfl)
theorem dX0_hopped_5 : decode cX0_hopped 5 = .ok (.invokevirtual 158, 3) := dk_182 0 158 (dk_at dksX0_hopped_0 5 rfl rfl)
theorem dX0_hopped_8 : decode cX0_hopped 8 = .ok (.land, 1) := dk_127 (dk_at dksX0_hopped_0 8 rfl rfl)
theorem dX0_hopped_9 : decode cX0_hopped 9 = .ok (.lstore_n 3, 1) := dk_66 (dk_at dksX0_hopped_0 9 rfl rfl)
theorem dX0_hopped_10 : decode cX0_hopped 10 = .ok (.lload_n 3, 1) := dk_33 (dk_at dksX0_hopped_0 10 rfl rfl)
theorem dX0_hopped_11 : decode cX0_hopped 11 = .ok (.lstore 5, 2) := dk_55 5 (dk_at dksX0_hopped_0 11 rfl rfl)
theorem dX0_hopped_13 : decode cX0_hopped 13 = .ok (.iconst 0, 1) := dk_3 (dk_at dksX0_hopped_0 13 rfl rfl)
theorem dX0_hopped_14 : decode cX0_hopped 14 = .ok (.istore 7, 2) := dk_54 7 (dk_at dksX0_hopped_0 14 rfl rfl)
theorem dX0_hopped_16 : decode cX0_hopped 16 = .ok (.iload 7, 2) := dk_21 7 (dk_at dksX0_hopped_0 16 rfl rfl)
theorem dX0_hopped_18 : decode cX0_hopped 18 = .ok (.iload_n 2, 1) := dk_28 (dk_at dksX0_hopped_0 18 rfl rfl)
theorem dX0_hopped_19 : decode cX0_hopped 19 = .ok (.if_icmp .ge 30, 3) := dk_162 0 30 (dk_at dksX0_hopped_0 19 rfl rfl)
theorem dX0_hopped_22 : decode cX0_hopped 22 = .ok (.lload 5, 2) := dk_22 5 (dk_at dksX0_hopped_0 22 rfl rfl)
theorem dX0_hopped_24 : decode cX0_hopped 24 = .ok (.lconst 0, 1) := dk_9 (dk_at dksX0_hopped_1 0 rfl rfl)
theorem dX0_hopped_25 : decode cX0_hopped 25 = .ok (.lcmp, 1) := dk_148 (dk_at dksX0_hopped_1 1 rfl rfl)
theorem dX0_hopped_26 : decode cX0_hopped 26 = .ok (.ifCond .eq 23, 3) := dk_153 0 23 (dk_at dksX0_hopped_1 2 rfl rfl)
theorem dX0_hopped_29 : decode cX0_hopped 29 = .ok (.aload_n 0, 1) := dk_42 (dk_at dksX0_hopped_1 5 rfl rfl)
theorem dX0_hopped_30 : decode cX0_hopped 30 = .ok (.lload 5, 2) := dk_22 5 (dk_at dksX0_hopped_1 6 rfl rfl)
theorem dX0_hopped_32 : decode cX0_hopped 32 = .ok (.lload_n 3, 1) := dk_33 (dk_at dksX0_hopped_1 8 rfl rfl)
theorem dX0_hopped_33 : decode cX0_hopped 33 = .ok (.invokevirtual 172, 3) := dk_182 0 172 (dk_at dksX0_hopped_1 9 rfl rfl)
theorem dX0_hopped_36 : decode cX0_hopped 36 = .ok (.lstore 5, 2) := dk_55 5 (dk_at dksX0_hopped_1 12 rfl rfl)
theorem dX0_hopped_38 : decode cX0_hopped 38 = .ok (.lload_n 3, 1) := dk_33 (dk_at dksX0_hopped_1 14 rfl rfl)
theorem dX0_hopped_39 : decode cX0_hopped 39 = .ok (.lload 5, 2) := dk_22 5 (dk_at dksX0_hopped_1 15 rfl rfl)
theorem dX0_hopped_41 : decode cX0_hopped 41 = .ok (.lor, 1) := dk_129 (dk_at dksX0_hopped_1 17 rfl rfl)
theorem dX0_hopped_42 : decode cX0_hopped 42 = .ok (.lstore_n 3, 1) := dk_66 (dk_at dksX0_hopped_1 18 rfl rfl)
theorem dX0_hopped_43 : decode cX0_hopped 43 = .ok (.iinc 7 1, 3) := dk_132 7 1 (dk_at dksX0_hopped_1 19 rfl rfl)
theorem dX0_hopped_46 : decode cX0_hopped 46 = .ok (.goto (-30), 3) := dk_167 255 226 (dk_at dksX0_hopped_2 0 rfl rfl)
theorem dX0_hopped_49 : decode cX0_hopped 49 = .ok (.lload 5, 2) := dk_22 5 (dk_at dksX0_hopped_2 3 rfl rfl)
theorem dX0_hopped_51 : decode cX0_hopped 51 = .ok (.lreturn, 1) := dk_173 (dk_at dksX0_hopped_2 5 rfl rfl)
abbrev cX0_hopOn : ByteArray := prog_1_method_17_code
def yX0_hopOn : MethodName := ⟨RX0, "hopOn", "(JJ)J"⟩
def dkwX0_hopOn_2 : List UInt8 := [173]
abbrev dktX0_hopOn_2 : List UInt8 := dkwX0_hopOn_2 ++ []
def dkwX0_hopOn_1 : List UInt8 := [47, 129, 55, 5, 22, 7, 22, 7, 10, 101, 127, 55, 7, 167, 255, 225, 22, 5, 33, 20, 0, 156, 131, 127]
abbrev dktX0_hopOn_1 : List UInt8 := dkwX0_hopOn_1 ++ dktX0_hopOn_2
def dkwX0_hopOn_0 : List UInt8 := [9, 55, 5, 31, 55, 7, 22, 7, 9, 148, 153, 0, 30, 22, 5, 42, 180, 0, 18, 22, 7, 184, 0, 168]
abbrev dktX0_hopOn_0 : List UInt8 := dkwX0_hopOn_0 ++ dktX0_hopOn_1
theorem dksX0_hopOn_0 : cX0_hopOn.data.toList.drop 0 = dktX0_hopOn_0 := by decide +kernel
theorem dksX0_hopOn_1 : cX0_hopOn.data.toList.drop 24 = dktX0_hopOn_1 := dk_seg dksX0_hopOn_0 24 rfl rfl
theorem dksX0_hopOn_2 : cX0_hopOn.data.toList.drop 48 = dktX0_hopOn_2 := dk_seg dksX0_hopOn_1 24 rfl rfl
theorem dX0_hopOn_0 : decode cX0_hopOn 0 = .ok (.lconst 0, 1) := dk_9 (dk_at dksX0_hopOn_0 0 rfl rfl)
theorem dX0_hopOn_1 : decode cX0_hopOn 1 = .ok (.lstore 5, 2) := dk_55 5 (dk_at dksX0_hopOn_0 1 rfl rfl)
theorem dX0_hopOn_3 : decode cX0_hopOn 3 = .ok (.lload_n 1, 1) := dk_31 (dk_at dksX0_hopOn_0 3 rfl rfl)
theorem dX0_hopOn_4 : decode cX0_hopOn 4 = .ok (.lstore 7, 2) := dk_55 7 (dk_at dksX0_hopOn_0 4 rfl rfl)
theorem dX0_hopOn_6 : decode cX0_hopOn 6 = .ok (.lload 7, 2) := dk_22 7 (dk_at dksX0_hopOn_0 6 rfl rfl)
theorem dX0_hopOn_8 : decode cX0_hopOn 8 = .ok (.lconst 0, 1) := dk_9 (dk_at dksX0_hopOn_0 8 rfl rfl)
theorem dX0_hopOn_9 : decode cX0_hopOn 9 = .ok (.lcmp, 1) := dk_148 (dk_at dksX0_hopOn_0 9 rfl rfl)
theorem dX0_hopOn_10 : decode cX0_hopOn 10 = .ok (.ifCond .eq 30, 3) := dk_153 0 30 (dk_at dksX0_hopOn_0 10 rfl rfl)
theorem dX0_hopOn_13 : decode cX0_hopOn 13 = .ok (.lload 5, 2) := dk_22 5 (dk_at dksX0_hopOn_0 13 rfl rfl)
theorem dX0_hopOn_15 : decode cX0_hopOn 15 = .ok (.aload_n 0, 1) := dk_42 (dk_at dksX0_hopOn_0 15 rfl rfl)
theorem dX0_hopOn_16 : decode cX0_hopOn 16 = .ok (.getfield 18, 3) := dk_180 0 18 (dk_at dksX0_hopOn_0 16 rfl rfl)
theorem dX0_hopOn_19 : decode cX0_hopOn 19 = .ok (.lload 7, 2) := dk_22 7 (dk_at dksX0_hopOn_0 19 rfl rfl)
theorem dX0_hopOn_21 : decode cX0_hopOn 21 = .ok (.invokestatic 168, 3) := dk_184 0 168 (dk_at dksX0_hopOn_0 21 rfl rfl)
theorem dX0_hopOn_24 : decode cX0_hopOn 24 = .ok (.laload, 1) := dk_47 (dk_at dksX0_hopOn_1 0 rfl rfl)
theorem dX0_hopOn_25 : decode cX0_hopOn 25 = .ok (.lor, 1) := dk_129 (dk_at dksX0_hopOn_1 1 rfl rfl)
theorem dX0_hopOn_26 : decode cX0_hopOn 26 = .ok (.lstore 5, 2) := dk_55 5 (dk_at dksX0_hopOn_1 2 rfl rfl)
theorem dX0_hopOn_28 : decode cX0_hopOn 28 = .ok (.lload 7, 2) := dk_22 7 (dk_at dksX0_hopOn_1 4 rfl rfl)
theorem dX0_hopOn_30 : decode cX0_hopOn 30 = .ok (.lload 7, 2) := dk_22 7 (dk_at dksX0_hopOn_1 6 rfl rfl)
theorem dX0_hopOn_32 : decode cX0_hopOn 32 = .ok (.lconst 1, 1) := dk_10 (dk_at dksX0_hopOn_1 8 rfl rfl)
theorem dX0_hopOn_33 : decode cX0_hopOn 33 = .ok (.lsub, 1) := dk_101 (dk_at dksX0_hopOn_1 9 rfl rfl)
theorem dX0_hopOn_34 : decode cX0_hopOn 34 = .ok (.land, 1) := dk_127 (dk_at dksX0_hopOn_1 10 rfl rfl)
theorem dX0_hopOn_35 : decode cX0_hopOn 35 = .ok (.lstore 7, 2) := dk_55 7 (dk_at dksX0_hopOn_1 11 rfl rfl)
theorem dX0_hopOn_37 : decode cX0_hopOn 37 = .ok (.goto (-31), 3) := dk_167 255 225 (dk_at dksX0_hopOn_1 13 rfl rfl)
theorem dX0_hopOn_40 : decode cX0_hopOn 40 = .ok (.lload 5, 2) := dk_22 5 (dk_at dksX0_hopOn_1 16 rfl rfl)
theorem dX0_hopOn_42 : decode cX0_hopOn 42 = .ok (.lload_n 3, 1) := dk_33 (dk_at dksX0_hopOn_1 18 rfl rfl)
theorem dX0_hopOn_43 : decode cX0_hopOn 43 = .ok (.ldc2_w 156, 3) := dk_20 0 156 (dk_at dksX0_hopOn_1 19 rfl rfl)
theorem dX0_hopOn_46 : decode cX0_hopOn 46 = .ok (.lxor, 1) := dk_131 (dk_at dksX0_hopOn_1 22 rfl rfl)
theorem dX0_hopOn_47 : decode cX0_hopOn 47 = .ok (.land, 1) := dk_127 (dk_at dksX0_hopOn_1 23 rfl rfl)
theorem dX0_hopOn_48 : decode cX0_hopOn 48 = .ok (.lreturn, 1) := dk_173 (dk_at dksX0_hopOn_2 0 rfl rfl)
abbrev cX0_plan : ByteArray := prog_1_method_26_code
def yX0_plan : MethodName := ⟨RX0, "plan", "(III)I"⟩
def dkwX0_plan_4 : List UInt8 := [182, 1, 9, 172]
abbrev dktX0_plan_4 : List UInt8 := dkwX0_plan_4 ++ []
def dkwX0_plan_3 : List UInt8 := [184, 1, 4, 172, 58, 4, 42, 5, 182, 1, 9, 172, 58, 4, 42, 4, 182, 1, 9, 172, 58, 4, 42, 6]
abbrev dktX0_plan_3 : List UInt8 := dkwX0_plan_3 ++ dktX0_plan_4
def dkwX0_plan_2 : List UInt8 := [182, 0, 223, 127, 9, 148, 153, 0, 6, 16, 253, 172, 42, 22, 4, 182, 0, 226, 42, 182, 0, 158]
abbrev dktX0_plan_2 : List UInt8 := dkwX0_plan_2 ++ dktX0_plan_3
def dkwX0_plan_1 : List UInt8 := [42, 42, 180, 0, 112, 27, 50, 180, 0, 247, 28, 184, 0, 253, 29, 182, 1, 1, 55, 4, 22, 4, 42, 3]
abbrev dktX0_plan_1 : List UInt8 := dkwX0_plan_1 ++ dktX0_plan_2
def dkwX0_plan_0 : List UInt8 := [42, 3, 181, 0, 115, 27, 184, 0, 241, 154, 0, 5, 2, 172, 28, 184, 0, 244, 154, 0, 6, 16, 254, 172]
abbrev dktX0_plan_0 : List UInt8 := dkwX0_plan_0 ++ dktX0_plan_1
theorem dksX0_plan_0 : cX0_plan.data.toList.drop 0 = dktX0_plan_0 := by decide +kernel
theorem dksX0_plan_1 : cX0_plan.data.toList.drop 24 = dktX0_plan_1 := dk_seg dksX0_plan_0 24 rfl rfl
theorem dksX0_plan_2 : cX0_plan.data.toList.drop 48 = dktX0_plan_2 := dk_seg dksX0_plan_1 24 rfl rfl
theorem dksX0_plan_3 : cX0_plan.data.toList.drop 70 = dktX0_plan_3 := dk_seg dksX0_plan_2 22 rfl rfl
theorem dksX0_plan_4 : cX0_plan.data.toList.drop 94 = dktX0_plan_4 := dk_seg dksX0_plan_3 24 rfl rfl
theorem dX0_plan_0 : decode cX0_plan 0 = .ok (.aload_n 0, 1) := dk_42 (dk_at dksX0_plan_0 0 rfl rfl)
theorem dX0_plan_1 : decode cX0_plan 1 = .ok (.iconst 0, 1) := dk_3 (dk_at dksX0_plan_0 1 rfl rfl)
theorem dX0_plan_2 : decode cX0_plan 2 = .ok (.putfield 115, 3) := dk_181 0 115 (dk_at dksX0_plan_0 2 rfl rfl)
theorem dX0_plan_5 : decode cX0_plan 5 = .ok (.iload_n 1, 1) := dk_27 (dk_at dksX0_plan_0 5 rfl rfl)
theorem dX0_plan_6 : decode cX0_plan 6 = .ok (.invokestatic 241, 3) := dk_184 0 241 (dk_at dksX0_plan_0 6 rfl rfl)
theorem dX0_plan_9 : decode cX0_plan 9 = .ok (.ifCond .ne 5, 3) := dk_154 0 5 (dk_at dksX0_plan_0 9 rfl rfl)
theorem dX0_plan_12 : decode cX0_plan 12 = .ok (.iconst (-1), 1) := dk_2 (dk_at dksX0_plan_0 12 rfl rfl)
theorem dX0_plan_13 : decode cX0_plan 13 = .ok (.ireturn, 1) := dk_172 (dk_at dksX0_plan_0 13 rfl rfl)
theorem dX0_plan_14 : decode cX0_plan 14 = .ok (.iload_n 2, 1) := dk_28 (dk_at dksX0_plan_0 14 rfl rfl)
theorem dX0_plan_15 : decode cX0_plan 15 = .ok (.invokestatic 244, 3) := dk_184 0 244 (dk_at dksX0_plan_0 15 rfl rfl)
theorem dX0_plan_18 : decode cX0_plan 18 = .ok (.ifCond .ne 6, 3) := dk_154 0 6 (dk_at dksX0_plan_0 18 rfl rfl)
theorem dX0_plan_21 : decode cX0_plan 21 = .ok (.bipush (-2), 2) := dk_16 254 (dk_at dksX0_plan_0 21 rfl rfl)
theorem dX0_plan_23 : decode cX0_plan 23 = .ok (.ireturn, 1) := dk_172 (dk_at dksX0_plan_0 23 rfl rfl)
theorem dX0_plan_24 : decode cX0_plan 24 = .ok (.aload_n 0, 1) := dk_42 (dk_at dksX0_plan_1 0 rfl rfl)
theorem dX0_plan_25 : decode cX0_plan 25 = .ok (.aload_n 0, 1) := dk_42 (dk_at dksX0_plan_1 1 rfl rfl)
theorem dX0_plan_26 : decode cX0_plan 26 = .ok (.getfield 112, 3) := dk_180 0 112 (dk_at dksX0_plan_1 2 rfl rfl)
theorem dX0_plan_29 : decode cX0_plan 29 = .ok (.iload_n 1, 1) := dk_27 (dk_at dksX0_plan_1 5 rfl rfl)
theorem dX0_plan_30 : decode cX0_plan 30 = .ok (.aaload, 1) := dk_50 (dk_at dksX0_plan_1 6 rfl rfl)
theorem dX0_plan_31 : decode cX0_plan 31 = .ok (.getfield 247, 3) := dk_180 0 247 (dk_at dksX0_plan_1 7 rfl rfl)
theorem dX0_plan_34 : decode cX0_plan 34 = .ok (.iload_n 2, 1) := dk_28 (dk_at dksX0_plan_1 10 rfl rfl)
theorem dX0_plan_35 : decode cX0_plan 35 = .ok (.invokestatic 253, 3) := dk_184 0 253 (dk_at dksX0_plan_1 11 rfl rfl)
theorem dX0_plan_38 : decode cX0_plan 38 = .ok (.iload_n 3, 1) := dk_29 (dk_at dksX0_plan_1 14 rfl rfl)
theorem dX0_plan_39 : decode cX0_plan 39 = .ok (.invokevirtual 257, 3) := dk_182 1 1 (dk_at dksX0_plan_1 15 rfl rfl)
theorem dX0_plan_42 : decode cX0_plan 42 = .ok (.lstore 4, 2) := dk_55 4 (dk_at dksX0_plan_1 18 rfl rfl)
theorem dX0_plan_44 : decode cX0_plan 44 = .ok (.lload 4, 2) := dk_22 4 (dk_at dksX0_plan_1 20 rfl rfl)
theorem dX0_plan_46 : decode cX0_plan 46 = .ok (.aload_n 0, 1) := dk_42 (dk_at dksX0_plan_1 22 rfl rfl)
theorem dX0_plan_47 : decode cX0_plan 47 = .ok (.iconst 0, 1) := dk_3 (dk_at dksX0_plan_1 23 rfl rfl)
theorem dX0_plan_48 : decode cX0_plan 48 = .ok (.invokevirtual 223, 3) := dk_182 0 223 (dk_at dksX0_plan_2 0 rfl rfl)
theorem dX0_plan_51 : decode cX0_plan 51 = .ok (.land, 1) := dk_127 (dk_at dksX0_plan_2 3 rfl rfl)
theorem dX0_plan_52 : decode cX0_plan 52 = .ok (.lconst 0, 1) := dk_9 (dk_at dksX0_plan_2 4 rfl rfl)
theorem dX0_plan_53 : decode cX0_plan 53 = .ok (.lcmp, 1) := dk_148 (dk_at dksX0_plan_2 5 rfl rfl)
theorem dX0_plan_54 : decode cX0_plan 54 = .ok (.ifCond .eq 6, 3) := dk_153 0 6 (dk_at dksX0_plan_2 6 rfl rfl)
theorem dX0_plan_57 : decode cX0_plan 57 = .ok (.bipush (-3), 2) := dk_16 253 (dk_at dksX0_plan_2 9 rfl rfl)
theorem dX0_plan_59 : decode cX0_plan 59 = .ok (.ireturn, 1) := dk_172 (dk_at dksX0_plan_2 11 rfl rfl)
theorem dX0_plan_60 : decode cX0_plan 60 = .ok (.aload_n 0, 1) := dk_42 (dk_at dksX0_plan_2 12 rfl rfl)
theorem dX0_plan_61 : decode cX0_plan 61 = .ok (.lload 4, 2) := dk_22 4 (dk_at dksX0_plan_2 13 rfl rfl)
theorem dX0_plan_63 : decode cX0_plan 63 = .ok (.invokevirtual 226, 3) := dk_182 0 226 (dk_at dksX0_plan_2 15 rfl rfl)
theorem dX0_plan_66 : decode cX0_plan 66 = .ok (.aload_n 0, 1) := dk_42 (dk_at dksX0_plan_2 18 rfl rfl)
theorem dX0_plan_67 : decode cX0_plan 67 = .ok (.invokevirtual 158, 3) := dk_182 0 158 (dk_at dksX0_plan_2 19 rfl rfl)
theorem dX0_plan_70 : decode cX0_plan 70 = .ok (.invokestatic 260, 3) := dk_184 1 4 (dk_at dksX0_plan_3 0 rfl rfl)
theorem dX0_plan_73 : decode cX0_plan 73 = .ok (.ireturn, 1) := dk_172 (dk_at dksX0_plan_3 3 rfl rfl)
theorem dX0_plan_74 : decode cX0_plan 74 = .ok (.astore 4, 2) := dk_58 4 (dk_at dksX0_plan_3 4 rfl rfl)
theorem dX0_plan_76 : decode cX0_plan 76 = .ok (.aload_n 0, 1) := dk_42 (dk_at dksX0_plan_3 6 rfl rfl)
theorem dX0_plan_77 : decode cX0_plan 77 = .ok (.iconst 2, 1) := dk_5 (dk_at dksX0_plan_3 7 rfl rfl)
theorem dX0_plan_78 : decode cX0_plan 78 = .ok (.invokevirtual 265, 3) := dk_182 1 9 (dk_at dksX0_plan_3 8 rfl rfl)
theorem dX0_plan_81 : decode cX0_plan 81 = .ok (.ireturn, 1) := dk_172 (dk_at dksX0_plan_3 11 rfl rfl)
theorem dX0_plan_82 : decode cX0_plan 82 = .ok (.astore 4, 2) := dk_58 4 (dk_at dksX0_plan_3 12 rfl rfl)
theorem dX0_plan_84 : decode cX0_plan 84 = .ok (.aload_n 0, 1) := dk_42 (dk_at dksX0_plan_3 14 rfl rfl)
theorem dX0_plan_85 : decode cX0_plan 85 = .ok (.iconst 1, 1) := dk_4 (dk_at dksX0_plan_3 15 rfl rfl)
theorem dX0_plan_86 : decode cX0_plan 86 = .ok (.invokevirtual 265, 3) := dk_182 1 9 (dk_at dksX0_plan_3 16 rfl rfl)
theorem dX0_plan_89 : decode cX0_plan 89 = .ok (.ireturn, 1) := dk_172 (dk_at dksX0_plan_3 19 rfl rfl)
theorem dX0_plan_90 : decode cX0_plan 90 = .ok (.astore 4, 2) := dk_58 4 (dk_at dksX0_plan_3 20 rfl rfl)
theorem dX0_plan_92 : decode cX0_plan 92 = .ok (.aload_n 0, 1) := dk_42 (dk_at dksX0_plan_3 22 rfl rfl)
theorem dX0_plan_93 : decode cX0_plan 93 = .ok (.iconst 3, 1) := dk_6 (dk_at dksX0_plan_3 23 rfl rfl)
theorem dX0_plan_94 : decode cX0_plan 94 = .ok (.invokevirtual 265, 3) := dk_182 1 9 (dk_at dksX0_plan_4 0 rfl rfl)
theorem dX0_plan_97 : decode cX0_plan 97 = .ok (.ireturn, 1) := dk_172 (dk_at dksX0_plan_4 3 rfl rfl)
abbrev cX0_isSheet : ByteArray := prog_1_method_129_code
def yX0_isSheet : MethodName := ⟨RX0, "isSheet", "(I)Z"⟩
def dkwX0_isSheet_0 : List UInt8 := [26, 133, 9, 20, 1, 81, 184, 0, 130, 172]
abbrev dktX0_isSheet_0 : List UInt8 := dkwX0_isSheet_0 ++ []
theorem dksX0_isSheet_0 : cX0_isSheet.data.toList.drop 0 = dktX0_isSheet_0 := by decide +kernel
theorem dX0_isSheet_0 : decode cX0_isSheet 0 = .ok (.iload_n 0, 1) := dk_26 (dk_at dksX0_isSheet_0 0 rfl rfl)
theorem dX0_isSheet_1 : decode cX0_isSheet 1 = .ok (.i2l, 1) := dk_133 (dk_at dksX0_isSheet_0 1 rfl rfl)
theorem dX0_isSheet_2 : decode cX0_isSheet 2 = .ok (.lconst 0, 1) := dk_9 (dk_at dksX0_isSheet_0 2 rfl rfl)
theorem dX0_isSheet_3 : decode cX0_isSheet 3 = .ok (.ldc2_w 337, 3) := dk_20 1 81 (dk_at dksX0_isSheet_0 3 rfl rfl)
theorem dX0_isSheet_6 : decode cX0_isSheet 6 = .ok (.invokestatic 130, 3) := dk_184 0 130 (dk_at dksX0_isSheet_0 6 rfl rfl)
theorem dX0_isSheet_9 : decode cX0_isSheet 9 = .ok (.ireturn, 1) := dk_172 (dk_at dksX0_isSheet_0 9 rfl rfl)
abbrev cX0_isLane : ByteArray := prog_1_method_130_code
def yX0_isLane : MethodName := ⟨RX0, "isLane", "(I)Z"⟩
def dkwX0_isLane_0 : List UInt8 := [26, 133, 9, 20, 1, 81, 184, 0, 130, 172]
abbrev dktX0_isLane_0 : List UInt8 := dkwX0_isLane_0 ++ []
theorem dksX0_isLane_0 : cX0_isLane.data.toList.drop 0 = dktX0_isLane_0 := by decide +kernel
theorem dX0_isLane_0 : decode cX0_isLane 0 = .ok (.iload_n 0, 1) := dk_26 (dk_at dksX0_isLane_0 0 rfl rfl)
theorem dX0_isLane_1 : decode cX0_isLane 1 = .ok (.i2l, 1) := dk_133 (dk_at dksX0_isLane_0 1 rfl rfl)
theorem dX0_isLane_2 : decode cX0_isLane 2 = .ok (.lconst 0, 1) := dk_9 (dk_at dksX0_isLane_0 2 rfl rfl)
theorem dX0_isLane_3 : decode cX0_isLane 3 = .ok (.ldc2_w 337, 3) := dk_20 1 81 (dk_at dksX0_isLane_0 3 rfl rfl)
theorem dX0_isLane_6 : decode cX0_isLane 6 = .ok (.invokestatic 130, 3) := dk_184 0 130 (dk_at dksX0_isLane_0 6 rfl rfl)
theorem dX0_isLane_9 : decode cX0_isLane 9 = .ok (.ireturn, 1) := dk_172 (dk_at dksX0_isLane_0 9 rfl rfl)
abbrev cX0_asLane : ByteArray := prog_1_method_131_code
def yX0_asLane : MethodName := ⟨RX0, "asLane", "(Ljava/lang/Object;I)Ljava/lang/Object;"⟩
def dkwX0_asLane_2 : List UInt8 := [42, 192, 2, 199, 176, 42, 192, 2, 201, 176, 42, 192, 2, 203, 176, 42, 192, 2, 204, 176]
abbrev dktX0_asLane_2 : List UInt8 := dkwX0_asLane_2 ++ []
def dkwX0_asLane_1 : List UInt8 := [170, 0, 0, 0, 0, 0, 42, 0, 0, 0, 0, 0, 0, 0, 2, 0, 0, 0, 27, 0, 0, 0, 32, 0, 0, 0, 37]
abbrev dktX0_asLane_1 : List UInt8 := dkwX0_asLane_1 ++ dktX0_asLane_2
def dkwX0_asLane_0 : List UInt8 := [27]
abbrev dktX0_asLane_0 : List UInt8 := dkwX0_asLane_0 ++ dktX0_asLane_1
theorem dksX0_asLane_0 : cX0_asLane.data.toList.drop 0 = dktX0_asLane_0 := by decide +kernel
theorem dksX0_asLane_1 : cX0_asLane.data.toList.drop 1 = dktX0_asLane_1 := dk_seg dksX0_asLane_0 1 rfl rfl
theorem dksX0_asLane_2 : cX0_asLane.data.toList.drop 28 = dktX0_asLane_2 := dk_seg dksX0_asLane_1 27 rfl rfl
theorem dX0_asLane_0 : decode cX0_asLane 0 = .ok (.iload_n 1, 1) := dk_27 (dk_at dksX0_asLane_0 0 rfl rfl)
theorem dX0_asLane_1 : decode cX0_asLane 1 = .ok (.tableswitch 42 0 2 #[27, 32, 37], 27) := by decide +kernel
theorem dX0_asLane_28 : decode cX0_asLane 28 = .ok (.aload_n 0, 1) := dk_42 (dk_at dksX0_asLane_2 0 rfl rfl)
theorem dX0_asLane_29 : decode cX0_asLane 29 = .ok (.checkcast 711, 3) := dk_192 2 199 (dk_at dksX0_asLane_2 1 rfl rfl)
theorem dX0_asLane_32 : decode cX0_asLane 32 = .ok (.areturn, 1) := dk_176 (dk_at dksX0_asLane_2 4 rfl rfl)
theorem dX0_asLane_33 : decode cX0_asLane 33 = .ok (.aload_n 0, 1) := dk_42 (dk_at dksX0_asLane_2 5 rfl rfl)
theorem dX0_asLane_34 : decode cX0_asLane 34 = .ok (.checkcast 713, 3) := dk_192 2 201 (dk_at dksX0_asLane_2 6 rfl rfl)
theorem dX0_asLane_37 : decode cX0_asLane 37 = .ok (.areturn, 1) := dk_176 (dk_at dksX0_asLane_2 9 rfl rfl)
theorem dX0_asLane_38 : decode cX0_asLane 38 = .ok (.aload_n 0, 1) := dk_42 (dk_at dksX0_asLane_2 10 rfl rfl)
theorem dX0_asLane_39 : decode cX0_asLane 39 = .ok (.checkcast 715, 3) := dk_192 2 203 (dk_at dksX0_asLane_2 11 rfl rfl)
theorem dX0_asLane_42 : decode cX0_asLane 42 = .ok (.areturn, 1) := dk_176 (dk_at dksX0_asLane_2 14 rfl rfl)
theorem dX0_asLane_43 : decode cX0_asLane 43 = .ok (.aload_n 0, 1) := dk_42 (dk_at dksX0_asLane_2 15 rfl rfl)
theorem dX0_asLane_44 : decode cX0_asLane 44 = .ok (.checkcast 716, 3) := dk_192 2 204 (dk_at dksX0_asLane_2 16 rfl rfl)
theorem dX0_asLane_47 : decode cX0_asLane 47 = .ok (.areturn, 1) := dk_176 (dk_at dksX0_asLane_2 19 rfl rfl)
abbrev cX0_wallsBy : ByteArray := prog_1_method_25_code
def yX0_wallsBy : MethodName := ⟨RX0, "wallsBy", "(Ljava/lang/Object;I)J"⟩
def dkwX0_wallsBy_4 : List UInt8 := [132, 6, 1, 167, 255, 197, 22, 4, 173]
abbrev dktX0_wallsBy_4 : List UInt8 := dkwX0_wallsBy_4 ++ []
def dkwX0_wallsBy_3 : List UInt8 := [180, 0, 11, 112, 21, 6, 42, 180, 0, 11, 108, 184, 0, 140, 184, 0, 144, 167, 0, 4, 9, 129, 55, 4]
abbrev dktX0_wallsBy_3 : List UInt8 := dkwX0_wallsBy_3 ++ dktX0_wallsBy_4
def dkwX0_wallsBy_2 : List UInt8 := [104, 162, 0, 51, 22, 4, 43, 28, 21, 6, 96, 184, 0, 237, 9, 148, 153, 0, 26, 21, 6, 42]
abbrev dktX0_wallsBy_2 : List UInt8 := dkwX0_wallsBy_2 ++ dktX0_wallsBy_3
def dkwX0_wallsBy_1 : List UInt8 := [187, 0, 234, 89, 183, 0, 236, 191, 9, 55, 4, 3, 54, 6, 21, 6, 42, 180, 0, 11, 42, 180, 0, 15]
abbrev dktX0_wallsBy_1 : List UInt8 := dkwX0_wallsBy_1 ++ dktX0_wallsBy_2
def dkwX0_wallsBy_0 : List UInt8 := [43, 184, 0, 230, 62, 28, 155, 0, 18, 28, 29, 42, 180, 0, 11, 42, 180, 0, 15, 104, 100, 164, 0, 11]
abbrev dktX0_wallsBy_0 : List UInt8 := dkwX0_wallsBy_0 ++ dktX0_wallsBy_1
theorem dksX0_wallsBy_0 : cX0_wallsBy.data.toList.drop 0 = dktX0_wallsBy_0 := by decide +kernel
theorem dksX0_wallsBy_1 : cX0_wallsBy.data.toList.drop 24 = dktX0_wallsBy_1 := dk_seg dksX0_wallsBy_0 24 rfl rfl
theorem dksX0_wallsBy_2 : cX0_wallsBy.data.toList.drop 48 = dktX0_wallsBy_2 := dk_seg dksX0_wallsBy_1 24 rfl rfl
theorem dksX0_wallsBy_3 : cX0_wallsBy.data.toList.drop 70 = dktX0_wallsBy_3 := dk_seg dksX0_wallsBy_2 22 rfl rfl
theorem dksX0_wallsBy_4 : cX0_wallsBy.data.toList.drop 94 = dktX0_wallsBy_4 := dk_seg dksX0_wallsBy_3 24 rfl rfl
theorem dX0_wallsBy_0 : decode cX0_wallsBy 0 = .ok (.aload_n 1, 1) := dk_43 (dk_at dksX0_wallsBy_0 0 rfl rfl)
theorem dX0_wallsBy_1 : decode cX0_wallsBy 1 = .ok (.invokestatic 230, 3) := dk_184 0 230 (dk_at dksX0_wallsBy_0 1 rfl rfl)
theorem dX0_wallsBy_4 : decode cX0_wallsBy 4 = .ok (.istore_n 3, 1) := dk_62 (dk_at dksX0_wallsBy_0 4 rfl rfl)
theorem dX0_wallsBy_5 : decode cX0_wallsBy 5 = .ok (.iload_n 2, 1) := dk_28 (dk_at dksX0_wallsBy_0 5 rfl rfl)
theorem dX0_wallsBy_6 : decode cX0_wallsBy 6 = .ok (.ifCond .lt 18, 3) := dk_155 0 18 (dk_at dksX0_wallsBy_0 6 rfl rfl)
theorem dX0_wallsBy_9 : decode cX0_wallsBy 9 = .ok (.iload_n 2, 1) := dk_28 (dk_at dksX0_wallsBy_0 9 rfl rfl)
theorem dX0_wallsBy_10 : decode cX0_wallsBy 10 = .ok (.iload_n 3, 1) := dk_29 (dk_at dksX0_wallsBy_0 10 rfl rfl)
theorem dX0_wallsBy_11 : decode cX0_wallsBy 11 = .ok (.aload_n 0, 1) := dk_42 (dk_at dksX0_wallsBy_0 11 rfl rfl)
theorem dX0_wallsBy_12 : decode cX0_wallsBy 12 = .ok (.getfield 11, 3) := dk_180 0 11 (dk_at dksX0_wallsBy_0 12 rfl rfl)
theorem dX0_wallsBy_15 : decode cX0_wallsBy 15 = .ok (.aload_n 0, 1) := dk_42 (dk_at dksX0_wallsBy_0 15 rfl rfl)
theorem dX0_wallsBy_16 : decode cX0_wallsBy 16 = .ok (.getfield 15, 3) := dk_180 0 15 (dk_at dksX0_wallsBy_0 16 rfl rfl)
theorem dX0_wallsBy_19 : decode cX0_wallsBy 19 = .ok (.imul, 1) := dk_104 (dk_at dksX0_wallsBy_0 19 rfl rfl)
theorem dX0_wallsBy_20 : decode cX0_wallsBy 20 = .ok (.isub, 1) := dk_100 (dk_at dksX0_wallsBy_0 20 rfl rfl)
theorem dX0_wallsBy_21 : decode cX0_wallsBy 21 = .ok (.if_icmp .le 11, 3) := dk_164 0 11 (dk_at dksX0_wallsBy_0 21 rfl rfl)
theorem dX0_wallsBy_24 : decode cX0_wallsBy 24 = .ok (.new 234, 3) := dk_187 0 234 (dk_at dksX0_wallsBy_1 0 rfl rfl)
theorem dX0_wallsBy_27 : decode cX0_wallsBy 27 = .ok (.dup, 1) := dk_89 (dk_at dksX0_wallsBy_1 3 rfl rfl)
theorem dX0_wallsBy_28 : decode cX0_wallsBy 28 = .ok (.invokespecial 236, 3) := dk_183 0 236 (dk_at dksX0_wallsBy_1 4 rfl rfl)
theorem dX0_wallsBy_31 : decode cX0_wallsBy 31 = .ok (.athrow, 1) := dk_191 (dk_at dksX0_wallsBy_1 7 rfl rfl)
theorem dX0_wallsBy_32 : decode cX0_wallsBy 32 = .ok (.lconst 0, 1) := dk_9 (dk_at dksX0_wallsBy_1 8 rfl rfl)
theorem dX0_wallsBy_33 : decode cX0_wallsBy 33 = .ok (.lstore 4, 2) := dk_55 4 (dk_at dksX0_wallsBy_1 9 rfl rfl)
theorem dX0_wallsBy_35 : decode cX0_wallsBy 35 = .ok (.iconst 0, 1) := dk_3 (dk_at dksX0_wallsBy_1 11 rfl rfl)
theorem dX0_wallsBy_36 : decode cX0_wallsBy 36 = .ok (.istore 6, 2) := dk_54 6 (dk_at dksX0_wallsBy_1 12 rfl rfl)
theorem dX0_wallsBy_38 : decode cX0_wallsBy 38 = .ok (.iload 6, 2) := dk_21 6 (dk_at dksX0_wallsBy_1 14 rfl rfl)
theorem dX0_wallsBy_40 : decode cX0_wallsBy 40 = .ok (.aload_n 0, 1) := dk_42 (dk_at dksX0_wallsBy_1 16 rfl rfl)
theorem dX0_wallsBy_41 : decode cX0_wallsBy 41 = .ok (.getfield 11, 3) := dk_180 0 11 (dk_at dksX0_wallsBy_1 17 rfl rfl)
theorem dX0_wallsBy_44 : decode cX0_wallsBy 44 = .ok (.aload_n 0, 1) := dk_42 (dk_at dksX0_wallsBy_1 20 rfl rfl)
theorem dX0_wallsBy_45 : decode cX0_wallsBy 45 = .ok (.getfield 15, 3) := dk_180 0 15 (dk_at dksX0_wallsBy_1 21 rfl rfl)
theorem dX0_wallsBy_48 : decode cX0_wallsBy 48 = .ok (.imul, 1) := dk_104 (dk_at dksX0_wallsBy_2 0 rfl rfl)
theorem dX0_wallsBy_49 : decode cX0_wallsBy 49 = .ok (.if_icmp .ge 51, 3) := dk_162 0 51 (dk_at dksX0_wallsBy_2 1 rfl rfl)
theorem dX0_wallsBy_52 : decode cX0_wallsBy 52 = .ok (.lload 4, 2) := dk_22 4 (dk_at dksX0_wallsBy_2 4 rfl rfl)
theorem dX0_wallsBy_54 : decode cX0_wallsBy 54 = .ok (.aload_n 1, 1) := dk_43 (dk_at dksX0_wallsBy_2 6 rfl rfl)
theorem dX0_wallsBy_55 : decode cX0_wallsBy 55 = .ok (.iload_n 2, 1) := dk_28 (dk_at dksX0_wallsBy_2 7 rfl rfl)
theorem dX0_wallsBy_56 : decode cX0_wallsBy 56 = .ok (.iload 6, 2) := dk_21 6 (dk_at dksX0_wallsBy_2 8 rfl rfl)
theorem dX0_wallsBy_58 : decode cX0_wallsBy 58 = .ok (.iadd, 1) := dk_96 (dk_at dksX0_wallsBy_2 10 rfl rfl)
theorem dX0_wallsBy_59 : decode cX0_wallsBy 59 = .ok (.invokestatic 237, 3) := dk_184 0 237 (dk_at dksX0_wallsBy_2 11 rfl rfl)
theorem dX0_wallsBy_62 : decode cX0_wallsBy 62 = .ok (.lconst 0, 1) := dk_9 (dk_at dksX0_wallsBy_2 14 rfl rfl)
theorem dX0_wallsBy_63 : decode cX0_wallsBy 63 = .ok (.lcmp, 1) := dk_148 (dk_at dksX0_wallsBy_2 15 rfl rfl)
theorem dX0_wallsBy_64 : decode cX0_wallsBy 64 = .ok (.ifCond .eq 26, 3) := dk_153 0 26 (dk_at dksX0_wallsBy_2 16 rfl rfl)
theorem dX0_wallsBy_67 : decode cX0_wallsBy 67 = .ok (.iload 6, 2) := dk_21 6 (dk_at dksX0_wallsBy_2 19 rfl rfl)
theorem dX0_wallsBy_69 : decode cX0_wallsBy 69 = .ok (.aload_n 0, 1) := dk_42 (dk_at dksX0_wallsBy_2 21 rfl rfl)
theorem dX0_wallsBy_70 : decode cX0_wallsBy 70 = .ok (.getfield 11, 3) := dk_180 0 11 (dk_at dksX0_wallsBy_3 0 rfl rfl)
theorem dX0_wallsBy_73 : decode cX0_wallsBy 73 = .ok (.irem, 1) := dk_112 (dk_at dksX0_wallsBy_3 3 rfl rfl)
theorem dX0_wallsBy_74 : decode cX0_wallsBy 74 = .ok (.iload 6, 2) := dk_21 6 (dk_at dksX0_wallsBy_3 4 rfl rfl)
theorem dX0_wallsBy_76 : decode cX0_wallsBy 76 = .ok (.aload_n 0, 1) := dk_42 (dk_at dksX0_wallsBy_3 6 rfl rfl)
theorem dX0_wallsBy_77 : decode cX0_wallsBy 77 = .ok (.getfield 11, 3) := dk_180 0 11 (dk_at dksX0_wallsBy_3 7 rfl rfl)
theorem dX0_wallsBy_80 : decode cX0_wallsBy 80 = .ok (.idiv, 1) := dk_108 (dk_at dksX0_wallsBy_3 10 rfl rfl)
theorem dX0_wallsBy_81 : decode cX0_wallsBy 81 = .ok (.invokestatic 140, 3) := dk_184 0 140 (dk_at dksX0_wallsBy_3 11 rfl rfl)
theorem dX0_wallsBy_84 : decode cX0_wallsBy 84 = .ok (.invokestatic 144, 3) := dk_184 0 144 (dk_at dksX0_wallsBy_3 14 rfl rfl)
theorem dX0_wallsBy_87 : decode cX0_wallsBy 87 = .ok (.goto 4, 3) := dk_167 0 4 (dk_at dksX0_wallsBy_3 17 rfl rfl)
theorem dX0_wallsBy_90 : decode cX0_wallsBy 90 = .ok (.lconst 0, 1) := dk_9 (dk_at dksX0_wallsBy_3 20 rfl rfl)
theorem dX0_wallsBy_91 : decode cX0_wallsBy 91 = .ok (.lor, 1) := dk_129 (dk_at dksX0_wallsBy_3 21 rfl rfl)
theorem dX0_wallsBy_92 : decode cX0_wallsBy 92 = .ok (.lstore 4, 2) := dk_55 4 (dk_at dksX0_wallsBy_3 22 rfl rfl)
theorem dX0_wallsBy_94 : decode cX0_wallsBy 94 = .ok (.iinc 6 1, 3) := dk_132 6 1 (dk_at dksX0_wallsBy_4 0 rfl rfl)
theorem dX0_wallsBy_97 : decode cX0_wallsBy 97 = .ok (.goto (-59), 3) := dk_167 255 197 (dk_at dksX0_wallsBy_4 3 rfl rfl)
theorem dX0_wallsBy_100 : decode cX0_wallsBy 100 = .ok (.lload 4, 2) := dk_22 4 (dk_at dksX0_wallsBy_4 6 rfl rfl)
theorem dX0_wallsBy_102 : decode cX0_wallsBy 102 = .ok (.lreturn, 1) := dk_173 (dk_at dksX0_wallsBy_4 8 rfl rfl)
abbrev cX0_lengthOf : ByteArray := prog_1_method_133_code
def yX0_lengthOf : MethodName := ⟨RX0, "lengthOf", "(Ljava/lang/Object;)I"⟩
def dkwX0_lengthOf_2 : List UInt8 := [192, 2, 204, 190, 172]
abbrev dktX0_lengthOf_2 : List UInt8 := dkwX0_lengthOf_2 ++ []
def dkwX0_lengthOf_1 : List UInt8 := [192, 2, 201, 76, 43, 190, 172, 42, 193, 2, 203, 153, 0, 11, 42, 192, 2, 203, 76, 43, 190, 172, 42]
abbrev dktX0_lengthOf_1 : List UInt8 := dkwX0_lengthOf_1 ++ dktX0_lengthOf_2
def dkwX0_lengthOf_0 : List UInt8 := [42, 193, 2, 199, 153, 0, 11, 42, 192, 2, 199, 76, 43, 190, 172, 42, 193, 2, 201, 153, 0, 11, 42]
abbrev dktX0_lengthOf_0 : List UInt8 := dkwX0_lengthOf_0 ++ dktX0_lengthOf_1
theorem dksX0_lengthOf_0 : cX0_lengthOf.data.toList.drop 0 = dktX0_lengthOf_0 := by decide +kernel
theorem dksX0_lengthOf_1 : cX0_lengthOf.data.toList.drop 23 = dktX0_lengthOf_1 := dk_seg dksX0_lengthOf_0 23 rfl rfl
theorem dksX0_lengthOf_2 : cX0_lengthOf.data.toList.drop 46 = dktX0_lengthOf_2 := dk_seg dksX0_lengthOf_1 23 rfl rfl
theorem dX0_lengthOf_0 : decode cX0_lengthOf 0 = .ok (.aload_n 0, 1) := dk_42 (dk_at dksX0_lengthOf_0 0 rfl rfl)
theorem dX0_lengthOf_1 : decode cX0_lengthOf 1 = .ok (.instanceof 711, 3) := dk_193 2 199 (dk_at dksX0_lengthOf_0 1 rfl rfl)
theorem dX0_lengthOf_4 : decode cX0_lengthOf 4 = .ok (.ifCond .eq 11, 3) := dk_153 0 11 (dk_at dksX0_lengthOf_0 4 rfl rfl)
theorem dX0_lengthOf_7 : decode cX0_lengthOf 7 = .ok (.aload_n 0, 1) := dk_42 (dk_at dksX0_lengthOf_0 7 rfl rfl)
theorem dX0_lengthOf_8 : decode cX0_lengthOf 8 = .ok (.checkcast 711, 3) := dk_192 2 199 (dk_at dksX0_lengthOf_0 8 rfl rfl)
theorem dX0_lengthOf_11 : decode cX0_lengthOf 11 = .ok (.astore_n 1, 1) := dk_76 (dk_at dksX0_lengthOf_0 11 rfl rfl)
theorem dX0_lengthOf_12 : decode cX0_lengthOf 12 = .ok (.aload_n 1, 1) := dk_43 (dk_at dksX0_lengthOf_0 12 rfl rfl)
theorem dX0_lengthOf_13 : decode cX0_lengthOf 13 = .ok (.arraylength, 1) := dk_190 (dk_at dksX0_lengthOf_0 13 rfl rfl)
theorem dX0_lengthOf_14 : decode cX0_lengthOf 14 = .ok (.ireturn, 1) := dk_172 (dk_at dksX0_lengthOf_0 14 rfl rfl)
theorem dX0_lengthOf_15 : decode cX0_lengthOf 15 = .ok (.aload_n 0, 1) := dk_42 (dk_at dksX0_lengthOf_0 15 rfl rfl)
theorem dX0_lengthOf_16 : decode cX0_lengthOf 16 = .ok (.instanceof 713, 3) := dk_193 2 201 (dk_at dksX0_lengthOf_0 16 rfl rfl)
theorem dX0_lengthOf_19 : decode cX0_lengthOf 19 = .ok (.ifCond .eq 11, 3) := dk_153 0 11 (dk_at dksX0_lengthOf_0 19 rfl rfl)
theorem dX0_lengthOf_22 : decode cX0_lengthOf 22 = .ok (.aload_n 0, 1) := dk_42 (dk_at dksX0_lengthOf_0 22 rfl rfl)
theorem dX0_lengthOf_23 : decode cX0_lengthOf 23 = .ok (.checkcast 713, 3) := dk_192 2 201 (dk_at dksX0_lengthOf_1 0 rfl rfl)
theorem dX0_lengthOf_26 : decode cX0_lengthOf 26 = .ok (.astore_n 1, 1) := dk_76 (dk_at dksX0_lengthOf_1 3 rfl rfl)
theorem dX0_lengthOf_27 : decode cX0_lengthOf 27 = .ok (.aload_n 1, 1) := dk_43 (dk_at dksX0_lengthOf_1 4 rfl rfl)
theorem dX0_lengthOf_28 : decode cX0_lengthOf 28 = .ok (.arraylength, 1) := dk_190 (dk_at dksX0_lengthOf_1 5 rfl rfl)
theorem dX0_lengthOf_29 : decode cX0_lengthOf 29 = .ok (.ireturn, 1) := dk_172 (dk_at dksX0_lengthOf_1 6 rfl rfl)
theorem dX0_lengthOf_30 : decode cX0_lengthOf 30 = .ok (.aload_n 0, 1) := dk_42 (dk_at dksX0_lengthOf_1 7 rfl rfl)
theorem dX0_lengthOf_31 : decode cX0_lengthOf 31 = .ok (.instanceof 715, 3) := dk_193 2 203 (dk_at dksX0_lengthOf_1 8 rfl rfl)
theorem dX0_lengthOf_34 : decode cX0_lengthOf 34 = .ok (.ifCond .eq 11, 3) := dk_153 0 11 (dk_at dksX0_lengthOf_1 11 rfl rfl)
theorem dX0_lengthOf_37 : decode cX0_lengthOf 37 = .ok (.aload_n 0, 1) := dk_42 (dk_at dksX0_lengthOf_1 14 rfl rfl)
theorem dX0_lengthOf_38 : decode cX0_lengthOf 38 = .ok (.checkcast 715, 3) := dk_192 2 203 (dk_at dksX0_lengthOf_1 15 rfl rfl)
theorem dX0_lengthOf_41 : decode cX0_lengthOf 41 = .ok (.astore_n 1, 1) := dk_76 (dk_at dksX0_lengthOf_1 18 rfl rfl)
theorem dX0_lengthOf_42 : decode cX0_lengthOf 42 = .ok (.aload_n 1, 1) := dk_43 (dk_at dksX0_lengthOf_1 19 rfl rfl)
theorem dX0_lengthOf_43 : decode cX0_lengthOf 43 = .ok (.arraylength, 1) := dk_190 (dk_at dksX0_lengthOf_1 20 rfl rfl)
theorem dX0_lengthOf_44 : decode cX0_lengthOf 44 = .ok (.ireturn, 1) := dk_172 (dk_at dksX0_lengthOf_1 21 rfl rfl)
theorem dX0_lengthOf_45 : decode cX0_lengthOf 45 = .ok (.aload_n 0, 1) := dk_42 (dk_at dksX0_lengthOf_1 22 rfl rfl)
theorem dX0_lengthOf_46 : decode cX0_lengthOf 46 = .ok (.checkcast 716, 3) := dk_192 2 204 (dk_at dksX0_lengthOf_2 0 rfl rfl)
theorem dX0_lengthOf_49 : decode cX0_lengthOf 49 = .ok (.arraylength, 1) := dk_190 (dk_at dksX0_lengthOf_2 3 rfl rfl)
theorem dX0_lengthOf_50 : decode cX0_lengthOf 50 = .ok (.ireturn, 1) := dk_172 (dk_at dksX0_lengthOf_2 4 rfl rfl)
abbrev cX0_cellOf : ByteArray := prog_1_method_132_code
def yX0_cellOf : MethodName := ⟨RX0, "cellOf", "(Ljava/lang/Object;I)J"⟩
def dkwX0_cellOf_2 : List UInt8 := [46, 133, 173, 42, 192, 2, 204, 27, 47, 173]
abbrev dktX0_cellOf_2 : List UInt8 := dkwX0_cellOf_2 ++ []
def dkwX0_cellOf_1 : List UInt8 := [42, 192, 2, 201, 77, 44, 27, 53, 133, 173, 42, 193, 2, 203, 153, 0, 13, 42, 192, 2, 203, 77, 44, 27]
abbrev dktX0_cellOf_1 : List UInt8 := dkwX0_cellOf_1 ++ dktX0_cellOf_2
def dkwX0_cellOf_0 : List UInt8 := [42, 193, 2, 199, 153, 0, 13, 42, 192, 2, 199, 77, 44, 27, 51, 133, 173, 42, 193, 2, 201, 153, 0, 13]
abbrev dktX0_cellOf_0 : List UInt8 := dkwX0_cellOf_0 ++ dktX0_cellOf_1
theorem dksX0_cellOf_0 : cX0_cellOf.data.toList.drop 0 = dktX0_cellOf_0 := by decide +kernel
theorem dksX0_cellOf_1 : cX0_cellOf.data.toList.drop 24 = dktX0_cellOf_1 := dk_seg dksX0_cellOf_0 24 rfl rfl
theorem dksX0_cellOf_2 : cX0_cellOf.data.toList.drop 48 = dktX0_cellOf_2 := dk_seg dksX0_cellOf_1 24 rfl rfl
theorem dX0_cellOf_0 : decode cX0_cellOf 0 = .ok (.aload_n 0, 1) := dk_42 (dk_at dksX0_cellOf_0 0 rfl rfl)
theorem dX0_cellOf_1 : decode cX0_cellOf 1 = .ok (.instanceof 711, 3) := dk_193 2 199 (dk_at dksX0_cellOf_0 1 rfl rfl)
theorem dX0_cellOf_4 : decode cX0_cellOf 4 = .ok (.ifCond .eq 13, 3) := dk_153 0 13 (dk_at dksX0_cellOf_0 4 rfl rfl)
theorem dX0_cellOf_7 : decode cX0_cellOf 7 = .ok (.aload_n 0, 1) := dk_42 (dk_at dksX0_cellOf_0 7 rfl rfl)
theorem dX0_cellOf_8 : decode cX0_cellOf 8 = .ok (.checkcast 711, 3) := dk_192 2 199 (dk_at dksX0_cellOf_0 8 rfl rfl)
theorem dX0_cellOf_11 : decode cX0_cellOf 11 = .ok (.astore_n 2, 1) := dk_77 (dk_at dksX0_cellOf_0 11 rfl rfl)
theorem dX0_cellOf_12 : decode cX0_cellOf 12 = .ok (.aload_n 2, 1) := dk_44 (dk_at dksX0_cellOf_0 12 rfl rfl)
theorem dX0_cellOf_13 : decode cX0_cellOf 13 = .ok (.iload_n 1, 1) := dk_27 (dk_at dksX0_cellOf_0 13 rfl rfl)
theorem dX0_cellOf_14 : decode cX0_cellOf 14 = .ok (.baload, 1) := dk_51 (dk_at dksX0_cellOf_0 14 rfl rfl)
theorem dX0_cellOf_15 : decode cX0_cellOf 15 = .ok (.i2l, 1) := dk_133 (dk_at dksX0_cellOf_0 15 rfl rfl)
theorem dX0_cellOf_16 : decode cX0_cellOf 16 = .ok (.lreturn, 1) := dk_173 (dk_at dksX0_cellOf_0 16 rfl rfl)
theorem dX0_cellOf_17 : decode cX0_cellOf 17 = .ok (.aload_n 0, 1) := dk_42 (dk_at dksX0_cellOf_0 17 rfl rfl)
theorem dX0_cellOf_18 : decode cX0_cellOf 18 = .ok (.instanceof 713, 3) := dk_193 2 201 (dk_at dksX0_cellOf_0 18 rfl rfl)
theorem dX0_cellOf_21 : decode cX0_cellOf 21 = .ok (.ifCond .eq 13, 3) := dk_153 0 13 (dk_at dksX0_cellOf_0 21 rfl rfl)
theorem dX0_cellOf_24 : decode cX0_cellOf 24 = .ok (.aload_n 0, 1) := dk_42 (dk_at dksX0_cellOf_1 0 rfl rfl)
theorem dX0_cellOf_25 : decode cX0_cellOf 25 = .ok (.checkcast 713, 3) := dk_192 2 201 (dk_at dksX0_cellOf_1 1 rfl rfl)
theorem dX0_cellOf_28 : decode cX0_cellOf 28 = .ok (.astore_n 2, 1) := dk_77 (dk_at dksX0_cellOf_1 4 rfl rfl)
theorem dX0_cellOf_29 : decode cX0_cellOf 29 = .ok (.aload_n 2, 1) := dk_44 (dk_at dksX0_cellOf_1 5 rfl rfl)
theorem dX0_cellOf_30 : decode cX0_cellOf 30 = .ok (.iload_n 1, 1) := dk_27 (dk_at dksX0_cellOf_1 6 rfl rfl)
theorem dX0_cellOf_31 : decode cX0_cellOf 31 = .ok (.saload, 1) := dk_53 (dk_at dksX0_cellOf_1 7 rfl rfl)
theorem dX0_cellOf_32 : decode cX0_cellOf 32 = .ok (.i2l, 1) := dk_133 (dk_at dksX0_cellOf_1 8 rfl rfl)
theorem dX0_cellOf_33 : decode cX0_cellOf 33 = .ok (.lreturn, 1) := dk_173 (dk_at dksX0_cellOf_1 9 rfl rfl)
theorem dX0_cellOf_34 : decode cX0_cellOf 34 = .ok (.aload_n 0, 1) := dk_42 (dk_at dksX0_cellOf_1 10 rfl rfl)
theorem dX0_cellOf_35 : decode cX0_cellOf 35 = .ok (.instanceof 715, 3) := dk_193 2 203 (dk_at dksX0_cellOf_1 11 rfl rfl)
theorem dX0_cellOf_38 : decode cX0_cellOf 38 = .ok (.ifCond .eq 13, 3) := dk_153 0 13 (dk_at dksX0_cellOf_1 14 rfl rfl)
theorem dX0_cellOf_41 : decode cX0_cellOf 41 = .ok (.aload_n 0, 1) := dk_42 (dk_at dksX0_cellOf_1 17 rfl rfl)
theorem dX0_cellOf_42 : decode cX0_cellOf 42 = .ok (.checkcast 715, 3) := dk_192 2 203 (dk_at dksX0_cellOf_1 18 rfl rfl)
theorem dX0_cellOf_45 : decode cX0_cellOf 45 = .ok (.astore_n 2, 1) := dk_77 (dk_at dksX0_cellOf_1 21 rfl rfl)
theorem dX0_cellOf_46 : decode cX0_cellOf 46 = .ok (.aload_n 2, 1) := dk_44 (dk_at dksX0_cellOf_1 22 rfl rfl)
theorem dX0_cellOf_47 : decode cX0_cellOf 47 = .ok (.iload_n 1, 1) := dk_27 (dk_at dksX0_cellOf_1 23 rfl rfl)
theorem dX0_cellOf_48 : decode cX0_cellOf 48 = .ok (.iaload, 1) := dk_46 (dk_at dksX0_cellOf_2 0 rfl rfl)
theorem dX0_cellOf_49 : decode cX0_cellOf 49 = .ok (.i2l, 1) := dk_133 (dk_at dksX0_cellOf_2 1 rfl rfl)
theorem dX0_cellOf_50 : decode cX0_cellOf 50 = .ok (.lreturn, 1) := dk_173 (dk_at dksX0_cellOf_2 2 rfl rfl)
theorem dX0_cellOf_51 : decode cX0_cellOf 51 = .ok (.aload_n 0, 1) := dk_42 (dk_at dksX0_cellOf_2 3 rfl rfl)
theorem dX0_cellOf_52 : decode cX0_cellOf 52 = .ok (.checkcast 716, 3) := dk_192 2 204 (dk_at dksX0_cellOf_2 4 rfl rfl)
theorem dX0_cellOf_55 : decode cX0_cellOf 55 = .ok (.iload_n 1, 1) := dk_27 (dk_at dksX0_cellOf_2 7 rfl rfl)
theorem dX0_cellOf_56 : decode cX0_cellOf 56 = .ok (.laload, 1) := dk_47 (dk_at dksX0_cellOf_2 8 rfl rfl)
theorem dX0_cellOf_57 : decode cX0_cellOf 57 = .ok (.lreturn, 1) := dk_173 (dk_at dksX0_cellOf_2 9 rfl rfl)
abbrev cX0_faulty : ByteArray := prog_1_method_3_code
def yX0_faulty : MethodName := ⟨RX0, "faulty", "(I)I"⟩
def dkwX0_faulty_0 : List UInt8 := [42, 27, 181, 0, 115, 16, 246, 27, 100, 172]
abbrev dktX0_faulty_0 : List UInt8 := dkwX0_faulty_0 ++ []
theorem dksX0_faulty_0 : cX0_faulty.data.toList.drop 0 = dktX0_faulty_0 := by decide +kernel
theorem dX0_faulty_0 : decode cX0_faulty 0 = .ok (.aload_n 0, 1) := dk_42 (dk_at dksX0_faulty_0 0 rfl rfl)
theorem dX0_faulty_1 : decode cX0_faulty 1 = .ok (.iload_n 1, 1) := dk_27 (dk_at dksX0_faulty_0 1 rfl rfl)
theorem dX0_faulty_2 : decode cX0_faulty 2 = .ok (.putfield 115, 3) := dk_181 0 115 (dk_at dksX0_faulty_0 2 rfl rfl)
theorem dX0_faulty_5 : decode cX0_faulty 5 = .ok (.bipush (-10), 2) := dk_16 246 (dk_at dksX0_faulty_0 5 rfl rfl)
theorem dX0_faulty_7 : decode cX0_faulty 7 = .ok (.iload_n 1, 1) := dk_27 (dk_at dksX0_faulty_0 7 rfl rfl)
theorem dX0_faulty_8 : decode cX0_faulty 8 = .ok (.isub, 1) := dk_100 (dk_at dksX0_faulty_0 8 rfl rfl)
theorem dX0_faulty_9 : decode cX0_faulty 9 = .ok (.ireturn, 1) := dk_172 (dk_at dksX0_faulty_0 9 rfl rfl)
abbrev cX0_thing : ByteArray := prog_1_method_28_code
def yX0_thing : MethodName := ⟨RX0, "thing", "(II)I"⟩
def dkwX0_thing_4 : List UInt8 := [89, 42, 29, 28, 183, 1, 25, 167, 0, 13, 187, 1, 28, 89, 42, 29, 28, 183, 1, 30, 182, 1, 31, 172]
abbrev dktX0_thing_4 : List UInt8 := dkwX0_thing_4 ++ []
def dkwX0_thing_3 : List UInt8 := [187, 0, 190, 89, 42, 29, 16, 247, 16, 247, 183, 1, 20, 167, 0, 31, 27, 4, 160, 0, 16, 187, 1, 23]
abbrev dktX0_thing_3 : List UInt8 := dkwX0_thing_3 ++ dktX0_thing_4
def dkwX0_thing_2 : List UInt8 := [180, 0, 25, 185, 0, 180, 1, 0, 62, 29, 16, 24, 160, 0, 6, 16, 252, 172, 42, 27, 154, 0, 19]
abbrev dktX0_thing_2 : List UInt8 := dkwX0_thing_2 ++ dktX0_thing_3
def dkwX0_thing_1 : List UInt8 := [154, 0, 5, 2, 172, 27, 158, 0, 17, 42, 180, 0, 152, 28, 184, 0, 161, 153, 0, 6, 16, 253, 172, 42]
abbrev dktX0_thing_1 : List UInt8 := dkwX0_thing_1 ++ dktX0_thing_2
def dkwX0_thing_0 : List UInt8 := [27, 133, 9, 20, 1, 18, 184, 0, 130, 154, 0, 6, 16, 254, 172, 27, 158, 0, 13, 42, 28, 182, 0, 219]
abbrev dktX0_thing_0 : List UInt8 := dkwX0_thing_0 ++ dktX0_thing_1
theorem dksX0_thing_0 : cX0_thing.data.toList.drop 0 = dktX0_thing_0 := by decide +kernel
theorem dksX0_thing_1 : cX0_thing.data.toList.drop 24 = dktX0_thing_1 := dk_seg dksX0_thing_0 24 rfl rfl
theorem dksX0_thing_2 : cX0_thing.data.toList.drop 48 = dktX0_thing_2 := dk_seg dksX0_thing_1 24 rfl rfl
theorem dksX0_thing_3 : cX0_thing.data.toList.drop 71 = dktX0_thing_3 := dk_seg dksX0_thing_2 23 rfl rfl
theorem dksX0_thing_4 : cX0_thing.data.toList.drop 95 = dktX0_thing_4 := dk_seg dksX0_thing_3 24 rfl rfl
theorem dX0_thing_0 : decode cX0_thing 0 = .ok (.iload_n 1, 1) := dk_27 (dk_at dksX0_thing_0 0 rfl rfl)
theorem dX0_thing_1 : decode cX0_thing 1 = .ok (.i2l, 1) := dk_133 (dk_at dksX0_thing_0 1 rfl rfl)
theorem dX0_thing_2 : decode cX0_thing 2 = .ok (.lconst 0, 1) := dk_9 (dk_at dksX0_thing_0 2 rfl rfl)
theorem dX0_thing_3 : decode cX0_thing 3 = .ok (.ldc2_w 274, 3) := dk_20 1 18 (dk_at dksX0_thing_0 3 rfl rfl)
theorem dX0_thing_6 : decode cX0_thing 6 = .ok (.invokestatic 130, 3) := dk_184 0 130 (dk_at dksX0_thing_0 6 rfl rfl)
theorem dX0_thing_9 : decode cX0_thing 9 = .ok (.ifCond .ne 6, 3) := dk_154 0 6 (dk_at dksX0_thing_0 9 rfl rfl)
theorem dX0_thing_12 : decode cX0_thing 12 = .ok (.bipush (-2), 2) := dk_16 254 (dk_at dksX0_thing_0 12 rfl rfl)
theorem dX0_thing_14 : decode cX0_thing 14 = .ok (.ireturn, 1) := dk_172 (dk_at dksX0_thing_0 14 rfl rfl)
theorem dX0_thing_15 : decode cX0_thing 15 = .ok (.iload_n 1, 1) := dk_27 (dk_at dksX0_thing_0 15 rfl rfl)
theorem dX0_thing_16 : decode cX0_thing 16 = .ok (.ifCond .le 13, 3) := dk_158 0 13 (dk_at dksX0_thing_0 16 rfl rfl)
theorem dX0_thing_19 : decode cX0_thing 19 = .ok (.aload_n 0, 1) := dk_42 (dk_at dksX0_thing_0 19 rfl rfl)
theorem dX0_thing_20 : decode cX0_thing 20 = .ok (.iload_n 2, 1) := dk_28 (dk_at dksX0_thing_0 20 rfl rfl)
theorem dX0_thing_21 : decode cX0_thing 21 = .ok (.invokevirtual 219, 3) := dk_182 0 219 (dk_at dksX0_thing_0 21 rfl rfl)
theorem dX0_thing_24 : decode cX0_thing 24 = .ok (.ifCond .ne 5, 3) := dk_154 0 5 (dk_at dksX0_thing_1 0 rfl rfl)
theorem dX0_thing_27 : decode cX0_thing 27 = .ok (.iconst (-1), 1) := dk_2 (dk_at dksX0_thing_1 3 rfl rfl)
theorem dX0_thing_28 : decode cX0_thing 28 = .ok (.ireturn, 1) := dk_172 (dk_at dksX0_thing_1 4 rfl rfl)
theorem dX0_thing_29 : decode cX0_thing 29 = .ok (.iload_n 1, 1) := dk_27 (dk_at dksX0_thing_1 5 rfl rfl)
theorem dX0_thing_30 : decode cX0_thing 30 = .ok (.ifCond .le 17, 3) := dk_158 0 17 (dk_at dksX0_thing_1 6 rfl rfl)
theorem dX0_thing_33 : decode cX0_thing 33 = .ok (.aload_n 0, 1) := dk_42 (dk_at dksX0_thing_1 9 rfl rfl)
theorem dX0_thing_34 : decode cX0_thing 34 = .ok (.getfield 152, 3) := dk_180 0 152 (dk_at dksX0_thing_1 10 rfl rfl)
theorem dX0_thing_37 : decode cX0_thing 37 = .ok (.iload_n 2, 1) := dk_28 (dk_at dksX0_thing_1 13 rfl rfl)
theorem dX0_thing_38 : decode cX0_thing 38 = .ok (.invokestatic 161, 3) := dk_184 0 161 (dk_at dksX0_thing_1 14 rfl rfl)
theorem dX0_thing_41 : decode cX0_thing 41 = .ok (.ifCond .eq 6, 3) := dk_153 0 6 (dk_at dksX0_thing_1 17 rfl rfl)
theorem dX0_thing_44 : decode cX0_thing 44 = .ok (.bipush (-3), 2) := dk_16 253 (dk_at dksX0_thing_1 20 rfl rfl)
theorem dX0_thing_46 : decode cX0_thing 46 = .ok (.ireturn, 1) := dk_172 (dk_at dksX0_thing_1 22 rfl rfl)
theorem dX0_thing_47 : decode cX0_thing 47 = .ok (.aload_n 0, 1) := dk_42 (dk_at dksX0_thing_1 23 rfl rfl)
theorem dX0_thing_48 : decode cX0_thing 48 = .ok (.getfield 25, 3) := dk_180 0 25 (dk_at dksX0_thing_2 0 rfl rfl)
theorem dX0_thing_51 : decode cX0_thing 51 = .ok (.invokeinterface 180 1, 5) := by decide +kernel
theorem dX0_thing_56 : decode cX0_thing 56 = .ok (.istore_n 3, 1) := dk_62 (dk_at dksX0_thing_2 8 rfl rfl)
theorem dX0_thing_57 : decode cX0_thing 57 = .ok (.iload_n 3, 1) := dk_29 (dk_at dksX0_thing_2 9 rfl rfl)
theorem dX0_thing_58 : decode cX0_thing 58 = .ok (.bipush 24, 2) := dk_16 24 (dk_at dksX0_thing_2 10 rfl rfl)
theorem dX0_thing_60 : decode cX0_thing 60 = .ok (.if_icmp .ne 6, 3) := dk_160 0 6 (dk_at dksX0_thing_2 12 rfl rfl)
theorem dX0_thing_63 : decode cX0_thing 63 = .ok (.bipush (-4), 2) := dk_16 252 (dk_at dksX0_thing_2 15 rfl rfl)
theorem dX0_thing_65 : decode cX0_thing 65 = .ok (.ireturn, 1) := dk_172 (dk_at dksX0_thing_2 17 rfl rfl)
theorem dX0_thing_66 : decode cX0_thing 66 = .ok (.aload_n 0, 1) := dk_42 (dk_at dksX0_thing_2 18 rfl rfl)
theorem dX0_thing_67 : decode cX0_thing 67 = .ok (.iload_n 1, 1) := dk_27 (dk_at dksX0_thing_2 19 rfl rfl)
theorem dX0_thing_68 : decode cX0_thing 68 = .ok (.ifCond .ne 19, 3) := dk_154 0 19 (dk_at dksX0_thing_2 20 rfl rfl)
theorem dX0_thing_71 : decode cX0_thing 71 = .ok (.new 190, 3) := dk_187 0 190 (dk_at dksX0_thing_3 0 rfl rfl)
theorem dX0_thing_74 : decode cX0_thing 74 = .ok (.dup, 1) := dk_89 (dk_at dksX0_thing_3 3 rfl rfl)
theorem dX0_thing_75 : decode cX0_thing 75 = .ok (.aload_n 0, 1) := dk_42 (dk_at dksX0_thing_3 4 rfl rfl)
theorem dX0_thing_76 : decode cX0_thing 76 = .ok (.iload_n 3, 1) := dk_29 (dk_at dksX0_thing_3 5 rfl rfl)
theorem dX0_thing_77 : decode cX0_thing 77 = .ok (.bipush (-9), 2) := dk_16 247 (dk_at dksX0_thing_3 6 rfl rfl)
theorem dX0_thing_79 : decode cX0_thing 79 = .ok (.bipush (-9), 2) := dk_16 247 (dk_at dksX0_thing_3 8 rfl rfl)
theorem dX0_thing_81 : decode cX0_thing 81 = .ok (.invokespecial 276, 3) := dk_183 1 20 (dk_at dksX0_thing_3 10 rfl rfl)
theorem dX0_thing_84 : decode cX0_thing 84 = .ok (.goto 31, 3) := dk_167 0 31 (dk_at dksX0_thing_3 13 rfl rfl)
theorem dX0_thing_87 : decode cX0_thing 87 = .ok (.iload_n 1, 1) := dk_27 (dk_at dksX0_thing_3 16 rfl rfl)
theorem dX0_thing_88 : decode cX0_thing 88 = .ok (.iconst 1, 1) := dk_4 (dk_at dksX0_thing_3 17 rfl rfl)
theorem dX0_thing_89 : decode cX0_thing 89 = .ok (.if_icmp .ne 16, 3) := dk_160 0 16 (dk_at dksX0_thing_3 18 rfl rfl)
theorem dX0_thing_92 : decode cX0_thing 92 = .ok (.new 279, 3) := dk_187 1 23 (dk_at dksX0_thing_3 21 rfl rfl)
theorem dX0_thing_95 : decode cX0_thing 95 = .ok (.dup, 1) := dk_89 (dk_at dksX0_thing_4 0 rfl rfl)
theorem dX0_thing_96 : decode cX0_thing 96 = .ok (.aload_n 0, 1) := dk_42 (dk_at dksX0_thing_4 1 rfl rfl)
theorem dX0_thing_97 : decode cX0_thing 97 = .ok (.iload_n 3, 1) := dk_29 (dk_at dksX0_thing_4 2 rfl rfl)
theorem dX0_thing_98 : decode cX0_thing 98 = .ok (.iload_n 2, 1) := dk_28 (dk_at dksX0_thing_4 3 rfl rfl)
theorem dX0_thing_99 : decode cX0_thing 99 = .ok (.invokespecial 281, 3) := dk_183 1 25 (dk_at dksX0_thing_4 4 rfl rfl)
theorem dX0_thing_102 : decode cX0_thing 102 = .ok (.goto 13, 3) := dk_167 0 13 (dk_at dksX0_thing_4 7 rfl rfl)
theorem dX0_thing_105 : decode cX0_thing 105 = .ok (.new 284, 3) := dk_187 1 28 (dk_at dksX0_thing_4 10 rfl rfl)
theorem dX0_thing_108 : decode cX0_thing 108 = .ok (.dup, 1) := dk_89 (dk_at dksX0_thing_4 13 rfl rfl)
theorem dX0_thing_109 : decode cX0_thing 109 = .ok (.aload_n 0, 1) := dk_42 (dk_at dksX0_thing_4 14 rfl rfl)
theorem dX0_thing_110 : decode cX0_thing 110 = .ok (.iload_n 3, 1) := dk_29 (dk_at dksX0_thing_4 15 rfl rfl)
theorem dX0_thing_111 : decode cX0_thing 111 = .ok (.iload_n 2, 1) := dk_28 (dk_at dksX0_thing_4 16 rfl rfl)
theorem dX0_thing_112 : decode cX0_thing 112 = .ok (.invokespecial 286, 3) := dk_183 1 30 (dk_at dksX0_thing_4 17 rfl rfl)
theorem dX0_thing_115 : decode cX0_thing 115 = .ok (.invokevirtual 287, 3) := dk_182 1 31 (dk_at dksX0_thing_4 20 rfl rfl)
theorem dX0_thing_118 : decode cX0_thing 118 = .ok (.ireturn, 1) := dk_172 (dk_at dksX0_thing_4 23 rfl rfl)
abbrev cX0_comes : ByteArray := prog_1_method_27_code
def yX0_comes : MethodName := ⟨RX0, "comes", "(LHeardPlaces$Thing;)I"⟩
def dkwX0_comes_1 : List UInt8 := [4, 100, 172]
abbrev dktX0_comes_1 : List UInt8 := dkwX0_comes_1 ++ []
def dkwX0_comes_0 : List UInt8 := [42, 180, 0, 25, 43, 185, 1, 14, 2, 0, 87, 42, 182, 0, 211, 42, 180, 0, 25, 185, 0, 180, 1, 0]
abbrev dktX0_comes_0 : List UInt8 := dkwX0_comes_0 ++ dktX0_comes_1
theorem dksX0_comes_0 : cX0_comes.data.toList.drop 0 = dktX0_comes_0 := by decide +kernel
theorem dksX0_comes_1 : cX0_comes.data.toList.drop 24 = dktX0_comes_1 := dk_seg dksX0_comes_0 24 rfl rfl
theorem dX0_comes_0 : decode cX0_comes 0 = .ok (.aload_n 0, 1) := dk_42 (dk_at dksX0_comes_0 0 rfl rfl)
theorem dX0_comes_1 : decode cX0_comes 1 = .ok (.getfield 25, 3) := dk_180 0 25 (dk_at dksX0_comes_0 1 rfl rfl)
theorem dX0_comes_4 : decode cX0_comes 4 = .ok (.aload_n 1, 1) := dk_43 (dk_at dksX0_comes_0 4 rfl rfl)
theorem dX0_comes_5 : decode cX0_comes 5 = .ok (.invokeinterface 270 2, 5) := by decide +kernel
theorem dX0_comes_10 : decode cX0_comes 10 = .ok (.pop, 1) := dk_87 (dk_at dksX0_comes_0 10 rfl rfl)
theorem dX0_comes_11 : decode cX0_comes 11 = .ok (.aload_n 0, 1) := dk_42 (dk_at dksX0_comes_0 11 rfl rfl)
theorem dX0_comes_12 : decode cX0_comes 12 = .ok (.invokevirtual 211, 3) := dk_182 0 211 (dk_at dksX0_comes_0 12 rfl rfl)
theorem dX0_comes_15 : decode cX0_comes 15 = .ok (.aload_n 0, 1) := dk_42 (dk_at dksX0_comes_0 15 rfl rfl)
theorem dX0_comes_16 : decode cX0_comes 16 = .ok (.getfield 25, 3) := dk_180 0 25 (dk_at dksX0_comes_0 16 rfl rfl)
theorem dX0_comes_19 : decode cX0_comes 19 = .ok (.invokeinterface 180 1, 5) := by decide +kernel
theorem dX0_comes_24 : decode cX0_comes 24 = .ok (.iconst 1, 1) := dk_4 (dk_at dksX0_comes_1 0 rfl rfl)
theorem dX0_comes_25 : decode cX0_comes 25 = .ok (.isub, 1) := dk_100 (dk_at dksX0_comes_1 1 rfl rfl)
theorem dX0_comes_26 : decode cX0_comes 26 = .ok (.ireturn, 1) := dk_172 (dk_at dksX0_comes_1 2 rfl rfl)
abbrev cX0_box : ByteArray := prog_1_method_30_code
def yX0_box : MethodName := ⟨RX0, "box", "(IIIII)I"⟩
def dkwX0_box_6 : List UInt8 := [42, 182, 0, 211, 25, 6, 182, 0, 196, 184, 1, 4, 172]
abbrev dktX0_box_6 : List UInt8 := dkwX0_box_6 ++ []
def dkwX0_box_5 : List UInt8 := [21, 7, 184, 0, 140, 184, 0, 144, 129, 181, 1, 43, 132, 8, 1, 167, 255, 226, 132, 7, 1, 167, 255, 210]
abbrev dktX0_box_5 : List UInt8 := dkwX0_box_5 ++ dktX0_box_6
def dkwX0_box_4 : List UInt8 := [21, 5, 163, 0, 45, 28, 54, 8, 21, 8, 21, 4, 163, 0, 29, 25, 6, 89, 180, 1, 43, 21, 8]
abbrev dktX0_box_4 : List UInt8 := dkwX0_box_4 ++ dktX0_box_5
def dkwX0_box_3 : List UInt8 := [163, 0, 9, 29, 21, 5, 164, 0, 6, 16, 254, 172, 25, 6, 9, 181, 1, 43, 29, 54, 7, 21, 7]
abbrev dktX0_box_3 : List UInt8 := dkwX0_box_3 ++ dktX0_box_4
def dkwX0_box_2 : List UInt8 := [153, 0, 31, 21, 4, 184, 1, 40, 153, 0, 23, 21, 5, 184, 1, 40, 153, 0, 15, 28, 21, 4]
abbrev dktX0_box_2 : List UInt8 := dkwX0_box_2 ++ dktX0_box_3
def dkwX0_box_1 : List UInt8 := [58, 6, 25, 6, 182, 0, 192, 153, 0, 6, 16, 253, 172, 28, 184, 1, 40, 153, 0, 38, 29, 184, 1, 40]
abbrev dktX0_box_1 : List UInt8 := dkwX0_box_1 ++ dktX0_box_2
def dkwX0_box_0 : List UInt8 := [42, 27, 182, 1, 37, 154, 0, 5, 2, 172, 42, 180, 0, 25, 27, 185, 0, 186, 2, 0, 192, 0, 190]
abbrev dktX0_box_0 : List UInt8 := dkwX0_box_0 ++ dktX0_box_1
theorem dksX0_box_0 : cX0_box.data.toList.drop 0 = dktX0_box_0 := by decide +kernel
theorem dksX0_box_1 : cX0_box.data.toList.drop 23 = dktX0_box_1 := dk_seg dksX0_box_0 23 rfl rfl
theorem dksX0_box_2 : cX0_box.data.toList.drop 47 = dktX0_box_2 := dk_seg dksX0_box_1 24 rfl rfl
theorem dksX0_box_3 : cX0_box.data.toList.drop 69 = dktX0_box_3 := dk_seg dksX0_box_2 22 rfl rfl
theorem dksX0_box_4 : cX0_box.data.toList.drop 92 = dktX0_box_4 := dk_seg dksX0_box_3 23 rfl rfl
theorem dksX0_box_5 : cX0_box.data.toList.drop 115 = dktX0_box_5 := dk_seg dksX0_box_4 23 rfl rfl
theorem dksX0_box_6 : cX0_box.data.toList.drop 139 = dktX0_box_6 := dk_seg dksX0_box_5 24 rfl rfl
theorem dX0_box_0 : decode cX0_box 0 = .ok (.aload_n 0, 1) := dk_42 (dk_at dksX0_box_0 0 rfl rfl)
theorem dX0_box_1 : decode cX0_box 1 = .ok (.iload_n 1, 1) := dk_27 (dk_at dksX0_box_0 1 rfl rfl)
theorem dX0_box_2 : decode cX0_box 2 = .ok (.invokevirtual 293, 3) := dk_182 1 37 (dk_at dksX0_box_0 2 rfl rfl)
theorem dX0_box_5 : decode cX0_box 5 = .ok (.ifCond .ne 5, 3) := dk_154 0 5 (dk_at dksX0_box_0 5 rfl rfl)
theorem dX0_box_8 : decode cX0_box 8 = .ok (.iconst (-1), 1) := dk_2 (dk_at dksX0_box_0 8 rfl rfl)
theorem dX0_box_9 : decode cX0_box 9 = .ok (.ireturn, 1) := dk_172 (dk_at dksX0_box_0 9 rfl rfl)
theorem dX0_box_10 : decode cX0_box 10 = .ok (.aload_n 0, 1) := dk_42 (dk_at dksX0_box_0 10 rfl rfl)
theorem dX0_box_11 : decode cX0_box 11 = .ok (.getfield 25, 3) := dk_180 0 25 (dk_at dksX0_box_0 11 rfl rfl)
theorem dX0_box_14 : decode cX0_box 14 = .ok (.iload_n 1, 1) := dk_27 (dk_at dksX0_box_0 14 rfl rfl)
theorem dX0_box_15 : decode cX0_box 15 = .ok (.invokeinterface 186 2, 5) := by decide +kernel
theorem dX0_box_20 : decode cX0_box 20 = .ok (.checkcast 190, 3) := dk_192 0 190 (dk_at dksX0_box_0 20 rfl rfl)
theorem dX0_box_23 : decode cX0_box 23 = .ok (.astore 6, 2) := dk_58 6 (dk_at dksX0_box_1 0 rfl rfl)
theorem dX0_box_25 : decode cX0_box 25 = .ok (.aload 6, 2) := dk_25 6 (dk_at dksX0_box_1 2 rfl rfl)
theorem dX0_box_27 : decode cX0_box 27 = .ok (.invokevirtual 192, 3) := dk_182 0 192 (dk_at dksX0_box_1 4 rfl rfl)
theorem dX0_box_30 : decode cX0_box 30 = .ok (.ifCond .eq 6, 3) := dk_153 0 6 (dk_at dksX0_box_1 7 rfl rfl)
theorem dX0_box_33 : decode cX0_box 33 = .ok (.bipush (-3), 2) := dk_16 253 (dk_at dksX0_box_1 10 rfl rfl)
theorem dX0_box_35 : decode cX0_box 35 = .ok (.ireturn, 1) := dk_172 (dk_at dksX0_box_1 12 rfl rfl)
theorem dX0_box_36 : decode cX0_box 36 = .ok (.iload_n 2, 1) := dk_28 (dk_at dksX0_box_1 13 rfl rfl)
theorem dX0_box_37 : decode cX0_box 37 = .ok (.invokestatic 296, 3) := dk_184 1 40 (dk_at dksX0_box_1 14 rfl rfl)
theorem dX0_box_40 : decode cX0_box 40 = .ok (.ifCond .eq 38, 3) := dk_153 0 38 (dk_at dksX0_box_1 17 rfl rfl)
theorem dX0_box_43 : decode cX0_box 43 = .ok (.iload_n 3, 1) := dk_29 (dk_at dksX0_box_1 20 rfl rfl)
theorem dX0_box_44 : decode cX0_box 44 = .ok (.invokestatic 296, 3) := dk_184 1 40 (dk_at dksX0_box_1 21 rfl rfl)
theorem dX0_box_47 : decode cX0_box 47 = .ok (.ifCond .eq 31, 3) := dk_153 0 31 (dk_at dksX0_box_2 0 rfl rfl)
theorem dX0_box_50 : decode cX0_box 50 = .ok (.iload 4, 2) := dk_21 4 (dk_at dksX0_box_2 3 rfl rfl)
theorem dX0_box_52 : decode cX0_box 52 = .ok (.invokestatic 296, 3) := dk_184 1 40 (dk_at dksX0_box_2 5 rfl rfl)
theorem dX0_box_55 : decode cX0_box 55 = .ok (.ifCond .eq 23, 3) := dk_153 0 23 (dk_at dksX0_box_2 8 rfl rfl)
theorem dX0_box_58 : decode cX0_box 58 = .ok (.iload 5, 2) := dk_21 5 (dk_at dksX0_box_2 11 rfl rfl)
theorem dX0_box_60 : decode cX0_box 60 = .ok (.invokestatic 296, 3) := dk_184 1 40 (dk_at dksX0_box_2 13 rfl rfl)
theorem dX0_box_63 : decode cX0_box 63 = .ok (.ifCond .eq 15, 3) := dk_153 0 15 (dk_at dksX0_box_2 16 rfl rfl)
theorem dX0_box_66 : decode cX0_box 66 = .ok (.iload_n 2, 1) := dk_28 (dk_at dksX0_box_2 19 rfl rfl)
theorem dX0_box_67 : decode cX0_box 67 = .ok (.iload 4, 2) := dk_21 4 (dk_at dksX0_box_2 20 rfl rfl)
theorem dX0_box_69 : decode cX0_box 69 = .ok (.if_icmp .gt 9, 3) := dk_163 0 9 (dk_at dksX0_box_3 0 rfl rfl)
theorem dX0_box_72 : decode cX0_box 72 = .ok (.iload_n 3, 1) := dk_29 (dk_at dksX0_box_3 3 rfl rfl)
theorem dX0_box_73 : decode cX0_box 73 = .ok (.iload 5, 2) := dk_21 5 (dk_at dksX0_box_3 4 rfl rfl)
theorem dX0_box_75 : decode cX0_box 75 = .ok (.if_icmp .le 6, 3) := dk_164 0 6 (dk_at dksX0_box_3 6 rfl rfl)
theorem dX0_box_78 : decode cX0_box 78 = .ok (.bipush (-2), 2) := dk_16 254 (dk_at dksX0_box_3 9 rfl rfl)
theorem dX0_box_80 : decode cX0_box 80 = .ok (.ireturn, 1) := dk_172 (dk_at dksX0_box_3 11 rfl rfl)
theorem dX0_box_81 : decode cX0_box 81 = .ok (.aload 6, 2) := dk_25 6 (dk_at dksX0_box_3 12 rfl rfl)
theorem dX0_box_83 : decode cX0_box 83 = .ok (.lconst 0, 1) := dk_9 (dk_at dksX0_box_3 14 rfl rfl)
theorem dX0_box_84 : decode cX0_box 84 = .ok (.putfield 299, 3) := dk_181 1 43 (dk_at dksX0_box_3 15 rfl rfl)
theorem dX0_box_87 : decode cX0_box 87 = .ok (.iload_n 3, 1) := dk_29 (dk_at dksX0_box_3 18 rfl rfl)
theorem dX0_box_88 : decode cX0_box 88 = .ok (.istore 7, 2) := dk_54 7 (dk_at dksX0_box_3 19 rfl rfl)
theorem dX0_box_90 : decode cX0_box 90 = .ok (.iload 7, 2) := dk_21 7 (dk_at dksX0_box_3 21 rfl rfl)
theorem dX0_box_92 : decode cX0_box 92 = .ok (.iload 5, 2) := dk_21 5 (dk_at dksX0_box_4 0 rfl rfl)
theorem dX0_box_94 : decode cX0_box 94 = .ok (.if_icmp .gt 45, 3) := dk_163 0 45 (dk_at dksX0_box_4 2 rfl rfl)
theorem dX0_box_97 : decode cX0_box 97 = .ok (.iload_n 2, 1) := dk_28 (dk_at dksX0_box_4 5 rfl rfl)
theorem dX0_box_98 : decode cX0_box 98 = .ok (.istore 8, 2) := dk_54 8 (dk_at dksX0_box_4 6 rfl rfl)
theorem dX0_box_100 : decode cX0_box 100 = .ok (.iload 8, 2) := dk_21 8 (dk_at dksX0_box_4 8 rfl rfl)
theorem dX0_box_102 : decode cX0_box 102 = .ok (.iload 4, 2) := dk_21 4 (dk_at dksX0_box_4 10 rfl rfl)
theorem dX0_box_104 : decode cX0_box 104 = .ok (.if_icmp .gt 29, 3) := dk_163 0 29 (dk_at dksX0_box_4 12 rfl rfl)
theorem dX0_box_107 : decode cX0_box 107 = .ok (.aload 6, 2) := dk_25 6 (dk_at dksX0_box_4 15 rfl rfl)
theorem dX0_box_109 : decode cX0_box 109 = .ok (.dup, 1) := dk_89 (dk_at dksX0_box_4 17 rfl rfl)
theorem dX0_box_110 : decode cX0_box 110 = .ok (.getfield 299, 3) := dk_180 1 43 (dk_at dksX0_box_4 18 rfl rfl)
theorem dX0_box_113 : decode cX0_box 113 = .ok (.iload 8, 2) := dk_21 8 (dk_at dksX0_box_4 21 rfl rfl)
theorem dX0_box_115 : decode cX0_box 115 = .ok (.iload 7, 2) := dk_21 7 (dk_at dksX0_box_5 0 rfl rfl)
theorem dX0_box_117 : decode cX0_box 117 = .ok (.invokestatic 140, 3) := dk_184 0 140 (dk_at dksX0_box_5 2 rfl rfl)
theorem dX0_box_120 : decode cX0_box 120 = .ok (.invokestatic 144, 3) := dk_184 0 144 (dk_at dksX0_box_5 5 rfl rfl)
theorem dX0_box_123 : decode cX0_box 123 = .ok (.lor, 1) := dk_129 (dk_at dksX0_box_5 8 rfl rfl)
theorem dX0_box_124 : decode cX0_box 124 = .ok (.putfield 299, 3) := dk_181 1 43 (dk_at dksX0_box_5 9 rfl rfl)
theorem dX0_box_127 : decode cX0_box 127 = .ok (.iinc 8 1, 3) := dk_132 8 1 (dk_at dksX0_box_5 12 rfl rfl)
theorem dX0_box_130 : decode cX0_box 130 = .ok (.goto (-30), 3) := dk_167 255 226 (dk_at dksX0_box_5 15 rfl rfl)
theorem dX0_box_133 : decode cX0_box 133 = .ok (.iinc 7 1, 3) := dk_132 7 1 (dk_at dksX0_box_5 18 rfl rfl)
theorem dX0_box_136 : decode cX0_box 136 = .ok (.goto (-46), 3) := dk_167 255 210 (dk_at dksX0_box_5 21 rfl rfl)
theorem dX0_box_139 : decode cX0_box 139 = .ok (.aload_n 0, 1) := dk_42 (dk_at dksX0_box_6 0 rfl rfl)
theorem dX0_box_140 : decode cX0_box 140 = .ok (.invokevirtual 211, 3) := dk_182 0 211 (dk_at dksX0_box_6 1 rfl rfl)
theorem dX0_box_143 : decode cX0_box 143 = .ok (.aload 6, 2) := dk_25 6 (dk_at dksX0_box_6 4 rfl rfl)
theorem dX0_box_145 : decode cX0_box 145 = .ok (.invokevirtual 196, 3) := dk_182 0 196 (dk_at dksX0_box_6 6 rfl rfl)
theorem dX0_box_148 : decode cX0_box 148 = .ok (.invokestatic 260, 3) := dk_184 1 4 (dk_at dksX0_box_6 9 rfl rfl)
theorem dX0_box_151 : decode cX0_box 151 = .ok (.ireturn, 1) := dk_172 (dk_at dksX0_box_6 12 rfl rfl)
abbrev cX0_isThing : ByteArray := prog_1_method_20_code
def yX0_isThing : MethodName := ⟨RX0, "isThing", "(I)Z"⟩
def dkwX0_isThing_0 : List UInt8 := [27, 133, 9, 42, 180, 0, 25, 185, 0, 180, 1, 0, 133, 10, 101, 184, 0, 130, 172]
abbrev dktX0_isThing_0 : List UInt8 := dkwX0_isThing_0 ++ []
theorem dksX0_isThing_0 : cX0_isThing.data.toList.drop 0 = dktX0_isThing_0 := by decide +kernel
theorem dX0_isThing_0 : decode cX0_isThing 0 = .ok (.iload_n 1, 1) := dk_27 (dk_at dksX0_isThing_0 0 rfl rfl)
theorem dX0_isThing_1 : decode cX0_isThing 1 = .ok (.i2l, 1) := dk_133 (dk_at dksX0_isThing_0 1 rfl rfl)
theorem dX0_isThing_2 : decode cX0_isThing 2 = .ok (.lconst 0, 1) := dk_9 (dk_at dksX0_isThing_0 2 rfl rfl)
theorem dX0_isThing_3 : decode cX0_isThing 3 = .ok (.aload_n 0, 1) := dk_42 (dk_at dksX0_isThing_0 3 rfl rfl)
theorem dX0_isThing_4 : decode cX0_isThing 4 = .ok (.getfield 25, 3) := dk_180 0 25 (dk_at dksX0_isThing_0 4 rfl rfl)
theorem dX0_isThing_7 : decode cX0_isThing 7 = .ok (.invokeinterface 180 1, 5) := by decide +kernel
theorem dX0_isThing_12 : decode cX0_isThing 12 = .ok (.i2l, 1) := dk_133 (dk_at dksX0_isThing_0 12 rfl rfl)
theorem dX0_isThing_13 : decode cX0_isThing 13 = .ok (.lconst 1, 1) := dk_10 (dk_at dksX0_isThing_0 13 rfl rfl)
theorem dX0_isThing_14 : decode cX0_isThing 14 = .ok (.lsub, 1) := dk_101 (dk_at dksX0_isThing_0 14 rfl rfl)
theorem dX0_isThing_15 : decode cX0_isThing 15 = .ok (.invokestatic 130, 3) := dk_184 0 130 (dk_at dksX0_isThing_0 15 rfl rfl)
theorem dX0_isThing_18 : decode cX0_isThing 18 = .ok (.ireturn, 1) := dk_172 (dk_at dksX0_isThing_0 18 rfl rfl)
abbrev cX0_isEdge : ByteArray := prog_1_method_29_code
def yX0_isEdge : MethodName := ⟨RX0, "isEdge", "(I)Z"⟩
def dkwX0_isEdge_0 : List UInt8 := [26, 133, 9, 20, 1, 35, 184, 0, 130, 172]
abbrev dktX0_isEdge_0 : List UInt8 := dkwX0_isEdge_0 ++ []
theorem dksX0_isEdge_0 : cX0_isEdge.data.toList.drop 0 = dktX0_isEdge_0 := by decide +kernel
theorem dX0_isEdge_0 : decode cX0_isEdge 0 = .ok (.iload_n 0, 1) := dk_26 (dk_at dksX0_isEdge_0 0 rfl rfl)
theorem dX0_isEdge_1 : decode cX0_isEdge 1 = .ok (.i2l, 1) := dk_133 (dk_at dksX0_isEdge_0 1 rfl rfl)
theorem dX0_isEdge_2 : decode cX0_isEdge 2 = .ok (.lconst 0, 1) := dk_9 (dk_at dksX0_isEdge_0 2 rfl rfl)
theorem dX0_isEdge_3 : decode cX0_isEdge 3 = .ok (.ldc2_w 291, 3) := dk_20 1 35 (dk_at dksX0_isEdge_0 3 rfl rfl)
theorem dX0_isEdge_6 : decode cX0_isEdge 6 = .ok (.invokestatic 130, 3) := dk_184 0 130 (dk_at dksX0_isEdge_0 6 rfl rfl)
theorem dX0_isEdge_9 : decode cX0_isEdge 9 = .ok (.ireturn, 1) := dk_172 (dk_at dksX0_isEdge_0 9 rfl rfl)
abbrev cX0_about : ByteArray := prog_1_method_33_code
def yX0_about : MethodName := ⟨RX0, "about", "(II)I"⟩
def dkwX0_about_6 : List UInt8 := [172, 45, 180, 1, 69, 172, 16, 254, 172]
abbrev dktX0_about_6 : List UInt8 := dkwX0_about_6 ++ []
def dkwX0_about_5 : List UInt8 := [42, 180, 0, 69, 27, 46, 172, 45, 180, 1, 63, 153, 0, 7, 4, 167, 0, 4, 3, 172, 45, 180, 1, 66]
abbrev dktX0_about_5 : List UInt8 := dkwX0_about_5 ++ dktX0_about_6
def dkwX0_about_4 : List UInt8 := [184, 1, 4, 172, 42, 182, 1, 54, 42, 180, 0, 32, 27, 47, 184, 1, 57, 172, 42, 27, 182, 1, 60, 172]
abbrev dktX0_about_4 : List UInt8 := dkwX0_about_4 ++ dktX0_about_5
def dkwX0_about_3 : List UInt8 := [45, 182, 1, 51, 172, 45, 182, 0, 196, 184, 1, 4, 172, 42, 182, 1, 54, 42, 180, 0, 32, 27, 47]
abbrev dktX0_about_3 : List UInt8 := dkwX0_about_3 ++ dktX0_about_4
def dkwX0_about_2 : List UInt8 := [170, 0, 0, 0, 0, 0, 128, 0, 0, 0, 0, 0, 0, 0, 8, 0, 0, 0, 51, 0, 0, 0, 56, 0, 0, 0, 64, 0, 0, 0, 78, 0, 0, 0, 92, 0, 0, 0, 98, 0, 0, 0, 105, 0, 0, 0, 118, 0, 0, 0, 123]
abbrev dktX0_about_2 : List UInt8 := dkwX0_about_2 ++ dktX0_about_3
def dkwX0_about_1 : List UInt8 := [28]
abbrev dktX0_about_1 : List UInt8 := dkwX0_about_1 ++ dktX0_about_2
def dkwX0_about_0 : List UInt8 := [42, 27, 182, 1, 37, 154, 0, 5, 2, 172, 42, 180, 0, 25, 27, 185, 0, 186, 2, 0, 192, 0, 190, 78]
abbrev dktX0_about_0 : List UInt8 := dkwX0_about_0 ++ dktX0_about_1
theorem dksX0_about_0 : cX0_about.data.toList.drop 0 = dktX0_about_0 := by decide +kernel
theorem dksX0_about_1 : cX0_about.data.toList.drop 24 = dktX0_about_1 := dk_seg dksX0_about_0 24 rfl rfl
theorem dksX0_about_2 : cX0_about.data.toList.drop 25 = dktX0_about_2 := dk_seg dksX0_about_1 1 rfl rfl
theorem dksX0_about_3 : cX0_about.data.toList.drop 76 = dktX0_about_3 := dk_seg dksX0_about_2 51 rfl rfl
theorem dksX0_about_4 : cX0_about.data.toList.drop 99 = dktX0_about_4 := dk_seg dksX0_about_3 23 rfl rfl
theorem dksX0_about_5 : cX0_about.data.toList.drop 123 = dktX0_about_5 := dk_seg dksX0_about_4 24 rfl rfl
theorem dksX0_about_6 : cX0_about.data.toList.drop 147 = dktX0_about_6 := dk_seg dksX0_about_5 24 rfl rfl
theorem dX0_about_0 : decode cX0_about 0 = .ok (.aload_n 0, 1) := dk_42 (dk_at dksX0_about_0 0 rfl rfl)
theorem dX0_about_1 : decode cX0_about 1 = .ok (.iload_n 1, 1) := dk_27 (dk_at dksX0_about_0 1 rfl rfl)
theorem dX0_about_2 : decode cX0_about 2 = .ok (.invokevirtual 293, 3) := dk_182 1 37 (dk_at dksX0_about_0 2 rfl rfl)
theorem dX0_about_5 : decode cX0_about 5 = .ok (.ifCond .ne 5, 3) := dk_154 0 5 (dk_at dksX0_about_0 5 rfl rfl)
theorem dX0_about_8 : decode cX0_about 8 = .ok (.iconst (-1), 1) := dk_2 (dk_at dksX0_about_0 8 rfl rfl)
theorem dX0_about_9 : decode cX0_about 9 = .ok (.ireturn, 1) := dk_172 (dk_at dksX0_about_0 9 rfl rfl)
theorem dX0_about_10 : decode cX0_about 10 = .ok (.aload_n 0, 1) := dk_42 (dk_at dksX0_about_0 10 rfl rfl)
theorem dX0_about_11 : decode cX0_about 11 = .ok (.getfield 25, 3) := dk_180 0 25 (dk_at dksX0_about_0 11 rfl rfl)
theorem dX0_about_14 : decode cX0_about 14 = .ok (.iload_n 1, 1) := dk_27 (dk_at dksX0_about_0 14 rfl rfl)
theorem dX0_about_15 : decode cX0_about 15 = .ok (.invokeinterface 186 2, 5) := by decide +kernel
theorem dX0_about_20 : decode cX0_about 20 = .ok (.checkcast 190, 3) := dk_192 0 190 (dk_at dksX0_about_0 20 rfl rfl)
theorem dX0_about_23 : decode cX0_about 23 = .ok (.astore_n 3, 1) := dk_78 (dk_at dksX0_about_0 23 rfl rfl)
theorem dX0_about_24 : decode cX0_about 24 = .ok (.iload_n 2, 1) := dk_28 (dk_at dksX0_about_1 0 rfl rfl)
theorem dX0_about_25 : decode cX0_about 25 = .ok (.tableswitch 128 0 8 #[51, 56, 64, 78, 92, 98, 105, 118, 123], 51) := by decide +kernel
theorem dX0_about_76 : decode cX0_about 76 = .ok (.aload_n 3, 1) := dk_45 (dk_at dksX0_about_3 0 rfl rfl)
theorem dX0_about_77 : decode cX0_about 77 = .ok (.invokevirtual 307, 3) := dk_182 1 51 (dk_at dksX0_about_3 1 rfl rfl)
theorem dX0_about_80 : decode cX0_about 80 = .ok (.ireturn, 1) := dk_172 (dk_at dksX0_about_3 4 rfl rfl)
theorem dX0_about_81 : decode cX0_about 81 = .ok (.aload_n 3, 1) := dk_45 (dk_at dksX0_about_3 5 rfl rfl)
theorem dX0_about_82 : decode cX0_about 82 = .ok (.invokevirtual 196, 3) := dk_182 0 196 (dk_at dksX0_about_3 6 rfl rfl)
theorem dX0_about_85 : decode cX0_about 85 = .ok (.invokestatic 260, 3) := dk_184 1 4 (dk_at dksX0_about_3 9 rfl rfl)
theorem dX0_about_88 : decode cX0_about 88 = .ok (.ireturn, 1) := dk_172 (dk_at dksX0_about_3 12 rfl rfl)
theorem dX0_about_89 : decode cX0_about 89 = .ok (.aload_n 0, 1) := dk_42 (dk_at dksX0_about_3 13 rfl rfl)
theorem dX0_about_90 : decode cX0_about 90 = .ok (.invokevirtual 310, 3) := dk_182 1 54 (dk_at dksX0_about_3 14 rfl rfl)
theorem dX0_about_93 : decode cX0_about 93 = .ok (.aload_n 0, 1) := dk_42 (dk_at dksX0_about_3 17 rfl rfl)
theorem dX0_about_94 : decode cX0_about 94 = .ok (.getfield 32, 3) := dk_180 0 32 (dk_at dksX0_about_3 18 rfl rfl)
theorem dX0_about_97 : decode cX0_about 97 = .ok (.iload_n 1, 1) := dk_27 (dk_at dksX0_about_3 21 rfl rfl)
theorem dX0_about_98 : decode cX0_about 98 = .ok (.laload, 1) := dk_47 (dk_at dksX0_about_3 22 rfl rfl)
theorem dX0_about_99 : decode cX0_about 99 = .ok (.invokestatic 260, 3) := dk_184 1 4 (dk_at dksX0_about_4 0 rfl rfl)
theorem dX0_about_102 : decode cX0_about 102 = .ok (.ireturn, 1) := dk_172 (dk_at dksX0_about_4 3 rfl rfl)
theorem dX0_about_103 : decode cX0_about 103 = .ok (.aload_n 0, 1) := dk_42 (dk_at dksX0_about_4 4 rfl rfl)
theorem dX0_about_104 : decode cX0_about 104 = .ok (.invokevirtual 310, 3) := dk_182 1 54 (dk_at dksX0_about_4 5 rfl rfl)
theorem dX0_about_107 : decode cX0_about 107 = .ok (.aload_n 0, 1) := dk_42 (dk_at dksX0_about_4 8 rfl rfl)
theorem dX0_about_108 : decode cX0_about 108 = .ok (.getfield 32, 3) := dk_180 0 32 (dk_at dksX0_about_4 9 rfl rfl)
theorem dX0_about_111 : decode cX0_about 111 = .ok (.iload_n 1, 1) := dk_27 (dk_at dksX0_about_4 12 rfl rfl)
theorem dX0_about_112 : decode cX0_about 112 = .ok (.laload, 1) := dk_47 (dk_at dksX0_about_4 13 rfl rfl)
theorem dX0_about_113 : decode cX0_about 113 = .ok (.invokestatic 313, 3) := dk_184 1 57 (dk_at dksX0_about_4 14 rfl rfl)
theorem dX0_about_116 : decode cX0_about 116 = .ok (.ireturn, 1) := dk_172 (dk_at dksX0_about_4 17 rfl rfl)
theorem dX0_about_117 : decode cX0_about 117 = .ok (.aload_n 0, 1) := dk_42 (dk_at dksX0_about_4 18 rfl rfl)
theorem dX0_about_118 : decode cX0_about 118 = .ok (.iload_n 1, 1) := dk_27 (dk_at dksX0_about_4 19 rfl rfl)
theorem dX0_about_119 : decode cX0_about 119 = .ok (.invokevirtual 316, 3) := dk_182 1 60 (dk_at dksX0_about_4 20 rfl rfl)
theorem dX0_about_122 : decode cX0_about 122 = .ok (.ireturn, 1) := dk_172 (dk_at dksX0_about_4 23 rfl rfl)
theorem dX0_about_123 : decode cX0_about 123 = .ok (.aload_n 0, 1) := dk_42 (dk_at dksX0_about_5 0 rfl rfl)
theorem dX0_about_124 : decode cX0_about 124 = .ok (.getfield 69, 3) := dk_180 0 69 (dk_at dksX0_about_5 1 rfl rfl)
theorem dX0_about_127 : decode cX0_about 127 = .ok (.iload_n 1, 1) := dk_27 (dk_at dksX0_about_5 4 rfl rfl)
theorem dX0_about_128 : decode cX0_about 128 = .ok (.iaload, 1) := dk_46 (dk_at dksX0_about_5 5 rfl rfl)
theorem dX0_about_129 : decode cX0_about 129 = .ok (.ireturn, 1) := dk_172 (dk_at dksX0_about_5 6 rfl rfl)
theorem dX0_about_130 : decode cX0_about 130 = .ok (.aload_n 3, 1) := dk_45 (dk_at dksX0_about_5 7 rfl rfl)
theorem dX0_about_131 : decode cX0_about 131 = .ok (.getfield 319, 3) := dk_180 1 63 (dk_at dksX0_about_5 8 rfl rfl)
theorem dX0_about_134 : decode cX0_about 134 = .ok (.ifCond .eq 7, 3) := dk_153 0 7 (dk_at dksX0_about_5 11 rfl rfl)
theorem dX0_about_137 : decode cX0_about 137 = .ok (.iconst 1, 1) := dk_4 (dk_at dksX0_about_5 14 rfl rfl)
theorem dX0_about_138 : decode cX0_about 138 = .ok (.goto 4, 3) := dk_167 0 4 (dk_at dksX0_about_5 15 rfl rfl)
theorem dX0_about_141 : decode cX0_about 141 = .ok (.iconst 0, 1) := dk_3 (dk_at dksX0_about_5 18 rfl rfl)
theorem dX0_about_142 : decode cX0_about 142 = .ok (.ireturn, 1) := dk_172 (dk_at dksX0_about_5 19 rfl rfl)
theorem dX0_about_143 : decode cX0_about 143 = .ok (.aload_n 3, 1) := dk_45 (dk_at dksX0_about_5 20 rfl rfl)
theorem dX0_about_144 : decode cX0_about 144 = .ok (.getfield 322, 3) := dk_180 1 66 (dk_at dksX0_about_5 21 rfl rfl)
theorem dX0_about_147 : decode cX0_about 147 = .ok (.ireturn, 1) := dk_172 (dk_at dksX0_about_6 0 rfl rfl)
theorem dX0_about_148 : decode cX0_about 148 = .ok (.aload_n 3, 1) := dk_45 (dk_at dksX0_about_6 1 rfl rfl)
theorem dX0_about_149 : decode cX0_about 149 = .ok (.getfield 325, 3) := dk_180 1 69 (dk_at dksX0_about_6 2 rfl rfl)
theorem dX0_about_152 : decode cX0_about 152 = .ok (.ireturn, 1) := dk_172 (dk_at dksX0_about_6 5 rfl rfl)
theorem dX0_about_153 : decode cX0_about 153 = .ok (.bipush (-2), 2) := dk_16 254 (dk_at dksX0_about_6 6 rfl rfl)
theorem dX0_about_155 : decode cX0_about 155 = .ok (.ireturn, 1) := dk_172 (dk_at dksX0_about_6 8 rfl rfl)
abbrev cX0_narrow : ByteArray := prog_1_method_55_code
def yX0_narrow : MethodName := ⟨RX0, "narrow", "()V"⟩
def dkwX0_narrow_1 : List UInt8 := [181, 1, 166, 177]
abbrev dktX0_narrow_1 : List UInt8 := dkwX0_narrow_1 ++ []
def dkwX0_narrow_0 : List UInt8 := [42, 180, 1, 166, 153, 0, 4, 177, 42, 182, 1, 186, 42, 42, 180, 0, 32, 182, 1, 189, 42, 4]
abbrev dktX0_narrow_0 : List UInt8 := dkwX0_narrow_0 ++ dktX0_narrow_1
theorem dksX0_narrow_0 : cX0_narrow.data.toList.drop 0 = dktX0_narrow_0 := by decide +kernel
theorem dksX0_narrow_1 : cX0_narrow.data.toList.drop 22 = dktX0_narrow_1 := dk_seg dksX0_narrow_0 22 rfl rfl
theorem dX0_narrow_0 : decode cX0_narrow 0 = .ok (.aload_n 0, 1) := dk_42 (dk_at dksX0_narrow_0 0 rfl rfl)
theorem dX0_narrow_1 : decode cX0_narrow 1 = .ok (.getfield 422, 3) := dk_180 1 166 (dk_at dksX0_narrow_0 1 rfl rfl)
theorem dX0_narrow_4 : decode cX0_narrow 4 = .ok (.ifCond .eq 4, 3) := dk_153 0 4 (dk_at dksX0_narrow_0 4 rfl rfl)
theorem dX0_narrow_7 : decode cX0_narrow 7 = .ok (.return_, 1) := dk_177 (dk_at dksX0_narrow_0 7 rfl rfl)
theorem dX0_narrow_8 : decode cX0_narrow 8 = .ok (.aload_n 0, 1) := dk_42 (dk_at dksX0_narrow_0 8 rfl rfl)
theorem dX0_narrow_9 : decode cX0_narrow 9 = .ok (.invokevirtual 442, 3) := dk_182 1 186 (dk_at dksX0_narrow_0 9 rfl rfl)
theorem dX0_narrow_12 : decode cX0_narrow 12 = .ok (.aload_n 0, 1) := dk_42 (dk_at dksX0_narrow_0 12 rfl rfl)
theorem dX0_narrow_13 : decode cX0_narrow 13 = .ok (.aload_n 0, 1) := dk_42 (dk_at dksX0_narrow_0 13 rfl rfl)
theorem dX0_narrow_14 : decode cX0_narrow 14 = .ok (.getfield 32, 3) := dk_180 0 32 (dk_at dksX0_narrow_0 14 rfl rfl)
theorem dX0_narrow_17 : decode cX0_narrow 17 = .ok (.invokevirtual 445, 3) := dk_182 1 189 (dk_at dksX0_narrow_0 17 rfl rfl)
theorem dX0_narrow_20 : decode cX0_narrow 20 = .ok (.aload_n 0, 1) := dk_42 (dk_at dksX0_narrow_0 20 rfl rfl)
theorem dX0_narrow_21 : decode cX0_narrow 21 = .ok (.iconst 1, 1) := dk_4 (dk_at dksX0_narrow_0 21 rfl rfl)
theorem dX0_narrow_22 : decode cX0_narrow 22 = .ok (.putfield 422, 3) := dk_181 1 166 (dk_at dksX0_narrow_1 0 rfl rfl)
theorem dX0_narrow_25 : decode cX0_narrow 25 = .ok (.return_, 1) := dk_177 (dk_at dksX0_narrow_1 3 rfl rfl)
abbrev cX0_askAll : ByteArray := prog_1_method_54_code
def yX0_askAll : MethodName := ⟨RX0, "askAll", "()V"⟩
def dkwX0_askAll_1 : List UInt8 := [27, 185, 0, 186, 2, 0, 192, 0, 214, 180, 1, 46, 84, 132, 1, 1, 167, 255, 218, 177]
abbrev dktX0_askAll_1 : List UInt8 := dkwX0_askAll_1 ++ []
def dkwX0_askAll_0 : List UInt8 := [3, 60, 27, 42, 180, 0, 29, 185, 0, 180, 1, 0, 162, 0, 31, 42, 180, 0, 38, 27, 42, 180, 0, 29]
abbrev dktX0_askAll_0 : List UInt8 := dkwX0_askAll_0 ++ dktX0_askAll_1
theorem dksX0_askAll_0 : cX0_askAll.data.toList.drop 0 = dktX0_askAll_0 := by decide +kernel
theorem dksX0_askAll_1 : cX0_askAll.data.toList.drop 24 = dktX0_askAll_1 := dk_seg dksX0_askAll_0 24 rfl rfl
theorem dX0_askAll_0 : decode cX0_askAll 0 = .ok (.iconst 0, 1) := dk_3 (dk_at dksX0_askAll_0 0 rfl rfl)
theorem dX0_askAll_1 : decode cX0_askAll 1 = .ok (.istore_n 1, 1) := dk_60 (dk_at dksX0_askAll_0 1 rfl rfl)
theorem dX0_askAll_2 : decode cX0_askAll 2 = .ok (.iload_n 1, 1) := dk_27 (dk_at dksX0_askAll_0 2 rfl rfl)
theorem dX0_askAll_3 : decode cX0_askAll 3 = .ok (.aload_n 0, 1) := dk_42 (dk_at dksX0_askAll_0 3 rfl rfl)
theorem dX0_askAll_4 : decode cX0_askAll 4 = .ok (.getfield 29, 3) := dk_180 0 29 (dk_at dksX0_askAll_0 4 rfl rfl)
theorem dX0_askAll_7 : decode cX0_askAll 7 = .ok (.invokeinterface 180 1, 5) := by decide +kernel
theorem dX0_askAll_12 : decode cX0_askAll 12 = .ok (.if_icmp .ge 31, 3) := dk_162 0 31 (dk_at dksX0_askAll_0 12 rfl rfl)
theorem dX0_askAll_15 : decode cX0_askAll 15 = .ok (.aload_n 0, 1) := dk_42 (dk_at dksX0_askAll_0 15 rfl rfl)
theorem dX0_askAll_16 : decode cX0_askAll 16 = .ok (.getfield 38, 3) := dk_180 0 38 (dk_at dksX0_askAll_0 16 rfl rfl)
theorem dX0_askAll_19 : decode cX0_askAll 19 = .ok (.iload_n 1, 1) := dk_27 (dk_at dksX0_askAll_0 19 rfl rfl)
theorem dX0_askAll_20 : decode cX0_askAll 20 = .ok (.aload_n 0, 1) := dk_42 (dk_at dksX0_askAll_0 20 rfl rfl)
theorem dX0_askAll_21 : decode cX0_askAll 21 = .ok (.getfield 29, 3) := dk_180 0 29 (dk_at dksX0_askAll_0 21 rfl rfl)
theorem dX0_askAll_24 : decode cX0_askAll 24 = .ok (.iload_n 1, 1) := dk_27 (dk_at dksX0_askAll_1 0 rfl rfl)
theorem dX0_askAll_25 : decode cX0_askAll 25 = .ok (.invokeinterface 186 2, 5) := by decide +kernel
theorem dX0_askAll_30 : decode cX0_askAll 30 = .ok (.checkcast 214, 3) := dk_192 0 214 (dk_at dksX0_askAll_1 6 rfl rfl)
theorem dX0_askAll_33 : decode cX0_askAll 33 = .ok (.getfield 302, 3) := dk_180 1 46 (dk_at dksX0_askAll_1 9 rfl rfl)
theorem dX0_askAll_36 : decode cX0_askAll 36 = .ok (.bastore, 1) := dk_84 (dk_at dksX0_askAll_1 12 rfl rfl)
theorem dX0_askAll_37 : decode cX0_askAll 37 = .ok (.iinc 1 1, 3) := dk_132 1 1 (dk_at dksX0_askAll_1 13 rfl rfl)
theorem dX0_askAll_40 : decode cX0_askAll 40 = .ok (.goto (-38), 3) := dk_167 255 218 (dk_at dksX0_askAll_1 16 rfl rfl)
theorem dX0_askAll_43 : decode cX0_askAll 43 = .ok (.return_, 1) := dk_177 (dk_at dksX0_askAll_1 19 rfl rfl)
abbrev cX0_settle : ByteArray := prog_1_method_53_code
def yX0_settle : MethodName := ⟨RX0, "settle", "([J)V"⟩
def dkwX0_settle_4 : List UInt8 := [132, 3, 1, 167, 255, 210, 167, 255, 199, 177]
abbrev dktX0_settle_4 : List UInt8 := dkwX0_settle_4 ++ []
def dkwX0_settle_3 : List UInt8 := [153, 0, 24, 28, 42, 42, 180, 0, 29, 29, 185, 0, 186, 2, 0, 192, 0, 214, 43, 182, 1, 182, 128, 61]
abbrev dktX0_settle_3 : List UInt8 := dkwX0_settle_3 ++ dktX0_settle_4
def dkwX0_settle_2 : List UInt8 := [3, 61, 3, 62, 29, 42, 180, 0, 29, 185, 0, 180, 1, 0, 162, 0, 39, 42, 180, 0, 38, 29, 51]
abbrev dktX0_settle_2 : List UInt8 := dkwX0_settle_2 ++ dktX0_settle_3
def dkwX0_settle_1 : List UInt8 := [185, 0, 186, 2, 0, 192, 0, 190, 182, 0, 196, 80, 132, 2, 1, 167, 255, 221, 4, 61, 28, 153, 0, 59]
abbrev dktX0_settle_1 : List UInt8 := dkwX0_settle_1 ++ dktX0_settle_2
def dkwX0_settle_0 : List UInt8 := [3, 61, 28, 42, 180, 0, 25, 185, 0, 180, 1, 0, 162, 0, 28, 43, 28, 42, 180, 0, 25, 28]
abbrev dktX0_settle_0 : List UInt8 := dkwX0_settle_0 ++ dktX0_settle_1
theorem dksX0_settle_0 : cX0_settle.data.toList.drop 0 = dktX0_settle_0 := by decide +kernel
theorem dksX0_settle_1 : cX0_settle.data.toList.drop 22 = dktX0_settle_1 := dk_seg dksX0_settle_0 22 rfl rfl
theorem dksX0_settle_2 : cX0_settle.data.toList.drop 46 = dktX0_settle_2 := dk_seg dksX0_settle_1 24 rfl rfl
theorem dksX0_settle_3 : cX0_settle.data.toList.drop 69 = dktX0_settle_3 := dk_seg dksX0_settle_2 23 rfl rfl
theorem dksX0_settle_4 : cX0_settle.data.toList.drop 93 = dktX0_settle_4 := dk_seg dksX0_settle_3 24 rfl rfl
theorem dX0_settle_0 : decode cX0_settle 0 = .ok (.iconst 0, 1) := dk_3 (dk_at dksX0_settle_0 0 rfl rfl)
theorem dX0_settle_1 : decode cX0_settle 1 = .ok (.istore_n 2, 1) := dk_61 (dk_at dksX0_settle_0 1 rfl rfl)
theorem dX0_settle_2 : decode cX0_settle 2 = .ok (.iload_n 2, 1) := dk_28 (dk_at dksX0_settle_0 2 rfl rfl)
theorem dX0_settle_3 : decode cX0_settle 3 = .ok (.aload_n 0, 1) := dk_42 (dk_at dksX0_settle_0 3 rfl rfl)
theorem dX0_settle_4 : decode cX0_settle 4 = .ok (.getfield 25, 3) := dk_180 0 25 (dk_at dksX0_settle_0 4 rfl rfl)
theorem dX0_settle_7 : decode cX0_settle 7 = .ok (.invokeinterface 180 1, 5) := by decide +kernel
theorem dX0_settle_12 : decode cX0_settle 12 = .ok (.if_icmp .ge 28, 3) := dk_162 0 28 (dk_at dksX0_settle_0 12 rfl rfl)
theorem dX0_settle_15 : decode cX0_settle 15 = .ok (.aload_n 1, 1) := dk_43 (dk_at dksX0_settle_0 15 rfl rfl)
theorem dX0_settle_16 : decode cX0_settle 16 = .ok (.iload_n 2, 1) := dk_28 (dk_at dksX0_settle_0 16 rfl rfl)
theorem dX0_settle_17 : decode cX0_settle 17 = .ok (.aload_n 0, 1) := dk_42 (dk_at dksX0_settle_0 17 rfl rfl)
theorem dX0_settle_18 : decode cX0_settle 18 = .ok (.getfield 25, 3) := dk_180 0 25 (dk_at dksX0_settle_0 18 rfl rfl)
theorem dX0_settle_21 : decode cX0_settle 21 = .ok (.iload_n 2, 1) := dk_28 (dk_at dksX0_settle_0 21 rfl rfl)
theorem dX0_settle_22 : decode cX0_settle 22 = .ok (.invokeinterface 186 2, 5) := by decide +kernel
theorem dX0_settle_27 : decode cX0_settle 27 = .ok (.checkcast 190, 3) := dk_192 0 190 (dk_at dksX0_settle_1 5 rfl rfl)
theorem dX0_settle_30 : decode cX0_settle 30 = .ok (.invokevirtual 196, 3) := dk_182 0 196 (dk_at dksX0_settle_1 8 rfl rfl)
theorem dX0_settle_33 : decode cX0_settle 33 = .ok (.lastore, 1) := dk_80 (dk_at dksX0_settle_1 11 rfl rfl)
theorem dX0_settle_34 : decode cX0_settle 34 = .ok (.iinc 2 1, 3) := dk_132 2 1 (dk_at dksX0_settle_1 12 rfl rfl)
theorem dX0_settle_37 : decode cX0_settle 37 = .ok (.goto (-35), 3) := dk_167 255 221 (dk_at dksX0_settle_1 15 rfl rfl)
theorem dX0_settle_40 : decode cX0_settle 40 = .ok (.iconst 1, 1) := dk_4 (dk_at dksX0_settle_1 18 rfl rfl)
theorem dX0_settle_41 : decode cX0_settle 41 = .ok (.istore_n 2, 1) := dk_61 (dk_at dksX0_settle_1 19 rfl rfl)
theorem dX0_settle_42 : decode cX0_settle 42 = .ok (.iload_n 2, 1) := dk_28 (dk_at dksX0_settle_1 20 rfl rfl)
theorem dX0_settle_43 : decode cX0_settle 43 = .ok (.ifCond .eq 59, 3) := dk_153 0 59 (dk_at dksX0_settle_1 21 rfl rfl)
theorem dX0_settle_46 : decode cX0_settle 46 = .ok (.iconst 0, 1) := dk_3 (dk_at dksX0_settle_2 0 rfl rfl)
theorem dX0_settle_47 : decode cX0_settle 47 = .ok (.istore_n 2, 1) := dk_61 (dk_at dksX0_settle_2 1 rfl rfl)
theorem dX0_settle_48 : decode cX0_settle 48 = .ok (.iconst 0, 1) := dk_3 (dk_at dksX0_settle_2 2 rfl rfl)
theorem dX0_settle_49 : decode cX0_settle 49 = .ok (.istore_n 3, 1) := dk_62 (dk_at dksX0_settle_2 3 rfl rfl)
theorem dX0_settle_50 : decode cX0_settle 50 = .ok (.iload_n 3, 1) := dk_29 (dk_at dksX0_settle_2 4 rfl rfl)
theorem dX0_settle_51 : decode cX0_settle 51 = .ok (.aload_n 0, 1) := dk_42 (dk_at dksX0_settle_2 5 rfl rfl)
theorem dX0_settle_52 : decode cX0_settle 52 = .ok (.getfield 29, 3) := dk_180 0 29 (dk_at dksX0_settle_2 6 rfl rfl)
theorem dX0_settle_55 : decode cX0_settle 55 = .ok (.invokeinterface 180 1, 5) := by decide +kernel
theorem dX0_settle_60 : decode cX0_settle 60 = .ok (.if_icmp .ge 39, 3) := dk_162 0 39 (dk_at dksX0_settle_2 14 rfl rfl)
theorem dX0_settle_63 : decode cX0_settle 63 = .ok (.aload_n 0, 1) := dk_42 (dk_at dksX0_settle_2 17 rfl rfl)
theorem dX0_settle_64 : decode cX0_settle 64 = .ok (.getfield 38, 3) := dk_180 0 38 (dk_at dksX0_settle_2 18 rfl rfl)
theorem dX0_settle_67 : decode cX0_settle 67 = .ok (.iload_n 3, 1) := dk_29 (dk_at dksX0_settle_2 21 rfl rfl)
theorem dX0_settle_68 : decode cX0_settle 68 = .ok (.baload, 1) := dk_51 (dk_at dksX0_settle_2 22 rfl rfl)
theorem dX0_settle_69 : decode cX0_settle 69 = .ok (.ifCond .eq 24, 3) := dk_153 0 24 (dk_at dksX0_settle_3 0 rfl rfl)
theorem dX0_settle_72 : decode cX0_settle 72 = .ok (.iload_n 2, 1) := dk_28 (dk_at dksX0_settle_3 3 rfl rfl)
theorem dX0_settle_73 : decode cX0_settle 73 = .ok (.aload_n 0, 1) := dk_42 (dk_at dksX0_settle_3 4 rfl rfl)
theorem dX0_settle_74 : decode cX0_settle 74 = .ok (.aload_n 0, 1) := dk_42 (dk_at dksX0_settle_3 5 rfl rfl)
theorem dX0_settle_75 : decode cX0_settle 75 = .ok (.getfield 29, 3) := dk_180 0 29 (dk_at dksX0_settle_3 6 rfl rfl)
theorem dX0_settle_78 : decode cX0_settle 78 = .ok (.iload_n 3, 1) := dk_29 (dk_at dksX0_settle_3 9 rfl rfl)
theorem dX0_settle_79 : decode cX0_settle 79 = .ok (.invokeinterface 186 2, 5) := by decide +kernel
theorem dX0_settle_84 : decode cX0_settle 84 = .ok (.checkcast 214, 3) := dk_192 0 214 (dk_at dksX0_settle_3 15 rfl rfl)
theorem dX0_settle_87 : decode cX0_settle 87 = .ok (.aload_n 1, 1) := dk_43 (dk_at dksX0_settle_3 18 rfl rfl)
theorem dX0_settle_88 : decode cX0_settle 88 = .ok (.invokevirtual 438, 3) := dk_182 1 182 (dk_at dksX0_settle_3 19 rfl rfl)
theorem dX0_settle_91 : decode cX0_settle 91 = .ok (.ior, 1) := dk_128 (dk_at dksX0_settle_3 22 rfl rfl)
theorem dX0_settle_92 : decode cX0_settle 92 = .ok (.istore_n 2, 1) := dk_61 (dk_at dksX0_settle_3 23 rfl rfl)
theorem dX0_settle_93 : decode cX0_settle 93 = .ok (.iinc 3 1, 3) := dk_132 3 1 (dk_at dksX0_settle_4 0 rfl rfl)
theorem dX0_settle_96 : decode cX0_settle 96 = .ok (.goto (-46), 3) := dk_167 255 210 (dk_at dksX0_settle_4 3 rfl rfl)
theorem dX0_settle_99 : decode cX0_settle 99 = .ok (.goto (-57), 3) := dk_167 255 199 (dk_at dksX0_settle_4 6 rfl rfl)
theorem dX0_settle_102 : decode cX0_settle 102 = .ok (.return_, 1) := dk_177 (dk_at dksX0_settle_4 9 rfl rfl)
abbrev cX0_isLess : ByteArray := prog_1_method_52_code
def yX0_isLess : MethodName := ⟨RX0, "isLess", "(LHeardPlaces$Measure;[J)Z"⟩
def dkwX0_isLess_3 : List UInt8 := [180, 1, 145, 33, 80, 44, 43, 180, 1, 148, 22, 5, 80, 21, 7, 172]
abbrev dktX0_isLess_3 : List UInt8 := dkwX0_isLess_3 ++ []
def dkwX0_isLess_2 : List UInt8 := [154, 0, 15, 22, 5, 44, 43, 180, 1, 148, 47, 148, 153, 0, 7, 4, 167, 0, 4, 3, 54, 7, 44, 43]
abbrev dktX0_isLess_2 : List UInt8 := dkwX0_isLess_2 ++ dktX0_isLess_3
def dkwX0_isLess_1 : List UInt8 := [180, 1, 148, 47, 33, 43, 180, 1, 179, 184, 1, 175, 55, 5, 33, 44, 43, 180, 1, 145, 47, 148]
abbrev dktX0_isLess_1 : List UInt8 := dkwX0_isLess_1 ++ dktX0_isLess_2
def dkwX0_isLess_0 : List UInt8 := [44, 43, 180, 1, 145, 47, 44, 43, 180, 1, 148, 47, 43, 180, 1, 163, 184, 1, 175, 66, 44, 43]
abbrev dktX0_isLess_0 : List UInt8 := dkwX0_isLess_0 ++ dktX0_isLess_1
theorem dksX0_isLess_0 : cX0_isLess.data.toList.drop 0 = dktX0_isLess_0 := by decide +kernel
theorem dksX0_isLess_1 : cX0_isLess.data.toList.drop 22 = dktX0_isLess_1 := dk_seg dksX0_isLess_0 22 rfl rfl
theorem dksX0_isLess_2 : cX0_isLess.data.toList.drop 44 = dktX0_isLess_2 := dk_seg dksX0_isLess_1 22 rfl rfl
theorem dksX0_isLess_3 : cX0_isLess.data.toList.drop 68 = dktX0_isLess_3 := dk_seg dksX0_isLess_2 24 rfl rfl
theorem dX0_isLess_0 : decode cX0_isLess 0 = .ok (.aload_n 2, 1) := dk_44 (dk_at dksX0_isLess_0 0 rfl rfl)
theorem dX0_isLess_1 : decode cX0_isLess 1 = .ok (.aload_n 1, 1) := dk_43 (dk_at dksX0_isLess_0 1 rfl rfl)
theorem dX0_isLess_2 : decode cX0_isLess 2 = .ok (.getfield 401, 3) := dk_180 1 145 (dk_at dksX0_isLess_0 2 rfl rfl)
theorem dX0_isLess_5 : decode cX0_isLess 5 = .ok (.laload, 1) := dk_47 (dk_at dksX0_isLess_0 5 rfl rfl)
theorem dX0_isLess_6 : decode cX0_isLess 6 = .ok (.aload_n 2, 1) := dk_44 (dk_at dksX0_isLess_0 6 rfl rfl)
theorem dX0_isLess_7 : decode cX0_isLess 7 = .ok (.aload_n 1, 1) := dk_43 (dk_at dksX0_isLess_0 7 rfl rfl)
theorem dX0_isLess_8 : decode cX0_isLess 8 = .ok (.getfield 404, 3) := dk_180 1 148 (dk_at dksX0_isLess_0 8 rfl rfl)
theorem dX0_isLess_11 : decode cX0_isLess 11 = .ok (.laload, 1) := dk_47 (dk_at dksX0_isLess_0 11 rfl rfl)
theorem dX0_isLess_12 : decode cX0_isLess 12 = .ok (.aload_n 1, 1) := dk_43 (dk_at dksX0_isLess_0 12 rfl rfl)
theorem dX0_isLess_13 : decode cX0_isLess 13 = .ok (.getfield 419, 3) := dk_180 1 163 (dk_at dksX0_isLess_0 13 rfl rfl)
theorem dX0_isLess_16 : decode cX0_isLess 16 = .ok (.invokestatic 431, 3) := dk_184 1 175 (dk_at dksX0_isLess_0 16 rfl rfl)
theorem dX0_isLess_19 : decode cX0_isLess 19 = .ok (.lstore_n 3, 1) := dk_66 (dk_at dksX0_isLess_0 19 rfl rfl)
theorem dX0_isLess_20 : decode cX0_isLess 20 = .ok (.aload_n 2, 1) := dk_44 (dk_at dksX0_isLess_0 20 rfl rfl)
theorem dX0_isLess_21 : decode cX0_isLess 21 = .ok (.aload_n 1, 1) := dk_43 (dk_at dksX0_isLess_0 21 rfl rfl)
theorem dX0_isLess_22 : decode cX0_isLess 22 = .ok (.getfield 404, 3) := dk_180 1 148 (dk_at dksX0_isLess_1 0 rfl rfl)
theorem dX0_isLess_25 : decode cX0_isLess 25 = .ok (.laload, 1) := dk_47 (dk_at dksX0_isLess_1 3 rfl rfl)
theorem dX0_isLess_26 : decode cX0_isLess 26 = .ok (.lload_n 3, 1) := dk_33 (dk_at dksX0_isLess_1 4 rfl rfl)
theorem dX0_isLess_27 : decode cX0_isLess 27 = .ok (.aload_n 1, 1) := dk_43 (dk_at dksX0_isLess_1 5 rfl rfl)
theorem dX0_isLess_28 : decode cX0_isLess 28 = .ok (.getfield 435, 3) := dk_180 1 179 (dk_at dksX0_isLess_1 6 rfl rfl)
theorem dX0_isLess_31 : decode cX0_isLess 31 = .ok (.invokestatic 431, 3) := dk_184 1 175 (dk_at dksX0_isLess_1 9 rfl rfl)
theorem dX0_isLess_34 : decode cX0_isLess 34 = .ok (.lstore 5, 2) := dk_55 5 (dk_at dksX0_isLess_1 12 rfl rfl)
theorem dX0_isLess_36 : decode cX0_isLess 36 = .ok (.lload_n 3, 1) := dk_33 (dk_at dksX0_isLess_1 14 rfl rfl)
theorem dX0_isLess_37 : decode cX0_isLess 37 = .ok (.aload_n 2, 1) := dk_44 (dk_at dksX0_isLess_1 15 rfl rfl)
theorem dX0_isLess_38 : decode cX0_isLess 38 = .ok (.aload_n 1, 1) := dk_43 (dk_at dksX0_isLess_1 16 rfl rfl)
theorem dX0_isLess_39 : decode cX0_isLess 39 = .ok (.getfield 401, 3) := dk_180 1 145 (dk_at dksX0_isLess_1 17 rfl rfl)
theorem dX0_isLess_42 : decode cX0_isLess 42 = .ok (.laload, 1) := dk_47 (dk_at dksX0_isLess_1 20 rfl rfl)
theorem dX0_isLess_43 : decode cX0_isLess 43 = .ok (.lcmp, 1) := dk_148 (dk_at dksX0_isLess_1 21 rfl rfl)
theorem dX0_isLess_44 : decode cX0_isLess 44 = .ok (.ifCond .ne 15, 3) := dk_154 0 15 (dk_at dksX0_isLess_2 0 rfl rfl)
theorem dX0_isLess_47 : decode cX0_isLess 47 = .ok (.lload 5, 2) := dk_22 5 (dk_at dksX0_isLess_2 3 rfl rfl)
theorem dX0_isLess_49 : decode cX0_isLess 49 = .ok (.aload_n 2, 1) := dk_44 (dk_at dksX0_isLess_2 5 rfl rfl)
theorem dX0_isLess_50 : decode cX0_isLess 50 = .ok (.aload_n 1, 1) := dk_43 (dk_at dksX0_isLess_2 6 rfl rfl)
theorem dX0_isLess_51 : decode cX0_isLess 51 = .ok (.getfield 404, 3) := dk_180 1 148 (dk_at dksX0_isLess_2 7 rfl rfl)
theorem dX0_isLess_54 : decode cX0_isLess 54 = .ok (.laload, 1) := dk_47 (dk_at dksX0_isLess_2 10 rfl rfl)
theorem dX0_isLess_55 : decode cX0_isLess 55 = .ok (.lcmp, 1) := dk_148 (dk_at dksX0_isLess_2 11 rfl rfl)
theorem dX0_isLess_56 : decode cX0_isLess 56 = .ok (.ifCond .eq 7, 3) := dk_153 0 7 (dk_at dksX0_isLess_2 12 rfl rfl)
theorem dX0_isLess_59 : decode cX0_isLess 59 = .ok (.iconst 1, 1) := dk_4 (dk_at dksX0_isLess_2 15 rfl rfl)
theorem dX0_isLess_60 : decode cX0_isLess 60 = .ok (.goto 4, 3) := dk_167 0 4 (dk_at dksX0_isLess_2 16 rfl rfl)
theorem dX0_isLess_63 : decode cX0_isLess 63 = .ok (.iconst 0, 1) := dk_3 (dk_at dksX0_isLess_2 19 rfl rfl)
theorem dX0_isLess_64 : decode cX0_isLess 64 = .ok (.istore 7, 2) := dk_54 7 (dk_at dksX0_isLess_2 20 rfl rfl)
theorem dX0_isLess_66 : decode cX0_isLess 66 = .ok (.aload_n 2, 1) := dk_44 (dk_at dksX0_isLess_2 22 rfl rfl)
theorem dX0_isLess_67 : decode cX0_isLess 67 = .ok (.aload_n 1, 1) := dk_43 (dk_at dksX0_isLess_2 23 rfl rfl)
theorem dX0_isLess_68 : decode cX0_isLess 68 = .ok (.getfield 401, 3) := dk_180 1 145 (dk_at dksX0_isLess_3 0 rfl rfl)
theorem dX0_isLess_71 : decode cX0_isLess 71 = .ok (.lload_n 3, 1) := dk_33 (dk_at dksX0_isLess_3 3 rfl rfl)
theorem dX0_isLess_72 : decode cX0_isLess 72 = .ok (.lastore, 1) := dk_80 (dk_at dksX0_isLess_3 4 rfl rfl)
theorem dX0_isLess_73 : decode cX0_isLess 73 = .ok (.aload_n 2, 1) := dk_44 (dk_at dksX0_isLess_3 5 rfl rfl)
theorem dX0_isLess_74 : decode cX0_isLess 74 = .ok (.aload_n 1, 1) := dk_43 (dk_at dksX0_isLess_3 6 rfl rfl)
theorem dX0_isLess_75 : decode cX0_isLess 75 = .ok (.getfield 404, 3) := dk_180 1 148 (dk_at dksX0_isLess_3 7 rfl rfl)
theorem dX0_isLess_78 : decode cX0_isLess 78 = .ok (.lload 5, 2) := dk_22 5 (dk_at dksX0_isLess_3 10 rfl rfl)
theorem dX0_isLess_80 : decode cX0_isLess 80 = .ok (.lastore, 1) := dk_80 (dk_at dksX0_isLess_3 12 rfl rfl)
theorem dX0_isLess_81 : decode cX0_isLess 81 = .ok (.iload 7, 2) := dk_21 7 (dk_at dksX0_isLess_3 13 rfl rfl)
theorem dX0_isLess_83 : decode cX0_isLess 83 = .ok (.ireturn, 1) := dk_172 (dk_at dksX0_isLess_3 15 rfl rfl)
abbrev cX0_left : ByteArray := prog_1_method_51_code
def yX0_left : MethodName := ⟨RX0, "left", "(JJ[J)J"⟩
def dkwX0_left_2 : List UInt8 := [22, 7, 10, 101, 127, 55, 7, 167, 255, 207, 22, 5, 173]
abbrev dktX0_left_2 : List UInt8 := dkwX0_left_2 ++ []
def dkwX0_left_1 : List UInt8 := [21, 9, 47, 32, 127, 9, 148, 153, 0, 11, 21, 9, 184, 0, 144, 167, 0, 4, 9, 129, 55, 5, 22, 7]
abbrev dktX0_left_1 : List UInt8 := dkwX0_left_1 ++ dktX0_left_2
def dkwX0_left_0 : List UInt8 := [9, 55, 5, 30, 55, 7, 22, 7, 9, 148, 153, 0, 48, 22, 7, 184, 0, 168, 54, 9, 22, 5, 25, 4]
abbrev dktX0_left_0 : List UInt8 := dkwX0_left_0 ++ dktX0_left_1
theorem dksX0_left_0 : cX0_left.data.toList.drop 0 = dktX0_left_0 := by decide +kernel
theorem dksX0_left_1 : cX0_left.data.toList.drop 24 = dktX0_left_1 := dk_seg dksX0_left_0 24 rfl rfl
theorem dksX0_left_2 : cX0_left.data.toList.drop 48 = dktX0_left_2 := dk_seg dksX0_left_1 24 rfl rfl
theorem dX0_left_0 : decode cX0_left 0 = .ok (.lconst 0, 1) := dk_9 (dk_at dksX0_left_0 0 rfl rfl)
theorem dX0_left_1 : decode cX0_left 1 = .ok (.lstore 5, 2) := dk_55 5 (dk_at dksX0_left_0 1 rfl rfl)
theorem dX0_left_3 : decode cX0_left 3 = .ok (.lload_n 0, 1) := dk_30 (dk_at dksX0_left_0 3 rfl rfl)
theorem dX0_left_4 : decode cX0_left 4 = .ok (.lstore 7, 2) := dk_55 7 (dk_at dksX0_left_0 4 rfl rfl)
theorem dX0_left_6 : decode cX0_left 6 = .ok (.lload 7, 2) := dk_22 7 (dk_at dksX0_left_0 6 rfl rfl)
theorem dX0_left_8 : decode cX0_left 8 = .ok (.lconst 0, 1) := dk_9 (dk_at dksX0_left_0 8 rfl rfl)
theorem dX0_left_9 : decode cX0_left 9 = .ok (.lcmp, 1) := dk_148 (dk_at dksX0_left_0 9 rfl rfl)
theorem dX0_left_10 : decode cX0_left 10 = .ok (.ifCond .eq 48, 3) := dk_153 0 48 (dk_at dksX0_left_0 10 rfl rfl)
theorem dX0_left_13 : decode cX0_left 13 = .ok (.lload 7, 2) := dk_22 7 (dk_at dksX0_left_0 13 rfl rfl)
theorem dX0_left_15 : decode cX0_left 15 = .ok (.invokestatic 168, 3) := dk_184 0 168 (dk_at dksX0_left_0 15 rfl rfl)
theorem dX0_left_18 : decode cX0_left 18 = .ok (.istore 9, 2) := dk_54 9 (dk_at dksX0_left_0 18 rfl rfl)
theorem dX0_left_20 : decode cX0_left 20 = .ok (.lload 5, 2) := dk_22 5 (dk_at dksX0_left_0 20 rfl rfl)
theorem dX0_left_22 : decode cX0_left 22 = .ok (.aload 4, 2) := dk_25 4 (dk_at dksX0_left_0 22 rfl rfl)
theorem dX0_left_24 : decode cX0_left 24 = .ok (.iload 9, 2) := dk_21 9 (dk_at dksX0_left_1 0 rfl rfl)
theorem dX0_left_26 : decode cX0_left 26 = .ok (.laload, 1) := dk_47 (dk_at dksX0_left_1 2 rfl rfl)
theorem dX0_left_27 : decode cX0_left 27 = .ok (.lload_n 2, 1) := dk_32 (dk_at dksX0_left_1 3 rfl rfl)
theorem dX0_left_28 : decode cX0_left 28 = .ok (.land, 1) := dk_127 (dk_at dksX0_left_1 4 rfl rfl)
theorem dX0_left_29 : decode cX0_left 29 = .ok (.lconst 0, 1) := dk_9 (dk_at dksX0_left_1 5 rfl rfl)
theorem dX0_left_30 : decode cX0_left 30 = .ok (.lcmp, 1) := dk_148 (dk_at dksX0_left_1 6 rfl rfl)
theorem dX0_left_31 : decode cX0_left 31 = .ok (.ifCond .eq 11, 3) := dk_153 0 11 (dk_at dksX0_left_1 7 rfl rfl)
theorem dX0_left_34 : decode cX0_left 34 = .ok (.iload 9, 2) := dk_21 9 (dk_at dksX0_left_1 10 rfl rfl)
theorem dX0_left_36 : decode cX0_left 36 = .ok (.invokestatic 144, 3) := dk_184 0 144 (dk_at dksX0_left_1 12 rfl rfl)
theorem dX0_left_39 : decode cX0_left 39 = .ok (.goto 4, 3) := dk_167 0 4 (dk_at dksX0_left_1 15 rfl rfl)
theorem dX0_left_42 : decode cX0_left 42 = .ok (.lconst 0, 1) := dk_9 (dk_at dksX0_left_1 18 rfl rfl)
theorem dX0_left_43 : decode cX0_left 43 = .ok (.lor, 1) := dk_129 (dk_at dksX0_left_1 19 rfl rfl)
theorem dX0_left_44 : decode cX0_left 44 = .ok (.lstore 5, 2) := dk_55 5 (dk_at dksX0_left_1 20 rfl rfl)
theorem dX0_left_46 : decode cX0_left 46 = .ok (.lload 7, 2) := dk_22 7 (dk_at dksX0_left_1 22 rfl rfl)
theorem dX0_left_48 : decode cX0_left 48 = .ok (.lload 7, 2) := dk_22 7 (dk_at dksX0_left_2 0 rfl rfl)
theorem dX0_left_50 : decode cX0_left 50 = .ok (.lconst 1, 1) := dk_10 (dk_at dksX0_left_2 2 rfl rfl)
theorem dX0_left_51 : decode cX0_left 51 = .ok (.lsub, 1) := dk_101 (dk_at dksX0_left_2 3 rfl rfl)
theorem dX0_left_52 : decode cX0_left 52 = .ok (.land, 1) := dk_127 (dk_at dksX0_left_2 4 rfl rfl)
theorem dX0_left_53 : decode cX0_left 53 = .ok (.lstore 7, 2) := dk_55 7 (dk_at dksX0_left_2 5 rfl rfl)
theorem dX0_left_55 : decode cX0_left 55 = .ok (.goto (-49), 3) := dk_167 255 207 (dk_at dksX0_left_2 7 rfl rfl)
theorem dX0_left_58 : decode cX0_left 58 = .ok (.lload 5, 2) := dk_22 5 (dk_at dksX0_left_2 10 rfl rfl)
theorem dX0_left_60 : decode cX0_left 60 = .ok (.lreturn, 1) := dk_173 (dk_at dksX0_left_2 12 rfl rfl)
abbrev cX0_firstOf : ByteArray := prog_1_method_32_code
def yX0_firstOf : MethodName := ⟨RX0, "firstOf", "(J)I"⟩
def dkwX0_firstOf_0 : List UInt8 := [30, 9, 148, 154, 0, 8, 16, 247, 167, 0, 7, 30, 184, 0, 168, 172]
abbrev dktX0_firstOf_0 : List UInt8 := dkwX0_firstOf_0 ++ []
theorem dksX0_firstOf_0 : cX0_firstOf.data.toList.drop 0 = dktX0_firstOf_0 := by decide +kernel
theorem dX0_firstOf_0 : decode cX0_firstOf 0 = .ok (.lload_n 0, 1) := dk_30 (dk_at dksX0_firstOf_0 0 rfl rfl)
theorem dX0_firstOf_1 : decode cX0_firstOf 1 = .ok (.lconst 0, 1) := dk_9 (dk_at dksX0_firstOf_0 1 rfl rfl)
theorem dX0_firstOf_2 : decode cX0_firstOf 2 = .ok (.lcmp, 1) := dk_148 (dk_at dksX0_firstOf_0 2 rfl rfl)
theorem dX0_firstOf_3 : decode cX0_firstOf 3 = .ok (.ifCond .ne 8, 3) := dk_154 0 8 (dk_at dksX0_firstOf_0 3 rfl rfl)
theorem dX0_firstOf_6 : decode cX0_firstOf 6 = .ok (.bipush (-9), 2) := dk_16 247 (dk_at dksX0_firstOf_0 6 rfl rfl)
theorem dX0_firstOf_8 : decode cX0_firstOf 8 = .ok (.goto 7, 3) := dk_167 0 7 (dk_at dksX0_firstOf_0 8 rfl rfl)
theorem dX0_firstOf_11 : decode cX0_firstOf 11 = .ok (.lload_n 0, 1) := dk_30 (dk_at dksX0_firstOf_0 11 rfl rfl)
theorem dX0_firstOf_12 : decode cX0_firstOf 12 = .ok (.invokestatic 168, 3) := dk_184 0 168 (dk_at dksX0_firstOf_0 12 rfl rfl)
theorem dX0_firstOf_15 : decode cX0_firstOf 15 = .ok (.ireturn, 1) := dk_172 (dk_at dksX0_firstOf_0 15 rfl rfl)
abbrev cX0_measuresOf : ByteArray := prog_1_method_31_code
def yX0_measuresOf : MethodName := ⟨RX0, "measuresOf", "(I)I"⟩
def dkwX0_measuresOf_3 : List UInt8 := [172]
abbrev dktX0_measuresOf_3 : List UInt8 := dkwX0_measuresOf_3 ++ []
def dkwX0_measuresOf_2 : List UInt8 := [192, 0, 214, 27, 182, 1, 48, 153, 0, 7, 4, 167, 0, 4, 3, 96, 61, 132, 3, 1, 167, 255, 193, 28]
abbrev dktX0_measuresOf_2 : List UInt8 := dkwX0_measuresOf_2 ++ dktX0_measuresOf_3
def dkwX0_measuresOf_1 : List UInt8 := [185, 0, 186, 2, 0, 192, 0, 214, 180, 1, 46, 153, 0, 27, 42, 180, 0, 29, 29, 185, 0, 186, 2, 0]
abbrev dktX0_measuresOf_1 : List UInt8 := dkwX0_measuresOf_1 ++ dktX0_measuresOf_2
def dkwX0_measuresOf_0 : List UInt8 := [3, 61, 3, 62, 29, 42, 180, 0, 29, 185, 0, 180, 1, 0, 162, 0, 56, 28, 42, 180, 0, 29, 29]
abbrev dktX0_measuresOf_0 : List UInt8 := dkwX0_measuresOf_0 ++ dktX0_measuresOf_1
theorem dksX0_measuresOf_0 : cX0_measuresOf.data.toList.drop 0 = dktX0_measuresOf_0 := by decide +kernel
theorem dksX0_measuresOf_1 : cX0_measuresOf.data.toList.drop 23 = dktX0_measuresOf_1 := dk_seg dksX0_measuresOf_0 23 rfl rfl
theorem dksX0_measuresOf_2 : cX0_measuresOf.data.toList.drop 47 = dktX0_measuresOf_2 := dk_seg dksX0_measuresOf_1 24 rfl rfl
theorem dksX0_measuresOf_3 : cX0_measuresOf.data.toList.drop 71 = dktX0_measuresOf_3 := dk_seg dksX0_measuresOf_2 24 rfl rfl
theorem dX0_measuresOf_0 : decode cX0_measuresOf 0 = .ok (.iconst 0, 1) := dk_3 (dk_at dksX0_measuresOf_0 0 rfl rfl)
theorem dX0_measuresOf_1 : decode cX0_measuresOf 1 = .ok (.istore_n 2, 1) := dk_61 (dk_at dksX0_measuresOf_0 1 rfl rfl)
theorem dX0_measuresOf_2 : decode cX0_measuresOf 2 = .ok (.iconst 0, 1) := dk_3 (dk_at dksX0_measuresOf_0 2 rfl rfl)
theorem dX0_measuresOf_3 : decode cX0_measuresOf 3 = .ok (.istore_n 3, 1) := dk_62 (dk_at dksX0_measuresOf_0 3 rfl rfl)
theorem dX0_measuresOf_4 : decode cX0_measuresOf 4 = .ok (.iload_n 3, 1) := dk_29 (dk_at dksX0_measuresOf_0 4 rfl rfl)
theorem dX0_measuresOf_5 : decode cX0_measuresOf 5 = .ok (.aload_n 0, 1) := dk_42 (dk_at dksX0_measuresOf_0 5 rfl rfl)
theorem dX0_measuresOf_6 : decode cX0_measuresOf 6 = .ok (.getfield 29, 3) := dk_180 0 29 (dk_at dksX0_measuresOf_0 6 rfl rfl)
theorem dX0_measuresOf_9 : decode cX0_measuresOf 9 = .ok (.invokeinterface 180 1, 5) := by decide +kernel
theorem dX0_measuresOf_14 : decode cX0_measuresOf 14 = .ok (.if_icmp .ge 56, 3) := dk_162 0 56 (dk_at dksX0_measuresOf_0 14 rfl rfl)
theorem dX0_measuresOf_17 : decode cX0_measuresOf 17 = .ok (.iload_n 2, 1) := dk_28 (dk_at dksX0_measuresOf_0 17 rfl rfl)
theorem dX0_measuresOf_18 : decode cX0_measuresOf 18 = .ok (.aload_n 0, 1) := dk_42 (dk_at dksX0_measuresOf_0 18 rfl rfl)
theorem dX0_measuresOf_19 : decode cX0_measuresOf 19 = .ok (.getfield 29, 3) := dk_180 0 29 (dk_at dksX0_measuresOf_0 19 rfl rfl)
theorem dX0_measuresOf_22 : decode cX0_measuresOf 22 = .ok (.iload_n 3, 1) := dk_29 (dk_at dksX0_measuresOf_0 22 rfl rfl)
theorem dX0_measuresOf_23 : decode cX0_measuresOf 23 = .ok (.invokeinterface 186 2, 5) := by decide +kernel
theorem dX0_measuresOf_28 : decode cX0_measuresOf 28 = .ok (.checkcast 214, 3) := dk_192 0 214 (dk_at dksX0_measuresOf_1 5 rfl rfl)
theorem dX0_measuresOf_31 : decode cX0_measuresOf 31 = .ok (.getfield 302, 3) := dk_180 1 46 (dk_at dksX0_measuresOf_1 8 rfl rfl)
theorem dX0_measuresOf_34 : decode cX0_measuresOf 34 = .ok (.ifCond .eq 27, 3) := dk_153 0 27 (dk_at dksX0_measuresOf_1 11 rfl rfl)
theorem dX0_measuresOf_37 : decode cX0_measuresOf 37 = .ok (.aload_n 0, 1) := dk_42 (dk_at dksX0_measuresOf_1 14 rfl rfl)
theorem dX0_measuresOf_38 : decode cX0_measuresOf 38 = .ok (.getfield 29, 3) := dk_180 0 29 (dk_at dksX0_measuresOf_1 15 rfl rfl)
theorem dX0_measuresOf_41 : decode cX0_measuresOf 41 = .ok (.iload_n 3, 1) := dk_29 (dk_at dksX0_measuresOf_1 18 rfl rfl)
theorem dX0_measuresOf_42 : decode cX0_measuresOf 42 = .ok (.invokeinterface 186 2, 5) := by decide +kernel
theorem dX0_measuresOf_47 : decode cX0_measuresOf 47 = .ok (.checkcast 214, 3) := dk_192 0 214 (dk_at dksX0_measuresOf_2 0 rfl rfl)
theorem dX0_measuresOf_50 : decode cX0_measuresOf 50 = .ok (.iload_n 1, 1) := dk_27 (dk_at dksX0_measuresOf_2 3 rfl rfl)
theorem dX0_measuresOf_51 : decode cX0_measuresOf 51 = .ok (.invokevirtual 304, 3) := dk_182 1 48 (dk_at dksX0_measuresOf_2 4 rfl rfl)
theorem dX0_measuresOf_54 : decode cX0_measuresOf 54 = .ok (.ifCond .eq 7, 3) := dk_153 0 7 (dk_at dksX0_measuresOf_2 7 rfl rfl)
theorem dX0_measuresOf_57 : decode cX0_measuresOf 57 = .ok (.iconst 1, 1) := dk_4 (dk_at dksX0_measuresOf_2 10 rfl rfl)
theorem dX0_measuresOf_58 : decode cX0_measuresOf 58 = .ok (.goto 4, 3) := dk_167 0 4 (dk_at dksX0_measuresOf_2 11 rfl rfl)
theorem dX0_measuresOf_61 : decode cX0_measuresOf 61 = .ok (.iconst 0, 1) := dk_3 (dk_at dksX0_measuresOf_2 14 rfl rfl)
theorem dX0_measuresOf_62 : decode cX0_measuresOf 62 = .ok (.iadd, 1) := dk_96 (dk_at dksX0_measuresOf_2 15 rfl rfl)
theorem dX0_measuresOf_63 : decode cX0_measuresOf 63 = .ok (.istore_n 2, 1) := dk_61 (dk_at dksX0_measuresOf_2 16 rfl rfl)
theorem dX0_measuresOf_64 : decode cX0_measuresOf 64 = .ok (.iinc 3 1, 3) := dk_132 3 1 (dk_at dksX0_measuresOf_2 17 rfl rfl)
theorem dX0_measuresOf_67 : decode cX0_measuresOf 67 = .ok (.goto (-63), 3) := dk_167 255 193 (dk_at dksX0_measuresOf_2 20 rfl rfl)
theorem dX0_measuresOf_70 : decode cX0_measuresOf 70 = .ok (.iload_n 2, 1) := dk_28 (dk_at dksX0_measuresOf_2 23 rfl rfl)
theorem dX0_measuresOf_71 : decode cX0_measuresOf 71 = .ok (.ireturn, 1) := dk_172 (dk_at dksX0_measuresOf_3 0 rfl rfl)
abbrev cX0_can : ByteArray := prog_1_method_34_code
def yX0_can : MethodName := ⟨RX0, "can", "(III)I"⟩
def dkwX0_can_3 : List UInt8 := [153, 0, 7, 4, 167, 0, 4, 3, 172]
abbrev dktX0_can_3 : List UInt8 := dkwX0_can_3 ++ []
def dkwX0_can_2 : List UInt8 := [185, 0, 186, 2, 0, 192, 0, 190, 182, 0, 196, 167, 0, 9, 42, 180, 0, 32, 27, 47, 28, 184, 0, 161]
abbrev dktX0_can_2 : List UInt8 := dkwX0_can_2 ++ dktX0_can_3
def dkwX0_can_1 : List UInt8 := [184, 0, 130, 154, 0, 6, 16, 254, 172, 42, 182, 1, 54, 29, 154, 0, 22, 42, 180, 0, 25, 27]
abbrev dktX0_can_1 : List UInt8 := dkwX0_can_1 ++ dktX0_can_2
def dkwX0_can_0 : List UInt8 := [42, 27, 182, 1, 37, 153, 0, 11, 42, 28, 182, 0, 219, 154, 0, 5, 2, 172, 29, 133, 9, 10]
abbrev dktX0_can_0 : List UInt8 := dkwX0_can_0 ++ dktX0_can_1
theorem dksX0_can_0 : cX0_can.data.toList.drop 0 = dktX0_can_0 := by decide +kernel
theorem dksX0_can_1 : cX0_can.data.toList.drop 22 = dktX0_can_1 := dk_seg dksX0_can_0 22 rfl rfl
theorem dksX0_can_2 : cX0_can.data.toList.drop 44 = dktX0_can_2 := dk_seg dksX0_can_1 22 rfl rfl
theorem dksX0_can_3 : cX0_can.data.toList.drop 68 = dktX0_can_3 := dk_seg dksX0_can_2 24 rfl rfl
theorem dX0_can_0 : decode cX0_can 0 = .ok (.aload_n 0, 1) := dk_42 (dk_at dksX0_can_0 0 rfl rfl)
theorem dX0_can_1 : decode cX0_can 1 = .ok (.iload_n 1, 1) := dk_27 (dk_at dksX0_can_0 1 rfl rfl)
theorem dX0_can_2 : decode cX0_can 2 = .ok (.invokevirtual 293, 3) := dk_182 1 37 (dk_at dksX0_can_0 2 rfl rfl)
theorem dX0_can_5 : decode cX0_can 5 = .ok (.ifCond .eq 11, 3) := dk_153 0 11 (dk_at dksX0_can_0 5 rfl rfl)
theorem dX0_can_8 : decode cX0_can 8 = .ok (.aload_n 0, 1) := dk_42 (dk_at dksX0_can_0 8 rfl rfl)
theorem dX0_can_9 : decode cX0_can 9 = .ok (.iload_n 2, 1) := dk_28 (dk_at dksX0_can_0 9 rfl rfl)
theorem dX0_can_10 : decode cX0_can 10 = .ok (.invokevirtual 219, 3) := dk_182 0 219 (dk_at dksX0_can_0 10 rfl rfl)
theorem dX0_can_13 : decode cX0_can 13 = .ok (.ifCond .ne 5, 3) := dk_154 0 5 (dk_at dksX0_can_0 13 rfl rfl)
theorem dX0_can_16 : decode cX0_can 16 = .ok (.iconst (-1), 1) := dk_2 (dk_at dksX0_can_0 16 rfl rfl)
theorem dX0_can_17 : decode cX0_can 17 = .ok (.ireturn, 1) := dk_172 (dk_at dksX0_can_0 17 rfl rfl)
theorem dX0_can_18 : decode cX0_can 18 = .ok (.iload_n 3, 1) := dk_29 (dk_at dksX0_can_0 18 rfl rfl)
theorem dX0_can_19 : decode cX0_can 19 = .ok (.i2l, 1) := dk_133 (dk_at dksX0_can_0 19 rfl rfl)
theorem dX0_can_20 : decode cX0_can 20 = .ok (.lconst 0, 1) := dk_9 (dk_at dksX0_can_0 20 rfl rfl)
theorem dX0_can_21 : decode cX0_can 21 = .ok (.lconst 1, 1) := dk_10 (dk_at dksX0_can_0 21 rfl rfl)
theorem dX0_can_22 : decode cX0_can 22 = .ok (.invokestatic 130, 3) := dk_184 0 130 (dk_at dksX0_can_1 0 rfl rfl)
theorem dX0_can_25 : decode cX0_can 25 = .ok (.ifCond .ne 6, 3) := dk_154 0 6 (dk_at dksX0_can_1 3 rfl rfl)
theorem dX0_can_28 : decode cX0_can 28 = .ok (.bipush (-2), 2) := dk_16 254 (dk_at dksX0_can_1 6 rfl rfl)
theorem dX0_can_30 : decode cX0_can 30 = .ok (.ireturn, 1) := dk_172 (dk_at dksX0_can_1 8 rfl rfl)
theorem dX0_can_31 : decode cX0_can 31 = .ok (.aload_n 0, 1) := dk_42 (dk_at dksX0_can_1 9 rfl rfl)
theorem dX0_can_32 : decode cX0_can 32 = .ok (.invokevirtual 310, 3) := dk_182 1 54 (dk_at dksX0_can_1 10 rfl rfl)
theorem dX0_can_35 : decode cX0_can 35 = .ok (.iload_n 3, 1) := dk_29 (dk_at dksX0_can_1 13 rfl rfl)
theorem dX0_can_36 : decode cX0_can 36 = .ok (.ifCond .ne 22, 3) := dk_154 0 22 (dk_at dksX0_can_1 14 rfl rfl)
theorem dX0_can_39 : decode cX0_can 39 = .ok (.aload_n 0, 1) := dk_42 (dk_at dksX0_can_1 17 rfl rfl)
theorem dX0_can_40 : decode cX0_can 40 = .ok (.getfield 25, 3) := dk_180 0 25 (dk_at dksX0_can_1 18 rfl rfl)
theorem dX0_can_43 : decode cX0_can 43 = .ok (.iload_n 1, 1) := dk_27 (dk_at dksX0_can_1 21 rfl rfl)
theorem dX0_can_44 : decode cX0_can 44 = .ok (.invokeinterface 186 2, 5) := by decide +kernel
theorem dX0_can_49 : decode cX0_can 49 = .ok (.checkcast 190, 3) := dk_192 0 190 (dk_at dksX0_can_2 5 rfl rfl)
theorem dX0_can_52 : decode cX0_can 52 = .ok (.invokevirtual 196, 3) := dk_182 0 196 (dk_at dksX0_can_2 8 rfl rfl)
theorem dX0_can_55 : decode cX0_can 55 = .ok (.goto 9, 3) := dk_167 0 9 (dk_at dksX0_can_2 11 rfl rfl)
theorem dX0_can_58 : decode cX0_can 58 = .ok (.aload_n 0, 1) := dk_42 (dk_at dksX0_can_2 14 rfl rfl)
theorem dX0_can_59 : decode cX0_can 59 = .ok (.getfield 32, 3) := dk_180 0 32 (dk_at dksX0_can_2 15 rfl rfl)
theorem dX0_can_62 : decode cX0_can 62 = .ok (.iload_n 1, 1) := dk_27 (dk_at dksX0_can_2 18 rfl rfl)
theorem dX0_can_63 : decode cX0_can 63 = .ok (.laload, 1) := dk_47 (dk_at dksX0_can_2 19 rfl rfl)
theorem dX0_can_64 : decode cX0_can 64 = .ok (.iload_n 2, 1) := dk_28 (dk_at dksX0_can_2 20 rfl rfl)
theorem dX0_can_65 : decode cX0_can 65 = .ok (.invokestatic 161, 3) := dk_184 0 161 (dk_at dksX0_can_2 21 rfl rfl)
theorem dX0_can_68 : decode cX0_can 68 = .ok (.ifCond .eq 7, 3) := dk_153 0 7 (dk_at dksX0_can_3 0 rfl rfl)
theorem dX0_can_71 : decode cX0_can 71 = .ok (.iconst 1, 1) := dk_4 (dk_at dksX0_can_3 3 rfl rfl)
theorem dX0_can_72 : decode cX0_can 72 = .ok (.goto 4, 3) := dk_167 0 4 (dk_at dksX0_can_3 4 rfl rfl)
theorem dX0_can_75 : decode cX0_can 75 = .ok (.iconst 0, 1) := dk_3 (dk_at dksX0_can_3 7 rfl rfl)
theorem dX0_can_76 : decode cX0_can 76 = .ok (.ireturn, 1) := dk_172 (dk_at dksX0_can_3 8 rfl rfl)
abbrev cX0_cells : ByteArray := prog_1_method_35_code
def yX0_cells : MethodName := ⟨RX0, "cells", "(I)J"⟩
def dkwX0_cells_0 : List UInt8 := [42, 27, 182, 1, 37, 154, 0, 5, 9, 173, 42, 182, 1, 54, 42, 180, 0, 32, 27, 47, 173]
abbrev dktX0_cells_0 : List UInt8 := dkwX0_cells_0 ++ []
theorem dksX0_cells_0 : cX0_cells.data.toList.drop 0 = dktX0_cells_0 := by decide +kernel
theorem dX0_cells_0 : decode cX0_cells 0 = .ok (.aload_n 0, 1) := dk_42 (dk_at dksX0_cells_0 0 rfl rfl)
theorem dX0_cells_1 : decode cX0_cells 1 = .ok (.iload_n 1, 1) := dk_27 (dk_at dksX0_cells_0 1 rfl rfl)
theorem dX0_cells_2 : decode cX0_cells 2 = .ok (.invokevirtual 293, 3) := dk_182 1 37 (dk_at dksX0_cells_0 2 rfl rfl)
theorem dX0_cells_5 : decode cX0_cells 5 = .ok (.ifCond .ne 5, 3) := dk_154 0 5 (dk_at dksX0_cells_0 5 rfl rfl)
theorem dX0_cells_8 : decode cX0_cells 8 = .ok (.lconst 0, 1) := dk_9 (dk_at dksX0_cells_0 8 rfl rfl)
theorem dX0_cells_9 : decode cX0_cells 9 = .ok (.lreturn, 1) := dk_173 (dk_at dksX0_cells_0 9 rfl rfl)
theorem dX0_cells_10 : decode cX0_cells 10 = .ok (.aload_n 0, 1) := dk_42 (dk_at dksX0_cells_0 10 rfl rfl)
theorem dX0_cells_11 : decode cX0_cells 11 = .ok (.invokevirtual 310, 3) := dk_182 1 54 (dk_at dksX0_cells_0 11 rfl rfl)
theorem dX0_cells_14 : decode cX0_cells 14 = .ok (.aload_n 0, 1) := dk_42 (dk_at dksX0_cells_0 14 rfl rfl)
theorem dX0_cells_15 : decode cX0_cells 15 = .ok (.getfield 32, 3) := dk_180 0 32 (dk_at dksX0_cells_0 15 rfl rfl)
theorem dX0_cells_18 : decode cX0_cells 18 = .ok (.iload_n 1, 1) := dk_27 (dk_at dksX0_cells_0 18 rfl rfl)
theorem dX0_cells_19 : decode cX0_cells 19 = .ok (.laload, 1) := dk_47 (dk_at dksX0_cells_0 19 rfl rfl)
theorem dX0_cells_20 : decode cX0_cells 20 = .ok (.lreturn, 1) := dk_173 (dk_at dksX0_cells_0 20 rfl rfl)
abbrev cX0_hops : ByteArray := prog_1_method_36_code
def yX0_hops : MethodName := ⟨RX0, "hops", "(III)I"⟩
def dkwX0_hops_2 : List UInt8 := [28, 184, 0, 161, 153, 0, 8, 16, 253, 167, 0, 10, 42, 27, 28, 29, 182, 1, 74, 172]
abbrev dktX0_hops_2 : List UInt8 := dkwX0_hops_2 ++ []
def dkwX0_hops_1 : List UInt8 := [184, 0, 130, 154, 0, 6, 16, 254, 172, 42, 180, 0, 152, 27, 184, 0, 161, 154, 0, 14, 42, 180, 0, 152]
abbrev dktX0_hops_1 : List UInt8 := dkwX0_hops_1 ++ dktX0_hops_2
def dkwX0_hops_0 : List UInt8 := [42, 27, 182, 0, 219, 153, 0, 11, 42, 28, 182, 0, 219, 154, 0, 5, 2, 172, 29, 133, 9, 20, 1, 72]
abbrev dktX0_hops_0 : List UInt8 := dkwX0_hops_0 ++ dktX0_hops_1
theorem dksX0_hops_0 : cX0_hops.data.toList.drop 0 = dktX0_hops_0 := by decide +kernel
theorem dksX0_hops_1 : cX0_hops.data.toList.drop 24 = dktX0_hops_1 := dk_seg dksX0_hops_0 24 rfl rfl
theorem dksX0_hops_2 : cX0_hops.data.toList.drop 48 = dktX0_hops_2 := dk_seg dksX0_hops_1 24 rfl rfl
theorem dX0_hops_0 : decode cX0_hops 0 = .ok (.aload_n 0, 1) := dk_42 (dk_at dksX0_hops_0 0 rfl rfl)
theorem dX0_hops_1 : decode cX0_hops 1 = .ok (.iload_n 1, 1) := dk_27 (dk_at dksX0_hops_0 1 rfl rfl)
theorem dX0_hops_2 : decode cX0_hops 2 = .ok (.invokevirtual 219, 3) := dk_182 0 219 (dk_at dksX0_hops_0 2 rfl rfl)
theorem dX0_hops_5 : decode cX0_hops 5 = .ok (.ifCond .eq 11, 3) := dk_153 0 11 (dk_at dksX0_hops_0 5 rfl rfl)
theorem dX0_hops_8 : decode cX0_hops 8 = .ok (.aload_n 0, 1) := dk_42 (dk_at dksX0_hops_0 8 rfl rfl)
theorem dX0_hops_9 : decode cX0_hops 9 = .ok (.iload_n 2, 1) := dk_28 (dk_at dksX0_hops_0 9 rfl rfl)
theorem dX0_hops_10 : decode cX0_hops 10 = .ok (.invokevirtual 219, 3) := dk_182 0 219 (dk_at dksX0_hops_0 10 rfl rfl)
theorem dX0_hops_13 : decode cX0_hops 13 = .ok (.ifCond .ne 5, 3) := dk_154 0 5 (dk_at dksX0_hops_0 13 rfl rfl)
theorem dX0_hops_16 : decode cX0_hops 16 = .ok (.iconst (-1), 1) := dk_2 (dk_at dksX0_hops_0 16 rfl rfl)
theorem dX0_hops_17 : decode cX0_hops 17 = .ok (.ireturn, 1) := dk_172 (dk_at dksX0_hops_0 17 rfl rfl)
theorem dX0_hops_18 : decode cX0_hops 18 = .ok (.iload_n 3, 1) := dk_29 (dk_at dksX0_hops_0 18 rfl rfl)
theorem dX0_hops_19 : decode cX0_hops 19 = .ok (.i2l, 1) := dk_133 (dk_at dksX0_hops_0 19 rfl rfl)
theorem dX0_hops_20 : decode cX0_hops 20 = .ok (.lconst 0, 1) := dk_9 (dk_at dksX0_hops_0 20 rfl rfl)
theorem dX0_hops_21 : decode cX0_hops 21 = .ok (.ldc2_w 328, 3) := dk_20 1 72 (dk_at dksX0_hops_0 21 rfl rfl)
theorem dX0_hops_24 : decode cX0_hops 24 = .ok (.invokestatic 130, 3) := dk_184 0 130 (dk_at dksX0_hops_1 0 rfl rfl)
theorem dX0_hops_27 : decode cX0_hops 27 = .ok (.ifCond .ne 6, 3) := dk_154 0 6 (dk_at dksX0_hops_1 3 rfl rfl)
theorem dX0_hops_30 : decode cX0_hops 30 = .ok (.bipush (-2), 2) := dk_16 254 (dk_at dksX0_hops_1 6 rfl rfl)
theorem dX0_hops_32 : decode cX0_hops 32 = .ok (.ireturn, 1) := dk_172 (dk_at dksX0_hops_1 8 rfl rfl)
theorem dX0_hops_33 : decode cX0_hops 33 = .ok (.aload_n 0, 1) := dk_42 (dk_at dksX0_hops_1 9 rfl rfl)
theorem dX0_hops_34 : decode cX0_hops 34 = .ok (.getfield 152, 3) := dk_180 0 152 (dk_at dksX0_hops_1 10 rfl rfl)
theorem dX0_hops_37 : decode cX0_hops 37 = .ok (.iload_n 1, 1) := dk_27 (dk_at dksX0_hops_1 13 rfl rfl)
theorem dX0_hops_38 : decode cX0_hops 38 = .ok (.invokestatic 161, 3) := dk_184 0 161 (dk_at dksX0_hops_1 14 rfl rfl)
theorem dX0_hops_41 : decode cX0_hops 41 = .ok (.ifCond .ne 14, 3) := dk_154 0 14 (dk_at dksX0_hops_1 17 rfl rfl)
theorem dX0_hops_44 : decode cX0_hops 44 = .ok (.aload_n 0, 1) := dk_42 (dk_at dksX0_hops_1 20 rfl rfl)
theorem dX0_hops_45 : decode cX0_hops 45 = .ok (.getfield 152, 3) := dk_180 0 152 (dk_at dksX0_hops_1 21 rfl rfl)
theorem dX0_hops_48 : decode cX0_hops 48 = .ok (.iload_n 2, 1) := dk_28 (dk_at dksX0_hops_2 0 rfl rfl)
theorem dX0_hops_49 : decode cX0_hops 49 = .ok (.invokestatic 161, 3) := dk_184 0 161 (dk_at dksX0_hops_2 1 rfl rfl)
theorem dX0_hops_52 : decode cX0_hops 52 = .ok (.ifCond .eq 8, 3) := dk_153 0 8 (dk_at dksX0_hops_2 4 rfl rfl)
theorem dX0_hops_55 : decode cX0_hops 55 = .ok (.bipush (-3), 2) := dk_16 253 (dk_at dksX0_hops_2 7 rfl rfl)
theorem dX0_hops_57 : decode cX0_hops 57 = .ok (.goto 10, 3) := dk_167 0 10 (dk_at dksX0_hops_2 9 rfl rfl)
theorem dX0_hops_60 : decode cX0_hops 60 = .ok (.aload_n 0, 1) := dk_42 (dk_at dksX0_hops_2 12 rfl rfl)
theorem dX0_hops_61 : decode cX0_hops 61 = .ok (.iload_n 1, 1) := dk_27 (dk_at dksX0_hops_2 13 rfl rfl)
theorem dX0_hops_62 : decode cX0_hops 62 = .ok (.iload_n 2, 1) := dk_28 (dk_at dksX0_hops_2 14 rfl rfl)
theorem dX0_hops_63 : decode cX0_hops 63 = .ok (.iload_n 3, 1) := dk_29 (dk_at dksX0_hops_2 15 rfl rfl)
theorem dX0_hops_64 : decode cX0_hops 64 = .ok (.invokevirtual 330, 3) := dk_182 1 74 (dk_at dksX0_hops_2 16 rfl rfl)
theorem dX0_hops_67 : decode cX0_hops 67 = .ok (.ireturn, 1) := dk_172 (dk_at dksX0_hops_2 19 rfl rfl)
abbrev cX0_hopsOf : ByteArray := prog_1_method_19_code
def yX0_hopsOf : MethodName := ⟨RX0, "hopsOf", "(III)I"⟩
def dkwX0_hopsOf_2 : List UInt8 := [55, 6, 22, 4, 22, 6, 129, 55, 4, 132, 8, 1, 167, 255, 217, 2, 172]
abbrev dktX0_hopsOf_2 : List UInt8 := dkwX0_hopsOf_2 ++ []
def dkwX0_hopsOf_1 : List UInt8 := [153, 0, 38, 22, 6, 28, 184, 0, 161, 153, 0, 6, 21, 8, 172, 42, 22, 6, 22, 4, 182, 0, 172]
abbrev dktX0_hopsOf_1 : List UInt8 := dkwX0_hopsOf_1 ++ dktX0_hopsOf_2
def dkwX0_hopsOf_0 : List UInt8 := [42, 29, 182, 0, 176, 27, 184, 0, 144, 55, 4, 22, 4, 55, 6, 3, 54, 8, 22, 6, 9, 148]
abbrev dktX0_hopsOf_0 : List UInt8 := dkwX0_hopsOf_0 ++ dktX0_hopsOf_1
theorem dksX0_hopsOf_0 : cX0_hopsOf.data.toList.drop 0 = dktX0_hopsOf_0 := by decide +kernel
theorem dksX0_hopsOf_1 : cX0_hopsOf.data.toList.drop 22 = dktX0_hopsOf_1 := dk_seg dksX0_hopsOf_0 22 rfl rfl
theorem dksX0_hopsOf_2 : cX0_hopsOf.data.toList.drop 45 = dktX0_hopsOf_2 := dk_seg dksX0_hopsOf_1 23 rfl rfl
theorem dX0_hopsOf_0 : decode cX0_hopsOf 0 = .ok (.aload_n 0, 1) := dk_42 (dk_at dksX0_hopsOf_0 0 rfl rfl)
theorem dX0_hopsOf_1 : decode cX0_hopsOf 1 = .ok (.iload_n 3, 1) := dk_29 (dk_at dksX0_hopsOf_0 1 rfl rfl)
theorem dX0_hopsOf_2 : decode cX0_hopsOf 2 = .ok (.invokevirtual 176, 3) := dk_182 0 176 (dk_at dksX0_hopsOf_0 2 rfl rfl)
theorem dX0_hopsOf_5 : decode cX0_hopsOf 5 = .ok (.iload_n 1, 1) := dk_27 (dk_at dksX0_hopsOf_0 5 rfl rfl)
theorem dX0_hopsOf_6 : decode cX0_hopsOf 6 = .ok (.invokestatic 144, 3) := dk_184 0 144 (dk_at dksX0_hopsOf_0 6 rfl rfl)
theorem dX0_hopsOf_9 : decode cX0_hopsOf 9 = .ok (.lstore 4, 2) := dk_55 4 (dk_at dksX0_hopsOf_0 9 rfl rfl)
theorem dX0_hopsOf_11 : decode cX0_hopsOf 11 = .ok (.lload 4, 2) := dk_22 4 (dk_at dksX0_hopsOf_0 11 rfl rfl)
theorem dX0_hopsOf_13 : decode cX0_hopsOf 13 = .ok (.lstore 6, 2) := dk_55 6 (dk_at dksX0_hopsOf_0 13 rfl rfl)
theorem dX0_hopsOf_15 : decode cX0_hopsOf 15 = .ok (.iconst 0, 1) := dk_3 (dk_at dksX0_hopsOf_0 15 rfl rfl)
theorem dX0_hopsOf_16 : decode cX0_hopsOf 16 = .ok (.istore 8, 2) := dk_54 8 (dk_at dksX0_hopsOf_0 16 rfl rfl)
theorem dX0_hopsOf_18 : decode cX0_hopsOf 18 = .ok (.lload 6, 2) := dk_22 6 (dk_at dksX0_hopsOf_0 18 rfl rfl)
theorem dX0_hopsOf_20 : decode cX0_hopsOf 20 = .ok (.lconst 0, 1) := dk_9 (dk_at dksX0_hopsOf_0 20 rfl rfl)
theorem dX0_hopsOf_21 : decode cX0_hopsOf 21 = .ok (.lcmp, 1) := dk_148 (dk_at dksX0_hopsOf_0 21 rfl rfl)
theorem dX0_hopsOf_22 : decode cX0_hopsOf 22 = .ok (.ifCond .eq 38, 3) := dk_153 0 38 (dk_at dksX0_hopsOf_1 0 rfl rfl)
theorem dX0_hopsOf_25 : decode cX0_hopsOf 25 = .ok (.lload 6, 2) := dk_22 6 (dk_at dksX0_hopsOf_1 3 rfl rfl)
theorem dX0_hopsOf_27 : decode cX0_hopsOf 27 = .ok (.iload_n 2, 1) := dk_28 (dk_at dksX0_hopsOf_1 5 rfl rfl)
theorem dX0_hopsOf_28 : decode cX0_hopsOf 28 = .ok (.invokestatic 161, 3) := dk_184 0 161 (dk_at dksX0_hopsOf_1 6 rfl rfl)
theorem dX0_hopsOf_31 : decode cX0_hopsOf 31 = .ok (.ifCond .eq 6, 3) := dk_153 0 6 (dk_at dksX0_hopsOf_1 9 rfl rfl)
theorem dX0_hopsOf_34 : decode cX0_hopsOf 34 = .ok (.iload 8, 2) := dk_21 8 (dk_at dksX0_hopsOf_1 12 rfl rfl)
theorem dX0_hopsOf_36 : decode cX0_hopsOf 36 = .ok (.ireturn, 1) := dk_172 (dk_at dksX0_hopsOf_1 14 rfl rfl)
theorem dX0_hopsOf_37 : decode cX0_hopsOf 37 = .ok (.aload_n 0, 1) := dk_42 (dk_at dksX0_hopsOf_1 15 rfl rfl)
theorem dX0_hopsOf_38 : decode cX0_hopsOf 38 = .ok (.lload 6, 2) := dk_22 6 (dk_at dksX0_hopsOf_1 16 rfl rfl)
theorem dX0_hopsOf_40 : decode cX0_hopsOf 40 = .ok (.lload 4, 2) := dk_22 4 (dk_at dksX0_hopsOf_1 18 rfl rfl)
theorem dX0_hopsOf_42 : decode cX0_hopsOf 42 = .ok (.invokevirtual 172, 3) := dk_182 0 172 (dk_at dksX0_hopsOf_1 20 rfl rfl)
theorem dX0_hopsOf_45 : decode cX0_hopsOf 45 = .ok (.lstore 6, 2) := dk_55 6 (dk_at dksX0_hopsOf_2 0 rfl rfl)
theorem dX0_hopsOf_47 : decode cX0_hopsOf 47 = .ok (.lload 4, 2) := dk_22 4 (dk_at dksX0_hopsOf_2 2 rfl rfl)
theorem dX0_hopsOf_49 : decode cX0_hopsOf 49 = .ok (.lload 6, 2) := dk_22 6 (dk_at dksX0_hopsOf_2 4 rfl rfl)
theorem dX0_hopsOf_51 : decode cX0_hopsOf 51 = .ok (.lor, 1) := dk_129 (dk_at dksX0_hopsOf_2 6 rfl rfl)
theorem dX0_hopsOf_52 : decode cX0_hopsOf 52 = .ok (.lstore 4, 2) := dk_55 4 (dk_at dksX0_hopsOf_2 7 rfl rfl)
theorem dX0_hopsOf_54 : decode cX0_hopsOf 54 = .ok (.iinc 8 1, 3) := dk_132 8 1 (dk_at dksX0_hopsOf_2 9 rfl rfl)
theorem dX0_hopsOf_57 : decode cX0_hopsOf 57 = .ok (.goto (-39), 3) := dk_167 255 217 (dk_at dksX0_hopsOf_2 12 rfl rfl)
theorem dX0_hopsOf_60 : decode cX0_hopsOf 60 = .ok (.iconst (-1), 1) := dk_2 (dk_at dksX0_hopsOf_2 15 rfl rfl)
theorem dX0_hopsOf_61 : decode cX0_hopsOf 61 = .ok (.ireturn, 1) := dk_172 (dk_at dksX0_hopsOf_2 16 rfl rfl)
abbrev cX0_measure : ByteArray := prog_1_method_42_code
def yX0_measure : MethodName := ⟨RX0, "measure", "(IIIII)I"⟩
def dkwX0_measure_2 : List UInt8 := [160, 0, 8, 16, 252, 167, 0, 14, 42, 27, 28, 29, 21, 4, 21, 5, 182, 1, 115, 172]
abbrev dktX0_measure_2 : List UInt8 := dkwX0_measure_2 ++ []
def dkwX0_measure_1 : List UInt8 := [21, 4, 21, 5, 184, 1, 111, 154, 0, 6, 16, 254, 172, 42, 180, 0, 29, 185, 0, 180, 1, 0, 16, 60]
abbrev dktX0_measure_1 : List UInt8 := dkwX0_measure_1 ++ dktX0_measure_2
def dkwX0_measure_0 : List UInt8 := [42, 28, 182, 1, 37, 153, 0, 11, 42, 29, 182, 1, 37, 154, 0, 5, 2, 172, 28, 29, 159, 0, 14, 27]
abbrev dktX0_measure_0 : List UInt8 := dkwX0_measure_0 ++ dktX0_measure_1
theorem dksX0_measure_0 : cX0_measure.data.toList.drop 0 = dktX0_measure_0 := by decide +kernel
theorem dksX0_measure_1 : cX0_measure.data.toList.drop 24 = dktX0_measure_1 := dk_seg dksX0_measure_0 24 rfl rfl
theorem dksX0_measure_2 : cX0_measure.data.toList.drop 48 = dktX0_measure_2 := dk_seg dksX0_measure_1 24 rfl rfl
theorem dX0_measure_0 : decode cX0_measure 0 = .ok (.aload_n 0, 1) := dk_42 (dk_at dksX0_measure_0 0 rfl rfl)
theorem dX0_measure_1 : decode cX0_measure 1 = .ok (.iload_n 2, 1) := dk_28 (dk_at dksX0_measure_0 1 rfl rfl)
theorem dX0_measure_2 : decode cX0_measure 2 = .ok (.invokevirtual 293, 3) := dk_182 1 37 (dk_at dksX0_measure_0 2 rfl rfl)
theorem dX0_measure_5 : decode cX0_measure 5 = .ok (.ifCond .eq 11, 3) := dk_153 0 11 (dk_at dksX0_measure_0 5 rfl rfl)
theorem dX0_measure_8 : decode cX0_measure 8 = .ok (.aload_n 0, 1) := dk_42 (dk_at dksX0_measure_0 8 rfl rfl)
theorem dX0_measure_9 : decode cX0_measure 9 = .ok (.iload_n 3, 1) := dk_29 (dk_at dksX0_measure_0 9 rfl rfl)
theorem dX0_measure_10 : decode cX0_measure 10 = .ok (.invokevirtual 293, 3) := dk_182 1 37 (dk_at dksX0_measure_0 10 rfl rfl)
theorem dX0_measure_13 : decode cX0_measure 13 = .ok (.ifCond .ne 5, 3) := dk_154 0 5 (dk_at dksX0_measure_0 13 rfl rfl)
theorem dX0_measure_16 : decode cX0_measure 16 = .ok (.iconst (-1), 1) := dk_2 (dk_at dksX0_measure_0 16 rfl rfl)
theorem dX0_measure_17 : decode cX0_measure 17 = .ok (.ireturn, 1) := dk_172 (dk_at dksX0_measure_0 17 rfl rfl)
theorem dX0_measure_18 : decode cX0_measure 18 = .ok (.iload_n 2, 1) := dk_28 (dk_at dksX0_measure_0 18 rfl rfl)
theorem dX0_measure_19 : decode cX0_measure 19 = .ok (.iload_n 3, 1) := dk_29 (dk_at dksX0_measure_0 19 rfl rfl)
theorem dX0_measure_20 : decode cX0_measure 20 = .ok (.if_icmp .eq 14, 3) := dk_159 0 14 (dk_at dksX0_measure_0 20 rfl rfl)
theorem dX0_measure_23 : decode cX0_measure 23 = .ok (.iload_n 1, 1) := dk_27 (dk_at dksX0_measure_0 23 rfl rfl)
theorem dX0_measure_24 : decode cX0_measure 24 = .ok (.iload 4, 2) := dk_21 4 (dk_at dksX0_measure_1 0 rfl rfl)
theorem dX0_measure_26 : decode cX0_measure 26 = .ok (.iload 5, 2) := dk_21 5 (dk_at dksX0_measure_1 2 rfl rfl)
theorem dX0_measure_28 : decode cX0_measure 28 = .ok (.invokestatic 367, 3) := dk_184 1 111 (dk_at dksX0_measure_1 4 rfl rfl)
theorem dX0_measure_31 : decode cX0_measure 31 = .ok (.ifCond .ne 6, 3) := dk_154 0 6 (dk_at dksX0_measure_1 7 rfl rfl)
theorem dX0_measure_34 : decode cX0_measure 34 = .ok (.bipush (-2), 2) := dk_16 254 (dk_at dksX0_measure_1 10 rfl rfl)
theorem dX0_measure_36 : decode cX0_measure 36 = .ok (.ireturn, 1) := dk_172 (dk_at dksX0_measure_1 12 rfl rfl)
theorem dX0_measure_37 : decode cX0_measure 37 = .ok (.aload_n 0, 1) := dk_42 (dk_at dksX0_measure_1 13 rfl rfl)
theorem dX0_measure_38 : decode cX0_measure 38 = .ok (.getfield 29, 3) := dk_180 0 29 (dk_at dksX0_measure_1 14 rfl rfl)
theorem dX0_measure_41 : decode cX0_measure 41 = .ok (.invokeinterface 180 1, 5) := by decide +kernel
theorem dX0_measure_46 : decode cX0_measure 46 = .ok (.bipush 60, 2) := dk_16 60 (dk_at dksX0_measure_1 22 rfl rfl)
theorem dX0_measure_48 : decode cX0_measure 48 = .ok (.if_icmp .ne 8, 3) := dk_160 0 8 (dk_at dksX0_measure_2 0 rfl rfl)
theorem dX0_measure_51 : decode cX0_measure 51 = .ok (.bipush (-4), 2) := dk_16 252 (dk_at dksX0_measure_2 3 rfl rfl)
theorem dX0_measure_53 : decode cX0_measure 53 = .ok (.goto 14, 3) := dk_167 0 14 (dk_at dksX0_measure_2 5 rfl rfl)
theorem dX0_measure_56 : decode cX0_measure 56 = .ok (.aload_n 0, 1) := dk_42 (dk_at dksX0_measure_2 8 rfl rfl)
theorem dX0_measure_57 : decode cX0_measure 57 = .ok (.iload_n 1, 1) := dk_27 (dk_at dksX0_measure_2 9 rfl rfl)
theorem dX0_measure_58 : decode cX0_measure 58 = .ok (.iload_n 2, 1) := dk_28 (dk_at dksX0_measure_2 10 rfl rfl)
theorem dX0_measure_59 : decode cX0_measure 59 = .ok (.iload_n 3, 1) := dk_29 (dk_at dksX0_measure_2 11 rfl rfl)
theorem dX0_measure_60 : decode cX0_measure 60 = .ok (.iload 4, 2) := dk_21 4 (dk_at dksX0_measure_2 12 rfl rfl)
theorem dX0_measure_62 : decode cX0_measure 62 = .ok (.iload 5, 2) := dk_21 5 (dk_at dksX0_measure_2 14 rfl rfl)
theorem dX0_measure_64 : decode cX0_measure 64 = .ok (.invokevirtual 371, 3) := dk_182 1 115 (dk_at dksX0_measure_2 16 rfl rfl)
theorem dX0_measure_67 : decode cX0_measure 67 = .ok (.ireturn, 1) := dk_172 (dk_at dksX0_measure_2 19 rfl rfl)
abbrev cX0_mayMeasure : ByteArray := prog_1_method_39_code
def yX0_mayMeasure : MethodName := ⟨RX0, "mayMeasure", "(III)Z"⟩
def dkwX0_mayMeasure_5 : List UInt8 := [3, 172]
abbrev dktX0_mayMeasure_5 : List UInt8 := dkwX0_mayMeasure_5 ++ []
def dkwX0_mayMeasure_4 : List UInt8 := [184, 0, 130, 153, 0, 19, 28, 133, 10, 20, 1, 72, 184, 0, 130, 153, 0, 7, 4, 167, 0, 4, 3, 172]
abbrev dktX0_mayMeasure_4 : List UInt8 := dkwX0_mayMeasure_4 ++ dktX0_mayMeasure_5
def dkwX0_mayMeasure_3 : List UInt8 := [172, 28, 184, 1, 78, 172, 27, 133, 9, 20, 1, 81, 184, 0, 130, 172, 27, 133, 9, 20, 1, 83]
abbrev dktX0_mayMeasure_3 : List UInt8 := dkwX0_mayMeasure_3 ++ dktX0_mayMeasure_4
def dkwX0_mayMeasure_2 : List UInt8 := [27, 184, 1, 78, 153, 0, 19, 28, 184, 1, 78, 153, 0, 12, 27, 28, 163, 0, 7, 4, 167, 0, 4, 3]
abbrev dktX0_mayMeasure_2 : List UInt8 := dkwX0_mayMeasure_2 ++ dktX0_mayMeasure_3
def dkwX0_mayMeasure_1 : List UInt8 := [170, 0, 0, 0, 0, 0, 105, 0, 0, 0, 0, 0, 0, 0, 4, 0, 0, 0, 35, 0, 0, 0, 60, 0, 0, 0, 60, 0, 0, 0, 65, 0, 0, 0, 75]
abbrev dktX0_mayMeasure_1 : List UInt8 := dkwX0_mayMeasure_1 ++ dktX0_mayMeasure_2
def dkwX0_mayMeasure_0 : List UInt8 := [26]
abbrev dktX0_mayMeasure_0 : List UInt8 := dkwX0_mayMeasure_0 ++ dktX0_mayMeasure_1
theorem dksX0_mayMeasure_0 : cX0_mayMeasure.data.toList.drop 0 = dktX0_mayMeasure_0 := by decide +kernel
theorem dksX0_mayMeasure_1 : cX0_mayMeasure.data.toList.drop 1 = dktX0_mayMeasure_1 := dk_seg dksX0_mayMeasure_0 1 rfl rfl
theorem dksX0_mayMeasure_2 : cX0_mayMeasure.data.toList.drop 36 = dktX0_mayMeasure_2 := dk_seg dksX0_mayMeasure_1 35 rfl rfl
theorem dksX0_mayMeasure_3 : cX0_mayMeasure.data.toList.drop 60 = dktX0_mayMeasure_3 := dk_seg dksX0_mayMeasure_2 24 rfl rfl
theorem dksX0_mayMeasure_4 : cX0_mayMeasure.data.toList.drop 82 = dktX0_mayMeasure_4 := dk_seg dksX0_mayMeasure_3 22 rfl rfl
theorem dksX0_mayMeasure_5 : cX0_mayMeasure.data.toList.drop 106 = dktX0_mayMeasure_5 := dk_seg dksX0_mayMeasure_4 24 rfl rfl
theorem dX0_mayMeasure_0 : decode cX0_mayMeasure 0 = .ok (.iload_n 0, 1) := dk_26 (dk_at dksX0_mayMeasure_0 0 rfl rfl)
theorem dX0_mayMeasure_1 : decode cX0_mayMeasure 1 = .ok (.tableswitch 105 0 4 #[35, 60, 60, 65, 75], 35) := by decide +kernel
theorem dX0_mayMeasure_36 : decode cX0_mayMeasure 36 = .ok (.iload_n 1, 1) := dk_27 (dk_at dksX0_mayMeasure_2 0 rfl rfl)
theorem dX0_mayMeasure_37 : decode cX0_mayMeasure 37 = .ok (.invokestatic 334, 3) := dk_184 1 78 (dk_at dksX0_mayMeasure_2 1 rfl rfl)
theorem dX0_mayMeasure_40 : decode cX0_mayMeasure 40 = .ok (.ifCond .eq 19, 3) := dk_153 0 19 (dk_at dksX0_mayMeasure_2 4 rfl rfl)
theorem dX0_mayMeasure_43 : decode cX0_mayMeasure 43 = .ok (.iload_n 2, 1) := dk_28 (dk_at dksX0_mayMeasure_2 7 rfl rfl)
theorem dX0_mayMeasure_44 : decode cX0_mayMeasure 44 = .ok (.invokestatic 334, 3) := dk_184 1 78 (dk_at dksX0_mayMeasure_2 8 rfl rfl)
theorem dX0_mayMeasure_47 : decode cX0_mayMeasure 47 = .ok (.ifCond .eq 12, 3) := dk_153 0 12 (dk_at dksX0_mayMeasure_2 11 rfl rfl)
theorem dX0_mayMeasure_50 : decode cX0_mayMeasure 50 = .ok (.iload_n 1, 1) := dk_27 (dk_at dksX0_mayMeasure_2 14 rfl rfl)
theorem dX0_mayMeasure_51 : decode cX0_mayMeasure 51 = .ok (.iload_n 2, 1) := dk_28 (dk_at dksX0_mayMeasure_2 15 rfl rfl)
theorem dX0_mayMeasure_52 : decode cX0_mayMeasure 52 = .ok (.if_icmp .gt 7, 3) := dk_163 0 7 (dk_at dksX0_mayMeasure_2 16 rfl rfl)
theorem dX0_mayMeasure_55 : decode cX0_mayMeasure 55 = .ok (.iconst 1, 1) := dk_4 (dk_at dksX0_mayMeasure_2 19 rfl rfl)
theorem dX0_mayMeasure_56 : decode cX0_mayMeasure 56 = .ok (.goto 4, 3) := dk_167 0 4 (dk_at dksX0_mayMeasure_2 20 rfl rfl)
theorem dX0_mayMeasure_59 : decode cX0_mayMeasure 59 = .ok (.iconst 0, 1) := dk_3 (dk_at dksX0_mayMeasure_2 23 rfl rfl)
theorem dX0_mayMeasure_60 : decode cX0_mayMeasure 60 = .ok (.ireturn, 1) := dk_172 (dk_at dksX0_mayMeasure_3 0 rfl rfl)
theorem dX0_mayMeasure_61 : decode cX0_mayMeasure 61 = .ok (.iload_n 2, 1) := dk_28 (dk_at dksX0_mayMeasure_3 1 rfl rfl)
theorem dX0_mayMeasure_62 : decode cX0_mayMeasure 62 = .ok (.invokestatic 334, 3) := dk_184 1 78 (dk_at dksX0_mayMeasure_3 2 rfl rfl)
theorem dX0_mayMeasure_65 : decode cX0_mayMeasure 65 = .ok (.ireturn, 1) := dk_172 (dk_at dksX0_mayMeasure_3 5 rfl rfl)
theorem dX0_mayMeasure_66 : decode cX0_mayMeasure 66 = .ok (.iload_n 1, 1) := dk_27 (dk_at dksX0_mayMeasure_3 6 rfl rfl)
theorem dX0_mayMeasure_67 : decode cX0_mayMeasure 67 = .ok (.i2l, 1) := dk_133 (dk_at dksX0_mayMeasure_3 7 rfl rfl)
theorem dX0_mayMeasure_68 : decode cX0_mayMeasure 68 = .ok (.lconst 0, 1) := dk_9 (dk_at dksX0_mayMeasure_3 8 rfl rfl)
theorem dX0_mayMeasure_69 : decode cX0_mayMeasure 69 = .ok (.ldc2_w 337, 3) := dk_20 1 81 (dk_at dksX0_mayMeasure_3 9 rfl rfl)
theorem dX0_mayMeasure_72 : decode cX0_mayMeasure 72 = .ok (.invokestatic 130, 3) := dk_184 0 130 (dk_at dksX0_mayMeasure_3 12 rfl rfl)
theorem dX0_mayMeasure_75 : decode cX0_mayMeasure 75 = .ok (.ireturn, 1) := dk_172 (dk_at dksX0_mayMeasure_3 15 rfl rfl)
theorem dX0_mayMeasure_76 : decode cX0_mayMeasure 76 = .ok (.iload_n 1, 1) := dk_27 (dk_at dksX0_mayMeasure_3 16 rfl rfl)
theorem dX0_mayMeasure_77 : decode cX0_mayMeasure 77 = .ok (.i2l, 1) := dk_133 (dk_at dksX0_mayMeasure_3 17 rfl rfl)
theorem dX0_mayMeasure_78 : decode cX0_mayMeasure 78 = .ok (.lconst 0, 1) := dk_9 (dk_at dksX0_mayMeasure_3 18 rfl rfl)
theorem dX0_mayMeasure_79 : decode cX0_mayMeasure 79 = .ok (.ldc2_w 339, 3) := dk_20 1 83 (dk_at dksX0_mayMeasure_3 19 rfl rfl)
theorem dX0_mayMeasure_82 : decode cX0_mayMeasure 82 = .ok (.invokestatic 130, 3) := dk_184 0 130 (dk_at dksX0_mayMeasure_4 0 rfl rfl)
theorem dX0_mayMeasure_85 : decode cX0_mayMeasure 85 = .ok (.ifCond .eq 19, 3) := dk_153 0 19 (dk_at dksX0_mayMeasure_4 3 rfl rfl)
theorem dX0_mayMeasure_88 : decode cX0_mayMeasure 88 = .ok (.iload_n 2, 1) := dk_28 (dk_at dksX0_mayMeasure_4 6 rfl rfl)
theorem dX0_mayMeasure_89 : decode cX0_mayMeasure 89 = .ok (.i2l, 1) := dk_133 (dk_at dksX0_mayMeasure_4 7 rfl rfl)
theorem dX0_mayMeasure_90 : decode cX0_mayMeasure 90 = .ok (.lconst 1, 1) := dk_10 (dk_at dksX0_mayMeasure_4 8 rfl rfl)
theorem dX0_mayMeasure_91 : decode cX0_mayMeasure 91 = .ok (.ldc2_w 328, 3) := dk_20 1 72 (dk_at dksX0_mayMeasure_4 9 rfl rfl)
theorem dX0_mayMeasure_94 : decode cX0_mayMeasure 94 = .ok (.invokestatic 130, 3) := dk_184 0 130 (dk_at dksX0_mayMeasure_4 12 rfl rfl)
theorem dX0_mayMeasure_97 : decode cX0_mayMeasure 97 = .ok (.ifCond .eq 7, 3) := dk_153 0 7 (dk_at dksX0_mayMeasure_4 15 rfl rfl)
theorem dX0_mayMeasure_100 : decode cX0_mayMeasure 100 = .ok (.iconst 1, 1) := dk_4 (dk_at dksX0_mayMeasure_4 18 rfl rfl)
theorem dX0_mayMeasure_101 : decode cX0_mayMeasure 101 = .ok (.goto 4, 3) := dk_167 0 4 (dk_at dksX0_mayMeasure_4 19 rfl rfl)
theorem dX0_mayMeasure_104 : decode cX0_mayMeasure 104 = .ok (.iconst 0, 1) := dk_3 (dk_at dksX0_mayMeasure_4 22 rfl rfl)
theorem dX0_mayMeasure_105 : decode cX0_mayMeasure 105 = .ok (.ireturn, 1) := dk_172 (dk_at dksX0_mayMeasure_4 23 rfl rfl)
theorem dX0_mayMeasure_106 : decode cX0_mayMeasure 106 = .ok (.iconst 0, 1) := dk_3 (dk_at dksX0_mayMeasure_5 0 rfl rfl)
theorem dX0_mayMeasure_107 : decode cX0_mayMeasure 107 = .ok (.ireturn, 1) := dk_172 (dk_at dksX0_mayMeasure_5 1 rfl rfl)
abbrev cX0_isDistance : ByteArray := prog_1_method_38_code
def yX0_isDistance : MethodName := ⟨RX0, "isDistance", "(I)Z"⟩
def dkwX0_isDistance_0 : List UInt8 := [26, 133, 9, 20, 1, 72, 184, 0, 130, 172]
abbrev dktX0_isDistance_0 : List UInt8 := dkwX0_isDistance_0 ++ []
theorem dksX0_isDistance_0 : cX0_isDistance.data.toList.drop 0 = dktX0_isDistance_0 := by decide +kernel
theorem dX0_isDistance_0 : decode cX0_isDistance 0 = .ok (.iload_n 0, 1) := dk_26 (dk_at dksX0_isDistance_0 0 rfl rfl)
theorem dX0_isDistance_1 : decode cX0_isDistance 1 = .ok (.i2l, 1) := dk_133 (dk_at dksX0_isDistance_0 1 rfl rfl)
theorem dX0_isDistance_2 : decode cX0_isDistance 2 = .ok (.lconst 0, 1) := dk_9 (dk_at dksX0_isDistance_0 2 rfl rfl)
theorem dX0_isDistance_3 : decode cX0_isDistance 3 = .ok (.ldc2_w 328, 3) := dk_20 1 72 (dk_at dksX0_isDistance_0 3 rfl rfl)
theorem dX0_isDistance_6 : decode cX0_isDistance 6 = .ok (.invokestatic 130, 3) := dk_184 0 130 (dk_at dksX0_isDistance_0 6 rfl rfl)
theorem dX0_isDistance_9 : decode cX0_isDistance 9 = .ok (.ireturn, 1) := dk_172 (dk_at dksX0_isDistance_0 9 rfl rfl)
abbrev cX0_lays : ByteArray := prog_1_method_41_code
def yX0_lays : MethodName := ⟨RX0, "lays", "(IIIII)I"⟩
def dkwX0_lays_1 : List UInt8 := [185, 1, 14, 2, 0, 87, 42, 182, 0, 211, 42, 180, 0, 29, 185, 0, 180, 1, 0, 4, 100, 172]
abbrev dktX0_lays_1 : List UInt8 := dkwX0_lays_1 ++ []
def dkwX0_lays_0 : List UInt8 := [42, 27, 28, 29, 21, 4, 21, 5, 182, 1, 104, 58, 6, 25, 6, 182, 1, 108, 42, 180, 0, 29, 25, 6]
abbrev dktX0_lays_0 : List UInt8 := dkwX0_lays_0 ++ dktX0_lays_1
theorem dksX0_lays_0 : cX0_lays.data.toList.drop 0 = dktX0_lays_0 := by decide +kernel
theorem dksX0_lays_1 : cX0_lays.data.toList.drop 24 = dktX0_lays_1 := dk_seg dksX0_lays_0 24 rfl rfl
theorem dX0_lays_0 : decode cX0_lays 0 = .ok (.aload_n 0, 1) := dk_42 (dk_at dksX0_lays_0 0 rfl rfl)
theorem dX0_lays_1 : decode cX0_lays 1 = .ok (.iload_n 1, 1) := dk_27 (dk_at dksX0_lays_0 1 rfl rfl)
theorem dX0_lays_2 : decode cX0_lays 2 = .ok (.iload_n 2, 1) := dk_28 (dk_at dksX0_lays_0 2 rfl rfl)
theorem dX0_lays_3 : decode cX0_lays 3 = .ok (.iload_n 3, 1) := dk_29 (dk_at dksX0_lays_0 3 rfl rfl)
theorem dX0_lays_4 : decode cX0_lays 4 = .ok (.iload 4, 2) := dk_21 4 (dk_at dksX0_lays_0 4 rfl rfl)
theorem dX0_lays_6 : decode cX0_lays 6 = .ok (.iload 5, 2) := dk_21 5 (dk_at dksX0_lays_0 6 rfl rfl)
theorem dX0_lays_8 : decode cX0_lays 8 = .ok (.invokevirtual 360, 3) := dk_182 1 104 (dk_at dksX0_lays_0 8 rfl rfl)
theorem dX0_lays_11 : decode cX0_lays 11 = .ok (.astore 6, 2) := dk_58 6 (dk_at dksX0_lays_0 11 rfl rfl)
theorem dX0_lays_13 : decode cX0_lays 13 = .ok (.aload 6, 2) := dk_25 6 (dk_at dksX0_lays_0 13 rfl rfl)
theorem dX0_lays_15 : decode cX0_lays 15 = .ok (.invokevirtual 364, 3) := dk_182 1 108 (dk_at dksX0_lays_0 15 rfl rfl)
theorem dX0_lays_18 : decode cX0_lays 18 = .ok (.aload_n 0, 1) := dk_42 (dk_at dksX0_lays_0 18 rfl rfl)
theorem dX0_lays_19 : decode cX0_lays 19 = .ok (.getfield 29, 3) := dk_180 0 29 (dk_at dksX0_lays_0 19 rfl rfl)
theorem dX0_lays_22 : decode cX0_lays 22 = .ok (.aload 6, 2) := dk_25 6 (dk_at dksX0_lays_0 22 rfl rfl)
theorem dX0_lays_24 : decode cX0_lays 24 = .ok (.invokeinterface 270 2, 5) := by decide +kernel
theorem dX0_lays_29 : decode cX0_lays 29 = .ok (.pop, 1) := dk_87 (dk_at dksX0_lays_1 5 rfl rfl)
theorem dX0_lays_30 : decode cX0_lays 30 = .ok (.aload_n 0, 1) := dk_42 (dk_at dksX0_lays_1 6 rfl rfl)
theorem dX0_lays_31 : decode cX0_lays 31 = .ok (.invokevirtual 211, 3) := dk_182 0 211 (dk_at dksX0_lays_1 7 rfl rfl)
theorem dX0_lays_34 : decode cX0_lays 34 = .ok (.aload_n 0, 1) := dk_42 (dk_at dksX0_lays_1 10 rfl rfl)
theorem dX0_lays_35 : decode cX0_lays 35 = .ok (.getfield 29, 3) := dk_180 0 29 (dk_at dksX0_lays_1 11 rfl rfl)
theorem dX0_lays_38 : decode cX0_lays 38 = .ok (.invokeinterface 180 1, 5) := by decide +kernel
theorem dX0_lays_43 : decode cX0_lays 43 = .ok (.iconst 1, 1) := dk_4 (dk_at dksX0_lays_1 19 rfl rfl)
theorem dX0_lays_44 : decode cX0_lays 44 = .ok (.isub, 1) := dk_100 (dk_at dksX0_lays_1 20 rfl rfl)
theorem dX0_lays_45 : decode cX0_lays 45 = .ok (.ireturn, 1) := dk_172 (dk_at dksX0_lays_1 21 rfl rfl)
abbrev cX0_made : ByteArray := prog_1_method_40_code
def yX0_made : MethodName := ⟨RX0, "made", "(IIIII)LHeardPlaces$Measure;"⟩
def dkwX0_made_4 : List UInt8 := [28, 29, 21, 4, 183, 1, 100, 176, 187, 1, 101, 89, 42, 28, 29, 21, 4, 21, 5, 183, 1, 103, 176]
abbrev dktX0_made_4 : List UInt8 := dkwX0_made_4 ++ []
def dkwX0_made_3 : List UInt8 := [21, 5, 183, 1, 92, 176, 187, 1, 95, 89, 42, 28, 29, 21, 5, 183, 1, 97, 176, 187, 1, 98, 89, 42]
abbrev dktX0_made_3 : List UInt8 := dkwX0_made_3 ++ dktX0_made_4
def dkwX0_made_2 : List UInt8 := [187, 1, 85, 89, 42, 3, 28, 29, 21, 4, 21, 5, 183, 1, 87, 176, 187, 1, 90, 89, 42, 4, 28, 29]
abbrev dktX0_made_2 : List UInt8 := dkwX0_made_2 ++ dktX0_made_3
def dkwX0_made_1 : List UInt8 := [170, 0, 0, 0, 0, 0, 87, 0, 0, 0, 0, 0, 0, 0, 3, 0, 0, 0, 31, 0, 0, 0, 47, 0, 0, 0, 61, 0, 0, 0, 74]
abbrev dktX0_made_1 : List UInt8 := dkwX0_made_1 ++ dktX0_made_2
def dkwX0_made_0 : List UInt8 := [27]
abbrev dktX0_made_0 : List UInt8 := dkwX0_made_0 ++ dktX0_made_1
theorem dksX0_made_0 : cX0_made.data.toList.drop 0 = dktX0_made_0 := by decide +kernel
theorem dksX0_made_1 : cX0_made.data.toList.drop 1 = dktX0_made_1 := dk_seg dksX0_made_0 1 rfl rfl
theorem dksX0_made_2 : cX0_made.data.toList.drop 32 = dktX0_made_2 := dk_seg dksX0_made_1 31 rfl rfl
theorem dksX0_made_3 : cX0_made.data.toList.drop 56 = dktX0_made_3 := dk_seg dksX0_made_2 24 rfl rfl
theorem dksX0_made_4 : cX0_made.data.toList.drop 80 = dktX0_made_4 := dk_seg dksX0_made_3 24 rfl rfl
theorem dX0_made_0 : decode cX0_made 0 = .ok (.iload_n 1, 1) := dk_27 (dk_at dksX0_made_0 0 rfl rfl)
theorem dX0_made_1 : decode cX0_made 1 = .ok (.tableswitch 87 0 3 #[31, 47, 61, 74], 31) := by decide +kernel
theorem dX0_made_32 : decode cX0_made 32 = .ok (.new 341, 3) := dk_187 1 85 (dk_at dksX0_made_2 0 rfl rfl)
theorem dX0_made_35 : decode cX0_made 35 = .ok (.dup, 1) := dk_89 (dk_at dksX0_made_2 3 rfl rfl)
theorem dX0_made_36 : decode cX0_made 36 = .ok (.aload_n 0, 1) := dk_42 (dk_at dksX0_made_2 4 rfl rfl)
theorem dX0_made_37 : decode cX0_made 37 = .ok (.iconst 0, 1) := dk_3 (dk_at dksX0_made_2 5 rfl rfl)
theorem dX0_made_38 : decode cX0_made 38 = .ok (.iload_n 2, 1) := dk_28 (dk_at dksX0_made_2 6 rfl rfl)
theorem dX0_made_39 : decode cX0_made 39 = .ok (.iload_n 3, 1) := dk_29 (dk_at dksX0_made_2 7 rfl rfl)
theorem dX0_made_40 : decode cX0_made 40 = .ok (.iload 4, 2) := dk_21 4 (dk_at dksX0_made_2 8 rfl rfl)
theorem dX0_made_42 : decode cX0_made 42 = .ok (.iload 5, 2) := dk_21 5 (dk_at dksX0_made_2 10 rfl rfl)
theorem dX0_made_44 : decode cX0_made 44 = .ok (.invokespecial 343, 3) := dk_183 1 87 (dk_at dksX0_made_2 12 rfl rfl)
theorem dX0_made_47 : decode cX0_made 47 = .ok (.areturn, 1) := dk_176 (dk_at dksX0_made_2 15 rfl rfl)
theorem dX0_made_48 : decode cX0_made 48 = .ok (.new 346, 3) := dk_187 1 90 (dk_at dksX0_made_2 16 rfl rfl)
theorem dX0_made_51 : decode cX0_made 51 = .ok (.dup, 1) := dk_89 (dk_at dksX0_made_2 19 rfl rfl)
theorem dX0_made_52 : decode cX0_made 52 = .ok (.aload_n 0, 1) := dk_42 (dk_at dksX0_made_2 20 rfl rfl)
theorem dX0_made_53 : decode cX0_made 53 = .ok (.iconst 1, 1) := dk_4 (dk_at dksX0_made_2 21 rfl rfl)
theorem dX0_made_54 : decode cX0_made 54 = .ok (.iload_n 2, 1) := dk_28 (dk_at dksX0_made_2 22 rfl rfl)
theorem dX0_made_55 : decode cX0_made 55 = .ok (.iload_n 3, 1) := dk_29 (dk_at dksX0_made_2 23 rfl rfl)
theorem dX0_made_56 : decode cX0_made 56 = .ok (.iload 5, 2) := dk_21 5 (dk_at dksX0_made_3 0 rfl rfl)
theorem dX0_made_58 : decode cX0_made 58 = .ok (.invokespecial 348, 3) := dk_183 1 92 (dk_at dksX0_made_3 2 rfl rfl)
theorem dX0_made_61 : decode cX0_made 61 = .ok (.areturn, 1) := dk_176 (dk_at dksX0_made_3 5 rfl rfl)
theorem dX0_made_62 : decode cX0_made 62 = .ok (.new 351, 3) := dk_187 1 95 (dk_at dksX0_made_3 6 rfl rfl)
theorem dX0_made_65 : decode cX0_made 65 = .ok (.dup, 1) := dk_89 (dk_at dksX0_made_3 9 rfl rfl)
theorem dX0_made_66 : decode cX0_made 66 = .ok (.aload_n 0, 1) := dk_42 (dk_at dksX0_made_3 10 rfl rfl)
theorem dX0_made_67 : decode cX0_made 67 = .ok (.iload_n 2, 1) := dk_28 (dk_at dksX0_made_3 11 rfl rfl)
theorem dX0_made_68 : decode cX0_made 68 = .ok (.iload_n 3, 1) := dk_29 (dk_at dksX0_made_3 12 rfl rfl)
theorem dX0_made_69 : decode cX0_made 69 = .ok (.iload 5, 2) := dk_21 5 (dk_at dksX0_made_3 13 rfl rfl)
theorem dX0_made_71 : decode cX0_made 71 = .ok (.invokespecial 353, 3) := dk_183 1 97 (dk_at dksX0_made_3 15 rfl rfl)
theorem dX0_made_74 : decode cX0_made 74 = .ok (.areturn, 1) := dk_176 (dk_at dksX0_made_3 18 rfl rfl)
theorem dX0_made_75 : decode cX0_made 75 = .ok (.new 354, 3) := dk_187 1 98 (dk_at dksX0_made_3 19 rfl rfl)
theorem dX0_made_78 : decode cX0_made 78 = .ok (.dup, 1) := dk_89 (dk_at dksX0_made_3 22 rfl rfl)
theorem dX0_made_79 : decode cX0_made 79 = .ok (.aload_n 0, 1) := dk_42 (dk_at dksX0_made_3 23 rfl rfl)
theorem dX0_made_80 : decode cX0_made 80 = .ok (.iload_n 2, 1) := dk_28 (dk_at dksX0_made_4 0 rfl rfl)
theorem dX0_made_81 : decode cX0_made 81 = .ok (.iload_n 3, 1) := dk_29 (dk_at dksX0_made_4 1 rfl rfl)
theorem dX0_made_82 : decode cX0_made 82 = .ok (.iload 4, 2) := dk_21 4 (dk_at dksX0_made_4 2 rfl rfl)
theorem dX0_made_84 : decode cX0_made 84 = .ok (.invokespecial 356, 3) := dk_183 1 100 (dk_at dksX0_made_4 4 rfl rfl)
theorem dX0_made_87 : decode cX0_made 87 = .ok (.areturn, 1) := dk_176 (dk_at dksX0_made_4 7 rfl rfl)
theorem dX0_made_88 : decode cX0_made 88 = .ok (.new 357, 3) := dk_187 1 101 (dk_at dksX0_made_4 8 rfl rfl)
theorem dX0_made_91 : decode cX0_made 91 = .ok (.dup, 1) := dk_89 (dk_at dksX0_made_4 11 rfl rfl)
theorem dX0_made_92 : decode cX0_made 92 = .ok (.aload_n 0, 1) := dk_42 (dk_at dksX0_made_4 12 rfl rfl)
theorem dX0_made_93 : decode cX0_made 93 = .ok (.iload_n 2, 1) := dk_28 (dk_at dksX0_made_4 13 rfl rfl)
theorem dX0_made_94 : decode cX0_made 94 = .ok (.iload_n 3, 1) := dk_29 (dk_at dksX0_made_4 14 rfl rfl)
theorem dX0_made_95 : decode cX0_made 95 = .ok (.iload 4, 2) := dk_21 4 (dk_at dksX0_made_4 15 rfl rfl)
theorem dX0_made_97 : decode cX0_made 97 = .ok (.iload 5, 2) := dk_21 5 (dk_at dksX0_made_4 17 rfl rfl)
theorem dX0_made_99 : decode cX0_made 99 = .ok (.invokespecial 359, 3) := dk_183 1 103 (dk_at dksX0_made_4 19 rfl rfl)
theorem dX0_made_102 : decode cX0_made 102 = .ok (.areturn, 1) := dk_176 (dk_at dksX0_made_4 22 rfl rfl)
abbrev cX0_measures : ByteArray := prog_1_method_46_code
def yX0_measures : MethodName := ⟨RX0, "measures", "(IIII)I"⟩
def dkwX0_measures_3 : List UInt8 := [182, 1, 9, 172]
abbrev dktX0_measures_3 : List UInt8 := dkwX0_measures_3 ++ []
def dkwX0_measures_2 : List UInt8 := [182, 1, 134, 172, 58, 5, 42, 5, 182, 1, 9, 172, 58, 5, 42, 4, 182, 1, 9, 172, 58, 5, 42, 7]
abbrev dktX0_measures_2 : List UInt8 := dkwX0_measures_2 ++ dktX0_measures_3
def dkwX0_measures_1 : List UInt8 := [42, 42, 180, 0, 112, 27, 50, 180, 0, 247, 28, 184, 0, 253, 21, 4, 184, 1, 131, 29, 21, 4]
abbrev dktX0_measures_1 : List UInt8 := dkwX0_measures_1 ++ dktX0_measures_2
def dkwX0_measures_0 : List UInt8 := [42, 3, 181, 0, 115, 27, 184, 0, 241, 154, 0, 5, 2, 172, 28, 184, 0, 244, 154, 0, 6, 16, 254, 172]
abbrev dktX0_measures_0 : List UInt8 := dkwX0_measures_0 ++ dktX0_measures_1
theorem dksX0_measures_0 : cX0_measures.data.toList.drop 0 = dktX0_measures_0 := by decide +kernel
theorem dksX0_measures_1 : cX0_measures.data.toList.drop 24 = dktX0_measures_1 := dk_seg dksX0_measures_0 24 rfl rfl
theorem dksX0_measures_2 : cX0_measures.data.toList.drop 46 = dktX0_measures_2 := dk_seg dksX0_measures_1 22 rfl rfl
theorem dksX0_measures_3 : cX0_measures.data.toList.drop 70 = dktX0_measures_3 := dk_seg dksX0_measures_2 24 rfl rfl
theorem dX0_measures_0 : decode cX0_measures 0 = .ok (.aload_n 0, 1) := dk_42 (dk_at dksX0_measures_0 0 rfl rfl)
theorem dX0_measures_1 : decode cX0_measures 1 = .ok (.iconst 0, 1) := dk_3 (dk_at dksX0_measures_0 1 rfl rfl)
theorem dX0_measures_2 : decode cX0_measures 2 = .ok (.putfield 115, 3) := dk_181 0 115 (dk_at dksX0_measures_0 2 rfl rfl)
theorem dX0_measures_5 : decode cX0_measures 5 = .ok (.iload_n 1, 1) := dk_27 (dk_at dksX0_measures_0 5 rfl rfl)
theorem dX0_measures_6 : decode cX0_measures 6 = .ok (.invokestatic 241, 3) := dk_184 0 241 (dk_at dksX0_measures_0 6 rfl rfl)
theorem dX0_measures_9 : decode cX0_measures 9 = .ok (.ifCond .ne 5, 3) := dk_154 0 5 (dk_at dksX0_measures_0 9 rfl rfl)
theorem dX0_measures_12 : decode cX0_measures 12 = .ok (.iconst (-1), 1) := dk_2 (dk_at dksX0_measures_0 12 rfl rfl)
theorem dX0_measures_13 : decode cX0_measures 13 = .ok (.ireturn, 1) := dk_172 (dk_at dksX0_measures_0 13 rfl rfl)
theorem dX0_measures_14 : decode cX0_measures 14 = .ok (.iload_n 2, 1) := dk_28 (dk_at dksX0_measures_0 14 rfl rfl)
theorem dX0_measures_15 : decode cX0_measures 15 = .ok (.invokestatic 244, 3) := dk_184 0 244 (dk_at dksX0_measures_0 15 rfl rfl)
theorem dX0_measures_18 : decode cX0_measures 18 = .ok (.ifCond .ne 6, 3) := dk_154 0 6 (dk_at dksX0_measures_0 18 rfl rfl)
theorem dX0_measures_21 : decode cX0_measures 21 = .ok (.bipush (-2), 2) := dk_16 254 (dk_at dksX0_measures_0 21 rfl rfl)
theorem dX0_measures_23 : decode cX0_measures 23 = .ok (.ireturn, 1) := dk_172 (dk_at dksX0_measures_0 23 rfl rfl)
theorem dX0_measures_24 : decode cX0_measures 24 = .ok (.aload_n 0, 1) := dk_42 (dk_at dksX0_measures_1 0 rfl rfl)
theorem dX0_measures_25 : decode cX0_measures 25 = .ok (.aload_n 0, 1) := dk_42 (dk_at dksX0_measures_1 1 rfl rfl)
theorem dX0_measures_26 : decode cX0_measures 26 = .ok (.getfield 112, 3) := dk_180 0 112 (dk_at dksX0_measures_1 2 rfl rfl)
theorem dX0_measures_29 : decode cX0_measures 29 = .ok (.iload_n 1, 1) := dk_27 (dk_at dksX0_measures_1 5 rfl rfl)
theorem dX0_measures_30 : decode cX0_measures 30 = .ok (.aaload, 1) := dk_50 (dk_at dksX0_measures_1 6 rfl rfl)
theorem dX0_measures_31 : decode cX0_measures 31 = .ok (.getfield 247, 3) := dk_180 0 247 (dk_at dksX0_measures_1 7 rfl rfl)
theorem dX0_measures_34 : decode cX0_measures 34 = .ok (.iload_n 2, 1) := dk_28 (dk_at dksX0_measures_1 10 rfl rfl)
theorem dX0_measures_35 : decode cX0_measures 35 = .ok (.invokestatic 253, 3) := dk_184 0 253 (dk_at dksX0_measures_1 11 rfl rfl)
theorem dX0_measures_38 : decode cX0_measures 38 = .ok (.iload 4, 2) := dk_21 4 (dk_at dksX0_measures_1 14 rfl rfl)
theorem dX0_measures_40 : decode cX0_measures 40 = .ok (.invokestatic 387, 3) := dk_184 1 131 (dk_at dksX0_measures_1 16 rfl rfl)
theorem dX0_measures_43 : decode cX0_measures 43 = .ok (.iload_n 3, 1) := dk_29 (dk_at dksX0_measures_1 19 rfl rfl)
theorem dX0_measures_44 : decode cX0_measures 44 = .ok (.iload 4, 2) := dk_21 4 (dk_at dksX0_measures_1 20 rfl rfl)
theorem dX0_measures_46 : decode cX0_measures 46 = .ok (.invokevirtual 390, 3) := dk_182 1 134 (dk_at dksX0_measures_2 0 rfl rfl)
theorem dX0_measures_49 : decode cX0_measures 49 = .ok (.ireturn, 1) := dk_172 (dk_at dksX0_measures_2 3 rfl rfl)
theorem dX0_measures_50 : decode cX0_measures 50 = .ok (.astore 5, 2) := dk_58 5 (dk_at dksX0_measures_2 4 rfl rfl)
theorem dX0_measures_52 : decode cX0_measures 52 = .ok (.aload_n 0, 1) := dk_42 (dk_at dksX0_measures_2 6 rfl rfl)
theorem dX0_measures_53 : decode cX0_measures 53 = .ok (.iconst 2, 1) := dk_5 (dk_at dksX0_measures_2 7 rfl rfl)
theorem dX0_measures_54 : decode cX0_measures 54 = .ok (.invokevirtual 265, 3) := dk_182 1 9 (dk_at dksX0_measures_2 8 rfl rfl)
theorem dX0_measures_57 : decode cX0_measures 57 = .ok (.ireturn, 1) := dk_172 (dk_at dksX0_measures_2 11 rfl rfl)
theorem dX0_measures_58 : decode cX0_measures 58 = .ok (.astore 5, 2) := dk_58 5 (dk_at dksX0_measures_2 12 rfl rfl)
theorem dX0_measures_60 : decode cX0_measures 60 = .ok (.aload_n 0, 1) := dk_42 (dk_at dksX0_measures_2 14 rfl rfl)
theorem dX0_measures_61 : decode cX0_measures 61 = .ok (.iconst 1, 1) := dk_4 (dk_at dksX0_measures_2 15 rfl rfl)
theorem dX0_measures_62 : decode cX0_measures 62 = .ok (.invokevirtual 265, 3) := dk_182 1 9 (dk_at dksX0_measures_2 16 rfl rfl)
theorem dX0_measures_65 : decode cX0_measures 65 = .ok (.ireturn, 1) := dk_172 (dk_at dksX0_measures_2 19 rfl rfl)
theorem dX0_measures_66 : decode cX0_measures 66 = .ok (.astore 5, 2) := dk_58 5 (dk_at dksX0_measures_2 20 rfl rfl)
theorem dX0_measures_68 : decode cX0_measures 68 = .ok (.aload_n 0, 1) := dk_42 (dk_at dksX0_measures_2 22 rfl rfl)
theorem dX0_measures_69 : decode cX0_measures 69 = .ok (.iconst 4, 1) := dk_7 (dk_at dksX0_measures_2 23 rfl rfl)
theorem dX0_measures_70 : decode cX0_measures 70 = .ok (.invokevirtual 265, 3) := dk_182 1 9 (dk_at dksX0_measures_3 0 rfl rfl)
theorem dX0_measures_73 : decode cX0_measures 73 = .ok (.ireturn, 1) := dk_172 (dk_at dksX0_measures_3 3 rfl rfl)
abbrev cX0_askedFor : ByteArray := prog_1_method_45_code
def yX0_askedFor : MethodName := ⟨RX0, "askedFor", "(Ljava/lang/Object;I)Ljava/lang/Object;"⟩
def dkwX0_askedFor_0 : List UInt8 := [42, 184, 0, 230, 61, 27, 28, 184, 1, 126, 188, 4, 78, 42, 176]
abbrev dktX0_askedFor_0 : List UInt8 := dkwX0_askedFor_0 ++ []
theorem dksX0_askedFor_0 : cX0_askedFor.data.toList.drop 0 = dktX0_askedFor_0 := by decide +kernel
theorem dX0_askedFor_0 : decode cX0_askedFor 0 = .ok (.aload_n 0, 1) := dk_42 (dk_at dksX0_askedFor_0 0 rfl rfl)
theorem dX0_askedFor_1 : decode cX0_askedFor 1 = .ok (.invokestatic 230, 3) := dk_184 0 230 (dk_at dksX0_askedFor_0 1 rfl rfl)
theorem dX0_askedFor_4 : decode cX0_askedFor 4 = .ok (.istore_n 2, 1) := dk_61 (dk_at dksX0_askedFor_0 4 rfl rfl)
theorem dX0_askedFor_5 : decode cX0_askedFor 5 = .ok (.iload_n 1, 1) := dk_27 (dk_at dksX0_askedFor_0 5 rfl rfl)
theorem dX0_askedFor_6 : decode cX0_askedFor 6 = .ok (.iload_n 2, 1) := dk_28 (dk_at dksX0_askedFor_0 6 rfl rfl)
theorem dX0_askedFor_7 : decode cX0_askedFor 7 = .ok (.invokestatic 382, 3) := dk_184 1 126 (dk_at dksX0_askedFor_0 7 rfl rfl)
theorem dX0_askedFor_10 : decode cX0_askedFor 10 = .ok (.newarray .boolean, 2) := dk_188_4 (dk_at dksX0_askedFor_0 10 rfl rfl)
theorem dX0_askedFor_12 : decode cX0_askedFor 12 = .ok (.astore_n 3, 1) := dk_78 (dk_at dksX0_askedFor_0 12 rfl rfl)
theorem dX0_askedFor_13 : decode cX0_askedFor 13 = .ok (.aload_n 0, 1) := dk_42 (dk_at dksX0_askedFor_0 13 rfl rfl)
theorem dX0_askedFor_14 : decode cX0_askedFor 14 = .ok (.areturn, 1) := dk_176 (dk_at dksX0_askedFor_0 14 rfl rfl)
abbrev cX0_comeFrom : ByteArray := prog_1_method_44_code
def yX0_comeFrom : MethodName := ⟨RX0, "comeFrom", "(Ljava/lang/Object;II)I"⟩
def dkwX0_comeFrom_1 : List UInt8 := [132, 4, 1, 167, 255, 233, 167, 0, 10, 58, 5, 42, 6, 181, 0, 115, 21, 4, 172]
abbrev dktX0_comeFrom_1 : List UInt8 := dkwX0_comeFrom_1 ++ []
def dkwX0_comeFrom_0 : List UInt8 := [3, 54, 4, 21, 4, 29, 162, 0, 23, 42, 43, 28, 8, 21, 4, 104, 96, 182, 1, 122, 155, 0, 9]
abbrev dktX0_comeFrom_0 : List UInt8 := dkwX0_comeFrom_0 ++ dktX0_comeFrom_1
theorem dksX0_comeFrom_0 : cX0_comeFrom.data.toList.drop 0 = dktX0_comeFrom_0 := by decide +kernel
theorem dksX0_comeFrom_1 : cX0_comeFrom.data.toList.drop 23 = dktX0_comeFrom_1 := dk_seg dksX0_comeFrom_0 23 rfl rfl
theorem dX0_comeFrom_0 : decode cX0_comeFrom 0 = .ok (.iconst 0, 1) := dk_3 (dk_at dksX0_comeFrom_0 0 rfl rfl)
theorem dX0_comeFrom_1 : decode cX0_comeFrom 1 = .ok (.istore 4, 2) := dk_54 4 (dk_at dksX0_comeFrom_0 1 rfl rfl)
theorem dX0_comeFrom_3 : decode cX0_comeFrom 3 = .ok (.iload 4, 2) := dk_21 4 (dk_at dksX0_comeFrom_0 3 rfl rfl)
theorem dX0_comeFrom_5 : decode cX0_comeFrom 5 = .ok (.iload_n 3, 1) := dk_29 (dk_at dksX0_comeFrom_0 5 rfl rfl)
theorem dX0_comeFrom_6 : decode cX0_comeFrom 6 = .ok (.if_icmp .ge 23, 3) := dk_162 0 23 (dk_at dksX0_comeFrom_0 6 rfl rfl)
theorem dX0_comeFrom_9 : decode cX0_comeFrom 9 = .ok (.aload_n 0, 1) := dk_42 (dk_at dksX0_comeFrom_0 9 rfl rfl)
theorem dX0_comeFrom_10 : decode cX0_comeFrom 10 = .ok (.aload_n 1, 1) := dk_43 (dk_at dksX0_comeFrom_0 10 rfl rfl)
theorem dX0_comeFrom_11 : decode cX0_comeFrom 11 = .ok (.iload_n 2, 1) := dk_28 (dk_at dksX0_comeFrom_0 11 rfl rfl)
theorem dX0_comeFrom_12 : decode cX0_comeFrom 12 = .ok (.iconst 5, 1) := dk_8 (dk_at dksX0_comeFrom_0 12 rfl rfl)
theorem dX0_comeFrom_13 : decode cX0_comeFrom 13 = .ok (.iload 4, 2) := dk_21 4 (dk_at dksX0_comeFrom_0 13 rfl rfl)
theorem dX0_comeFrom_15 : decode cX0_comeFrom 15 = .ok (.imul, 1) := dk_104 (dk_at dksX0_comeFrom_0 15 rfl rfl)
theorem dX0_comeFrom_16 : decode cX0_comeFrom 16 = .ok (.iadd, 1) := dk_96 (dk_at dksX0_comeFrom_0 16 rfl rfl)
theorem dX0_comeFrom_17 : decode cX0_comeFrom 17 = .ok (.invokevirtual 378, 3) := dk_182 1 122 (dk_at dksX0_comeFrom_0 17 rfl rfl)
theorem dX0_comeFrom_20 : decode cX0_comeFrom 20 = .ok (.ifCond .lt 9, 3) := dk_155 0 9 (dk_at dksX0_comeFrom_0 20 rfl rfl)
theorem dX0_comeFrom_23 : decode cX0_comeFrom 23 = .ok (.iinc 4 1, 3) := dk_132 4 1 (dk_at dksX0_comeFrom_1 0 rfl rfl)
theorem dX0_comeFrom_26 : decode cX0_comeFrom 26 = .ok (.goto (-23), 3) := dk_167 255 233 (dk_at dksX0_comeFrom_1 3 rfl rfl)
theorem dX0_comeFrom_29 : decode cX0_comeFrom 29 = .ok (.goto 10, 3) := dk_167 0 10 (dk_at dksX0_comeFrom_1 6 rfl rfl)
theorem dX0_comeFrom_32 : decode cX0_comeFrom 32 = .ok (.astore 5, 2) := dk_58 5 (dk_at dksX0_comeFrom_1 9 rfl rfl)
theorem dX0_comeFrom_34 : decode cX0_comeFrom 34 = .ok (.aload_n 0, 1) := dk_42 (dk_at dksX0_comeFrom_1 11 rfl rfl)
theorem dX0_comeFrom_35 : decode cX0_comeFrom 35 = .ok (.iconst 3, 1) := dk_6 (dk_at dksX0_comeFrom_1 12 rfl rfl)
theorem dX0_comeFrom_36 : decode cX0_comeFrom 36 = .ok (.putfield 115, 3) := dk_181 0 115 (dk_at dksX0_comeFrom_1 13 rfl rfl)
theorem dX0_comeFrom_39 : decode cX0_comeFrom 39 = .ok (.iload 4, 2) := dk_21 4 (dk_at dksX0_comeFrom_1 16 rfl rfl)
theorem dX0_comeFrom_41 : decode cX0_comeFrom 41 = .ok (.ireturn, 1) := dk_172 (dk_at dksX0_comeFrom_1 18 rfl rfl)
abbrev cX0_oneOf : ByteArray := prog_1_method_43_code
def yX0_oneOf : MethodName := ⟨RX0, "oneOf", "(Ljava/lang/Object;I)I"⟩
def dkwX0_oneOf_2 : List UInt8 := [96, 184, 0, 237, 136, 43, 28, 7, 96, 184, 0, 237, 136, 182, 1, 119, 172]
abbrev dktX0_oneOf_2 : List UInt8 := dkwX0_oneOf_2 ++ []
def dkwX0_oneOf_1 : List UInt8 := [28, 184, 0, 237, 136, 43, 28, 4, 96, 184, 0, 237, 136, 43, 28, 5, 96, 184, 0, 237, 136, 43, 28, 6]
abbrev dktX0_oneOf_1 : List UInt8 := dkwX0_oneOf_1 ++ dktX0_oneOf_2
def dkwX0_oneOf_0 : List UInt8 := [28, 155, 0, 13, 28, 43, 184, 0, 230, 8, 100, 164, 0, 11, 187, 0, 234, 89, 183, 0, 236, 191, 42, 43]
abbrev dktX0_oneOf_0 : List UInt8 := dkwX0_oneOf_0 ++ dktX0_oneOf_1
theorem dksX0_oneOf_0 : cX0_oneOf.data.toList.drop 0 = dktX0_oneOf_0 := by decide +kernel
theorem dksX0_oneOf_1 : cX0_oneOf.data.toList.drop 24 = dktX0_oneOf_1 := dk_seg dksX0_oneOf_0 24 rfl rfl
theorem dksX0_oneOf_2 : cX0_oneOf.data.toList.drop 48 = dktX0_oneOf_2 := dk_seg dksX0_oneOf_1 24 rfl rfl
theorem dX0_oneOf_0 : decode cX0_oneOf 0 = .ok (.iload_n 2, 1) := dk_28 (dk_at dksX0_oneOf_0 0 rfl rfl)
theorem dX0_oneOf_1 : decode cX0_oneOf 1 = .ok (.ifCond .lt 13, 3) := dk_155 0 13 (dk_at dksX0_oneOf_0 1 rfl rfl)
theorem dX0_oneOf_4 : decode cX0_oneOf 4 = .ok (.iload_n 2, 1) := dk_28 (dk_at dksX0_oneOf_0 4 rfl rfl)
theorem dX0_oneOf_5 : decode cX0_oneOf 5 = .ok (.aload_n 1, 1) := dk_43 (dk_at dksX0_oneOf_0 5 rfl rfl)
theorem dX0_oneOf_6 : decode cX0_oneOf 6 = .ok (.invokestatic 230, 3) := dk_184 0 230 (dk_at dksX0_oneOf_0 6 rfl rfl)
theorem dX0_oneOf_9 : decode cX0_oneOf 9 = .ok (.iconst 5, 1) := dk_8 (dk_at dksX0_oneOf_0 9 rfl rfl)
theorem dX0_oneOf_10 : decode cX0_oneOf 10 = .ok (.isub, 1) := dk_100 (dk_at dksX0_oneOf_0 10 rfl rfl)
theorem dX0_oneOf_11 : decode cX0_oneOf 11 = .ok (.if_icmp .le 11, 3) := dk_164 0 11 (dk_at dksX0_oneOf_0 11 rfl rfl)
theorem dX0_oneOf_14 : decode cX0_oneOf 14 = .ok (.new 234, 3) := dk_187 0 234 (dk_at dksX0_oneOf_0 14 rfl rfl)
theorem dX0_oneOf_17 : decode cX0_oneOf 17 = .ok (.dup, 1) := dk_89 (dk_at dksX0_oneOf_0 17 rfl rfl)
theorem dX0_oneOf_18 : decode cX0_oneOf 18 = .ok (.invokespecial 236, 3) := dk_183 0 236 (dk_at dksX0_oneOf_0 18 rfl rfl)
theorem dX0_oneOf_21 : decode cX0_oneOf 21 = .ok (.athrow, 1) := dk_191 (dk_at dksX0_oneOf_0 21 rfl rfl)
theorem dX0_oneOf_22 : decode cX0_oneOf 22 = .ok (.aload_n 0, 1) := dk_42 (dk_at dksX0_oneOf_0 22 rfl rfl)
theorem dX0_oneOf_23 : decode cX0_oneOf 23 = .ok (.aload_n 1, 1) := dk_43 (dk_at dksX0_oneOf_0 23 rfl rfl)
theorem dX0_oneOf_24 : decode cX0_oneOf 24 = .ok (.iload_n 2, 1) := dk_28 (dk_at dksX0_oneOf_1 0 rfl rfl)
theorem dX0_oneOf_25 : decode cX0_oneOf 25 = .ok (.invokestatic 237, 3) := dk_184 0 237 (dk_at dksX0_oneOf_1 1 rfl rfl)
theorem dX0_oneOf_28 : decode cX0_oneOf 28 = .ok (.l2i, 1) := dk_136 (dk_at dksX0_oneOf_1 4 rfl rfl)
theorem dX0_oneOf_29 : decode cX0_oneOf 29 = .ok (.aload_n 1, 1) := dk_43 (dk_at dksX0_oneOf_1 5 rfl rfl)
theorem dX0_oneOf_30 : decode cX0_oneOf 30 = .ok (.iload_n 2, 1) := dk_28 (dk_at dksX0_oneOf_1 6 rfl rfl)
theorem dX0_oneOf_31 : decode cX0_oneOf 31 = .ok (.iconst 1, 1) := dk_4 (dk_at dksX0_oneOf_1 7 rfl rfl)
theorem dX0_oneOf_32 : decode cX0_oneOf 32 = .ok (.iadd, 1) := dk_96 (dk_at dksX0_oneOf_1 8 rfl rfl)
theorem dX0_oneOf_33 : decode cX0_oneOf 33 = .ok (.invokestatic 237, 3) := dk_184 0 237 (dk_at dksX0_oneOf_1 9 rfl rfl)
theorem dX0_oneOf_36 : decode cX0_oneOf 36 = .ok (.l2i, 1) := dk_136 (dk_at dksX0_oneOf_1 12 rfl rfl)
theorem dX0_oneOf_37 : decode cX0_oneOf 37 = .ok (.aload_n 1, 1) := dk_43 (dk_at dksX0_oneOf_1 13 rfl rfl)
theorem dX0_oneOf_38 : decode cX0_oneOf 38 = .ok (.iload_n 2, 1) := dk_28 (dk_at dksX0_oneOf_1 14 rfl rfl)
theorem dX0_oneOf_39 : decode cX0_oneOf 39 = .ok (.iconst 2, 1) := dk_5 (dk_at dksX0_oneOf_1 15 rfl rfl)
theorem dX0_oneOf_40 : decode cX0_oneOf 40 = .ok (.iadd, 1) := dk_96 (dk_at dksX0_oneOf_1 16 rfl rfl)
theorem dX0_oneOf_41 : decode cX0_oneOf 41 = .ok (.invokestatic 237, 3) := dk_184 0 237 (dk_at dksX0_oneOf_1 17 rfl rfl)
theorem dX0_oneOf_44 : decode cX0_oneOf 44 = .ok (.l2i, 1) := dk_136 (dk_at dksX0_oneOf_1 20 rfl rfl)
theorem dX0_oneOf_45 : decode cX0_oneOf 45 = .ok (.aload_n 1, 1) := dk_43 (dk_at dksX0_oneOf_1 21 rfl rfl)
theorem dX0_oneOf_46 : decode cX0_oneOf 46 = .ok (.iload_n 2, 1) := dk_28 (dk_at dksX0_oneOf_1 22 rfl rfl)
theorem dX0_oneOf_47 : decode cX0_oneOf 47 = .ok (.iconst 3, 1) := dk_6 (dk_at dksX0_oneOf_1 23 rfl rfl)
theorem dX0_oneOf_48 : decode cX0_oneOf 48 = .ok (.iadd, 1) := dk_96 (dk_at dksX0_oneOf_2 0 rfl rfl)
theorem dX0_oneOf_49 : decode cX0_oneOf 49 = .ok (.invokestatic 237, 3) := dk_184 0 237 (dk_at dksX0_oneOf_2 1 rfl rfl)
theorem dX0_oneOf_52 : decode cX0_oneOf 52 = .ok (.l2i, 1) := dk_136 (dk_at dksX0_oneOf_2 4 rfl rfl)
theorem dX0_oneOf_53 : decode cX0_oneOf 53 = .ok (.aload_n 1, 1) := dk_43 (dk_at dksX0_oneOf_2 5 rfl rfl)
theorem dX0_oneOf_54 : decode cX0_oneOf 54 = .ok (.iload_n 2, 1) := dk_28 (dk_at dksX0_oneOf_2 6 rfl rfl)
theorem dX0_oneOf_55 : decode cX0_oneOf 55 = .ok (.iconst 4, 1) := dk_7 (dk_at dksX0_oneOf_2 7 rfl rfl)
theorem dX0_oneOf_56 : decode cX0_oneOf 56 = .ok (.iadd, 1) := dk_96 (dk_at dksX0_oneOf_2 8 rfl rfl)
theorem dX0_oneOf_57 : decode cX0_oneOf 57 = .ok (.invokestatic 237, 3) := dk_184 0 237 (dk_at dksX0_oneOf_2 9 rfl rfl)
theorem dX0_oneOf_60 : decode cX0_oneOf 60 = .ok (.l2i, 1) := dk_136 (dk_at dksX0_oneOf_2 12 rfl rfl)
theorem dX0_oneOf_61 : decode cX0_oneOf 61 = .ok (.invokevirtual 375, 3) := dk_182 1 119 (dk_at dksX0_oneOf_2 13 rfl rfl)
theorem dX0_oneOf_64 : decode cX0_oneOf 64 = .ok (.ireturn, 1) := dk_172 (dk_at dksX0_oneOf_2 16 rfl rfl)
abbrev cX0_turn : ByteArray := prog_1_method_47_code
def yX0_turn : MethodName := ⟨RX0, "turn", "(IZ)I"⟩
def dkwX0_turn_2 : List UInt8 := [181, 1, 46, 42, 182, 0, 211, 4, 172]
abbrev dktX0_turn_2 : List UInt8 := dkwX0_turn_2 ++ []
def dkwX0_turn_1 : List UInt8 := [180, 1, 46, 28, 160, 0, 5, 3, 172, 42, 180, 0, 29, 27, 185, 0, 186, 2, 0, 192, 0, 214, 28]
abbrev dktX0_turn_1 : List UInt8 := dkwX0_turn_1 ++ dktX0_turn_2
def dkwX0_turn_0 : List UInt8 := [42, 27, 182, 1, 140, 154, 0, 5, 2, 172, 42, 180, 0, 29, 27, 185, 0, 186, 2, 0, 192, 0, 214]
abbrev dktX0_turn_0 : List UInt8 := dkwX0_turn_0 ++ dktX0_turn_1
theorem dksX0_turn_0 : cX0_turn.data.toList.drop 0 = dktX0_turn_0 := by decide +kernel
theorem dksX0_turn_1 : cX0_turn.data.toList.drop 23 = dktX0_turn_1 := dk_seg dksX0_turn_0 23 rfl rfl
theorem dksX0_turn_2 : cX0_turn.data.toList.drop 46 = dktX0_turn_2 := dk_seg dksX0_turn_1 23 rfl rfl
theorem dX0_turn_0 : decode cX0_turn 0 = .ok (.aload_n 0, 1) := dk_42 (dk_at dksX0_turn_0 0 rfl rfl)
theorem dX0_turn_1 : decode cX0_turn 1 = .ok (.iload_n 1, 1) := dk_27 (dk_at dksX0_turn_0 1 rfl rfl)
theorem dX0_turn_2 : decode cX0_turn 2 = .ok (.invokevirtual 396, 3) := dk_182 1 140 (dk_at dksX0_turn_0 2 rfl rfl)
theorem dX0_turn_5 : decode cX0_turn 5 = .ok (.ifCond .ne 5, 3) := dk_154 0 5 (dk_at dksX0_turn_0 5 rfl rfl)
theorem dX0_turn_8 : decode cX0_turn 8 = .ok (.iconst (-1), 1) := dk_2 (dk_at dksX0_turn_0 8 rfl rfl)
theorem dX0_turn_9 : decode cX0_turn 9 = .ok (.ireturn, 1) := dk_172 (dk_at dksX0_turn_0 9 rfl rfl)
theorem dX0_turn_10 : decode cX0_turn 10 = .ok (.aload_n 0, 1) := dk_42 (dk_at dksX0_turn_0 10 rfl rfl)
theorem dX0_turn_11 : decode cX0_turn 11 = .ok (.getfield 29, 3) := dk_180 0 29 (dk_at dksX0_turn_0 11 rfl rfl)
theorem dX0_turn_14 : decode cX0_turn 14 = .ok (.iload_n 1, 1) := dk_27 (dk_at dksX0_turn_0 14 rfl rfl)
theorem dX0_turn_15 : decode cX0_turn 15 = .ok (.invokeinterface 186 2, 5) := by decide +kernel
theorem dX0_turn_20 : decode cX0_turn 20 = .ok (.checkcast 214, 3) := dk_192 0 214 (dk_at dksX0_turn_0 20 rfl rfl)
theorem dX0_turn_23 : decode cX0_turn 23 = .ok (.getfield 302, 3) := dk_180 1 46 (dk_at dksX0_turn_1 0 rfl rfl)
theorem dX0_turn_26 : decode cX0_turn 26 = .ok (.iload_n 2, 1) := dk_28 (dk_at dksX0_turn_1 3 rfl rfl)
theorem dX0_turn_27 : decode cX0_turn 27 = .ok (.if_icmp .ne 5, 3) := dk_160 0 5 (dk_at dksX0_turn_1 4 rfl rfl)
theorem dX0_turn_30 : decode cX0_turn 30 = .ok (.iconst 0, 1) := dk_3 (dk_at dksX0_turn_1 7 rfl rfl)
theorem dX0_turn_31 : decode cX0_turn 31 = .ok (.ireturn, 1) := dk_172 (dk_at dksX0_turn_1 8 rfl rfl)
theorem dX0_turn_32 : decode cX0_turn 32 = .ok (.aload_n 0, 1) := dk_42 (dk_at dksX0_turn_1 9 rfl rfl)
theorem dX0_turn_33 : decode cX0_turn 33 = .ok (.getfield 29, 3) := dk_180 0 29 (dk_at dksX0_turn_1 10 rfl rfl)
theorem dX0_turn_36 : decode cX0_turn 36 = .ok (.iload_n 1, 1) := dk_27 (dk_at dksX0_turn_1 13 rfl rfl)
theorem dX0_turn_37 : decode cX0_turn 37 = .ok (.invokeinterface 186 2, 5) := by decide +kernel
theorem dX0_turn_42 : decode cX0_turn 42 = .ok (.checkcast 214, 3) := dk_192 0 214 (dk_at dksX0_turn_1 19 rfl rfl)
theorem dX0_turn_45 : decode cX0_turn 45 = .ok (.iload_n 2, 1) := dk_28 (dk_at dksX0_turn_1 22 rfl rfl)
theorem dX0_turn_46 : decode cX0_turn 46 = .ok (.putfield 302, 3) := dk_181 1 46 (dk_at dksX0_turn_2 0 rfl rfl)
theorem dX0_turn_49 : decode cX0_turn 49 = .ok (.aload_n 0, 1) := dk_42 (dk_at dksX0_turn_2 3 rfl rfl)
theorem dX0_turn_50 : decode cX0_turn 50 = .ok (.invokevirtual 211, 3) := dk_182 0 211 (dk_at dksX0_turn_2 4 rfl rfl)
theorem dX0_turn_53 : decode cX0_turn 53 = .ok (.iconst 1, 1) := dk_4 (dk_at dksX0_turn_2 7 rfl rfl)
theorem dX0_turn_54 : decode cX0_turn 54 = .ok (.ireturn, 1) := dk_172 (dk_at dksX0_turn_2 8 rfl rfl)
abbrev cX0_isMeasure : ByteArray := prog_1_method_37_code
def yX0_isMeasure : MethodName := ⟨RX0, "isMeasure", "(I)Z"⟩
def dkwX0_isMeasure_0 : List UInt8 := [27, 133, 9, 42, 180, 0, 29, 185, 0, 180, 1, 0, 133, 10, 101, 184, 0, 130, 172]
abbrev dktX0_isMeasure_0 : List UInt8 := dkwX0_isMeasure_0 ++ []
theorem dksX0_isMeasure_0 : cX0_isMeasure.data.toList.drop 0 = dktX0_isMeasure_0 := by decide +kernel
theorem dX0_isMeasure_0 : decode cX0_isMeasure 0 = .ok (.iload_n 1, 1) := dk_27 (dk_at dksX0_isMeasure_0 0 rfl rfl)
theorem dX0_isMeasure_1 : decode cX0_isMeasure 1 = .ok (.i2l, 1) := dk_133 (dk_at dksX0_isMeasure_0 1 rfl rfl)
theorem dX0_isMeasure_2 : decode cX0_isMeasure 2 = .ok (.lconst 0, 1) := dk_9 (dk_at dksX0_isMeasure_0 2 rfl rfl)
theorem dX0_isMeasure_3 : decode cX0_isMeasure 3 = .ok (.aload_n 0, 1) := dk_42 (dk_at dksX0_isMeasure_0 3 rfl rfl)
theorem dX0_isMeasure_4 : decode cX0_isMeasure 4 = .ok (.getfield 29, 3) := dk_180 0 29 (dk_at dksX0_isMeasure_0 4 rfl rfl)
theorem dX0_isMeasure_7 : decode cX0_isMeasure 7 = .ok (.invokeinterface 180 1, 5) := by decide +kernel
theorem dX0_isMeasure_12 : decode cX0_isMeasure 12 = .ok (.i2l, 1) := dk_133 (dk_at dksX0_isMeasure_0 12 rfl rfl)
theorem dX0_isMeasure_13 : decode cX0_isMeasure 13 = .ok (.lconst 1, 1) := dk_10 (dk_at dksX0_isMeasure_0 13 rfl rfl)
theorem dX0_isMeasure_14 : decode cX0_isMeasure 14 = .ok (.lsub, 1) := dk_101 (dk_at dksX0_isMeasure_0 14 rfl rfl)
theorem dX0_isMeasure_15 : decode cX0_isMeasure 15 = .ok (.invokestatic 130, 3) := dk_184 0 130 (dk_at dksX0_isMeasure_0 15 rfl rfl)
theorem dX0_isMeasure_18 : decode cX0_isMeasure 18 = .ok (.ireturn, 1) := dk_172 (dk_at dksX0_isMeasure_0 18 rfl rfl)
abbrev cX0_told : ByteArray := prog_1_method_48_code
def yX0_told : MethodName := ⟨RX0, "told", "(II)I"⟩
def dkwX0_told_5 : List UInt8 := [153, 0, 16, 42, 180, 0, 42, 27, 51, 153, 0, 7, 4, 167, 0, 4, 3, 172, 16, 254, 172]
abbrev dktX0_told_5 : List UInt8 := dkwX0_told_5 ++ []
def dkwX0_told_4 : List UInt8 := [172, 45, 180, 1, 46, 153, 0, 7, 4, 167, 0, 4, 3, 172, 42, 182, 1, 157, 42, 180, 1, 160]
abbrev dktX0_told_4 : List UInt8 := dkwX0_told_4 ++ dktX0_told_5
def dkwX0_told_3 : List UInt8 := [45, 180, 1, 143, 172, 45, 180, 1, 145, 172, 45, 180, 1, 148, 172, 45, 182, 1, 151, 172, 45, 182, 1, 154]
abbrev dktX0_told_3 : List UInt8 := dkwX0_told_3 ++ dktX0_told_4
def dkwX0_told_2 : List UInt8 := [170, 0, 0, 0, 0, 0, 107, 0, 0, 0, 0, 0, 0, 0, 6, 0, 0, 0, 43, 0, 0, 0, 48, 0, 0, 0, 53, 0, 0, 0, 58, 0, 0, 0, 63, 0, 0, 0, 68, 0, 0, 0, 81]
abbrev dktX0_told_2 : List UInt8 := dkwX0_told_2 ++ dktX0_told_3
def dkwX0_told_1 : List UInt8 := [28]
abbrev dktX0_told_1 : List UInt8 := dkwX0_told_1 ++ dktX0_told_2
def dkwX0_told_0 : List UInt8 := [42, 27, 182, 1, 140, 154, 0, 5, 2, 172, 42, 180, 0, 29, 27, 185, 0, 186, 2, 0, 192, 0, 214, 78]
abbrev dktX0_told_0 : List UInt8 := dkwX0_told_0 ++ dktX0_told_1
theorem dksX0_told_0 : cX0_told.data.toList.drop 0 = dktX0_told_0 := by decide +kernel
theorem dksX0_told_1 : cX0_told.data.toList.drop 24 = dktX0_told_1 := dk_seg dksX0_told_0 24 rfl rfl
theorem dksX0_told_2 : cX0_told.data.toList.drop 25 = dktX0_told_2 := dk_seg dksX0_told_1 1 rfl rfl
theorem dksX0_told_3 : cX0_told.data.toList.drop 68 = dktX0_told_3 := dk_seg dksX0_told_2 43 rfl rfl
theorem dksX0_told_4 : cX0_told.data.toList.drop 92 = dktX0_told_4 := dk_seg dksX0_told_3 24 rfl rfl
theorem dksX0_told_5 : cX0_told.data.toList.drop 114 = dktX0_told_5 := dk_seg dksX0_told_4 22 rfl rfl
theorem dX0_told_0 : decode cX0_told 0 = .ok (.aload_n 0, 1) := dk_42 (dk_at dksX0_told_0 0 rfl rfl)
theorem dX0_told_1 : decode cX0_told 1 = .ok (.iload_n 1, 1) := dk_27 (dk_at dksX0_told_0 1 rfl rfl)
theorem dX0_told_2 : decode cX0_told 2 = .ok (.invokevirtual 396, 3) := dk_182 1 140 (dk_at dksX0_told_0 2 rfl rfl)
theorem dX0_told_5 : decode cX0_told 5 = .ok (.ifCond .ne 5, 3) := dk_154 0 5 (dk_at dksX0_told_0 5 rfl rfl)
theorem dX0_told_8 : decode cX0_told 8 = .ok (.iconst (-1), 1) := dk_2 (dk_at dksX0_told_0 8 rfl rfl)
theorem dX0_told_9 : decode cX0_told 9 = .ok (.ireturn, 1) := dk_172 (dk_at dksX0_told_0 9 rfl rfl)
theorem dX0_told_10 : decode cX0_told 10 = .ok (.aload_n 0, 1) := dk_42 (dk_at dksX0_told_0 10 rfl rfl)
theorem dX0_told_11 : decode cX0_told 11 = .ok (.getfield 29, 3) := dk_180 0 29 (dk_at dksX0_told_0 11 rfl rfl)
theorem dX0_told_14 : decode cX0_told 14 = .ok (.iload_n 1, 1) := dk_27 (dk_at dksX0_told_0 14 rfl rfl)
theorem dX0_told_15 : decode cX0_told 15 = .ok (.invokeinterface 186 2, 5) := by decide +kernel
theorem dX0_told_20 : decode cX0_told 20 = .ok (.checkcast 214, 3) := dk_192 0 214 (dk_at dksX0_told_0 20 rfl rfl)
theorem dX0_told_23 : decode cX0_told 23 = .ok (.astore_n 3, 1) := dk_78 (dk_at dksX0_told_0 23 rfl rfl)
theorem dX0_told_24 : decode cX0_told 24 = .ok (.iload_n 2, 1) := dk_28 (dk_at dksX0_told_1 0 rfl rfl)
theorem dX0_told_25 : decode cX0_told 25 = .ok (.tableswitch 107 0 6 #[43, 48, 53, 58, 63, 68, 81], 43) := by decide +kernel
theorem dX0_told_68 : decode cX0_told 68 = .ok (.aload_n 3, 1) := dk_45 (dk_at dksX0_told_3 0 rfl rfl)
theorem dX0_told_69 : decode cX0_told 69 = .ok (.getfield 399, 3) := dk_180 1 143 (dk_at dksX0_told_3 1 rfl rfl)
theorem dX0_told_72 : decode cX0_told 72 = .ok (.ireturn, 1) := dk_172 (dk_at dksX0_told_3 4 rfl rfl)
theorem dX0_told_73 : decode cX0_told 73 = .ok (.aload_n 3, 1) := dk_45 (dk_at dksX0_told_3 5 rfl rfl)
theorem dX0_told_74 : decode cX0_told 74 = .ok (.getfield 401, 3) := dk_180 1 145 (dk_at dksX0_told_3 6 rfl rfl)
theorem dX0_told_77 : decode cX0_told 77 = .ok (.ireturn, 1) := dk_172 (dk_at dksX0_told_3 9 rfl rfl)
theorem dX0_told_78 : decode cX0_told 78 = .ok (.aload_n 3, 1) := dk_45 (dk_at dksX0_told_3 10 rfl rfl)
theorem dX0_told_79 : decode cX0_told 79 = .ok (.getfield 404, 3) := dk_180 1 148 (dk_at dksX0_told_3 11 rfl rfl)
theorem dX0_told_82 : decode cX0_told 82 = .ok (.ireturn, 1) := dk_172 (dk_at dksX0_told_3 14 rfl rfl)
theorem dX0_told_83 : decode cX0_told 83 = .ok (.aload_n 3, 1) := dk_45 (dk_at dksX0_told_3 15 rfl rfl)
theorem dX0_told_84 : decode cX0_told 84 = .ok (.invokevirtual 407, 3) := dk_182 1 151 (dk_at dksX0_told_3 16 rfl rfl)
theorem dX0_told_87 : decode cX0_told 87 = .ok (.ireturn, 1) := dk_172 (dk_at dksX0_told_3 19 rfl rfl)
theorem dX0_told_88 : decode cX0_told 88 = .ok (.aload_n 3, 1) := dk_45 (dk_at dksX0_told_3 20 rfl rfl)
theorem dX0_told_89 : decode cX0_told 89 = .ok (.invokevirtual 410, 3) := dk_182 1 154 (dk_at dksX0_told_3 21 rfl rfl)
theorem dX0_told_92 : decode cX0_told 92 = .ok (.ireturn, 1) := dk_172 (dk_at dksX0_told_4 0 rfl rfl)
theorem dX0_told_93 : decode cX0_told 93 = .ok (.aload_n 3, 1) := dk_45 (dk_at dksX0_told_4 1 rfl rfl)
theorem dX0_told_94 : decode cX0_told 94 = .ok (.getfield 302, 3) := dk_180 1 46 (dk_at dksX0_told_4 2 rfl rfl)
theorem dX0_told_97 : decode cX0_told 97 = .ok (.ifCond .eq 7, 3) := dk_153 0 7 (dk_at dksX0_told_4 5 rfl rfl)
theorem dX0_told_100 : decode cX0_told 100 = .ok (.iconst 1, 1) := dk_4 (dk_at dksX0_told_4 8 rfl rfl)
theorem dX0_told_101 : decode cX0_told 101 = .ok (.goto 4, 3) := dk_167 0 4 (dk_at dksX0_told_4 9 rfl rfl)
theorem dX0_told_104 : decode cX0_told 104 = .ok (.iconst 0, 1) := dk_3 (dk_at dksX0_told_4 12 rfl rfl)
theorem dX0_told_105 : decode cX0_told 105 = .ok (.ireturn, 1) := dk_172 (dk_at dksX0_told_4 13 rfl rfl)
theorem dX0_told_106 : decode cX0_told 106 = .ok (.aload_n 0, 1) := dk_42 (dk_at dksX0_told_4 14 rfl rfl)
theorem dX0_told_107 : decode cX0_told 107 = .ok (.invokevirtual 413, 3) := dk_182 1 157 (dk_at dksX0_told_4 15 rfl rfl)
theorem dX0_told_110 : decode cX0_told 110 = .ok (.aload_n 0, 1) := dk_42 (dk_at dksX0_told_4 18 rfl rfl)
theorem dX0_told_111 : decode cX0_told 111 = .ok (.getfield 416, 3) := dk_180 1 160 (dk_at dksX0_told_4 19 rfl rfl)
theorem dX0_told_114 : decode cX0_told 114 = .ok (.ifCond .eq 16, 3) := dk_153 0 16 (dk_at dksX0_told_5 0 rfl rfl)
theorem dX0_told_117 : decode cX0_told 117 = .ok (.aload_n 0, 1) := dk_42 (dk_at dksX0_told_5 3 rfl rfl)
theorem dX0_told_118 : decode cX0_told 118 = .ok (.getfield 42, 3) := dk_180 0 42 (dk_at dksX0_told_5 4 rfl rfl)
theorem dX0_told_121 : decode cX0_told 121 = .ok (.iload_n 1, 1) := dk_27 (dk_at dksX0_told_5 7 rfl rfl)
theorem dX0_told_122 : decode cX0_told 122 = .ok (.baload, 1) := dk_51 (dk_at dksX0_told_5 8 rfl rfl)
theorem dX0_told_123 : decode cX0_told 123 = .ok (.ifCond .eq 7, 3) := dk_153 0 7 (dk_at dksX0_told_5 9 rfl rfl)
theorem dX0_told_126 : decode cX0_told 126 = .ok (.iconst 1, 1) := dk_4 (dk_at dksX0_told_5 12 rfl rfl)
theorem dX0_told_127 : decode cX0_told 127 = .ok (.goto 4, 3) := dk_167 0 4 (dk_at dksX0_told_5 13 rfl rfl)
theorem dX0_told_130 : decode cX0_told 130 = .ok (.iconst 0, 1) := dk_3 (dk_at dksX0_told_5 16 rfl rfl)
theorem dX0_told_131 : decode cX0_told 131 = .ok (.ireturn, 1) := dk_172 (dk_at dksX0_told_5 17 rfl rfl)
theorem dX0_told_132 : decode cX0_told 132 = .ok (.bipush (-2), 2) := dk_16 254 (dk_at dksX0_told_5 18 rfl rfl)
theorem dX0_told_134 : decode cX0_told 134 = .ok (.ireturn, 1) := dk_172 (dk_at dksX0_told_5 20 rfl rfl)
abbrev cX0_findQuarrel : ByteArray := prog_1_method_58_code
def yX0_findQuarrel : MethodName := ⟨RX0, "findQuarrel", "()V"⟩
def dkwX0_findQuarrel_6 : List UInt8 := [3, 96, 181, 1, 197, 132, 1, 1, 167, 255, 156, 177]
abbrev dktX0_findQuarrel_6 : List UInt8 := dkwX0_findQuarrel_6 ++ []
def dkwX0_findQuarrel_5 : List UInt8 := [180, 0, 42, 27, 51, 84, 42, 89, 180, 1, 197, 42, 180, 0, 42, 27, 51, 153, 0, 7, 4, 167, 0, 4]
abbrev dktX0_findQuarrel_5 : List UInt8 := dkwX0_findQuarrel_5 ++ dktX0_findQuarrel_6
def dkwX0_findQuarrel_4 : List UInt8 := [180, 0, 42, 27, 42, 182, 1, 200, 154, 0, 7, 4, 167, 0, 4, 3, 84, 42, 180, 0, 38, 27, 42]
abbrev dktX0_findQuarrel_4 : List UInt8 := dkwX0_findQuarrel_4 ++ dktX0_findQuarrel_5
def dkwX0_findQuarrel_3 : List UInt8 := [51, 84, 42, 180, 0, 38, 27, 51, 154, 0, 6, 167, 0, 63, 42, 180, 0, 38, 27, 3, 84, 42]
abbrev dktX0_findQuarrel_3 : List UInt8 := dkwX0_findQuarrel_3 ++ dktX0_findQuarrel_4
def dkwX0_findQuarrel_2 : List UInt8 := [60, 27, 42, 180, 0, 29, 185, 0, 180, 1, 0, 162, 0, 93, 42, 180, 0, 42, 27, 42, 180, 0, 38, 27]
abbrev dktX0_findQuarrel_2 : List UInt8 := dkwX0_findQuarrel_2 ++ dktX0_findQuarrel_3
def dkwX0_findQuarrel_1 : List UInt8 := [182, 1, 193, 181, 1, 160, 42, 3, 181, 1, 197, 42, 180, 1, 160, 154, 0, 4, 177, 42, 182, 1, 186, 3]
abbrev dktX0_findQuarrel_1 : List UInt8 := dkwX0_findQuarrel_1 ++ dktX0_findQuarrel_2
def dkwX0_findQuarrel_0 : List UInt8 := [42, 180, 1, 169, 153, 0, 4, 177, 42, 4, 181, 1, 169, 42, 182, 1, 54, 42, 42, 42, 180, 0, 32]
abbrev dktX0_findQuarrel_0 : List UInt8 := dkwX0_findQuarrel_0 ++ dktX0_findQuarrel_1
theorem dksX0_findQuarrel_0 : cX0_findQuarrel.data.toList.drop 0 = dktX0_findQuarrel_0 := by decide +kernel
theorem dksX0_findQuarrel_1 : cX0_findQuarrel.data.toList.drop 23 = dktX0_findQuarrel_1 := dk_seg dksX0_findQuarrel_0 23 rfl rfl
theorem dksX0_findQuarrel_2 : cX0_findQuarrel.data.toList.drop 47 = dktX0_findQuarrel_2 := dk_seg dksX0_findQuarrel_1 24 rfl rfl
theorem dksX0_findQuarrel_3 : cX0_findQuarrel.data.toList.drop 71 = dktX0_findQuarrel_3 := dk_seg dksX0_findQuarrel_2 24 rfl rfl
theorem dksX0_findQuarrel_4 : cX0_findQuarrel.data.toList.drop 93 = dktX0_findQuarrel_4 := dk_seg dksX0_findQuarrel_3 22 rfl rfl
theorem dksX0_findQuarrel_5 : cX0_findQuarrel.data.toList.drop 116 = dktX0_findQuarrel_5 := dk_seg dksX0_findQuarrel_4 23 rfl rfl
theorem dksX0_findQuarrel_6 : cX0_findQuarrel.data.toList.drop 140 = dktX0_findQuarrel_6 := dk_seg dksX0_findQuarrel_5 24 rfl rfl
theorem dX0_findQuarrel_0 : decode cX0_findQuarrel 0 = .ok (.aload_n 0, 1) := dk_42 (dk_at dksX0_findQuarrel_0 0 rfl rfl)
theorem dX0_findQuarrel_1 : decode cX0_findQuarrel 1 = .ok (.getfield 425, 3) := dk_180 1 169 (dk_at dksX0_findQuarrel_0 1 rfl rfl)
theorem dX0_findQuarrel_4 : decode cX0_findQuarrel 4 = .ok (.ifCond .eq 4, 3) := dk_153 0 4 (dk_at dksX0_findQuarrel_0 4 rfl rfl)
theorem dX0_findQuarrel_7 : decode cX0_findQuarrel 7 = .ok (.return_, 1) := dk_177 (dk_at dksX0_findQuarrel_0 7 rfl rfl)
theorem dX0_findQuarrel_8 : decode cX0_findQuarrel 8 = .ok (.aload_n 0, 1) := dk_42 (dk_at dksX0_findQuarrel_0 8 rfl rfl)
theorem dX0_findQuarrel_9 : decode cX0_findQuarrel 9 = .ok (.iconst 1, 1) := dk_4 (dk_at dksX0_findQuarrel_0 9 rfl rfl)
theorem dX0_findQuarrel_10 : decode cX0_findQuarrel 10 = .ok (.putfield 425, 3) := dk_181 1 169 (dk_at dksX0_findQuarrel_0 10 rfl rfl)
theorem dX0_findQuarrel_13 : decode cX0_findQuarrel 13 = .ok (.aload_n 0, 1) := dk_42 (dk_at dksX0_findQuarrel_0 13 rfl rfl)
theorem dX0_findQuarrel_14 : decode cX0_findQuarrel 14 = .ok (.invokevirtual 310, 3) := dk_182 1 54 (dk_at dksX0_findQuarrel_0 14 rfl rfl)
theorem dX0_findQuarrel_17 : decode cX0_findQuarrel 17 = .ok (.aload_n 0, 1) := dk_42 (dk_at dksX0_findQuarrel_0 17 rfl rfl)
theorem dX0_findQuarrel_18 : decode cX0_findQuarrel 18 = .ok (.aload_n 0, 1) := dk_42 (dk_at dksX0_findQuarrel_0 18 rfl rfl)
theorem dX0_findQuarrel_19 : decode cX0_findQuarrel 19 = .ok (.aload_n 0, 1) := dk_42 (dk_at dksX0_findQuarrel_0 19 rfl rfl)
theorem dX0_findQuarrel_20 : decode cX0_findQuarrel 20 = .ok (.getfield 32, 3) := dk_180 0 32 (dk_at dksX0_findQuarrel_0 20 rfl rfl)
theorem dX0_findQuarrel_23 : decode cX0_findQuarrel 23 = .ok (.invokevirtual 449, 3) := dk_182 1 193 (dk_at dksX0_findQuarrel_1 0 rfl rfl)
theorem dX0_findQuarrel_26 : decode cX0_findQuarrel 26 = .ok (.putfield 416, 3) := dk_181 1 160 (dk_at dksX0_findQuarrel_1 3 rfl rfl)
theorem dX0_findQuarrel_29 : decode cX0_findQuarrel 29 = .ok (.aload_n 0, 1) := dk_42 (dk_at dksX0_findQuarrel_1 6 rfl rfl)
theorem dX0_findQuarrel_30 : decode cX0_findQuarrel 30 = .ok (.iconst 0, 1) := dk_3 (dk_at dksX0_findQuarrel_1 7 rfl rfl)
theorem dX0_findQuarrel_31 : decode cX0_findQuarrel 31 = .ok (.putfield 453, 3) := dk_181 1 197 (dk_at dksX0_findQuarrel_1 8 rfl rfl)
theorem dX0_findQuarrel_34 : decode cX0_findQuarrel 34 = .ok (.aload_n 0, 1) := dk_42 (dk_at dksX0_findQuarrel_1 11 rfl rfl)
theorem dX0_findQuarrel_35 : decode cX0_findQuarrel 35 = .ok (.getfield 416, 3) := dk_180 1 160 (dk_at dksX0_findQuarrel_1 12 rfl rfl)
theorem dX0_findQuarrel_38 : decode cX0_findQuarrel 38 = .ok (.ifCond .ne 4, 3) := dk_154 0 4 (dk_at dksX0_findQuarrel_1 15 rfl rfl)
theorem dX0_findQuarrel_41 : decode cX0_findQuarrel 41 = .ok (.return_, 1) := dk_177 (dk_at dksX0_findQuarrel_1 18 rfl rfl)
theorem dX0_findQuarrel_42 : decode cX0_findQuarrel 42 = .ok (.aload_n 0, 1) := dk_42 (dk_at dksX0_findQuarrel_1 19 rfl rfl)
theorem dX0_findQuarrel_43 : decode cX0_findQuarrel 43 = .ok (.invokevirtual 442, 3) := dk_182 1 186 (dk_at dksX0_findQuarrel_1 20 rfl rfl)
theorem dX0_findQuarrel_46 : decode cX0_findQuarrel 46 = .ok (.iconst 0, 1) := dk_3 (dk_at dksX0_findQuarrel_1 23 rfl rfl)
theorem dX0_findQuarrel_47 : decode cX0_findQuarrel 47 = .ok (.istore_n 1, 1) := dk_60 (dk_at dksX0_findQuarrel_2 0 rfl rfl)
theorem dX0_findQuarrel_48 : decode cX0_findQuarrel 48 = .ok (.iload_n 1, 1) := dk_27 (dk_at dksX0_findQuarrel_2 1 rfl rfl)
theorem dX0_findQuarrel_49 : decode cX0_findQuarrel 49 = .ok (.aload_n 0, 1) := dk_42 (dk_at dksX0_findQuarrel_2 2 rfl rfl)
theorem dX0_findQuarrel_50 : decode cX0_findQuarrel 50 = .ok (.getfield 29, 3) := dk_180 0 29 (dk_at dksX0_findQuarrel_2 3 rfl rfl)
theorem dX0_findQuarrel_53 : decode cX0_findQuarrel 53 = .ok (.invokeinterface 180 1, 5) := by decide +kernel
theorem dX0_findQuarrel_58 : decode cX0_findQuarrel 58 = .ok (.if_icmp .ge 93, 3) := dk_162 0 93 (dk_at dksX0_findQuarrel_2 11 rfl rfl)
theorem dX0_findQuarrel_61 : decode cX0_findQuarrel 61 = .ok (.aload_n 0, 1) := dk_42 (dk_at dksX0_findQuarrel_2 14 rfl rfl)
theorem dX0_findQuarrel_62 : decode cX0_findQuarrel 62 = .ok (.getfield 42, 3) := dk_180 0 42 (dk_at dksX0_findQuarrel_2 15 rfl rfl)
theorem dX0_findQuarrel_65 : decode cX0_findQuarrel 65 = .ok (.iload_n 1, 1) := dk_27 (dk_at dksX0_findQuarrel_2 18 rfl rfl)
theorem dX0_findQuarrel_66 : decode cX0_findQuarrel 66 = .ok (.aload_n 0, 1) := dk_42 (dk_at dksX0_findQuarrel_2 19 rfl rfl)
theorem dX0_findQuarrel_67 : decode cX0_findQuarrel 67 = .ok (.getfield 38, 3) := dk_180 0 38 (dk_at dksX0_findQuarrel_2 20 rfl rfl)
theorem dX0_findQuarrel_70 : decode cX0_findQuarrel 70 = .ok (.iload_n 1, 1) := dk_27 (dk_at dksX0_findQuarrel_2 23 rfl rfl)
theorem dX0_findQuarrel_71 : decode cX0_findQuarrel 71 = .ok (.baload, 1) := dk_51 (dk_at dksX0_findQuarrel_3 0 rfl rfl)
theorem dX0_findQuarrel_72 : decode cX0_findQuarrel 72 = .ok (.bastore, 1) := dk_84 (dk_at dksX0_findQuarrel_3 1 rfl rfl)
theorem dX0_findQuarrel_73 : decode cX0_findQuarrel 73 = .ok (.aload_n 0, 1) := dk_42 (dk_at dksX0_findQuarrel_3 2 rfl rfl)
theorem dX0_findQuarrel_74 : decode cX0_findQuarrel 74 = .ok (.getfield 38, 3) := dk_180 0 38 (dk_at dksX0_findQuarrel_3 3 rfl rfl)
theorem dX0_findQuarrel_77 : decode cX0_findQuarrel 77 = .ok (.iload_n 1, 1) := dk_27 (dk_at dksX0_findQuarrel_3 6 rfl rfl)
theorem dX0_findQuarrel_78 : decode cX0_findQuarrel 78 = .ok (.baload, 1) := dk_51 (dk_at dksX0_findQuarrel_3 7 rfl rfl)
theorem dX0_findQuarrel_79 : decode cX0_findQuarrel 79 = .ok (.ifCond .ne 6, 3) := dk_154 0 6 (dk_at dksX0_findQuarrel_3 8 rfl rfl)
theorem dX0_findQuarrel_82 : decode cX0_findQuarrel 82 = .ok (.goto 63, 3) := dk_167 0 63 (dk_at dksX0_findQuarrel_3 11 rfl rfl)
theorem dX0_findQuarrel_85 : decode cX0_findQuarrel 85 = .ok (.aload_n 0, 1) := dk_42 (dk_at dksX0_findQuarrel_3 14 rfl rfl)
theorem dX0_findQuarrel_86 : decode cX0_findQuarrel 86 = .ok (.getfield 38, 3) := dk_180 0 38 (dk_at dksX0_findQuarrel_3 15 rfl rfl)
theorem dX0_findQuarrel_89 : decode cX0_findQuarrel 89 = .ok (.iload_n 1, 1) := dk_27 (dk_at dksX0_findQuarrel_3 18 rfl rfl)
theorem dX0_findQuarrel_90 : decode cX0_findQuarrel 90 = .ok (.iconst 0, 1) := dk_3 (dk_at dksX0_findQuarrel_3 19 rfl rfl)
theorem dX0_findQuarrel_91 : decode cX0_findQuarrel 91 = .ok (.bastore, 1) := dk_84 (dk_at dksX0_findQuarrel_3 20 rfl rfl)
theorem dX0_findQuarrel_92 : decode cX0_findQuarrel 92 = .ok (.aload_n 0, 1) := dk_42 (dk_at dksX0_findQuarrel_3 21 rfl rfl)
theorem dX0_findQuarrel_93 : decode cX0_findQuarrel 93 = .ok (.getfield 42, 3) := dk_180 0 42 (dk_at dksX0_findQuarrel_4 0 rfl rfl)
theorem dX0_findQuarrel_96 : decode cX0_findQuarrel 96 = .ok (.iload_n 1, 1) := dk_27 (dk_at dksX0_findQuarrel_4 3 rfl rfl)
theorem dX0_findQuarrel_97 : decode cX0_findQuarrel 97 = .ok (.aload_n 0, 1) := dk_42 (dk_at dksX0_findQuarrel_4 4 rfl rfl)
theorem dX0_findQuarrel_98 : decode cX0_findQuarrel 98 = .ok (.invokevirtual 456, 3) := dk_182 1 200 (dk_at dksX0_findQuarrel_4 5 rfl rfl)
theorem dX0_findQuarrel_101 : decode cX0_findQuarrel 101 = .ok (.ifCond .ne 7, 3) := dk_154 0 7 (dk_at dksX0_findQuarrel_4 8 rfl rfl)
theorem dX0_findQuarrel_104 : decode cX0_findQuarrel 104 = .ok (.iconst 1, 1) := dk_4 (dk_at dksX0_findQuarrel_4 11 rfl rfl)
theorem dX0_findQuarrel_105 : decode cX0_findQuarrel 105 = .ok (.goto 4, 3) := dk_167 0 4 (dk_at dksX0_findQuarrel_4 12 rfl rfl)
theorem dX0_findQuarrel_108 : decode cX0_findQuarrel 108 = .ok (.iconst 0, 1) := dk_3 (dk_at dksX0_findQuarrel_4 15 rfl rfl)
theorem dX0_findQuarrel_109 : decode cX0_findQuarrel 109 = .ok (.bastore, 1) := dk_84 (dk_at dksX0_findQuarrel_4 16 rfl rfl)
theorem dX0_findQuarrel_110 : decode cX0_findQuarrel 110 = .ok (.aload_n 0, 1) := dk_42 (dk_at dksX0_findQuarrel_4 17 rfl rfl)
theorem dX0_findQuarrel_111 : decode cX0_findQuarrel 111 = .ok (.getfield 38, 3) := dk_180 0 38 (dk_at dksX0_findQuarrel_4 18 rfl rfl)
theorem dX0_findQuarrel_114 : decode cX0_findQuarrel 114 = .ok (.iload_n 1, 1) := dk_27 (dk_at dksX0_findQuarrel_4 21 rfl rfl)
theorem dX0_findQuarrel_115 : decode cX0_findQuarrel 115 = .ok (.aload_n 0, 1) := dk_42 (dk_at dksX0_findQuarrel_4 22 rfl rfl)
theorem dX0_findQuarrel_116 : decode cX0_findQuarrel 116 = .ok (.getfield 42, 3) := dk_180 0 42 (dk_at dksX0_findQuarrel_5 0 rfl rfl)
theorem dX0_findQuarrel_119 : decode cX0_findQuarrel 119 = .ok (.iload_n 1, 1) := dk_27 (dk_at dksX0_findQuarrel_5 3 rfl rfl)
theorem dX0_findQuarrel_120 : decode cX0_findQuarrel 120 = .ok (.baload, 1) := dk_51 (dk_at dksX0_findQuarrel_5 4 rfl rfl)
theorem dX0_findQuarrel_121 : decode cX0_findQuarrel 121 = .ok (.bastore, 1) := dk_84 (dk_at dksX0_findQuarrel_5 5 rfl rfl)
theorem dX0_findQuarrel_122 : decode cX0_findQuarrel 122 = .ok (.aload_n 0, 1) := dk_42 (dk_at dksX0_findQuarrel_5 6 rfl rfl)
theorem dX0_findQuarrel_123 : decode cX0_findQuarrel 123 = .ok (.dup, 1) := dk_89 (dk_at dksX0_findQuarrel_5 7 rfl rfl)
theorem dX0_findQuarrel_124 : decode cX0_findQuarrel 124 = .ok (.getfield 453, 3) := dk_180 1 197 (dk_at dksX0_findQuarrel_5 8 rfl rfl)
theorem dX0_findQuarrel_127 : decode cX0_findQuarrel 127 = .ok (.aload_n 0, 1) := dk_42 (dk_at dksX0_findQuarrel_5 11 rfl rfl)
theorem dX0_findQuarrel_128 : decode cX0_findQuarrel 128 = .ok (.getfield 42, 3) := dk_180 0 42 (dk_at dksX0_findQuarrel_5 12 rfl rfl)
theorem dX0_findQuarrel_131 : decode cX0_findQuarrel 131 = .ok (.iload_n 1, 1) := dk_27 (dk_at dksX0_findQuarrel_5 15 rfl rfl)
theorem dX0_findQuarrel_132 : decode cX0_findQuarrel 132 = .ok (.baload, 1) := dk_51 (dk_at dksX0_findQuarrel_5 16 rfl rfl)
theorem dX0_findQuarrel_133 : decode cX0_findQuarrel 133 = .ok (.ifCond .eq 7, 3) := dk_153 0 7 (dk_at dksX0_findQuarrel_5 17 rfl rfl)
theorem dX0_findQuarrel_136 : decode cX0_findQuarrel 136 = .ok (.iconst 1, 1) := dk_4 (dk_at dksX0_findQuarrel_5 20 rfl rfl)
theorem dX0_findQuarrel_137 : decode cX0_findQuarrel 137 = .ok (.goto 4, 3) := dk_167 0 4 (dk_at dksX0_findQuarrel_5 21 rfl rfl)
theorem dX0_findQuarrel_140 : decode cX0_findQuarrel 140 = .ok (.iconst 0, 1) := dk_3 (dk_at dksX0_findQuarrel_6 0 rfl rfl)
theorem dX0_findQuarrel_141 : decode cX0_findQuarrel 141 = .ok (.iadd, 1) := dk_96 (dk_at dksX0_findQuarrel_6 1 rfl rfl)
theorem dX0_findQuarrel_142 : decode cX0_findQuarrel 142 = .ok (.putfield 453, 3) := dk_181 1 197 (dk_at dksX0_findQuarrel_6 2 rfl rfl)
theorem dX0_findQuarrel_145 : decode cX0_findQuarrel 145 = .ok (.iinc 1 1, 3) := dk_132 1 1 (dk_at dksX0_findQuarrel_6 5 rfl rfl)
theorem dX0_findQuarrel_148 : decode cX0_findQuarrel 148 = .ok (.goto (-100), 3) := dk_167 255 156 (dk_at dksX0_findQuarrel_6 8 rfl rfl)
theorem dX0_findQuarrel_151 : decode cX0_findQuarrel 151 = .ok (.return_, 1) := dk_177 (dk_at dksX0_findQuarrel_6 11 rfl rfl)
abbrev cX0_isEmpty : ByteArray := prog_1_method_56_code
def yX0_isEmpty : MethodName := ⟨RX0, "isEmpty", "([J)Z"⟩
def dkwX0_isEmpty_1 : List UInt8 := [154, 0, 7, 4, 167, 0, 4, 3, 128, 61, 132, 3, 1, 167, 255, 224, 28, 172]
abbrev dktX0_isEmpty_1 : List UInt8 := dkwX0_isEmpty_1 ++ []
def dkwX0_isEmpty_0 : List UInt8 := [3, 61, 3, 62, 29, 42, 180, 0, 25, 185, 0, 180, 1, 0, 162, 0, 25, 28, 43, 29, 47, 9, 148]
abbrev dktX0_isEmpty_0 : List UInt8 := dkwX0_isEmpty_0 ++ dktX0_isEmpty_1
theorem dksX0_isEmpty_0 : cX0_isEmpty.data.toList.drop 0 = dktX0_isEmpty_0 := by decide +kernel
theorem dksX0_isEmpty_1 : cX0_isEmpty.data.toList.drop 23 = dktX0_isEmpty_1 := dk_seg dksX0_isEmpty_0 23 rfl rfl
theorem dX0_isEmpty_0 : decode cX0_isEmpty 0 = .ok (.iconst 0, 1) := dk_3 (dk_at dksX0_isEmpty_0 0 rfl rfl)
theorem dX0_isEmpty_1 : decode cX0_isEmpty 1 = .ok (.istore_n 2, 1) := dk_61 (dk_at dksX0_isEmpty_0 1 rfl rfl)
theorem dX0_isEmpty_2 : decode cX0_isEmpty 2 = .ok (.iconst 0, 1) := dk_3 (dk_at dksX0_isEmpty_0 2 rfl rfl)
theorem dX0_isEmpty_3 : decode cX0_isEmpty 3 = .ok (.istore_n 3, 1) := dk_62 (dk_at dksX0_isEmpty_0 3 rfl rfl)
theorem dX0_isEmpty_4 : decode cX0_isEmpty 4 = .ok (.iload_n 3, 1) := dk_29 (dk_at dksX0_isEmpty_0 4 rfl rfl)
theorem dX0_isEmpty_5 : decode cX0_isEmpty 5 = .ok (.aload_n 0, 1) := dk_42 (dk_at dksX0_isEmpty_0 5 rfl rfl)
theorem dX0_isEmpty_6 : decode cX0_isEmpty 6 = .ok (.getfield 25, 3) := dk_180 0 25 (dk_at dksX0_isEmpty_0 6 rfl rfl)
theorem dX0_isEmpty_9 : decode cX0_isEmpty 9 = .ok (.invokeinterface 180 1, 5) := by decide +kernel
theorem dX0_isEmpty_14 : decode cX0_isEmpty 14 = .ok (.if_icmp .ge 25, 3) := dk_162 0 25 (dk_at dksX0_isEmpty_0 14 rfl rfl)
theorem dX0_isEmpty_17 : decode cX0_isEmpty 17 = .ok (.iload_n 2, 1) := dk_28 (dk_at dksX0_isEmpty_0 17 rfl rfl)
theorem dX0_isEmpty_18 : decode cX0_isEmpty 18 = .ok (.aload_n 1, 1) := dk_43 (dk_at dksX0_isEmpty_0 18 rfl rfl)
theorem dX0_isEmpty_19 : decode cX0_isEmpty 19 = .ok (.iload_n 3, 1) := dk_29 (dk_at dksX0_isEmpty_0 19 rfl rfl)
theorem dX0_isEmpty_20 : decode cX0_isEmpty 20 = .ok (.laload, 1) := dk_47 (dk_at dksX0_isEmpty_0 20 rfl rfl)
theorem dX0_isEmpty_21 : decode cX0_isEmpty 21 = .ok (.lconst 0, 1) := dk_9 (dk_at dksX0_isEmpty_0 21 rfl rfl)
theorem dX0_isEmpty_22 : decode cX0_isEmpty 22 = .ok (.lcmp, 1) := dk_148 (dk_at dksX0_isEmpty_0 22 rfl rfl)
theorem dX0_isEmpty_23 : decode cX0_isEmpty 23 = .ok (.ifCond .ne 7, 3) := dk_154 0 7 (dk_at dksX0_isEmpty_1 0 rfl rfl)
theorem dX0_isEmpty_26 : decode cX0_isEmpty 26 = .ok (.iconst 1, 1) := dk_4 (dk_at dksX0_isEmpty_1 3 rfl rfl)
theorem dX0_isEmpty_27 : decode cX0_isEmpty 27 = .ok (.goto 4, 3) := dk_167 0 4 (dk_at dksX0_isEmpty_1 4 rfl rfl)
theorem dX0_isEmpty_30 : decode cX0_isEmpty 30 = .ok (.iconst 0, 1) := dk_3 (dk_at dksX0_isEmpty_1 7 rfl rfl)
theorem dX0_isEmpty_31 : decode cX0_isEmpty 31 = .ok (.ior, 1) := dk_128 (dk_at dksX0_isEmpty_1 8 rfl rfl)
theorem dX0_isEmpty_32 : decode cX0_isEmpty 32 = .ok (.istore_n 2, 1) := dk_61 (dk_at dksX0_isEmpty_1 9 rfl rfl)
theorem dX0_isEmpty_33 : decode cX0_isEmpty 33 = .ok (.iinc 3 1, 3) := dk_132 3 1 (dk_at dksX0_isEmpty_1 10 rfl rfl)
theorem dX0_isEmpty_36 : decode cX0_isEmpty 36 = .ok (.goto (-32), 3) := dk_167 255 224 (dk_at dksX0_isEmpty_1 13 rfl rfl)
theorem dX0_isEmpty_39 : decode cX0_isEmpty 39 = .ok (.iload_n 2, 1) := dk_28 (dk_at dksX0_isEmpty_1 16 rfl rfl)
theorem dX0_isEmpty_40 : decode cX0_isEmpty 40 = .ok (.ireturn, 1) := dk_172 (dk_at dksX0_isEmpty_1 17 rfl rfl)
abbrev cX0_isStillQuarrel : ByteArray := prog_1_method_57_code
def yX0_isStillQuarrel : MethodName := ⟨RX0, "isStillQuarrel", "()Z"⟩
def dkwX0_isStillQuarrel_0 : List UInt8 := [42, 42, 180, 0, 35, 182, 1, 189, 42, 42, 180, 0, 35, 182, 1, 193, 172]
abbrev dktX0_isStillQuarrel_0 : List UInt8 := dkwX0_isStillQuarrel_0 ++ []
theorem dksX0_isStillQuarrel_0 : cX0_isStillQuarrel.data.toList.drop 0 = dktX0_isStillQuarrel_0 := by decide +kernel
theorem dX0_isStillQuarrel_0 : decode cX0_isStillQuarrel 0 = .ok (.aload_n 0, 1) := dk_42 (dk_at dksX0_isStillQuarrel_0 0 rfl rfl)
theorem dX0_isStillQuarrel_1 : decode cX0_isStillQuarrel 1 = .ok (.aload_n 0, 1) := dk_42 (dk_at dksX0_isStillQuarrel_0 1 rfl rfl)
theorem dX0_isStillQuarrel_2 : decode cX0_isStillQuarrel 2 = .ok (.getfield 35, 3) := dk_180 0 35 (dk_at dksX0_isStillQuarrel_0 2 rfl rfl)
theorem dX0_isStillQuarrel_5 : decode cX0_isStillQuarrel 5 = .ok (.invokevirtual 445, 3) := dk_182 1 189 (dk_at dksX0_isStillQuarrel_0 5 rfl rfl)
theorem dX0_isStillQuarrel_8 : decode cX0_isStillQuarrel 8 = .ok (.aload_n 0, 1) := dk_42 (dk_at dksX0_isStillQuarrel_0 8 rfl rfl)
theorem dX0_isStillQuarrel_9 : decode cX0_isStillQuarrel 9 = .ok (.aload_n 0, 1) := dk_42 (dk_at dksX0_isStillQuarrel_0 9 rfl rfl)
theorem dX0_isStillQuarrel_10 : decode cX0_isStillQuarrel 10 = .ok (.getfield 35, 3) := dk_180 0 35 (dk_at dksX0_isStillQuarrel_0 10 rfl rfl)
theorem dX0_isStillQuarrel_13 : decode cX0_isStillQuarrel 13 = .ok (.invokevirtual 449, 3) := dk_182 1 193 (dk_at dksX0_isStillQuarrel_0 13 rfl rfl)
theorem dX0_isStillQuarrel_16 : decode cX0_isStillQuarrel 16 = .ok (.ireturn, 1) := dk_172 (dk_at dksX0_isStillQuarrel_0 16 rfl rfl)
abbrev cX0_keeps : ByteArray := prog_1_method_49_code
def yX0_keeps : MethodName := ⟨RX0, "keeps", "(III)I"⟩
def dkwX0_keeps_2 : List UInt8 := [153, 0, 7, 4, 167, 0, 4, 3, 172]
abbrev dktX0_keeps_2 : List UInt8 := dkwX0_keeps_2 ++ []
def dkwX0_keeps_1 : List UInt8 := [2, 172, 42, 180, 0, 29, 27, 185, 0, 186, 2, 0, 192, 0, 214, 180, 1, 163, 28, 47, 29, 184, 0, 161]
abbrev dktX0_keeps_1 : List UInt8 := dkwX0_keeps_1 ++ dktX0_keeps_2
def dkwX0_keeps_0 : List UInt8 := [42, 27, 182, 1, 140, 153, 0, 19, 42, 28, 182, 0, 219, 153, 0, 11, 42, 29, 182, 0, 219, 154, 0, 5]
abbrev dktX0_keeps_0 : List UInt8 := dkwX0_keeps_0 ++ dktX0_keeps_1
theorem dksX0_keeps_0 : cX0_keeps.data.toList.drop 0 = dktX0_keeps_0 := by decide +kernel
theorem dksX0_keeps_1 : cX0_keeps.data.toList.drop 24 = dktX0_keeps_1 := dk_seg dksX0_keeps_0 24 rfl rfl
theorem dksX0_keeps_2 : cX0_keeps.data.toList.drop 48 = dktX0_keeps_2 := dk_seg dksX0_keeps_1 24 rfl rfl
theorem dX0_keeps_0 : decode cX0_keeps 0 = .ok (.aload_n 0, 1) := dk_42 (dk_at dksX0_keeps_0 0 rfl rfl)
theorem dX0_keeps_1 : decode cX0_keeps 1 = .ok (.iload_n 1, 1) := dk_27 (dk_at dksX0_keeps_0 1 rfl rfl)
theorem dX0_keeps_2 : decode cX0_keeps 2 = .ok (.invokevirtual 396, 3) := dk_182 1 140 (dk_at dksX0_keeps_0 2 rfl rfl)
theorem dX0_keeps_5 : decode cX0_keeps 5 = .ok (.ifCond .eq 19, 3) := dk_153 0 19 (dk_at dksX0_keeps_0 5 rfl rfl)
theorem dX0_keeps_8 : decode cX0_keeps 8 = .ok (.aload_n 0, 1) := dk_42 (dk_at dksX0_keeps_0 8 rfl rfl)
theorem dX0_keeps_9 : decode cX0_keeps 9 = .ok (.iload_n 2, 1) := dk_28 (dk_at dksX0_keeps_0 9 rfl rfl)
theorem dX0_keeps_10 : decode cX0_keeps 10 = .ok (.invokevirtual 219, 3) := dk_182 0 219 (dk_at dksX0_keeps_0 10 rfl rfl)
theorem dX0_keeps_13 : decode cX0_keeps 13 = .ok (.ifCond .eq 11, 3) := dk_153 0 11 (dk_at dksX0_keeps_0 13 rfl rfl)
theorem dX0_keeps_16 : decode cX0_keeps 16 = .ok (.aload_n 0, 1) := dk_42 (dk_at dksX0_keeps_0 16 rfl rfl)
theorem dX0_keeps_17 : decode cX0_keeps 17 = .ok (.iload_n 3, 1) := dk_29 (dk_at dksX0_keeps_0 17 rfl rfl)
theorem dX0_keeps_18 : decode cX0_keeps 18 = .ok (.invokevirtual 219, 3) := dk_182 0 219 (dk_at dksX0_keeps_0 18 rfl rfl)
theorem dX0_keeps_21 : decode cX0_keeps 21 = .ok (.ifCond .ne 5, 3) := dk_154 0 5 (dk_at dksX0_keeps_0 21 rfl rfl)
theorem dX0_keeps_24 : decode cX0_keeps 24 = .ok (.iconst (-1), 1) := dk_2 (dk_at dksX0_keeps_1 0 rfl rfl)
theorem dX0_keeps_25 : decode cX0_keeps 25 = .ok (.ireturn, 1) := dk_172 (dk_at dksX0_keeps_1 1 rfl rfl)
theorem dX0_keeps_26 : decode cX0_keeps 26 = .ok (.aload_n 0, 1) := dk_42 (dk_at dksX0_keeps_1 2 rfl rfl)
theorem dX0_keeps_27 : decode cX0_keeps 27 = .ok (.getfield 29, 3) := dk_180 0 29 (dk_at dksX0_keeps_1 3 rfl rfl)
theorem dX0_keeps_30 : decode cX0_keeps 30 = .ok (.iload_n 1, 1) := dk_27 (dk_at dksX0_keeps_1 6 rfl rfl)
theorem dX0_keeps_31 : decode cX0_keeps 31 = .ok (.invokeinterface 186 2, 5) := by decide +kernel
theorem dX0_keeps_36 : decode cX0_keeps 36 = .ok (.checkcast 214, 3) := dk_192 0 214 (dk_at dksX0_keeps_1 12 rfl rfl)
theorem dX0_keeps_39 : decode cX0_keeps 39 = .ok (.getfield 419, 3) := dk_180 1 163 (dk_at dksX0_keeps_1 15 rfl rfl)
theorem dX0_keeps_42 : decode cX0_keeps 42 = .ok (.iload_n 2, 1) := dk_28 (dk_at dksX0_keeps_1 18 rfl rfl)
theorem dX0_keeps_43 : decode cX0_keeps 43 = .ok (.laload, 1) := dk_47 (dk_at dksX0_keeps_1 19 rfl rfl)
theorem dX0_keeps_44 : decode cX0_keeps 44 = .ok (.iload_n 3, 1) := dk_29 (dk_at dksX0_keeps_1 20 rfl rfl)
theorem dX0_keeps_45 : decode cX0_keeps 45 = .ok (.invokestatic 161, 3) := dk_184 0 161 (dk_at dksX0_keeps_1 21 rfl rfl)
theorem dX0_keeps_48 : decode cX0_keeps 48 = .ok (.ifCond .eq 7, 3) := dk_153 0 7 (dk_at dksX0_keeps_2 0 rfl rfl)
theorem dX0_keeps_51 : decode cX0_keeps 51 = .ok (.iconst 1, 1) := dk_4 (dk_at dksX0_keeps_2 3 rfl rfl)
theorem dX0_keeps_52 : decode cX0_keeps 52 = .ok (.goto 4, 3) := dk_167 0 4 (dk_at dksX0_keeps_2 4 rfl rfl)
theorem dX0_keeps_55 : decode cX0_keeps 55 = .ok (.iconst 0, 1) := dk_3 (dk_at dksX0_keeps_2 7 rfl rfl)
theorem dX0_keeps_56 : decode cX0_keeps 56 = .ok (.ireturn, 1) := dk_172 (dk_at dksX0_keeps_2 8 rfl rfl)
abbrev cX0_quarrel : ByteArray := prog_1_method_59_code
def yX0_quarrel : MethodName := ⟨RX0, "quarrel", "()I"⟩
def dkwX0_quarrel_0 : List UInt8 := [42, 182, 1, 157, 42, 180, 1, 160, 153, 0, 10, 42, 180, 1, 197, 167, 0, 5, 16, 247, 172]
abbrev dktX0_quarrel_0 : List UInt8 := dkwX0_quarrel_0 ++ []
theorem dksX0_quarrel_0 : cX0_quarrel.data.toList.drop 0 = dktX0_quarrel_0 := by decide +kernel
theorem dX0_quarrel_0 : decode cX0_quarrel 0 = .ok (.aload_n 0, 1) := dk_42 (dk_at dksX0_quarrel_0 0 rfl rfl)
theorem dX0_quarrel_1 : decode cX0_quarrel 1 = .ok (.invokevirtual 413, 3) := dk_182 1 157 (dk_at dksX0_quarrel_0 1 rfl rfl)
theorem dX0_quarrel_4 : decode cX0_quarrel 4 = .ok (.aload_n 0, 1) := dk_42 (dk_at dksX0_quarrel_0 4 rfl rfl)
theorem dX0_quarrel_5 : decode cX0_quarrel 5 = .ok (.getfield 416, 3) := dk_180 1 160 (dk_at dksX0_quarrel_0 5 rfl rfl)
theorem dX0_quarrel_8 : decode cX0_quarrel 8 = .ok (.ifCond .eq 10, 3) := dk_153 0 10 (dk_at dksX0_quarrel_0 8 rfl rfl)
theorem dX0_quarrel_11 : decode cX0_quarrel 11 = .ok (.aload_n 0, 1) := dk_42 (dk_at dksX0_quarrel_0 11 rfl rfl)
theorem dX0_quarrel_12 : decode cX0_quarrel 12 = .ok (.getfield 453, 3) := dk_180 1 197 (dk_at dksX0_quarrel_0 12 rfl rfl)
theorem dX0_quarrel_15 : decode cX0_quarrel 15 = .ok (.goto 5, 3) := dk_167 0 5 (dk_at dksX0_quarrel_0 15 rfl rfl)
theorem dX0_quarrel_18 : decode cX0_quarrel 18 = .ok (.bipush (-9), 2) := dk_16 247 (dk_at dksX0_quarrel_0 18 rfl rfl)
theorem dX0_quarrel_20 : decode cX0_quarrel 20 = .ok (.ireturn, 1) := dk_172 (dk_at dksX0_quarrel_0 20 rfl rfl)
abbrev cX0_group : ByteArray := prog_1_method_63_code
def yX0_group : MethodName := ⟨RX0, "group", "(I)I"⟩
def dkwX0_group_0 : List UInt8 := [42, 27, 182, 1, 37, 153, 0, 11, 42, 27, 182, 1, 210, 167, 0, 4, 3, 172]
abbrev dktX0_group_0 : List UInt8 := dkwX0_group_0 ++ []
theorem dksX0_group_0 : cX0_group.data.toList.drop 0 = dktX0_group_0 := by decide +kernel
theorem dX0_group_0 : decode cX0_group 0 = .ok (.aload_n 0, 1) := dk_42 (dk_at dksX0_group_0 0 rfl rfl)
theorem dX0_group_1 : decode cX0_group 1 = .ok (.iload_n 1, 1) := dk_27 (dk_at dksX0_group_0 1 rfl rfl)
theorem dX0_group_2 : decode cX0_group 2 = .ok (.invokevirtual 293, 3) := dk_182 1 37 (dk_at dksX0_group_0 2 rfl rfl)
theorem dX0_group_5 : decode cX0_group 5 = .ok (.ifCond .eq 11, 3) := dk_153 0 11 (dk_at dksX0_group_0 5 rfl rfl)
theorem dX0_group_8 : decode cX0_group 8 = .ok (.aload_n 0, 1) := dk_42 (dk_at dksX0_group_0 8 rfl rfl)
theorem dX0_group_9 : decode cX0_group 9 = .ok (.iload_n 1, 1) := dk_27 (dk_at dksX0_group_0 9 rfl rfl)
theorem dX0_group_10 : decode cX0_group 10 = .ok (.invokevirtual 466, 3) := dk_182 1 210 (dk_at dksX0_group_0 10 rfl rfl)
theorem dX0_group_13 : decode cX0_group 13 = .ok (.goto 4, 3) := dk_167 0 4 (dk_at dksX0_group_0 13 rfl rfl)
theorem dX0_group_16 : decode cX0_group 16 = .ok (.iconst 0, 1) := dk_3 (dk_at dksX0_group_0 16 rfl rfl)
theorem dX0_group_17 : decode cX0_group 17 = .ok (.ireturn, 1) := dk_172 (dk_at dksX0_group_0 17 rfl rfl)
abbrev cX0_groupOf : ByteArray := prog_1_method_62_code
def yX0_groupOf : MethodName := ⟨RX0, "groupOf", "(I)I"⟩
def dkwX0_groupOf_1 : List UInt8 := [167, 0, 9, 42, 27, 2, 182, 1, 207, 172]
abbrev dktX0_groupOf_1 : List UInt8 := dkwX0_groupOf_1 ++ []
def dkwX0_groupOf_0 : List UInt8 := [42, 180, 0, 25, 27, 185, 0, 186, 2, 0, 192, 0, 190, 182, 0, 192, 153, 0, 9, 4, 27, 120]
abbrev dktX0_groupOf_0 : List UInt8 := dkwX0_groupOf_0 ++ dktX0_groupOf_1
theorem dksX0_groupOf_0 : cX0_groupOf.data.toList.drop 0 = dktX0_groupOf_0 := by decide +kernel
theorem dksX0_groupOf_1 : cX0_groupOf.data.toList.drop 22 = dktX0_groupOf_1 := dk_seg dksX0_groupOf_0 22 rfl rfl
theorem dX0_groupOf_0 : decode cX0_groupOf 0 = .ok (.aload_n 0, 1) := dk_42 (dk_at dksX0_groupOf_0 0 rfl rfl)
theorem dX0_groupOf_1 : decode cX0_groupOf 1 = .ok (.getfield 25, 3) := dk_180 0 25 (dk_at dksX0_groupOf_0 1 rfl rfl)
theorem dX0_groupOf_4 : decode cX0_groupOf 4 = .ok (.iload_n 1, 1) := dk_27 (dk_at dksX0_groupOf_0 4 rfl rfl)
theorem dX0_groupOf_5 : decode cX0_groupOf 5 = .ok (.invokeinterface 186 2, 5) := by decide +kernel
theorem dX0_groupOf_10 : decode cX0_groupOf 10 = .ok (.checkcast 190, 3) := dk_192 0 190 (dk_at dksX0_groupOf_0 10 rfl rfl)
theorem dX0_groupOf_13 : decode cX0_groupOf 13 = .ok (.invokevirtual 192, 3) := dk_182 0 192 (dk_at dksX0_groupOf_0 13 rfl rfl)
theorem dX0_groupOf_16 : decode cX0_groupOf 16 = .ok (.ifCond .eq 9, 3) := dk_153 0 9 (dk_at dksX0_groupOf_0 16 rfl rfl)
theorem dX0_groupOf_19 : decode cX0_groupOf 19 = .ok (.iconst 1, 1) := dk_4 (dk_at dksX0_groupOf_0 19 rfl rfl)
theorem dX0_groupOf_20 : decode cX0_groupOf 20 = .ok (.iload_n 1, 1) := dk_27 (dk_at dksX0_groupOf_0 20 rfl rfl)
theorem dX0_groupOf_21 : decode cX0_groupOf 21 = .ok (.ishl, 1) := dk_120 (dk_at dksX0_groupOf_0 21 rfl rfl)
theorem dX0_groupOf_22 : decode cX0_groupOf 22 = .ok (.goto 9, 3) := dk_167 0 9 (dk_at dksX0_groupOf_1 0 rfl rfl)
theorem dX0_groupOf_25 : decode cX0_groupOf 25 = .ok (.aload_n 0, 1) := dk_42 (dk_at dksX0_groupOf_1 3 rfl rfl)
theorem dX0_groupOf_26 : decode cX0_groupOf 26 = .ok (.iload_n 1, 1) := dk_27 (dk_at dksX0_groupOf_1 4 rfl rfl)
theorem dX0_groupOf_27 : decode cX0_groupOf 27 = .ok (.iconst (-1), 1) := dk_2 (dk_at dksX0_groupOf_1 5 rfl rfl)
theorem dX0_groupOf_28 : decode cX0_groupOf 28 = .ok (.invokevirtual 463, 3) := dk_182 1 207 (dk_at dksX0_groupOf_1 6 rfl rfl)
theorem dX0_groupOf_31 : decode cX0_groupOf 31 = .ok (.ireturn, 1) := dk_172 (dk_at dksX0_groupOf_1 9 rfl rfl)
abbrev cX0_comeTo : ByteArray := prog_1_method_61_code
def yX0_comeTo : MethodName := ⟨RX0, "comeTo", "(II)I"⟩
def dkwX0_comeTo_4 : List UInt8 := [153, 0, 8, 29, 21, 7, 128, 62, 132, 5, 1, 167, 255, 173, 167, 255, 158, 29, 172]
abbrev dktX0_comeTo_4 : List UInt8 := dkwX0_comeTo_4 ++ []
def dkwX0_comeTo_3 : List UInt8 := [4, 25, 6, 180, 1, 148, 120, 128, 54, 7, 21, 7, 28, 2, 130, 126, 154, 0, 15, 21, 7, 29, 126]
abbrev dktX0_comeTo_3 : List UInt8 := dkwX0_comeTo_3 ++ dktX0_comeTo_4
def dkwX0_comeTo_2 : List UInt8 := [192, 0, 214, 58, 6, 42, 25, 6, 182, 1, 203, 154, 0, 6, 167, 0, 41, 4, 25, 6, 180, 1, 145, 120]
abbrev dktX0_comeTo_2 : List UInt8 := dkwX0_comeTo_2 ++ dktX0_comeTo_3
def dkwX0_comeTo_1 : List UInt8 := [180, 0, 29, 185, 0, 180, 1, 0, 162, 0, 75, 42, 180, 0, 29, 21, 5, 185, 0, 186, 2, 0]
abbrev dktX0_comeTo_1 : List UInt8 := dkwX0_comeTo_1 ++ dktX0_comeTo_2
def dkwX0_comeTo_0 : List UInt8 := [4, 27, 120, 62, 3, 54, 4, 29, 21, 4, 159, 0, 98, 29, 54, 4, 3, 54, 5, 21, 5, 42]
abbrev dktX0_comeTo_0 : List UInt8 := dkwX0_comeTo_0 ++ dktX0_comeTo_1
theorem dksX0_comeTo_0 : cX0_comeTo.data.toList.drop 0 = dktX0_comeTo_0 := by decide +kernel
theorem dksX0_comeTo_1 : cX0_comeTo.data.toList.drop 22 = dktX0_comeTo_1 := dk_seg dksX0_comeTo_0 22 rfl rfl
theorem dksX0_comeTo_2 : cX0_comeTo.data.toList.drop 44 = dktX0_comeTo_2 := dk_seg dksX0_comeTo_1 22 rfl rfl
theorem dksX0_comeTo_3 : cX0_comeTo.data.toList.drop 68 = dktX0_comeTo_3 := dk_seg dksX0_comeTo_2 24 rfl rfl
theorem dksX0_comeTo_4 : cX0_comeTo.data.toList.drop 91 = dktX0_comeTo_4 := dk_seg dksX0_comeTo_3 23 rfl rfl
theorem dX0_comeTo_0 : decode cX0_comeTo 0 = .ok (.iconst 1, 1) := dk_4 (dk_at dksX0_comeTo_0 0 rfl rfl)
theorem dX0_comeTo_1 : decode cX0_comeTo 1 = .ok (.iload_n 1, 1) := dk_27 (dk_at dksX0_comeTo_0 1 rfl rfl)
theorem dX0_comeTo_2 : decode cX0_comeTo 2 = .ok (.ishl, 1) := dk_120 (dk_at dksX0_comeTo_0 2 rfl rfl)
theorem dX0_comeTo_3 : decode cX0_comeTo 3 = .ok (.istore_n 3, 1) := dk_62 (dk_at dksX0_comeTo_0 3 rfl rfl)
theorem dX0_comeTo_4 : decode cX0_comeTo 4 = .ok (.iconst 0, 1) := dk_3 (dk_at dksX0_comeTo_0 4 rfl rfl)
theorem dX0_comeTo_5 : decode cX0_comeTo 5 = .ok (.istore 4, 2) := dk_54 4 (dk_at dksX0_comeTo_0 5 rfl rfl)
theorem dX0_comeTo_7 : decode cX0_comeTo 7 = .ok (.iload_n 3, 1) := dk_29 (dk_at dksX0_comeTo_0 7 rfl rfl)
theorem dX0_comeTo_8 : decode cX0_comeTo 8 = .ok (.iload 4, 2) := dk_21 4 (dk_at dksX0_comeTo_0 8 rfl rfl)
theorem dX0_comeTo_10 : decode cX0_comeTo 10 = .ok (.if_icmp .eq 98, 3) := dk_159 0 98 (dk_at dksX0_comeTo_0 10 rfl rfl)
theorem dX0_comeTo_13 : decode cX0_comeTo 13 = .ok (.iload_n 3, 1) := dk_29 (dk_at dksX0_comeTo_0 13 rfl rfl)
theorem dX0_comeTo_14 : decode cX0_comeTo 14 = .ok (.istore 4, 2) := dk_54 4 (dk_at dksX0_comeTo_0 14 rfl rfl)
theorem dX0_comeTo_16 : decode cX0_comeTo 16 = .ok (.iconst 0, 1) := dk_3 (dk_at dksX0_comeTo_0 16 rfl rfl)
theorem dX0_comeTo_17 : decode cX0_comeTo 17 = .ok (.istore 5, 2) := dk_54 5 (dk_at dksX0_comeTo_0 17 rfl rfl)
theorem dX0_comeTo_19 : decode cX0_comeTo 19 = .ok (.iload 5, 2) := dk_21 5 (dk_at dksX0_comeTo_0 19 rfl rfl)
theorem dX0_comeTo_21 : decode cX0_comeTo 21 = .ok (.aload_n 0, 1) := dk_42 (dk_at dksX0_comeTo_0 21 rfl rfl)
theorem dX0_comeTo_22 : decode cX0_comeTo 22 = .ok (.getfield 29, 3) := dk_180 0 29 (dk_at dksX0_comeTo_1 0 rfl rfl)
theorem dX0_comeTo_25 : decode cX0_comeTo 25 = .ok (.invokeinterface 180 1, 5) := by decide +kernel
theorem dX0_comeTo_30 : decode cX0_comeTo 30 = .ok (.if_icmp .ge 75, 3) := dk_162 0 75 (dk_at dksX0_comeTo_1 8 rfl rfl)
theorem dX0_comeTo_33 : decode cX0_comeTo 33 = .ok (.aload_n 0, 1) := dk_42 (dk_at dksX0_comeTo_1 11 rfl rfl)
theorem dX0_comeTo_34 : decode cX0_comeTo 34 = .ok (.getfield 29, 3) := dk_180 0 29 (dk_at dksX0_comeTo_1 12 rfl rfl)
theorem dX0_comeTo_37 : decode cX0_comeTo 37 = .ok (.iload 5, 2) := dk_21 5 (dk_at dksX0_comeTo_1 15 rfl rfl)
theorem dX0_comeTo_39 : decode cX0_comeTo 39 = .ok (.invokeinterface 186 2, 5) := by decide +kernel
theorem dX0_comeTo_44 : decode cX0_comeTo 44 = .ok (.checkcast 214, 3) := dk_192 0 214 (dk_at dksX0_comeTo_2 0 rfl rfl)
theorem dX0_comeTo_47 : decode cX0_comeTo 47 = .ok (.astore 6, 2) := dk_58 6 (dk_at dksX0_comeTo_2 3 rfl rfl)
theorem dX0_comeTo_49 : decode cX0_comeTo 49 = .ok (.aload_n 0, 1) := dk_42 (dk_at dksX0_comeTo_2 5 rfl rfl)
theorem dX0_comeTo_50 : decode cX0_comeTo 50 = .ok (.aload 6, 2) := dk_25 6 (dk_at dksX0_comeTo_2 6 rfl rfl)
theorem dX0_comeTo_52 : decode cX0_comeTo 52 = .ok (.invokevirtual 459, 3) := dk_182 1 203 (dk_at dksX0_comeTo_2 8 rfl rfl)
theorem dX0_comeTo_55 : decode cX0_comeTo 55 = .ok (.ifCond .ne 6, 3) := dk_154 0 6 (dk_at dksX0_comeTo_2 11 rfl rfl)
theorem dX0_comeTo_58 : decode cX0_comeTo 58 = .ok (.goto 41, 3) := dk_167 0 41 (dk_at dksX0_comeTo_2 14 rfl rfl)
theorem dX0_comeTo_61 : decode cX0_comeTo 61 = .ok (.iconst 1, 1) := dk_4 (dk_at dksX0_comeTo_2 17 rfl rfl)
theorem dX0_comeTo_62 : decode cX0_comeTo 62 = .ok (.aload 6, 2) := dk_25 6 (dk_at dksX0_comeTo_2 18 rfl rfl)
theorem dX0_comeTo_64 : decode cX0_comeTo 64 = .ok (.getfield 401, 3) := dk_180 1 145 (dk_at dksX0_comeTo_2 20 rfl rfl)
theorem dX0_comeTo_67 : decode cX0_comeTo 67 = .ok (.ishl, 1) := dk_120 (dk_at dksX0_comeTo_2 23 rfl rfl)
theorem dX0_comeTo_68 : decode cX0_comeTo 68 = .ok (.iconst 1, 1) := dk_4 (dk_at dksX0_comeTo_3 0 rfl rfl)
theorem dX0_comeTo_69 : decode cX0_comeTo 69 = .ok (.aload 6, 2) := dk_25 6 (dk_at dksX0_comeTo_3 1 rfl rfl)
theorem dX0_comeTo_71 : decode cX0_comeTo 71 = .ok (.getfield 404, 3) := dk_180 1 148 (dk_at dksX0_comeTo_3 3 rfl rfl)
theorem dX0_comeTo_74 : decode cX0_comeTo 74 = .ok (.ishl, 1) := dk_120 (dk_at dksX0_comeTo_3 6 rfl rfl)
theorem dX0_comeTo_75 : decode cX0_comeTo 75 = .ok (.ior, 1) := dk_128 (dk_at dksX0_comeTo_3 7 rfl rfl)
theorem dX0_comeTo_76 : decode cX0_comeTo 76 = .ok (.istore 7, 2) := dk_54 7 (dk_at dksX0_comeTo_3 8 rfl rfl)
theorem dX0_comeTo_78 : decode cX0_comeTo 78 = .ok (.iload 7, 2) := dk_21 7 (dk_at dksX0_comeTo_3 10 rfl rfl)
theorem dX0_comeTo_80 : decode cX0_comeTo 80 = .ok (.iload_n 2, 1) := dk_28 (dk_at dksX0_comeTo_3 12 rfl rfl)
theorem dX0_comeTo_81 : decode cX0_comeTo 81 = .ok (.iconst (-1), 1) := dk_2 (dk_at dksX0_comeTo_3 13 rfl rfl)
theorem dX0_comeTo_82 : decode cX0_comeTo 82 = .ok (.ixor, 1) := dk_130 (dk_at dksX0_comeTo_3 14 rfl rfl)
theorem dX0_comeTo_83 : decode cX0_comeTo 83 = .ok (.iand, 1) := dk_126 (dk_at dksX0_comeTo_3 15 rfl rfl)
theorem dX0_comeTo_84 : decode cX0_comeTo 84 = .ok (.ifCond .ne 15, 3) := dk_154 0 15 (dk_at dksX0_comeTo_3 16 rfl rfl)
theorem dX0_comeTo_87 : decode cX0_comeTo 87 = .ok (.iload 7, 2) := dk_21 7 (dk_at dksX0_comeTo_3 19 rfl rfl)
theorem dX0_comeTo_89 : decode cX0_comeTo 89 = .ok (.iload_n 3, 1) := dk_29 (dk_at dksX0_comeTo_3 21 rfl rfl)
theorem dX0_comeTo_90 : decode cX0_comeTo 90 = .ok (.iand, 1) := dk_126 (dk_at dksX0_comeTo_3 22 rfl rfl)
theorem dX0_comeTo_91 : decode cX0_comeTo 91 = .ok (.ifCond .eq 8, 3) := dk_153 0 8 (dk_at dksX0_comeTo_4 0 rfl rfl)
theorem dX0_comeTo_94 : decode cX0_comeTo 94 = .ok (.iload_n 3, 1) := dk_29 (dk_at dksX0_comeTo_4 3 rfl rfl)
theorem dX0_comeTo_95 : decode cX0_comeTo 95 = .ok (.iload 7, 2) := dk_21 7 (dk_at dksX0_comeTo_4 4 rfl rfl)
theorem dX0_comeTo_97 : decode cX0_comeTo 97 = .ok (.ior, 1) := dk_128 (dk_at dksX0_comeTo_4 6 rfl rfl)
theorem dX0_comeTo_98 : decode cX0_comeTo 98 = .ok (.istore_n 3, 1) := dk_62 (dk_at dksX0_comeTo_4 7 rfl rfl)
theorem dX0_comeTo_99 : decode cX0_comeTo 99 = .ok (.iinc 5 1, 3) := dk_132 5 1 (dk_at dksX0_comeTo_4 8 rfl rfl)
theorem dX0_comeTo_102 : decode cX0_comeTo 102 = .ok (.goto (-83), 3) := dk_167 255 173 (dk_at dksX0_comeTo_4 11 rfl rfl)
theorem dX0_comeTo_105 : decode cX0_comeTo 105 = .ok (.goto (-98), 3) := dk_167 255 158 (dk_at dksX0_comeTo_4 14 rfl rfl)
theorem dX0_comeTo_108 : decode cX0_comeTo 108 = .ok (.iload_n 3, 1) := dk_29 (dk_at dksX0_comeTo_4 17 rfl rfl)
theorem dX0_comeTo_109 : decode cX0_comeTo 109 = .ok (.ireturn, 1) := dk_172 (dk_at dksX0_comeTo_4 18 rfl rfl)
abbrev cX0_isJoining : ByteArray := prog_1_method_60_code
def yX0_isJoining : MethodName := ⟨RX0, "isJoining", "(LHeardPlaces$Measure;)Z"⟩
def dkwX0_isJoining_2 : List UInt8 := [182, 0, 192, 154, 0, 7, 4, 167, 0, 4, 3, 172]
abbrev dktX0_isJoining_2 : List UInt8 := dkwX0_isJoining_2 ++ []
def dkwX0_isJoining_1 : List UInt8 := [182, 0, 192, 154, 0, 29, 42, 180, 0, 25, 43, 180, 1, 148, 185, 0, 186, 2, 0, 192, 0, 190]
abbrev dktX0_isJoining_1 : List UInt8 := dkwX0_isJoining_1 ++ dktX0_isJoining_2
def dkwX0_isJoining_0 : List UInt8 := [43, 180, 1, 46, 153, 0, 51, 42, 180, 0, 25, 43, 180, 1, 145, 185, 0, 186, 2, 0, 192, 0, 190]
abbrev dktX0_isJoining_0 : List UInt8 := dkwX0_isJoining_0 ++ dktX0_isJoining_1
theorem dksX0_isJoining_0 : cX0_isJoining.data.toList.drop 0 = dktX0_isJoining_0 := by decide +kernel
theorem dksX0_isJoining_1 : cX0_isJoining.data.toList.drop 23 = dktX0_isJoining_1 := dk_seg dksX0_isJoining_0 23 rfl rfl
theorem dksX0_isJoining_2 : cX0_isJoining.data.toList.drop 45 = dktX0_isJoining_2 := dk_seg dksX0_isJoining_1 22 rfl rfl
theorem dX0_isJoining_0 : decode cX0_isJoining 0 = .ok (.aload_n 1, 1) := dk_43 (dk_at dksX0_isJoining_0 0 rfl rfl)
theorem dX0_isJoining_1 : decode cX0_isJoining 1 = .ok (.getfield 302, 3) := dk_180 1 46 (dk_at dksX0_isJoining_0 1 rfl rfl)
theorem dX0_isJoining_4 : decode cX0_isJoining 4 = .ok (.ifCond .eq 51, 3) := dk_153 0 51 (dk_at dksX0_isJoining_0 4 rfl rfl)
theorem dX0_isJoining_7 : decode cX0_isJoining 7 = .ok (.aload_n 0, 1) := dk_42 (dk_at dksX0_isJoining_0 7 rfl rfl)
theorem dX0_isJoining_8 : decode cX0_isJoining 8 = .ok (.getfield 25, 3) := dk_180 0 25 (dk_at dksX0_isJoining_0 8 rfl rfl)
theorem dX0_isJoining_11 : decode cX0_isJoining 11 = .ok (.aload_n 1, 1) := dk_43 (dk_at dksX0_isJoining_0 11 rfl rfl)
theorem dX0_isJoining_12 : decode cX0_isJoining 12 = .ok (.getfield 401, 3) := dk_180 1 145 (dk_at dksX0_isJoining_0 12 rfl rfl)
theorem dX0_isJoining_15 : decode cX0_isJoining 15 = .ok (.invokeinterface 186 2, 5) := by decide +kernel
theorem dX0_isJoining_20 : decode cX0_isJoining 20 = .ok (.checkcast 190, 3) := dk_192 0 190 (dk_at dksX0_isJoining_0 20 rfl rfl)
theorem dX0_isJoining_23 : decode cX0_isJoining 23 = .ok (.invokevirtual 192, 3) := dk_182 0 192 (dk_at dksX0_isJoining_1 0 rfl rfl)
theorem dX0_isJoining_26 : decode cX0_isJoining 26 = .ok (.ifCond .ne 29, 3) := dk_154 0 29 (dk_at dksX0_isJoining_1 3 rfl rfl)
theorem dX0_isJoining_29 : decode cX0_isJoining 29 = .ok (.aload_n 0, 1) := dk_42 (dk_at dksX0_isJoining_1 6 rfl rfl)
theorem dX0_isJoining_30 : decode cX0_isJoining 30 = .ok (.getfield 25, 3) := dk_180 0 25 (dk_at dksX0_isJoining_1 7 rfl rfl)
theorem dX0_isJoining_33 : decode cX0_isJoining 33 = .ok (.aload_n 1, 1) := dk_43 (dk_at dksX0_isJoining_1 10 rfl rfl)
theorem dX0_isJoining_34 : decode cX0_isJoining 34 = .ok (.getfield 404, 3) := dk_180 1 148 (dk_at dksX0_isJoining_1 11 rfl rfl)
theorem dX0_isJoining_37 : decode cX0_isJoining 37 = .ok (.invokeinterface 186 2, 5) := by decide +kernel
theorem dX0_isJoining_42 : decode cX0_isJoining 42 = .ok (.checkcast 190, 3) := dk_192 0 190 (dk_at dksX0_isJoining_1 19 rfl rfl)
theorem dX0_isJoining_45 : decode cX0_isJoining 45 = .ok (.invokevirtual 192, 3) := dk_182 0 192 (dk_at dksX0_isJoining_2 0 rfl rfl)
theorem dX0_isJoining_48 : decode cX0_isJoining 48 = .ok (.ifCond .ne 7, 3) := dk_154 0 7 (dk_at dksX0_isJoining_2 3 rfl rfl)
theorem dX0_isJoining_51 : decode cX0_isJoining 51 = .ok (.iconst 1, 1) := dk_4 (dk_at dksX0_isJoining_2 6 rfl rfl)
theorem dX0_isJoining_52 : decode cX0_isJoining 52 = .ok (.goto 4, 3) := dk_167 0 4 (dk_at dksX0_isJoining_2 7 rfl rfl)
theorem dX0_isJoining_55 : decode cX0_isJoining 55 = .ok (.iconst 0, 1) := dk_3 (dk_at dksX0_isJoining_2 10 rfl rfl)
theorem dX0_isJoining_56 : decode cX0_isJoining 56 = .ok (.ireturn, 1) := dk_172 (dk_at dksX0_isJoining_2 11 rfl rfl)
abbrev cX0_alone : ByteArray := prog_1_method_64_code
def yX0_alone : MethodName := ⟨RX0, "alone", "(Z)I"⟩
def dkwX0_alone_0 : List UInt8 := [42, 180, 0, 207, 27, 160, 0, 5, 3, 172, 42, 27, 181, 0, 207, 4, 172]
abbrev dktX0_alone_0 : List UInt8 := dkwX0_alone_0 ++ []
theorem dksX0_alone_0 : cX0_alone.data.toList.drop 0 = dktX0_alone_0 := by decide +kernel
theorem dX0_alone_0 : decode cX0_alone 0 = .ok (.aload_n 0, 1) := dk_42 (dk_at dksX0_alone_0 0 rfl rfl)
theorem dX0_alone_1 : decode cX0_alone 1 = .ok (.getfield 207, 3) := dk_180 0 207 (dk_at dksX0_alone_0 1 rfl rfl)
theorem dX0_alone_4 : decode cX0_alone 4 = .ok (.iload_n 1, 1) := dk_27 (dk_at dksX0_alone_0 4 rfl rfl)
theorem dX0_alone_5 : decode cX0_alone 5 = .ok (.if_icmp .ne 5, 3) := dk_160 0 5 (dk_at dksX0_alone_0 5 rfl rfl)
theorem dX0_alone_8 : decode cX0_alone 8 = .ok (.iconst 0, 1) := dk_3 (dk_at dksX0_alone_0 8 rfl rfl)
theorem dX0_alone_9 : decode cX0_alone 9 = .ok (.ireturn, 1) := dk_172 (dk_at dksX0_alone_0 9 rfl rfl)
theorem dX0_alone_10 : decode cX0_alone 10 = .ok (.aload_n 0, 1) := dk_42 (dk_at dksX0_alone_0 10 rfl rfl)
theorem dX0_alone_11 : decode cX0_alone 11 = .ok (.iload_n 1, 1) := dk_27 (dk_at dksX0_alone_0 11 rfl rfl)
theorem dX0_alone_12 : decode cX0_alone 12 = .ok (.putfield 207, 3) := dk_181 0 207 (dk_at dksX0_alone_0 12 rfl rfl)
theorem dX0_alone_15 : decode cX0_alone 15 = .ok (.iconst 1, 1) := dk_4 (dk_at dksX0_alone_0 15 rfl rfl)
theorem dX0_alone_16 : decode cX0_alone 16 = .ok (.ireturn, 1) := dk_172 (dk_at dksX0_alone_0 16 rfl rfl)
abbrev cX0_placings : ByteArray := prog_1_method_72_code
def yX0_placings : MethodName := ⟨RX0, "placings", "(I)I"⟩
def dkwX0_placings_1 : List UInt8 := [28, 153, 0, 10, 42, 180, 1, 213, 167, 0, 5, 16, 250, 172]
abbrev dktX0_placings_1 : List UInt8 := dkwX0_placings_1 ++ []
def dkwX0_placings_0 : List UInt8 := [42, 27, 182, 1, 37, 154, 0, 5, 2, 172, 42, 27, 182, 2, 23, 61, 42, 42, 180, 2, 6, 181, 2, 26]
abbrev dktX0_placings_0 : List UInt8 := dkwX0_placings_0 ++ dktX0_placings_1
theorem dksX0_placings_0 : cX0_placings.data.toList.drop 0 = dktX0_placings_0 := by decide +kernel
theorem dksX0_placings_1 : cX0_placings.data.toList.drop 24 = dktX0_placings_1 := dk_seg dksX0_placings_0 24 rfl rfl
theorem dX0_placings_0 : decode cX0_placings 0 = .ok (.aload_n 0, 1) := dk_42 (dk_at dksX0_placings_0 0 rfl rfl)
theorem dX0_placings_1 : decode cX0_placings 1 = .ok (.iload_n 1, 1) := dk_27 (dk_at dksX0_placings_0 1 rfl rfl)
theorem dX0_placings_2 : decode cX0_placings 2 = .ok (.invokevirtual 293, 3) := dk_182 1 37 (dk_at dksX0_placings_0 2 rfl rfl)
theorem dX0_placings_5 : decode cX0_placings 5 = .ok (.ifCond .ne 5, 3) := dk_154 0 5 (dk_at dksX0_placings_0 5 rfl rfl)
theorem dX0_placings_8 : decode cX0_placings 8 = .ok (.iconst (-1), 1) := dk_2 (dk_at dksX0_placings_0 8 rfl rfl)
theorem dX0_placings_9 : decode cX0_placings 9 = .ok (.ireturn, 1) := dk_172 (dk_at dksX0_placings_0 9 rfl rfl)
theorem dX0_placings_10 : decode cX0_placings 10 = .ok (.aload_n 0, 1) := dk_42 (dk_at dksX0_placings_0 10 rfl rfl)
theorem dX0_placings_11 : decode cX0_placings 11 = .ok (.iload_n 1, 1) := dk_27 (dk_at dksX0_placings_0 11 rfl rfl)
theorem dX0_placings_12 : decode cX0_placings 12 = .ok (.invokevirtual 535, 3) := dk_182 2 23 (dk_at dksX0_placings_0 12 rfl rfl)
theorem dX0_placings_15 : decode cX0_placings 15 = .ok (.istore_n 2, 1) := dk_61 (dk_at dksX0_placings_0 15 rfl rfl)
theorem dX0_placings_16 : decode cX0_placings 16 = .ok (.aload_n 0, 1) := dk_42 (dk_at dksX0_placings_0 16 rfl rfl)
theorem dX0_placings_17 : decode cX0_placings 17 = .ok (.aload_n 0, 1) := dk_42 (dk_at dksX0_placings_0 17 rfl rfl)
theorem dX0_placings_18 : decode cX0_placings 18 = .ok (.getfield 518, 3) := dk_180 2 6 (dk_at dksX0_placings_0 18 rfl rfl)
theorem dX0_placings_21 : decode cX0_placings 21 = .ok (.putfield 538, 3) := dk_181 2 26 (dk_at dksX0_placings_0 21 rfl rfl)
theorem dX0_placings_24 : decode cX0_placings 24 = .ok (.iload_n 2, 1) := dk_28 (dk_at dksX0_placings_1 0 rfl rfl)
theorem dX0_placings_25 : decode cX0_placings 25 = .ok (.ifCond .eq 10, 3) := dk_153 0 10 (dk_at dksX0_placings_1 1 rfl rfl)
theorem dX0_placings_28 : decode cX0_placings 28 = .ok (.aload_n 0, 1) := dk_42 (dk_at dksX0_placings_1 4 rfl rfl)
theorem dX0_placings_29 : decode cX0_placings 29 = .ok (.getfield 469, 3) := dk_180 1 213 (dk_at dksX0_placings_1 5 rfl rfl)
theorem dX0_placings_32 : decode cX0_placings 32 = .ok (.goto 5, 3) := dk_167 0 5 (dk_at dksX0_placings_1 8 rfl rfl)
theorem dX0_placings_35 : decode cX0_placings 35 = .ok (.bipush (-6), 2) := dk_16 250 (dk_at dksX0_placings_1 11 rfl rfl)
theorem dX0_placings_37 : decode cX0_placings 37 = .ok (.ireturn, 1) := dk_172 (dk_at dksX0_placings_1 13 rfl rfl)
abbrev cX0_isPlaced : ByteArray := prog_1_method_71_code
def yX0_isPlaced : MethodName := ⟨RX0, "isPlaced", "(I)Z"⟩
def dkwX0_isPlaced_0 : List UInt8 := [42, 42, 27, 182, 1, 210, 182, 2, 20, 4, 172, 77, 3, 172]
abbrev dktX0_isPlaced_0 : List UInt8 := dkwX0_isPlaced_0 ++ []
theorem dksX0_isPlaced_0 : cX0_isPlaced.data.toList.drop 0 = dktX0_isPlaced_0 := by decide +kernel
theorem dX0_isPlaced_0 : decode cX0_isPlaced 0 = .ok (.aload_n 0, 1) := dk_42 (dk_at dksX0_isPlaced_0 0 rfl rfl)
theorem dX0_isPlaced_1 : decode cX0_isPlaced 1 = .ok (.aload_n 0, 1) := dk_42 (dk_at dksX0_isPlaced_0 1 rfl rfl)
theorem dX0_isPlaced_2 : decode cX0_isPlaced 2 = .ok (.iload_n 1, 1) := dk_27 (dk_at dksX0_isPlaced_0 2 rfl rfl)
theorem dX0_isPlaced_3 : decode cX0_isPlaced 3 = .ok (.invokevirtual 466, 3) := dk_182 1 210 (dk_at dksX0_isPlaced_0 3 rfl rfl)
theorem dX0_isPlaced_6 : decode cX0_isPlaced 6 = .ok (.invokevirtual 532, 3) := dk_182 2 20 (dk_at dksX0_isPlaced_0 6 rfl rfl)
theorem dX0_isPlaced_9 : decode cX0_isPlaced 9 = .ok (.iconst 1, 1) := dk_4 (dk_at dksX0_isPlaced_0 9 rfl rfl)
theorem dX0_isPlaced_10 : decode cX0_isPlaced 10 = .ok (.ireturn, 1) := dk_172 (dk_at dksX0_isPlaced_0 10 rfl rfl)
theorem dX0_isPlaced_11 : decode cX0_isPlaced 11 = .ok (.astore_n 2, 1) := dk_77 (dk_at dksX0_isPlaced_0 11 rfl rfl)
theorem dX0_isPlaced_12 : decode cX0_isPlaced 12 = .ok (.iconst 0, 1) := dk_3 (dk_at dksX0_isPlaced_0 12 rfl rfl)
theorem dX0_isPlaced_13 : decode cX0_isPlaced 13 = .ok (.ireturn, 1) := dk_172 (dk_at dksX0_isPlaced_0 13 rfl rfl)
abbrev cX0_place : ByteArray := prog_1_method_70_code
def yX0_place : MethodName := ⟨RX0, "place", "(I)V"⟩
def dkwX0_place_7 : List UInt8 := [182, 0, 223, 181, 1, 253, 42, 3, 182, 2, 13, 177]
abbrev dktX0_place_7 : List UInt8 := dkwX0_place_7 ++ []
def dkwX0_place_6 : List UInt8 := [28, 104, 29, 96, 50, 3, 184, 0, 72, 132, 3, 1, 167, 255, 230, 132, 2, 1, 167, 255, 212, 42, 42, 27]
abbrev dktX0_place_6 : List UInt8 := dkwX0_place_6 ++ dktX0_place_7
def dkwX0_place_5 : List UInt8 := [180, 1, 216, 162, 0, 42, 28, 4, 96, 62, 29, 42, 180, 1, 216, 162, 0, 24, 42, 180, 0, 60, 16, 9]
abbrev dktX0_place_5 : List UInt8 := dkwX0_place_5 ++ dktX0_place_6
def dkwX0_place_4 : List UInt8 := [3, 184, 0, 72, 42, 89, 180, 1, 216, 4, 96, 181, 1, 216, 132, 2, 1, 167, 255, 186, 3, 61, 28, 42]
abbrev dktX0_place_4 : List UInt8 := dkwX0_place_4 ++ dktX0_place_5
def dkwX0_place_3 : List UInt8 := [180, 1, 216, 28, 79, 42, 180, 0, 52, 42, 180, 1, 216, 9, 80, 42, 180, 0, 57, 42, 180, 1, 216, 50]
abbrev dktX0_place_3 : List UInt8 := dkwX0_place_3 ++ dktX0_place_4
def dkwX0_place_2 : List UInt8 := [185, 0, 180, 1, 0, 162, 0, 63, 27, 28, 122, 4, 126, 154, 0, 6, 167, 0, 46, 42, 180, 0, 45, 42]
abbrev dktX0_place_2 : List UInt8 := dkwX0_place_2 ++ dktX0_place_3
def dkwX0_place_1 : List UInt8 := [27, 184, 2, 16, 16, 9, 164, 0, 11, 187, 2, 10, 89, 183, 2, 12, 191, 3, 61, 28, 42, 180, 0, 25]
abbrev dktX0_place_1 : List UInt8 := dkwX0_place_1 ++ dktX0_place_2
def dkwX0_place_0 : List UInt8 := [42, 182, 1, 54, 42, 3, 181, 1, 216, 42, 3, 181, 2, 6, 42, 3, 181, 1, 213, 42, 3, 181, 1, 225]
abbrev dktX0_place_0 : List UInt8 := dkwX0_place_0 ++ dktX0_place_1
theorem dksX0_place_0 : cX0_place.data.toList.drop 0 = dktX0_place_0 := by decide +kernel
theorem dksX0_place_1 : cX0_place.data.toList.drop 24 = dktX0_place_1 := dk_seg dksX0_place_0 24 rfl rfl
theorem dksX0_place_2 : cX0_place.data.toList.drop 48 = dktX0_place_2 := dk_seg dksX0_place_1 24 rfl rfl
theorem dksX0_place_3 : cX0_place.data.toList.drop 72 = dktX0_place_3 := dk_seg dksX0_place_2 24 rfl rfl
theorem dksX0_place_4 : cX0_place.data.toList.drop 96 = dktX0_place_4 := dk_seg dksX0_place_3 24 rfl rfl
theorem dksX0_place_5 : cX0_place.data.toList.drop 120 = dktX0_place_5 := dk_seg dksX0_place_4 24 rfl rfl
theorem dksX0_place_6 : cX0_place.data.toList.drop 144 = dktX0_place_6 := dk_seg dksX0_place_5 24 rfl rfl
theorem dksX0_place_7 : cX0_place.data.toList.drop 168 = dktX0_place_7 := dk_seg dksX0_place_6 24 rfl rfl
theorem dX0_place_0 : decode cX0_place 0 = .ok (.aload_n 0, 1) := dk_42 (dk_at dksX0_place_0 0 rfl rfl)
theorem dX0_place_1 : decode cX0_place 1 = .ok (.invokevirtual 310, 3) := dk_182 1 54 (dk_at dksX0_place_0 1 rfl rfl)
theorem dX0_place_4 : decode cX0_place 4 = .ok (.aload_n 0, 1) := dk_42 (dk_at dksX0_place_0 4 rfl rfl)
theorem dX0_place_5 : decode cX0_place 5 = .ok (.iconst 0, 1) := dk_3 (dk_at dksX0_place_0 5 rfl rfl)
theorem dX0_place_6 : decode cX0_place 6 = .ok (.putfield 472, 3) := dk_181 1 216 (dk_at dksX0_place_0 6 rfl rfl)
theorem dX0_place_9 : decode cX0_place 9 = .ok (.aload_n 0, 1) := dk_42 (dk_at dksX0_place_0 9 rfl rfl)
theorem dX0_place_10 : decode cX0_place 10 = .ok (.iconst 0, 1) := dk_3 (dk_at dksX0_place_0 10 rfl rfl)
theorem dX0_place_11 : decode cX0_place 11 = .ok (.putfield 518, 3) := dk_181 2 6 (dk_at dksX0_place_0 11 rfl rfl)
theorem dX0_place_14 : decode cX0_place 14 = .ok (.aload_n 0, 1) := dk_42 (dk_at dksX0_place_0 14 rfl rfl)
theorem dX0_place_15 : decode cX0_place 15 = .ok (.iconst 0, 1) := dk_3 (dk_at dksX0_place_0 15 rfl rfl)
theorem dX0_place_16 : decode cX0_place 16 = .ok (.putfield 469, 3) := dk_181 1 213 (dk_at dksX0_place_0 16 rfl rfl)
theorem dX0_place_19 : decode cX0_place 19 = .ok (.aload_n 0, 1) := dk_42 (dk_at dksX0_place_0 19 rfl rfl)
theorem dX0_place_20 : decode cX0_place 20 = .ok (.iconst 0, 1) := dk_3 (dk_at dksX0_place_0 20 rfl rfl)
theorem dX0_place_21 : decode cX0_place 21 = .ok (.putfield 481, 3) := dk_181 1 225 (dk_at dksX0_place_0 21 rfl rfl)
theorem dX0_place_24 : decode cX0_place 24 = .ok (.iload_n 1, 1) := dk_27 (dk_at dksX0_place_1 0 rfl rfl)
theorem dX0_place_25 : decode cX0_place 25 = .ok (.invokestatic 528, 3) := dk_184 2 16 (dk_at dksX0_place_1 1 rfl rfl)
theorem dX0_place_28 : decode cX0_place 28 = .ok (.bipush 9, 2) := dk_16 9 (dk_at dksX0_place_1 4 rfl rfl)
theorem dX0_place_30 : decode cX0_place 30 = .ok (.if_icmp .le 11, 3) := dk_164 0 11 (dk_at dksX0_place_1 6 rfl rfl)
theorem dX0_place_33 : decode cX0_place 33 = .ok (.new 522, 3) := dk_187 2 10 (dk_at dksX0_place_1 9 rfl rfl)
theorem dX0_place_36 : decode cX0_place 36 = .ok (.dup, 1) := dk_89 (dk_at dksX0_place_1 12 rfl rfl)
theorem dX0_place_37 : decode cX0_place 37 = .ok (.invokespecial 524, 3) := dk_183 2 12 (dk_at dksX0_place_1 13 rfl rfl)
theorem dX0_place_40 : decode cX0_place 40 = .ok (.athrow, 1) := dk_191 (dk_at dksX0_place_1 16 rfl rfl)
theorem dX0_place_41 : decode cX0_place 41 = .ok (.iconst 0, 1) := dk_3 (dk_at dksX0_place_1 17 rfl rfl)
theorem dX0_place_42 : decode cX0_place 42 = .ok (.istore_n 2, 1) := dk_61 (dk_at dksX0_place_1 18 rfl rfl)
theorem dX0_place_43 : decode cX0_place 43 = .ok (.iload_n 2, 1) := dk_28 (dk_at dksX0_place_1 19 rfl rfl)
theorem dX0_place_44 : decode cX0_place 44 = .ok (.aload_n 0, 1) := dk_42 (dk_at dksX0_place_1 20 rfl rfl)
theorem dX0_place_45 : decode cX0_place 45 = .ok (.getfield 25, 3) := dk_180 0 25 (dk_at dksX0_place_1 21 rfl rfl)
theorem dX0_place_48 : decode cX0_place 48 = .ok (.invokeinterface 180 1, 5) := by decide +kernel
theorem dX0_place_53 : decode cX0_place 53 = .ok (.if_icmp .ge 63, 3) := dk_162 0 63 (dk_at dksX0_place_2 5 rfl rfl)
theorem dX0_place_56 : decode cX0_place 56 = .ok (.iload_n 1, 1) := dk_27 (dk_at dksX0_place_2 8 rfl rfl)
theorem dX0_place_57 : decode cX0_place 57 = .ok (.iload_n 2, 1) := dk_28 (dk_at dksX0_place_2 9 rfl rfl)
theorem dX0_place_58 : decode cX0_place 58 = .ok (.ishr, 1) := dk_122 (dk_at dksX0_place_2 10 rfl rfl)
theorem dX0_place_59 : decode cX0_place 59 = .ok (.iconst 1, 1) := dk_4 (dk_at dksX0_place_2 11 rfl rfl)
theorem dX0_place_60 : decode cX0_place 60 = .ok (.iand, 1) := dk_126 (dk_at dksX0_place_2 12 rfl rfl)
theorem dX0_place_61 : decode cX0_place 61 = .ok (.ifCond .ne 6, 3) := dk_154 0 6 (dk_at dksX0_place_2 13 rfl rfl)
theorem dX0_place_64 : decode cX0_place 64 = .ok (.goto 46, 3) := dk_167 0 46 (dk_at dksX0_place_2 16 rfl rfl)
theorem dX0_place_67 : decode cX0_place 67 = .ok (.aload_n 0, 1) := dk_42 (dk_at dksX0_place_2 19 rfl rfl)
theorem dX0_place_68 : decode cX0_place 68 = .ok (.getfield 45, 3) := dk_180 0 45 (dk_at dksX0_place_2 20 rfl rfl)
theorem dX0_place_71 : decode cX0_place 71 = .ok (.aload_n 0, 1) := dk_42 (dk_at dksX0_place_2 23 rfl rfl)
theorem dX0_place_72 : decode cX0_place 72 = .ok (.getfield 472, 3) := dk_180 1 216 (dk_at dksX0_place_3 0 rfl rfl)
theorem dX0_place_75 : decode cX0_place 75 = .ok (.iload_n 2, 1) := dk_28 (dk_at dksX0_place_3 3 rfl rfl)
theorem dX0_place_76 : decode cX0_place 76 = .ok (.iastore, 1) := dk_79 (dk_at dksX0_place_3 4 rfl rfl)
theorem dX0_place_77 : decode cX0_place 77 = .ok (.aload_n 0, 1) := dk_42 (dk_at dksX0_place_3 5 rfl rfl)
theorem dX0_place_78 : decode cX0_place 78 = .ok (.getfield 52, 3) := dk_180 0 52 (dk_at dksX0_place_3 6 rfl rfl)
theorem dX0_place_81 : decode cX0_place 81 = .ok (.aload_n 0, 1) := dk_42 (dk_at dksX0_place_3 9 rfl rfl)
theorem dX0_place_82 : decode cX0_place 82 = .ok (.getfield 472, 3) := dk_180 1 216 (dk_at dksX0_place_3 10 rfl rfl)
theorem dX0_place_85 : decode cX0_place 85 = .ok (.lconst 0, 1) := dk_9 (dk_at dksX0_place_3 13 rfl rfl)
theorem dX0_place_86 : decode cX0_place 86 = .ok (.lastore, 1) := dk_80 (dk_at dksX0_place_3 14 rfl rfl)
theorem dX0_place_87 : decode cX0_place 87 = .ok (.aload_n 0, 1) := dk_42 (dk_at dksX0_place_3 15 rfl rfl)
theorem dX0_place_88 : decode cX0_place 88 = .ok (.getfield 57, 3) := dk_180 0 57 (dk_at dksX0_place_3 16 rfl rfl)
theorem dX0_place_91 : decode cX0_place 91 = .ok (.aload_n 0, 1) := dk_42 (dk_at dksX0_place_3 19 rfl rfl)
theorem dX0_place_92 : decode cX0_place 92 = .ok (.getfield 472, 3) := dk_180 1 216 (dk_at dksX0_place_3 20 rfl rfl)
theorem dX0_place_95 : decode cX0_place 95 = .ok (.aaload, 1) := dk_50 (dk_at dksX0_place_3 23 rfl rfl)
theorem dX0_place_96 : decode cX0_place 96 = .ok (.iconst 0, 1) := dk_3 (dk_at dksX0_place_4 0 rfl rfl)
theorem dX0_place_97 : decode cX0_place 97 = .ok (.invokestatic 72, 3) := dk_184 0 72 (dk_at dksX0_place_4 1 rfl rfl)
theorem dX0_place_100 : decode cX0_place 100 = .ok (.aload_n 0, 1) := dk_42 (dk_at dksX0_place_4 4 rfl rfl)
theorem dX0_place_101 : decode cX0_place 101 = .ok (.dup, 1) := dk_89 (dk_at dksX0_place_4 5 rfl rfl)
theorem dX0_place_102 : decode cX0_place 102 = .ok (.getfield 472, 3) := dk_180 1 216 (dk_at dksX0_place_4 6 rfl rfl)
theorem dX0_place_105 : decode cX0_place 105 = .ok (.iconst 1, 1) := dk_4 (dk_at dksX0_place_4 9 rfl rfl)
theorem dX0_place_106 : decode cX0_place 106 = .ok (.iadd, 1) := dk_96 (dk_at dksX0_place_4 10 rfl rfl)
theorem dX0_place_107 : decode cX0_place 107 = .ok (.putfield 472, 3) := dk_181 1 216 (dk_at dksX0_place_4 11 rfl rfl)
theorem dX0_place_110 : decode cX0_place 110 = .ok (.iinc 2 1, 3) := dk_132 2 1 (dk_at dksX0_place_4 14 rfl rfl)
theorem dX0_place_113 : decode cX0_place 113 = .ok (.goto (-70), 3) := dk_167 255 186 (dk_at dksX0_place_4 17 rfl rfl)
theorem dX0_place_116 : decode cX0_place 116 = .ok (.iconst 0, 1) := dk_3 (dk_at dksX0_place_4 20 rfl rfl)
theorem dX0_place_117 : decode cX0_place 117 = .ok (.istore_n 2, 1) := dk_61 (dk_at dksX0_place_4 21 rfl rfl)
theorem dX0_place_118 : decode cX0_place 118 = .ok (.iload_n 2, 1) := dk_28 (dk_at dksX0_place_4 22 rfl rfl)
theorem dX0_place_119 : decode cX0_place 119 = .ok (.aload_n 0, 1) := dk_42 (dk_at dksX0_place_4 23 rfl rfl)
theorem dX0_place_120 : decode cX0_place 120 = .ok (.getfield 472, 3) := dk_180 1 216 (dk_at dksX0_place_5 0 rfl rfl)
theorem dX0_place_123 : decode cX0_place 123 = .ok (.if_icmp .ge 42, 3) := dk_162 0 42 (dk_at dksX0_place_5 3 rfl rfl)
theorem dX0_place_126 : decode cX0_place 126 = .ok (.iload_n 2, 1) := dk_28 (dk_at dksX0_place_5 6 rfl rfl)
theorem dX0_place_127 : decode cX0_place 127 = .ok (.iconst 1, 1) := dk_4 (dk_at dksX0_place_5 7 rfl rfl)
theorem dX0_place_128 : decode cX0_place 128 = .ok (.iadd, 1) := dk_96 (dk_at dksX0_place_5 8 rfl rfl)
theorem dX0_place_129 : decode cX0_place 129 = .ok (.istore_n 3, 1) := dk_62 (dk_at dksX0_place_5 9 rfl rfl)
theorem dX0_place_130 : decode cX0_place 130 = .ok (.iload_n 3, 1) := dk_29 (dk_at dksX0_place_5 10 rfl rfl)
theorem dX0_place_131 : decode cX0_place 131 = .ok (.aload_n 0, 1) := dk_42 (dk_at dksX0_place_5 11 rfl rfl)
theorem dX0_place_132 : decode cX0_place 132 = .ok (.getfield 472, 3) := dk_180 1 216 (dk_at dksX0_place_5 12 rfl rfl)
theorem dX0_place_135 : decode cX0_place 135 = .ok (.if_icmp .ge 24, 3) := dk_162 0 24 (dk_at dksX0_place_5 15 rfl rfl)
theorem dX0_place_138 : decode cX0_place 138 = .ok (.aload_n 0, 1) := dk_42 (dk_at dksX0_place_5 18 rfl rfl)
theorem dX0_place_139 : decode cX0_place 139 = .ok (.getfield 60, 3) := dk_180 0 60 (dk_at dksX0_place_5 19 rfl rfl)
theorem dX0_place_142 : decode cX0_place 142 = .ok (.bipush 9, 2) := dk_16 9 (dk_at dksX0_place_5 22 rfl rfl)
theorem dX0_place_144 : decode cX0_place 144 = .ok (.iload_n 2, 1) := dk_28 (dk_at dksX0_place_6 0 rfl rfl)
theorem dX0_place_145 : decode cX0_place 145 = .ok (.imul, 1) := dk_104 (dk_at dksX0_place_6 1 rfl rfl)
theorem dX0_place_146 : decode cX0_place 146 = .ok (.iload_n 3, 1) := dk_29 (dk_at dksX0_place_6 2 rfl rfl)
theorem dX0_place_147 : decode cX0_place 147 = .ok (.iadd, 1) := dk_96 (dk_at dksX0_place_6 3 rfl rfl)
theorem dX0_place_148 : decode cX0_place 148 = .ok (.aaload, 1) := dk_50 (dk_at dksX0_place_6 4 rfl rfl)
theorem dX0_place_149 : decode cX0_place 149 = .ok (.iconst 0, 1) := dk_3 (dk_at dksX0_place_6 5 rfl rfl)
theorem dX0_place_150 : decode cX0_place 150 = .ok (.invokestatic 72, 3) := dk_184 0 72 (dk_at dksX0_place_6 6 rfl rfl)
theorem dX0_place_153 : decode cX0_place 153 = .ok (.iinc 3 1, 3) := dk_132 3 1 (dk_at dksX0_place_6 9 rfl rfl)
theorem dX0_place_156 : decode cX0_place 156 = .ok (.goto (-26), 3) := dk_167 255 230 (dk_at dksX0_place_6 12 rfl rfl)
theorem dX0_place_159 : decode cX0_place 159 = .ok (.iinc 2 1, 3) := dk_132 2 1 (dk_at dksX0_place_6 15 rfl rfl)
theorem dX0_place_162 : decode cX0_place 162 = .ok (.goto (-44), 3) := dk_167 255 212 (dk_at dksX0_place_6 18 rfl rfl)
theorem dX0_place_165 : decode cX0_place 165 = .ok (.aload_n 0, 1) := dk_42 (dk_at dksX0_place_6 21 rfl rfl)
theorem dX0_place_166 : decode cX0_place 166 = .ok (.aload_n 0, 1) := dk_42 (dk_at dksX0_place_6 22 rfl rfl)
theorem dX0_place_167 : decode cX0_place 167 = .ok (.iload_n 1, 1) := dk_27 (dk_at dksX0_place_6 23 rfl rfl)
theorem dX0_place_168 : decode cX0_place 168 = .ok (.invokevirtual 223, 3) := dk_182 0 223 (dk_at dksX0_place_7 0 rfl rfl)
theorem dX0_place_171 : decode cX0_place 171 = .ok (.putfield 509, 3) := dk_181 1 253 (dk_at dksX0_place_7 3 rfl rfl)
theorem dX0_place_174 : decode cX0_place 174 = .ok (.aload_n 0, 1) := dk_42 (dk_at dksX0_place_7 6 rfl rfl)
theorem dX0_place_175 : decode cX0_place 175 = .ok (.iconst 0, 1) := dk_3 (dk_at dksX0_place_7 7 rfl rfl)
theorem dX0_place_176 : decode cX0_place 176 = .ok (.invokevirtual 525, 3) := dk_182 2 13 (dk_at dksX0_place_7 8 rfl rfl)
theorem dX0_place_179 : decode cX0_place 179 = .ok (.return_, 1) := dk_177 (dk_at dksX0_place_7 11 rfl rfl)
abbrev cX0_seek : ByteArray := prog_1_method_69_code
def yX0_seek : MethodName := ⟨RX0, "seek", "(I)V"⟩
def dkwX0_seek_4 : List UInt8 := [27, 4, 96, 182, 2, 13, 22, 4, 22, 4, 10, 101, 127, 55, 4, 167, 255, 181, 177]
abbrev dktX0_seek_4 : List UInt8 := dkwX0_seek_4 ++ []
def dkwX0_seek_3 : List UInt8 := [180, 0, 49, 27, 22, 4, 184, 0, 168, 79, 32, 42, 180, 0, 49, 27, 46, 184, 0, 161, 153, 0, 10, 42]
abbrev dktX0_seek_3 : List UInt8 := dkwX0_seek_3 ++ dktX0_seek_4
def dkwX0_seek_2 : List UInt8 := [160, 0, 11, 187, 2, 10, 89, 183, 2, 12, 191, 42, 89, 180, 2, 6, 4, 96, 181, 2, 6, 42]
abbrev dktX0_seek_2 : List UInt8 := dkwX0_seek_2 ++ dktX0_seek_3
def dkwX0_seek_1 : List UInt8 := [180, 0, 45, 27, 46, 47, 55, 4, 22, 4, 9, 148, 153, 0, 74, 42, 180, 2, 6, 19, 2, 9]
abbrev dktX0_seek_1 : List UInt8 := dkwX0_seek_1 ++ dktX0_seek_2
def dkwX0_seek_0 : List UInt8 := [27, 42, 180, 1, 216, 160, 0, 8, 42, 182, 2, 0, 177, 42, 27, 182, 2, 3, 65, 42, 180, 0, 32, 42]
abbrev dktX0_seek_0 : List UInt8 := dkwX0_seek_0 ++ dktX0_seek_1
theorem dksX0_seek_0 : cX0_seek.data.toList.drop 0 = dktX0_seek_0 := by decide +kernel
theorem dksX0_seek_1 : cX0_seek.data.toList.drop 24 = dktX0_seek_1 := dk_seg dksX0_seek_0 24 rfl rfl
theorem dksX0_seek_2 : cX0_seek.data.toList.drop 46 = dktX0_seek_2 := dk_seg dksX0_seek_1 22 rfl rfl
theorem dksX0_seek_3 : cX0_seek.data.toList.drop 68 = dktX0_seek_3 := dk_seg dksX0_seek_2 22 rfl rfl
theorem dksX0_seek_4 : cX0_seek.data.toList.drop 92 = dktX0_seek_4 := dk_seg dksX0_seek_3 24 rfl rfl
theorem dX0_seek_0 : decode cX0_seek 0 = .ok (.iload_n 1, 1) := dk_27 (dk_at dksX0_seek_0 0 rfl rfl)
theorem dX0_seek_1 : decode cX0_seek 1 = .ok (.aload_n 0, 1) := dk_42 (dk_at dksX0_seek_0 1 rfl rfl)
theorem dX0_seek_2 : decode cX0_seek 2 = .ok (.getfield 472, 3) := dk_180 1 216 (dk_at dksX0_seek_0 2 rfl rfl)
theorem dX0_seek_5 : decode cX0_seek 5 = .ok (.if_icmp .ne 8, 3) := dk_160 0 8 (dk_at dksX0_seek_0 5 rfl rfl)
theorem dX0_seek_8 : decode cX0_seek 8 = .ok (.aload_n 0, 1) := dk_42 (dk_at dksX0_seek_0 8 rfl rfl)
theorem dX0_seek_9 : decode cX0_seek 9 = .ok (.invokevirtual 512, 3) := dk_182 2 0 (dk_at dksX0_seek_0 9 rfl rfl)
theorem dX0_seek_12 : decode cX0_seek 12 = .ok (.return_, 1) := dk_177 (dk_at dksX0_seek_0 12 rfl rfl)
theorem dX0_seek_13 : decode cX0_seek 13 = .ok (.aload_n 0, 1) := dk_42 (dk_at dksX0_seek_0 13 rfl rfl)
theorem dX0_seek_14 : decode cX0_seek 14 = .ok (.iload_n 1, 1) := dk_27 (dk_at dksX0_seek_0 14 rfl rfl)
theorem dX0_seek_15 : decode cX0_seek 15 = .ok (.invokevirtual 515, 3) := dk_182 2 3 (dk_at dksX0_seek_0 15 rfl rfl)
theorem dX0_seek_18 : decode cX0_seek 18 = .ok (.lstore_n 2, 1) := dk_65 (dk_at dksX0_seek_0 18 rfl rfl)
theorem dX0_seek_19 : decode cX0_seek 19 = .ok (.aload_n 0, 1) := dk_42 (dk_at dksX0_seek_0 19 rfl rfl)
theorem dX0_seek_20 : decode cX0_seek 20 = .ok (.getfield 32, 3) := dk_180 0 32 (dk_at dksX0_seek_0 20 rfl rfl)
theorem dX0_seek_23 : decode cX0_seek 23 = .ok (.aload_n 0, 1) := dk_42 (dk_at dksX0_seek_0 23 rfl rfl)
theorem dX0_seek_24 : decode cX0_seek 24 = .ok (.getfield 45, 3) := dk_180 0 45 (dk_at dksX0_seek_1 0 rfl rfl)
theorem dX0_seek_27 : decode cX0_seek 27 = .ok (.iload_n 1, 1) := dk_27 (dk_at dksX0_seek_1 3 rfl rfl)
theorem dX0_seek_28 : decode cX0_seek 28 = .ok (.iaload, 1) := dk_46 (dk_at dksX0_seek_1 4 rfl rfl)
theorem dX0_seek_29 : decode cX0_seek 29 = .ok (.laload, 1) := dk_47 (dk_at dksX0_seek_1 5 rfl rfl)
theorem dX0_seek_30 : decode cX0_seek 30 = .ok (.lstore 4, 2) := dk_55 4 (dk_at dksX0_seek_1 6 rfl rfl)
theorem dX0_seek_32 : decode cX0_seek 32 = .ok (.lload 4, 2) := dk_22 4 (dk_at dksX0_seek_1 8 rfl rfl)
theorem dX0_seek_34 : decode cX0_seek 34 = .ok (.lconst 0, 1) := dk_9 (dk_at dksX0_seek_1 10 rfl rfl)
theorem dX0_seek_35 : decode cX0_seek 35 = .ok (.lcmp, 1) := dk_148 (dk_at dksX0_seek_1 11 rfl rfl)
theorem dX0_seek_36 : decode cX0_seek 36 = .ok (.ifCond .eq 74, 3) := dk_153 0 74 (dk_at dksX0_seek_1 12 rfl rfl)
theorem dX0_seek_39 : decode cX0_seek 39 = .ok (.aload_n 0, 1) := dk_42 (dk_at dksX0_seek_1 15 rfl rfl)
theorem dX0_seek_40 : decode cX0_seek 40 = .ok (.getfield 518, 3) := dk_180 2 6 (dk_at dksX0_seek_1 16 rfl rfl)
theorem dX0_seek_43 : decode cX0_seek 43 = .ok (.ldc_w 521, 3) := dk_19 2 9 (dk_at dksX0_seek_1 19 rfl rfl)
theorem dX0_seek_46 : decode cX0_seek 46 = .ok (.if_icmp .ne 11, 3) := dk_160 0 11 (dk_at dksX0_seek_2 0 rfl rfl)
theorem dX0_seek_49 : decode cX0_seek 49 = .ok (.new 522, 3) := dk_187 2 10 (dk_at dksX0_seek_2 3 rfl rfl)
theorem dX0_seek_52 : decode cX0_seek 52 = .ok (.dup, 1) := dk_89 (dk_at dksX0_seek_2 6 rfl rfl)
theorem dX0_seek_53 : decode cX0_seek 53 = .ok (.invokespecial 524, 3) := dk_183 2 12 (dk_at dksX0_seek_2 7 rfl rfl)
theorem dX0_seek_56 : decode cX0_seek 56 = .ok (.athrow, 1) := dk_191 (dk_at dksX0_seek_2 10 rfl rfl)
theorem dX0_seek_57 : decode cX0_seek 57 = .ok (.aload_n 0, 1) := dk_42 (dk_at dksX0_seek_2 11 rfl rfl)
theorem dX0_seek_58 : decode cX0_seek 58 = .ok (.dup, 1) := dk_89 (dk_at dksX0_seek_2 12 rfl rfl)
theorem dX0_seek_59 : decode cX0_seek 59 = .ok (.getfield 518, 3) := dk_180 2 6 (dk_at dksX0_seek_2 13 rfl rfl)
theorem dX0_seek_62 : decode cX0_seek 62 = .ok (.iconst 1, 1) := dk_4 (dk_at dksX0_seek_2 16 rfl rfl)
theorem dX0_seek_63 : decode cX0_seek 63 = .ok (.iadd, 1) := dk_96 (dk_at dksX0_seek_2 17 rfl rfl)
theorem dX0_seek_64 : decode cX0_seek 64 = .ok (.putfield 518, 3) := dk_181 2 6 (dk_at dksX0_seek_2 18 rfl rfl)
theorem dX0_seek_67 : decode cX0_seek 67 = .ok (.aload_n 0, 1) := dk_42 (dk_at dksX0_seek_2 21 rfl rfl)
theorem dX0_seek_68 : decode cX0_seek 68 = .ok (.getfield 49, 3) := dk_180 0 49 (dk_at dksX0_seek_3 0 rfl rfl)
theorem dX0_seek_71 : decode cX0_seek 71 = .ok (.iload_n 1, 1) := dk_27 (dk_at dksX0_seek_3 3 rfl rfl)
theorem dX0_seek_72 : decode cX0_seek 72 = .ok (.lload 4, 2) := dk_22 4 (dk_at dksX0_seek_3 4 rfl rfl)
theorem dX0_seek_74 : decode cX0_seek 74 = .ok (.invokestatic 168, 3) := dk_184 0 168 (dk_at dksX0_seek_3 6 rfl rfl)
theorem dX0_seek_77 : decode cX0_seek 77 = .ok (.iastore, 1) := dk_79 (dk_at dksX0_seek_3 9 rfl rfl)
theorem dX0_seek_78 : decode cX0_seek 78 = .ok (.lload_n 2, 1) := dk_32 (dk_at dksX0_seek_3 10 rfl rfl)
theorem dX0_seek_79 : decode cX0_seek 79 = .ok (.aload_n 0, 1) := dk_42 (dk_at dksX0_seek_3 11 rfl rfl)
theorem dX0_seek_80 : decode cX0_seek 80 = .ok (.getfield 49, 3) := dk_180 0 49 (dk_at dksX0_seek_3 12 rfl rfl)
theorem dX0_seek_83 : decode cX0_seek 83 = .ok (.iload_n 1, 1) := dk_27 (dk_at dksX0_seek_3 15 rfl rfl)
theorem dX0_seek_84 : decode cX0_seek 84 = .ok (.iaload, 1) := dk_46 (dk_at dksX0_seek_3 16 rfl rfl)
theorem dX0_seek_85 : decode cX0_seek 85 = .ok (.invokestatic 161, 3) := dk_184 0 161 (dk_at dksX0_seek_3 17 rfl rfl)
theorem dX0_seek_88 : decode cX0_seek 88 = .ok (.ifCond .eq 10, 3) := dk_153 0 10 (dk_at dksX0_seek_3 20 rfl rfl)
theorem dX0_seek_91 : decode cX0_seek 91 = .ok (.aload_n 0, 1) := dk_42 (dk_at dksX0_seek_3 23 rfl rfl)
theorem dX0_seek_92 : decode cX0_seek 92 = .ok (.iload_n 1, 1) := dk_27 (dk_at dksX0_seek_4 0 rfl rfl)
theorem dX0_seek_93 : decode cX0_seek 93 = .ok (.iconst 1, 1) := dk_4 (dk_at dksX0_seek_4 1 rfl rfl)
theorem dX0_seek_94 : decode cX0_seek 94 = .ok (.iadd, 1) := dk_96 (dk_at dksX0_seek_4 2 rfl rfl)
theorem dX0_seek_95 : decode cX0_seek 95 = .ok (.invokevirtual 525, 3) := dk_182 2 13 (dk_at dksX0_seek_4 3 rfl rfl)
theorem dX0_seek_98 : decode cX0_seek 98 = .ok (.lload 4, 2) := dk_22 4 (dk_at dksX0_seek_4 6 rfl rfl)
theorem dX0_seek_100 : decode cX0_seek 100 = .ok (.lload 4, 2) := dk_22 4 (dk_at dksX0_seek_4 8 rfl rfl)
theorem dX0_seek_102 : decode cX0_seek 102 = .ok (.lconst 1, 1) := dk_10 (dk_at dksX0_seek_4 10 rfl rfl)
theorem dX0_seek_103 : decode cX0_seek 103 = .ok (.lsub, 1) := dk_101 (dk_at dksX0_seek_4 11 rfl rfl)
theorem dX0_seek_104 : decode cX0_seek 104 = .ok (.land, 1) := dk_127 (dk_at dksX0_seek_4 12 rfl rfl)
theorem dX0_seek_105 : decode cX0_seek 105 = .ok (.lstore 4, 2) := dk_55 4 (dk_at dksX0_seek_4 13 rfl rfl)
theorem dX0_seek_107 : decode cX0_seek 107 = .ok (.goto (-75), 3) := dk_167 255 181 (dk_at dksX0_seek_4 15 rfl rfl)
theorem dX0_seek_110 : decode cX0_seek 110 = .ok (.return_, 1) := dk_177 (dk_at dksX0_seek_4 18 rfl rfl)
abbrev cX0_note : ByteArray := prog_1_method_65_code
def yX0_note : MethodName := ⟨RX0, "note", "()V"⟩
def dkwX0_note_7 : List UInt8 := [180, 1, 240, 182, 1, 234, 153, 0, 7, 4, 167, 0, 4, 3, 128, 181, 1, 225, 177]
abbrev dktX0_note_7 : List UInt8 := dkwX0_note_7 ++ []
def dkwX0_note_6 : List UInt8 := [180, 1, 225, 42, 42, 180, 1, 228, 42, 180, 1, 231, 182, 1, 234, 153, 0, 22, 42, 42, 180, 1, 237, 42]
abbrev dktX0_note_6 : List UInt8 := dkwX0_note_6 ++ dktX0_note_7
def dkwX0_note_5 : List UInt8 := [184, 0, 165, 92, 46, 4, 96, 79, 132, 2, 1, 167, 255, 217, 132, 1, 1, 167, 255, 166, 42, 89]
abbrev dktX0_note_5 : List UInt8 := dkwX0_note_5 ++ dktX0_note_6
def dkwX0_note_4 : List UInt8 := [180, 0, 60, 16, 9, 28, 104, 27, 96, 50, 42, 180, 0, 49, 28, 46, 42, 180, 0, 49, 27, 46]
abbrev dktX0_note_4 : List UInt8 := dkwX0_note_4 ++ dktX0_note_5
def dkwX0_note_3 : List UInt8 := [180, 0, 57, 27, 50, 42, 180, 0, 49, 27, 46, 92, 46, 4, 96, 79, 3, 61, 28, 27, 162, 0, 40, 42]
abbrev dktX0_note_3 : List UInt8 := dkwX0_note_3 ++ dktX0_note_4
def dkwX0_note_2 : List UInt8 := [162, 0, 88, 42, 180, 0, 52, 27, 92, 47, 42, 180, 0, 49, 27, 46, 184, 0, 144, 129, 80, 42]
abbrev dktX0_note_2 : List UInt8 := dkwX0_note_2 ++ dktX0_note_3
def dkwX0_note_1 : List UInt8 := [180, 1, 216, 184, 1, 219, 42, 89, 180, 1, 213, 4, 96, 181, 1, 213, 3, 60, 27, 42, 180, 1, 216]
abbrev dktX0_note_1 : List UInt8 := dkwX0_note_1 ++ dktX0_note_2
def dkwX0_note_0 : List UInt8 := [42, 180, 1, 213, 42, 180, 0, 63, 160, 0, 20, 42, 180, 0, 49, 3, 42, 180, 0, 66, 3, 42]
abbrev dktX0_note_0 : List UInt8 := dkwX0_note_0 ++ dktX0_note_1
theorem dksX0_note_0 : cX0_note.data.toList.drop 0 = dktX0_note_0 := by decide +kernel
theorem dksX0_note_1 : cX0_note.data.toList.drop 22 = dktX0_note_1 := dk_seg dksX0_note_0 22 rfl rfl
theorem dksX0_note_2 : cX0_note.data.toList.drop 45 = dktX0_note_2 := dk_seg dksX0_note_1 23 rfl rfl
theorem dksX0_note_3 : cX0_note.data.toList.drop 67 = dktX0_note_3 := dk_seg dksX0_note_2 22 rfl rfl
theorem dksX0_note_4 : cX0_note.data.toList.drop 91 = dktX0_note_4 := dk_seg dksX0_note_3 24 rfl rfl
theorem dksX0_note_5 : cX0_note.data.toList.drop 113 = dktX0_note_5 := dk_seg dksX0_note_4 22 rfl rfl
theorem dksX0_note_6 : cX0_note.data.toList.drop 135 = dktX0_note_6 := dk_seg dksX0_note_5 22 rfl rfl
theorem dksX0_note_7 : cX0_note.data.toList.drop 159 = dktX0_note_7 := dk_seg dksX0_note_6 24 rfl rfl
theorem dX0_note_0 : decode cX0_note 0 = .ok (.aload_n 0, 1) := dk_42 (dk_at dksX0_note_0 0 rfl rfl)
theorem dX0_note_1 : decode cX0_note 1 = .ok (.getfield 469, 3) := dk_180 1 213 (dk_at dksX0_note_0 1 rfl rfl)
theorem dX0_note_4 : decode cX0_note 4 = .ok (.aload_n 0, 1) := dk_42 (dk_at dksX0_note_0 4 rfl rfl)
theorem dX0_note_5 : decode cX0_note 5 = .ok (.getfield 63, 3) := dk_180 0 63 (dk_at dksX0_note_0 5 rfl rfl)
theorem dX0_note_8 : decode cX0_note 8 = .ok (.if_icmp .ne 20, 3) := dk_160 0 20 (dk_at dksX0_note_0 8 rfl rfl)
theorem dX0_note_11 : decode cX0_note 11 = .ok (.aload_n 0, 1) := dk_42 (dk_at dksX0_note_0 11 rfl rfl)
theorem dX0_note_12 : decode cX0_note 12 = .ok (.getfield 49, 3) := dk_180 0 49 (dk_at dksX0_note_0 12 rfl rfl)
theorem dX0_note_15 : decode cX0_note 15 = .ok (.iconst 0, 1) := dk_3 (dk_at dksX0_note_0 15 rfl rfl)
theorem dX0_note_16 : decode cX0_note 16 = .ok (.aload_n 0, 1) := dk_42 (dk_at dksX0_note_0 16 rfl rfl)
theorem dX0_note_17 : decode cX0_note 17 = .ok (.getfield 66, 3) := dk_180 0 66 (dk_at dksX0_note_0 17 rfl rfl)
theorem dX0_note_20 : decode cX0_note 20 = .ok (.iconst 0, 1) := dk_3 (dk_at dksX0_note_0 20 rfl rfl)
theorem dX0_note_21 : decode cX0_note 21 = .ok (.aload_n 0, 1) := dk_42 (dk_at dksX0_note_0 21 rfl rfl)
theorem dX0_note_22 : decode cX0_note 22 = .ok (.getfield 472, 3) := dk_180 1 216 (dk_at dksX0_note_1 0 rfl rfl)
theorem dX0_note_25 : decode cX0_note 25 = .ok (.invokestatic 475, 3) := dk_184 1 219 (dk_at dksX0_note_1 3 rfl rfl)
theorem dX0_note_28 : decode cX0_note 28 = .ok (.aload_n 0, 1) := dk_42 (dk_at dksX0_note_1 6 rfl rfl)
theorem dX0_note_29 : decode cX0_note 29 = .ok (.dup, 1) := dk_89 (dk_at dksX0_note_1 7 rfl rfl)
theorem dX0_note_30 : decode cX0_note 30 = .ok (.getfield 469, 3) := dk_180 1 213 (dk_at dksX0_note_1 8 rfl rfl)
theorem dX0_note_33 : decode cX0_note 33 = .ok (.iconst 1, 1) := dk_4 (dk_at dksX0_note_1 11 rfl rfl)
theorem dX0_note_34 : decode cX0_note 34 = .ok (.iadd, 1) := dk_96 (dk_at dksX0_note_1 12 rfl rfl)
theorem dX0_note_35 : decode cX0_note 35 = .ok (.putfield 469, 3) := dk_181 1 213 (dk_at dksX0_note_1 13 rfl rfl)
theorem dX0_note_38 : decode cX0_note 38 = .ok (.iconst 0, 1) := dk_3 (dk_at dksX0_note_1 16 rfl rfl)
theorem dX0_note_39 : decode cX0_note 39 = .ok (.istore_n 1, 1) := dk_60 (dk_at dksX0_note_1 17 rfl rfl)
theorem dX0_note_40 : decode cX0_note 40 = .ok (.iload_n 1, 1) := dk_27 (dk_at dksX0_note_1 18 rfl rfl)
theorem dX0_note_41 : decode cX0_note 41 = .ok (.aload_n 0, 1) := dk_42 (dk_at dksX0_note_1 19 rfl rfl)
theorem dX0_note_42 : decode cX0_note 42 = .ok (.getfield 472, 3) := dk_180 1 216 (dk_at dksX0_note_1 20 rfl rfl)
theorem dX0_note_45 : decode cX0_note 45 = .ok (.if_icmp .ge 88, 3) := dk_162 0 88 (dk_at dksX0_note_2 0 rfl rfl)
theorem dX0_note_48 : decode cX0_note 48 = .ok (.aload_n 0, 1) := dk_42 (dk_at dksX0_note_2 3 rfl rfl)
theorem dX0_note_49 : decode cX0_note 49 = .ok (.getfield 52, 3) := dk_180 0 52 (dk_at dksX0_note_2 4 rfl rfl)
theorem dX0_note_52 : decode cX0_note 52 = .ok (.iload_n 1, 1) := dk_27 (dk_at dksX0_note_2 7 rfl rfl)
theorem dX0_note_53 : decode cX0_note 53 = .ok (.dup2, 1) := dk_92 (dk_at dksX0_note_2 8 rfl rfl)
theorem dX0_note_54 : decode cX0_note 54 = .ok (.laload, 1) := dk_47 (dk_at dksX0_note_2 9 rfl rfl)
theorem dX0_note_55 : decode cX0_note 55 = .ok (.aload_n 0, 1) := dk_42 (dk_at dksX0_note_2 10 rfl rfl)
theorem dX0_note_56 : decode cX0_note 56 = .ok (.getfield 49, 3) := dk_180 0 49 (dk_at dksX0_note_2 11 rfl rfl)
theorem dX0_note_59 : decode cX0_note 59 = .ok (.iload_n 1, 1) := dk_27 (dk_at dksX0_note_2 14 rfl rfl)
theorem dX0_note_60 : decode cX0_note 60 = .ok (.iaload, 1) := dk_46 (dk_at dksX0_note_2 15 rfl rfl)
theorem dX0_note_61 : decode cX0_note 61 = .ok (.invokestatic 144, 3) := dk_184 0 144 (dk_at dksX0_note_2 16 rfl rfl)
theorem dX0_note_64 : decode cX0_note 64 = .ok (.lor, 1) := dk_129 (dk_at dksX0_note_2 19 rfl rfl)
theorem dX0_note_65 : decode cX0_note 65 = .ok (.lastore, 1) := dk_80 (dk_at dksX0_note_2 20 rfl rfl)
theorem dX0_note_66 : decode cX0_note 66 = .ok (.aload_n 0, 1) := dk_42 (dk_at dksX0_note_2 21 rfl rfl)
theorem dX0_note_67 : decode cX0_note 67 = .ok (.getfield 57, 3) := dk_180 0 57 (dk_at dksX0_note_3 0 rfl rfl)
theorem dX0_note_70 : decode cX0_note 70 = .ok (.iload_n 1, 1) := dk_27 (dk_at dksX0_note_3 3 rfl rfl)
theorem dX0_note_71 : decode cX0_note 71 = .ok (.aaload, 1) := dk_50 (dk_at dksX0_note_3 4 rfl rfl)
theorem dX0_note_72 : decode cX0_note 72 = .ok (.aload_n 0, 1) := dk_42 (dk_at dksX0_note_3 5 rfl rfl)
theorem dX0_note_73 : decode cX0_note 73 = .ok (.getfield 49, 3) := dk_180 0 49 (dk_at dksX0_note_3 6 rfl rfl)
theorem dX0_note_76 : decode cX0_note 76 = .ok (.iload_n 1, 1) := dk_27 (dk_at dksX0_note_3 9 rfl rfl)
theorem dX0_note_77 : decode cX0_note 77 = .ok (.iaload, 1) := dk_46 (dk_at dksX0_note_3 10 rfl rfl)
theorem dX0_note_78 : decode cX0_note 78 = .ok (.dup2, 1) := dk_92 (dk_at dksX0_note_3 11 rfl rfl)
theorem dX0_note_79 : decode cX0_note 79 = .ok (.iaload, 1) := dk_46 (dk_at dksX0_note_3 12 rfl rfl)
theorem dX0_note_80 : decode cX0_note 80 = .ok (.iconst 1, 1) := dk_4 (dk_at dksX0_note_3 13 rfl rfl)
theorem dX0_note_81 : decode cX0_note 81 = .ok (.iadd, 1) := dk_96 (dk_at dksX0_note_3 14 rfl rfl)
theorem dX0_note_82 : decode cX0_note 82 = .ok (.iastore, 1) := dk_79 (dk_at dksX0_note_3 15 rfl rfl)
theorem dX0_note_83 : decode cX0_note 83 = .ok (.iconst 0, 1) := dk_3 (dk_at dksX0_note_3 16 rfl rfl)
theorem dX0_note_84 : decode cX0_note 84 = .ok (.istore_n 2, 1) := dk_61 (dk_at dksX0_note_3 17 rfl rfl)
theorem dX0_note_85 : decode cX0_note 85 = .ok (.iload_n 2, 1) := dk_28 (dk_at dksX0_note_3 18 rfl rfl)
theorem dX0_note_86 : decode cX0_note 86 = .ok (.iload_n 1, 1) := dk_27 (dk_at dksX0_note_3 19 rfl rfl)
theorem dX0_note_87 : decode cX0_note 87 = .ok (.if_icmp .ge 40, 3) := dk_162 0 40 (dk_at dksX0_note_3 20 rfl rfl)
theorem dX0_note_90 : decode cX0_note 90 = .ok (.aload_n 0, 1) := dk_42 (dk_at dksX0_note_3 23 rfl rfl)
theorem dX0_note_91 : decode cX0_note 91 = .ok (.getfield 60, 3) := dk_180 0 60 (dk_at dksX0_note_4 0 rfl rfl)
theorem dX0_note_94 : decode cX0_note 94 = .ok (.bipush 9, 2) := dk_16 9 (dk_at dksX0_note_4 3 rfl rfl)
theorem dX0_note_96 : decode cX0_note 96 = .ok (.iload_n 2, 1) := dk_28 (dk_at dksX0_note_4 5 rfl rfl)
theorem dX0_note_97 : decode cX0_note 97 = .ok (.imul, 1) := dk_104 (dk_at dksX0_note_4 6 rfl rfl)
theorem dX0_note_98 : decode cX0_note 98 = .ok (.iload_n 1, 1) := dk_27 (dk_at dksX0_note_4 7 rfl rfl)
theorem dX0_note_99 : decode cX0_note 99 = .ok (.iadd, 1) := dk_96 (dk_at dksX0_note_4 8 rfl rfl)
theorem dX0_note_100 : decode cX0_note 100 = .ok (.aaload, 1) := dk_50 (dk_at dksX0_note_4 9 rfl rfl)
theorem dX0_note_101 : decode cX0_note 101 = .ok (.aload_n 0, 1) := dk_42 (dk_at dksX0_note_4 10 rfl rfl)
theorem dX0_note_102 : decode cX0_note 102 = .ok (.getfield 49, 3) := dk_180 0 49 (dk_at dksX0_note_4 11 rfl rfl)
theorem dX0_note_105 : decode cX0_note 105 = .ok (.iload_n 2, 1) := dk_28 (dk_at dksX0_note_4 14 rfl rfl)
theorem dX0_note_106 : decode cX0_note 106 = .ok (.iaload, 1) := dk_46 (dk_at dksX0_note_4 15 rfl rfl)
theorem dX0_note_107 : decode cX0_note 107 = .ok (.aload_n 0, 1) := dk_42 (dk_at dksX0_note_4 16 rfl rfl)
theorem dX0_note_108 : decode cX0_note 108 = .ok (.getfield 49, 3) := dk_180 0 49 (dk_at dksX0_note_4 17 rfl rfl)
theorem dX0_note_111 : decode cX0_note 111 = .ok (.iload_n 1, 1) := dk_27 (dk_at dksX0_note_4 20 rfl rfl)
theorem dX0_note_112 : decode cX0_note 112 = .ok (.iaload, 1) := dk_46 (dk_at dksX0_note_4 21 rfl rfl)
theorem dX0_note_113 : decode cX0_note 113 = .ok (.invokestatic 165, 3) := dk_184 0 165 (dk_at dksX0_note_5 0 rfl rfl)
theorem dX0_note_116 : decode cX0_note 116 = .ok (.dup2, 1) := dk_92 (dk_at dksX0_note_5 3 rfl rfl)
theorem dX0_note_117 : decode cX0_note 117 = .ok (.iaload, 1) := dk_46 (dk_at dksX0_note_5 4 rfl rfl)
theorem dX0_note_118 : decode cX0_note 118 = .ok (.iconst 1, 1) := dk_4 (dk_at dksX0_note_5 5 rfl rfl)
theorem dX0_note_119 : decode cX0_note 119 = .ok (.iadd, 1) := dk_96 (dk_at dksX0_note_5 6 rfl rfl)
theorem dX0_note_120 : decode cX0_note 120 = .ok (.iastore, 1) := dk_79 (dk_at dksX0_note_5 7 rfl rfl)
theorem dX0_note_121 : decode cX0_note 121 = .ok (.iinc 2 1, 3) := dk_132 2 1 (dk_at dksX0_note_5 8 rfl rfl)
theorem dX0_note_124 : decode cX0_note 124 = .ok (.goto (-39), 3) := dk_167 255 217 (dk_at dksX0_note_5 11 rfl rfl)
theorem dX0_note_127 : decode cX0_note 127 = .ok (.iinc 1 1, 3) := dk_132 1 1 (dk_at dksX0_note_5 14 rfl rfl)
theorem dX0_note_130 : decode cX0_note 130 = .ok (.goto (-90), 3) := dk_167 255 166 (dk_at dksX0_note_5 17 rfl rfl)
theorem dX0_note_133 : decode cX0_note 133 = .ok (.aload_n 0, 1) := dk_42 (dk_at dksX0_note_5 20 rfl rfl)
theorem dX0_note_134 : decode cX0_note 134 = .ok (.dup, 1) := dk_89 (dk_at dksX0_note_5 21 rfl rfl)
theorem dX0_note_135 : decode cX0_note 135 = .ok (.getfield 481, 3) := dk_180 1 225 (dk_at dksX0_note_6 0 rfl rfl)
theorem dX0_note_138 : decode cX0_note 138 = .ok (.aload_n 0, 1) := dk_42 (dk_at dksX0_note_6 3 rfl rfl)
theorem dX0_note_139 : decode cX0_note 139 = .ok (.aload_n 0, 1) := dk_42 (dk_at dksX0_note_6 4 rfl rfl)
theorem dX0_note_140 : decode cX0_note 140 = .ok (.getfield 484, 3) := dk_180 1 228 (dk_at dksX0_note_6 5 rfl rfl)
theorem dX0_note_143 : decode cX0_note 143 = .ok (.aload_n 0, 1) := dk_42 (dk_at dksX0_note_6 8 rfl rfl)
theorem dX0_note_144 : decode cX0_note 144 = .ok (.getfield 487, 3) := dk_180 1 231 (dk_at dksX0_note_6 9 rfl rfl)
theorem dX0_note_147 : decode cX0_note 147 = .ok (.invokevirtual 490, 3) := dk_182 1 234 (dk_at dksX0_note_6 12 rfl rfl)
theorem dX0_note_150 : decode cX0_note 150 = .ok (.ifCond .eq 22, 3) := dk_153 0 22 (dk_at dksX0_note_6 15 rfl rfl)
theorem dX0_note_153 : decode cX0_note 153 = .ok (.aload_n 0, 1) := dk_42 (dk_at dksX0_note_6 18 rfl rfl)
theorem dX0_note_154 : decode cX0_note 154 = .ok (.aload_n 0, 1) := dk_42 (dk_at dksX0_note_6 19 rfl rfl)
theorem dX0_note_155 : decode cX0_note 155 = .ok (.getfield 493, 3) := dk_180 1 237 (dk_at dksX0_note_6 20 rfl rfl)
theorem dX0_note_158 : decode cX0_note 158 = .ok (.aload_n 0, 1) := dk_42 (dk_at dksX0_note_6 23 rfl rfl)
theorem dX0_note_159 : decode cX0_note 159 = .ok (.getfield 496, 3) := dk_180 1 240 (dk_at dksX0_note_7 0 rfl rfl)
theorem dX0_note_162 : decode cX0_note 162 = .ok (.invokevirtual 490, 3) := dk_182 1 234 (dk_at dksX0_note_7 3 rfl rfl)
theorem dX0_note_165 : decode cX0_note 165 = .ok (.ifCond .eq 7, 3) := dk_153 0 7 (dk_at dksX0_note_7 6 rfl rfl)
theorem dX0_note_168 : decode cX0_note 168 = .ok (.iconst 1, 1) := dk_4 (dk_at dksX0_note_7 9 rfl rfl)
theorem dX0_note_169 : decode cX0_note 169 = .ok (.goto 4, 3) := dk_167 0 4 (dk_at dksX0_note_7 10 rfl rfl)
theorem dX0_note_172 : decode cX0_note 172 = .ok (.iconst 0, 1) := dk_3 (dk_at dksX0_note_7 13 rfl rfl)
theorem dX0_note_173 : decode cX0_note 173 = .ok (.ior, 1) := dk_128 (dk_at dksX0_note_7 14 rfl rfl)
theorem dX0_note_174 : decode cX0_note 174 = .ok (.putfield 481, 3) := dk_181 1 225 (dk_at dksX0_note_7 15 rfl rfl)
theorem dX0_note_177 : decode cX0_note 177 = .ok (.return_, 1) := dk_177 (dk_at dksX0_note_7 18 rfl rfl)
abbrev cX0_hasAt : ByteArray := prog_1_method_67_code
def yX0_hasAt : MethodName := ⟨RX0, "hasAt", "(II)Z"⟩
def dkwX0_hasAt_1 : List UInt8 := [4, 167, 0, 4, 3, 172]
abbrev dktX0_hasAt_1 : List UInt8 := dkwX0_hasAt_1 ++ []
def dkwX0_hasAt_0 : List UInt8 := [42, 27, 182, 1, 243, 62, 29, 42, 180, 1, 216, 162, 0, 17, 42, 180, 0, 49, 29, 46, 28, 160, 0, 7]
abbrev dktX0_hasAt_0 : List UInt8 := dkwX0_hasAt_0 ++ dktX0_hasAt_1
theorem dksX0_hasAt_0 : cX0_hasAt.data.toList.drop 0 = dktX0_hasAt_0 := by decide +kernel
theorem dksX0_hasAt_1 : cX0_hasAt.data.toList.drop 24 = dktX0_hasAt_1 := dk_seg dksX0_hasAt_0 24 rfl rfl
theorem dX0_hasAt_0 : decode cX0_hasAt 0 = .ok (.aload_n 0, 1) := dk_42 (dk_at dksX0_hasAt_0 0 rfl rfl)
theorem dX0_hasAt_1 : decode cX0_hasAt 1 = .ok (.iload_n 1, 1) := dk_27 (dk_at dksX0_hasAt_0 1 rfl rfl)
theorem dX0_hasAt_2 : decode cX0_hasAt 2 = .ok (.invokevirtual 499, 3) := dk_182 1 243 (dk_at dksX0_hasAt_0 2 rfl rfl)
theorem dX0_hasAt_5 : decode cX0_hasAt 5 = .ok (.istore_n 3, 1) := dk_62 (dk_at dksX0_hasAt_0 5 rfl rfl)
theorem dX0_hasAt_6 : decode cX0_hasAt 6 = .ok (.iload_n 3, 1) := dk_29 (dk_at dksX0_hasAt_0 6 rfl rfl)
theorem dX0_hasAt_7 : decode cX0_hasAt 7 = .ok (.aload_n 0, 1) := dk_42 (dk_at dksX0_hasAt_0 7 rfl rfl)
theorem dX0_hasAt_8 : decode cX0_hasAt 8 = .ok (.getfield 472, 3) := dk_180 1 216 (dk_at dksX0_hasAt_0 8 rfl rfl)
theorem dX0_hasAt_11 : decode cX0_hasAt 11 = .ok (.if_icmp .ge 17, 3) := dk_162 0 17 (dk_at dksX0_hasAt_0 11 rfl rfl)
theorem dX0_hasAt_14 : decode cX0_hasAt 14 = .ok (.aload_n 0, 1) := dk_42 (dk_at dksX0_hasAt_0 14 rfl rfl)
theorem dX0_hasAt_15 : decode cX0_hasAt 15 = .ok (.getfield 49, 3) := dk_180 0 49 (dk_at dksX0_hasAt_0 15 rfl rfl)
theorem dX0_hasAt_18 : decode cX0_hasAt 18 = .ok (.iload_n 3, 1) := dk_29 (dk_at dksX0_hasAt_0 18 rfl rfl)
theorem dX0_hasAt_19 : decode cX0_hasAt 19 = .ok (.iaload, 1) := dk_46 (dk_at dksX0_hasAt_0 19 rfl rfl)
theorem dX0_hasAt_20 : decode cX0_hasAt 20 = .ok (.iload_n 2, 1) := dk_28 (dk_at dksX0_hasAt_0 20 rfl rfl)
theorem dX0_hasAt_21 : decode cX0_hasAt 21 = .ok (.if_icmp .ne 7, 3) := dk_160 0 7 (dk_at dksX0_hasAt_0 21 rfl rfl)
theorem dX0_hasAt_24 : decode cX0_hasAt 24 = .ok (.iconst 1, 1) := dk_4 (dk_at dksX0_hasAt_1 0 rfl rfl)
theorem dX0_hasAt_25 : decode cX0_hasAt 25 = .ok (.goto 4, 3) := dk_167 0 4 (dk_at dksX0_hasAt_1 1 rfl rfl)
theorem dX0_hasAt_28 : decode cX0_hasAt 28 = .ok (.iconst 0, 1) := dk_3 (dk_at dksX0_hasAt_1 4 rfl rfl)
theorem dX0_hasAt_29 : decode cX0_hasAt 29 = .ok (.ireturn, 1) := dk_172 (dk_at dksX0_hasAt_1 5 rfl rfl)
abbrev cX0_placeOf : ByteArray := prog_1_method_66_code
def yX0_placeOf : MethodName := ⟨RX0, "placeOf", "(I)I"⟩
def dkwX0_placeOf_1 : List UInt8 := [167, 255, 235, 28, 172]
abbrev dktX0_placeOf_1 : List UInt8 := dkwX0_placeOf_1 ++ []
def dkwX0_placeOf_0 : List UInt8 := [3, 61, 28, 42, 180, 1, 216, 162, 0, 19, 42, 180, 0, 45, 28, 46, 27, 159, 0, 9, 132, 2, 1]
abbrev dktX0_placeOf_0 : List UInt8 := dkwX0_placeOf_0 ++ dktX0_placeOf_1
theorem dksX0_placeOf_0 : cX0_placeOf.data.toList.drop 0 = dktX0_placeOf_0 := by decide +kernel
theorem dksX0_placeOf_1 : cX0_placeOf.data.toList.drop 23 = dktX0_placeOf_1 := dk_seg dksX0_placeOf_0 23 rfl rfl
theorem dX0_placeOf_0 : decode cX0_placeOf 0 = .ok (.iconst 0, 1) := dk_3 (dk_at dksX0_placeOf_0 0 rfl rfl)
theorem dX0_placeOf_1 : decode cX0_placeOf 1 = .ok (.istore_n 2, 1) := dk_61 (dk_at dksX0_placeOf_0 1 rfl rfl)
theorem dX0_placeOf_2 : decode cX0_placeOf 2 = .ok (.iload_n 2, 1) := dk_28 (dk_at dksX0_placeOf_0 2 rfl rfl)
theorem dX0_placeOf_3 : decode cX0_placeOf 3 = .ok (.aload_n 0, 1) := dk_42 (dk_at dksX0_placeOf_0 3 rfl rfl)
theorem dX0_placeOf_4 : decode cX0_placeOf 4 = .ok (.getfield 472, 3) := dk_180 1 216 (dk_at dksX0_placeOf_0 4 rfl rfl)
theorem dX0_placeOf_7 : decode cX0_placeOf 7 = .ok (.if_icmp .ge 19, 3) := dk_162 0 19 (dk_at dksX0_placeOf_0 7 rfl rfl)
theorem dX0_placeOf_10 : decode cX0_placeOf 10 = .ok (.aload_n 0, 1) := dk_42 (dk_at dksX0_placeOf_0 10 rfl rfl)
theorem dX0_placeOf_11 : decode cX0_placeOf 11 = .ok (.getfield 45, 3) := dk_180 0 45 (dk_at dksX0_placeOf_0 11 rfl rfl)
theorem dX0_placeOf_14 : decode cX0_placeOf 14 = .ok (.iload_n 2, 1) := dk_28 (dk_at dksX0_placeOf_0 14 rfl rfl)
theorem dX0_placeOf_15 : decode cX0_placeOf 15 = .ok (.iaload, 1) := dk_46 (dk_at dksX0_placeOf_0 15 rfl rfl)
theorem dX0_placeOf_16 : decode cX0_placeOf 16 = .ok (.iload_n 1, 1) := dk_27 (dk_at dksX0_placeOf_0 16 rfl rfl)
theorem dX0_placeOf_17 : decode cX0_placeOf 17 = .ok (.if_icmp .eq 9, 3) := dk_159 0 9 (dk_at dksX0_placeOf_0 17 rfl rfl)
theorem dX0_placeOf_20 : decode cX0_placeOf 20 = .ok (.iinc 2 1, 3) := dk_132 2 1 (dk_at dksX0_placeOf_0 20 rfl rfl)
theorem dX0_placeOf_23 : decode cX0_placeOf 23 = .ok (.goto (-21), 3) := dk_167 255 235 (dk_at dksX0_placeOf_1 0 rfl rfl)
theorem dX0_placeOf_26 : decode cX0_placeOf 26 = .ok (.iload_n 2, 1) := dk_28 (dk_at dksX0_placeOf_1 3 rfl rfl)
theorem dX0_placeOf_27 : decode cX0_placeOf 27 = .ok (.ireturn, 1) := dk_172 (dk_at dksX0_placeOf_1 4 rfl rfl)
abbrev cX0_allowed : ByteArray := prog_1_method_68_code
def yX0_allowed : MethodName := ⟨RX0, "allowed", "(I)J"⟩
def dkwX0_allowed_7 : List UInt8 := [131, 127, 167, 0, 4, 33, 173]
abbrev dktX0_allowed_7 : List UInt8 := dkwX0_allowed_7 ++ []
def dkwX0_allowed_6 : List UInt8 := [131, 127, 66, 132, 5, 1, 167, 255, 223, 42, 180, 0, 207, 153, 0, 16, 33, 42, 180, 1, 253, 20, 0, 156]
abbrev dktX0_allowed_6 : List UInt8 := dkwX0_allowed_6 ++ dktX0_allowed_7
def dkwX0_allowed_5 : List UInt8 := [162, 0, 33, 42, 180, 0, 207, 153, 0, 26, 33, 42, 180, 0, 49, 21, 5, 46, 184, 0, 144, 20, 0, 156]
abbrev dktX0_allowed_5 : List UInt8 := dkwX0_allowed_5 ++ dktX0_allowed_6
def dkwX0_allowed_4 : List UInt8 := [42, 180, 0, 49, 21, 7, 46, 182, 1, 249, 127, 66, 132, 5, 1, 167, 255, 163, 3, 54, 5, 21, 5, 27]
abbrev dktX0_allowed_4 : List UInt8 := dkwX0_allowed_4 ++ dktX0_allowed_5
def dkwX0_allowed_3 : List UInt8 := [182, 1, 246, 182, 1, 243, 54, 7, 21, 7, 27, 162, 0, 25, 33, 25, 6, 42, 180, 0, 45, 21, 7, 46]
abbrev dktX0_allowed_3 : List UInt8 := dkwX0_allowed_3 ++ dktX0_allowed_4
def dkwX0_allowed_2 : List UInt8 := [25, 6, 180, 1, 46, 153, 0, 55, 25, 6, 28, 182, 1, 48, 154, 0, 6, 167, 0, 43, 42, 25, 6, 28]
abbrev dktX0_allowed_2 : List UInt8 := dkwX0_allowed_2 ++ dktX0_allowed_3
def dkwX0_allowed_1 : List UInt8 := [185, 0, 180, 1, 0, 162, 0, 85, 42, 180, 0, 29, 21, 5, 185, 0, 186, 2, 0, 192, 0, 214, 58, 6]
abbrev dktX0_allowed_1 : List UInt8 := dkwX0_allowed_1 ++ dktX0_allowed_2
def dkwX0_allowed_0 : List UInt8 := [42, 180, 0, 45, 27, 46, 61, 42, 180, 0, 32, 28, 47, 66, 3, 54, 5, 21, 5, 42, 180, 0, 29]
abbrev dktX0_allowed_0 : List UInt8 := dkwX0_allowed_0 ++ dktX0_allowed_1
theorem dksX0_allowed_0 : cX0_allowed.data.toList.drop 0 = dktX0_allowed_0 := by decide +kernel
theorem dksX0_allowed_1 : cX0_allowed.data.toList.drop 23 = dktX0_allowed_1 := dk_seg dksX0_allowed_0 23 rfl rfl
theorem dksX0_allowed_2 : cX0_allowed.data.toList.drop 47 = dktX0_allowed_2 := dk_seg dksX0_allowed_1 24 rfl rfl
theorem dksX0_allowed_3 : cX0_allowed.data.toList.drop 71 = dktX0_allowed_3 := dk_seg dksX0_allowed_2 24 rfl rfl
theorem dksX0_allowed_4 : cX0_allowed.data.toList.drop 95 = dktX0_allowed_4 := dk_seg dksX0_allowed_3 24 rfl rfl
theorem dksX0_allowed_5 : cX0_allowed.data.toList.drop 119 = dktX0_allowed_5 := dk_seg dksX0_allowed_4 24 rfl rfl
theorem dksX0_allowed_6 : cX0_allowed.data.toList.drop 143 = dktX0_allowed_6 := dk_seg dksX0_allowed_5 24 rfl rfl
theorem dksX0_allowed_7 : cX0_allowed.data.toList.drop 167 = dktX0_allowed_7 := dk_seg dksX0_allowed_6 24 rfl rfl
theorem dX0_allowed_0 : decode cX0_allowed 0 = .ok (.aload_n 0, 1) := dk_42 (dk_at dksX0_allowed_0 0 rfl rfl)
theorem dX0_allowed_1 : decode cX0_allowed 1 = .ok (.getfield 45, 3) := dk_180 0 45 (dk_at dksX0_allowed_0 1 rfl rfl)
theorem dX0_allowed_4 : decode cX0_allowed 4 = .ok (.iload_n 1, 1) := dk_27 (dk_at dksX0_allowed_0 4 rfl rfl)
theorem dX0_allowed_5 : decode cX0_allowed 5 = .ok (.iaload, 1) := dk_46 (dk_at dksX0_allowed_0 5 rfl rfl)
theorem dX0_allowed_6 : decode cX0_allowed 6 = .ok (.istore_n 2, 1) := dk_61 (dk_at dksX0_allowed_0 6 rfl rfl)
theorem dX0_allowed_7 : decode cX0_allowed 7 = .ok (.aload_n 0, 1) := dk_42 (dk_at dksX0_allowed_0 7 rfl rfl)
theorem dX0_allowed_8 : decode cX0_allowed 8 = .ok (.getfield 32, 3) := dk_180 0 32 (dk_at dksX0_allowed_0 8 rfl rfl)
theorem dX0_allowed_11 : decode cX0_allowed 11 = .ok (.iload_n 2, 1) := dk_28 (dk_at dksX0_allowed_0 11 rfl rfl)
theorem dX0_allowed_12 : decode cX0_allowed 12 = .ok (.laload, 1) := dk_47 (dk_at dksX0_allowed_0 12 rfl rfl)
theorem dX0_allowed_13 : decode cX0_allowed 13 = .ok (.lstore_n 3, 1) := dk_66 (dk_at dksX0_allowed_0 13 rfl rfl)
theorem dX0_allowed_14 : decode cX0_allowed 14 = .ok (.iconst 0, 1) := dk_3 (dk_at dksX0_allowed_0 14 rfl rfl)
theorem dX0_allowed_15 : decode cX0_allowed 15 = .ok (.istore 5, 2) := dk_54 5 (dk_at dksX0_allowed_0 15 rfl rfl)
theorem dX0_allowed_17 : decode cX0_allowed 17 = .ok (.iload 5, 2) := dk_21 5 (dk_at dksX0_allowed_0 17 rfl rfl)
theorem dX0_allowed_19 : decode cX0_allowed 19 = .ok (.aload_n 0, 1) := dk_42 (dk_at dksX0_allowed_0 19 rfl rfl)
theorem dX0_allowed_20 : decode cX0_allowed 20 = .ok (.getfield 29, 3) := dk_180 0 29 (dk_at dksX0_allowed_0 20 rfl rfl)
theorem dX0_allowed_23 : decode cX0_allowed 23 = .ok (.invokeinterface 180 1, 5) := by decide +kernel
theorem dX0_allowed_28 : decode cX0_allowed 28 = .ok (.if_icmp .ge 85, 3) := dk_162 0 85 (dk_at dksX0_allowed_1 5 rfl rfl)
theorem dX0_allowed_31 : decode cX0_allowed 31 = .ok (.aload_n 0, 1) := dk_42 (dk_at dksX0_allowed_1 8 rfl rfl)
theorem dX0_allowed_32 : decode cX0_allowed 32 = .ok (.getfield 29, 3) := dk_180 0 29 (dk_at dksX0_allowed_1 9 rfl rfl)
theorem dX0_allowed_35 : decode cX0_allowed 35 = .ok (.iload 5, 2) := dk_21 5 (dk_at dksX0_allowed_1 12 rfl rfl)
theorem dX0_allowed_37 : decode cX0_allowed 37 = .ok (.invokeinterface 186 2, 5) := by decide +kernel
theorem dX0_allowed_42 : decode cX0_allowed 42 = .ok (.checkcast 214, 3) := dk_192 0 214 (dk_at dksX0_allowed_1 19 rfl rfl)
theorem dX0_allowed_45 : decode cX0_allowed 45 = .ok (.astore 6, 2) := dk_58 6 (dk_at dksX0_allowed_1 22 rfl rfl)
theorem dX0_allowed_47 : decode cX0_allowed 47 = .ok (.aload 6, 2) := dk_25 6 (dk_at dksX0_allowed_2 0 rfl rfl)
theorem dX0_allowed_49 : decode cX0_allowed 49 = .ok (.getfield 302, 3) := dk_180 1 46 (dk_at dksX0_allowed_2 2 rfl rfl)
theorem dX0_allowed_52 : decode cX0_allowed 52 = .ok (.ifCond .eq 55, 3) := dk_153 0 55 (dk_at dksX0_allowed_2 5 rfl rfl)
theorem dX0_allowed_55 : decode cX0_allowed 55 = .ok (.aload 6, 2) := dk_25 6 (dk_at dksX0_allowed_2 8 rfl rfl)
theorem dX0_allowed_57 : decode cX0_allowed 57 = .ok (.iload_n 2, 1) := dk_28 (dk_at dksX0_allowed_2 10 rfl rfl)
theorem dX0_allowed_58 : decode cX0_allowed 58 = .ok (.invokevirtual 304, 3) := dk_182 1 48 (dk_at dksX0_allowed_2 11 rfl rfl)
theorem dX0_allowed_61 : decode cX0_allowed 61 = .ok (.ifCond .ne 6, 3) := dk_154 0 6 (dk_at dksX0_allowed_2 14 rfl rfl)
theorem dX0_allowed_64 : decode cX0_allowed 64 = .ok (.goto 43, 3) := dk_167 0 43 (dk_at dksX0_allowed_2 17 rfl rfl)
theorem dX0_allowed_67 : decode cX0_allowed 67 = .ok (.aload_n 0, 1) := dk_42 (dk_at dksX0_allowed_2 20 rfl rfl)
theorem dX0_allowed_68 : decode cX0_allowed 68 = .ok (.aload 6, 2) := dk_25 6 (dk_at dksX0_allowed_2 21 rfl rfl)
theorem dX0_allowed_70 : decode cX0_allowed 70 = .ok (.iload_n 2, 1) := dk_28 (dk_at dksX0_allowed_2 23 rfl rfl)
theorem dX0_allowed_71 : decode cX0_allowed 71 = .ok (.invokevirtual 502, 3) := dk_182 1 246 (dk_at dksX0_allowed_3 0 rfl rfl)
theorem dX0_allowed_74 : decode cX0_allowed 74 = .ok (.invokevirtual 499, 3) := dk_182 1 243 (dk_at dksX0_allowed_3 3 rfl rfl)
theorem dX0_allowed_77 : decode cX0_allowed 77 = .ok (.istore 7, 2) := dk_54 7 (dk_at dksX0_allowed_3 6 rfl rfl)
theorem dX0_allowed_79 : decode cX0_allowed 79 = .ok (.iload 7, 2) := dk_21 7 (dk_at dksX0_allowed_3 8 rfl rfl)
theorem dX0_allowed_81 : decode cX0_allowed 81 = .ok (.iload_n 1, 1) := dk_27 (dk_at dksX0_allowed_3 10 rfl rfl)
theorem dX0_allowed_82 : decode cX0_allowed 82 = .ok (.if_icmp .ge 25, 3) := dk_162 0 25 (dk_at dksX0_allowed_3 11 rfl rfl)
theorem dX0_allowed_85 : decode cX0_allowed 85 = .ok (.lload_n 3, 1) := dk_33 (dk_at dksX0_allowed_3 14 rfl rfl)
theorem dX0_allowed_86 : decode cX0_allowed 86 = .ok (.aload 6, 2) := dk_25 6 (dk_at dksX0_allowed_3 15 rfl rfl)
theorem dX0_allowed_88 : decode cX0_allowed 88 = .ok (.aload_n 0, 1) := dk_42 (dk_at dksX0_allowed_3 17 rfl rfl)
theorem dX0_allowed_89 : decode cX0_allowed 89 = .ok (.getfield 45, 3) := dk_180 0 45 (dk_at dksX0_allowed_3 18 rfl rfl)
theorem dX0_allowed_92 : decode cX0_allowed 92 = .ok (.iload 7, 2) := dk_21 7 (dk_at dksX0_allowed_3 21 rfl rfl)
theorem dX0_allowed_94 : decode cX0_allowed 94 = .ok (.iaload, 1) := dk_46 (dk_at dksX0_allowed_3 23 rfl rfl)
theorem dX0_allowed_95 : decode cX0_allowed 95 = .ok (.aload_n 0, 1) := dk_42 (dk_at dksX0_allowed_4 0 rfl rfl)
theorem dX0_allowed_96 : decode cX0_allowed 96 = .ok (.getfield 49, 3) := dk_180 0 49 (dk_at dksX0_allowed_4 1 rfl rfl)
theorem dX0_allowed_99 : decode cX0_allowed 99 = .ok (.iload 7, 2) := dk_21 7 (dk_at dksX0_allowed_4 4 rfl rfl)
theorem dX0_allowed_101 : decode cX0_allowed 101 = .ok (.iaload, 1) := dk_46 (dk_at dksX0_allowed_4 6 rfl rfl)
theorem dX0_allowed_102 : decode cX0_allowed 102 = .ok (.invokevirtual 505, 3) := dk_182 1 249 (dk_at dksX0_allowed_4 7 rfl rfl)
theorem dX0_allowed_105 : decode cX0_allowed 105 = .ok (.land, 1) := dk_127 (dk_at dksX0_allowed_4 10 rfl rfl)
theorem dX0_allowed_106 : decode cX0_allowed 106 = .ok (.lstore_n 3, 1) := dk_66 (dk_at dksX0_allowed_4 11 rfl rfl)
theorem dX0_allowed_107 : decode cX0_allowed 107 = .ok (.iinc 5 1, 3) := dk_132 5 1 (dk_at dksX0_allowed_4 12 rfl rfl)
theorem dX0_allowed_110 : decode cX0_allowed 110 = .ok (.goto (-93), 3) := dk_167 255 163 (dk_at dksX0_allowed_4 15 rfl rfl)
theorem dX0_allowed_113 : decode cX0_allowed 113 = .ok (.iconst 0, 1) := dk_3 (dk_at dksX0_allowed_4 18 rfl rfl)
theorem dX0_allowed_114 : decode cX0_allowed 114 = .ok (.istore 5, 2) := dk_54 5 (dk_at dksX0_allowed_4 19 rfl rfl)
theorem dX0_allowed_116 : decode cX0_allowed 116 = .ok (.iload 5, 2) := dk_21 5 (dk_at dksX0_allowed_4 21 rfl rfl)
theorem dX0_allowed_118 : decode cX0_allowed 118 = .ok (.iload_n 1, 1) := dk_27 (dk_at dksX0_allowed_4 23 rfl rfl)
theorem dX0_allowed_119 : decode cX0_allowed 119 = .ok (.if_icmp .ge 33, 3) := dk_162 0 33 (dk_at dksX0_allowed_5 0 rfl rfl)
theorem dX0_allowed_122 : decode cX0_allowed 122 = .ok (.aload_n 0, 1) := dk_42 (dk_at dksX0_allowed_5 3 rfl rfl)
theorem dX0_allowed_123 : decode cX0_allowed 123 = .ok (.getfield 207, 3) := dk_180 0 207 (dk_at dksX0_allowed_5 4 rfl rfl)
theorem dX0_allowed_126 : decode cX0_allowed 126 = .ok (.ifCond .eq 26, 3) := dk_153 0 26 (dk_at dksX0_allowed_5 7 rfl rfl)
theorem dX0_allowed_129 : decode cX0_allowed 129 = .ok (.lload_n 3, 1) := dk_33 (dk_at dksX0_allowed_5 10 rfl rfl)
theorem dX0_allowed_130 : decode cX0_allowed 130 = .ok (.aload_n 0, 1) := dk_42 (dk_at dksX0_allowed_5 11 rfl rfl)
theorem dX0_allowed_131 : decode cX0_allowed 131 = .ok (.getfield 49, 3) := dk_180 0 49 (dk_at dksX0_allowed_5 12 rfl rfl)
theorem dX0_allowed_134 : decode cX0_allowed 134 = .ok (.iload 5, 2) := dk_21 5 (dk_at dksX0_allowed_5 15 rfl rfl)
theorem dX0_allowed_136 : decode cX0_allowed 136 = .ok (.iaload, 1) := dk_46 (dk_at dksX0_allowed_5 17 rfl rfl)
theorem dX0_allowed_137 : decode cX0_allowed 137 = .ok (.invokestatic 144, 3) := dk_184 0 144 (dk_at dksX0_allowed_5 18 rfl rfl)
theorem dX0_allowed_140 : decode cX0_allowed 140 = .ok (.ldc2_w 156, 3) := dk_20 0 156 (dk_at dksX0_allowed_5 21 rfl rfl)
theorem dX0_allowed_143 : decode cX0_allowed 143 = .ok (.lxor, 1) := dk_131 (dk_at dksX0_allowed_6 0 rfl rfl)
theorem dX0_allowed_144 : decode cX0_allowed 144 = .ok (.land, 1) := dk_127 (dk_at dksX0_allowed_6 1 rfl rfl)
theorem dX0_allowed_145 : decode cX0_allowed 145 = .ok (.lstore_n 3, 1) := dk_66 (dk_at dksX0_allowed_6 2 rfl rfl)
theorem dX0_allowed_146 : decode cX0_allowed 146 = .ok (.iinc 5 1, 3) := dk_132 5 1 (dk_at dksX0_allowed_6 3 rfl rfl)
theorem dX0_allowed_149 : decode cX0_allowed 149 = .ok (.goto (-33), 3) := dk_167 255 223 (dk_at dksX0_allowed_6 6 rfl rfl)
theorem dX0_allowed_152 : decode cX0_allowed 152 = .ok (.aload_n 0, 1) := dk_42 (dk_at dksX0_allowed_6 9 rfl rfl)
theorem dX0_allowed_153 : decode cX0_allowed 153 = .ok (.getfield 207, 3) := dk_180 0 207 (dk_at dksX0_allowed_6 10 rfl rfl)
theorem dX0_allowed_156 : decode cX0_allowed 156 = .ok (.ifCond .eq 16, 3) := dk_153 0 16 (dk_at dksX0_allowed_6 13 rfl rfl)
theorem dX0_allowed_159 : decode cX0_allowed 159 = .ok (.lload_n 3, 1) := dk_33 (dk_at dksX0_allowed_6 16 rfl rfl)
theorem dX0_allowed_160 : decode cX0_allowed 160 = .ok (.aload_n 0, 1) := dk_42 (dk_at dksX0_allowed_6 17 rfl rfl)
theorem dX0_allowed_161 : decode cX0_allowed 161 = .ok (.getfield 509, 3) := dk_180 1 253 (dk_at dksX0_allowed_6 18 rfl rfl)
theorem dX0_allowed_164 : decode cX0_allowed 164 = .ok (.ldc2_w 156, 3) := dk_20 0 156 (dk_at dksX0_allowed_6 21 rfl rfl)
theorem dX0_allowed_167 : decode cX0_allowed 167 = .ok (.lxor, 1) := dk_131 (dk_at dksX0_allowed_7 0 rfl rfl)
theorem dX0_allowed_168 : decode cX0_allowed 168 = .ok (.land, 1) := dk_127 (dk_at dksX0_allowed_7 1 rfl rfl)
theorem dX0_allowed_169 : decode cX0_allowed 169 = .ok (.goto 4, 3) := dk_167 0 4 (dk_at dksX0_allowed_7 2 rfl rfl)
theorem dX0_allowed_172 : decode cX0_allowed 172 = .ok (.lload_n 3, 1) := dk_33 (dk_at dksX0_allowed_7 5 rfl rfl)
theorem dX0_allowed_173 : decode cX0_allowed 173 = .ok (.lreturn, 1) := dk_173 (dk_at dksX0_allowed_7 6 rfl rfl)
abbrev cX0_trials : ByteArray := prog_1_method_73_code
def yX0_trials : MethodName := ⟨RX0, "trials", "()I"⟩
theorem dX0_trials_0 : decode cX0_trials 0 = .ok (.aload_n 0, 1) := by decide +kernel
theorem dX0_trials_1 : decode cX0_trials 1 = .ok (.getfield 538, 3) := by decide +kernel
theorem dX0_trials_4 : decode cX0_trials 4 = .ok (.ireturn, 1) := by decide +kernel
abbrev cX0_nth : ByteArray := prog_1_method_75_code
def yX0_nth : MethodName := ⟨RX0, "nth", "(II)I"⟩
def dkwX0_nth_1 : List UInt8 := [160, 0, 16, 42, 180, 0, 66, 42, 27, 182, 1, 243, 46, 167, 0, 4, 29, 172]
abbrev dktX0_nth_1 : List UInt8 := dkwX0_nth_1 ++ []
def dkwX0_nth_0 : List UInt8 := [42, 27, 182, 1, 37, 153, 0, 7, 28, 156, 0, 5, 2, 172, 42, 27, 28, 182, 2, 29, 62, 29, 4]
abbrev dktX0_nth_0 : List UInt8 := dkwX0_nth_0 ++ dktX0_nth_1
theorem dksX0_nth_0 : cX0_nth.data.toList.drop 0 = dktX0_nth_0 := by decide +kernel
theorem dksX0_nth_1 : cX0_nth.data.toList.drop 23 = dktX0_nth_1 := dk_seg dksX0_nth_0 23 rfl rfl
theorem dX0_nth_0 : decode cX0_nth 0 = .ok (.aload_n 0, 1) := dk_42 (dk_at dksX0_nth_0 0 rfl rfl)
theorem dX0_nth_1 : decode cX0_nth 1 = .ok (.iload_n 1, 1) := dk_27 (dk_at dksX0_nth_0 1 rfl rfl)
theorem dX0_nth_2 : decode cX0_nth 2 = .ok (.invokevirtual 293, 3) := dk_182 1 37 (dk_at dksX0_nth_0 2 rfl rfl)
theorem dX0_nth_5 : decode cX0_nth 5 = .ok (.ifCond .eq 7, 3) := dk_153 0 7 (dk_at dksX0_nth_0 5 rfl rfl)
theorem dX0_nth_8 : decode cX0_nth 8 = .ok (.iload_n 2, 1) := dk_28 (dk_at dksX0_nth_0 8 rfl rfl)
theorem dX0_nth_9 : decode cX0_nth 9 = .ok (.ifCond .ge 5, 3) := dk_156 0 5 (dk_at dksX0_nth_0 9 rfl rfl)
theorem dX0_nth_12 : decode cX0_nth 12 = .ok (.iconst (-1), 1) := dk_2 (dk_at dksX0_nth_0 12 rfl rfl)
theorem dX0_nth_13 : decode cX0_nth 13 = .ok (.ireturn, 1) := dk_172 (dk_at dksX0_nth_0 13 rfl rfl)
theorem dX0_nth_14 : decode cX0_nth 14 = .ok (.aload_n 0, 1) := dk_42 (dk_at dksX0_nth_0 14 rfl rfl)
theorem dX0_nth_15 : decode cX0_nth 15 = .ok (.iload_n 1, 1) := dk_27 (dk_at dksX0_nth_0 15 rfl rfl)
theorem dX0_nth_16 : decode cX0_nth 16 = .ok (.iload_n 2, 1) := dk_28 (dk_at dksX0_nth_0 16 rfl rfl)
theorem dX0_nth_17 : decode cX0_nth 17 = .ok (.invokevirtual 541, 3) := dk_182 2 29 (dk_at dksX0_nth_0 17 rfl rfl)
theorem dX0_nth_20 : decode cX0_nth 20 = .ok (.istore_n 3, 1) := dk_62 (dk_at dksX0_nth_0 20 rfl rfl)
theorem dX0_nth_21 : decode cX0_nth 21 = .ok (.iload_n 3, 1) := dk_29 (dk_at dksX0_nth_0 21 rfl rfl)
theorem dX0_nth_22 : decode cX0_nth 22 = .ok (.iconst 1, 1) := dk_4 (dk_at dksX0_nth_0 22 rfl rfl)
theorem dX0_nth_23 : decode cX0_nth 23 = .ok (.if_icmp .ne 16, 3) := dk_160 0 16 (dk_at dksX0_nth_1 0 rfl rfl)
theorem dX0_nth_26 : decode cX0_nth 26 = .ok (.aload_n 0, 1) := dk_42 (dk_at dksX0_nth_1 3 rfl rfl)
theorem dX0_nth_27 : decode cX0_nth 27 = .ok (.getfield 66, 3) := dk_180 0 66 (dk_at dksX0_nth_1 4 rfl rfl)
theorem dX0_nth_30 : decode cX0_nth 30 = .ok (.aload_n 0, 1) := dk_42 (dk_at dksX0_nth_1 7 rfl rfl)
theorem dX0_nth_31 : decode cX0_nth 31 = .ok (.iload_n 1, 1) := dk_27 (dk_at dksX0_nth_1 8 rfl rfl)
theorem dX0_nth_32 : decode cX0_nth 32 = .ok (.invokevirtual 499, 3) := dk_182 1 243 (dk_at dksX0_nth_1 9 rfl rfl)
theorem dX0_nth_35 : decode cX0_nth 35 = .ok (.iaload, 1) := dk_46 (dk_at dksX0_nth_1 12 rfl rfl)
theorem dX0_nth_36 : decode cX0_nth 36 = .ok (.goto 4, 3) := dk_167 0 4 (dk_at dksX0_nth_1 13 rfl rfl)
theorem dX0_nth_39 : decode cX0_nth 39 = .ok (.iload_n 3, 1) := dk_29 (dk_at dksX0_nth_1 16 rfl rfl)
theorem dX0_nth_40 : decode cX0_nth 40 = .ok (.ireturn, 1) := dk_172 (dk_at dksX0_nth_1 17 rfl rfl)
abbrev cX0_look : ByteArray := prog_1_method_74_code
def yX0_look : MethodName := ⟨RX0, "look", "(II)I"⟩
def dkwX0_look_2 : List UInt8 := [172]
abbrev dktX0_look_2 : List UInt8 := dkwX0_look_2 ++ []
def dkwX0_look_1 : List UInt8 := [167, 0, 24, 28, 133, 9, 42, 180, 1, 213, 133, 10, 101, 184, 0, 130, 153, 0, 7, 4, 167, 0, 4, 2]
abbrev dktX0_look_1 : List UInt8 := dkwX0_look_1 ++ dktX0_look_2
def dkwX0_look_0 : List UInt8 := [42, 28, 181, 0, 63, 42, 27, 182, 2, 23, 62, 42, 16, 247, 181, 0, 63, 29, 154, 0, 8, 16, 250]
abbrev dktX0_look_0 : List UInt8 := dkwX0_look_0 ++ dktX0_look_1
theorem dksX0_look_0 : cX0_look.data.toList.drop 0 = dktX0_look_0 := by decide +kernel
theorem dksX0_look_1 : cX0_look.data.toList.drop 23 = dktX0_look_1 := dk_seg dksX0_look_0 23 rfl rfl
theorem dksX0_look_2 : cX0_look.data.toList.drop 47 = dktX0_look_2 := dk_seg dksX0_look_1 24 rfl rfl
theorem dX0_look_0 : decode cX0_look 0 = .ok (.aload_n 0, 1) := dk_42 (dk_at dksX0_look_0 0 rfl rfl)
theorem dX0_look_1 : decode cX0_look 1 = .ok (.iload_n 2, 1) := dk_28 (dk_at dksX0_look_0 1 rfl rfl)
theorem dX0_look_2 : decode cX0_look 2 = .ok (.putfield 63, 3) := dk_181 0 63 (dk_at dksX0_look_0 2 rfl rfl)
theorem dX0_look_5 : decode cX0_look 5 = .ok (.aload_n 0, 1) := dk_42 (dk_at dksX0_look_0 5 rfl rfl)
theorem dX0_look_6 : decode cX0_look 6 = .ok (.iload_n 1, 1) := dk_27 (dk_at dksX0_look_0 6 rfl rfl)
theorem dX0_look_7 : decode cX0_look 7 = .ok (.invokevirtual 535, 3) := dk_182 2 23 (dk_at dksX0_look_0 7 rfl rfl)
theorem dX0_look_10 : decode cX0_look 10 = .ok (.istore_n 3, 1) := dk_62 (dk_at dksX0_look_0 10 rfl rfl)
theorem dX0_look_11 : decode cX0_look 11 = .ok (.aload_n 0, 1) := dk_42 (dk_at dksX0_look_0 11 rfl rfl)
theorem dX0_look_12 : decode cX0_look 12 = .ok (.bipush (-9), 2) := dk_16 247 (dk_at dksX0_look_0 12 rfl rfl)
theorem dX0_look_14 : decode cX0_look 14 = .ok (.putfield 63, 3) := dk_181 0 63 (dk_at dksX0_look_0 14 rfl rfl)
theorem dX0_look_17 : decode cX0_look 17 = .ok (.iload_n 3, 1) := dk_29 (dk_at dksX0_look_0 17 rfl rfl)
theorem dX0_look_18 : decode cX0_look 18 = .ok (.ifCond .ne 8, 3) := dk_154 0 8 (dk_at dksX0_look_0 18 rfl rfl)
theorem dX0_look_21 : decode cX0_look 21 = .ok (.bipush (-6), 2) := dk_16 250 (dk_at dksX0_look_0 21 rfl rfl)
theorem dX0_look_23 : decode cX0_look 23 = .ok (.goto 24, 3) := dk_167 0 24 (dk_at dksX0_look_1 0 rfl rfl)
theorem dX0_look_26 : decode cX0_look 26 = .ok (.iload_n 2, 1) := dk_28 (dk_at dksX0_look_1 3 rfl rfl)
theorem dX0_look_27 : decode cX0_look 27 = .ok (.i2l, 1) := dk_133 (dk_at dksX0_look_1 4 rfl rfl)
theorem dX0_look_28 : decode cX0_look 28 = .ok (.lconst 0, 1) := dk_9 (dk_at dksX0_look_1 5 rfl rfl)
theorem dX0_look_29 : decode cX0_look 29 = .ok (.aload_n 0, 1) := dk_42 (dk_at dksX0_look_1 6 rfl rfl)
theorem dX0_look_30 : decode cX0_look 30 = .ok (.getfield 469, 3) := dk_180 1 213 (dk_at dksX0_look_1 7 rfl rfl)
theorem dX0_look_33 : decode cX0_look 33 = .ok (.i2l, 1) := dk_133 (dk_at dksX0_look_1 10 rfl rfl)
theorem dX0_look_34 : decode cX0_look 34 = .ok (.lconst 1, 1) := dk_10 (dk_at dksX0_look_1 11 rfl rfl)
theorem dX0_look_35 : decode cX0_look 35 = .ok (.lsub, 1) := dk_101 (dk_at dksX0_look_1 12 rfl rfl)
theorem dX0_look_36 : decode cX0_look 36 = .ok (.invokestatic 130, 3) := dk_184 0 130 (dk_at dksX0_look_1 13 rfl rfl)
theorem dX0_look_39 : decode cX0_look 39 = .ok (.ifCond .eq 7, 3) := dk_153 0 7 (dk_at dksX0_look_1 16 rfl rfl)
theorem dX0_look_42 : decode cX0_look 42 = .ok (.iconst 1, 1) := dk_4 (dk_at dksX0_look_1 19 rfl rfl)
theorem dX0_look_43 : decode cX0_look 43 = .ok (.goto 4, 3) := dk_167 0 4 (dk_at dksX0_look_1 20 rfl rfl)
theorem dX0_look_46 : decode cX0_look 46 = .ok (.iconst (-1), 1) := dk_2 (dk_at dksX0_look_1 23 rfl rfl)
theorem dX0_look_47 : decode cX0_look 47 = .ok (.ireturn, 1) := dk_172 (dk_at dksX0_look_2 0 rfl rfl)
abbrev cX0_sure : ByteArray := prog_1_method_76_code
def yX0_sure : MethodName := ⟨RX0, "sure", "(I)I"⟩
def dkwX0_sure_2 : List UInt8 := [167, 0, 5, 16, 247, 172]
abbrev dktX0_sure_2 : List UInt8 := dkwX0_sure_2 ++ []
def dkwX0_sure_1 : List UInt8 := [180, 0, 52, 42, 27, 182, 1, 243, 47, 65, 32, 184, 1, 4, 4, 160, 0, 10, 32, 184, 1, 57]
abbrev dktX0_sure_1 : List UInt8 := dkwX0_sure_1 ++ dktX0_sure_2
def dkwX0_sure_0 : List UInt8 := [42, 27, 182, 1, 37, 154, 0, 5, 2, 172, 42, 27, 182, 2, 23, 154, 0, 6, 16, 250, 172, 42]
abbrev dktX0_sure_0 : List UInt8 := dkwX0_sure_0 ++ dktX0_sure_1
theorem dksX0_sure_0 : cX0_sure.data.toList.drop 0 = dktX0_sure_0 := by decide +kernel
theorem dksX0_sure_1 : cX0_sure.data.toList.drop 22 = dktX0_sure_1 := dk_seg dksX0_sure_0 22 rfl rfl
theorem dksX0_sure_2 : cX0_sure.data.toList.drop 44 = dktX0_sure_2 := dk_seg dksX0_sure_1 22 rfl rfl
theorem dX0_sure_0 : decode cX0_sure 0 = .ok (.aload_n 0, 1) := dk_42 (dk_at dksX0_sure_0 0 rfl rfl)
theorem dX0_sure_1 : decode cX0_sure 1 = .ok (.iload_n 1, 1) := dk_27 (dk_at dksX0_sure_0 1 rfl rfl)
theorem dX0_sure_2 : decode cX0_sure 2 = .ok (.invokevirtual 293, 3) := dk_182 1 37 (dk_at dksX0_sure_0 2 rfl rfl)
theorem dX0_sure_5 : decode cX0_sure 5 = .ok (.ifCond .ne 5, 3) := dk_154 0 5 (dk_at dksX0_sure_0 5 rfl rfl)
theorem dX0_sure_8 : decode cX0_sure 8 = .ok (.iconst (-1), 1) := dk_2 (dk_at dksX0_sure_0 8 rfl rfl)
theorem dX0_sure_9 : decode cX0_sure 9 = .ok (.ireturn, 1) := dk_172 (dk_at dksX0_sure_0 9 rfl rfl)
theorem dX0_sure_10 : decode cX0_sure 10 = .ok (.aload_n 0, 1) := dk_42 (dk_at dksX0_sure_0 10 rfl rfl)
theorem dX0_sure_11 : decode cX0_sure 11 = .ok (.iload_n 1, 1) := dk_27 (dk_at dksX0_sure_0 11 rfl rfl)
theorem dX0_sure_12 : decode cX0_sure 12 = .ok (.invokevirtual 535, 3) := dk_182 2 23 (dk_at dksX0_sure_0 12 rfl rfl)
theorem dX0_sure_15 : decode cX0_sure 15 = .ok (.ifCond .ne 6, 3) := dk_154 0 6 (dk_at dksX0_sure_0 15 rfl rfl)
theorem dX0_sure_18 : decode cX0_sure 18 = .ok (.bipush (-6), 2) := dk_16 250 (dk_at dksX0_sure_0 18 rfl rfl)
theorem dX0_sure_20 : decode cX0_sure 20 = .ok (.ireturn, 1) := dk_172 (dk_at dksX0_sure_0 20 rfl rfl)
theorem dX0_sure_21 : decode cX0_sure 21 = .ok (.aload_n 0, 1) := dk_42 (dk_at dksX0_sure_0 21 rfl rfl)
theorem dX0_sure_22 : decode cX0_sure 22 = .ok (.getfield 52, 3) := dk_180 0 52 (dk_at dksX0_sure_1 0 rfl rfl)
theorem dX0_sure_25 : decode cX0_sure 25 = .ok (.aload_n 0, 1) := dk_42 (dk_at dksX0_sure_1 3 rfl rfl)
theorem dX0_sure_26 : decode cX0_sure 26 = .ok (.iload_n 1, 1) := dk_27 (dk_at dksX0_sure_1 4 rfl rfl)
theorem dX0_sure_27 : decode cX0_sure 27 = .ok (.invokevirtual 499, 3) := dk_182 1 243 (dk_at dksX0_sure_1 5 rfl rfl)
theorem dX0_sure_30 : decode cX0_sure 30 = .ok (.laload, 1) := dk_47 (dk_at dksX0_sure_1 8 rfl rfl)
theorem dX0_sure_31 : decode cX0_sure 31 = .ok (.lstore_n 2, 1) := dk_65 (dk_at dksX0_sure_1 9 rfl rfl)
theorem dX0_sure_32 : decode cX0_sure 32 = .ok (.lload_n 2, 1) := dk_32 (dk_at dksX0_sure_1 10 rfl rfl)
theorem dX0_sure_33 : decode cX0_sure 33 = .ok (.invokestatic 260, 3) := dk_184 1 4 (dk_at dksX0_sure_1 11 rfl rfl)
theorem dX0_sure_36 : decode cX0_sure 36 = .ok (.iconst 1, 1) := dk_4 (dk_at dksX0_sure_1 14 rfl rfl)
theorem dX0_sure_37 : decode cX0_sure 37 = .ok (.if_icmp .ne 10, 3) := dk_160 0 10 (dk_at dksX0_sure_1 15 rfl rfl)
theorem dX0_sure_40 : decode cX0_sure 40 = .ok (.lload_n 2, 1) := dk_32 (dk_at dksX0_sure_1 18 rfl rfl)
theorem dX0_sure_41 : decode cX0_sure 41 = .ok (.invokestatic 313, 3) := dk_184 1 57 (dk_at dksX0_sure_1 19 rfl rfl)
theorem dX0_sure_44 : decode cX0_sure 44 = .ok (.goto 5, 3) := dk_167 0 5 (dk_at dksX0_sure_2 0 rfl rfl)
theorem dX0_sure_47 : decode cX0_sure 47 = .ok (.bipush (-9), 2) := dk_16 247 (dk_at dksX0_sure_2 3 rfl rfl)
theorem dX0_sure_49 : decode cX0_sure 49 = .ok (.ireturn, 1) := dk_172 (dk_at dksX0_sure_2 5 rfl rfl)
abbrev cX0_could : ByteArray := prog_1_method_77_code
def yX0_could : MethodName := ⟨RX0, "could", "(I)I"⟩
def dkwX0_could_1 : List UInt8 := [182, 1, 243, 47, 184, 1, 4, 167, 0, 5, 16, 250, 172]
abbrev dktX0_could_1 : List UInt8 := dkwX0_could_1 ++ []
def dkwX0_could_0 : List UInt8 := [42, 27, 182, 1, 37, 154, 0, 5, 2, 172, 42, 27, 182, 2, 23, 153, 0, 19, 42, 180, 0, 52, 42, 27]
abbrev dktX0_could_0 : List UInt8 := dkwX0_could_0 ++ dktX0_could_1
theorem dksX0_could_0 : cX0_could.data.toList.drop 0 = dktX0_could_0 := by decide +kernel
theorem dksX0_could_1 : cX0_could.data.toList.drop 24 = dktX0_could_1 := dk_seg dksX0_could_0 24 rfl rfl
theorem dX0_could_0 : decode cX0_could 0 = .ok (.aload_n 0, 1) := dk_42 (dk_at dksX0_could_0 0 rfl rfl)
theorem dX0_could_1 : decode cX0_could 1 = .ok (.iload_n 1, 1) := dk_27 (dk_at dksX0_could_0 1 rfl rfl)
theorem dX0_could_2 : decode cX0_could 2 = .ok (.invokevirtual 293, 3) := dk_182 1 37 (dk_at dksX0_could_0 2 rfl rfl)
theorem dX0_could_5 : decode cX0_could 5 = .ok (.ifCond .ne 5, 3) := dk_154 0 5 (dk_at dksX0_could_0 5 rfl rfl)
theorem dX0_could_8 : decode cX0_could 8 = .ok (.iconst (-1), 1) := dk_2 (dk_at dksX0_could_0 8 rfl rfl)
theorem dX0_could_9 : decode cX0_could 9 = .ok (.ireturn, 1) := dk_172 (dk_at dksX0_could_0 9 rfl rfl)
theorem dX0_could_10 : decode cX0_could 10 = .ok (.aload_n 0, 1) := dk_42 (dk_at dksX0_could_0 10 rfl rfl)
theorem dX0_could_11 : decode cX0_could 11 = .ok (.iload_n 1, 1) := dk_27 (dk_at dksX0_could_0 11 rfl rfl)
theorem dX0_could_12 : decode cX0_could 12 = .ok (.invokevirtual 535, 3) := dk_182 2 23 (dk_at dksX0_could_0 12 rfl rfl)
theorem dX0_could_15 : decode cX0_could 15 = .ok (.ifCond .eq 19, 3) := dk_153 0 19 (dk_at dksX0_could_0 15 rfl rfl)
theorem dX0_could_18 : decode cX0_could 18 = .ok (.aload_n 0, 1) := dk_42 (dk_at dksX0_could_0 18 rfl rfl)
theorem dX0_could_19 : decode cX0_could 19 = .ok (.getfield 52, 3) := dk_180 0 52 (dk_at dksX0_could_0 19 rfl rfl)
theorem dX0_could_22 : decode cX0_could 22 = .ok (.aload_n 0, 1) := dk_42 (dk_at dksX0_could_0 22 rfl rfl)
theorem dX0_could_23 : decode cX0_could 23 = .ok (.iload_n 1, 1) := dk_27 (dk_at dksX0_could_0 23 rfl rfl)
theorem dX0_could_24 : decode cX0_could 24 = .ok (.invokevirtual 499, 3) := dk_182 1 243 (dk_at dksX0_could_1 0 rfl rfl)
theorem dX0_could_27 : decode cX0_could 27 = .ok (.laload, 1) := dk_47 (dk_at dksX0_could_1 3 rfl rfl)
theorem dX0_could_28 : decode cX0_could 28 = .ok (.invokestatic 260, 3) := dk_184 1 4 (dk_at dksX0_could_1 4 rfl rfl)
theorem dX0_could_31 : decode cX0_could 31 = .ok (.goto 5, 3) := dk_167 0 5 (dk_at dksX0_could_1 7 rfl rfl)
theorem dX0_could_34 : decode cX0_could 34 = .ok (.bipush (-6), 2) := dk_16 250 (dk_at dksX0_could_1 10 rfl rfl)
theorem dX0_could_36 : decode cX0_could 36 = .ok (.ireturn, 1) := dk_172 (dk_at dksX0_could_1 12 rfl rfl)
abbrev cX0_together : ByteArray := prog_1_method_78_code
def yX0_together : MethodName := ⟨RX0, "together", "(IIII)I"⟩
def dkwX0_together_7 : List UInt8 := [153, 0, 14, 42, 180, 1, 225, 153, 0, 7, 4, 167, 0, 4, 3, 172]
abbrev dktX0_together_7 : List UInt8 := dkwX0_together_7 ++ []
def dkwX0_together_6 : List UInt8 := [181, 1, 237, 42, 21, 4, 181, 1, 240, 42, 29, 182, 2, 23, 154, 0, 6, 16, 250, 172, 21, 6]
abbrev dktX0_together_6 : List UInt8 := dkwX0_together_6 ++ dktX0_together_7
def dkwX0_together_5 : List UInt8 := [167, 0, 4, 3, 172, 42, 180, 1, 225, 54, 6, 42, 29, 181, 1, 228, 42, 21, 4, 181, 1, 231, 42, 29]
abbrev dktX0_together_5 : List UInt8 := dkwX0_together_5 ++ dktX0_together_6
def dkwX0_together_4 : List UInt8 := [182, 2, 23, 154, 0, 6, 16, 250, 172, 21, 5, 153, 0, 16, 42, 180, 1, 225, 153, 0, 7, 4]
abbrev dktX0_together_4 : List UInt8 := dkwX0_together_4 ++ dktX0_together_5
def dkwX0_together_3 : List UInt8 := [167, 0, 4, 27, 181, 1, 237, 42, 21, 5, 153, 0, 8, 21, 4, 167, 0, 4, 28, 181, 1, 240, 42, 27]
abbrev dktX0_together_3 : List UInt8 := dkwX0_together_3 ++ dktX0_together_4
def dkwX0_together_2 : List UInt8 := [4, 167, 0, 4, 3, 54, 5, 42, 27, 181, 1, 228, 42, 28, 181, 1, 231, 42, 21, 5, 153, 0, 7, 29]
abbrev dktX0_together_2 : List UInt8 := dkwX0_together_2 ++ dktX0_together_3
def dkwX0_together_1 : List UInt8 := [42, 21, 4, 182, 0, 219, 154, 0, 5, 2, 172, 42, 27, 182, 1, 210, 29, 122, 4, 126, 4, 160, 0, 7]
abbrev dktX0_together_1 : List UInt8 := dkwX0_together_1 ++ dktX0_together_2
def dkwX0_together_0 : List UInt8 := [42, 27, 182, 1, 37, 153, 0, 28, 42, 29, 182, 1, 37, 153, 0, 20, 42, 28, 182, 0, 219, 153, 0, 12]
abbrev dktX0_together_0 : List UInt8 := dkwX0_together_0 ++ dktX0_together_1
theorem dksX0_together_0 : cX0_together.data.toList.drop 0 = dktX0_together_0 := by decide +kernel
theorem dksX0_together_1 : cX0_together.data.toList.drop 24 = dktX0_together_1 := dk_seg dksX0_together_0 24 rfl rfl
theorem dksX0_together_2 : cX0_together.data.toList.drop 48 = dktX0_together_2 := dk_seg dksX0_together_1 24 rfl rfl
theorem dksX0_together_3 : cX0_together.data.toList.drop 72 = dktX0_together_3 := dk_seg dksX0_together_2 24 rfl rfl
theorem dksX0_together_4 : cX0_together.data.toList.drop 96 = dktX0_together_4 := dk_seg dksX0_together_3 24 rfl rfl
theorem dksX0_together_5 : cX0_together.data.toList.drop 118 = dktX0_together_5 := dk_seg dksX0_together_4 22 rfl rfl
theorem dksX0_together_6 : cX0_together.data.toList.drop 142 = dktX0_together_6 := dk_seg dksX0_together_5 24 rfl rfl
theorem dksX0_together_7 : cX0_together.data.toList.drop 164 = dktX0_together_7 := dk_seg dksX0_together_6 22 rfl rfl
theorem dX0_together_0 : decode cX0_together 0 = .ok (.aload_n 0, 1) := dk_42 (dk_at dksX0_together_0 0 rfl rfl)
theorem dX0_together_1 : decode cX0_together 1 = .ok (.iload_n 1, 1) := dk_27 (dk_at dksX0_together_0 1 rfl rfl)
theorem dX0_together_2 : decode cX0_together 2 = .ok (.invokevirtual 293, 3) := dk_182 1 37 (dk_at dksX0_together_0 2 rfl rfl)
theorem dX0_together_5 : decode cX0_together 5 = .ok (.ifCond .eq 28, 3) := dk_153 0 28 (dk_at dksX0_together_0 5 rfl rfl)
theorem dX0_together_8 : decode cX0_together 8 = .ok (.aload_n 0, 1) := dk_42 (dk_at dksX0_together_0 8 rfl rfl)
theorem dX0_together_9 : decode cX0_together 9 = .ok (.iload_n 3, 1) := dk_29 (dk_at dksX0_together_0 9 rfl rfl)
theorem dX0_together_10 : decode cX0_together 10 = .ok (.invokevirtual 293, 3) := dk_182 1 37 (dk_at dksX0_together_0 10 rfl rfl)
theorem dX0_together_13 : decode cX0_together 13 = .ok (.ifCond .eq 20, 3) := dk_153 0 20 (dk_at dksX0_together_0 13 rfl rfl)
theorem dX0_together_16 : decode cX0_together 16 = .ok (.aload_n 0, 1) := dk_42 (dk_at dksX0_together_0 16 rfl rfl)
theorem dX0_together_17 : decode cX0_together 17 = .ok (.iload_n 2, 1) := dk_28 (dk_at dksX0_together_0 17 rfl rfl)
theorem dX0_together_18 : decode cX0_together 18 = .ok (.invokevirtual 219, 3) := dk_182 0 219 (dk_at dksX0_together_0 18 rfl rfl)
theorem dX0_together_21 : decode cX0_together 21 = .ok (.ifCond .eq 12, 3) := dk_153 0 12 (dk_at dksX0_together_0 21 rfl rfl)
theorem dX0_together_24 : decode cX0_together 24 = .ok (.aload_n 0, 1) := dk_42 (dk_at dksX0_together_1 0 rfl rfl)
theorem dX0_together_25 : decode cX0_together 25 = .ok (.iload 4, 2) := dk_21 4 (dk_at dksX0_together_1 1 rfl rfl)
theorem dX0_together_27 : decode cX0_together 27 = .ok (.invokevirtual 219, 3) := dk_182 0 219 (dk_at dksX0_together_1 3 rfl rfl)
theorem dX0_together_30 : decode cX0_together 30 = .ok (.ifCond .ne 5, 3) := dk_154 0 5 (dk_at dksX0_together_1 6 rfl rfl)
theorem dX0_together_33 : decode cX0_together 33 = .ok (.iconst (-1), 1) := dk_2 (dk_at dksX0_together_1 9 rfl rfl)
theorem dX0_together_34 : decode cX0_together 34 = .ok (.ireturn, 1) := dk_172 (dk_at dksX0_together_1 10 rfl rfl)
theorem dX0_together_35 : decode cX0_together 35 = .ok (.aload_n 0, 1) := dk_42 (dk_at dksX0_together_1 11 rfl rfl)
theorem dX0_together_36 : decode cX0_together 36 = .ok (.iload_n 1, 1) := dk_27 (dk_at dksX0_together_1 12 rfl rfl)
theorem dX0_together_37 : decode cX0_together 37 = .ok (.invokevirtual 466, 3) := dk_182 1 210 (dk_at dksX0_together_1 13 rfl rfl)
theorem dX0_together_40 : decode cX0_together 40 = .ok (.iload_n 3, 1) := dk_29 (dk_at dksX0_together_1 16 rfl rfl)
theorem dX0_together_41 : decode cX0_together 41 = .ok (.ishr, 1) := dk_122 (dk_at dksX0_together_1 17 rfl rfl)
theorem dX0_together_42 : decode cX0_together 42 = .ok (.iconst 1, 1) := dk_4 (dk_at dksX0_together_1 18 rfl rfl)
theorem dX0_together_43 : decode cX0_together 43 = .ok (.iand, 1) := dk_126 (dk_at dksX0_together_1 19 rfl rfl)
theorem dX0_together_44 : decode cX0_together 44 = .ok (.iconst 1, 1) := dk_4 (dk_at dksX0_together_1 20 rfl rfl)
theorem dX0_together_45 : decode cX0_together 45 = .ok (.if_icmp .ne 7, 3) := dk_160 0 7 (dk_at dksX0_together_1 21 rfl rfl)
theorem dX0_together_48 : decode cX0_together 48 = .ok (.iconst 1, 1) := dk_4 (dk_at dksX0_together_2 0 rfl rfl)
theorem dX0_together_49 : decode cX0_together 49 = .ok (.goto 4, 3) := dk_167 0 4 (dk_at dksX0_together_2 1 rfl rfl)
theorem dX0_together_52 : decode cX0_together 52 = .ok (.iconst 0, 1) := dk_3 (dk_at dksX0_together_2 4 rfl rfl)
theorem dX0_together_53 : decode cX0_together 53 = .ok (.istore 5, 2) := dk_54 5 (dk_at dksX0_together_2 5 rfl rfl)
theorem dX0_together_55 : decode cX0_together 55 = .ok (.aload_n 0, 1) := dk_42 (dk_at dksX0_together_2 7 rfl rfl)
theorem dX0_together_56 : decode cX0_together 56 = .ok (.iload_n 1, 1) := dk_27 (dk_at dksX0_together_2 8 rfl rfl)
theorem dX0_together_57 : decode cX0_together 57 = .ok (.putfield 484, 3) := dk_181 1 228 (dk_at dksX0_together_2 9 rfl rfl)
theorem dX0_together_60 : decode cX0_together 60 = .ok (.aload_n 0, 1) := dk_42 (dk_at dksX0_together_2 12 rfl rfl)
theorem dX0_together_61 : decode cX0_together 61 = .ok (.iload_n 2, 1) := dk_28 (dk_at dksX0_together_2 13 rfl rfl)
theorem dX0_together_62 : decode cX0_together 62 = .ok (.putfield 487, 3) := dk_181 1 231 (dk_at dksX0_together_2 14 rfl rfl)
theorem dX0_together_65 : decode cX0_together 65 = .ok (.aload_n 0, 1) := dk_42 (dk_at dksX0_together_2 17 rfl rfl)
theorem dX0_together_66 : decode cX0_together 66 = .ok (.iload 5, 2) := dk_21 5 (dk_at dksX0_together_2 18 rfl rfl)
theorem dX0_together_68 : decode cX0_together 68 = .ok (.ifCond .eq 7, 3) := dk_153 0 7 (dk_at dksX0_together_2 20 rfl rfl)
theorem dX0_together_71 : decode cX0_together 71 = .ok (.iload_n 3, 1) := dk_29 (dk_at dksX0_together_2 23 rfl rfl)
theorem dX0_together_72 : decode cX0_together 72 = .ok (.goto 4, 3) := dk_167 0 4 (dk_at dksX0_together_3 0 rfl rfl)
theorem dX0_together_75 : decode cX0_together 75 = .ok (.iload_n 1, 1) := dk_27 (dk_at dksX0_together_3 3 rfl rfl)
theorem dX0_together_76 : decode cX0_together 76 = .ok (.putfield 493, 3) := dk_181 1 237 (dk_at dksX0_together_3 4 rfl rfl)
theorem dX0_together_79 : decode cX0_together 79 = .ok (.aload_n 0, 1) := dk_42 (dk_at dksX0_together_3 7 rfl rfl)
theorem dX0_together_80 : decode cX0_together 80 = .ok (.iload 5, 2) := dk_21 5 (dk_at dksX0_together_3 8 rfl rfl)
theorem dX0_together_82 : decode cX0_together 82 = .ok (.ifCond .eq 8, 3) := dk_153 0 8 (dk_at dksX0_together_3 10 rfl rfl)
theorem dX0_together_85 : decode cX0_together 85 = .ok (.iload 4, 2) := dk_21 4 (dk_at dksX0_together_3 13 rfl rfl)
theorem dX0_together_87 : decode cX0_together 87 = .ok (.goto 4, 3) := dk_167 0 4 (dk_at dksX0_together_3 15 rfl rfl)
theorem dX0_together_90 : decode cX0_together 90 = .ok (.iload_n 2, 1) := dk_28 (dk_at dksX0_together_3 18 rfl rfl)
theorem dX0_together_91 : decode cX0_together 91 = .ok (.putfield 496, 3) := dk_181 1 240 (dk_at dksX0_together_3 19 rfl rfl)
theorem dX0_together_94 : decode cX0_together 94 = .ok (.aload_n 0, 1) := dk_42 (dk_at dksX0_together_3 22 rfl rfl)
theorem dX0_together_95 : decode cX0_together 95 = .ok (.iload_n 1, 1) := dk_27 (dk_at dksX0_together_3 23 rfl rfl)
theorem dX0_together_96 : decode cX0_together 96 = .ok (.invokevirtual 535, 3) := dk_182 2 23 (dk_at dksX0_together_4 0 rfl rfl)
theorem dX0_together_99 : decode cX0_together 99 = .ok (.ifCond .ne 6, 3) := dk_154 0 6 (dk_at dksX0_together_4 3 rfl rfl)
theorem dX0_together_102 : decode cX0_together 102 = .ok (.bipush (-6), 2) := dk_16 250 (dk_at dksX0_together_4 6 rfl rfl)
theorem dX0_together_104 : decode cX0_together 104 = .ok (.ireturn, 1) := dk_172 (dk_at dksX0_together_4 8 rfl rfl)
theorem dX0_together_105 : decode cX0_together 105 = .ok (.iload 5, 2) := dk_21 5 (dk_at dksX0_together_4 9 rfl rfl)
theorem dX0_together_107 : decode cX0_together 107 = .ok (.ifCond .eq 16, 3) := dk_153 0 16 (dk_at dksX0_together_4 11 rfl rfl)
theorem dX0_together_110 : decode cX0_together 110 = .ok (.aload_n 0, 1) := dk_42 (dk_at dksX0_together_4 14 rfl rfl)
theorem dX0_together_111 : decode cX0_together 111 = .ok (.getfield 481, 3) := dk_180 1 225 (dk_at dksX0_together_4 15 rfl rfl)
theorem dX0_together_114 : decode cX0_together 114 = .ok (.ifCond .eq 7, 3) := dk_153 0 7 (dk_at dksX0_together_4 18 rfl rfl)
theorem dX0_together_117 : decode cX0_together 117 = .ok (.iconst 1, 1) := dk_4 (dk_at dksX0_together_4 21 rfl rfl)
theorem dX0_together_118 : decode cX0_together 118 = .ok (.goto 4, 3) := dk_167 0 4 (dk_at dksX0_together_5 0 rfl rfl)
theorem dX0_together_121 : decode cX0_together 121 = .ok (.iconst 0, 1) := dk_3 (dk_at dksX0_together_5 3 rfl rfl)
theorem dX0_together_122 : decode cX0_together 122 = .ok (.ireturn, 1) := dk_172 (dk_at dksX0_together_5 4 rfl rfl)
theorem dX0_together_123 : decode cX0_together 123 = .ok (.aload_n 0, 1) := dk_42 (dk_at dksX0_together_5 5 rfl rfl)
theorem dX0_together_124 : decode cX0_together 124 = .ok (.getfield 481, 3) := dk_180 1 225 (dk_at dksX0_together_5 6 rfl rfl)
theorem dX0_together_127 : decode cX0_together 127 = .ok (.istore 6, 2) := dk_54 6 (dk_at dksX0_together_5 9 rfl rfl)
theorem dX0_together_129 : decode cX0_together 129 = .ok (.aload_n 0, 1) := dk_42 (dk_at dksX0_together_5 11 rfl rfl)
theorem dX0_together_130 : decode cX0_together 130 = .ok (.iload_n 3, 1) := dk_29 (dk_at dksX0_together_5 12 rfl rfl)
theorem dX0_together_131 : decode cX0_together 131 = .ok (.putfield 484, 3) := dk_181 1 228 (dk_at dksX0_together_5 13 rfl rfl)
theorem dX0_together_134 : decode cX0_together 134 = .ok (.aload_n 0, 1) := dk_42 (dk_at dksX0_together_5 16 rfl rfl)
theorem dX0_together_135 : decode cX0_together 135 = .ok (.iload 4, 2) := dk_21 4 (dk_at dksX0_together_5 17 rfl rfl)
theorem dX0_together_137 : decode cX0_together 137 = .ok (.putfield 487, 3) := dk_181 1 231 (dk_at dksX0_together_5 19 rfl rfl)
theorem dX0_together_140 : decode cX0_together 140 = .ok (.aload_n 0, 1) := dk_42 (dk_at dksX0_together_5 22 rfl rfl)
theorem dX0_together_141 : decode cX0_together 141 = .ok (.iload_n 3, 1) := dk_29 (dk_at dksX0_together_5 23 rfl rfl)
theorem dX0_together_142 : decode cX0_together 142 = .ok (.putfield 493, 3) := dk_181 1 237 (dk_at dksX0_together_6 0 rfl rfl)
theorem dX0_together_145 : decode cX0_together 145 = .ok (.aload_n 0, 1) := dk_42 (dk_at dksX0_together_6 3 rfl rfl)
theorem dX0_together_146 : decode cX0_together 146 = .ok (.iload 4, 2) := dk_21 4 (dk_at dksX0_together_6 4 rfl rfl)
theorem dX0_together_148 : decode cX0_together 148 = .ok (.putfield 496, 3) := dk_181 1 240 (dk_at dksX0_together_6 6 rfl rfl)
theorem dX0_together_151 : decode cX0_together 151 = .ok (.aload_n 0, 1) := dk_42 (dk_at dksX0_together_6 9 rfl rfl)
theorem dX0_together_152 : decode cX0_together 152 = .ok (.iload_n 3, 1) := dk_29 (dk_at dksX0_together_6 10 rfl rfl)
theorem dX0_together_153 : decode cX0_together 153 = .ok (.invokevirtual 535, 3) := dk_182 2 23 (dk_at dksX0_together_6 11 rfl rfl)
theorem dX0_together_156 : decode cX0_together 156 = .ok (.ifCond .ne 6, 3) := dk_154 0 6 (dk_at dksX0_together_6 14 rfl rfl)
theorem dX0_together_159 : decode cX0_together 159 = .ok (.bipush (-6), 2) := dk_16 250 (dk_at dksX0_together_6 17 rfl rfl)
theorem dX0_together_161 : decode cX0_together 161 = .ok (.ireturn, 1) := dk_172 (dk_at dksX0_together_6 19 rfl rfl)
theorem dX0_together_162 : decode cX0_together 162 = .ok (.iload 6, 2) := dk_21 6 (dk_at dksX0_together_6 20 rfl rfl)
theorem dX0_together_164 : decode cX0_together 164 = .ok (.ifCond .eq 14, 3) := dk_153 0 14 (dk_at dksX0_together_7 0 rfl rfl)
theorem dX0_together_167 : decode cX0_together 167 = .ok (.aload_n 0, 1) := dk_42 (dk_at dksX0_together_7 3 rfl rfl)
theorem dX0_together_168 : decode cX0_together 168 = .ok (.getfield 481, 3) := dk_180 1 225 (dk_at dksX0_together_7 4 rfl rfl)
theorem dX0_together_171 : decode cX0_together 171 = .ok (.ifCond .eq 7, 3) := dk_153 0 7 (dk_at dksX0_together_7 7 rfl rfl)
theorem dX0_together_174 : decode cX0_together 174 = .ok (.iconst 1, 1) := dk_4 (dk_at dksX0_together_7 10 rfl rfl)
theorem dX0_together_175 : decode cX0_together 175 = .ok (.goto 4, 3) := dk_167 0 4 (dk_at dksX0_together_7 11 rfl rfl)
theorem dX0_together_178 : decode cX0_together 178 = .ok (.iconst 0, 1) := dk_3 (dk_at dksX0_together_7 14 rfl rfl)
theorem dX0_together_179 : decode cX0_together 179 = .ok (.ireturn, 1) := dk_172 (dk_at dksX0_together_7 15 rfl rfl)
abbrev cX0_ask : ByteArray := prog_1_method_80_code
def yX0_ask : MethodName := ⟨RX0, "ask", "(II)I"⟩
def dkwX0_ask_4 : List UInt8 := [29, 50, 184, 2, 35, 172]
abbrev dktX0_ask_4 : List UInt8 := dkwX0_ask_4 ++ []
def dkwX0_ask_3 : List UInt8 := [62, 132, 4, 1, 167, 255, 219, 28, 154, 0, 12, 42, 180, 0, 45, 29, 46, 167, 0, 12, 42, 180, 0, 57]
abbrev dktX0_ask_3 : List UInt8 := dkwX0_ask_3 ++ dktX0_ask_4
def dkwX0_ask_2 : List UInt8 := [42, 180, 0, 57, 21, 4, 50, 184, 2, 35, 42, 180, 0, 57, 29, 50, 184, 2, 35, 162, 0, 6, 21, 4]
abbrev dktX0_ask_2 : List UInt8 := dkwX0_ask_2 ++ dktX0_ask_3
def dkwX0_ask_1 : List UInt8 := [27, 182, 2, 23, 154, 0, 6, 16, 250, 172, 3, 62, 4, 54, 4, 21, 4, 42, 180, 1, 216, 162, 0, 34]
abbrev dktX0_ask_1 : List UInt8 := dkwX0_ask_1 ++ dktX0_ask_2
def dkwX0_ask_0 : List UInt8 := [42, 27, 182, 1, 37, 154, 0, 5, 2, 172, 28, 133, 9, 10, 184, 0, 130, 154, 0, 6, 16, 254, 172, 42]
abbrev dktX0_ask_0 : List UInt8 := dkwX0_ask_0 ++ dktX0_ask_1
theorem dksX0_ask_0 : cX0_ask.data.toList.drop 0 = dktX0_ask_0 := by decide +kernel
theorem dksX0_ask_1 : cX0_ask.data.toList.drop 24 = dktX0_ask_1 := dk_seg dksX0_ask_0 24 rfl rfl
theorem dksX0_ask_2 : cX0_ask.data.toList.drop 48 = dktX0_ask_2 := dk_seg dksX0_ask_1 24 rfl rfl
theorem dksX0_ask_3 : cX0_ask.data.toList.drop 72 = dktX0_ask_3 := dk_seg dksX0_ask_2 24 rfl rfl
theorem dksX0_ask_4 : cX0_ask.data.toList.drop 96 = dktX0_ask_4 := dk_seg dksX0_ask_3 24 rfl rfl
theorem dX0_ask_0 : decode cX0_ask 0 = .ok (.aload_n 0, 1) := dk_42 (dk_at dksX0_ask_0 0 rfl rfl)
theorem dX0_ask_1 : decode cX0_ask 1 = .ok (.iload_n 1, 1) := dk_27 (dk_at dksX0_ask_0 1 rfl rfl)
theorem dX0_ask_2 : decode cX0_ask 2 = .ok (.invokevirtual 293, 3) := dk_182 1 37 (dk_at dksX0_ask_0 2 rfl rfl)
theorem dX0_ask_5 : decode cX0_ask 5 = .ok (.ifCond .ne 5, 3) := dk_154 0 5 (dk_at dksX0_ask_0 5 rfl rfl)
theorem dX0_ask_8 : decode cX0_ask 8 = .ok (.iconst (-1), 1) := dk_2 (dk_at dksX0_ask_0 8 rfl rfl)
theorem dX0_ask_9 : decode cX0_ask 9 = .ok (.ireturn, 1) := dk_172 (dk_at dksX0_ask_0 9 rfl rfl)
theorem dX0_ask_10 : decode cX0_ask 10 = .ok (.iload_n 2, 1) := dk_28 (dk_at dksX0_ask_0 10 rfl rfl)
theorem dX0_ask_11 : decode cX0_ask 11 = .ok (.i2l, 1) := dk_133 (dk_at dksX0_ask_0 11 rfl rfl)
theorem dX0_ask_12 : decode cX0_ask 12 = .ok (.lconst 0, 1) := dk_9 (dk_at dksX0_ask_0 12 rfl rfl)
theorem dX0_ask_13 : decode cX0_ask 13 = .ok (.lconst 1, 1) := dk_10 (dk_at dksX0_ask_0 13 rfl rfl)
theorem dX0_ask_14 : decode cX0_ask 14 = .ok (.invokestatic 130, 3) := dk_184 0 130 (dk_at dksX0_ask_0 14 rfl rfl)
theorem dX0_ask_17 : decode cX0_ask 17 = .ok (.ifCond .ne 6, 3) := dk_154 0 6 (dk_at dksX0_ask_0 17 rfl rfl)
theorem dX0_ask_20 : decode cX0_ask 20 = .ok (.bipush (-2), 2) := dk_16 254 (dk_at dksX0_ask_0 20 rfl rfl)
theorem dX0_ask_22 : decode cX0_ask 22 = .ok (.ireturn, 1) := dk_172 (dk_at dksX0_ask_0 22 rfl rfl)
theorem dX0_ask_23 : decode cX0_ask 23 = .ok (.aload_n 0, 1) := dk_42 (dk_at dksX0_ask_0 23 rfl rfl)
theorem dX0_ask_24 : decode cX0_ask 24 = .ok (.iload_n 1, 1) := dk_27 (dk_at dksX0_ask_1 0 rfl rfl)
theorem dX0_ask_25 : decode cX0_ask 25 = .ok (.invokevirtual 535, 3) := dk_182 2 23 (dk_at dksX0_ask_1 1 rfl rfl)
theorem dX0_ask_28 : decode cX0_ask 28 = .ok (.ifCond .ne 6, 3) := dk_154 0 6 (dk_at dksX0_ask_1 4 rfl rfl)
theorem dX0_ask_31 : decode cX0_ask 31 = .ok (.bipush (-6), 2) := dk_16 250 (dk_at dksX0_ask_1 7 rfl rfl)
theorem dX0_ask_33 : decode cX0_ask 33 = .ok (.ireturn, 1) := dk_172 (dk_at dksX0_ask_1 9 rfl rfl)
theorem dX0_ask_34 : decode cX0_ask 34 = .ok (.iconst 0, 1) := dk_3 (dk_at dksX0_ask_1 10 rfl rfl)
theorem dX0_ask_35 : decode cX0_ask 35 = .ok (.istore_n 3, 1) := dk_62 (dk_at dksX0_ask_1 11 rfl rfl)
theorem dX0_ask_36 : decode cX0_ask 36 = .ok (.iconst 1, 1) := dk_4 (dk_at dksX0_ask_1 12 rfl rfl)
theorem dX0_ask_37 : decode cX0_ask 37 = .ok (.istore 4, 2) := dk_54 4 (dk_at dksX0_ask_1 13 rfl rfl)
theorem dX0_ask_39 : decode cX0_ask 39 = .ok (.iload 4, 2) := dk_21 4 (dk_at dksX0_ask_1 15 rfl rfl)
theorem dX0_ask_41 : decode cX0_ask 41 = .ok (.aload_n 0, 1) := dk_42 (dk_at dksX0_ask_1 17 rfl rfl)
theorem dX0_ask_42 : decode cX0_ask 42 = .ok (.getfield 472, 3) := dk_180 1 216 (dk_at dksX0_ask_1 18 rfl rfl)
theorem dX0_ask_45 : decode cX0_ask 45 = .ok (.if_icmp .ge 34, 3) := dk_162 0 34 (dk_at dksX0_ask_1 21 rfl rfl)
theorem dX0_ask_48 : decode cX0_ask 48 = .ok (.aload_n 0, 1) := dk_42 (dk_at dksX0_ask_2 0 rfl rfl)
theorem dX0_ask_49 : decode cX0_ask 49 = .ok (.getfield 57, 3) := dk_180 0 57 (dk_at dksX0_ask_2 1 rfl rfl)
theorem dX0_ask_52 : decode cX0_ask 52 = .ok (.iload 4, 2) := dk_21 4 (dk_at dksX0_ask_2 4 rfl rfl)
theorem dX0_ask_54 : decode cX0_ask 54 = .ok (.aaload, 1) := dk_50 (dk_at dksX0_ask_2 6 rfl rfl)
theorem dX0_ask_55 : decode cX0_ask 55 = .ok (.invokestatic 547, 3) := dk_184 2 35 (dk_at dksX0_ask_2 7 rfl rfl)
theorem dX0_ask_58 : decode cX0_ask 58 = .ok (.aload_n 0, 1) := dk_42 (dk_at dksX0_ask_2 10 rfl rfl)
theorem dX0_ask_59 : decode cX0_ask 59 = .ok (.getfield 57, 3) := dk_180 0 57 (dk_at dksX0_ask_2 11 rfl rfl)
theorem dX0_ask_62 : decode cX0_ask 62 = .ok (.iload_n 3, 1) := dk_29 (dk_at dksX0_ask_2 14 rfl rfl)
theorem dX0_ask_63 : decode cX0_ask 63 = .ok (.aaload, 1) := dk_50 (dk_at dksX0_ask_2 15 rfl rfl)
theorem dX0_ask_64 : decode cX0_ask 64 = .ok (.invokestatic 547, 3) := dk_184 2 35 (dk_at dksX0_ask_2 16 rfl rfl)
theorem dX0_ask_67 : decode cX0_ask 67 = .ok (.if_icmp .ge 6, 3) := dk_162 0 6 (dk_at dksX0_ask_2 19 rfl rfl)
theorem dX0_ask_70 : decode cX0_ask 70 = .ok (.iload 4, 2) := dk_21 4 (dk_at dksX0_ask_2 22 rfl rfl)
theorem dX0_ask_72 : decode cX0_ask 72 = .ok (.istore_n 3, 1) := dk_62 (dk_at dksX0_ask_3 0 rfl rfl)
theorem dX0_ask_73 : decode cX0_ask 73 = .ok (.iinc 4 1, 3) := dk_132 4 1 (dk_at dksX0_ask_3 1 rfl rfl)
theorem dX0_ask_76 : decode cX0_ask 76 = .ok (.goto (-37), 3) := dk_167 255 219 (dk_at dksX0_ask_3 4 rfl rfl)
theorem dX0_ask_79 : decode cX0_ask 79 = .ok (.iload_n 2, 1) := dk_28 (dk_at dksX0_ask_3 7 rfl rfl)
theorem dX0_ask_80 : decode cX0_ask 80 = .ok (.ifCond .ne 12, 3) := dk_154 0 12 (dk_at dksX0_ask_3 8 rfl rfl)
theorem dX0_ask_83 : decode cX0_ask 83 = .ok (.aload_n 0, 1) := dk_42 (dk_at dksX0_ask_3 11 rfl rfl)
theorem dX0_ask_84 : decode cX0_ask 84 = .ok (.getfield 45, 3) := dk_180 0 45 (dk_at dksX0_ask_3 12 rfl rfl)
theorem dX0_ask_87 : decode cX0_ask 87 = .ok (.iload_n 3, 1) := dk_29 (dk_at dksX0_ask_3 15 rfl rfl)
theorem dX0_ask_88 : decode cX0_ask 88 = .ok (.iaload, 1) := dk_46 (dk_at dksX0_ask_3 16 rfl rfl)
theorem dX0_ask_89 : decode cX0_ask 89 = .ok (.goto 12, 3) := dk_167 0 12 (dk_at dksX0_ask_3 17 rfl rfl)
theorem dX0_ask_92 : decode cX0_ask 92 = .ok (.aload_n 0, 1) := dk_42 (dk_at dksX0_ask_3 20 rfl rfl)
theorem dX0_ask_93 : decode cX0_ask 93 = .ok (.getfield 57, 3) := dk_180 0 57 (dk_at dksX0_ask_3 21 rfl rfl)
theorem dX0_ask_96 : decode cX0_ask 96 = .ok (.iload_n 3, 1) := dk_29 (dk_at dksX0_ask_4 0 rfl rfl)
theorem dX0_ask_97 : decode cX0_ask 97 = .ok (.aaload, 1) := dk_50 (dk_at dksX0_ask_4 1 rfl rfl)
theorem dX0_ask_98 : decode cX0_ask 98 = .ok (.invokestatic 547, 3) := dk_184 2 35 (dk_at dksX0_ask_4 2 rfl rfl)
theorem dX0_ask_101 : decode cX0_ask 101 = .ok (.ireturn, 1) := dk_172 (dk_at dksX0_ask_4 5 rfl rfl)
abbrev cX0_most : ByteArray := prog_1_method_79_code
def yX0_most : MethodName := ⟨RX0, "most", "([I)I"⟩
def dkwX0_most_1 : List UInt8 := [27, 172]
abbrev dktX0_most_1 : List UInt8 := dkwX0_most_1 ++ []
def dkwX0_most_0 : List UInt8 := [3, 60, 3, 61, 28, 42, 190, 162, 0, 17, 27, 42, 28, 46, 184, 2, 32, 60, 132, 2, 1, 167, 255, 239]
abbrev dktX0_most_0 : List UInt8 := dkwX0_most_0 ++ dktX0_most_1
theorem dksX0_most_0 : cX0_most.data.toList.drop 0 = dktX0_most_0 := by decide +kernel
theorem dksX0_most_1 : cX0_most.data.toList.drop 24 = dktX0_most_1 := dk_seg dksX0_most_0 24 rfl rfl
theorem dX0_most_0 : decode cX0_most 0 = .ok (.iconst 0, 1) := dk_3 (dk_at dksX0_most_0 0 rfl rfl)
theorem dX0_most_1 : decode cX0_most 1 = .ok (.istore_n 1, 1) := dk_60 (dk_at dksX0_most_0 1 rfl rfl)
theorem dX0_most_2 : decode cX0_most 2 = .ok (.iconst 0, 1) := dk_3 (dk_at dksX0_most_0 2 rfl rfl)
theorem dX0_most_3 : decode cX0_most 3 = .ok (.istore_n 2, 1) := dk_61 (dk_at dksX0_most_0 3 rfl rfl)
theorem dX0_most_4 : decode cX0_most 4 = .ok (.iload_n 2, 1) := dk_28 (dk_at dksX0_most_0 4 rfl rfl)
theorem dX0_most_5 : decode cX0_most 5 = .ok (.aload_n 0, 1) := dk_42 (dk_at dksX0_most_0 5 rfl rfl)
theorem dX0_most_6 : decode cX0_most 6 = .ok (.arraylength, 1) := dk_190 (dk_at dksX0_most_0 6 rfl rfl)
theorem dX0_most_7 : decode cX0_most 7 = .ok (.if_icmp .ge 17, 3) := dk_162 0 17 (dk_at dksX0_most_0 7 rfl rfl)
theorem dX0_most_10 : decode cX0_most 10 = .ok (.iload_n 1, 1) := dk_27 (dk_at dksX0_most_0 10 rfl rfl)
theorem dX0_most_11 : decode cX0_most 11 = .ok (.aload_n 0, 1) := dk_42 (dk_at dksX0_most_0 11 rfl rfl)
theorem dX0_most_12 : decode cX0_most 12 = .ok (.iload_n 2, 1) := dk_28 (dk_at dksX0_most_0 12 rfl rfl)
theorem dX0_most_13 : decode cX0_most 13 = .ok (.iaload, 1) := dk_46 (dk_at dksX0_most_0 13 rfl rfl)
theorem dX0_most_14 : decode cX0_most 14 = .ok (.invokestatic 544, 3) := dk_184 2 32 (dk_at dksX0_most_0 14 rfl rfl)
theorem dX0_most_17 : decode cX0_most 17 = .ok (.istore_n 1, 1) := dk_60 (dk_at dksX0_most_0 17 rfl rfl)
theorem dX0_most_18 : decode cX0_most 18 = .ok (.iinc 2 1, 3) := dk_132 2 1 (dk_at dksX0_most_0 18 rfl rfl)
theorem dX0_most_21 : decode cX0_most 21 = .ok (.goto (-17), 3) := dk_167 255 239 (dk_at dksX0_most_0 21 rfl rfl)
theorem dX0_most_24 : decode cX0_most 24 = .ok (.iload_n 1, 1) := dk_27 (dk_at dksX0_most_1 0 rfl rfl)
theorem dX0_most_25 : decode cX0_most 25 = .ok (.ireturn, 1) := dk_172 (dk_at dksX0_most_1 1 rfl rfl)
abbrev cX0_between : ByteArray := prog_1_method_81_code
def yX0_between : MethodName := ⟨RX0, "between", "(II)I"⟩
def dkwX0_between_7 : List UInt8 := [21, 4, 167, 0, 5, 21, 5, 172]
abbrev dktX0_between_7 : List UInt8 := dkwX0_between_7 ++ []
def dkwX0_between_6 : List UInt8 := [29, 16, 247, 160, 0, 8, 16, 247, 167, 0, 23, 28, 154, 0, 7, 29, 167, 0, 15, 28, 4, 160, 0, 8]
abbrev dktX0_between_6 : List UInt8 := dkwX0_between_6 ++ dktX0_between_7
def dkwX0_between_5 : List UInt8 := [180, 0, 45, 21, 7, 46, 54, 4, 21, 8, 54, 5, 132, 7, 1, 167, 255, 189, 132, 6, 1, 167, 255, 168]
abbrev dktX0_between_5 : List UInt8 := dkwX0_between_5 ++ dktX0_between_6
def dkwX0_between_4 : List UInt8 := [159, 0, 13, 21, 8, 21, 5, 161, 0, 6, 167, 0, 24, 42, 180, 0, 45, 21, 6, 46, 62, 42]
abbrev dktX0_between_4 : List UInt8 := dkwX0_between_4 ++ dktX0_between_5
def dkwX0_between_3 : List UInt8 := [162, 0, 64, 42, 180, 0, 60, 16, 9, 21, 6, 104, 21, 7, 96, 50, 184, 2, 35, 54, 8, 29, 16, 247]
abbrev dktX0_between_3 : List UInt8 := dkwX0_between_3 ++ dktX0_between_4
def dkwX0_between_2 : List UInt8 := [54, 6, 21, 6, 42, 180, 1, 216, 162, 0, 85, 21, 6, 4, 96, 54, 7, 21, 7, 42, 180, 1, 216]
abbrev dktX0_between_2 : List UInt8 := dkwX0_between_2 ++ dktX0_between_3
def dkwX0_between_1 : List UInt8 := [172, 42, 27, 182, 2, 23, 154, 0, 6, 16, 250, 172, 16, 247, 62, 16, 247, 54, 4, 3, 54, 5, 3]
abbrev dktX0_between_1 : List UInt8 := dkwX0_between_1 ++ dktX0_between_2
def dkwX0_between_0 : List UInt8 := [42, 27, 182, 1, 37, 154, 0, 5, 2, 172, 28, 133, 9, 20, 1, 18, 184, 0, 130, 154, 0, 6, 16, 254]
abbrev dktX0_between_0 : List UInt8 := dkwX0_between_0 ++ dktX0_between_1
theorem dksX0_between_0 : cX0_between.data.toList.drop 0 = dktX0_between_0 := by decide +kernel
theorem dksX0_between_1 : cX0_between.data.toList.drop 24 = dktX0_between_1 := dk_seg dksX0_between_0 24 rfl rfl
theorem dksX0_between_2 : cX0_between.data.toList.drop 47 = dktX0_between_2 := dk_seg dksX0_between_1 23 rfl rfl
theorem dksX0_between_3 : cX0_between.data.toList.drop 70 = dktX0_between_3 := dk_seg dksX0_between_2 23 rfl rfl
theorem dksX0_between_4 : cX0_between.data.toList.drop 94 = dktX0_between_4 := dk_seg dksX0_between_3 24 rfl rfl
theorem dksX0_between_5 : cX0_between.data.toList.drop 116 = dktX0_between_5 := dk_seg dksX0_between_4 22 rfl rfl
theorem dksX0_between_6 : cX0_between.data.toList.drop 140 = dktX0_between_6 := dk_seg dksX0_between_5 24 rfl rfl
theorem dksX0_between_7 : cX0_between.data.toList.drop 164 = dktX0_between_7 := dk_seg dksX0_between_6 24 rfl rfl
theorem dX0_between_0 : decode cX0_between 0 = .ok (.aload_n 0, 1) := dk_42 (dk_at dksX0_between_0 0 rfl rfl)
theorem dX0_between_1 : decode cX0_between 1 = .ok (.iload_n 1, 1) := dk_27 (dk_at dksX0_between_0 1 rfl rfl)
theorem dX0_between_2 : decode cX0_between 2 = .ok (.invokevirtual 293, 3) := dk_182 1 37 (dk_at dksX0_between_0 2 rfl rfl)
theorem dX0_between_5 : decode cX0_between 5 = .ok (.ifCond .ne 5, 3) := dk_154 0 5 (dk_at dksX0_between_0 5 rfl rfl)
theorem dX0_between_8 : decode cX0_between 8 = .ok (.iconst (-1), 1) := dk_2 (dk_at dksX0_between_0 8 rfl rfl)
theorem dX0_between_9 : decode cX0_between 9 = .ok (.ireturn, 1) := dk_172 (dk_at dksX0_between_0 9 rfl rfl)
theorem dX0_between_10 : decode cX0_between 10 = .ok (.iload_n 2, 1) := dk_28 (dk_at dksX0_between_0 10 rfl rfl)
theorem dX0_between_11 : decode cX0_between 11 = .ok (.i2l, 1) := dk_133 (dk_at dksX0_between_0 11 rfl rfl)
theorem dX0_between_12 : decode cX0_between 12 = .ok (.lconst 0, 1) := dk_9 (dk_at dksX0_between_0 12 rfl rfl)
theorem dX0_between_13 : decode cX0_between 13 = .ok (.ldc2_w 274, 3) := dk_20 1 18 (dk_at dksX0_between_0 13 rfl rfl)
theorem dX0_between_16 : decode cX0_between 16 = .ok (.invokestatic 130, 3) := dk_184 0 130 (dk_at dksX0_between_0 16 rfl rfl)
theorem dX0_between_19 : decode cX0_between 19 = .ok (.ifCond .ne 6, 3) := dk_154 0 6 (dk_at dksX0_between_0 19 rfl rfl)
theorem dX0_between_22 : decode cX0_between 22 = .ok (.bipush (-2), 2) := dk_16 254 (dk_at dksX0_between_0 22 rfl rfl)
theorem dX0_between_24 : decode cX0_between 24 = .ok (.ireturn, 1) := dk_172 (dk_at dksX0_between_1 0 rfl rfl)
theorem dX0_between_25 : decode cX0_between 25 = .ok (.aload_n 0, 1) := dk_42 (dk_at dksX0_between_1 1 rfl rfl)
theorem dX0_between_26 : decode cX0_between 26 = .ok (.iload_n 1, 1) := dk_27 (dk_at dksX0_between_1 2 rfl rfl)
theorem dX0_between_27 : decode cX0_between 27 = .ok (.invokevirtual 535, 3) := dk_182 2 23 (dk_at dksX0_between_1 3 rfl rfl)
theorem dX0_between_30 : decode cX0_between 30 = .ok (.ifCond .ne 6, 3) := dk_154 0 6 (dk_at dksX0_between_1 6 rfl rfl)
theorem dX0_between_33 : decode cX0_between 33 = .ok (.bipush (-6), 2) := dk_16 250 (dk_at dksX0_between_1 9 rfl rfl)
theorem dX0_between_35 : decode cX0_between 35 = .ok (.ireturn, 1) := dk_172 (dk_at dksX0_between_1 11 rfl rfl)
theorem dX0_between_36 : decode cX0_between 36 = .ok (.bipush (-9), 2) := dk_16 247 (dk_at dksX0_between_1 12 rfl rfl)
theorem dX0_between_38 : decode cX0_between 38 = .ok (.istore_n 3, 1) := dk_62 (dk_at dksX0_between_1 14 rfl rfl)
theorem dX0_between_39 : decode cX0_between 39 = .ok (.bipush (-9), 2) := dk_16 247 (dk_at dksX0_between_1 15 rfl rfl)
theorem dX0_between_41 : decode cX0_between 41 = .ok (.istore 4, 2) := dk_54 4 (dk_at dksX0_between_1 17 rfl rfl)
theorem dX0_between_43 : decode cX0_between 43 = .ok (.iconst 0, 1) := dk_3 (dk_at dksX0_between_1 19 rfl rfl)
theorem dX0_between_44 : decode cX0_between 44 = .ok (.istore 5, 2) := dk_54 5 (dk_at dksX0_between_1 20 rfl rfl)
theorem dX0_between_46 : decode cX0_between 46 = .ok (.iconst 0, 1) := dk_3 (dk_at dksX0_between_1 22 rfl rfl)
theorem dX0_between_47 : decode cX0_between 47 = .ok (.istore 6, 2) := dk_54 6 (dk_at dksX0_between_2 0 rfl rfl)
theorem dX0_between_49 : decode cX0_between 49 = .ok (.iload 6, 2) := dk_21 6 (dk_at dksX0_between_2 2 rfl rfl)
theorem dX0_between_51 : decode cX0_between 51 = .ok (.aload_n 0, 1) := dk_42 (dk_at dksX0_between_2 4 rfl rfl)
theorem dX0_between_52 : decode cX0_between 52 = .ok (.getfield 472, 3) := dk_180 1 216 (dk_at dksX0_between_2 5 rfl rfl)
theorem dX0_between_55 : decode cX0_between 55 = .ok (.if_icmp .ge 85, 3) := dk_162 0 85 (dk_at dksX0_between_2 8 rfl rfl)
theorem dX0_between_58 : decode cX0_between 58 = .ok (.iload 6, 2) := dk_21 6 (dk_at dksX0_between_2 11 rfl rfl)
theorem dX0_between_60 : decode cX0_between 60 = .ok (.iconst 1, 1) := dk_4 (dk_at dksX0_between_2 13 rfl rfl)
theorem dX0_between_61 : decode cX0_between 61 = .ok (.iadd, 1) := dk_96 (dk_at dksX0_between_2 14 rfl rfl)
theorem dX0_between_62 : decode cX0_between 62 = .ok (.istore 7, 2) := dk_54 7 (dk_at dksX0_between_2 15 rfl rfl)
theorem dX0_between_64 : decode cX0_between 64 = .ok (.iload 7, 2) := dk_21 7 (dk_at dksX0_between_2 17 rfl rfl)
theorem dX0_between_66 : decode cX0_between 66 = .ok (.aload_n 0, 1) := dk_42 (dk_at dksX0_between_2 19 rfl rfl)
theorem dX0_between_67 : decode cX0_between 67 = .ok (.getfield 472, 3) := dk_180 1 216 (dk_at dksX0_between_2 20 rfl rfl)
theorem dX0_between_70 : decode cX0_between 70 = .ok (.if_icmp .ge 64, 3) := dk_162 0 64 (dk_at dksX0_between_3 0 rfl rfl)
theorem dX0_between_73 : decode cX0_between 73 = .ok (.aload_n 0, 1) := dk_42 (dk_at dksX0_between_3 3 rfl rfl)
theorem dX0_between_74 : decode cX0_between 74 = .ok (.getfield 60, 3) := dk_180 0 60 (dk_at dksX0_between_3 4 rfl rfl)
theorem dX0_between_77 : decode cX0_between 77 = .ok (.bipush 9, 2) := dk_16 9 (dk_at dksX0_between_3 7 rfl rfl)
theorem dX0_between_79 : decode cX0_between 79 = .ok (.iload 6, 2) := dk_21 6 (dk_at dksX0_between_3 9 rfl rfl)
theorem dX0_between_81 : decode cX0_between 81 = .ok (.imul, 1) := dk_104 (dk_at dksX0_between_3 11 rfl rfl)
theorem dX0_between_82 : decode cX0_between 82 = .ok (.iload 7, 2) := dk_21 7 (dk_at dksX0_between_3 12 rfl rfl)
theorem dX0_between_84 : decode cX0_between 84 = .ok (.iadd, 1) := dk_96 (dk_at dksX0_between_3 14 rfl rfl)
theorem dX0_between_85 : decode cX0_between 85 = .ok (.aaload, 1) := dk_50 (dk_at dksX0_between_3 15 rfl rfl)
theorem dX0_between_86 : decode cX0_between 86 = .ok (.invokestatic 547, 3) := dk_184 2 35 (dk_at dksX0_between_3 16 rfl rfl)
theorem dX0_between_89 : decode cX0_between 89 = .ok (.istore 8, 2) := dk_54 8 (dk_at dksX0_between_3 19 rfl rfl)
theorem dX0_between_91 : decode cX0_between 91 = .ok (.iload_n 3, 1) := dk_29 (dk_at dksX0_between_3 21 rfl rfl)
theorem dX0_between_92 : decode cX0_between 92 = .ok (.bipush (-9), 2) := dk_16 247 (dk_at dksX0_between_3 22 rfl rfl)
theorem dX0_between_94 : decode cX0_between 94 = .ok (.if_icmp .eq 13, 3) := dk_159 0 13 (dk_at dksX0_between_4 0 rfl rfl)
theorem dX0_between_97 : decode cX0_between 97 = .ok (.iload 8, 2) := dk_21 8 (dk_at dksX0_between_4 3 rfl rfl)
theorem dX0_between_99 : decode cX0_between 99 = .ok (.iload 5, 2) := dk_21 5 (dk_at dksX0_between_4 5 rfl rfl)
theorem dX0_between_101 : decode cX0_between 101 = .ok (.if_icmp .lt 6, 3) := dk_161 0 6 (dk_at dksX0_between_4 7 rfl rfl)
theorem dX0_between_104 : decode cX0_between 104 = .ok (.goto 24, 3) := dk_167 0 24 (dk_at dksX0_between_4 10 rfl rfl)
theorem dX0_between_107 : decode cX0_between 107 = .ok (.aload_n 0, 1) := dk_42 (dk_at dksX0_between_4 13 rfl rfl)
theorem dX0_between_108 : decode cX0_between 108 = .ok (.getfield 45, 3) := dk_180 0 45 (dk_at dksX0_between_4 14 rfl rfl)
theorem dX0_between_111 : decode cX0_between 111 = .ok (.iload 6, 2) := dk_21 6 (dk_at dksX0_between_4 17 rfl rfl)
theorem dX0_between_113 : decode cX0_between 113 = .ok (.iaload, 1) := dk_46 (dk_at dksX0_between_4 19 rfl rfl)
theorem dX0_between_114 : decode cX0_between 114 = .ok (.istore_n 3, 1) := dk_62 (dk_at dksX0_between_4 20 rfl rfl)
theorem dX0_between_115 : decode cX0_between 115 = .ok (.aload_n 0, 1) := dk_42 (dk_at dksX0_between_4 21 rfl rfl)
theorem dX0_between_116 : decode cX0_between 116 = .ok (.getfield 45, 3) := dk_180 0 45 (dk_at dksX0_between_5 0 rfl rfl)
theorem dX0_between_119 : decode cX0_between 119 = .ok (.iload 7, 2) := dk_21 7 (dk_at dksX0_between_5 3 rfl rfl)
theorem dX0_between_121 : decode cX0_between 121 = .ok (.iaload, 1) := dk_46 (dk_at dksX0_between_5 5 rfl rfl)
theorem dX0_between_122 : decode cX0_between 122 = .ok (.istore 4, 2) := dk_54 4 (dk_at dksX0_between_5 6 rfl rfl)
theorem dX0_between_124 : decode cX0_between 124 = .ok (.iload 8, 2) := dk_21 8 (dk_at dksX0_between_5 8 rfl rfl)
theorem dX0_between_126 : decode cX0_between 126 = .ok (.istore 5, 2) := dk_54 5 (dk_at dksX0_between_5 10 rfl rfl)
theorem dX0_between_128 : decode cX0_between 128 = .ok (.iinc 7 1, 3) := dk_132 7 1 (dk_at dksX0_between_5 12 rfl rfl)
theorem dX0_between_131 : decode cX0_between 131 = .ok (.goto (-67), 3) := dk_167 255 189 (dk_at dksX0_between_5 15 rfl rfl)
theorem dX0_between_134 : decode cX0_between 134 = .ok (.iinc 6 1, 3) := dk_132 6 1 (dk_at dksX0_between_5 18 rfl rfl)
theorem dX0_between_137 : decode cX0_between 137 = .ok (.goto (-88), 3) := dk_167 255 168 (dk_at dksX0_between_5 21 rfl rfl)
theorem dX0_between_140 : decode cX0_between 140 = .ok (.iload_n 3, 1) := dk_29 (dk_at dksX0_between_6 0 rfl rfl)
theorem dX0_between_141 : decode cX0_between 141 = .ok (.bipush (-9), 2) := dk_16 247 (dk_at dksX0_between_6 1 rfl rfl)
theorem dX0_between_143 : decode cX0_between 143 = .ok (.if_icmp .ne 8, 3) := dk_160 0 8 (dk_at dksX0_between_6 3 rfl rfl)
theorem dX0_between_146 : decode cX0_between 146 = .ok (.bipush (-9), 2) := dk_16 247 (dk_at dksX0_between_6 6 rfl rfl)
theorem dX0_between_148 : decode cX0_between 148 = .ok (.goto 23, 3) := dk_167 0 23 (dk_at dksX0_between_6 8 rfl rfl)
theorem dX0_between_151 : decode cX0_between 151 = .ok (.iload_n 2, 1) := dk_28 (dk_at dksX0_between_6 11 rfl rfl)
theorem dX0_between_152 : decode cX0_between 152 = .ok (.ifCond .ne 7, 3) := dk_154 0 7 (dk_at dksX0_between_6 12 rfl rfl)
theorem dX0_between_155 : decode cX0_between 155 = .ok (.iload_n 3, 1) := dk_29 (dk_at dksX0_between_6 15 rfl rfl)
theorem dX0_between_156 : decode cX0_between 156 = .ok (.goto 15, 3) := dk_167 0 15 (dk_at dksX0_between_6 16 rfl rfl)
theorem dX0_between_159 : decode cX0_between 159 = .ok (.iload_n 2, 1) := dk_28 (dk_at dksX0_between_6 19 rfl rfl)
theorem dX0_between_160 : decode cX0_between 160 = .ok (.iconst 1, 1) := dk_4 (dk_at dksX0_between_6 20 rfl rfl)
theorem dX0_between_161 : decode cX0_between 161 = .ok (.if_icmp .ne 8, 3) := dk_160 0 8 (dk_at dksX0_between_6 21 rfl rfl)
theorem dX0_between_164 : decode cX0_between 164 = .ok (.iload 4, 2) := dk_21 4 (dk_at dksX0_between_7 0 rfl rfl)
theorem dX0_between_166 : decode cX0_between 166 = .ok (.goto 5, 3) := dk_167 0 5 (dk_at dksX0_between_7 2 rfl rfl)
theorem dX0_between_169 : decode cX0_between 169 = .ok (.iload 5, 2) := dk_21 5 (dk_at dksX0_between_7 5 rfl rfl)
theorem dX0_between_171 : decode cX0_between 171 = .ok (.ireturn, 1) := dk_172 (dk_at dksX0_between_7 7 rfl rfl)
abbrev cX0_put : ByteArray := prog_1_method_82_code
def yX0_put : MethodName := ⟨RX0, "put", "(II)I"⟩
def dkwX0_put_1 : List UInt8 := [42, 180, 0, 69, 27, 46, 62, 42, 180, 0, 69, 27, 28, 79, 29, 172]
abbrev dktX0_put_1 : List UInt8 := dkwX0_put_1 ++ []
def dkwX0_put_0 : List UInt8 := [42, 27, 182, 1, 37, 153, 0, 17, 28, 16, 247, 159, 0, 13, 42, 28, 182, 0, 219, 154, 0, 5, 2, 172]
abbrev dktX0_put_0 : List UInt8 := dkwX0_put_0 ++ dktX0_put_1
theorem dksX0_put_0 : cX0_put.data.toList.drop 0 = dktX0_put_0 := by decide +kernel
theorem dksX0_put_1 : cX0_put.data.toList.drop 24 = dktX0_put_1 := dk_seg dksX0_put_0 24 rfl rfl
theorem dX0_put_0 : decode cX0_put 0 = .ok (.aload_n 0, 1) := dk_42 (dk_at dksX0_put_0 0 rfl rfl)
theorem dX0_put_1 : decode cX0_put 1 = .ok (.iload_n 1, 1) := dk_27 (dk_at dksX0_put_0 1 rfl rfl)
theorem dX0_put_2 : decode cX0_put 2 = .ok (.invokevirtual 293, 3) := dk_182 1 37 (dk_at dksX0_put_0 2 rfl rfl)
theorem dX0_put_5 : decode cX0_put 5 = .ok (.ifCond .eq 17, 3) := dk_153 0 17 (dk_at dksX0_put_0 5 rfl rfl)
theorem dX0_put_8 : decode cX0_put 8 = .ok (.iload_n 2, 1) := dk_28 (dk_at dksX0_put_0 8 rfl rfl)
theorem dX0_put_9 : decode cX0_put 9 = .ok (.bipush (-9), 2) := dk_16 247 (dk_at dksX0_put_0 9 rfl rfl)
theorem dX0_put_11 : decode cX0_put 11 = .ok (.if_icmp .eq 13, 3) := dk_159 0 13 (dk_at dksX0_put_0 11 rfl rfl)
theorem dX0_put_14 : decode cX0_put 14 = .ok (.aload_n 0, 1) := dk_42 (dk_at dksX0_put_0 14 rfl rfl)
theorem dX0_put_15 : decode cX0_put 15 = .ok (.iload_n 2, 1) := dk_28 (dk_at dksX0_put_0 15 rfl rfl)
theorem dX0_put_16 : decode cX0_put 16 = .ok (.invokevirtual 219, 3) := dk_182 0 219 (dk_at dksX0_put_0 16 rfl rfl)
theorem dX0_put_19 : decode cX0_put 19 = .ok (.ifCond .ne 5, 3) := dk_154 0 5 (dk_at dksX0_put_0 19 rfl rfl)
theorem dX0_put_22 : decode cX0_put 22 = .ok (.iconst (-1), 1) := dk_2 (dk_at dksX0_put_0 22 rfl rfl)
theorem dX0_put_23 : decode cX0_put 23 = .ok (.ireturn, 1) := dk_172 (dk_at dksX0_put_0 23 rfl rfl)
theorem dX0_put_24 : decode cX0_put 24 = .ok (.aload_n 0, 1) := dk_42 (dk_at dksX0_put_1 0 rfl rfl)
theorem dX0_put_25 : decode cX0_put 25 = .ok (.getfield 69, 3) := dk_180 0 69 (dk_at dksX0_put_1 1 rfl rfl)
theorem dX0_put_28 : decode cX0_put 28 = .ok (.iload_n 1, 1) := dk_27 (dk_at dksX0_put_1 4 rfl rfl)
theorem dX0_put_29 : decode cX0_put 29 = .ok (.iaload, 1) := dk_46 (dk_at dksX0_put_1 5 rfl rfl)
theorem dX0_put_30 : decode cX0_put 30 = .ok (.istore_n 3, 1) := dk_62 (dk_at dksX0_put_1 6 rfl rfl)
theorem dX0_put_31 : decode cX0_put 31 = .ok (.aload_n 0, 1) := dk_42 (dk_at dksX0_put_1 7 rfl rfl)
theorem dX0_put_32 : decode cX0_put 32 = .ok (.getfield 69, 3) := dk_180 0 69 (dk_at dksX0_put_1 8 rfl rfl)
theorem dX0_put_35 : decode cX0_put 35 = .ok (.iload_n 1, 1) := dk_27 (dk_at dksX0_put_1 11 rfl rfl)
theorem dX0_put_36 : decode cX0_put 36 = .ok (.iload_n 2, 1) := dk_28 (dk_at dksX0_put_1 12 rfl rfl)
theorem dX0_put_37 : decode cX0_put 37 = .ok (.iastore, 1) := dk_79 (dk_at dksX0_put_1 13 rfl rfl)
theorem dX0_put_38 : decode cX0_put 38 = .ok (.iload_n 3, 1) := dk_29 (dk_at dksX0_put_1 14 rfl rfl)
theorem dX0_put_39 : decode cX0_put 39 = .ok (.ireturn, 1) := dk_172 (dk_at dksX0_put_1 15 rfl rfl)
abbrev cX0_take : ByteArray := prog_1_method_83_code
def yX0_take : MethodName := ⟨RX0, "take", "(II)I"⟩
def dkwX0_take_3 : List UInt8 := [172]
abbrev dktX0_take_3 : List UInt8 := dkwX0_take_3 ++ []
def dkwX0_take_2 : List UInt8 := [180, 0, 45, 21, 4, 46, 42, 180, 0, 66, 21, 4, 46, 79, 132, 4, 1, 167, 255, 225, 42, 180, 1, 216]
abbrev dktX0_take_2 : List UInt8 := dkwX0_take_2 ++ dktX0_take_3
def dkwX0_take_1 : List UInt8 := [159, 0, 5, 29, 172, 3, 54, 4, 21, 4, 42, 180, 1, 216, 162, 0, 28, 42, 180, 0, 69, 42]
abbrev dktX0_take_1 : List UInt8 := dkwX0_take_1 ++ dktX0_take_2
def dkwX0_take_0 : List UInt8 := [42, 27, 182, 1, 37, 153, 0, 7, 28, 156, 0, 5, 2, 172, 42, 27, 28, 182, 2, 29, 62, 29, 4]
abbrev dktX0_take_0 : List UInt8 := dkwX0_take_0 ++ dktX0_take_1
theorem dksX0_take_0 : cX0_take.data.toList.drop 0 = dktX0_take_0 := by decide +kernel
theorem dksX0_take_1 : cX0_take.data.toList.drop 23 = dktX0_take_1 := dk_seg dksX0_take_0 23 rfl rfl
theorem dksX0_take_2 : cX0_take.data.toList.drop 45 = dktX0_take_2 := dk_seg dksX0_take_1 22 rfl rfl
theorem dksX0_take_3 : cX0_take.data.toList.drop 69 = dktX0_take_3 := dk_seg dksX0_take_2 24 rfl rfl
theorem dX0_take_0 : decode cX0_take 0 = .ok (.aload_n 0, 1) := dk_42 (dk_at dksX0_take_0 0 rfl rfl)
theorem dX0_take_1 : decode cX0_take 1 = .ok (.iload_n 1, 1) := dk_27 (dk_at dksX0_take_0 1 rfl rfl)
theorem dX0_take_2 : decode cX0_take 2 = .ok (.invokevirtual 293, 3) := dk_182 1 37 (dk_at dksX0_take_0 2 rfl rfl)
theorem dX0_take_5 : decode cX0_take 5 = .ok (.ifCond .eq 7, 3) := dk_153 0 7 (dk_at dksX0_take_0 5 rfl rfl)
theorem dX0_take_8 : decode cX0_take 8 = .ok (.iload_n 2, 1) := dk_28 (dk_at dksX0_take_0 8 rfl rfl)
theorem dX0_take_9 : decode cX0_take 9 = .ok (.ifCond .ge 5, 3) := dk_156 0 5 (dk_at dksX0_take_0 9 rfl rfl)
theorem dX0_take_12 : decode cX0_take 12 = .ok (.iconst (-1), 1) := dk_2 (dk_at dksX0_take_0 12 rfl rfl)
theorem dX0_take_13 : decode cX0_take 13 = .ok (.ireturn, 1) := dk_172 (dk_at dksX0_take_0 13 rfl rfl)
theorem dX0_take_14 : decode cX0_take 14 = .ok (.aload_n 0, 1) := dk_42 (dk_at dksX0_take_0 14 rfl rfl)
theorem dX0_take_15 : decode cX0_take 15 = .ok (.iload_n 1, 1) := dk_27 (dk_at dksX0_take_0 15 rfl rfl)
theorem dX0_take_16 : decode cX0_take 16 = .ok (.iload_n 2, 1) := dk_28 (dk_at dksX0_take_0 16 rfl rfl)
theorem dX0_take_17 : decode cX0_take 17 = .ok (.invokevirtual 541, 3) := dk_182 2 29 (dk_at dksX0_take_0 17 rfl rfl)
theorem dX0_take_20 : decode cX0_take 20 = .ok (.istore_n 3, 1) := dk_62 (dk_at dksX0_take_0 20 rfl rfl)
theorem dX0_take_21 : decode cX0_take 21 = .ok (.iload_n 3, 1) := dk_29 (dk_at dksX0_take_0 21 rfl rfl)
theorem dX0_take_22 : decode cX0_take 22 = .ok (.iconst 1, 1) := dk_4 (dk_at dksX0_take_0 22 rfl rfl)
theorem dX0_take_23 : decode cX0_take 23 = .ok (.if_icmp .eq 5, 3) := dk_159 0 5 (dk_at dksX0_take_1 0 rfl rfl)
theorem dX0_take_26 : decode cX0_take 26 = .ok (.iload_n 3, 1) := dk_29 (dk_at dksX0_take_1 3 rfl rfl)
theorem dX0_take_27 : decode cX0_take 27 = .ok (.ireturn, 1) := dk_172 (dk_at dksX0_take_1 4 rfl rfl)
theorem dX0_take_28 : decode cX0_take 28 = .ok (.iconst 0, 1) := dk_3 (dk_at dksX0_take_1 5 rfl rfl)
theorem dX0_take_29 : decode cX0_take 29 = .ok (.istore 4, 2) := dk_54 4 (dk_at dksX0_take_1 6 rfl rfl)
theorem dX0_take_31 : decode cX0_take 31 = .ok (.iload 4, 2) := dk_21 4 (dk_at dksX0_take_1 8 rfl rfl)
theorem dX0_take_33 : decode cX0_take 33 = .ok (.aload_n 0, 1) := dk_42 (dk_at dksX0_take_1 10 rfl rfl)
theorem dX0_take_34 : decode cX0_take 34 = .ok (.getfield 472, 3) := dk_180 1 216 (dk_at dksX0_take_1 11 rfl rfl)
theorem dX0_take_37 : decode cX0_take 37 = .ok (.if_icmp .ge 28, 3) := dk_162 0 28 (dk_at dksX0_take_1 14 rfl rfl)
theorem dX0_take_40 : decode cX0_take 40 = .ok (.aload_n 0, 1) := dk_42 (dk_at dksX0_take_1 17 rfl rfl)
theorem dX0_take_41 : decode cX0_take 41 = .ok (.getfield 69, 3) := dk_180 0 69 (dk_at dksX0_take_1 18 rfl rfl)
theorem dX0_take_44 : decode cX0_take 44 = .ok (.aload_n 0, 1) := dk_42 (dk_at dksX0_take_1 21 rfl rfl)
theorem dX0_take_45 : decode cX0_take 45 = .ok (.getfield 45, 3) := dk_180 0 45 (dk_at dksX0_take_2 0 rfl rfl)
theorem dX0_take_48 : decode cX0_take 48 = .ok (.iload 4, 2) := dk_21 4 (dk_at dksX0_take_2 3 rfl rfl)
theorem dX0_take_50 : decode cX0_take 50 = .ok (.iaload, 1) := dk_46 (dk_at dksX0_take_2 5 rfl rfl)
theorem dX0_take_51 : decode cX0_take 51 = .ok (.aload_n 0, 1) := dk_42 (dk_at dksX0_take_2 6 rfl rfl)
theorem dX0_take_52 : decode cX0_take 52 = .ok (.getfield 66, 3) := dk_180 0 66 (dk_at dksX0_take_2 7 rfl rfl)
theorem dX0_take_55 : decode cX0_take 55 = .ok (.iload 4, 2) := dk_21 4 (dk_at dksX0_take_2 10 rfl rfl)
theorem dX0_take_57 : decode cX0_take 57 = .ok (.iaload, 1) := dk_46 (dk_at dksX0_take_2 12 rfl rfl)
theorem dX0_take_58 : decode cX0_take 58 = .ok (.iastore, 1) := dk_79 (dk_at dksX0_take_2 13 rfl rfl)
theorem dX0_take_59 : decode cX0_take 59 = .ok (.iinc 4 1, 3) := dk_132 4 1 (dk_at dksX0_take_2 14 rfl rfl)
theorem dX0_take_62 : decode cX0_take 62 = .ok (.goto (-31), 3) := dk_167 255 225 (dk_at dksX0_take_2 17 rfl rfl)
theorem dX0_take_65 : decode cX0_take 65 = .ok (.aload_n 0, 1) := dk_42 (dk_at dksX0_take_2 20 rfl rfl)
theorem dX0_take_66 : decode cX0_take 66 = .ok (.getfield 472, 3) := dk_180 1 216 (dk_at dksX0_take_2 21 rfl rfl)
theorem dX0_take_69 : decode cX0_take 69 = .ok (.ireturn, 1) := dk_172 (dk_at dksX0_take_3 0 rfl rfl)
abbrev cX0_check : ByteArray := prog_1_method_86_code
def yX0_check : MethodName := ⟨RX0, "check", "()I"⟩
def dkwX0_check_8 : List UInt8 := [167, 255, 196, 4, 172]
abbrev dktX0_check_8 : List UInt8 := dkwX0_check_8 ++ []
def dkwX0_check_7 : List UInt8 := [185, 0, 186, 2, 0, 192, 0, 214, 182, 2, 42, 154, 0, 8, 16, 236, 27, 100, 172, 132, 1, 1]
abbrev dktX0_check_7 : List UInt8 := dkwX0_check_7 ++ dktX0_check_8
def dkwX0_check_6 : List UInt8 := [185, 0, 186, 2, 0, 192, 0, 214, 180, 1, 46, 153, 0, 28, 42, 42, 180, 0, 29, 27]
abbrev dktX0_check_6 : List UInt8 := dkwX0_check_6 ++ dktX0_check_7
def dkwX0_check_5 : List UInt8 := [167, 255, 208, 3, 60, 27, 42, 180, 0, 29, 185, 0, 180, 1, 0, 162, 0, 53, 42, 180, 0, 29, 27]
abbrev dktX0_check_5 : List UInt8 := dkwX0_check_5 ++ dktX0_check_6
def dkwX0_check_4 : List UInt8 := [16, 247, 159, 0, 17, 42, 27, 182, 2, 39, 153, 0, 9, 17, 255, 56, 27, 100, 172, 132, 1, 1]
abbrev dktX0_check_4 : List UInt8 := dkwX0_check_4 ++ dktX0_check_5
def dkwX0_check_3 : List UInt8 := [180, 0, 25, 185, 0, 180, 1, 0, 162, 0, 41, 42, 180, 0, 207, 153, 0, 28, 42, 180, 0, 69, 27, 46]
abbrev dktX0_check_3 : List UInt8 := dkwX0_check_3 ++ dktX0_check_4
def dkwX0_check_2 : List UInt8 := [46, 184, 0, 161, 154, 0, 8, 16, 156, 27, 100, 172, 132, 1, 1, 167, 255, 196, 3, 60, 27, 42]
abbrev dktX0_check_2 : List UInt8 := dkwX0_check_2 ++ dktX0_check_3
def dkwX0_check_1 : List UInt8 := [159, 0, 36, 42, 180, 0, 25, 27, 185, 0, 186, 2, 0, 192, 0, 190, 182, 0, 196, 42, 180, 0, 69, 27]
abbrev dktX0_check_1 : List UInt8 := dkwX0_check_1 ++ dktX0_check_2
def dkwX0_check_0 : List UInt8 := [3, 60, 27, 42, 180, 0, 25, 185, 0, 180, 1, 0, 162, 0, 53, 42, 180, 0, 69, 27, 46, 16, 247]
abbrev dktX0_check_0 : List UInt8 := dkwX0_check_0 ++ dktX0_check_1
theorem dksX0_check_0 : cX0_check.data.toList.drop 0 = dktX0_check_0 := by decide +kernel
theorem dksX0_check_1 : cX0_check.data.toList.drop 23 = dktX0_check_1 := dk_seg dksX0_check_0 23 rfl rfl
theorem dksX0_check_2 : cX0_check.data.toList.drop 47 = dktX0_check_2 := dk_seg dksX0_check_1 24 rfl rfl
theorem dksX0_check_3 : cX0_check.data.toList.drop 69 = dktX0_check_3 := dk_seg dksX0_check_2 22 rfl rfl
theorem dksX0_check_4 : cX0_check.data.toList.drop 93 = dktX0_check_4 := dk_seg dksX0_check_3 24 rfl rfl
theorem dksX0_check_5 : cX0_check.data.toList.drop 115 = dktX0_check_5 := dk_seg dksX0_check_4 22 rfl rfl
theorem dksX0_check_6 : cX0_check.data.toList.drop 138 = dktX0_check_6 := dk_seg dksX0_check_5 23 rfl rfl
theorem dksX0_check_7 : cX0_check.data.toList.drop 158 = dktX0_check_7 := dk_seg dksX0_check_6 20 rfl rfl
theorem dksX0_check_8 : cX0_check.data.toList.drop 180 = dktX0_check_8 := dk_seg dksX0_check_7 22 rfl rfl
theorem dX0_check_0 : decode cX0_check 0 = .ok (.iconst 0, 1) := dk_3 (dk_at dksX0_check_0 0 rfl rfl)
theorem dX0_check_1 : decode cX0_check 1 = .ok (.istore_n 1, 1) := dk_60 (dk_at dksX0_check_0 1 rfl rfl)
theorem dX0_check_2 : decode cX0_check 2 = .ok (.iload_n 1, 1) := dk_27 (dk_at dksX0_check_0 2 rfl rfl)
theorem dX0_check_3 : decode cX0_check 3 = .ok (.aload_n 0, 1) := dk_42 (dk_at dksX0_check_0 3 rfl rfl)
theorem dX0_check_4 : decode cX0_check 4 = .ok (.getfield 25, 3) := dk_180 0 25 (dk_at dksX0_check_0 4 rfl rfl)
theorem dX0_check_7 : decode cX0_check 7 = .ok (.invokeinterface 180 1, 5) := by decide +kernel
theorem dX0_check_12 : decode cX0_check 12 = .ok (.if_icmp .ge 53, 3) := dk_162 0 53 (dk_at dksX0_check_0 12 rfl rfl)
theorem dX0_check_15 : decode cX0_check 15 = .ok (.aload_n 0, 1) := dk_42 (dk_at dksX0_check_0 15 rfl rfl)
theorem dX0_check_16 : decode cX0_check 16 = .ok (.getfield 69, 3) := dk_180 0 69 (dk_at dksX0_check_0 16 rfl rfl)
theorem dX0_check_19 : decode cX0_check 19 = .ok (.iload_n 1, 1) := dk_27 (dk_at dksX0_check_0 19 rfl rfl)
theorem dX0_check_20 : decode cX0_check 20 = .ok (.iaload, 1) := dk_46 (dk_at dksX0_check_0 20 rfl rfl)
theorem dX0_check_21 : decode cX0_check 21 = .ok (.bipush (-9), 2) := dk_16 247 (dk_at dksX0_check_0 21 rfl rfl)
theorem dX0_check_23 : decode cX0_check 23 = .ok (.if_icmp .eq 36, 3) := dk_159 0 36 (dk_at dksX0_check_1 0 rfl rfl)
theorem dX0_check_26 : decode cX0_check 26 = .ok (.aload_n 0, 1) := dk_42 (dk_at dksX0_check_1 3 rfl rfl)
theorem dX0_check_27 : decode cX0_check 27 = .ok (.getfield 25, 3) := dk_180 0 25 (dk_at dksX0_check_1 4 rfl rfl)
theorem dX0_check_30 : decode cX0_check 30 = .ok (.iload_n 1, 1) := dk_27 (dk_at dksX0_check_1 7 rfl rfl)
theorem dX0_check_31 : decode cX0_check 31 = .ok (.invokeinterface 186 2, 5) := by decide +kernel
theorem dX0_check_36 : decode cX0_check 36 = .ok (.checkcast 190, 3) := dk_192 0 190 (dk_at dksX0_check_1 13 rfl rfl)
theorem dX0_check_39 : decode cX0_check 39 = .ok (.invokevirtual 196, 3) := dk_182 0 196 (dk_at dksX0_check_1 16 rfl rfl)
theorem dX0_check_42 : decode cX0_check 42 = .ok (.aload_n 0, 1) := dk_42 (dk_at dksX0_check_1 19 rfl rfl)
theorem dX0_check_43 : decode cX0_check 43 = .ok (.getfield 69, 3) := dk_180 0 69 (dk_at dksX0_check_1 20 rfl rfl)
theorem dX0_check_46 : decode cX0_check 46 = .ok (.iload_n 1, 1) := dk_27 (dk_at dksX0_check_1 23 rfl rfl)
theorem dX0_check_47 : decode cX0_check 47 = .ok (.iaload, 1) := dk_46 (dk_at dksX0_check_2 0 rfl rfl)
theorem dX0_check_48 : decode cX0_check 48 = .ok (.invokestatic 161, 3) := dk_184 0 161 (dk_at dksX0_check_2 1 rfl rfl)
theorem dX0_check_51 : decode cX0_check 51 = .ok (.ifCond .ne 8, 3) := dk_154 0 8 (dk_at dksX0_check_2 4 rfl rfl)
theorem dX0_check_54 : decode cX0_check 54 = .ok (.bipush (-100), 2) := dk_16 156 (dk_at dksX0_check_2 7 rfl rfl)
theorem dX0_check_56 : decode cX0_check 56 = .ok (.iload_n 1, 1) := dk_27 (dk_at dksX0_check_2 9 rfl rfl)
theorem dX0_check_57 : decode cX0_check 57 = .ok (.isub, 1) := dk_100 (dk_at dksX0_check_2 10 rfl rfl)
theorem dX0_check_58 : decode cX0_check 58 = .ok (.ireturn, 1) := dk_172 (dk_at dksX0_check_2 11 rfl rfl)
theorem dX0_check_59 : decode cX0_check 59 = .ok (.iinc 1 1, 3) := dk_132 1 1 (dk_at dksX0_check_2 12 rfl rfl)
theorem dX0_check_62 : decode cX0_check 62 = .ok (.goto (-60), 3) := dk_167 255 196 (dk_at dksX0_check_2 15 rfl rfl)
theorem dX0_check_65 : decode cX0_check 65 = .ok (.iconst 0, 1) := dk_3 (dk_at dksX0_check_2 18 rfl rfl)
theorem dX0_check_66 : decode cX0_check 66 = .ok (.istore_n 1, 1) := dk_60 (dk_at dksX0_check_2 19 rfl rfl)
theorem dX0_check_67 : decode cX0_check 67 = .ok (.iload_n 1, 1) := dk_27 (dk_at dksX0_check_2 20 rfl rfl)
theorem dX0_check_68 : decode cX0_check 68 = .ok (.aload_n 0, 1) := dk_42 (dk_at dksX0_check_2 21 rfl rfl)
theorem dX0_check_69 : decode cX0_check 69 = .ok (.getfield 25, 3) := dk_180 0 25 (dk_at dksX0_check_3 0 rfl rfl)
theorem dX0_check_72 : decode cX0_check 72 = .ok (.invokeinterface 180 1, 5) := by decide +kernel
theorem dX0_check_77 : decode cX0_check 77 = .ok (.if_icmp .ge 41, 3) := dk_162 0 41 (dk_at dksX0_check_3 8 rfl rfl)
theorem dX0_check_80 : decode cX0_check 80 = .ok (.aload_n 0, 1) := dk_42 (dk_at dksX0_check_3 11 rfl rfl)
theorem dX0_check_81 : decode cX0_check 81 = .ok (.getfield 207, 3) := dk_180 0 207 (dk_at dksX0_check_3 12 rfl rfl)
theorem dX0_check_84 : decode cX0_check 84 = .ok (.ifCond .eq 28, 3) := dk_153 0 28 (dk_at dksX0_check_3 15 rfl rfl)
theorem dX0_check_87 : decode cX0_check 87 = .ok (.aload_n 0, 1) := dk_42 (dk_at dksX0_check_3 18 rfl rfl)
theorem dX0_check_88 : decode cX0_check 88 = .ok (.getfield 69, 3) := dk_180 0 69 (dk_at dksX0_check_3 19 rfl rfl)
theorem dX0_check_91 : decode cX0_check 91 = .ok (.iload_n 1, 1) := dk_27 (dk_at dksX0_check_3 22 rfl rfl)
theorem dX0_check_92 : decode cX0_check 92 = .ok (.iaload, 1) := dk_46 (dk_at dksX0_check_3 23 rfl rfl)
theorem dX0_check_93 : decode cX0_check 93 = .ok (.bipush (-9), 2) := dk_16 247 (dk_at dksX0_check_4 0 rfl rfl)
theorem dX0_check_95 : decode cX0_check 95 = .ok (.if_icmp .eq 17, 3) := dk_159 0 17 (dk_at dksX0_check_4 2 rfl rfl)
theorem dX0_check_98 : decode cX0_check 98 = .ok (.aload_n 0, 1) := dk_42 (dk_at dksX0_check_4 5 rfl rfl)
theorem dX0_check_99 : decode cX0_check 99 = .ok (.iload_n 1, 1) := dk_27 (dk_at dksX0_check_4 6 rfl rfl)
theorem dX0_check_100 : decode cX0_check 100 = .ok (.invokevirtual 551, 3) := dk_182 2 39 (dk_at dksX0_check_4 7 rfl rfl)
theorem dX0_check_103 : decode cX0_check 103 = .ok (.ifCond .eq 9, 3) := dk_153 0 9 (dk_at dksX0_check_4 10 rfl rfl)
theorem dX0_check_106 : decode cX0_check 106 = .ok (.sipush (-200), 3) := dk_17 255 56 (dk_at dksX0_check_4 13 rfl rfl)
theorem dX0_check_109 : decode cX0_check 109 = .ok (.iload_n 1, 1) := dk_27 (dk_at dksX0_check_4 16 rfl rfl)
theorem dX0_check_110 : decode cX0_check 110 = .ok (.isub, 1) := dk_100 (dk_at dksX0_check_4 17 rfl rfl)
theorem dX0_check_111 : decode cX0_check 111 = .ok (.ireturn, 1) := dk_172 (dk_at dksX0_check_4 18 rfl rfl)
theorem dX0_check_112 : decode cX0_check 112 = .ok (.iinc 1 1, 3) := dk_132 1 1 (dk_at dksX0_check_4 19 rfl rfl)
theorem dX0_check_115 : decode cX0_check 115 = .ok (.goto (-48), 3) := dk_167 255 208 (dk_at dksX0_check_5 0 rfl rfl)
theorem dX0_check_118 : decode cX0_check 118 = .ok (.iconst 0, 1) := dk_3 (dk_at dksX0_check_5 3 rfl rfl)
theorem dX0_check_119 : decode cX0_check 119 = .ok (.istore_n 1, 1) := dk_60 (dk_at dksX0_check_5 4 rfl rfl)
theorem dX0_check_120 : decode cX0_check 120 = .ok (.iload_n 1, 1) := dk_27 (dk_at dksX0_check_5 5 rfl rfl)
theorem dX0_check_121 : decode cX0_check 121 = .ok (.aload_n 0, 1) := dk_42 (dk_at dksX0_check_5 6 rfl rfl)
theorem dX0_check_122 : decode cX0_check 122 = .ok (.getfield 29, 3) := dk_180 0 29 (dk_at dksX0_check_5 7 rfl rfl)
theorem dX0_check_125 : decode cX0_check 125 = .ok (.invokeinterface 180 1, 5) := by decide +kernel
theorem dX0_check_130 : decode cX0_check 130 = .ok (.if_icmp .ge 53, 3) := dk_162 0 53 (dk_at dksX0_check_5 15 rfl rfl)
theorem dX0_check_133 : decode cX0_check 133 = .ok (.aload_n 0, 1) := dk_42 (dk_at dksX0_check_5 18 rfl rfl)
theorem dX0_check_134 : decode cX0_check 134 = .ok (.getfield 29, 3) := dk_180 0 29 (dk_at dksX0_check_5 19 rfl rfl)
theorem dX0_check_137 : decode cX0_check 137 = .ok (.iload_n 1, 1) := dk_27 (dk_at dksX0_check_5 22 rfl rfl)
theorem dX0_check_138 : decode cX0_check 138 = .ok (.invokeinterface 186 2, 5) := by decide +kernel
theorem dX0_check_143 : decode cX0_check 143 = .ok (.checkcast 214, 3) := dk_192 0 214 (dk_at dksX0_check_6 5 rfl rfl)
theorem dX0_check_146 : decode cX0_check 146 = .ok (.getfield 302, 3) := dk_180 1 46 (dk_at dksX0_check_6 8 rfl rfl)
theorem dX0_check_149 : decode cX0_check 149 = .ok (.ifCond .eq 28, 3) := dk_153 0 28 (dk_at dksX0_check_6 11 rfl rfl)
theorem dX0_check_152 : decode cX0_check 152 = .ok (.aload_n 0, 1) := dk_42 (dk_at dksX0_check_6 14 rfl rfl)
theorem dX0_check_153 : decode cX0_check 153 = .ok (.aload_n 0, 1) := dk_42 (dk_at dksX0_check_6 15 rfl rfl)
theorem dX0_check_154 : decode cX0_check 154 = .ok (.getfield 29, 3) := dk_180 0 29 (dk_at dksX0_check_6 16 rfl rfl)
theorem dX0_check_157 : decode cX0_check 157 = .ok (.iload_n 1, 1) := dk_27 (dk_at dksX0_check_6 19 rfl rfl)
theorem dX0_check_158 : decode cX0_check 158 = .ok (.invokeinterface 186 2, 5) := by decide +kernel
theorem dX0_check_163 : decode cX0_check 163 = .ok (.checkcast 214, 3) := dk_192 0 214 (dk_at dksX0_check_7 5 rfl rfl)
theorem dX0_check_166 : decode cX0_check 166 = .ok (.invokevirtual 554, 3) := dk_182 2 42 (dk_at dksX0_check_7 8 rfl rfl)
theorem dX0_check_169 : decode cX0_check 169 = .ok (.ifCond .ne 8, 3) := dk_154 0 8 (dk_at dksX0_check_7 11 rfl rfl)
theorem dX0_check_172 : decode cX0_check 172 = .ok (.bipush (-20), 2) := dk_16 236 (dk_at dksX0_check_7 14 rfl rfl)
theorem dX0_check_174 : decode cX0_check 174 = .ok (.iload_n 1, 1) := dk_27 (dk_at dksX0_check_7 16 rfl rfl)
theorem dX0_check_175 : decode cX0_check 175 = .ok (.isub, 1) := dk_100 (dk_at dksX0_check_7 17 rfl rfl)
theorem dX0_check_176 : decode cX0_check 176 = .ok (.ireturn, 1) := dk_172 (dk_at dksX0_check_7 18 rfl rfl)
theorem dX0_check_177 : decode cX0_check 177 = .ok (.iinc 1 1, 3) := dk_132 1 1 (dk_at dksX0_check_7 19 rfl rfl)
theorem dX0_check_180 : decode cX0_check 180 = .ok (.goto (-60), 3) := dk_167 255 196 (dk_at dksX0_check_8 0 rfl rfl)
theorem dX0_check_183 : decode cX0_check 183 = .ok (.iconst 1, 1) := dk_4 (dk_at dksX0_check_8 3 rfl rfl)
theorem dX0_check_184 : decode cX0_check 184 = .ok (.ireturn, 1) := dk_172 (dk_at dksX0_check_8 4 rfl rfl)
abbrev cX0_isShared : ByteArray := prog_1_method_84_code
def yX0_isShared : MethodName := ⟨RX0, "isShared", "(I)Z"⟩
def dkwX0_isShared_1 : List UInt8 := [160, 0, 7, 4, 167, 0, 4, 3, 128, 61, 132, 3, 1, 167, 255, 225, 28, 172]
abbrev dktX0_isShared_1 : List UInt8 := dkwX0_isShared_1 ++ []
def dkwX0_isShared_0 : List UInt8 := [3, 61, 3, 62, 29, 27, 162, 0, 32, 28, 42, 180, 0, 69, 29, 46, 42, 180, 0, 69, 27, 46]
abbrev dktX0_isShared_0 : List UInt8 := dkwX0_isShared_0 ++ dktX0_isShared_1
theorem dksX0_isShared_0 : cX0_isShared.data.toList.drop 0 = dktX0_isShared_0 := by decide +kernel
theorem dksX0_isShared_1 : cX0_isShared.data.toList.drop 22 = dktX0_isShared_1 := dk_seg dksX0_isShared_0 22 rfl rfl
theorem dX0_isShared_0 : decode cX0_isShared 0 = .ok (.iconst 0, 1) := dk_3 (dk_at dksX0_isShared_0 0 rfl rfl)
theorem dX0_isShared_1 : decode cX0_isShared 1 = .ok (.istore_n 2, 1) := dk_61 (dk_at dksX0_isShared_0 1 rfl rfl)
theorem dX0_isShared_2 : decode cX0_isShared 2 = .ok (.iconst 0, 1) := dk_3 (dk_at dksX0_isShared_0 2 rfl rfl)
theorem dX0_isShared_3 : decode cX0_isShared 3 = .ok (.istore_n 3, 1) := dk_62 (dk_at dksX0_isShared_0 3 rfl rfl)
theorem dX0_isShared_4 : decode cX0_isShared 4 = .ok (.iload_n 3, 1) := dk_29 (dk_at dksX0_isShared_0 4 rfl rfl)
theorem dX0_isShared_5 : decode cX0_isShared 5 = .ok (.iload_n 1, 1) := dk_27 (dk_at dksX0_isShared_0 5 rfl rfl)
theorem dX0_isShared_6 : decode cX0_isShared 6 = .ok (.if_icmp .ge 32, 3) := dk_162 0 32 (dk_at dksX0_isShared_0 6 rfl rfl)
theorem dX0_isShared_9 : decode cX0_isShared 9 = .ok (.iload_n 2, 1) := dk_28 (dk_at dksX0_isShared_0 9 rfl rfl)
theorem dX0_isShared_10 : decode cX0_isShared 10 = .ok (.aload_n 0, 1) := dk_42 (dk_at dksX0_isShared_0 10 rfl rfl)
theorem dX0_isShared_11 : decode cX0_isShared 11 = .ok (.getfield 69, 3) := dk_180 0 69 (dk_at dksX0_isShared_0 11 rfl rfl)
theorem dX0_isShared_14 : decode cX0_isShared 14 = .ok (.iload_n 3, 1) := dk_29 (dk_at dksX0_isShared_0 14 rfl rfl)
theorem dX0_isShared_15 : decode cX0_isShared 15 = .ok (.iaload, 1) := dk_46 (dk_at dksX0_isShared_0 15 rfl rfl)
theorem dX0_isShared_16 : decode cX0_isShared 16 = .ok (.aload_n 0, 1) := dk_42 (dk_at dksX0_isShared_0 16 rfl rfl)
theorem dX0_isShared_17 : decode cX0_isShared 17 = .ok (.getfield 69, 3) := dk_180 0 69 (dk_at dksX0_isShared_0 17 rfl rfl)
theorem dX0_isShared_20 : decode cX0_isShared 20 = .ok (.iload_n 1, 1) := dk_27 (dk_at dksX0_isShared_0 20 rfl rfl)
theorem dX0_isShared_21 : decode cX0_isShared 21 = .ok (.iaload, 1) := dk_46 (dk_at dksX0_isShared_0 21 rfl rfl)
theorem dX0_isShared_22 : decode cX0_isShared 22 = .ok (.if_icmp .ne 7, 3) := dk_160 0 7 (dk_at dksX0_isShared_1 0 rfl rfl)
theorem dX0_isShared_25 : decode cX0_isShared 25 = .ok (.iconst 1, 1) := dk_4 (dk_at dksX0_isShared_1 3 rfl rfl)
theorem dX0_isShared_26 : decode cX0_isShared 26 = .ok (.goto 4, 3) := dk_167 0 4 (dk_at dksX0_isShared_1 4 rfl rfl)
theorem dX0_isShared_29 : decode cX0_isShared 29 = .ok (.iconst 0, 1) := dk_3 (dk_at dksX0_isShared_1 7 rfl rfl)
theorem dX0_isShared_30 : decode cX0_isShared 30 = .ok (.ior, 1) := dk_128 (dk_at dksX0_isShared_1 8 rfl rfl)
theorem dX0_isShared_31 : decode cX0_isShared 31 = .ok (.istore_n 2, 1) := dk_61 (dk_at dksX0_isShared_1 9 rfl rfl)
theorem dX0_isShared_32 : decode cX0_isShared 32 = .ok (.iinc 3 1, 3) := dk_132 3 1 (dk_at dksX0_isShared_1 10 rfl rfl)
theorem dX0_isShared_35 : decode cX0_isShared 35 = .ok (.goto (-31), 3) := dk_167 255 225 (dk_at dksX0_isShared_1 13 rfl rfl)
theorem dX0_isShared_38 : decode cX0_isShared 38 = .ok (.iload_n 2, 1) := dk_28 (dk_at dksX0_isShared_1 16 rfl rfl)
theorem dX0_isShared_39 : decode cX0_isShared 39 = .ok (.ireturn, 1) := dk_172 (dk_at dksX0_isShared_1 17 rfl rfl)
abbrev cX0_isKeptOnMap : ByteArray := prog_1_method_85_code
def yX0_isKeptOnMap : MethodName := ⟨RX0, "isKeptOnMap", "(LHeardPlaces$Measure;)Z"⟩
def dkwX0_isKeptOnMap_2 : List UInt8 := [180, 1, 148, 46, 184, 0, 161, 153, 0, 7, 4, 167, 0, 4, 3, 172]
abbrev dktX0_isKeptOnMap_2 : List UInt8 := dkwX0_isKeptOnMap_2 ++ []
def dkwX0_isKeptOnMap_1 : List UInt8 := [16, 247, 159, 0, 32, 43, 180, 1, 163, 42, 180, 0, 69, 43, 180, 1, 145, 46, 47, 42, 180, 0, 69, 43]
abbrev dktX0_isKeptOnMap_1 : List UInt8 := dkwX0_isKeptOnMap_1 ++ dktX0_isKeptOnMap_2
def dkwX0_isKeptOnMap_0 : List UInt8 := [42, 180, 0, 69, 43, 180, 1, 145, 46, 16, 247, 159, 0, 46, 42, 180, 0, 69, 43, 180, 1, 148, 46]
abbrev dktX0_isKeptOnMap_0 : List UInt8 := dkwX0_isKeptOnMap_0 ++ dktX0_isKeptOnMap_1
theorem dksX0_isKeptOnMap_0 : cX0_isKeptOnMap.data.toList.drop 0 = dktX0_isKeptOnMap_0 := by decide +kernel
theorem dksX0_isKeptOnMap_1 : cX0_isKeptOnMap.data.toList.drop 23 = dktX0_isKeptOnMap_1 := dk_seg dksX0_isKeptOnMap_0 23 rfl rfl
theorem dksX0_isKeptOnMap_2 : cX0_isKeptOnMap.data.toList.drop 47 = dktX0_isKeptOnMap_2 := dk_seg dksX0_isKeptOnMap_1 24 rfl rfl
theorem dX0_isKeptOnMap_0 : decode cX0_isKeptOnMap 0 = .ok (.aload_n 0, 1) := dk_42 (dk_at dksX0_isKeptOnMap_0 0 rfl rfl)
theorem dX0_isKeptOnMap_1 : decode cX0_isKeptOnMap 1 = .ok (.getfield 69, 3) := dk_180 0 69 (dk_at dksX0_isKeptOnMap_0 1 rfl rfl)
theorem dX0_isKeptOnMap_4 : decode cX0_isKeptOnMap 4 = .ok (.aload_n 1, 1) := dk_43 (dk_at dksX0_isKeptOnMap_0 4 rfl rfl)
theorem dX0_isKeptOnMap_5 : decode cX0_isKeptOnMap 5 = .ok (.getfield 401, 3) := dk_180 1 145 (dk_at dksX0_isKeptOnMap_0 5 rfl rfl)
theorem dX0_isKeptOnMap_8 : decode cX0_isKeptOnMap 8 = .ok (.iaload, 1) := dk_46 (dk_at dksX0_isKeptOnMap_0 8 rfl rfl)
theorem dX0_isKeptOnMap_9 : decode cX0_isKeptOnMap 9 = .ok (.bipush (-9), 2) := dk_16 247 (dk_at dksX0_isKeptOnMap_0 9 rfl rfl)
theorem dX0_isKeptOnMap_11 : decode cX0_isKeptOnMap 11 = .ok (.if_icmp .eq 46, 3) := dk_159 0 46 (dk_at dksX0_isKeptOnMap_0 11 rfl rfl)
theorem dX0_isKeptOnMap_14 : decode cX0_isKeptOnMap 14 = .ok (.aload_n 0, 1) := dk_42 (dk_at dksX0_isKeptOnMap_0 14 rfl rfl)
theorem dX0_isKeptOnMap_15 : decode cX0_isKeptOnMap 15 = .ok (.getfield 69, 3) := dk_180 0 69 (dk_at dksX0_isKeptOnMap_0 15 rfl rfl)
theorem dX0_isKeptOnMap_18 : decode cX0_isKeptOnMap 18 = .ok (.aload_n 1, 1) := dk_43 (dk_at dksX0_isKeptOnMap_0 18 rfl rfl)
theorem dX0_isKeptOnMap_19 : decode cX0_isKeptOnMap 19 = .ok (.getfield 404, 3) := dk_180 1 148 (dk_at dksX0_isKeptOnMap_0 19 rfl rfl)
theorem dX0_isKeptOnMap_22 : decode cX0_isKeptOnMap 22 = .ok (.iaload, 1) := dk_46 (dk_at dksX0_isKeptOnMap_0 22 rfl rfl)
theorem dX0_isKeptOnMap_23 : decode cX0_isKeptOnMap 23 = .ok (.bipush (-9), 2) := dk_16 247 (dk_at dksX0_isKeptOnMap_1 0 rfl rfl)
theorem dX0_isKeptOnMap_25 : decode cX0_isKeptOnMap 25 = .ok (.if_icmp .eq 32, 3) := dk_159 0 32 (dk_at dksX0_isKeptOnMap_1 2 rfl rfl)
theorem dX0_isKeptOnMap_28 : decode cX0_isKeptOnMap 28 = .ok (.aload_n 1, 1) := dk_43 (dk_at dksX0_isKeptOnMap_1 5 rfl rfl)
theorem dX0_isKeptOnMap_29 : decode cX0_isKeptOnMap 29 = .ok (.getfield 419, 3) := dk_180 1 163 (dk_at dksX0_isKeptOnMap_1 6 rfl rfl)
theorem dX0_isKeptOnMap_32 : decode cX0_isKeptOnMap 32 = .ok (.aload_n 0, 1) := dk_42 (dk_at dksX0_isKeptOnMap_1 9 rfl rfl)
theorem dX0_isKeptOnMap_33 : decode cX0_isKeptOnMap 33 = .ok (.getfield 69, 3) := dk_180 0 69 (dk_at dksX0_isKeptOnMap_1 10 rfl rfl)
theorem dX0_isKeptOnMap_36 : decode cX0_isKeptOnMap 36 = .ok (.aload_n 1, 1) := dk_43 (dk_at dksX0_isKeptOnMap_1 13 rfl rfl)
theorem dX0_isKeptOnMap_37 : decode cX0_isKeptOnMap 37 = .ok (.getfield 401, 3) := dk_180 1 145 (dk_at dksX0_isKeptOnMap_1 14 rfl rfl)
theorem dX0_isKeptOnMap_40 : decode cX0_isKeptOnMap 40 = .ok (.iaload, 1) := dk_46 (dk_at dksX0_isKeptOnMap_1 17 rfl rfl)
theorem dX0_isKeptOnMap_41 : decode cX0_isKeptOnMap 41 = .ok (.laload, 1) := dk_47 (dk_at dksX0_isKeptOnMap_1 18 rfl rfl)
theorem dX0_isKeptOnMap_42 : decode cX0_isKeptOnMap 42 = .ok (.aload_n 0, 1) := dk_42 (dk_at dksX0_isKeptOnMap_1 19 rfl rfl)
theorem dX0_isKeptOnMap_43 : decode cX0_isKeptOnMap 43 = .ok (.getfield 69, 3) := dk_180 0 69 (dk_at dksX0_isKeptOnMap_1 20 rfl rfl)
theorem dX0_isKeptOnMap_46 : decode cX0_isKeptOnMap 46 = .ok (.aload_n 1, 1) := dk_43 (dk_at dksX0_isKeptOnMap_1 23 rfl rfl)
theorem dX0_isKeptOnMap_47 : decode cX0_isKeptOnMap 47 = .ok (.getfield 404, 3) := dk_180 1 148 (dk_at dksX0_isKeptOnMap_2 0 rfl rfl)
theorem dX0_isKeptOnMap_50 : decode cX0_isKeptOnMap 50 = .ok (.iaload, 1) := dk_46 (dk_at dksX0_isKeptOnMap_2 3 rfl rfl)
theorem dX0_isKeptOnMap_51 : decode cX0_isKeptOnMap 51 = .ok (.invokestatic 161, 3) := dk_184 0 161 (dk_at dksX0_isKeptOnMap_2 4 rfl rfl)
theorem dX0_isKeptOnMap_54 : decode cX0_isKeptOnMap 54 = .ok (.ifCond .eq 7, 3) := dk_153 0 7 (dk_at dksX0_isKeptOnMap_2 7 rfl rfl)
theorem dX0_isKeptOnMap_57 : decode cX0_isKeptOnMap 57 = .ok (.iconst 1, 1) := dk_4 (dk_at dksX0_isKeptOnMap_2 10 rfl rfl)
theorem dX0_isKeptOnMap_58 : decode cX0_isKeptOnMap 58 = .ok (.goto 4, 3) := dk_167 0 4 (dk_at dksX0_isKeptOnMap_2 11 rfl rfl)
theorem dX0_isKeptOnMap_61 : decode cX0_isKeptOnMap 61 = .ok (.iconst 0, 1) := dk_3 (dk_at dksX0_isKeptOnMap_2 14 rfl rfl)
theorem dX0_isKeptOnMap_62 : decode cX0_isKeptOnMap 62 = .ok (.ireturn, 1) := dk_172 (dk_at dksX0_isKeptOnMap_2 15 rfl rfl)
abbrev cX0_flips : ByteArray := prog_1_method_99_code
def yX0_flips : MethodName := ⟨RX0, "flips", "(I)I"⟩
def dkwX0_flips_1 : List UInt8 := [180, 2, 63, 167, 0, 4, 28, 172]
abbrev dktX0_flips_1 : List UInt8 := dkwX0_flips_1 ++ []
def dkwX0_flips_0 : List UInt8 := [42, 27, 3, 182, 2, 100, 61, 42, 27, 182, 1, 37, 153, 0, 16, 28, 16, 253, 159, 0, 10, 42]
abbrev dktX0_flips_0 : List UInt8 := dkwX0_flips_0 ++ dktX0_flips_1
theorem dksX0_flips_0 : cX0_flips.data.toList.drop 0 = dktX0_flips_0 := by decide +kernel
theorem dksX0_flips_1 : cX0_flips.data.toList.drop 22 = dktX0_flips_1 := dk_seg dksX0_flips_0 22 rfl rfl
theorem dX0_flips_0 : decode cX0_flips 0 = .ok (.aload_n 0, 1) := dk_42 (dk_at dksX0_flips_0 0 rfl rfl)
theorem dX0_flips_1 : decode cX0_flips 1 = .ok (.iload_n 1, 1) := dk_27 (dk_at dksX0_flips_0 1 rfl rfl)
theorem dX0_flips_2 : decode cX0_flips 2 = .ok (.iconst 0, 1) := dk_3 (dk_at dksX0_flips_0 2 rfl rfl)
theorem dX0_flips_3 : decode cX0_flips 3 = .ok (.invokevirtual 612, 3) := dk_182 2 100 (dk_at dksX0_flips_0 3 rfl rfl)
theorem dX0_flips_6 : decode cX0_flips 6 = .ok (.istore_n 2, 1) := dk_61 (dk_at dksX0_flips_0 6 rfl rfl)
theorem dX0_flips_7 : decode cX0_flips 7 = .ok (.aload_n 0, 1) := dk_42 (dk_at dksX0_flips_0 7 rfl rfl)
theorem dX0_flips_8 : decode cX0_flips 8 = .ok (.iload_n 1, 1) := dk_27 (dk_at dksX0_flips_0 8 rfl rfl)
theorem dX0_flips_9 : decode cX0_flips 9 = .ok (.invokevirtual 293, 3) := dk_182 1 37 (dk_at dksX0_flips_0 9 rfl rfl)
theorem dX0_flips_12 : decode cX0_flips 12 = .ok (.ifCond .eq 16, 3) := dk_153 0 16 (dk_at dksX0_flips_0 12 rfl rfl)
theorem dX0_flips_15 : decode cX0_flips 15 = .ok (.iload_n 2, 1) := dk_28 (dk_at dksX0_flips_0 15 rfl rfl)
theorem dX0_flips_16 : decode cX0_flips 16 = .ok (.bipush (-3), 2) := dk_16 253 (dk_at dksX0_flips_0 16 rfl rfl)
theorem dX0_flips_18 : decode cX0_flips 18 = .ok (.if_icmp .eq 10, 3) := dk_159 0 10 (dk_at dksX0_flips_0 18 rfl rfl)
theorem dX0_flips_21 : decode cX0_flips 21 = .ok (.aload_n 0, 1) := dk_42 (dk_at dksX0_flips_0 21 rfl rfl)
theorem dX0_flips_22 : decode cX0_flips 22 = .ok (.getfield 575, 3) := dk_180 2 63 (dk_at dksX0_flips_1 0 rfl rfl)
theorem dX0_flips_25 : decode cX0_flips 25 = .ok (.goto 4, 3) := dk_167 0 4 (dk_at dksX0_flips_1 3 rfl rfl)
theorem dX0_flips_28 : decode cX0_flips 28 = .ok (.iload_n 2, 1) := dk_28 (dk_at dksX0_flips_1 6 rfl rfl)
theorem dX0_flips_29 : decode cX0_flips 29 = .ok (.ireturn, 1) := dk_172 (dk_at dksX0_flips_1 7 rfl rfl)
abbrev cX0_lookAtFlip : ByteArray := prog_1_method_98_code
def yX0_lookAtFlip : MethodName := ⟨RX0, "lookAtFlip", "(II)I"⟩
def dkwX0_lookAtFlip_2 : List UInt8 := [153, 0, 7, 4, 167, 0, 4, 2, 172]
abbrev dktX0_lookAtFlip_2 : List UInt8 := dkwX0_lookAtFlip_2 ++ []
def dkwX0_lookAtFlip_1 : List UInt8 := [172, 42, 42, 27, 182, 1, 210, 28, 182, 2, 96, 28, 133, 9, 42, 180, 2, 63, 133, 10, 101, 184, 0, 130]
abbrev dktX0_lookAtFlip_1 : List UInt8 := dkwX0_lookAtFlip_1 ++ dktX0_lookAtFlip_2
def dkwX0_lookAtFlip_0 : List UInt8 := [42, 27, 182, 1, 37, 154, 0, 5, 2, 172, 42, 42, 27, 182, 1, 210, 182, 2, 93, 154, 0, 6, 16, 253]
abbrev dktX0_lookAtFlip_0 : List UInt8 := dkwX0_lookAtFlip_0 ++ dktX0_lookAtFlip_1
theorem dksX0_lookAtFlip_0 : cX0_lookAtFlip.data.toList.drop 0 = dktX0_lookAtFlip_0 := by decide +kernel
theorem dksX0_lookAtFlip_1 : cX0_lookAtFlip.data.toList.drop 24 = dktX0_lookAtFlip_1 := dk_seg dksX0_lookAtFlip_0 24 rfl rfl
theorem dksX0_lookAtFlip_2 : cX0_lookAtFlip.data.toList.drop 48 = dktX0_lookAtFlip_2 := dk_seg dksX0_lookAtFlip_1 24 rfl rfl
theorem dX0_lookAtFlip_0 : decode cX0_lookAtFlip 0 = .ok (.aload_n 0, 1) := dk_42 (dk_at dksX0_lookAtFlip_0 0 rfl rfl)
theorem dX0_lookAtFlip_1 : decode cX0_lookAtFlip 1 = .ok (.iload_n 1, 1) := dk_27 (dk_at dksX0_lookAtFlip_0 1 rfl rfl)
theorem dX0_lookAtFlip_2 : decode cX0_lookAtFlip 2 = .ok (.invokevirtual 293, 3) := dk_182 1 37 (dk_at dksX0_lookAtFlip_0 2 rfl rfl)
theorem dX0_lookAtFlip_5 : decode cX0_lookAtFlip 5 = .ok (.ifCond .ne 5, 3) := dk_154 0 5 (dk_at dksX0_lookAtFlip_0 5 rfl rfl)
theorem dX0_lookAtFlip_8 : decode cX0_lookAtFlip 8 = .ok (.iconst (-1), 1) := dk_2 (dk_at dksX0_lookAtFlip_0 8 rfl rfl)
theorem dX0_lookAtFlip_9 : decode cX0_lookAtFlip 9 = .ok (.ireturn, 1) := dk_172 (dk_at dksX0_lookAtFlip_0 9 rfl rfl)
theorem dX0_lookAtFlip_10 : decode cX0_lookAtFlip 10 = .ok (.aload_n 0, 1) := dk_42 (dk_at dksX0_lookAtFlip_0 10 rfl rfl)
theorem dX0_lookAtFlip_11 : decode cX0_lookAtFlip 11 = .ok (.aload_n 0, 1) := dk_42 (dk_at dksX0_lookAtFlip_0 11 rfl rfl)
theorem dX0_lookAtFlip_12 : decode cX0_lookAtFlip 12 = .ok (.iload_n 1, 1) := dk_27 (dk_at dksX0_lookAtFlip_0 12 rfl rfl)
theorem dX0_lookAtFlip_13 : decode cX0_lookAtFlip 13 = .ok (.invokevirtual 466, 3) := dk_182 1 210 (dk_at dksX0_lookAtFlip_0 13 rfl rfl)
theorem dX0_lookAtFlip_16 : decode cX0_lookAtFlip 16 = .ok (.invokevirtual 605, 3) := dk_182 2 93 (dk_at dksX0_lookAtFlip_0 16 rfl rfl)
theorem dX0_lookAtFlip_19 : decode cX0_lookAtFlip 19 = .ok (.ifCond .ne 6, 3) := dk_154 0 6 (dk_at dksX0_lookAtFlip_0 19 rfl rfl)
theorem dX0_lookAtFlip_22 : decode cX0_lookAtFlip 22 = .ok (.bipush (-3), 2) := dk_16 253 (dk_at dksX0_lookAtFlip_0 22 rfl rfl)
theorem dX0_lookAtFlip_24 : decode cX0_lookAtFlip 24 = .ok (.ireturn, 1) := dk_172 (dk_at dksX0_lookAtFlip_1 0 rfl rfl)
theorem dX0_lookAtFlip_25 : decode cX0_lookAtFlip 25 = .ok (.aload_n 0, 1) := dk_42 (dk_at dksX0_lookAtFlip_1 1 rfl rfl)
theorem dX0_lookAtFlip_26 : decode cX0_lookAtFlip 26 = .ok (.aload_n 0, 1) := dk_42 (dk_at dksX0_lookAtFlip_1 2 rfl rfl)
theorem dX0_lookAtFlip_27 : decode cX0_lookAtFlip 27 = .ok (.iload_n 1, 1) := dk_27 (dk_at dksX0_lookAtFlip_1 3 rfl rfl)
theorem dX0_lookAtFlip_28 : decode cX0_lookAtFlip 28 = .ok (.invokevirtual 466, 3) := dk_182 1 210 (dk_at dksX0_lookAtFlip_1 4 rfl rfl)
theorem dX0_lookAtFlip_31 : decode cX0_lookAtFlip 31 = .ok (.iload_n 2, 1) := dk_28 (dk_at dksX0_lookAtFlip_1 7 rfl rfl)
theorem dX0_lookAtFlip_32 : decode cX0_lookAtFlip 32 = .ok (.invokevirtual 608, 3) := dk_182 2 96 (dk_at dksX0_lookAtFlip_1 8 rfl rfl)
theorem dX0_lookAtFlip_35 : decode cX0_lookAtFlip 35 = .ok (.iload_n 2, 1) := dk_28 (dk_at dksX0_lookAtFlip_1 11 rfl rfl)
theorem dX0_lookAtFlip_36 : decode cX0_lookAtFlip 36 = .ok (.i2l, 1) := dk_133 (dk_at dksX0_lookAtFlip_1 12 rfl rfl)
theorem dX0_lookAtFlip_37 : decode cX0_lookAtFlip 37 = .ok (.lconst 0, 1) := dk_9 (dk_at dksX0_lookAtFlip_1 13 rfl rfl)
theorem dX0_lookAtFlip_38 : decode cX0_lookAtFlip 38 = .ok (.aload_n 0, 1) := dk_42 (dk_at dksX0_lookAtFlip_1 14 rfl rfl)
theorem dX0_lookAtFlip_39 : decode cX0_lookAtFlip 39 = .ok (.getfield 575, 3) := dk_180 2 63 (dk_at dksX0_lookAtFlip_1 15 rfl rfl)
theorem dX0_lookAtFlip_42 : decode cX0_lookAtFlip 42 = .ok (.i2l, 1) := dk_133 (dk_at dksX0_lookAtFlip_1 18 rfl rfl)
theorem dX0_lookAtFlip_43 : decode cX0_lookAtFlip 43 = .ok (.lconst 1, 1) := dk_10 (dk_at dksX0_lookAtFlip_1 19 rfl rfl)
theorem dX0_lookAtFlip_44 : decode cX0_lookAtFlip 44 = .ok (.lsub, 1) := dk_101 (dk_at dksX0_lookAtFlip_1 20 rfl rfl)
theorem dX0_lookAtFlip_45 : decode cX0_lookAtFlip 45 = .ok (.invokestatic 130, 3) := dk_184 0 130 (dk_at dksX0_lookAtFlip_1 21 rfl rfl)
theorem dX0_lookAtFlip_48 : decode cX0_lookAtFlip 48 = .ok (.ifCond .eq 7, 3) := dk_153 0 7 (dk_at dksX0_lookAtFlip_2 0 rfl rfl)
theorem dX0_lookAtFlip_51 : decode cX0_lookAtFlip 51 = .ok (.iconst 1, 1) := dk_4 (dk_at dksX0_lookAtFlip_2 3 rfl rfl)
theorem dX0_lookAtFlip_52 : decode cX0_lookAtFlip 52 = .ok (.goto 4, 3) := dk_167 0 4 (dk_at dksX0_lookAtFlip_2 4 rfl rfl)
theorem dX0_lookAtFlip_55 : decode cX0_lookAtFlip 55 = .ok (.iconst (-1), 1) := dk_2 (dk_at dksX0_lookAtFlip_2 7 rfl rfl)
theorem dX0_lookAtFlip_56 : decode cX0_lookAtFlip 56 = .ok (.ireturn, 1) := dk_172 (dk_at dksX0_lookAtFlip_2 8 rfl rfl)
abbrev cX0_isOnMap : ByteArray := prog_1_method_97_code
def yX0_isOnMap : MethodName := ⟨RX0, "isOnMap", "(I)Z"⟩
def dkwX0_isOnMap_2 : List UInt8 := [167, 255, 213, 28, 172]
abbrev dktX0_isOnMap_2 : List UInt8 := dkwX0_isOnMap_2 ++ []
def dkwX0_isOnMap_1 : List UInt8 := [153, 0, 14, 42, 180, 0, 69, 29, 46, 16, 247, 159, 0, 7, 4, 167, 0, 4, 3, 126, 61, 132, 3, 1]
abbrev dktX0_isOnMap_1 : List UInt8 := dkwX0_isOnMap_1 ++ dktX0_isOnMap_2
def dkwX0_isOnMap_0 : List UInt8 := [4, 61, 3, 62, 29, 42, 180, 0, 25, 185, 0, 180, 1, 0, 162, 0, 36, 28, 27, 29, 122, 4, 126]
abbrev dktX0_isOnMap_0 : List UInt8 := dkwX0_isOnMap_0 ++ dktX0_isOnMap_1
theorem dksX0_isOnMap_0 : cX0_isOnMap.data.toList.drop 0 = dktX0_isOnMap_0 := by decide +kernel
theorem dksX0_isOnMap_1 : cX0_isOnMap.data.toList.drop 23 = dktX0_isOnMap_1 := dk_seg dksX0_isOnMap_0 23 rfl rfl
theorem dksX0_isOnMap_2 : cX0_isOnMap.data.toList.drop 47 = dktX0_isOnMap_2 := dk_seg dksX0_isOnMap_1 24 rfl rfl
theorem dX0_isOnMap_0 : decode cX0_isOnMap 0 = .ok (.iconst 1, 1) := dk_4 (dk_at dksX0_isOnMap_0 0 rfl rfl)
theorem dX0_isOnMap_1 : decode cX0_isOnMap 1 = .ok (.istore_n 2, 1) := dk_61 (dk_at dksX0_isOnMap_0 1 rfl rfl)
theorem dX0_isOnMap_2 : decode cX0_isOnMap 2 = .ok (.iconst 0, 1) := dk_3 (dk_at dksX0_isOnMap_0 2 rfl rfl)
theorem dX0_isOnMap_3 : decode cX0_isOnMap 3 = .ok (.istore_n 3, 1) := dk_62 (dk_at dksX0_isOnMap_0 3 rfl rfl)
theorem dX0_isOnMap_4 : decode cX0_isOnMap 4 = .ok (.iload_n 3, 1) := dk_29 (dk_at dksX0_isOnMap_0 4 rfl rfl)
theorem dX0_isOnMap_5 : decode cX0_isOnMap 5 = .ok (.aload_n 0, 1) := dk_42 (dk_at dksX0_isOnMap_0 5 rfl rfl)
theorem dX0_isOnMap_6 : decode cX0_isOnMap 6 = .ok (.getfield 25, 3) := dk_180 0 25 (dk_at dksX0_isOnMap_0 6 rfl rfl)
theorem dX0_isOnMap_9 : decode cX0_isOnMap 9 = .ok (.invokeinterface 180 1, 5) := by decide +kernel
theorem dX0_isOnMap_14 : decode cX0_isOnMap 14 = .ok (.if_icmp .ge 36, 3) := dk_162 0 36 (dk_at dksX0_isOnMap_0 14 rfl rfl)
theorem dX0_isOnMap_17 : decode cX0_isOnMap 17 = .ok (.iload_n 2, 1) := dk_28 (dk_at dksX0_isOnMap_0 17 rfl rfl)
theorem dX0_isOnMap_18 : decode cX0_isOnMap 18 = .ok (.iload_n 1, 1) := dk_27 (dk_at dksX0_isOnMap_0 18 rfl rfl)
theorem dX0_isOnMap_19 : decode cX0_isOnMap 19 = .ok (.iload_n 3, 1) := dk_29 (dk_at dksX0_isOnMap_0 19 rfl rfl)
theorem dX0_isOnMap_20 : decode cX0_isOnMap 20 = .ok (.ishr, 1) := dk_122 (dk_at dksX0_isOnMap_0 20 rfl rfl)
theorem dX0_isOnMap_21 : decode cX0_isOnMap 21 = .ok (.iconst 1, 1) := dk_4 (dk_at dksX0_isOnMap_0 21 rfl rfl)
theorem dX0_isOnMap_22 : decode cX0_isOnMap 22 = .ok (.iand, 1) := dk_126 (dk_at dksX0_isOnMap_0 22 rfl rfl)
theorem dX0_isOnMap_23 : decode cX0_isOnMap 23 = .ok (.ifCond .eq 14, 3) := dk_153 0 14 (dk_at dksX0_isOnMap_1 0 rfl rfl)
theorem dX0_isOnMap_26 : decode cX0_isOnMap 26 = .ok (.aload_n 0, 1) := dk_42 (dk_at dksX0_isOnMap_1 3 rfl rfl)
theorem dX0_isOnMap_27 : decode cX0_isOnMap 27 = .ok (.getfield 69, 3) := dk_180 0 69 (dk_at dksX0_isOnMap_1 4 rfl rfl)
theorem dX0_isOnMap_30 : decode cX0_isOnMap 30 = .ok (.iload_n 3, 1) := dk_29 (dk_at dksX0_isOnMap_1 7 rfl rfl)
theorem dX0_isOnMap_31 : decode cX0_isOnMap 31 = .ok (.iaload, 1) := dk_46 (dk_at dksX0_isOnMap_1 8 rfl rfl)
theorem dX0_isOnMap_32 : decode cX0_isOnMap 32 = .ok (.bipush (-9), 2) := dk_16 247 (dk_at dksX0_isOnMap_1 9 rfl rfl)
theorem dX0_isOnMap_34 : decode cX0_isOnMap 34 = .ok (.if_icmp .eq 7, 3) := dk_159 0 7 (dk_at dksX0_isOnMap_1 11 rfl rfl)
theorem dX0_isOnMap_37 : decode cX0_isOnMap 37 = .ok (.iconst 1, 1) := dk_4 (dk_at dksX0_isOnMap_1 14 rfl rfl)
theorem dX0_isOnMap_38 : decode cX0_isOnMap 38 = .ok (.goto 4, 3) := dk_167 0 4 (dk_at dksX0_isOnMap_1 15 rfl rfl)
theorem dX0_isOnMap_41 : decode cX0_isOnMap 41 = .ok (.iconst 0, 1) := dk_3 (dk_at dksX0_isOnMap_1 18 rfl rfl)
theorem dX0_isOnMap_42 : decode cX0_isOnMap 42 = .ok (.iand, 1) := dk_126 (dk_at dksX0_isOnMap_1 19 rfl rfl)
theorem dX0_isOnMap_43 : decode cX0_isOnMap 43 = .ok (.istore_n 2, 1) := dk_61 (dk_at dksX0_isOnMap_1 20 rfl rfl)
theorem dX0_isOnMap_44 : decode cX0_isOnMap 44 = .ok (.iinc 3 1, 3) := dk_132 3 1 (dk_at dksX0_isOnMap_1 21 rfl rfl)
theorem dX0_isOnMap_47 : decode cX0_isOnMap 47 = .ok (.goto (-43), 3) := dk_167 255 213 (dk_at dksX0_isOnMap_2 0 rfl rfl)
theorem dX0_isOnMap_50 : decode cX0_isOnMap 50 = .ok (.iload_n 2, 1) := dk_28 (dk_at dksX0_isOnMap_2 3 rfl rfl)
theorem dX0_isOnMap_51 : decode cX0_isOnMap 51 = .ok (.ireturn, 1) := dk_172 (dk_at dksX0_isOnMap_2 4 rfl rfl)
abbrev cX0_flipAll : ByteArray := prog_1_method_96_code
def yX0_flipAll : MethodName := ⟨RX0, "flipAll", "(II)V"⟩
def dkwX0_flipAll_5 : List UInt8 := [132, 3, 1, 167, 255, 188, 177]
abbrev dktX0_flipAll_5 : List UInt8 := dkwX0_flipAll_5 ++ []
def dkwX0_flipAll_4 : List UInt8 := [21, 4, 27, 182, 2, 87, 153, 0, 11, 42, 27, 29, 21, 4, 182, 2, 90, 132, 4, 1, 167, 255, 212]
abbrev dktX0_flipAll_4 : List UInt8 := dkwX0_flipAll_4 ++ dktX0_flipAll_5
def dkwX0_flipAll_3 : List UInt8 := [21, 4, 42, 180, 0, 25, 185, 0, 180, 1, 0, 162, 0, 36, 42, 29, 27, 182, 2, 87, 153, 0, 21, 42]
abbrev dktX0_flipAll_3 : List UInt8 := dkwX0_flipAll_3 ++ dktX0_flipAll_4
def dkwX0_flipAll_2 : List UInt8 := [167, 255, 223, 3, 62, 29, 42, 180, 0, 25, 185, 0, 180, 1, 0, 162, 0, 61, 29, 4, 96, 54, 4]
abbrev dktX0_flipAll_2 : List UInt8 := dkwX0_flipAll_2 ++ dktX0_flipAll_3
def dkwX0_flipAll_1 : List UInt8 := [162, 0, 26, 42, 29, 27, 182, 2, 87, 153, 0, 11, 42, 27, 29, 16, 247, 182, 2, 90, 132, 3, 1]
abbrev dktX0_flipAll_1 : List UInt8 := dkwX0_flipAll_1 ++ dktX0_flipAll_2
def dkwX0_flipAll_0 : List UInt8 := [42, 28, 181, 2, 66, 42, 3, 181, 2, 63, 3, 62, 29, 42, 180, 0, 25, 185, 0, 180, 1, 0]
abbrev dktX0_flipAll_0 : List UInt8 := dkwX0_flipAll_0 ++ dktX0_flipAll_1
theorem dksX0_flipAll_0 : cX0_flipAll.data.toList.drop 0 = dktX0_flipAll_0 := by decide +kernel
theorem dksX0_flipAll_1 : cX0_flipAll.data.toList.drop 22 = dktX0_flipAll_1 := dk_seg dksX0_flipAll_0 22 rfl rfl
theorem dksX0_flipAll_2 : cX0_flipAll.data.toList.drop 45 = dktX0_flipAll_2 := dk_seg dksX0_flipAll_1 23 rfl rfl
theorem dksX0_flipAll_3 : cX0_flipAll.data.toList.drop 68 = dktX0_flipAll_3 := dk_seg dksX0_flipAll_2 23 rfl rfl
theorem dksX0_flipAll_4 : cX0_flipAll.data.toList.drop 92 = dktX0_flipAll_4 := dk_seg dksX0_flipAll_3 24 rfl rfl
theorem dksX0_flipAll_5 : cX0_flipAll.data.toList.drop 115 = dktX0_flipAll_5 := dk_seg dksX0_flipAll_4 23 rfl rfl
theorem dX0_flipAll_0 : decode cX0_flipAll 0 = .ok (.aload_n 0, 1) := dk_42 (dk_at dksX0_flipAll_0 0 rfl rfl)
theorem dX0_flipAll_1 : decode cX0_flipAll 1 = .ok (.iload_n 2, 1) := dk_28 (dk_at dksX0_flipAll_0 1 rfl rfl)
theorem dX0_flipAll_2 : decode cX0_flipAll 2 = .ok (.putfield 578, 3) := dk_181 2 66 (dk_at dksX0_flipAll_0 2 rfl rfl)
theorem dX0_flipAll_5 : decode cX0_flipAll 5 = .ok (.aload_n 0, 1) := dk_42 (dk_at dksX0_flipAll_0 5 rfl rfl)
theorem dX0_flipAll_6 : decode cX0_flipAll 6 = .ok (.iconst 0, 1) := dk_3 (dk_at dksX0_flipAll_0 6 rfl rfl)
theorem dX0_flipAll_7 : decode cX0_flipAll 7 = .ok (.putfield 575, 3) := dk_181 2 63 (dk_at dksX0_flipAll_0 7 rfl rfl)
theorem dX0_flipAll_10 : decode cX0_flipAll 10 = .ok (.iconst 0, 1) := dk_3 (dk_at dksX0_flipAll_0 10 rfl rfl)
theorem dX0_flipAll_11 : decode cX0_flipAll 11 = .ok (.istore_n 3, 1) := dk_62 (dk_at dksX0_flipAll_0 11 rfl rfl)
theorem dX0_flipAll_12 : decode cX0_flipAll 12 = .ok (.iload_n 3, 1) := dk_29 (dk_at dksX0_flipAll_0 12 rfl rfl)
theorem dX0_flipAll_13 : decode cX0_flipAll 13 = .ok (.aload_n 0, 1) := dk_42 (dk_at dksX0_flipAll_0 13 rfl rfl)
theorem dX0_flipAll_14 : decode cX0_flipAll 14 = .ok (.getfield 25, 3) := dk_180 0 25 (dk_at dksX0_flipAll_0 14 rfl rfl)
theorem dX0_flipAll_17 : decode cX0_flipAll 17 = .ok (.invokeinterface 180 1, 5) := by decide +kernel
theorem dX0_flipAll_22 : decode cX0_flipAll 22 = .ok (.if_icmp .ge 26, 3) := dk_162 0 26 (dk_at dksX0_flipAll_1 0 rfl rfl)
theorem dX0_flipAll_25 : decode cX0_flipAll 25 = .ok (.aload_n 0, 1) := dk_42 (dk_at dksX0_flipAll_1 3 rfl rfl)
theorem dX0_flipAll_26 : decode cX0_flipAll 26 = .ok (.iload_n 3, 1) := dk_29 (dk_at dksX0_flipAll_1 4 rfl rfl)
theorem dX0_flipAll_27 : decode cX0_flipAll 27 = .ok (.iload_n 1, 1) := dk_27 (dk_at dksX0_flipAll_1 5 rfl rfl)
theorem dX0_flipAll_28 : decode cX0_flipAll 28 = .ok (.invokevirtual 599, 3) := dk_182 2 87 (dk_at dksX0_flipAll_1 6 rfl rfl)
theorem dX0_flipAll_31 : decode cX0_flipAll 31 = .ok (.ifCond .eq 11, 3) := dk_153 0 11 (dk_at dksX0_flipAll_1 9 rfl rfl)
theorem dX0_flipAll_34 : decode cX0_flipAll 34 = .ok (.aload_n 0, 1) := dk_42 (dk_at dksX0_flipAll_1 12 rfl rfl)
theorem dX0_flipAll_35 : decode cX0_flipAll 35 = .ok (.iload_n 1, 1) := dk_27 (dk_at dksX0_flipAll_1 13 rfl rfl)
theorem dX0_flipAll_36 : decode cX0_flipAll 36 = .ok (.iload_n 3, 1) := dk_29 (dk_at dksX0_flipAll_1 14 rfl rfl)
theorem dX0_flipAll_37 : decode cX0_flipAll 37 = .ok (.bipush (-9), 2) := dk_16 247 (dk_at dksX0_flipAll_1 15 rfl rfl)
theorem dX0_flipAll_39 : decode cX0_flipAll 39 = .ok (.invokevirtual 602, 3) := dk_182 2 90 (dk_at dksX0_flipAll_1 17 rfl rfl)
theorem dX0_flipAll_42 : decode cX0_flipAll 42 = .ok (.iinc 3 1, 3) := dk_132 3 1 (dk_at dksX0_flipAll_1 20 rfl rfl)
theorem dX0_flipAll_45 : decode cX0_flipAll 45 = .ok (.goto (-33), 3) := dk_167 255 223 (dk_at dksX0_flipAll_2 0 rfl rfl)
theorem dX0_flipAll_48 : decode cX0_flipAll 48 = .ok (.iconst 0, 1) := dk_3 (dk_at dksX0_flipAll_2 3 rfl rfl)
theorem dX0_flipAll_49 : decode cX0_flipAll 49 = .ok (.istore_n 3, 1) := dk_62 (dk_at dksX0_flipAll_2 4 rfl rfl)
theorem dX0_flipAll_50 : decode cX0_flipAll 50 = .ok (.iload_n 3, 1) := dk_29 (dk_at dksX0_flipAll_2 5 rfl rfl)
theorem dX0_flipAll_51 : decode cX0_flipAll 51 = .ok (.aload_n 0, 1) := dk_42 (dk_at dksX0_flipAll_2 6 rfl rfl)
theorem dX0_flipAll_52 : decode cX0_flipAll 52 = .ok (.getfield 25, 3) := dk_180 0 25 (dk_at dksX0_flipAll_2 7 rfl rfl)
theorem dX0_flipAll_55 : decode cX0_flipAll 55 = .ok (.invokeinterface 180 1, 5) := by decide +kernel
theorem dX0_flipAll_60 : decode cX0_flipAll 60 = .ok (.if_icmp .ge 61, 3) := dk_162 0 61 (dk_at dksX0_flipAll_2 15 rfl rfl)
theorem dX0_flipAll_63 : decode cX0_flipAll 63 = .ok (.iload_n 3, 1) := dk_29 (dk_at dksX0_flipAll_2 18 rfl rfl)
theorem dX0_flipAll_64 : decode cX0_flipAll 64 = .ok (.iconst 1, 1) := dk_4 (dk_at dksX0_flipAll_2 19 rfl rfl)
theorem dX0_flipAll_65 : decode cX0_flipAll 65 = .ok (.iadd, 1) := dk_96 (dk_at dksX0_flipAll_2 20 rfl rfl)
theorem dX0_flipAll_66 : decode cX0_flipAll 66 = .ok (.istore 4, 2) := dk_54 4 (dk_at dksX0_flipAll_2 21 rfl rfl)
theorem dX0_flipAll_68 : decode cX0_flipAll 68 = .ok (.iload 4, 2) := dk_21 4 (dk_at dksX0_flipAll_3 0 rfl rfl)
theorem dX0_flipAll_70 : decode cX0_flipAll 70 = .ok (.aload_n 0, 1) := dk_42 (dk_at dksX0_flipAll_3 2 rfl rfl)
theorem dX0_flipAll_71 : decode cX0_flipAll 71 = .ok (.getfield 25, 3) := dk_180 0 25 (dk_at dksX0_flipAll_3 3 rfl rfl)
theorem dX0_flipAll_74 : decode cX0_flipAll 74 = .ok (.invokeinterface 180 1, 5) := by decide +kernel
theorem dX0_flipAll_79 : decode cX0_flipAll 79 = .ok (.if_icmp .ge 36, 3) := dk_162 0 36 (dk_at dksX0_flipAll_3 11 rfl rfl)
theorem dX0_flipAll_82 : decode cX0_flipAll 82 = .ok (.aload_n 0, 1) := dk_42 (dk_at dksX0_flipAll_3 14 rfl rfl)
theorem dX0_flipAll_83 : decode cX0_flipAll 83 = .ok (.iload_n 3, 1) := dk_29 (dk_at dksX0_flipAll_3 15 rfl rfl)
theorem dX0_flipAll_84 : decode cX0_flipAll 84 = .ok (.iload_n 1, 1) := dk_27 (dk_at dksX0_flipAll_3 16 rfl rfl)
theorem dX0_flipAll_85 : decode cX0_flipAll 85 = .ok (.invokevirtual 599, 3) := dk_182 2 87 (dk_at dksX0_flipAll_3 17 rfl rfl)
theorem dX0_flipAll_88 : decode cX0_flipAll 88 = .ok (.ifCond .eq 21, 3) := dk_153 0 21 (dk_at dksX0_flipAll_3 20 rfl rfl)
theorem dX0_flipAll_91 : decode cX0_flipAll 91 = .ok (.aload_n 0, 1) := dk_42 (dk_at dksX0_flipAll_3 23 rfl rfl)
theorem dX0_flipAll_92 : decode cX0_flipAll 92 = .ok (.iload 4, 2) := dk_21 4 (dk_at dksX0_flipAll_4 0 rfl rfl)
theorem dX0_flipAll_94 : decode cX0_flipAll 94 = .ok (.iload_n 1, 1) := dk_27 (dk_at dksX0_flipAll_4 2 rfl rfl)
theorem dX0_flipAll_95 : decode cX0_flipAll 95 = .ok (.invokevirtual 599, 3) := dk_182 2 87 (dk_at dksX0_flipAll_4 3 rfl rfl)
theorem dX0_flipAll_98 : decode cX0_flipAll 98 = .ok (.ifCond .eq 11, 3) := dk_153 0 11 (dk_at dksX0_flipAll_4 6 rfl rfl)
theorem dX0_flipAll_101 : decode cX0_flipAll 101 = .ok (.aload_n 0, 1) := dk_42 (dk_at dksX0_flipAll_4 9 rfl rfl)
theorem dX0_flipAll_102 : decode cX0_flipAll 102 = .ok (.iload_n 1, 1) := dk_27 (dk_at dksX0_flipAll_4 10 rfl rfl)
theorem dX0_flipAll_103 : decode cX0_flipAll 103 = .ok (.iload_n 3, 1) := dk_29 (dk_at dksX0_flipAll_4 11 rfl rfl)
theorem dX0_flipAll_104 : decode cX0_flipAll 104 = .ok (.iload 4, 2) := dk_21 4 (dk_at dksX0_flipAll_4 12 rfl rfl)
theorem dX0_flipAll_106 : decode cX0_flipAll 106 = .ok (.invokevirtual 602, 3) := dk_182 2 90 (dk_at dksX0_flipAll_4 14 rfl rfl)
theorem dX0_flipAll_109 : decode cX0_flipAll 109 = .ok (.iinc 4 1, 3) := dk_132 4 1 (dk_at dksX0_flipAll_4 17 rfl rfl)
theorem dX0_flipAll_112 : decode cX0_flipAll 112 = .ok (.goto (-44), 3) := dk_167 255 212 (dk_at dksX0_flipAll_4 20 rfl rfl)
theorem dX0_flipAll_115 : decode cX0_flipAll 115 = .ok (.iinc 3 1, 3) := dk_132 3 1 (dk_at dksX0_flipAll_5 0 rfl rfl)
theorem dX0_flipAll_118 : decode cX0_flipAll 118 = .ok (.goto (-68), 3) := dk_167 255 188 (dk_at dksX0_flipAll_5 3 rfl rfl)
theorem dX0_flipAll_121 : decode cX0_flipAll 121 = .ok (.return_, 1) := dk_177 (dk_at dksX0_flipAll_5 6 rfl rfl)
abbrev cX0_mayJoint : ByteArray := prog_1_method_90_code
def yX0_mayJoint : MethodName := ⟨RX0, "mayJoint", "(II)Z"⟩
def dkwX0_mayJoint_1 : List UInt8 := [27, 185, 0, 186, 2, 0, 192, 0, 190, 182, 0, 192, 153, 0, 7, 4, 167, 0, 4, 3, 172]
abbrev dktX0_mayJoint_1 : List UInt8 := dkwX0_mayJoint_1 ++ []
def dkwX0_mayJoint_0 : List UInt8 := [42, 180, 0, 69, 27, 46, 16, 247, 159, 0, 35, 28, 27, 122, 4, 126, 4, 159, 0, 22, 42, 180, 0, 25]
abbrev dktX0_mayJoint_0 : List UInt8 := dkwX0_mayJoint_0 ++ dktX0_mayJoint_1
theorem dksX0_mayJoint_0 : cX0_mayJoint.data.toList.drop 0 = dktX0_mayJoint_0 := by decide +kernel
theorem dksX0_mayJoint_1 : cX0_mayJoint.data.toList.drop 24 = dktX0_mayJoint_1 := dk_seg dksX0_mayJoint_0 24 rfl rfl
theorem dX0_mayJoint_0 : decode cX0_mayJoint 0 = .ok (.aload_n 0, 1) := dk_42 (dk_at dksX0_mayJoint_0 0 rfl rfl)
theorem dX0_mayJoint_1 : decode cX0_mayJoint 1 = .ok (.getfield 69, 3) := dk_180 0 69 (dk_at dksX0_mayJoint_0 1 rfl rfl)
theorem dX0_mayJoint_4 : decode cX0_mayJoint 4 = .ok (.iload_n 1, 1) := dk_27 (dk_at dksX0_mayJoint_0 4 rfl rfl)
theorem dX0_mayJoint_5 : decode cX0_mayJoint 5 = .ok (.iaload, 1) := dk_46 (dk_at dksX0_mayJoint_0 5 rfl rfl)
theorem dX0_mayJoint_6 : decode cX0_mayJoint 6 = .ok (.bipush (-9), 2) := dk_16 247 (dk_at dksX0_mayJoint_0 6 rfl rfl)
theorem dX0_mayJoint_8 : decode cX0_mayJoint 8 = .ok (.if_icmp .eq 35, 3) := dk_159 0 35 (dk_at dksX0_mayJoint_0 8 rfl rfl)
theorem dX0_mayJoint_11 : decode cX0_mayJoint 11 = .ok (.iload_n 2, 1) := dk_28 (dk_at dksX0_mayJoint_0 11 rfl rfl)
theorem dX0_mayJoint_12 : decode cX0_mayJoint 12 = .ok (.iload_n 1, 1) := dk_27 (dk_at dksX0_mayJoint_0 12 rfl rfl)
theorem dX0_mayJoint_13 : decode cX0_mayJoint 13 = .ok (.ishr, 1) := dk_122 (dk_at dksX0_mayJoint_0 13 rfl rfl)
theorem dX0_mayJoint_14 : decode cX0_mayJoint 14 = .ok (.iconst 1, 1) := dk_4 (dk_at dksX0_mayJoint_0 14 rfl rfl)
theorem dX0_mayJoint_15 : decode cX0_mayJoint 15 = .ok (.iand, 1) := dk_126 (dk_at dksX0_mayJoint_0 15 rfl rfl)
theorem dX0_mayJoint_16 : decode cX0_mayJoint 16 = .ok (.iconst 1, 1) := dk_4 (dk_at dksX0_mayJoint_0 16 rfl rfl)
theorem dX0_mayJoint_17 : decode cX0_mayJoint 17 = .ok (.if_icmp .eq 22, 3) := dk_159 0 22 (dk_at dksX0_mayJoint_0 17 rfl rfl)
theorem dX0_mayJoint_20 : decode cX0_mayJoint 20 = .ok (.aload_n 0, 1) := dk_42 (dk_at dksX0_mayJoint_0 20 rfl rfl)
theorem dX0_mayJoint_21 : decode cX0_mayJoint 21 = .ok (.getfield 25, 3) := dk_180 0 25 (dk_at dksX0_mayJoint_0 21 rfl rfl)
theorem dX0_mayJoint_24 : decode cX0_mayJoint 24 = .ok (.iload_n 1, 1) := dk_27 (dk_at dksX0_mayJoint_1 0 rfl rfl)
theorem dX0_mayJoint_25 : decode cX0_mayJoint 25 = .ok (.invokeinterface 186 2, 5) := by decide +kernel
theorem dX0_mayJoint_30 : decode cX0_mayJoint 30 = .ok (.checkcast 190, 3) := dk_192 0 190 (dk_at dksX0_mayJoint_1 6 rfl rfl)
theorem dX0_mayJoint_33 : decode cX0_mayJoint 33 = .ok (.invokevirtual 192, 3) := dk_182 0 192 (dk_at dksX0_mayJoint_1 9 rfl rfl)
theorem dX0_mayJoint_36 : decode cX0_mayJoint 36 = .ok (.ifCond .eq 7, 3) := dk_153 0 7 (dk_at dksX0_mayJoint_1 12 rfl rfl)
theorem dX0_mayJoint_39 : decode cX0_mayJoint 39 = .ok (.iconst 1, 1) := dk_4 (dk_at dksX0_mayJoint_1 15 rfl rfl)
theorem dX0_mayJoint_40 : decode cX0_mayJoint 40 = .ok (.goto 4, 3) := dk_167 0 4 (dk_at dksX0_mayJoint_1 16 rfl rfl)
theorem dX0_mayJoint_43 : decode cX0_mayJoint 43 = .ok (.iconst 0, 1) := dk_3 (dk_at dksX0_mayJoint_1 19 rfl rfl)
theorem dX0_mayJoint_44 : decode cX0_mayJoint 44 = .ok (.ireturn, 1) := dk_172 (dk_at dksX0_mayJoint_1 20 rfl rfl)
abbrev cX0_flipAt : ByteArray := prog_1_method_95_code
def yX0_flipAt : MethodName := ⟨RX0, "flipAt", "(III)V"⟩
def dkwX0_flipAt_2 : List UInt8 := [54, 6, 42, 21, 6, 28, 29, 182, 2, 83, 21, 5, 21, 6, 2, 130, 126, 54, 5, 167, 255, 217, 177]
abbrev dktX0_flipAt_2 : List UInt8 := dkwX0_flipAt_2 ++ []
def dkwX0_flipAt_1 : List UInt8 := [126, 54, 5, 21, 5, 153, 0, 40, 42, 21, 5, 184, 2, 81, 27, 21, 4, 2, 130, 126, 182, 1, 207]
abbrev dktX0_flipAt_1 : List UInt8 := dkwX0_flipAt_1 ++ dktX0_flipAt_2
def dkwX0_flipAt_0 : List UInt8 := [4, 28, 120, 29, 16, 247, 160, 0, 7, 3, 167, 0, 6, 4, 29, 120, 128, 54, 4, 27, 21, 4, 2, 130]
abbrev dktX0_flipAt_0 : List UInt8 := dkwX0_flipAt_0 ++ dktX0_flipAt_1
theorem dksX0_flipAt_0 : cX0_flipAt.data.toList.drop 0 = dktX0_flipAt_0 := by decide +kernel
theorem dksX0_flipAt_1 : cX0_flipAt.data.toList.drop 24 = dktX0_flipAt_1 := dk_seg dksX0_flipAt_0 24 rfl rfl
theorem dksX0_flipAt_2 : cX0_flipAt.data.toList.drop 47 = dktX0_flipAt_2 := dk_seg dksX0_flipAt_1 23 rfl rfl
theorem dX0_flipAt_0 : decode cX0_flipAt 0 = .ok (.iconst 1, 1) := dk_4 (dk_at dksX0_flipAt_0 0 rfl rfl)
theorem dX0_flipAt_1 : decode cX0_flipAt 1 = .ok (.iload_n 2, 1) := dk_28 (dk_at dksX0_flipAt_0 1 rfl rfl)
theorem dX0_flipAt_2 : decode cX0_flipAt 2 = .ok (.ishl, 1) := dk_120 (dk_at dksX0_flipAt_0 2 rfl rfl)
theorem dX0_flipAt_3 : decode cX0_flipAt 3 = .ok (.iload_n 3, 1) := dk_29 (dk_at dksX0_flipAt_0 3 rfl rfl)
theorem dX0_flipAt_4 : decode cX0_flipAt 4 = .ok (.bipush (-9), 2) := dk_16 247 (dk_at dksX0_flipAt_0 4 rfl rfl)
theorem dX0_flipAt_6 : decode cX0_flipAt 6 = .ok (.if_icmp .ne 7, 3) := dk_160 0 7 (dk_at dksX0_flipAt_0 6 rfl rfl)
theorem dX0_flipAt_9 : decode cX0_flipAt 9 = .ok (.iconst 0, 1) := dk_3 (dk_at dksX0_flipAt_0 9 rfl rfl)
theorem dX0_flipAt_10 : decode cX0_flipAt 10 = .ok (.goto 6, 3) := dk_167 0 6 (dk_at dksX0_flipAt_0 10 rfl rfl)
theorem dX0_flipAt_13 : decode cX0_flipAt 13 = .ok (.iconst 1, 1) := dk_4 (dk_at dksX0_flipAt_0 13 rfl rfl)
theorem dX0_flipAt_14 : decode cX0_flipAt 14 = .ok (.iload_n 3, 1) := dk_29 (dk_at dksX0_flipAt_0 14 rfl rfl)
theorem dX0_flipAt_15 : decode cX0_flipAt 15 = .ok (.ishl, 1) := dk_120 (dk_at dksX0_flipAt_0 15 rfl rfl)
theorem dX0_flipAt_16 : decode cX0_flipAt 16 = .ok (.ior, 1) := dk_128 (dk_at dksX0_flipAt_0 16 rfl rfl)
theorem dX0_flipAt_17 : decode cX0_flipAt 17 = .ok (.istore 4, 2) := dk_54 4 (dk_at dksX0_flipAt_0 17 rfl rfl)
theorem dX0_flipAt_19 : decode cX0_flipAt 19 = .ok (.iload_n 1, 1) := dk_27 (dk_at dksX0_flipAt_0 19 rfl rfl)
theorem dX0_flipAt_20 : decode cX0_flipAt 20 = .ok (.iload 4, 2) := dk_21 4 (dk_at dksX0_flipAt_0 20 rfl rfl)
theorem dX0_flipAt_22 : decode cX0_flipAt 22 = .ok (.iconst (-1), 1) := dk_2 (dk_at dksX0_flipAt_0 22 rfl rfl)
theorem dX0_flipAt_23 : decode cX0_flipAt 23 = .ok (.ixor, 1) := dk_130 (dk_at dksX0_flipAt_0 23 rfl rfl)
theorem dX0_flipAt_24 : decode cX0_flipAt 24 = .ok (.iand, 1) := dk_126 (dk_at dksX0_flipAt_1 0 rfl rfl)
theorem dX0_flipAt_25 : decode cX0_flipAt 25 = .ok (.istore 5, 2) := dk_54 5 (dk_at dksX0_flipAt_1 1 rfl rfl)
theorem dX0_flipAt_27 : decode cX0_flipAt 27 = .ok (.iload 5, 2) := dk_21 5 (dk_at dksX0_flipAt_1 3 rfl rfl)
theorem dX0_flipAt_29 : decode cX0_flipAt 29 = .ok (.ifCond .eq 40, 3) := dk_153 0 40 (dk_at dksX0_flipAt_1 5 rfl rfl)
theorem dX0_flipAt_32 : decode cX0_flipAt 32 = .ok (.aload_n 0, 1) := dk_42 (dk_at dksX0_flipAt_1 8 rfl rfl)
theorem dX0_flipAt_33 : decode cX0_flipAt 33 = .ok (.iload 5, 2) := dk_21 5 (dk_at dksX0_flipAt_1 9 rfl rfl)
theorem dX0_flipAt_35 : decode cX0_flipAt 35 = .ok (.invokestatic 593, 3) := dk_184 2 81 (dk_at dksX0_flipAt_1 11 rfl rfl)
theorem dX0_flipAt_38 : decode cX0_flipAt 38 = .ok (.iload_n 1, 1) := dk_27 (dk_at dksX0_flipAt_1 14 rfl rfl)
theorem dX0_flipAt_39 : decode cX0_flipAt 39 = .ok (.iload 4, 2) := dk_21 4 (dk_at dksX0_flipAt_1 15 rfl rfl)
theorem dX0_flipAt_41 : decode cX0_flipAt 41 = .ok (.iconst (-1), 1) := dk_2 (dk_at dksX0_flipAt_1 17 rfl rfl)
theorem dX0_flipAt_42 : decode cX0_flipAt 42 = .ok (.ixor, 1) := dk_130 (dk_at dksX0_flipAt_1 18 rfl rfl)
theorem dX0_flipAt_43 : decode cX0_flipAt 43 = .ok (.iand, 1) := dk_126 (dk_at dksX0_flipAt_1 19 rfl rfl)
theorem dX0_flipAt_44 : decode cX0_flipAt 44 = .ok (.invokevirtual 463, 3) := dk_182 1 207 (dk_at dksX0_flipAt_1 20 rfl rfl)
theorem dX0_flipAt_47 : decode cX0_flipAt 47 = .ok (.istore 6, 2) := dk_54 6 (dk_at dksX0_flipAt_2 0 rfl rfl)
theorem dX0_flipAt_49 : decode cX0_flipAt 49 = .ok (.aload_n 0, 1) := dk_42 (dk_at dksX0_flipAt_2 2 rfl rfl)
theorem dX0_flipAt_50 : decode cX0_flipAt 50 = .ok (.iload 6, 2) := dk_21 6 (dk_at dksX0_flipAt_2 3 rfl rfl)
theorem dX0_flipAt_52 : decode cX0_flipAt 52 = .ok (.iload_n 2, 1) := dk_28 (dk_at dksX0_flipAt_2 5 rfl rfl)
theorem dX0_flipAt_53 : decode cX0_flipAt 53 = .ok (.iload_n 3, 1) := dk_29 (dk_at dksX0_flipAt_2 6 rfl rfl)
theorem dX0_flipAt_54 : decode cX0_flipAt 54 = .ok (.invokevirtual 595, 3) := dk_182 2 83 (dk_at dksX0_flipAt_2 7 rfl rfl)
theorem dX0_flipAt_57 : decode cX0_flipAt 57 = .ok (.iload 5, 2) := dk_21 5 (dk_at dksX0_flipAt_2 10 rfl rfl)
theorem dX0_flipAt_59 : decode cX0_flipAt 59 = .ok (.iload 6, 2) := dk_21 6 (dk_at dksX0_flipAt_2 12 rfl rfl)
theorem dX0_flipAt_61 : decode cX0_flipAt 61 = .ok (.iconst (-1), 1) := dk_2 (dk_at dksX0_flipAt_2 14 rfl rfl)
theorem dX0_flipAt_62 : decode cX0_flipAt 62 = .ok (.ixor, 1) := dk_130 (dk_at dksX0_flipAt_2 15 rfl rfl)
theorem dX0_flipAt_63 : decode cX0_flipAt 63 = .ok (.iand, 1) := dk_126 (dk_at dksX0_flipAt_2 16 rfl rfl)
theorem dX0_flipAt_64 : decode cX0_flipAt 64 = .ok (.istore 5, 2) := dk_54 5 (dk_at dksX0_flipAt_2 17 rfl rfl)
theorem dX0_flipAt_66 : decode cX0_flipAt 66 = .ok (.goto (-39), 3) := dk_167 255 217 (dk_at dksX0_flipAt_2 19 rfl rfl)
theorem dX0_flipAt_69 : decode cX0_flipAt 69 = .ok (.return_, 1) := dk_177 (dk_at dksX0_flipAt_2 22 rfl rfl)
abbrev cX0_flipOne : ByteArray := prog_1_method_94_code
def yX0_flipOne : MethodName := ⟨RX0, "flipOne", "(III)V"⟩
def dkwX0_flipOne_5 : List UInt8 := [42, 89, 180, 2, 63, 4, 96, 181, 2, 63, 132, 4, 1, 167, 255, 141, 177]
abbrev dktX0_flipOne_5 : List UInt8 := dkwX0_flipOne_5 ++ []
def dkwX0_flipOne_4 : List UInt8 := [160, 0, 24, 42, 28, 181, 2, 69, 42, 29, 181, 2, 72, 42, 21, 4, 181, 2, 75, 42, 27, 181, 2, 78]
abbrev dktX0_flipOne_4 : List UInt8 := dkwX0_flipOne_4 ++ dktX0_flipOne_5
def dkwX0_flipOne_3 : List UInt8 := [153, 0, 56, 42, 27, 182, 2, 60, 154, 0, 6, 167, 0, 45, 42, 180, 2, 63, 42, 180, 2, 66]
abbrev dktX0_flipOne_3 : List UInt8 := dkwX0_flipOne_3 ++ dktX0_flipOne_4
def dkwX0_flipOne_2 : List UInt8 := [180, 0, 69, 29, 46, 159, 0, 6, 167, 0, 72, 42, 27, 21, 4, 42, 180, 0, 69, 28, 46, 182, 2, 57]
abbrev dktX0_flipOne_2 : List UInt8 := dkwX0_flipOne_2 ++ dktX0_flipOne_3
def dkwX0_flipOne_1 : List UInt8 := [159, 0, 33, 42, 21, 4, 42, 180, 0, 69, 29, 46, 42, 180, 0, 69, 28, 46, 182, 2, 51, 42]
abbrev dktX0_flipOne_1 : List UInt8 := dkwX0_flipOne_1 ++ dktX0_flipOne_2
def dkwX0_flipOne_0 : List UInt8 := [42, 27, 28, 29, 182, 2, 54, 154, 0, 4, 177, 4, 54, 4, 21, 4, 16, 8, 162, 0, 114, 29, 16, 247]
abbrev dktX0_flipOne_0 : List UInt8 := dkwX0_flipOne_0 ++ dktX0_flipOne_1
theorem dksX0_flipOne_0 : cX0_flipOne.data.toList.drop 0 = dktX0_flipOne_0 := by decide +kernel
theorem dksX0_flipOne_1 : cX0_flipOne.data.toList.drop 24 = dktX0_flipOne_1 := dk_seg dksX0_flipOne_0 24 rfl rfl
theorem dksX0_flipOne_2 : cX0_flipOne.data.toList.drop 46 = dktX0_flipOne_2 := dk_seg dksX0_flipOne_1 22 rfl rfl
theorem dksX0_flipOne_3 : cX0_flipOne.data.toList.drop 70 = dktX0_flipOne_3 := dk_seg dksX0_flipOne_2 24 rfl rfl
theorem dksX0_flipOne_4 : cX0_flipOne.data.toList.drop 92 = dktX0_flipOne_4 := dk_seg dksX0_flipOne_3 22 rfl rfl
theorem dksX0_flipOne_5 : cX0_flipOne.data.toList.drop 116 = dktX0_flipOne_5 := dk_seg dksX0_flipOne_4 24 rfl rfl
theorem dX0_flipOne_0 : decode cX0_flipOne 0 = .ok (.aload_n 0, 1) := dk_42 (dk_at dksX0_flipOne_0 0 rfl rfl)
theorem dX0_flipOne_1 : decode cX0_flipOne 1 = .ok (.iload_n 1, 1) := dk_27 (dk_at dksX0_flipOne_0 1 rfl rfl)
theorem dX0_flipOne_2 : decode cX0_flipOne 2 = .ok (.iload_n 2, 1) := dk_28 (dk_at dksX0_flipOne_0 2 rfl rfl)
theorem dX0_flipOne_3 : decode cX0_flipOne 3 = .ok (.iload_n 3, 1) := dk_29 (dk_at dksX0_flipOne_0 3 rfl rfl)
theorem dX0_flipOne_4 : decode cX0_flipOne 4 = .ok (.invokevirtual 566, 3) := dk_182 2 54 (dk_at dksX0_flipOne_0 4 rfl rfl)
theorem dX0_flipOne_7 : decode cX0_flipOne 7 = .ok (.ifCond .ne 4, 3) := dk_154 0 4 (dk_at dksX0_flipOne_0 7 rfl rfl)
theorem dX0_flipOne_10 : decode cX0_flipOne 10 = .ok (.return_, 1) := dk_177 (dk_at dksX0_flipOne_0 10 rfl rfl)
theorem dX0_flipOne_11 : decode cX0_flipOne 11 = .ok (.iconst 1, 1) := dk_4 (dk_at dksX0_flipOne_0 11 rfl rfl)
theorem dX0_flipOne_12 : decode cX0_flipOne 12 = .ok (.istore 4, 2) := dk_54 4 (dk_at dksX0_flipOne_0 12 rfl rfl)
theorem dX0_flipOne_14 : decode cX0_flipOne 14 = .ok (.iload 4, 2) := dk_21 4 (dk_at dksX0_flipOne_0 14 rfl rfl)
theorem dX0_flipOne_16 : decode cX0_flipOne 16 = .ok (.bipush 8, 2) := dk_16 8 (dk_at dksX0_flipOne_0 16 rfl rfl)
theorem dX0_flipOne_18 : decode cX0_flipOne 18 = .ok (.if_icmp .ge 114, 3) := dk_162 0 114 (dk_at dksX0_flipOne_0 18 rfl rfl)
theorem dX0_flipOne_21 : decode cX0_flipOne 21 = .ok (.iload_n 3, 1) := dk_29 (dk_at dksX0_flipOne_0 21 rfl rfl)
theorem dX0_flipOne_22 : decode cX0_flipOne 22 = .ok (.bipush (-9), 2) := dk_16 247 (dk_at dksX0_flipOne_0 22 rfl rfl)
theorem dX0_flipOne_24 : decode cX0_flipOne 24 = .ok (.if_icmp .eq 33, 3) := dk_159 0 33 (dk_at dksX0_flipOne_1 0 rfl rfl)
theorem dX0_flipOne_27 : decode cX0_flipOne 27 = .ok (.aload_n 0, 1) := dk_42 (dk_at dksX0_flipOne_1 3 rfl rfl)
theorem dX0_flipOne_28 : decode cX0_flipOne 28 = .ok (.iload 4, 2) := dk_21 4 (dk_at dksX0_flipOne_1 4 rfl rfl)
theorem dX0_flipOne_30 : decode cX0_flipOne 30 = .ok (.aload_n 0, 1) := dk_42 (dk_at dksX0_flipOne_1 6 rfl rfl)
theorem dX0_flipOne_31 : decode cX0_flipOne 31 = .ok (.getfield 69, 3) := dk_180 0 69 (dk_at dksX0_flipOne_1 7 rfl rfl)
theorem dX0_flipOne_34 : decode cX0_flipOne 34 = .ok (.iload_n 3, 1) := dk_29 (dk_at dksX0_flipOne_1 10 rfl rfl)
theorem dX0_flipOne_35 : decode cX0_flipOne 35 = .ok (.iaload, 1) := dk_46 (dk_at dksX0_flipOne_1 11 rfl rfl)
theorem dX0_flipOne_36 : decode cX0_flipOne 36 = .ok (.aload_n 0, 1) := dk_42 (dk_at dksX0_flipOne_1 12 rfl rfl)
theorem dX0_flipOne_37 : decode cX0_flipOne 37 = .ok (.getfield 69, 3) := dk_180 0 69 (dk_at dksX0_flipOne_1 13 rfl rfl)
theorem dX0_flipOne_40 : decode cX0_flipOne 40 = .ok (.iload_n 2, 1) := dk_28 (dk_at dksX0_flipOne_1 16 rfl rfl)
theorem dX0_flipOne_41 : decode cX0_flipOne 41 = .ok (.iaload, 1) := dk_46 (dk_at dksX0_flipOne_1 17 rfl rfl)
theorem dX0_flipOne_42 : decode cX0_flipOne 42 = .ok (.invokevirtual 563, 3) := dk_182 2 51 (dk_at dksX0_flipOne_1 18 rfl rfl)
theorem dX0_flipOne_45 : decode cX0_flipOne 45 = .ok (.aload_n 0, 1) := dk_42 (dk_at dksX0_flipOne_1 21 rfl rfl)
theorem dX0_flipOne_46 : decode cX0_flipOne 46 = .ok (.getfield 69, 3) := dk_180 0 69 (dk_at dksX0_flipOne_2 0 rfl rfl)
theorem dX0_flipOne_49 : decode cX0_flipOne 49 = .ok (.iload_n 3, 1) := dk_29 (dk_at dksX0_flipOne_2 3 rfl rfl)
theorem dX0_flipOne_50 : decode cX0_flipOne 50 = .ok (.iaload, 1) := dk_46 (dk_at dksX0_flipOne_2 4 rfl rfl)
theorem dX0_flipOne_51 : decode cX0_flipOne 51 = .ok (.if_icmp .eq 6, 3) := dk_159 0 6 (dk_at dksX0_flipOne_2 5 rfl rfl)
theorem dX0_flipOne_54 : decode cX0_flipOne 54 = .ok (.goto 72, 3) := dk_167 0 72 (dk_at dksX0_flipOne_2 8 rfl rfl)
theorem dX0_flipOne_57 : decode cX0_flipOne 57 = .ok (.aload_n 0, 1) := dk_42 (dk_at dksX0_flipOne_2 11 rfl rfl)
theorem dX0_flipOne_58 : decode cX0_flipOne 58 = .ok (.iload_n 1, 1) := dk_27 (dk_at dksX0_flipOne_2 12 rfl rfl)
theorem dX0_flipOne_59 : decode cX0_flipOne 59 = .ok (.iload 4, 2) := dk_21 4 (dk_at dksX0_flipOne_2 13 rfl rfl)
theorem dX0_flipOne_61 : decode cX0_flipOne 61 = .ok (.aload_n 0, 1) := dk_42 (dk_at dksX0_flipOne_2 15 rfl rfl)
theorem dX0_flipOne_62 : decode cX0_flipOne 62 = .ok (.getfield 69, 3) := dk_180 0 69 (dk_at dksX0_flipOne_2 16 rfl rfl)
theorem dX0_flipOne_65 : decode cX0_flipOne 65 = .ok (.iload_n 2, 1) := dk_28 (dk_at dksX0_flipOne_2 19 rfl rfl)
theorem dX0_flipOne_66 : decode cX0_flipOne 66 = .ok (.iaload, 1) := dk_46 (dk_at dksX0_flipOne_2 20 rfl rfl)
theorem dX0_flipOne_67 : decode cX0_flipOne 67 = .ok (.invokevirtual 569, 3) := dk_182 2 57 (dk_at dksX0_flipOne_2 21 rfl rfl)
theorem dX0_flipOne_70 : decode cX0_flipOne 70 = .ok (.ifCond .eq 56, 3) := dk_153 0 56 (dk_at dksX0_flipOne_3 0 rfl rfl)
theorem dX0_flipOne_73 : decode cX0_flipOne 73 = .ok (.aload_n 0, 1) := dk_42 (dk_at dksX0_flipOne_3 3 rfl rfl)
theorem dX0_flipOne_74 : decode cX0_flipOne 74 = .ok (.iload_n 1, 1) := dk_27 (dk_at dksX0_flipOne_3 4 rfl rfl)
theorem dX0_flipOne_75 : decode cX0_flipOne 75 = .ok (.invokevirtual 572, 3) := dk_182 2 60 (dk_at dksX0_flipOne_3 5 rfl rfl)
theorem dX0_flipOne_78 : decode cX0_flipOne 78 = .ok (.ifCond .ne 6, 3) := dk_154 0 6 (dk_at dksX0_flipOne_3 8 rfl rfl)
theorem dX0_flipOne_81 : decode cX0_flipOne 81 = .ok (.goto 45, 3) := dk_167 0 45 (dk_at dksX0_flipOne_3 11 rfl rfl)
theorem dX0_flipOne_84 : decode cX0_flipOne 84 = .ok (.aload_n 0, 1) := dk_42 (dk_at dksX0_flipOne_3 14 rfl rfl)
theorem dX0_flipOne_85 : decode cX0_flipOne 85 = .ok (.getfield 575, 3) := dk_180 2 63 (dk_at dksX0_flipOne_3 15 rfl rfl)
theorem dX0_flipOne_88 : decode cX0_flipOne 88 = .ok (.aload_n 0, 1) := dk_42 (dk_at dksX0_flipOne_3 18 rfl rfl)
theorem dX0_flipOne_89 : decode cX0_flipOne 89 = .ok (.getfield 578, 3) := dk_180 2 66 (dk_at dksX0_flipOne_3 19 rfl rfl)
theorem dX0_flipOne_92 : decode cX0_flipOne 92 = .ok (.if_icmp .ne 24, 3) := dk_160 0 24 (dk_at dksX0_flipOne_4 0 rfl rfl)
theorem dX0_flipOne_95 : decode cX0_flipOne 95 = .ok (.aload_n 0, 1) := dk_42 (dk_at dksX0_flipOne_4 3 rfl rfl)
theorem dX0_flipOne_96 : decode cX0_flipOne 96 = .ok (.iload_n 2, 1) := dk_28 (dk_at dksX0_flipOne_4 4 rfl rfl)
theorem dX0_flipOne_97 : decode cX0_flipOne 97 = .ok (.putfield 581, 3) := dk_181 2 69 (dk_at dksX0_flipOne_4 5 rfl rfl)
theorem dX0_flipOne_100 : decode cX0_flipOne 100 = .ok (.aload_n 0, 1) := dk_42 (dk_at dksX0_flipOne_4 8 rfl rfl)
theorem dX0_flipOne_101 : decode cX0_flipOne 101 = .ok (.iload_n 3, 1) := dk_29 (dk_at dksX0_flipOne_4 9 rfl rfl)
theorem dX0_flipOne_102 : decode cX0_flipOne 102 = .ok (.putfield 584, 3) := dk_181 2 72 (dk_at dksX0_flipOne_4 10 rfl rfl)
theorem dX0_flipOne_105 : decode cX0_flipOne 105 = .ok (.aload_n 0, 1) := dk_42 (dk_at dksX0_flipOne_4 13 rfl rfl)
theorem dX0_flipOne_106 : decode cX0_flipOne 106 = .ok (.iload 4, 2) := dk_21 4 (dk_at dksX0_flipOne_4 14 rfl rfl)
theorem dX0_flipOne_108 : decode cX0_flipOne 108 = .ok (.putfield 587, 3) := dk_181 2 75 (dk_at dksX0_flipOne_4 16 rfl rfl)
theorem dX0_flipOne_111 : decode cX0_flipOne 111 = .ok (.aload_n 0, 1) := dk_42 (dk_at dksX0_flipOne_4 19 rfl rfl)
theorem dX0_flipOne_112 : decode cX0_flipOne 112 = .ok (.iload_n 1, 1) := dk_27 (dk_at dksX0_flipOne_4 20 rfl rfl)
theorem dX0_flipOne_113 : decode cX0_flipOne 113 = .ok (.putfield 590, 3) := dk_181 2 78 (dk_at dksX0_flipOne_4 21 rfl rfl)
theorem dX0_flipOne_116 : decode cX0_flipOne 116 = .ok (.aload_n 0, 1) := dk_42 (dk_at dksX0_flipOne_5 0 rfl rfl)
theorem dX0_flipOne_117 : decode cX0_flipOne 117 = .ok (.dup, 1) := dk_89 (dk_at dksX0_flipOne_5 1 rfl rfl)
theorem dX0_flipOne_118 : decode cX0_flipOne 118 = .ok (.getfield 575, 3) := dk_180 2 63 (dk_at dksX0_flipOne_5 2 rfl rfl)
theorem dX0_flipOne_121 : decode cX0_flipOne 121 = .ok (.iconst 1, 1) := dk_4 (dk_at dksX0_flipOne_5 5 rfl rfl)
theorem dX0_flipOne_122 : decode cX0_flipOne 122 = .ok (.iadd, 1) := dk_96 (dk_at dksX0_flipOne_5 6 rfl rfl)
theorem dX0_flipOne_123 : decode cX0_flipOne 123 = .ok (.putfield 575, 3) := dk_181 2 63 (dk_at dksX0_flipOne_5 7 rfl rfl)
theorem dX0_flipOne_126 : decode cX0_flipOne 126 = .ok (.iinc 4 1, 3) := dk_132 4 1 (dk_at dksX0_flipOne_5 10 rfl rfl)
theorem dX0_flipOne_129 : decode cX0_flipOne 129 = .ok (.goto (-115), 3) := dk_167 255 141 (dk_at dksX0_flipOne_5 13 rfl rfl)
theorem dX0_flipOne_132 : decode cX0_flipOne 132 = .ok (.return_, 1) := dk_177 (dk_at dksX0_flipOne_5 16 rfl rfl)
abbrev cX0_doesHang : ByteArray := prog_1_method_91_code
def yX0_doesHang : MethodName := ⟨RX0, "doesHang", "(III)Z"⟩
def dkwX0_doesHang_8 : List UInt8 := [153, 0, 12, 21, 5, 153, 0, 7, 4, 167, 0, 4, 3, 172]
abbrev dktX0_doesHang_8 : List UInt8 := dkwX0_doesHang_8 ++ []
def dkwX0_doesHang_7 : List UInt8 := [21, 10, 29, 160, 0, 7, 4, 167, 0, 4, 3, 128, 54, 5, 132, 6, 1, 167, 255, 99, 21, 4]
abbrev dktX0_doesHang_7 : List UInt8 := dkwX0_doesHang_7 ++ dktX0_doesHang_8
def dkwX0_doesHang_6 : List UInt8 := [159, 0, 5, 3, 172, 21, 4, 21, 10, 28, 160, 0, 7, 4, 167, 0, 4, 3, 128, 54, 4, 21, 5]
abbrev dktX0_doesHang_6 : List UInt8 := dkwX0_doesHang_6 ++ dktX0_doesHang_7
def dkwX0_doesHang_5 : List UInt8 := [180, 1, 148, 167, 0, 8, 25, 7, 180, 1, 145, 54, 10, 21, 10, 28, 159, 0, 11, 21, 10, 29]
abbrev dktX0_doesHang_5 : List UInt8 := dkwX0_doesHang_5 ++ dktX0_doesHang_6
def dkwX0_doesHang_4 : List UInt8 := [180, 1, 46, 153, 0, 79, 21, 8, 21, 9, 160, 0, 6, 167, 0, 69, 21, 8, 153, 0, 11, 25, 7]
abbrev dktX0_doesHang_4 : List UInt8 := dkwX0_doesHang_4 ++ dktX0_doesHang_5
def dkwX0_doesHang_3 : List UInt8 := [54, 8, 27, 25, 7, 180, 1, 148, 122, 4, 126, 4, 160, 0, 7, 4, 167, 0, 4, 3, 54, 9, 25, 7]
abbrev dktX0_doesHang_3 : List UInt8 := dkwX0_doesHang_3 ++ dktX0_doesHang_4
def dkwX0_doesHang_2 : List UInt8 := [192, 0, 214, 58, 7, 27, 25, 7, 180, 1, 145, 122, 4, 126, 4, 160, 0, 7, 4, 167, 0, 4, 3]
abbrev dktX0_doesHang_2 : List UInt8 := dkwX0_doesHang_2 ++ dktX0_doesHang_3
def dkwX0_doesHang_1 : List UInt8 := [180, 0, 29, 185, 0, 180, 1, 0, 162, 0, 149, 42, 180, 0, 29, 21, 6, 185, 0, 186, 2, 0]
abbrev dktX0_doesHang_1 : List UInt8 := dkwX0_doesHang_1 ++ dktX0_doesHang_2
def dkwX0_doesHang_0 : List UInt8 := [3, 54, 4, 29, 16, 247, 160, 0, 7, 4, 167, 0, 4, 3, 54, 5, 3, 54, 6, 21, 6, 42]
abbrev dktX0_doesHang_0 : List UInt8 := dkwX0_doesHang_0 ++ dktX0_doesHang_1
theorem dksX0_doesHang_0 : cX0_doesHang.data.toList.drop 0 = dktX0_doesHang_0 := by decide +kernel
theorem dksX0_doesHang_1 : cX0_doesHang.data.toList.drop 22 = dktX0_doesHang_1 := dk_seg dksX0_doesHang_0 22 rfl rfl
theorem dksX0_doesHang_2 : cX0_doesHang.data.toList.drop 44 = dktX0_doesHang_2 := dk_seg dksX0_doesHang_1 22 rfl rfl
theorem dksX0_doesHang_3 : cX0_doesHang.data.toList.drop 67 = dktX0_doesHang_3 := dk_seg dksX0_doesHang_2 23 rfl rfl
theorem dksX0_doesHang_4 : cX0_doesHang.data.toList.drop 91 = dktX0_doesHang_4 := dk_seg dksX0_doesHang_3 24 rfl rfl
theorem dksX0_doesHang_5 : cX0_doesHang.data.toList.drop 114 = dktX0_doesHang_5 := dk_seg dksX0_doesHang_4 23 rfl rfl
theorem dksX0_doesHang_6 : cX0_doesHang.data.toList.drop 136 = dktX0_doesHang_6 := dk_seg dksX0_doesHang_5 22 rfl rfl
theorem dksX0_doesHang_7 : cX0_doesHang.data.toList.drop 159 = dktX0_doesHang_7 := dk_seg dksX0_doesHang_6 23 rfl rfl
theorem dksX0_doesHang_8 : cX0_doesHang.data.toList.drop 181 = dktX0_doesHang_8 := dk_seg dksX0_doesHang_7 22 rfl rfl
theorem dX0_doesHang_0 : decode cX0_doesHang 0 = .ok (.iconst 0, 1) := dk_3 (dk_at dksX0_doesHang_0 0 rfl rfl)
theorem dX0_doesHang_1 : decode cX0_doesHang 1 = .ok (.istore 4, 2) := dk_54 4 (dk_at dksX0_doesHang_0 1 rfl rfl)
theorem dX0_doesHang_3 : decode cX0_doesHang 3 = .ok (.iload_n 3, 1) := dk_29 (dk_at dksX0_doesHang_0 3 rfl rfl)
theorem dX0_doesHang_4 : decode cX0_doesHang 4 = .ok (.bipush (-9), 2) := dk_16 247 (dk_at dksX0_doesHang_0 4 rfl rfl)
theorem dX0_doesHang_6 : decode cX0_doesHang 6 = .ok (.if_icmp .ne 7, 3) := dk_160 0 7 (dk_at dksX0_doesHang_0 6 rfl rfl)
theorem dX0_doesHang_9 : decode cX0_doesHang 9 = .ok (.iconst 1, 1) := dk_4 (dk_at dksX0_doesHang_0 9 rfl rfl)
theorem dX0_doesHang_10 : decode cX0_doesHang 10 = .ok (.goto 4, 3) := dk_167 0 4 (dk_at dksX0_doesHang_0 10 rfl rfl)
theorem dX0_doesHang_13 : decode cX0_doesHang 13 = .ok (.iconst 0, 1) := dk_3 (dk_at dksX0_doesHang_0 13 rfl rfl)
theorem dX0_doesHang_14 : decode cX0_doesHang 14 = .ok (.istore 5, 2) := dk_54 5 (dk_at dksX0_doesHang_0 14 rfl rfl)
theorem dX0_doesHang_16 : decode cX0_doesHang 16 = .ok (.iconst 0, 1) := dk_3 (dk_at dksX0_doesHang_0 16 rfl rfl)
theorem dX0_doesHang_17 : decode cX0_doesHang 17 = .ok (.istore 6, 2) := dk_54 6 (dk_at dksX0_doesHang_0 17 rfl rfl)
theorem dX0_doesHang_19 : decode cX0_doesHang 19 = .ok (.iload 6, 2) := dk_21 6 (dk_at dksX0_doesHang_0 19 rfl rfl)
theorem dX0_doesHang_21 : decode cX0_doesHang 21 = .ok (.aload_n 0, 1) := dk_42 (dk_at dksX0_doesHang_0 21 rfl rfl)
theorem dX0_doesHang_22 : decode cX0_doesHang 22 = .ok (.getfield 29, 3) := dk_180 0 29 (dk_at dksX0_doesHang_1 0 rfl rfl)
theorem dX0_doesHang_25 : decode cX0_doesHang 25 = .ok (.invokeinterface 180 1, 5) := by decide +kernel
theorem dX0_doesHang_30 : decode cX0_doesHang 30 = .ok (.if_icmp .ge 149, 3) := dk_162 0 149 (dk_at dksX0_doesHang_1 8 rfl rfl)
theorem dX0_doesHang_33 : decode cX0_doesHang 33 = .ok (.aload_n 0, 1) := dk_42 (dk_at dksX0_doesHang_1 11 rfl rfl)
theorem dX0_doesHang_34 : decode cX0_doesHang 34 = .ok (.getfield 29, 3) := dk_180 0 29 (dk_at dksX0_doesHang_1 12 rfl rfl)
theorem dX0_doesHang_37 : decode cX0_doesHang 37 = .ok (.iload 6, 2) := dk_21 6 (dk_at dksX0_doesHang_1 15 rfl rfl)
theorem dX0_doesHang_39 : decode cX0_doesHang 39 = .ok (.invokeinterface 186 2, 5) := by decide +kernel
theorem dX0_doesHang_44 : decode cX0_doesHang 44 = .ok (.checkcast 214, 3) := dk_192 0 214 (dk_at dksX0_doesHang_2 0 rfl rfl)
theorem dX0_doesHang_47 : decode cX0_doesHang 47 = .ok (.astore 7, 2) := dk_58 7 (dk_at dksX0_doesHang_2 3 rfl rfl)
theorem dX0_doesHang_49 : decode cX0_doesHang 49 = .ok (.iload_n 1, 1) := dk_27 (dk_at dksX0_doesHang_2 5 rfl rfl)
theorem dX0_doesHang_50 : decode cX0_doesHang 50 = .ok (.aload 7, 2) := dk_25 7 (dk_at dksX0_doesHang_2 6 rfl rfl)
theorem dX0_doesHang_52 : decode cX0_doesHang 52 = .ok (.getfield 401, 3) := dk_180 1 145 (dk_at dksX0_doesHang_2 8 rfl rfl)
theorem dX0_doesHang_55 : decode cX0_doesHang 55 = .ok (.ishr, 1) := dk_122 (dk_at dksX0_doesHang_2 11 rfl rfl)
theorem dX0_doesHang_56 : decode cX0_doesHang 56 = .ok (.iconst 1, 1) := dk_4 (dk_at dksX0_doesHang_2 12 rfl rfl)
theorem dX0_doesHang_57 : decode cX0_doesHang 57 = .ok (.iand, 1) := dk_126 (dk_at dksX0_doesHang_2 13 rfl rfl)
theorem dX0_doesHang_58 : decode cX0_doesHang 58 = .ok (.iconst 1, 1) := dk_4 (dk_at dksX0_doesHang_2 14 rfl rfl)
theorem dX0_doesHang_59 : decode cX0_doesHang 59 = .ok (.if_icmp .ne 7, 3) := dk_160 0 7 (dk_at dksX0_doesHang_2 15 rfl rfl)
theorem dX0_doesHang_62 : decode cX0_doesHang 62 = .ok (.iconst 1, 1) := dk_4 (dk_at dksX0_doesHang_2 18 rfl rfl)
theorem dX0_doesHang_63 : decode cX0_doesHang 63 = .ok (.goto 4, 3) := dk_167 0 4 (dk_at dksX0_doesHang_2 19 rfl rfl)
theorem dX0_doesHang_66 : decode cX0_doesHang 66 = .ok (.iconst 0, 1) := dk_3 (dk_at dksX0_doesHang_2 22 rfl rfl)
theorem dX0_doesHang_67 : decode cX0_doesHang 67 = .ok (.istore 8, 2) := dk_54 8 (dk_at dksX0_doesHang_3 0 rfl rfl)
theorem dX0_doesHang_69 : decode cX0_doesHang 69 = .ok (.iload_n 1, 1) := dk_27 (dk_at dksX0_doesHang_3 2 rfl rfl)
theorem dX0_doesHang_70 : decode cX0_doesHang 70 = .ok (.aload 7, 2) := dk_25 7 (dk_at dksX0_doesHang_3 3 rfl rfl)
theorem dX0_doesHang_72 : decode cX0_doesHang 72 = .ok (.getfield 404, 3) := dk_180 1 148 (dk_at dksX0_doesHang_3 5 rfl rfl)
theorem dX0_doesHang_75 : decode cX0_doesHang 75 = .ok (.ishr, 1) := dk_122 (dk_at dksX0_doesHang_3 8 rfl rfl)
theorem dX0_doesHang_76 : decode cX0_doesHang 76 = .ok (.iconst 1, 1) := dk_4 (dk_at dksX0_doesHang_3 9 rfl rfl)
theorem dX0_doesHang_77 : decode cX0_doesHang 77 = .ok (.iand, 1) := dk_126 (dk_at dksX0_doesHang_3 10 rfl rfl)
theorem dX0_doesHang_78 : decode cX0_doesHang 78 = .ok (.iconst 1, 1) := dk_4 (dk_at dksX0_doesHang_3 11 rfl rfl)
theorem dX0_doesHang_79 : decode cX0_doesHang 79 = .ok (.if_icmp .ne 7, 3) := dk_160 0 7 (dk_at dksX0_doesHang_3 12 rfl rfl)
theorem dX0_doesHang_82 : decode cX0_doesHang 82 = .ok (.iconst 1, 1) := dk_4 (dk_at dksX0_doesHang_3 15 rfl rfl)
theorem dX0_doesHang_83 : decode cX0_doesHang 83 = .ok (.goto 4, 3) := dk_167 0 4 (dk_at dksX0_doesHang_3 16 rfl rfl)
theorem dX0_doesHang_86 : decode cX0_doesHang 86 = .ok (.iconst 0, 1) := dk_3 (dk_at dksX0_doesHang_3 19 rfl rfl)
theorem dX0_doesHang_87 : decode cX0_doesHang 87 = .ok (.istore 9, 2) := dk_54 9 (dk_at dksX0_doesHang_3 20 rfl rfl)
theorem dX0_doesHang_89 : decode cX0_doesHang 89 = .ok (.aload 7, 2) := dk_25 7 (dk_at dksX0_doesHang_3 22 rfl rfl)
theorem dX0_doesHang_91 : decode cX0_doesHang 91 = .ok (.getfield 302, 3) := dk_180 1 46 (dk_at dksX0_doesHang_4 0 rfl rfl)
theorem dX0_doesHang_94 : decode cX0_doesHang 94 = .ok (.ifCond .eq 79, 3) := dk_153 0 79 (dk_at dksX0_doesHang_4 3 rfl rfl)
theorem dX0_doesHang_97 : decode cX0_doesHang 97 = .ok (.iload 8, 2) := dk_21 8 (dk_at dksX0_doesHang_4 6 rfl rfl)
theorem dX0_doesHang_99 : decode cX0_doesHang 99 = .ok (.iload 9, 2) := dk_21 9 (dk_at dksX0_doesHang_4 8 rfl rfl)
theorem dX0_doesHang_101 : decode cX0_doesHang 101 = .ok (.if_icmp .ne 6, 3) := dk_160 0 6 (dk_at dksX0_doesHang_4 10 rfl rfl)
theorem dX0_doesHang_104 : decode cX0_doesHang 104 = .ok (.goto 69, 3) := dk_167 0 69 (dk_at dksX0_doesHang_4 13 rfl rfl)
theorem dX0_doesHang_107 : decode cX0_doesHang 107 = .ok (.iload 8, 2) := dk_21 8 (dk_at dksX0_doesHang_4 16 rfl rfl)
theorem dX0_doesHang_109 : decode cX0_doesHang 109 = .ok (.ifCond .eq 11, 3) := dk_153 0 11 (dk_at dksX0_doesHang_4 18 rfl rfl)
theorem dX0_doesHang_112 : decode cX0_doesHang 112 = .ok (.aload 7, 2) := dk_25 7 (dk_at dksX0_doesHang_4 21 rfl rfl)
theorem dX0_doesHang_114 : decode cX0_doesHang 114 = .ok (.getfield 404, 3) := dk_180 1 148 (dk_at dksX0_doesHang_5 0 rfl rfl)
theorem dX0_doesHang_117 : decode cX0_doesHang 117 = .ok (.goto 8, 3) := dk_167 0 8 (dk_at dksX0_doesHang_5 3 rfl rfl)
theorem dX0_doesHang_120 : decode cX0_doesHang 120 = .ok (.aload 7, 2) := dk_25 7 (dk_at dksX0_doesHang_5 6 rfl rfl)
theorem dX0_doesHang_122 : decode cX0_doesHang 122 = .ok (.getfield 401, 3) := dk_180 1 145 (dk_at dksX0_doesHang_5 8 rfl rfl)
theorem dX0_doesHang_125 : decode cX0_doesHang 125 = .ok (.istore 10, 2) := dk_54 10 (dk_at dksX0_doesHang_5 11 rfl rfl)
theorem dX0_doesHang_127 : decode cX0_doesHang 127 = .ok (.iload 10, 2) := dk_21 10 (dk_at dksX0_doesHang_5 13 rfl rfl)
theorem dX0_doesHang_129 : decode cX0_doesHang 129 = .ok (.iload_n 2, 1) := dk_28 (dk_at dksX0_doesHang_5 15 rfl rfl)
theorem dX0_doesHang_130 : decode cX0_doesHang 130 = .ok (.if_icmp .eq 11, 3) := dk_159 0 11 (dk_at dksX0_doesHang_5 16 rfl rfl)
theorem dX0_doesHang_133 : decode cX0_doesHang 133 = .ok (.iload 10, 2) := dk_21 10 (dk_at dksX0_doesHang_5 19 rfl rfl)
theorem dX0_doesHang_135 : decode cX0_doesHang 135 = .ok (.iload_n 3, 1) := dk_29 (dk_at dksX0_doesHang_5 21 rfl rfl)
theorem dX0_doesHang_136 : decode cX0_doesHang 136 = .ok (.if_icmp .eq 5, 3) := dk_159 0 5 (dk_at dksX0_doesHang_6 0 rfl rfl)
theorem dX0_doesHang_139 : decode cX0_doesHang 139 = .ok (.iconst 0, 1) := dk_3 (dk_at dksX0_doesHang_6 3 rfl rfl)
theorem dX0_doesHang_140 : decode cX0_doesHang 140 = .ok (.ireturn, 1) := dk_172 (dk_at dksX0_doesHang_6 4 rfl rfl)
theorem dX0_doesHang_141 : decode cX0_doesHang 141 = .ok (.iload 4, 2) := dk_21 4 (dk_at dksX0_doesHang_6 5 rfl rfl)
theorem dX0_doesHang_143 : decode cX0_doesHang 143 = .ok (.iload 10, 2) := dk_21 10 (dk_at dksX0_doesHang_6 7 rfl rfl)
theorem dX0_doesHang_145 : decode cX0_doesHang 145 = .ok (.iload_n 2, 1) := dk_28 (dk_at dksX0_doesHang_6 9 rfl rfl)
theorem dX0_doesHang_146 : decode cX0_doesHang 146 = .ok (.if_icmp .ne 7, 3) := dk_160 0 7 (dk_at dksX0_doesHang_6 10 rfl rfl)
theorem dX0_doesHang_149 : decode cX0_doesHang 149 = .ok (.iconst 1, 1) := dk_4 (dk_at dksX0_doesHang_6 13 rfl rfl)
theorem dX0_doesHang_150 : decode cX0_doesHang 150 = .ok (.goto 4, 3) := dk_167 0 4 (dk_at dksX0_doesHang_6 14 rfl rfl)
theorem dX0_doesHang_153 : decode cX0_doesHang 153 = .ok (.iconst 0, 1) := dk_3 (dk_at dksX0_doesHang_6 17 rfl rfl)
theorem dX0_doesHang_154 : decode cX0_doesHang 154 = .ok (.ior, 1) := dk_128 (dk_at dksX0_doesHang_6 18 rfl rfl)
theorem dX0_doesHang_155 : decode cX0_doesHang 155 = .ok (.istore 4, 2) := dk_54 4 (dk_at dksX0_doesHang_6 19 rfl rfl)
theorem dX0_doesHang_157 : decode cX0_doesHang 157 = .ok (.iload 5, 2) := dk_21 5 (dk_at dksX0_doesHang_6 21 rfl rfl)
theorem dX0_doesHang_159 : decode cX0_doesHang 159 = .ok (.iload 10, 2) := dk_21 10 (dk_at dksX0_doesHang_7 0 rfl rfl)
theorem dX0_doesHang_161 : decode cX0_doesHang 161 = .ok (.iload_n 3, 1) := dk_29 (dk_at dksX0_doesHang_7 2 rfl rfl)
theorem dX0_doesHang_162 : decode cX0_doesHang 162 = .ok (.if_icmp .ne 7, 3) := dk_160 0 7 (dk_at dksX0_doesHang_7 3 rfl rfl)
theorem dX0_doesHang_165 : decode cX0_doesHang 165 = .ok (.iconst 1, 1) := dk_4 (dk_at dksX0_doesHang_7 6 rfl rfl)
theorem dX0_doesHang_166 : decode cX0_doesHang 166 = .ok (.goto 4, 3) := dk_167 0 4 (dk_at dksX0_doesHang_7 7 rfl rfl)
theorem dX0_doesHang_169 : decode cX0_doesHang 169 = .ok (.iconst 0, 1) := dk_3 (dk_at dksX0_doesHang_7 10 rfl rfl)
theorem dX0_doesHang_170 : decode cX0_doesHang 170 = .ok (.ior, 1) := dk_128 (dk_at dksX0_doesHang_7 11 rfl rfl)
theorem dX0_doesHang_171 : decode cX0_doesHang 171 = .ok (.istore 5, 2) := dk_54 5 (dk_at dksX0_doesHang_7 12 rfl rfl)
theorem dX0_doesHang_173 : decode cX0_doesHang 173 = .ok (.iinc 6 1, 3) := dk_132 6 1 (dk_at dksX0_doesHang_7 14 rfl rfl)
theorem dX0_doesHang_176 : decode cX0_doesHang 176 = .ok (.goto (-157), 3) := dk_167 255 99 (dk_at dksX0_doesHang_7 17 rfl rfl)
theorem dX0_doesHang_179 : decode cX0_doesHang 179 = .ok (.iload 4, 2) := dk_21 4 (dk_at dksX0_doesHang_7 20 rfl rfl)
theorem dX0_doesHang_181 : decode cX0_doesHang 181 = .ok (.ifCond .eq 12, 3) := dk_153 0 12 (dk_at dksX0_doesHang_8 0 rfl rfl)
theorem dX0_doesHang_184 : decode cX0_doesHang 184 = .ok (.iload 5, 2) := dk_21 5 (dk_at dksX0_doesHang_8 3 rfl rfl)
theorem dX0_doesHang_186 : decode cX0_doesHang 186 = .ok (.ifCond .eq 7, 3) := dk_153 0 7 (dk_at dksX0_doesHang_8 5 rfl rfl)
theorem dX0_doesHang_189 : decode cX0_doesHang 189 = .ok (.iconst 1, 1) := dk_4 (dk_at dksX0_doesHang_8 8 rfl rfl)
theorem dX0_doesHang_190 : decode cX0_doesHang 190 = .ok (.goto 4, 3) := dk_167 0 4 (dk_at dksX0_doesHang_8 9 rfl rfl)
theorem dX0_doesHang_193 : decode cX0_doesHang 193 = .ok (.iconst 0, 1) := dk_3 (dk_at dksX0_doesHang_8 12 rfl rfl)
theorem dX0_doesHang_194 : decode cX0_doesHang 194 = .ok (.ireturn, 1) := dk_172 (dk_at dksX0_doesHang_8 13 rfl rfl)
abbrev cX0_turned : ByteArray := prog_1_method_89_code
def yX0_turned : MethodName := ⟨RX0, "turned", "(III)I"⟩
def dkwX0_turned_3 : List UInt8 := [167, 0, 5, 16, 247, 172]
abbrev dktX0_turned_3 : List UInt8 := dkwX0_turned_3 ++ []
def dkwX0_turned_2 : List UInt8 := [184, 2, 48, 96, 54, 7, 42, 21, 6, 21, 7, 182, 0, 136, 153, 0, 13, 21, 6, 21, 7, 184, 0, 140]
abbrev dktX0_turned_2 : List UInt8 := dkwX0_turned_2 ++ dktX0_turned_3
def dkwX0_turned_1 : List UInt8 := [184, 0, 123, 27, 21, 4, 21, 5, 184, 2, 45, 96, 54, 6, 29, 184, 0, 127, 27, 21, 4, 21, 5]
abbrev dktX0_turned_1 : List UInt8 := dkwX0_turned_1 ++ dktX0_turned_2
def dkwX0_turned_0 : List UInt8 := [28, 184, 0, 123, 29, 184, 0, 123, 100, 54, 4, 28, 184, 0, 127, 29, 184, 0, 127, 100, 54, 5, 29]
abbrev dktX0_turned_0 : List UInt8 := dkwX0_turned_0 ++ dktX0_turned_1
theorem dksX0_turned_0 : cX0_turned.data.toList.drop 0 = dktX0_turned_0 := by decide +kernel
theorem dksX0_turned_1 : cX0_turned.data.toList.drop 23 = dktX0_turned_1 := dk_seg dksX0_turned_0 23 rfl rfl
theorem dksX0_turned_2 : cX0_turned.data.toList.drop 46 = dktX0_turned_2 := dk_seg dksX0_turned_1 23 rfl rfl
theorem dksX0_turned_3 : cX0_turned.data.toList.drop 70 = dktX0_turned_3 := dk_seg dksX0_turned_2 24 rfl rfl
theorem dX0_turned_0 : decode cX0_turned 0 = .ok (.iload_n 2, 1) := dk_28 (dk_at dksX0_turned_0 0 rfl rfl)
theorem dX0_turned_1 : decode cX0_turned 1 = .ok (.invokestatic 123, 3) := dk_184 0 123 (dk_at dksX0_turned_0 1 rfl rfl)
theorem dX0_turned_4 : decode cX0_turned 4 = .ok (.iload_n 3, 1) := dk_29 (dk_at dksX0_turned_0 4 rfl rfl)
theorem dX0_turned_5 : decode cX0_turned 5 = .ok (.invokestatic 123, 3) := dk_184 0 123 (dk_at dksX0_turned_0 5 rfl rfl)
theorem dX0_turned_8 : decode cX0_turned 8 = .ok (.isub, 1) := dk_100 (dk_at dksX0_turned_0 8 rfl rfl)
theorem dX0_turned_9 : decode cX0_turned 9 = .ok (.istore 4, 2) := dk_54 4 (dk_at dksX0_turned_0 9 rfl rfl)
theorem dX0_turned_11 : decode cX0_turned 11 = .ok (.iload_n 2, 1) := dk_28 (dk_at dksX0_turned_0 11 rfl rfl)
theorem dX0_turned_12 : decode cX0_turned 12 = .ok (.invokestatic 127, 3) := dk_184 0 127 (dk_at dksX0_turned_0 12 rfl rfl)
theorem dX0_turned_15 : decode cX0_turned 15 = .ok (.iload_n 3, 1) := dk_29 (dk_at dksX0_turned_0 15 rfl rfl)
theorem dX0_turned_16 : decode cX0_turned 16 = .ok (.invokestatic 127, 3) := dk_184 0 127 (dk_at dksX0_turned_0 16 rfl rfl)
theorem dX0_turned_19 : decode cX0_turned 19 = .ok (.isub, 1) := dk_100 (dk_at dksX0_turned_0 19 rfl rfl)
theorem dX0_turned_20 : decode cX0_turned 20 = .ok (.istore 5, 2) := dk_54 5 (dk_at dksX0_turned_0 20 rfl rfl)
theorem dX0_turned_22 : decode cX0_turned 22 = .ok (.iload_n 3, 1) := dk_29 (dk_at dksX0_turned_0 22 rfl rfl)
theorem dX0_turned_23 : decode cX0_turned 23 = .ok (.invokestatic 123, 3) := dk_184 0 123 (dk_at dksX0_turned_1 0 rfl rfl)
theorem dX0_turned_26 : decode cX0_turned 26 = .ok (.iload_n 1, 1) := dk_27 (dk_at dksX0_turned_1 3 rfl rfl)
theorem dX0_turned_27 : decode cX0_turned 27 = .ok (.iload 4, 2) := dk_21 4 (dk_at dksX0_turned_1 4 rfl rfl)
theorem dX0_turned_29 : decode cX0_turned 29 = .ok (.iload 5, 2) := dk_21 5 (dk_at dksX0_turned_1 6 rfl rfl)
theorem dX0_turned_31 : decode cX0_turned 31 = .ok (.invokestatic 557, 3) := dk_184 2 45 (dk_at dksX0_turned_1 8 rfl rfl)
theorem dX0_turned_34 : decode cX0_turned 34 = .ok (.iadd, 1) := dk_96 (dk_at dksX0_turned_1 11 rfl rfl)
theorem dX0_turned_35 : decode cX0_turned 35 = .ok (.istore 6, 2) := dk_54 6 (dk_at dksX0_turned_1 12 rfl rfl)
theorem dX0_turned_37 : decode cX0_turned 37 = .ok (.iload_n 3, 1) := dk_29 (dk_at dksX0_turned_1 14 rfl rfl)
theorem dX0_turned_38 : decode cX0_turned 38 = .ok (.invokestatic 127, 3) := dk_184 0 127 (dk_at dksX0_turned_1 15 rfl rfl)
theorem dX0_turned_41 : decode cX0_turned 41 = .ok (.iload_n 1, 1) := dk_27 (dk_at dksX0_turned_1 18 rfl rfl)
theorem dX0_turned_42 : decode cX0_turned 42 = .ok (.iload 4, 2) := dk_21 4 (dk_at dksX0_turned_1 19 rfl rfl)
theorem dX0_turned_44 : decode cX0_turned 44 = .ok (.iload 5, 2) := dk_21 5 (dk_at dksX0_turned_1 21 rfl rfl)
theorem dX0_turned_46 : decode cX0_turned 46 = .ok (.invokestatic 560, 3) := dk_184 2 48 (dk_at dksX0_turned_2 0 rfl rfl)
theorem dX0_turned_49 : decode cX0_turned 49 = .ok (.iadd, 1) := dk_96 (dk_at dksX0_turned_2 3 rfl rfl)
theorem dX0_turned_50 : decode cX0_turned 50 = .ok (.istore 7, 2) := dk_54 7 (dk_at dksX0_turned_2 4 rfl rfl)
theorem dX0_turned_52 : decode cX0_turned 52 = .ok (.aload_n 0, 1) := dk_42 (dk_at dksX0_turned_2 6 rfl rfl)
theorem dX0_turned_53 : decode cX0_turned 53 = .ok (.iload 6, 2) := dk_21 6 (dk_at dksX0_turned_2 7 rfl rfl)
theorem dX0_turned_55 : decode cX0_turned 55 = .ok (.iload 7, 2) := dk_21 7 (dk_at dksX0_turned_2 9 rfl rfl)
theorem dX0_turned_57 : decode cX0_turned 57 = .ok (.invokevirtual 136, 3) := dk_182 0 136 (dk_at dksX0_turned_2 11 rfl rfl)
theorem dX0_turned_60 : decode cX0_turned 60 = .ok (.ifCond .eq 13, 3) := dk_153 0 13 (dk_at dksX0_turned_2 14 rfl rfl)
theorem dX0_turned_63 : decode cX0_turned 63 = .ok (.iload 6, 2) := dk_21 6 (dk_at dksX0_turned_2 17 rfl rfl)
theorem dX0_turned_65 : decode cX0_turned 65 = .ok (.iload 7, 2) := dk_21 7 (dk_at dksX0_turned_2 19 rfl rfl)
theorem dX0_turned_67 : decode cX0_turned 67 = .ok (.invokestatic 140, 3) := dk_184 0 140 (dk_at dksX0_turned_2 21 rfl rfl)
theorem dX0_turned_70 : decode cX0_turned 70 = .ok (.goto 5, 3) := dk_167 0 5 (dk_at dksX0_turned_3 0 rfl rfl)
theorem dX0_turned_73 : decode cX0_turned 73 = .ok (.bipush (-9), 2) := dk_16 247 (dk_at dksX0_turned_3 3 rfl rfl)
theorem dX0_turned_75 : decode cX0_turned 75 = .ok (.ireturn, 1) := dk_172 (dk_at dksX0_turned_3 5 rfl rfl)
abbrev cX0_turnedX : ByteArray := prog_1_method_87_code
def yX0_turnedX : MethodName := ⟨RX0, "turnedX", "(III)I"⟩
def dkwX0_turnedX_2 : List UInt8 := [28, 116, 172, 27, 116, 172, 28, 172, 27, 172]
abbrev dktX0_turnedX_2 : List UInt8 := dkwX0_turnedX_2 ++ []
def dkwX0_turnedX_1 : List UInt8 := [170, 0, 0, 0, 0, 0, 51, 0, 0, 0, 1, 0, 0, 0, 7, 0, 0, 0, 43, 0, 0, 0, 46, 0, 0, 0, 49, 0, 0, 0, 46, 0, 0, 0, 51, 0, 0, 0, 49, 0, 0, 0, 43]
abbrev dktX0_turnedX_1 : List UInt8 := dkwX0_turnedX_1 ++ dktX0_turnedX_2
def dkwX0_turnedX_0 : List UInt8 := [26]
abbrev dktX0_turnedX_0 : List UInt8 := dkwX0_turnedX_0 ++ dktX0_turnedX_1
theorem dksX0_turnedX_0 : cX0_turnedX.data.toList.drop 0 = dktX0_turnedX_0 := by decide +kernel
theorem dksX0_turnedX_1 : cX0_turnedX.data.toList.drop 1 = dktX0_turnedX_1 := dk_seg dksX0_turnedX_0 1 rfl rfl
theorem dksX0_turnedX_2 : cX0_turnedX.data.toList.drop 44 = dktX0_turnedX_2 := dk_seg dksX0_turnedX_1 43 rfl rfl
theorem dX0_turnedX_0 : decode cX0_turnedX 0 = .ok (.iload_n 0, 1) := dk_26 (dk_at dksX0_turnedX_0 0 rfl rfl)
theorem dX0_turnedX_1 : decode cX0_turnedX 1 = .ok (.tableswitch 51 1 7 #[43, 46, 49, 46, 51, 49, 43], 43) := by decide +kernel
theorem dX0_turnedX_44 : decode cX0_turnedX 44 = .ok (.iload_n 2, 1) := dk_28 (dk_at dksX0_turnedX_2 0 rfl rfl)
theorem dX0_turnedX_45 : decode cX0_turnedX 45 = .ok (.ineg, 1) := dk_116 (dk_at dksX0_turnedX_2 1 rfl rfl)
theorem dX0_turnedX_46 : decode cX0_turnedX 46 = .ok (.ireturn, 1) := dk_172 (dk_at dksX0_turnedX_2 2 rfl rfl)
theorem dX0_turnedX_47 : decode cX0_turnedX 47 = .ok (.iload_n 1, 1) := dk_27 (dk_at dksX0_turnedX_2 3 rfl rfl)
theorem dX0_turnedX_48 : decode cX0_turnedX 48 = .ok (.ineg, 1) := dk_116 (dk_at dksX0_turnedX_2 4 rfl rfl)
theorem dX0_turnedX_49 : decode cX0_turnedX 49 = .ok (.ireturn, 1) := dk_172 (dk_at dksX0_turnedX_2 5 rfl rfl)
theorem dX0_turnedX_50 : decode cX0_turnedX 50 = .ok (.iload_n 2, 1) := dk_28 (dk_at dksX0_turnedX_2 6 rfl rfl)
theorem dX0_turnedX_51 : decode cX0_turnedX 51 = .ok (.ireturn, 1) := dk_172 (dk_at dksX0_turnedX_2 7 rfl rfl)
theorem dX0_turnedX_52 : decode cX0_turnedX 52 = .ok (.iload_n 1, 1) := dk_27 (dk_at dksX0_turnedX_2 8 rfl rfl)
theorem dX0_turnedX_53 : decode cX0_turnedX 53 = .ok (.ireturn, 1) := dk_172 (dk_at dksX0_turnedX_2 9 rfl rfl)
abbrev cX0_turnedY : ByteArray := prog_1_method_88_code
def yX0_turnedY : MethodName := ⟨RX0, "turnedY", "(III)I"⟩
def dkwX0_turnedY_2 : List UInt8 := [27, 172, 28, 116, 172, 27, 116, 172, 28, 172]
abbrev dktX0_turnedY_2 : List UInt8 := dkwX0_turnedY_2 ++ []
def dkwX0_turnedY_1 : List UInt8 := [170, 0, 0, 0, 0, 0, 51, 0, 0, 0, 1, 0, 0, 0, 7, 0, 0, 0, 43, 0, 0, 0, 45, 0, 0, 0, 48, 0, 0, 0, 51, 0, 0, 0, 45, 0, 0, 0, 43, 0, 0, 0, 48]
abbrev dktX0_turnedY_1 : List UInt8 := dkwX0_turnedY_1 ++ dktX0_turnedY_2
def dkwX0_turnedY_0 : List UInt8 := [26]
abbrev dktX0_turnedY_0 : List UInt8 := dkwX0_turnedY_0 ++ dktX0_turnedY_1
theorem dksX0_turnedY_0 : cX0_turnedY.data.toList.drop 0 = dktX0_turnedY_0 := by decide +kernel
theorem dksX0_turnedY_1 : cX0_turnedY.data.toList.drop 1 = dktX0_turnedY_1 := dk_seg dksX0_turnedY_0 1 rfl rfl
theorem dksX0_turnedY_2 : cX0_turnedY.data.toList.drop 44 = dktX0_turnedY_2 := dk_seg dksX0_turnedY_1 43 rfl rfl
theorem dX0_turnedY_0 : decode cX0_turnedY 0 = .ok (.iload_n 0, 1) := dk_26 (dk_at dksX0_turnedY_0 0 rfl rfl)
theorem dX0_turnedY_1 : decode cX0_turnedY 1 = .ok (.tableswitch 51 1 7 #[43, 45, 48, 51, 45, 43, 48], 43) := by decide +kernel
theorem dX0_turnedY_44 : decode cX0_turnedY 44 = .ok (.iload_n 1, 1) := dk_27 (dk_at dksX0_turnedY_2 0 rfl rfl)
theorem dX0_turnedY_45 : decode cX0_turnedY 45 = .ok (.ireturn, 1) := dk_172 (dk_at dksX0_turnedY_2 1 rfl rfl)
theorem dX0_turnedY_46 : decode cX0_turnedY 46 = .ok (.iload_n 2, 1) := dk_28 (dk_at dksX0_turnedY_2 2 rfl rfl)
theorem dX0_turnedY_47 : decode cX0_turnedY 47 = .ok (.ineg, 1) := dk_116 (dk_at dksX0_turnedY_2 3 rfl rfl)
theorem dX0_turnedY_48 : decode cX0_turnedY 48 = .ok (.ireturn, 1) := dk_172 (dk_at dksX0_turnedY_2 4 rfl rfl)
theorem dX0_turnedY_49 : decode cX0_turnedY 49 = .ok (.iload_n 1, 1) := dk_27 (dk_at dksX0_turnedY_2 5 rfl rfl)
theorem dX0_turnedY_50 : decode cX0_turnedY 50 = .ok (.ineg, 1) := dk_116 (dk_at dksX0_turnedY_2 6 rfl rfl)
theorem dX0_turnedY_51 : decode cX0_turnedY 51 = .ok (.ireturn, 1) := dk_172 (dk_at dksX0_turnedY_2 7 rfl rfl)
theorem dX0_turnedY_52 : decode cX0_turnedY 52 = .ok (.iload_n 2, 1) := dk_28 (dk_at dksX0_turnedY_2 8 rfl rfl)
theorem dX0_turnedY_53 : decode cX0_turnedY 53 = .ok (.ireturn, 1) := dk_172 (dk_at dksX0_turnedY_2 9 rfl rfl)
abbrev cX0_areTurned : ByteArray := prog_1_method_92_code
def yX0_areTurned : MethodName := ⟨RX0, "areTurned", "(III)Z"⟩
def dkwX0_areTurned_6 : List UInt8 := [167, 255, 122, 21, 4, 172]
abbrev dktX0_areTurned_6 : List UInt8 := dkwX0_areTurned_6 ++ []
def dkwX0_areTurned_5 : List UInt8 := [21, 5, 46, 42, 180, 0, 69, 21, 5, 46, 159, 0, 7, 4, 167, 0, 4, 3, 128, 54, 4, 132, 5, 1]
abbrev dktX0_areTurned_5 : List UInt8 := dkwX0_areTurned_5 ++ dktX0_areTurned_6
def dkwX0_areTurned_4 : List UInt8 := [182, 0, 196, 42, 180, 0, 78, 21, 5, 46, 184, 0, 161, 154, 0, 5, 3, 172, 21, 4, 42, 180, 0, 78]
abbrev dktX0_areTurned_4 : List UInt8 := dkwX0_areTurned_4 ++ dktX0_areTurned_5
def dkwX0_areTurned_3 : List UInt8 := [21, 5, 46, 16, 247, 159, 0, 33, 42, 180, 0, 25, 21, 5, 185, 0, 186, 2, 0, 192, 0, 190]
abbrev dktX0_areTurned_3 : List UInt8 := dkwX0_areTurned_3 ++ dktX0_areTurned_4
def dkwX0_areTurned_2 : List UInt8 := [180, 0, 78, 21, 5, 42, 28, 42, 180, 0, 69, 21, 5, 46, 29, 182, 2, 51, 79, 42, 180, 0, 78]
abbrev dktX0_areTurned_2 : List UInt8 := dkwX0_areTurned_2 ++ dktX0_areTurned_3
def dkwX0_areTurned_1 : List UInt8 := [21, 5, 42, 180, 0, 69, 21, 5, 46, 79, 27, 21, 5, 122, 4, 126, 154, 0, 6, 167, 0, 94, 42]
abbrev dktX0_areTurned_1 : List UInt8 := dkwX0_areTurned_1 ++ dktX0_areTurned_2
def dkwX0_areTurned_0 : List UInt8 := [3, 54, 4, 3, 54, 5, 21, 5, 42, 180, 0, 25, 185, 0, 180, 1, 0, 162, 0, 126, 42, 180, 0, 78]
abbrev dktX0_areTurned_0 : List UInt8 := dkwX0_areTurned_0 ++ dktX0_areTurned_1
theorem dksX0_areTurned_0 : cX0_areTurned.data.toList.drop 0 = dktX0_areTurned_0 := by decide +kernel
theorem dksX0_areTurned_1 : cX0_areTurned.data.toList.drop 24 = dktX0_areTurned_1 := dk_seg dksX0_areTurned_0 24 rfl rfl
theorem dksX0_areTurned_2 : cX0_areTurned.data.toList.drop 47 = dktX0_areTurned_2 := dk_seg dksX0_areTurned_1 23 rfl rfl
theorem dksX0_areTurned_3 : cX0_areTurned.data.toList.drop 70 = dktX0_areTurned_3 := dk_seg dksX0_areTurned_2 23 rfl rfl
theorem dksX0_areTurned_4 : cX0_areTurned.data.toList.drop 92 = dktX0_areTurned_4 := dk_seg dksX0_areTurned_3 22 rfl rfl
theorem dksX0_areTurned_5 : cX0_areTurned.data.toList.drop 116 = dktX0_areTurned_5 := dk_seg dksX0_areTurned_4 24 rfl rfl
theorem dksX0_areTurned_6 : cX0_areTurned.data.toList.drop 140 = dktX0_areTurned_6 := dk_seg dksX0_areTurned_5 24 rfl rfl
theorem dX0_areTurned_0 : decode cX0_areTurned 0 = .ok (.iconst 0, 1) := dk_3 (dk_at dksX0_areTurned_0 0 rfl rfl)
theorem dX0_areTurned_1 : decode cX0_areTurned 1 = .ok (.istore 4, 2) := dk_54 4 (dk_at dksX0_areTurned_0 1 rfl rfl)
theorem dX0_areTurned_3 : decode cX0_areTurned 3 = .ok (.iconst 0, 1) := dk_3 (dk_at dksX0_areTurned_0 3 rfl rfl)
theorem dX0_areTurned_4 : decode cX0_areTurned 4 = .ok (.istore 5, 2) := dk_54 5 (dk_at dksX0_areTurned_0 4 rfl rfl)
theorem dX0_areTurned_6 : decode cX0_areTurned 6 = .ok (.iload 5, 2) := dk_21 5 (dk_at dksX0_areTurned_0 6 rfl rfl)
theorem dX0_areTurned_8 : decode cX0_areTurned 8 = .ok (.aload_n 0, 1) := dk_42 (dk_at dksX0_areTurned_0 8 rfl rfl)
theorem dX0_areTurned_9 : decode cX0_areTurned 9 = .ok (.getfield 25, 3) := dk_180 0 25 (dk_at dksX0_areTurned_0 9 rfl rfl)
theorem dX0_areTurned_12 : decode cX0_areTurned 12 = .ok (.invokeinterface 180 1, 5) := by decide +kernel
theorem dX0_areTurned_17 : decode cX0_areTurned 17 = .ok (.if_icmp .ge 126, 3) := dk_162 0 126 (dk_at dksX0_areTurned_0 17 rfl rfl)
theorem dX0_areTurned_20 : decode cX0_areTurned 20 = .ok (.aload_n 0, 1) := dk_42 (dk_at dksX0_areTurned_0 20 rfl rfl)
theorem dX0_areTurned_21 : decode cX0_areTurned 21 = .ok (.getfield 78, 3) := dk_180 0 78 (dk_at dksX0_areTurned_0 21 rfl rfl)
theorem dX0_areTurned_24 : decode cX0_areTurned 24 = .ok (.iload 5, 2) := dk_21 5 (dk_at dksX0_areTurned_1 0 rfl rfl)
theorem dX0_areTurned_26 : decode cX0_areTurned 26 = .ok (.aload_n 0, 1) := dk_42 (dk_at dksX0_areTurned_1 2 rfl rfl)
theorem dX0_areTurned_27 : decode cX0_areTurned 27 = .ok (.getfield 69, 3) := dk_180 0 69 (dk_at dksX0_areTurned_1 3 rfl rfl)
theorem dX0_areTurned_30 : decode cX0_areTurned 30 = .ok (.iload 5, 2) := dk_21 5 (dk_at dksX0_areTurned_1 6 rfl rfl)
theorem dX0_areTurned_32 : decode cX0_areTurned 32 = .ok (.iaload, 1) := dk_46 (dk_at dksX0_areTurned_1 8 rfl rfl)
theorem dX0_areTurned_33 : decode cX0_areTurned 33 = .ok (.iastore, 1) := dk_79 (dk_at dksX0_areTurned_1 9 rfl rfl)
theorem dX0_areTurned_34 : decode cX0_areTurned 34 = .ok (.iload_n 1, 1) := dk_27 (dk_at dksX0_areTurned_1 10 rfl rfl)
theorem dX0_areTurned_35 : decode cX0_areTurned 35 = .ok (.iload 5, 2) := dk_21 5 (dk_at dksX0_areTurned_1 11 rfl rfl)
theorem dX0_areTurned_37 : decode cX0_areTurned 37 = .ok (.ishr, 1) := dk_122 (dk_at dksX0_areTurned_1 13 rfl rfl)
theorem dX0_areTurned_38 : decode cX0_areTurned 38 = .ok (.iconst 1, 1) := dk_4 (dk_at dksX0_areTurned_1 14 rfl rfl)
theorem dX0_areTurned_39 : decode cX0_areTurned 39 = .ok (.iand, 1) := dk_126 (dk_at dksX0_areTurned_1 15 rfl rfl)
theorem dX0_areTurned_40 : decode cX0_areTurned 40 = .ok (.ifCond .ne 6, 3) := dk_154 0 6 (dk_at dksX0_areTurned_1 16 rfl rfl)
theorem dX0_areTurned_43 : decode cX0_areTurned 43 = .ok (.goto 94, 3) := dk_167 0 94 (dk_at dksX0_areTurned_1 19 rfl rfl)
theorem dX0_areTurned_46 : decode cX0_areTurned 46 = .ok (.aload_n 0, 1) := dk_42 (dk_at dksX0_areTurned_1 22 rfl rfl)
theorem dX0_areTurned_47 : decode cX0_areTurned 47 = .ok (.getfield 78, 3) := dk_180 0 78 (dk_at dksX0_areTurned_2 0 rfl rfl)
theorem dX0_areTurned_50 : decode cX0_areTurned 50 = .ok (.iload 5, 2) := dk_21 5 (dk_at dksX0_areTurned_2 3 rfl rfl)
theorem dX0_areTurned_52 : decode cX0_areTurned 52 = .ok (.aload_n 0, 1) := dk_42 (dk_at dksX0_areTurned_2 5 rfl rfl)
theorem dX0_areTurned_53 : decode cX0_areTurned 53 = .ok (.iload_n 2, 1) := dk_28 (dk_at dksX0_areTurned_2 6 rfl rfl)
theorem dX0_areTurned_54 : decode cX0_areTurned 54 = .ok (.aload_n 0, 1) := dk_42 (dk_at dksX0_areTurned_2 7 rfl rfl)
theorem dX0_areTurned_55 : decode cX0_areTurned 55 = .ok (.getfield 69, 3) := dk_180 0 69 (dk_at dksX0_areTurned_2 8 rfl rfl)
theorem dX0_areTurned_58 : decode cX0_areTurned 58 = .ok (.iload 5, 2) := dk_21 5 (dk_at dksX0_areTurned_2 11 rfl rfl)
theorem dX0_areTurned_60 : decode cX0_areTurned 60 = .ok (.iaload, 1) := dk_46 (dk_at dksX0_areTurned_2 13 rfl rfl)
theorem dX0_areTurned_61 : decode cX0_areTurned 61 = .ok (.iload_n 3, 1) := dk_29 (dk_at dksX0_areTurned_2 14 rfl rfl)
theorem dX0_areTurned_62 : decode cX0_areTurned 62 = .ok (.invokevirtual 563, 3) := dk_182 2 51 (dk_at dksX0_areTurned_2 15 rfl rfl)
theorem dX0_areTurned_65 : decode cX0_areTurned 65 = .ok (.iastore, 1) := dk_79 (dk_at dksX0_areTurned_2 18 rfl rfl)
theorem dX0_areTurned_66 : decode cX0_areTurned 66 = .ok (.aload_n 0, 1) := dk_42 (dk_at dksX0_areTurned_2 19 rfl rfl)
theorem dX0_areTurned_67 : decode cX0_areTurned 67 = .ok (.getfield 78, 3) := dk_180 0 78 (dk_at dksX0_areTurned_2 20 rfl rfl)
theorem dX0_areTurned_70 : decode cX0_areTurned 70 = .ok (.iload 5, 2) := dk_21 5 (dk_at dksX0_areTurned_3 0 rfl rfl)
theorem dX0_areTurned_72 : decode cX0_areTurned 72 = .ok (.iaload, 1) := dk_46 (dk_at dksX0_areTurned_3 2 rfl rfl)
theorem dX0_areTurned_73 : decode cX0_areTurned 73 = .ok (.bipush (-9), 2) := dk_16 247 (dk_at dksX0_areTurned_3 3 rfl rfl)
theorem dX0_areTurned_75 : decode cX0_areTurned 75 = .ok (.if_icmp .eq 33, 3) := dk_159 0 33 (dk_at dksX0_areTurned_3 5 rfl rfl)
theorem dX0_areTurned_78 : decode cX0_areTurned 78 = .ok (.aload_n 0, 1) := dk_42 (dk_at dksX0_areTurned_3 8 rfl rfl)
theorem dX0_areTurned_79 : decode cX0_areTurned 79 = .ok (.getfield 25, 3) := dk_180 0 25 (dk_at dksX0_areTurned_3 9 rfl rfl)
theorem dX0_areTurned_82 : decode cX0_areTurned 82 = .ok (.iload 5, 2) := dk_21 5 (dk_at dksX0_areTurned_3 12 rfl rfl)
theorem dX0_areTurned_84 : decode cX0_areTurned 84 = .ok (.invokeinterface 186 2, 5) := by decide +kernel
theorem dX0_areTurned_89 : decode cX0_areTurned 89 = .ok (.checkcast 190, 3) := dk_192 0 190 (dk_at dksX0_areTurned_3 19 rfl rfl)
theorem dX0_areTurned_92 : decode cX0_areTurned 92 = .ok (.invokevirtual 196, 3) := dk_182 0 196 (dk_at dksX0_areTurned_4 0 rfl rfl)
theorem dX0_areTurned_95 : decode cX0_areTurned 95 = .ok (.aload_n 0, 1) := dk_42 (dk_at dksX0_areTurned_4 3 rfl rfl)
theorem dX0_areTurned_96 : decode cX0_areTurned 96 = .ok (.getfield 78, 3) := dk_180 0 78 (dk_at dksX0_areTurned_4 4 rfl rfl)
theorem dX0_areTurned_99 : decode cX0_areTurned 99 = .ok (.iload 5, 2) := dk_21 5 (dk_at dksX0_areTurned_4 7 rfl rfl)
theorem dX0_areTurned_101 : decode cX0_areTurned 101 = .ok (.iaload, 1) := dk_46 (dk_at dksX0_areTurned_4 9 rfl rfl)
theorem dX0_areTurned_102 : decode cX0_areTurned 102 = .ok (.invokestatic 161, 3) := dk_184 0 161 (dk_at dksX0_areTurned_4 10 rfl rfl)
theorem dX0_areTurned_105 : decode cX0_areTurned 105 = .ok (.ifCond .ne 5, 3) := dk_154 0 5 (dk_at dksX0_areTurned_4 13 rfl rfl)
theorem dX0_areTurned_108 : decode cX0_areTurned 108 = .ok (.iconst 0, 1) := dk_3 (dk_at dksX0_areTurned_4 16 rfl rfl)
theorem dX0_areTurned_109 : decode cX0_areTurned 109 = .ok (.ireturn, 1) := dk_172 (dk_at dksX0_areTurned_4 17 rfl rfl)
theorem dX0_areTurned_110 : decode cX0_areTurned 110 = .ok (.iload 4, 2) := dk_21 4 (dk_at dksX0_areTurned_4 18 rfl rfl)
theorem dX0_areTurned_112 : decode cX0_areTurned 112 = .ok (.aload_n 0, 1) := dk_42 (dk_at dksX0_areTurned_4 20 rfl rfl)
theorem dX0_areTurned_113 : decode cX0_areTurned 113 = .ok (.getfield 78, 3) := dk_180 0 78 (dk_at dksX0_areTurned_4 21 rfl rfl)
theorem dX0_areTurned_116 : decode cX0_areTurned 116 = .ok (.iload 5, 2) := dk_21 5 (dk_at dksX0_areTurned_5 0 rfl rfl)
theorem dX0_areTurned_118 : decode cX0_areTurned 118 = .ok (.iaload, 1) := dk_46 (dk_at dksX0_areTurned_5 2 rfl rfl)
theorem dX0_areTurned_119 : decode cX0_areTurned 119 = .ok (.aload_n 0, 1) := dk_42 (dk_at dksX0_areTurned_5 3 rfl rfl)
theorem dX0_areTurned_120 : decode cX0_areTurned 120 = .ok (.getfield 69, 3) := dk_180 0 69 (dk_at dksX0_areTurned_5 4 rfl rfl)
theorem dX0_areTurned_123 : decode cX0_areTurned 123 = .ok (.iload 5, 2) := dk_21 5 (dk_at dksX0_areTurned_5 7 rfl rfl)
theorem dX0_areTurned_125 : decode cX0_areTurned 125 = .ok (.iaload, 1) := dk_46 (dk_at dksX0_areTurned_5 9 rfl rfl)
theorem dX0_areTurned_126 : decode cX0_areTurned 126 = .ok (.if_icmp .eq 7, 3) := dk_159 0 7 (dk_at dksX0_areTurned_5 10 rfl rfl)
theorem dX0_areTurned_129 : decode cX0_areTurned 129 = .ok (.iconst 1, 1) := dk_4 (dk_at dksX0_areTurned_5 13 rfl rfl)
theorem dX0_areTurned_130 : decode cX0_areTurned 130 = .ok (.goto 4, 3) := dk_167 0 4 (dk_at dksX0_areTurned_5 14 rfl rfl)
theorem dX0_areTurned_133 : decode cX0_areTurned 133 = .ok (.iconst 0, 1) := dk_3 (dk_at dksX0_areTurned_5 17 rfl rfl)
theorem dX0_areTurned_134 : decode cX0_areTurned 134 = .ok (.ior, 1) := dk_128 (dk_at dksX0_areTurned_5 18 rfl rfl)
theorem dX0_areTurned_135 : decode cX0_areTurned 135 = .ok (.istore 4, 2) := dk_54 4 (dk_at dksX0_areTurned_5 19 rfl rfl)
theorem dX0_areTurned_137 : decode cX0_areTurned 137 = .ok (.iinc 5 1, 3) := dk_132 5 1 (dk_at dksX0_areTurned_5 21 rfl rfl)
theorem dX0_areTurned_140 : decode cX0_areTurned 140 = .ok (.goto (-134), 3) := dk_167 255 122 (dk_at dksX0_areTurned_6 0 rfl rfl)
theorem dX0_areTurned_143 : decode cX0_areTurned 143 = .ok (.iload 4, 2) := dk_21 4 (dk_at dksX0_areTurned_6 3 rfl rfl)
theorem dX0_areTurned_145 : decode cX0_areTurned 145 = .ok (.ireturn, 1) := dk_172 (dk_at dksX0_areTurned_6 5 rfl rfl)
abbrev cX0_isKeptAfter : ByteArray := prog_1_method_93_code
def yX0_isKeptAfter : MethodName := ⟨RX0, "isKeptAfter", "(I)Z"⟩
def dkwX0_isKeptAfter_7 : List UInt8 := [167, 255, 209, 132, 2, 1, 167, 255, 181, 4, 172]
abbrev dktX0_isKeptAfter_7 : List UInt8 := dkwX0_isKeptAfter_7 ++ []
def dkwX0_isKeptAfter_6 : List UInt8 := [160, 0, 20, 42, 180, 0, 78, 29, 46, 42, 180, 0, 78, 28, 46, 160, 0, 5, 3, 172, 132, 3, 1]
abbrev dktX0_isKeptAfter_6 : List UInt8 := dkwX0_isKeptAfter_6 ++ dktX0_isKeptAfter_7
def dkwX0_isKeptAfter_5 : List UInt8 := [42, 180, 0, 25, 185, 0, 180, 1, 0, 162, 0, 40, 29, 28, 159, 0, 29, 27, 28, 122, 4, 126, 4]
abbrev dktX0_isKeptAfter_5 : List UInt8 := dkwX0_isKeptAfter_5 ++ dktX0_isKeptAfter_6
def dkwX0_isKeptAfter_4 : List UInt8 := [61, 28, 42, 180, 0, 25, 185, 0, 180, 1, 0, 162, 0, 68, 42, 180, 0, 207, 153, 0, 61, 3, 62, 29]
abbrev dktX0_isKeptAfter_4 : List UInt8 := dkwX0_isKeptAfter_4 ++ dktX0_isKeptAfter_5
def dkwX0_isKeptAfter_3 : List UInt8 := [42, 180, 0, 78, 45, 180, 1, 148, 46, 184, 0, 161, 154, 0, 5, 3, 172, 132, 2, 1, 167, 255, 170, 3]
abbrev dktX0_isKeptAfter_3 : List UInt8 := dkwX0_isKeptAfter_3 ++ dktX0_isKeptAfter_4
def dkwX0_isKeptAfter_2 : List UInt8 := [45, 180, 1, 148, 120, 128, 126, 153, 0, 34, 45, 180, 1, 163, 42, 180, 0, 78, 45, 180, 1, 145, 46, 47]
abbrev dktX0_isKeptAfter_2 : List UInt8 := dkwX0_isKeptAfter_2 ++ dktX0_isKeptAfter_3
def dkwX0_isKeptAfter_1 : List UInt8 := [185, 0, 186, 2, 0, 192, 0, 214, 78, 45, 180, 1, 46, 153, 0, 52, 27, 4, 45, 180, 1, 145, 120, 4]
abbrev dktX0_isKeptAfter_1 : List UInt8 := dkwX0_isKeptAfter_1 ++ dktX0_isKeptAfter_2
def dkwX0_isKeptAfter_0 : List UInt8 := [3, 61, 28, 42, 180, 0, 29, 185, 0, 180, 1, 0, 162, 0, 79, 42, 180, 0, 29, 28]
abbrev dktX0_isKeptAfter_0 : List UInt8 := dkwX0_isKeptAfter_0 ++ dktX0_isKeptAfter_1
theorem dksX0_isKeptAfter_0 : cX0_isKeptAfter.data.toList.drop 0 = dktX0_isKeptAfter_0 := by decide +kernel
theorem dksX0_isKeptAfter_1 : cX0_isKeptAfter.data.toList.drop 20 = dktX0_isKeptAfter_1 := dk_seg dksX0_isKeptAfter_0 20 rfl rfl
theorem dksX0_isKeptAfter_2 : cX0_isKeptAfter.data.toList.drop 44 = dktX0_isKeptAfter_2 := dk_seg dksX0_isKeptAfter_1 24 rfl rfl
theorem dksX0_isKeptAfter_3 : cX0_isKeptAfter.data.toList.drop 68 = dktX0_isKeptAfter_3 := dk_seg dksX0_isKeptAfter_2 24 rfl rfl
theorem dksX0_isKeptAfter_4 : cX0_isKeptAfter.data.toList.drop 92 = dktX0_isKeptAfter_4 := dk_seg dksX0_isKeptAfter_3 24 rfl rfl
theorem dksX0_isKeptAfter_5 : cX0_isKeptAfter.data.toList.drop 116 = dktX0_isKeptAfter_5 := dk_seg dksX0_isKeptAfter_4 24 rfl rfl
theorem dksX0_isKeptAfter_6 : cX0_isKeptAfter.data.toList.drop 139 = dktX0_isKeptAfter_6 := dk_seg dksX0_isKeptAfter_5 23 rfl rfl
theorem dksX0_isKeptAfter_7 : cX0_isKeptAfter.data.toList.drop 162 = dktX0_isKeptAfter_7 := dk_seg dksX0_isKeptAfter_6 23 rfl rfl
theorem dX0_isKeptAfter_0 : decode cX0_isKeptAfter 0 = .ok (.iconst 0, 1) := dk_3 (dk_at dksX0_isKeptAfter_0 0 rfl rfl)
theorem dX0_isKeptAfter_1 : decode cX0_isKeptAfter 1 = .ok (.istore_n 2, 1) := dk_61 (dk_at dksX0_isKeptAfter_0 1 rfl rfl)
theorem dX0_isKeptAfter_2 : decode cX0_isKeptAfter 2 = .ok (.iload_n 2, 1) := dk_28 (dk_at dksX0_isKeptAfter_0 2 rfl rfl)
theorem dX0_isKeptAfter_3 : decode cX0_isKeptAfter 3 = .ok (.aload_n 0, 1) := dk_42 (dk_at dksX0_isKeptAfter_0 3 rfl rfl)
theorem dX0_isKeptAfter_4 : decode cX0_isKeptAfter 4 = .ok (.getfield 29, 3) := dk_180 0 29 (dk_at dksX0_isKeptAfter_0 4 rfl rfl)
theorem dX0_isKeptAfter_7 : decode cX0_isKeptAfter 7 = .ok (.invokeinterface 180 1, 5) := by decide +kernel
theorem dX0_isKeptAfter_12 : decode cX0_isKeptAfter 12 = .ok (.if_icmp .ge 79, 3) := dk_162 0 79 (dk_at dksX0_isKeptAfter_0 12 rfl rfl)
theorem dX0_isKeptAfter_15 : decode cX0_isKeptAfter 15 = .ok (.aload_n 0, 1) := dk_42 (dk_at dksX0_isKeptAfter_0 15 rfl rfl)
theorem dX0_isKeptAfter_16 : decode cX0_isKeptAfter 16 = .ok (.getfield 29, 3) := dk_180 0 29 (dk_at dksX0_isKeptAfter_0 16 rfl rfl)
theorem dX0_isKeptAfter_19 : decode cX0_isKeptAfter 19 = .ok (.iload_n 2, 1) := dk_28 (dk_at dksX0_isKeptAfter_0 19 rfl rfl)
theorem dX0_isKeptAfter_20 : decode cX0_isKeptAfter 20 = .ok (.invokeinterface 186 2, 5) := by decide +kernel
theorem dX0_isKeptAfter_25 : decode cX0_isKeptAfter 25 = .ok (.checkcast 214, 3) := dk_192 0 214 (dk_at dksX0_isKeptAfter_1 5 rfl rfl)
theorem dX0_isKeptAfter_28 : decode cX0_isKeptAfter 28 = .ok (.astore_n 3, 1) := dk_78 (dk_at dksX0_isKeptAfter_1 8 rfl rfl)
theorem dX0_isKeptAfter_29 : decode cX0_isKeptAfter 29 = .ok (.aload_n 3, 1) := dk_45 (dk_at dksX0_isKeptAfter_1 9 rfl rfl)
theorem dX0_isKeptAfter_30 : decode cX0_isKeptAfter 30 = .ok (.getfield 302, 3) := dk_180 1 46 (dk_at dksX0_isKeptAfter_1 10 rfl rfl)
theorem dX0_isKeptAfter_33 : decode cX0_isKeptAfter 33 = .ok (.ifCond .eq 52, 3) := dk_153 0 52 (dk_at dksX0_isKeptAfter_1 13 rfl rfl)
theorem dX0_isKeptAfter_36 : decode cX0_isKeptAfter 36 = .ok (.iload_n 1, 1) := dk_27 (dk_at dksX0_isKeptAfter_1 16 rfl rfl)
theorem dX0_isKeptAfter_37 : decode cX0_isKeptAfter 37 = .ok (.iconst 1, 1) := dk_4 (dk_at dksX0_isKeptAfter_1 17 rfl rfl)
theorem dX0_isKeptAfter_38 : decode cX0_isKeptAfter 38 = .ok (.aload_n 3, 1) := dk_45 (dk_at dksX0_isKeptAfter_1 18 rfl rfl)
theorem dX0_isKeptAfter_39 : decode cX0_isKeptAfter 39 = .ok (.getfield 401, 3) := dk_180 1 145 (dk_at dksX0_isKeptAfter_1 19 rfl rfl)
theorem dX0_isKeptAfter_42 : decode cX0_isKeptAfter 42 = .ok (.ishl, 1) := dk_120 (dk_at dksX0_isKeptAfter_1 22 rfl rfl)
theorem dX0_isKeptAfter_43 : decode cX0_isKeptAfter 43 = .ok (.iconst 1, 1) := dk_4 (dk_at dksX0_isKeptAfter_1 23 rfl rfl)
theorem dX0_isKeptAfter_44 : decode cX0_isKeptAfter 44 = .ok (.aload_n 3, 1) := dk_45 (dk_at dksX0_isKeptAfter_2 0 rfl rfl)
theorem dX0_isKeptAfter_45 : decode cX0_isKeptAfter 45 = .ok (.getfield 404, 3) := dk_180 1 148 (dk_at dksX0_isKeptAfter_2 1 rfl rfl)
theorem dX0_isKeptAfter_48 : decode cX0_isKeptAfter 48 = .ok (.ishl, 1) := dk_120 (dk_at dksX0_isKeptAfter_2 4 rfl rfl)
theorem dX0_isKeptAfter_49 : decode cX0_isKeptAfter 49 = .ok (.ior, 1) := dk_128 (dk_at dksX0_isKeptAfter_2 5 rfl rfl)
theorem dX0_isKeptAfter_50 : decode cX0_isKeptAfter 50 = .ok (.iand, 1) := dk_126 (dk_at dksX0_isKeptAfter_2 6 rfl rfl)
theorem dX0_isKeptAfter_51 : decode cX0_isKeptAfter 51 = .ok (.ifCond .eq 34, 3) := dk_153 0 34 (dk_at dksX0_isKeptAfter_2 7 rfl rfl)
theorem dX0_isKeptAfter_54 : decode cX0_isKeptAfter 54 = .ok (.aload_n 3, 1) := dk_45 (dk_at dksX0_isKeptAfter_2 10 rfl rfl)
theorem dX0_isKeptAfter_55 : decode cX0_isKeptAfter 55 = .ok (.getfield 419, 3) := dk_180 1 163 (dk_at dksX0_isKeptAfter_2 11 rfl rfl)
theorem dX0_isKeptAfter_58 : decode cX0_isKeptAfter 58 = .ok (.aload_n 0, 1) := dk_42 (dk_at dksX0_isKeptAfter_2 14 rfl rfl)
theorem dX0_isKeptAfter_59 : decode cX0_isKeptAfter 59 = .ok (.getfield 78, 3) := dk_180 0 78 (dk_at dksX0_isKeptAfter_2 15 rfl rfl)
theorem dX0_isKeptAfter_62 : decode cX0_isKeptAfter 62 = .ok (.aload_n 3, 1) := dk_45 (dk_at dksX0_isKeptAfter_2 18 rfl rfl)
theorem dX0_isKeptAfter_63 : decode cX0_isKeptAfter 63 = .ok (.getfield 401, 3) := dk_180 1 145 (dk_at dksX0_isKeptAfter_2 19 rfl rfl)
theorem dX0_isKeptAfter_66 : decode cX0_isKeptAfter 66 = .ok (.iaload, 1) := dk_46 (dk_at dksX0_isKeptAfter_2 22 rfl rfl)
theorem dX0_isKeptAfter_67 : decode cX0_isKeptAfter 67 = .ok (.laload, 1) := dk_47 (dk_at dksX0_isKeptAfter_2 23 rfl rfl)
theorem dX0_isKeptAfter_68 : decode cX0_isKeptAfter 68 = .ok (.aload_n 0, 1) := dk_42 (dk_at dksX0_isKeptAfter_3 0 rfl rfl)
theorem dX0_isKeptAfter_69 : decode cX0_isKeptAfter 69 = .ok (.getfield 78, 3) := dk_180 0 78 (dk_at dksX0_isKeptAfter_3 1 rfl rfl)
theorem dX0_isKeptAfter_72 : decode cX0_isKeptAfter 72 = .ok (.aload_n 3, 1) := dk_45 (dk_at dksX0_isKeptAfter_3 4 rfl rfl)
theorem dX0_isKeptAfter_73 : decode cX0_isKeptAfter 73 = .ok (.getfield 404, 3) := dk_180 1 148 (dk_at dksX0_isKeptAfter_3 5 rfl rfl)
theorem dX0_isKeptAfter_76 : decode cX0_isKeptAfter 76 = .ok (.iaload, 1) := dk_46 (dk_at dksX0_isKeptAfter_3 8 rfl rfl)
theorem dX0_isKeptAfter_77 : decode cX0_isKeptAfter 77 = .ok (.invokestatic 161, 3) := dk_184 0 161 (dk_at dksX0_isKeptAfter_3 9 rfl rfl)
theorem dX0_isKeptAfter_80 : decode cX0_isKeptAfter 80 = .ok (.ifCond .ne 5, 3) := dk_154 0 5 (dk_at dksX0_isKeptAfter_3 12 rfl rfl)
theorem dX0_isKeptAfter_83 : decode cX0_isKeptAfter 83 = .ok (.iconst 0, 1) := dk_3 (dk_at dksX0_isKeptAfter_3 15 rfl rfl)
theorem dX0_isKeptAfter_84 : decode cX0_isKeptAfter 84 = .ok (.ireturn, 1) := dk_172 (dk_at dksX0_isKeptAfter_3 16 rfl rfl)
theorem dX0_isKeptAfter_85 : decode cX0_isKeptAfter 85 = .ok (.iinc 2 1, 3) := dk_132 2 1 (dk_at dksX0_isKeptAfter_3 17 rfl rfl)
theorem dX0_isKeptAfter_88 : decode cX0_isKeptAfter 88 = .ok (.goto (-86), 3) := dk_167 255 170 (dk_at dksX0_isKeptAfter_3 20 rfl rfl)
theorem dX0_isKeptAfter_91 : decode cX0_isKeptAfter 91 = .ok (.iconst 0, 1) := dk_3 (dk_at dksX0_isKeptAfter_3 23 rfl rfl)
theorem dX0_isKeptAfter_92 : decode cX0_isKeptAfter 92 = .ok (.istore_n 2, 1) := dk_61 (dk_at dksX0_isKeptAfter_4 0 rfl rfl)
theorem dX0_isKeptAfter_93 : decode cX0_isKeptAfter 93 = .ok (.iload_n 2, 1) := dk_28 (dk_at dksX0_isKeptAfter_4 1 rfl rfl)
theorem dX0_isKeptAfter_94 : decode cX0_isKeptAfter 94 = .ok (.aload_n 0, 1) := dk_42 (dk_at dksX0_isKeptAfter_4 2 rfl rfl)
theorem dX0_isKeptAfter_95 : decode cX0_isKeptAfter 95 = .ok (.getfield 25, 3) := dk_180 0 25 (dk_at dksX0_isKeptAfter_4 3 rfl rfl)
theorem dX0_isKeptAfter_98 : decode cX0_isKeptAfter 98 = .ok (.invokeinterface 180 1, 5) := by decide +kernel
theorem dX0_isKeptAfter_103 : decode cX0_isKeptAfter 103 = .ok (.if_icmp .ge 68, 3) := dk_162 0 68 (dk_at dksX0_isKeptAfter_4 11 rfl rfl)
theorem dX0_isKeptAfter_106 : decode cX0_isKeptAfter 106 = .ok (.aload_n 0, 1) := dk_42 (dk_at dksX0_isKeptAfter_4 14 rfl rfl)
theorem dX0_isKeptAfter_107 : decode cX0_isKeptAfter 107 = .ok (.getfield 207, 3) := dk_180 0 207 (dk_at dksX0_isKeptAfter_4 15 rfl rfl)
theorem dX0_isKeptAfter_110 : decode cX0_isKeptAfter 110 = .ok (.ifCond .eq 61, 3) := dk_153 0 61 (dk_at dksX0_isKeptAfter_4 18 rfl rfl)
theorem dX0_isKeptAfter_113 : decode cX0_isKeptAfter 113 = .ok (.iconst 0, 1) := dk_3 (dk_at dksX0_isKeptAfter_4 21 rfl rfl)
theorem dX0_isKeptAfter_114 : decode cX0_isKeptAfter 114 = .ok (.istore_n 3, 1) := dk_62 (dk_at dksX0_isKeptAfter_4 22 rfl rfl)
theorem dX0_isKeptAfter_115 : decode cX0_isKeptAfter 115 = .ok (.iload_n 3, 1) := dk_29 (dk_at dksX0_isKeptAfter_4 23 rfl rfl)
theorem dX0_isKeptAfter_116 : decode cX0_isKeptAfter 116 = .ok (.aload_n 0, 1) := dk_42 (dk_at dksX0_isKeptAfter_5 0 rfl rfl)
theorem dX0_isKeptAfter_117 : decode cX0_isKeptAfter 117 = .ok (.getfield 25, 3) := dk_180 0 25 (dk_at dksX0_isKeptAfter_5 1 rfl rfl)
theorem dX0_isKeptAfter_120 : decode cX0_isKeptAfter 120 = .ok (.invokeinterface 180 1, 5) := by decide +kernel
theorem dX0_isKeptAfter_125 : decode cX0_isKeptAfter 125 = .ok (.if_icmp .ge 40, 3) := dk_162 0 40 (dk_at dksX0_isKeptAfter_5 9 rfl rfl)
theorem dX0_isKeptAfter_128 : decode cX0_isKeptAfter 128 = .ok (.iload_n 3, 1) := dk_29 (dk_at dksX0_isKeptAfter_5 12 rfl rfl)
theorem dX0_isKeptAfter_129 : decode cX0_isKeptAfter 129 = .ok (.iload_n 2, 1) := dk_28 (dk_at dksX0_isKeptAfter_5 13 rfl rfl)
theorem dX0_isKeptAfter_130 : decode cX0_isKeptAfter 130 = .ok (.if_icmp .eq 29, 3) := dk_159 0 29 (dk_at dksX0_isKeptAfter_5 14 rfl rfl)
theorem dX0_isKeptAfter_133 : decode cX0_isKeptAfter 133 = .ok (.iload_n 1, 1) := dk_27 (dk_at dksX0_isKeptAfter_5 17 rfl rfl)
theorem dX0_isKeptAfter_134 : decode cX0_isKeptAfter 134 = .ok (.iload_n 2, 1) := dk_28 (dk_at dksX0_isKeptAfter_5 18 rfl rfl)
theorem dX0_isKeptAfter_135 : decode cX0_isKeptAfter 135 = .ok (.ishr, 1) := dk_122 (dk_at dksX0_isKeptAfter_5 19 rfl rfl)
theorem dX0_isKeptAfter_136 : decode cX0_isKeptAfter 136 = .ok (.iconst 1, 1) := dk_4 (dk_at dksX0_isKeptAfter_5 20 rfl rfl)
theorem dX0_isKeptAfter_137 : decode cX0_isKeptAfter 137 = .ok (.iand, 1) := dk_126 (dk_at dksX0_isKeptAfter_5 21 rfl rfl)
theorem dX0_isKeptAfter_138 : decode cX0_isKeptAfter 138 = .ok (.iconst 1, 1) := dk_4 (dk_at dksX0_isKeptAfter_5 22 rfl rfl)
theorem dX0_isKeptAfter_139 : decode cX0_isKeptAfter 139 = .ok (.if_icmp .ne 20, 3) := dk_160 0 20 (dk_at dksX0_isKeptAfter_6 0 rfl rfl)
theorem dX0_isKeptAfter_142 : decode cX0_isKeptAfter 142 = .ok (.aload_n 0, 1) := dk_42 (dk_at dksX0_isKeptAfter_6 3 rfl rfl)
theorem dX0_isKeptAfter_143 : decode cX0_isKeptAfter 143 = .ok (.getfield 78, 3) := dk_180 0 78 (dk_at dksX0_isKeptAfter_6 4 rfl rfl)
theorem dX0_isKeptAfter_146 : decode cX0_isKeptAfter 146 = .ok (.iload_n 3, 1) := dk_29 (dk_at dksX0_isKeptAfter_6 7 rfl rfl)
theorem dX0_isKeptAfter_147 : decode cX0_isKeptAfter 147 = .ok (.iaload, 1) := dk_46 (dk_at dksX0_isKeptAfter_6 8 rfl rfl)
theorem dX0_isKeptAfter_148 : decode cX0_isKeptAfter 148 = .ok (.aload_n 0, 1) := dk_42 (dk_at dksX0_isKeptAfter_6 9 rfl rfl)
theorem dX0_isKeptAfter_149 : decode cX0_isKeptAfter 149 = .ok (.getfield 78, 3) := dk_180 0 78 (dk_at dksX0_isKeptAfter_6 10 rfl rfl)
theorem dX0_isKeptAfter_152 : decode cX0_isKeptAfter 152 = .ok (.iload_n 2, 1) := dk_28 (dk_at dksX0_isKeptAfter_6 13 rfl rfl)
theorem dX0_isKeptAfter_153 : decode cX0_isKeptAfter 153 = .ok (.iaload, 1) := dk_46 (dk_at dksX0_isKeptAfter_6 14 rfl rfl)
theorem dX0_isKeptAfter_154 : decode cX0_isKeptAfter 154 = .ok (.if_icmp .ne 5, 3) := dk_160 0 5 (dk_at dksX0_isKeptAfter_6 15 rfl rfl)
theorem dX0_isKeptAfter_157 : decode cX0_isKeptAfter 157 = .ok (.iconst 0, 1) := dk_3 (dk_at dksX0_isKeptAfter_6 18 rfl rfl)
theorem dX0_isKeptAfter_158 : decode cX0_isKeptAfter 158 = .ok (.ireturn, 1) := dk_172 (dk_at dksX0_isKeptAfter_6 19 rfl rfl)
theorem dX0_isKeptAfter_159 : decode cX0_isKeptAfter 159 = .ok (.iinc 3 1, 3) := dk_132 3 1 (dk_at dksX0_isKeptAfter_6 20 rfl rfl)
theorem dX0_isKeptAfter_162 : decode cX0_isKeptAfter 162 = .ok (.goto (-47), 3) := dk_167 255 209 (dk_at dksX0_isKeptAfter_7 0 rfl rfl)
theorem dX0_isKeptAfter_165 : decode cX0_isKeptAfter 165 = .ok (.iinc 2 1, 3) := dk_132 2 1 (dk_at dksX0_isKeptAfter_7 3 rfl rfl)
theorem dX0_isKeptAfter_168 : decode cX0_isKeptAfter 168 = .ok (.goto (-75), 3) := dk_167 255 181 (dk_at dksX0_isKeptAfter_7 6 rfl rfl)
theorem dX0_isKeptAfter_171 : decode cX0_isKeptAfter 171 = .ok (.iconst 1, 1) := dk_4 (dk_at dksX0_isKeptAfter_7 9 rfl rfl)
theorem dX0_isKeptAfter_172 : decode cX0_isKeptAfter 172 = .ok (.ireturn, 1) := dk_172 (dk_at dksX0_isKeptAfter_7 10 rfl rfl)
abbrev cX0_flip : ByteArray := prog_1_method_100_code
def yX0_flip : MethodName := ⟨RX0, "flip", "(III)I"⟩
def dkwX0_flip_2 : List UInt8 := [180, 2, 75, 167, 0, 17, 29, 6, 160, 0, 10, 42, 180, 2, 78, 167, 0, 5, 16, 254, 172]
abbrev dktX0_flip_2 : List UInt8 := dkwX0_flip_2 ++ []
def dkwX0_flip_1 : List UInt8 := [180, 2, 69, 167, 0, 41, 29, 4, 160, 0, 10, 42, 180, 2, 72, 167, 0, 29, 29, 5, 160, 0, 10, 42]
abbrev dktX0_flip_1 : List UInt8 := dkwX0_flip_1 ++ dktX0_flip_2
def dkwX0_flip_0 : List UInt8 := [42, 27, 28, 182, 2, 100, 54, 4, 21, 4, 4, 159, 0, 6, 21, 4, 172, 29, 154, 0, 10, 42]
abbrev dktX0_flip_0 : List UInt8 := dkwX0_flip_0 ++ dktX0_flip_1
theorem dksX0_flip_0 : cX0_flip.data.toList.drop 0 = dktX0_flip_0 := by decide +kernel
theorem dksX0_flip_1 : cX0_flip.data.toList.drop 22 = dktX0_flip_1 := dk_seg dksX0_flip_0 22 rfl rfl
theorem dksX0_flip_2 : cX0_flip.data.toList.drop 46 = dktX0_flip_2 := dk_seg dksX0_flip_1 24 rfl rfl
theorem dX0_flip_0 : decode cX0_flip 0 = .ok (.aload_n 0, 1) := dk_42 (dk_at dksX0_flip_0 0 rfl rfl)
theorem dX0_flip_1 : decode cX0_flip 1 = .ok (.iload_n 1, 1) := dk_27 (dk_at dksX0_flip_0 1 rfl rfl)
theorem dX0_flip_2 : decode cX0_flip 2 = .ok (.iload_n 2, 1) := dk_28 (dk_at dksX0_flip_0 2 rfl rfl)
theorem dX0_flip_3 : decode cX0_flip 3 = .ok (.invokevirtual 612, 3) := dk_182 2 100 (dk_at dksX0_flip_0 3 rfl rfl)
theorem dX0_flip_6 : decode cX0_flip 6 = .ok (.istore 4, 2) := dk_54 4 (dk_at dksX0_flip_0 6 rfl rfl)
theorem dX0_flip_8 : decode cX0_flip 8 = .ok (.iload 4, 2) := dk_21 4 (dk_at dksX0_flip_0 8 rfl rfl)
theorem dX0_flip_10 : decode cX0_flip 10 = .ok (.iconst 1, 1) := dk_4 (dk_at dksX0_flip_0 10 rfl rfl)
theorem dX0_flip_11 : decode cX0_flip 11 = .ok (.if_icmp .eq 6, 3) := dk_159 0 6 (dk_at dksX0_flip_0 11 rfl rfl)
theorem dX0_flip_14 : decode cX0_flip 14 = .ok (.iload 4, 2) := dk_21 4 (dk_at dksX0_flip_0 14 rfl rfl)
theorem dX0_flip_16 : decode cX0_flip 16 = .ok (.ireturn, 1) := dk_172 (dk_at dksX0_flip_0 16 rfl rfl)
theorem dX0_flip_17 : decode cX0_flip 17 = .ok (.iload_n 3, 1) := dk_29 (dk_at dksX0_flip_0 17 rfl rfl)
theorem dX0_flip_18 : decode cX0_flip 18 = .ok (.ifCond .ne 10, 3) := dk_154 0 10 (dk_at dksX0_flip_0 18 rfl rfl)
theorem dX0_flip_21 : decode cX0_flip 21 = .ok (.aload_n 0, 1) := dk_42 (dk_at dksX0_flip_0 21 rfl rfl)
theorem dX0_flip_22 : decode cX0_flip 22 = .ok (.getfield 581, 3) := dk_180 2 69 (dk_at dksX0_flip_1 0 rfl rfl)
theorem dX0_flip_25 : decode cX0_flip 25 = .ok (.goto 41, 3) := dk_167 0 41 (dk_at dksX0_flip_1 3 rfl rfl)
theorem dX0_flip_28 : decode cX0_flip 28 = .ok (.iload_n 3, 1) := dk_29 (dk_at dksX0_flip_1 6 rfl rfl)
theorem dX0_flip_29 : decode cX0_flip 29 = .ok (.iconst 1, 1) := dk_4 (dk_at dksX0_flip_1 7 rfl rfl)
theorem dX0_flip_30 : decode cX0_flip 30 = .ok (.if_icmp .ne 10, 3) := dk_160 0 10 (dk_at dksX0_flip_1 8 rfl rfl)
theorem dX0_flip_33 : decode cX0_flip 33 = .ok (.aload_n 0, 1) := dk_42 (dk_at dksX0_flip_1 11 rfl rfl)
theorem dX0_flip_34 : decode cX0_flip 34 = .ok (.getfield 584, 3) := dk_180 2 72 (dk_at dksX0_flip_1 12 rfl rfl)
theorem dX0_flip_37 : decode cX0_flip 37 = .ok (.goto 29, 3) := dk_167 0 29 (dk_at dksX0_flip_1 15 rfl rfl)
theorem dX0_flip_40 : decode cX0_flip 40 = .ok (.iload_n 3, 1) := dk_29 (dk_at dksX0_flip_1 18 rfl rfl)
theorem dX0_flip_41 : decode cX0_flip 41 = .ok (.iconst 2, 1) := dk_5 (dk_at dksX0_flip_1 19 rfl rfl)
theorem dX0_flip_42 : decode cX0_flip 42 = .ok (.if_icmp .ne 10, 3) := dk_160 0 10 (dk_at dksX0_flip_1 20 rfl rfl)
theorem dX0_flip_45 : decode cX0_flip 45 = .ok (.aload_n 0, 1) := dk_42 (dk_at dksX0_flip_1 23 rfl rfl)
theorem dX0_flip_46 : decode cX0_flip 46 = .ok (.getfield 587, 3) := dk_180 2 75 (dk_at dksX0_flip_2 0 rfl rfl)
theorem dX0_flip_49 : decode cX0_flip 49 = .ok (.goto 17, 3) := dk_167 0 17 (dk_at dksX0_flip_2 3 rfl rfl)
theorem dX0_flip_52 : decode cX0_flip 52 = .ok (.iload_n 3, 1) := dk_29 (dk_at dksX0_flip_2 6 rfl rfl)
theorem dX0_flip_53 : decode cX0_flip 53 = .ok (.iconst 3, 1) := dk_6 (dk_at dksX0_flip_2 7 rfl rfl)
theorem dX0_flip_54 : decode cX0_flip 54 = .ok (.if_icmp .ne 10, 3) := dk_160 0 10 (dk_at dksX0_flip_2 8 rfl rfl)
theorem dX0_flip_57 : decode cX0_flip 57 = .ok (.aload_n 0, 1) := dk_42 (dk_at dksX0_flip_2 11 rfl rfl)
theorem dX0_flip_58 : decode cX0_flip 58 = .ok (.getfield 590, 3) := dk_180 2 78 (dk_at dksX0_flip_2 12 rfl rfl)
theorem dX0_flip_61 : decode cX0_flip 61 = .ok (.goto 5, 3) := dk_167 0 5 (dk_at dksX0_flip_2 15 rfl rfl)
theorem dX0_flip_64 : decode cX0_flip 64 = .ok (.bipush (-2), 2) := dk_16 254 (dk_at dksX0_flip_2 18 rfl rfl)
theorem dX0_flip_66 : decode cX0_flip 66 = .ok (.ireturn, 1) := dk_172 (dk_at dksX0_flip_2 20 rfl rfl)
abbrev cX0_flipped : ByteArray := prog_1_method_101_code
def yX0_flipped : MethodName := ⟨RX0, "flipped", "(II)I"⟩
def dkwX0_flipped_4 : List UInt8 := [21, 6, 42, 180, 0, 78, 21, 6, 46, 79, 132, 6, 1, 167, 255, 193, 21, 5, 172]
abbrev dktX0_flipped_4 : List UInt8 := dkwX0_flipped_4 ++ []
def dkwX0_flipped_3 : List UInt8 := [46, 42, 180, 0, 69, 21, 6, 46, 159, 0, 7, 4, 167, 0, 4, 3, 96, 54, 5, 42, 180, 0, 69]
abbrev dktX0_flipped_3 : List UInt8 := dkwX0_flipped_3 ++ dktX0_flipped_4
def dkwX0_flipped_2 : List UInt8 := [180, 0, 25, 185, 0, 180, 1, 0, 162, 0, 55, 21, 5, 21, 4, 153, 0, 24, 42, 180, 0, 78, 21, 6]
abbrev dktX0_flipped_2 : List UInt8 := dkwX0_flipped_2 ++ dktX0_flipped_3
def dkwX0_flipped_1 : List UInt8 := [180, 0, 69, 42, 180, 2, 69, 46, 182, 2, 57, 54, 4, 3, 54, 5, 3, 54, 6, 21, 6, 42]
abbrev dktX0_flipped_1 : List UInt8 := dkwX0_flipped_1 ++ dktX0_flipped_2
def dkwX0_flipped_0 : List UInt8 := [42, 27, 28, 182, 2, 100, 62, 29, 4, 159, 0, 5, 29, 172, 42, 42, 180, 2, 78, 42, 180, 2, 75, 42]
abbrev dktX0_flipped_0 : List UInt8 := dkwX0_flipped_0 ++ dktX0_flipped_1
theorem dksX0_flipped_0 : cX0_flipped.data.toList.drop 0 = dktX0_flipped_0 := by decide +kernel
theorem dksX0_flipped_1 : cX0_flipped.data.toList.drop 24 = dktX0_flipped_1 := dk_seg dksX0_flipped_0 24 rfl rfl
theorem dksX0_flipped_2 : cX0_flipped.data.toList.drop 46 = dktX0_flipped_2 := dk_seg dksX0_flipped_1 22 rfl rfl
theorem dksX0_flipped_3 : cX0_flipped.data.toList.drop 70 = dktX0_flipped_3 := dk_seg dksX0_flipped_2 24 rfl rfl
theorem dksX0_flipped_4 : cX0_flipped.data.toList.drop 93 = dktX0_flipped_4 := dk_seg dksX0_flipped_3 23 rfl rfl
theorem dX0_flipped_0 : decode cX0_flipped 0 = .ok (.aload_n 0, 1) := dk_42 (dk_at dksX0_flipped_0 0 rfl rfl)
theorem dX0_flipped_1 : decode cX0_flipped 1 = .ok (.iload_n 1, 1) := dk_27 (dk_at dksX0_flipped_0 1 rfl rfl)
theorem dX0_flipped_2 : decode cX0_flipped 2 = .ok (.iload_n 2, 1) := dk_28 (dk_at dksX0_flipped_0 2 rfl rfl)
theorem dX0_flipped_3 : decode cX0_flipped 3 = .ok (.invokevirtual 612, 3) := dk_182 2 100 (dk_at dksX0_flipped_0 3 rfl rfl)
theorem dX0_flipped_6 : decode cX0_flipped 6 = .ok (.istore_n 3, 1) := dk_62 (dk_at dksX0_flipped_0 6 rfl rfl)
theorem dX0_flipped_7 : decode cX0_flipped 7 = .ok (.iload_n 3, 1) := dk_29 (dk_at dksX0_flipped_0 7 rfl rfl)
theorem dX0_flipped_8 : decode cX0_flipped 8 = .ok (.iconst 1, 1) := dk_4 (dk_at dksX0_flipped_0 8 rfl rfl)
theorem dX0_flipped_9 : decode cX0_flipped 9 = .ok (.if_icmp .eq 5, 3) := dk_159 0 5 (dk_at dksX0_flipped_0 9 rfl rfl)
theorem dX0_flipped_12 : decode cX0_flipped 12 = .ok (.iload_n 3, 1) := dk_29 (dk_at dksX0_flipped_0 12 rfl rfl)
theorem dX0_flipped_13 : decode cX0_flipped 13 = .ok (.ireturn, 1) := dk_172 (dk_at dksX0_flipped_0 13 rfl rfl)
theorem dX0_flipped_14 : decode cX0_flipped 14 = .ok (.aload_n 0, 1) := dk_42 (dk_at dksX0_flipped_0 14 rfl rfl)
theorem dX0_flipped_15 : decode cX0_flipped 15 = .ok (.aload_n 0, 1) := dk_42 (dk_at dksX0_flipped_0 15 rfl rfl)
theorem dX0_flipped_16 : decode cX0_flipped 16 = .ok (.getfield 590, 3) := dk_180 2 78 (dk_at dksX0_flipped_0 16 rfl rfl)
theorem dX0_flipped_19 : decode cX0_flipped 19 = .ok (.aload_n 0, 1) := dk_42 (dk_at dksX0_flipped_0 19 rfl rfl)
theorem dX0_flipped_20 : decode cX0_flipped 20 = .ok (.getfield 587, 3) := dk_180 2 75 (dk_at dksX0_flipped_0 20 rfl rfl)
theorem dX0_flipped_23 : decode cX0_flipped 23 = .ok (.aload_n 0, 1) := dk_42 (dk_at dksX0_flipped_0 23 rfl rfl)
theorem dX0_flipped_24 : decode cX0_flipped 24 = .ok (.getfield 69, 3) := dk_180 0 69 (dk_at dksX0_flipped_1 0 rfl rfl)
theorem dX0_flipped_27 : decode cX0_flipped 27 = .ok (.aload_n 0, 1) := dk_42 (dk_at dksX0_flipped_1 3 rfl rfl)
theorem dX0_flipped_28 : decode cX0_flipped 28 = .ok (.getfield 581, 3) := dk_180 2 69 (dk_at dksX0_flipped_1 4 rfl rfl)
theorem dX0_flipped_31 : decode cX0_flipped 31 = .ok (.iaload, 1) := dk_46 (dk_at dksX0_flipped_1 7 rfl rfl)
theorem dX0_flipped_32 : decode cX0_flipped 32 = .ok (.invokevirtual 569, 3) := dk_182 2 57 (dk_at dksX0_flipped_1 8 rfl rfl)
theorem dX0_flipped_35 : decode cX0_flipped 35 = .ok (.istore 4, 2) := dk_54 4 (dk_at dksX0_flipped_1 11 rfl rfl)
theorem dX0_flipped_37 : decode cX0_flipped 37 = .ok (.iconst 0, 1) := dk_3 (dk_at dksX0_flipped_1 13 rfl rfl)
theorem dX0_flipped_38 : decode cX0_flipped 38 = .ok (.istore 5, 2) := dk_54 5 (dk_at dksX0_flipped_1 14 rfl rfl)
theorem dX0_flipped_40 : decode cX0_flipped 40 = .ok (.iconst 0, 1) := dk_3 (dk_at dksX0_flipped_1 16 rfl rfl)
theorem dX0_flipped_41 : decode cX0_flipped 41 = .ok (.istore 6, 2) := dk_54 6 (dk_at dksX0_flipped_1 17 rfl rfl)
theorem dX0_flipped_43 : decode cX0_flipped 43 = .ok (.iload 6, 2) := dk_21 6 (dk_at dksX0_flipped_1 19 rfl rfl)
theorem dX0_flipped_45 : decode cX0_flipped 45 = .ok (.aload_n 0, 1) := dk_42 (dk_at dksX0_flipped_1 21 rfl rfl)
theorem dX0_flipped_46 : decode cX0_flipped 46 = .ok (.getfield 25, 3) := dk_180 0 25 (dk_at dksX0_flipped_2 0 rfl rfl)
theorem dX0_flipped_49 : decode cX0_flipped 49 = .ok (.invokeinterface 180 1, 5) := by decide +kernel
theorem dX0_flipped_54 : decode cX0_flipped 54 = .ok (.if_icmp .ge 55, 3) := dk_162 0 55 (dk_at dksX0_flipped_2 8 rfl rfl)
theorem dX0_flipped_57 : decode cX0_flipped 57 = .ok (.iload 5, 2) := dk_21 5 (dk_at dksX0_flipped_2 11 rfl rfl)
theorem dX0_flipped_59 : decode cX0_flipped 59 = .ok (.iload 4, 2) := dk_21 4 (dk_at dksX0_flipped_2 13 rfl rfl)
theorem dX0_flipped_61 : decode cX0_flipped 61 = .ok (.ifCond .eq 24, 3) := dk_153 0 24 (dk_at dksX0_flipped_2 15 rfl rfl)
theorem dX0_flipped_64 : decode cX0_flipped 64 = .ok (.aload_n 0, 1) := dk_42 (dk_at dksX0_flipped_2 18 rfl rfl)
theorem dX0_flipped_65 : decode cX0_flipped 65 = .ok (.getfield 78, 3) := dk_180 0 78 (dk_at dksX0_flipped_2 19 rfl rfl)
theorem dX0_flipped_68 : decode cX0_flipped 68 = .ok (.iload 6, 2) := dk_21 6 (dk_at dksX0_flipped_2 22 rfl rfl)
theorem dX0_flipped_70 : decode cX0_flipped 70 = .ok (.iaload, 1) := dk_46 (dk_at dksX0_flipped_3 0 rfl rfl)
theorem dX0_flipped_71 : decode cX0_flipped 71 = .ok (.aload_n 0, 1) := dk_42 (dk_at dksX0_flipped_3 1 rfl rfl)
theorem dX0_flipped_72 : decode cX0_flipped 72 = .ok (.getfield 69, 3) := dk_180 0 69 (dk_at dksX0_flipped_3 2 rfl rfl)
theorem dX0_flipped_75 : decode cX0_flipped 75 = .ok (.iload 6, 2) := dk_21 6 (dk_at dksX0_flipped_3 5 rfl rfl)
theorem dX0_flipped_77 : decode cX0_flipped 77 = .ok (.iaload, 1) := dk_46 (dk_at dksX0_flipped_3 7 rfl rfl)
theorem dX0_flipped_78 : decode cX0_flipped 78 = .ok (.if_icmp .eq 7, 3) := dk_159 0 7 (dk_at dksX0_flipped_3 8 rfl rfl)
theorem dX0_flipped_81 : decode cX0_flipped 81 = .ok (.iconst 1, 1) := dk_4 (dk_at dksX0_flipped_3 11 rfl rfl)
theorem dX0_flipped_82 : decode cX0_flipped 82 = .ok (.goto 4, 3) := dk_167 0 4 (dk_at dksX0_flipped_3 12 rfl rfl)
theorem dX0_flipped_85 : decode cX0_flipped 85 = .ok (.iconst 0, 1) := dk_3 (dk_at dksX0_flipped_3 15 rfl rfl)
theorem dX0_flipped_86 : decode cX0_flipped 86 = .ok (.iadd, 1) := dk_96 (dk_at dksX0_flipped_3 16 rfl rfl)
theorem dX0_flipped_87 : decode cX0_flipped 87 = .ok (.istore 5, 2) := dk_54 5 (dk_at dksX0_flipped_3 17 rfl rfl)
theorem dX0_flipped_89 : decode cX0_flipped 89 = .ok (.aload_n 0, 1) := dk_42 (dk_at dksX0_flipped_3 19 rfl rfl)
theorem dX0_flipped_90 : decode cX0_flipped 90 = .ok (.getfield 69, 3) := dk_180 0 69 (dk_at dksX0_flipped_3 20 rfl rfl)
theorem dX0_flipped_93 : decode cX0_flipped 93 = .ok (.iload 6, 2) := dk_21 6 (dk_at dksX0_flipped_4 0 rfl rfl)
theorem dX0_flipped_95 : decode cX0_flipped 95 = .ok (.aload_n 0, 1) := dk_42 (dk_at dksX0_flipped_4 2 rfl rfl)
theorem dX0_flipped_96 : decode cX0_flipped 96 = .ok (.getfield 78, 3) := dk_180 0 78 (dk_at dksX0_flipped_4 3 rfl rfl)
theorem dX0_flipped_99 : decode cX0_flipped 99 = .ok (.iload 6, 2) := dk_21 6 (dk_at dksX0_flipped_4 6 rfl rfl)
theorem dX0_flipped_101 : decode cX0_flipped 101 = .ok (.iaload, 1) := dk_46 (dk_at dksX0_flipped_4 8 rfl rfl)
theorem dX0_flipped_102 : decode cX0_flipped 102 = .ok (.iastore, 1) := dk_79 (dk_at dksX0_flipped_4 9 rfl rfl)
theorem dX0_flipped_103 : decode cX0_flipped 103 = .ok (.iinc 6 1, 3) := dk_132 6 1 (dk_at dksX0_flipped_4 10 rfl rfl)
theorem dX0_flipped_106 : decode cX0_flipped 106 = .ok (.goto (-63), 3) := dk_167 255 193 (dk_at dksX0_flipped_4 13 rfl rfl)
theorem dX0_flipped_109 : decode cX0_flipped 109 = .ok (.iload 5, 2) := dk_21 5 (dk_at dksX0_flipped_4 16 rfl rfl)
theorem dX0_flipped_111 : decode cX0_flipped 111 = .ok (.ireturn, 1) := dk_172 (dk_at dksX0_flipped_4 18 rfl rfl)
abbrev cX0_mover : ByteArray := prog_1_method_102_code
def yX0_mover : MethodName := ⟨RX0, "mover", "(II)I"⟩
def dkwX0_mover_8 : List UInt8 := [180, 0, 204, 4, 96, 181, 0, 204, 42, 180, 0, 204, 4, 100, 172]
abbrev dktX0_mover_8 : List UInt8 := dkwX0_mover_8 ++ []
def dkwX0_mover_7 : List UInt8 := [21, 4, 96, 4, 100, 29, 21, 4, 96, 3, 28, 182, 1, 115, 87, 132, 4, 1, 167, 255, 229, 42, 89]
abbrev dktX0_mover_7 : List UInt8 := dkwX0_mover_7 ++ dktX0_mover_8
def dkwX0_mover_6 : List UInt8 := [185, 1, 14, 2, 0, 87, 132, 4, 1, 167, 255, 219, 4, 54, 4, 21, 4, 27, 162, 0, 27, 42, 4, 29]
abbrev dktX0_mover_6 : List UInt8 := dkwX0_mover_6 ++ dktX0_mover_7
def dkwX0_mover_5 : List UInt8 := [42, 180, 0, 25, 187, 0, 190, 89, 42, 29, 21, 4, 96, 42, 180, 0, 204, 21, 4, 183, 1, 20]
abbrev dktX0_mover_5 : List UInt8 := dkwX0_mover_5 ++ dktX0_mover_6
def dkwX0_mover_4 : List UInt8 := [180, 0, 204, 27, 79, 42, 180, 0, 87, 42, 180, 0, 204, 28, 79, 3, 54, 4, 21, 4, 27, 162, 0, 37]
abbrev dktX0_mover_4 : List UInt8 := dkwX0_mover_4 ++ dktX0_mover_5
def dkwX0_mover_3 : List UInt8 := [180, 0, 25, 185, 0, 180, 1, 0, 62, 42, 180, 0, 81, 42, 180, 0, 204, 29, 79, 42, 180, 0, 84, 42]
abbrev dktX0_mover_3 : List UInt8 := dkwX0_mover_3 ++ dktX0_mover_4
def dkwX0_mover_2 : List UInt8 := [42, 180, 0, 29, 185, 0, 180, 1, 0, 27, 96, 4, 100, 16, 60, 164, 0, 6, 16, 252, 172, 42]
abbrev dktX0_mover_2 : List UInt8 := dkwX0_mover_2 ++ dktX0_mover_3
def dkwX0_mover_1 : List UInt8 := [42, 180, 0, 204, 6, 159, 0, 37, 42, 180, 0, 25, 185, 0, 180, 1, 0, 27, 96, 16, 24, 163, 0, 21]
abbrev dktX0_mover_1 : List UInt8 := dkwX0_mover_1 ++ dktX0_mover_2
def dkwX0_mover_0 : List UInt8 := [27, 133, 20, 1, 18, 20, 0, 199, 184, 0, 130, 153, 0, 10, 28, 184, 1, 78, 154, 0, 6, 16, 254, 172]
abbrev dktX0_mover_0 : List UInt8 := dkwX0_mover_0 ++ dktX0_mover_1
theorem dksX0_mover_0 : cX0_mover.data.toList.drop 0 = dktX0_mover_0 := by decide +kernel
theorem dksX0_mover_1 : cX0_mover.data.toList.drop 24 = dktX0_mover_1 := dk_seg dksX0_mover_0 24 rfl rfl
theorem dksX0_mover_2 : cX0_mover.data.toList.drop 48 = dktX0_mover_2 := dk_seg dksX0_mover_1 24 rfl rfl
theorem dksX0_mover_3 : cX0_mover.data.toList.drop 70 = dktX0_mover_3 := dk_seg dksX0_mover_2 22 rfl rfl
theorem dksX0_mover_4 : cX0_mover.data.toList.drop 94 = dktX0_mover_4 := dk_seg dksX0_mover_3 24 rfl rfl
theorem dksX0_mover_5 : cX0_mover.data.toList.drop 118 = dktX0_mover_5 := dk_seg dksX0_mover_4 24 rfl rfl
theorem dksX0_mover_6 : cX0_mover.data.toList.drop 140 = dktX0_mover_6 := dk_seg dksX0_mover_5 22 rfl rfl
theorem dksX0_mover_7 : cX0_mover.data.toList.drop 164 = dktX0_mover_7 := dk_seg dksX0_mover_6 24 rfl rfl
theorem dksX0_mover_8 : cX0_mover.data.toList.drop 187 = dktX0_mover_8 := dk_seg dksX0_mover_7 23 rfl rfl
theorem dX0_mover_0 : decode cX0_mover 0 = .ok (.iload_n 1, 1) := dk_27 (dk_at dksX0_mover_0 0 rfl rfl)
theorem dX0_mover_1 : decode cX0_mover 1 = .ok (.i2l, 1) := dk_133 (dk_at dksX0_mover_0 1 rfl rfl)
theorem dX0_mover_2 : decode cX0_mover 2 = .ok (.ldc2_w 274, 3) := dk_20 1 18 (dk_at dksX0_mover_0 2 rfl rfl)
theorem dX0_mover_5 : decode cX0_mover 5 = .ok (.ldc2_w 199, 3) := dk_20 0 199 (dk_at dksX0_mover_0 5 rfl rfl)
theorem dX0_mover_8 : decode cX0_mover 8 = .ok (.invokestatic 130, 3) := dk_184 0 130 (dk_at dksX0_mover_0 8 rfl rfl)
theorem dX0_mover_11 : decode cX0_mover 11 = .ok (.ifCond .eq 10, 3) := dk_153 0 10 (dk_at dksX0_mover_0 11 rfl rfl)
theorem dX0_mover_14 : decode cX0_mover 14 = .ok (.iload_n 2, 1) := dk_28 (dk_at dksX0_mover_0 14 rfl rfl)
theorem dX0_mover_15 : decode cX0_mover 15 = .ok (.invokestatic 334, 3) := dk_184 1 78 (dk_at dksX0_mover_0 15 rfl rfl)
theorem dX0_mover_18 : decode cX0_mover 18 = .ok (.ifCond .ne 6, 3) := dk_154 0 6 (dk_at dksX0_mover_0 18 rfl rfl)
theorem dX0_mover_21 : decode cX0_mover 21 = .ok (.bipush (-2), 2) := dk_16 254 (dk_at dksX0_mover_0 21 rfl rfl)
theorem dX0_mover_23 : decode cX0_mover 23 = .ok (.ireturn, 1) := dk_172 (dk_at dksX0_mover_0 23 rfl rfl)
theorem dX0_mover_24 : decode cX0_mover 24 = .ok (.aload_n 0, 1) := dk_42 (dk_at dksX0_mover_1 0 rfl rfl)
theorem dX0_mover_25 : decode cX0_mover 25 = .ok (.getfield 204, 3) := dk_180 0 204 (dk_at dksX0_mover_1 1 rfl rfl)
theorem dX0_mover_28 : decode cX0_mover 28 = .ok (.iconst 3, 1) := dk_6 (dk_at dksX0_mover_1 4 rfl rfl)
theorem dX0_mover_29 : decode cX0_mover 29 = .ok (.if_icmp .eq 37, 3) := dk_159 0 37 (dk_at dksX0_mover_1 5 rfl rfl)
theorem dX0_mover_32 : decode cX0_mover 32 = .ok (.aload_n 0, 1) := dk_42 (dk_at dksX0_mover_1 8 rfl rfl)
theorem dX0_mover_33 : decode cX0_mover 33 = .ok (.getfield 25, 3) := dk_180 0 25 (dk_at dksX0_mover_1 9 rfl rfl)
theorem dX0_mover_36 : decode cX0_mover 36 = .ok (.invokeinterface 180 1, 5) := by decide +kernel
theorem dX0_mover_41 : decode cX0_mover 41 = .ok (.iload_n 1, 1) := dk_27 (dk_at dksX0_mover_1 17 rfl rfl)
theorem dX0_mover_42 : decode cX0_mover 42 = .ok (.iadd, 1) := dk_96 (dk_at dksX0_mover_1 18 rfl rfl)
theorem dX0_mover_43 : decode cX0_mover 43 = .ok (.bipush 24, 2) := dk_16 24 (dk_at dksX0_mover_1 19 rfl rfl)
theorem dX0_mover_45 : decode cX0_mover 45 = .ok (.if_icmp .gt 21, 3) := dk_163 0 21 (dk_at dksX0_mover_1 21 rfl rfl)
theorem dX0_mover_48 : decode cX0_mover 48 = .ok (.aload_n 0, 1) := dk_42 (dk_at dksX0_mover_2 0 rfl rfl)
theorem dX0_mover_49 : decode cX0_mover 49 = .ok (.getfield 29, 3) := dk_180 0 29 (dk_at dksX0_mover_2 1 rfl rfl)
theorem dX0_mover_52 : decode cX0_mover 52 = .ok (.invokeinterface 180 1, 5) := by decide +kernel
theorem dX0_mover_57 : decode cX0_mover 57 = .ok (.iload_n 1, 1) := dk_27 (dk_at dksX0_mover_2 9 rfl rfl)
theorem dX0_mover_58 : decode cX0_mover 58 = .ok (.iadd, 1) := dk_96 (dk_at dksX0_mover_2 10 rfl rfl)
theorem dX0_mover_59 : decode cX0_mover 59 = .ok (.iconst 1, 1) := dk_4 (dk_at dksX0_mover_2 11 rfl rfl)
theorem dX0_mover_60 : decode cX0_mover 60 = .ok (.isub, 1) := dk_100 (dk_at dksX0_mover_2 12 rfl rfl)
theorem dX0_mover_61 : decode cX0_mover 61 = .ok (.bipush 60, 2) := dk_16 60 (dk_at dksX0_mover_2 13 rfl rfl)
theorem dX0_mover_63 : decode cX0_mover 63 = .ok (.if_icmp .le 6, 3) := dk_164 0 6 (dk_at dksX0_mover_2 15 rfl rfl)
theorem dX0_mover_66 : decode cX0_mover 66 = .ok (.bipush (-4), 2) := dk_16 252 (dk_at dksX0_mover_2 18 rfl rfl)
theorem dX0_mover_68 : decode cX0_mover 68 = .ok (.ireturn, 1) := dk_172 (dk_at dksX0_mover_2 20 rfl rfl)
theorem dX0_mover_69 : decode cX0_mover 69 = .ok (.aload_n 0, 1) := dk_42 (dk_at dksX0_mover_2 21 rfl rfl)
theorem dX0_mover_70 : decode cX0_mover 70 = .ok (.getfield 25, 3) := dk_180 0 25 (dk_at dksX0_mover_3 0 rfl rfl)
theorem dX0_mover_73 : decode cX0_mover 73 = .ok (.invokeinterface 180 1, 5) := by decide +kernel
theorem dX0_mover_78 : decode cX0_mover 78 = .ok (.istore_n 3, 1) := dk_62 (dk_at dksX0_mover_3 8 rfl rfl)
theorem dX0_mover_79 : decode cX0_mover 79 = .ok (.aload_n 0, 1) := dk_42 (dk_at dksX0_mover_3 9 rfl rfl)
theorem dX0_mover_80 : decode cX0_mover 80 = .ok (.getfield 81, 3) := dk_180 0 81 (dk_at dksX0_mover_3 10 rfl rfl)
theorem dX0_mover_83 : decode cX0_mover 83 = .ok (.aload_n 0, 1) := dk_42 (dk_at dksX0_mover_3 13 rfl rfl)
theorem dX0_mover_84 : decode cX0_mover 84 = .ok (.getfield 204, 3) := dk_180 0 204 (dk_at dksX0_mover_3 14 rfl rfl)
theorem dX0_mover_87 : decode cX0_mover 87 = .ok (.iload_n 3, 1) := dk_29 (dk_at dksX0_mover_3 17 rfl rfl)
theorem dX0_mover_88 : decode cX0_mover 88 = .ok (.iastore, 1) := dk_79 (dk_at dksX0_mover_3 18 rfl rfl)
theorem dX0_mover_89 : decode cX0_mover 89 = .ok (.aload_n 0, 1) := dk_42 (dk_at dksX0_mover_3 19 rfl rfl)
theorem dX0_mover_90 : decode cX0_mover 90 = .ok (.getfield 84, 3) := dk_180 0 84 (dk_at dksX0_mover_3 20 rfl rfl)
theorem dX0_mover_93 : decode cX0_mover 93 = .ok (.aload_n 0, 1) := dk_42 (dk_at dksX0_mover_3 23 rfl rfl)
theorem dX0_mover_94 : decode cX0_mover 94 = .ok (.getfield 204, 3) := dk_180 0 204 (dk_at dksX0_mover_4 0 rfl rfl)
theorem dX0_mover_97 : decode cX0_mover 97 = .ok (.iload_n 1, 1) := dk_27 (dk_at dksX0_mover_4 3 rfl rfl)
theorem dX0_mover_98 : decode cX0_mover 98 = .ok (.iastore, 1) := dk_79 (dk_at dksX0_mover_4 4 rfl rfl)
theorem dX0_mover_99 : decode cX0_mover 99 = .ok (.aload_n 0, 1) := dk_42 (dk_at dksX0_mover_4 5 rfl rfl)
theorem dX0_mover_100 : decode cX0_mover 100 = .ok (.getfield 87, 3) := dk_180 0 87 (dk_at dksX0_mover_4 6 rfl rfl)
theorem dX0_mover_103 : decode cX0_mover 103 = .ok (.aload_n 0, 1) := dk_42 (dk_at dksX0_mover_4 9 rfl rfl)
theorem dX0_mover_104 : decode cX0_mover 104 = .ok (.getfield 204, 3) := dk_180 0 204 (dk_at dksX0_mover_4 10 rfl rfl)
theorem dX0_mover_107 : decode cX0_mover 107 = .ok (.iload_n 2, 1) := dk_28 (dk_at dksX0_mover_4 13 rfl rfl)
theorem dX0_mover_108 : decode cX0_mover 108 = .ok (.iastore, 1) := dk_79 (dk_at dksX0_mover_4 14 rfl rfl)
theorem dX0_mover_109 : decode cX0_mover 109 = .ok (.iconst 0, 1) := dk_3 (dk_at dksX0_mover_4 15 rfl rfl)
theorem dX0_mover_110 : decode cX0_mover 110 = .ok (.istore 4, 2) := dk_54 4 (dk_at dksX0_mover_4 16 rfl rfl)
theorem dX0_mover_112 : decode cX0_mover 112 = .ok (.iload 4, 2) := dk_21 4 (dk_at dksX0_mover_4 18 rfl rfl)
theorem dX0_mover_114 : decode cX0_mover 114 = .ok (.iload_n 1, 1) := dk_27 (dk_at dksX0_mover_4 20 rfl rfl)
theorem dX0_mover_115 : decode cX0_mover 115 = .ok (.if_icmp .ge 37, 3) := dk_162 0 37 (dk_at dksX0_mover_4 21 rfl rfl)
theorem dX0_mover_118 : decode cX0_mover 118 = .ok (.aload_n 0, 1) := dk_42 (dk_at dksX0_mover_5 0 rfl rfl)
theorem dX0_mover_119 : decode cX0_mover 119 = .ok (.getfield 25, 3) := dk_180 0 25 (dk_at dksX0_mover_5 1 rfl rfl)
theorem dX0_mover_122 : decode cX0_mover 122 = .ok (.new 190, 3) := dk_187 0 190 (dk_at dksX0_mover_5 4 rfl rfl)
theorem dX0_mover_125 : decode cX0_mover 125 = .ok (.dup, 1) := dk_89 (dk_at dksX0_mover_5 7 rfl rfl)
theorem dX0_mover_126 : decode cX0_mover 126 = .ok (.aload_n 0, 1) := dk_42 (dk_at dksX0_mover_5 8 rfl rfl)
theorem dX0_mover_127 : decode cX0_mover 127 = .ok (.iload_n 3, 1) := dk_29 (dk_at dksX0_mover_5 9 rfl rfl)
theorem dX0_mover_128 : decode cX0_mover 128 = .ok (.iload 4, 2) := dk_21 4 (dk_at dksX0_mover_5 10 rfl rfl)
theorem dX0_mover_130 : decode cX0_mover 130 = .ok (.iadd, 1) := dk_96 (dk_at dksX0_mover_5 12 rfl rfl)
theorem dX0_mover_131 : decode cX0_mover 131 = .ok (.aload_n 0, 1) := dk_42 (dk_at dksX0_mover_5 13 rfl rfl)
theorem dX0_mover_132 : decode cX0_mover 132 = .ok (.getfield 204, 3) := dk_180 0 204 (dk_at dksX0_mover_5 14 rfl rfl)
theorem dX0_mover_135 : decode cX0_mover 135 = .ok (.iload 4, 2) := dk_21 4 (dk_at dksX0_mover_5 17 rfl rfl)
theorem dX0_mover_137 : decode cX0_mover 137 = .ok (.invokespecial 276, 3) := dk_183 1 20 (dk_at dksX0_mover_5 19 rfl rfl)
theorem dX0_mover_140 : decode cX0_mover 140 = .ok (.invokeinterface 270 2, 5) := by decide +kernel
theorem dX0_mover_145 : decode cX0_mover 145 = .ok (.pop, 1) := dk_87 (dk_at dksX0_mover_6 5 rfl rfl)
theorem dX0_mover_146 : decode cX0_mover 146 = .ok (.iinc 4 1, 3) := dk_132 4 1 (dk_at dksX0_mover_6 6 rfl rfl)
theorem dX0_mover_149 : decode cX0_mover 149 = .ok (.goto (-37), 3) := dk_167 255 219 (dk_at dksX0_mover_6 9 rfl rfl)
theorem dX0_mover_152 : decode cX0_mover 152 = .ok (.iconst 1, 1) := dk_4 (dk_at dksX0_mover_6 12 rfl rfl)
theorem dX0_mover_153 : decode cX0_mover 153 = .ok (.istore 4, 2) := dk_54 4 (dk_at dksX0_mover_6 13 rfl rfl)
theorem dX0_mover_155 : decode cX0_mover 155 = .ok (.iload 4, 2) := dk_21 4 (dk_at dksX0_mover_6 15 rfl rfl)
theorem dX0_mover_157 : decode cX0_mover 157 = .ok (.iload_n 1, 1) := dk_27 (dk_at dksX0_mover_6 17 rfl rfl)
theorem dX0_mover_158 : decode cX0_mover 158 = .ok (.if_icmp .ge 27, 3) := dk_162 0 27 (dk_at dksX0_mover_6 18 rfl rfl)
theorem dX0_mover_161 : decode cX0_mover 161 = .ok (.aload_n 0, 1) := dk_42 (dk_at dksX0_mover_6 21 rfl rfl)
theorem dX0_mover_162 : decode cX0_mover 162 = .ok (.iconst 1, 1) := dk_4 (dk_at dksX0_mover_6 22 rfl rfl)
theorem dX0_mover_163 : decode cX0_mover 163 = .ok (.iload_n 3, 1) := dk_29 (dk_at dksX0_mover_6 23 rfl rfl)
theorem dX0_mover_164 : decode cX0_mover 164 = .ok (.iload 4, 2) := dk_21 4 (dk_at dksX0_mover_7 0 rfl rfl)
theorem dX0_mover_166 : decode cX0_mover 166 = .ok (.iadd, 1) := dk_96 (dk_at dksX0_mover_7 2 rfl rfl)
theorem dX0_mover_167 : decode cX0_mover 167 = .ok (.iconst 1, 1) := dk_4 (dk_at dksX0_mover_7 3 rfl rfl)
theorem dX0_mover_168 : decode cX0_mover 168 = .ok (.isub, 1) := dk_100 (dk_at dksX0_mover_7 4 rfl rfl)
theorem dX0_mover_169 : decode cX0_mover 169 = .ok (.iload_n 3, 1) := dk_29 (dk_at dksX0_mover_7 5 rfl rfl)
theorem dX0_mover_170 : decode cX0_mover 170 = .ok (.iload 4, 2) := dk_21 4 (dk_at dksX0_mover_7 6 rfl rfl)
theorem dX0_mover_172 : decode cX0_mover 172 = .ok (.iadd, 1) := dk_96 (dk_at dksX0_mover_7 8 rfl rfl)
theorem dX0_mover_173 : decode cX0_mover 173 = .ok (.iconst 0, 1) := dk_3 (dk_at dksX0_mover_7 9 rfl rfl)
theorem dX0_mover_174 : decode cX0_mover 174 = .ok (.iload_n 2, 1) := dk_28 (dk_at dksX0_mover_7 10 rfl rfl)
theorem dX0_mover_175 : decode cX0_mover 175 = .ok (.invokevirtual 371, 3) := dk_182 1 115 (dk_at dksX0_mover_7 11 rfl rfl)
theorem dX0_mover_178 : decode cX0_mover 178 = .ok (.pop, 1) := dk_87 (dk_at dksX0_mover_7 14 rfl rfl)
theorem dX0_mover_179 : decode cX0_mover 179 = .ok (.iinc 4 1, 3) := dk_132 4 1 (dk_at dksX0_mover_7 15 rfl rfl)
theorem dX0_mover_182 : decode cX0_mover 182 = .ok (.goto (-27), 3) := dk_167 255 229 (dk_at dksX0_mover_7 18 rfl rfl)
theorem dX0_mover_185 : decode cX0_mover 185 = .ok (.aload_n 0, 1) := dk_42 (dk_at dksX0_mover_7 21 rfl rfl)
theorem dX0_mover_186 : decode cX0_mover 186 = .ok (.dup, 1) := dk_89 (dk_at dksX0_mover_7 22 rfl rfl)
theorem dX0_mover_187 : decode cX0_mover 187 = .ok (.getfield 204, 3) := dk_180 0 204 (dk_at dksX0_mover_8 0 rfl rfl)
theorem dX0_mover_190 : decode cX0_mover 190 = .ok (.iconst 1, 1) := dk_4 (dk_at dksX0_mover_8 3 rfl rfl)
theorem dX0_mover_191 : decode cX0_mover 191 = .ok (.iadd, 1) := dk_96 (dk_at dksX0_mover_8 4 rfl rfl)
theorem dX0_mover_192 : decode cX0_mover 192 = .ok (.putfield 204, 3) := dk_181 0 204 (dk_at dksX0_mover_8 5 rfl rfl)
theorem dX0_mover_195 : decode cX0_mover 195 = .ok (.aload_n 0, 1) := dk_42 (dk_at dksX0_mover_8 8 rfl rfl)
theorem dX0_mover_196 : decode cX0_mover 196 = .ok (.getfield 204, 3) := dk_180 0 204 (dk_at dksX0_mover_8 9 rfl rfl)
theorem dX0_mover_199 : decode cX0_mover 199 = .ok (.iconst 1, 1) := dk_4 (dk_at dksX0_mover_8 12 rfl rfl)
theorem dX0_mover_200 : decode cX0_mover 200 = .ok (.isub, 1) := dk_100 (dk_at dksX0_mover_8 13 rfl rfl)
theorem dX0_mover_201 : decode cX0_mover 201 = .ok (.ireturn, 1) := dk_172 (dk_at dksX0_mover_8 14 rfl rfl)
abbrev cX0_tick : ByteArray := prog_1_method_105_code
def yX0_tick : MethodName := ⟨RX0, "tick", "(II)I"⟩
def dkwX0_tick_0 : List UInt8 := [42, 27, 28, 182, 2, 106, 153, 0, 14, 42, 180, 0, 81, 27, 46, 28, 96, 167, 0, 4, 2, 172]
abbrev dktX0_tick_0 : List UInt8 := dkwX0_tick_0 ++ []
theorem dksX0_tick_0 : cX0_tick.data.toList.drop 0 = dktX0_tick_0 := by decide +kernel
theorem dX0_tick_0 : decode cX0_tick 0 = .ok (.aload_n 0, 1) := dk_42 (dk_at dksX0_tick_0 0 rfl rfl)
theorem dX0_tick_1 : decode cX0_tick 1 = .ok (.iload_n 1, 1) := dk_27 (dk_at dksX0_tick_0 1 rfl rfl)
theorem dX0_tick_2 : decode cX0_tick 2 = .ok (.iload_n 2, 1) := dk_28 (dk_at dksX0_tick_0 2 rfl rfl)
theorem dX0_tick_3 : decode cX0_tick 3 = .ok (.invokevirtual 618, 3) := dk_182 2 106 (dk_at dksX0_tick_0 3 rfl rfl)
theorem dX0_tick_6 : decode cX0_tick 6 = .ok (.ifCond .eq 14, 3) := dk_153 0 14 (dk_at dksX0_tick_0 6 rfl rfl)
theorem dX0_tick_9 : decode cX0_tick 9 = .ok (.aload_n 0, 1) := dk_42 (dk_at dksX0_tick_0 9 rfl rfl)
theorem dX0_tick_10 : decode cX0_tick 10 = .ok (.getfield 81, 3) := dk_180 0 81 (dk_at dksX0_tick_0 10 rfl rfl)
theorem dX0_tick_13 : decode cX0_tick 13 = .ok (.iload_n 1, 1) := dk_27 (dk_at dksX0_tick_0 13 rfl rfl)
theorem dX0_tick_14 : decode cX0_tick 14 = .ok (.iaload, 1) := dk_46 (dk_at dksX0_tick_0 14 rfl rfl)
theorem dX0_tick_15 : decode cX0_tick 15 = .ok (.iload_n 2, 1) := dk_28 (dk_at dksX0_tick_0 15 rfl rfl)
theorem dX0_tick_16 : decode cX0_tick 16 = .ok (.iadd, 1) := dk_96 (dk_at dksX0_tick_0 16 rfl rfl)
theorem dX0_tick_17 : decode cX0_tick 17 = .ok (.goto 4, 3) := dk_167 0 4 (dk_at dksX0_tick_0 17 rfl rfl)
theorem dX0_tick_20 : decode cX0_tick 20 = .ok (.iconst (-1), 1) := dk_2 (dk_at dksX0_tick_0 20 rfl rfl)
theorem dX0_tick_21 : decode cX0_tick 21 = .ok (.ireturn, 1) := dk_172 (dk_at dksX0_tick_0 21 rfl rfl)
abbrev cX0_isTick : ByteArray := prog_1_method_104_code
def yX0_isTick : MethodName := ⟨RX0, "isTick", "(II)Z"⟩
def dkwX0_isTick_1 : List UInt8 := [153, 0, 7, 4, 167, 0, 4, 3, 172]
abbrev dktX0_isTick_1 : List UInt8 := dkwX0_isTick_1 ++ []
def dkwX0_isTick_0 : List UInt8 := [42, 27, 182, 2, 103, 153, 0, 25, 28, 133, 9, 42, 180, 0, 84, 27, 46, 133, 10, 101, 184, 0, 130]
abbrev dktX0_isTick_0 : List UInt8 := dkwX0_isTick_0 ++ dktX0_isTick_1
theorem dksX0_isTick_0 : cX0_isTick.data.toList.drop 0 = dktX0_isTick_0 := by decide +kernel
theorem dksX0_isTick_1 : cX0_isTick.data.toList.drop 23 = dktX0_isTick_1 := dk_seg dksX0_isTick_0 23 rfl rfl
theorem dX0_isTick_0 : decode cX0_isTick 0 = .ok (.aload_n 0, 1) := dk_42 (dk_at dksX0_isTick_0 0 rfl rfl)
theorem dX0_isTick_1 : decode cX0_isTick 1 = .ok (.iload_n 1, 1) := dk_27 (dk_at dksX0_isTick_0 1 rfl rfl)
theorem dX0_isTick_2 : decode cX0_isTick 2 = .ok (.invokevirtual 615, 3) := dk_182 2 103 (dk_at dksX0_isTick_0 2 rfl rfl)
theorem dX0_isTick_5 : decode cX0_isTick 5 = .ok (.ifCond .eq 25, 3) := dk_153 0 25 (dk_at dksX0_isTick_0 5 rfl rfl)
theorem dX0_isTick_8 : decode cX0_isTick 8 = .ok (.iload_n 2, 1) := dk_28 (dk_at dksX0_isTick_0 8 rfl rfl)
theorem dX0_isTick_9 : decode cX0_isTick 9 = .ok (.i2l, 1) := dk_133 (dk_at dksX0_isTick_0 9 rfl rfl)
theorem dX0_isTick_10 : decode cX0_isTick 10 = .ok (.lconst 0, 1) := dk_9 (dk_at dksX0_isTick_0 10 rfl rfl)
theorem dX0_isTick_11 : decode cX0_isTick 11 = .ok (.aload_n 0, 1) := dk_42 (dk_at dksX0_isTick_0 11 rfl rfl)
theorem dX0_isTick_12 : decode cX0_isTick 12 = .ok (.getfield 84, 3) := dk_180 0 84 (dk_at dksX0_isTick_0 12 rfl rfl)
theorem dX0_isTick_15 : decode cX0_isTick 15 = .ok (.iload_n 1, 1) := dk_27 (dk_at dksX0_isTick_0 15 rfl rfl)
theorem dX0_isTick_16 : decode cX0_isTick 16 = .ok (.iaload, 1) := dk_46 (dk_at dksX0_isTick_0 16 rfl rfl)
theorem dX0_isTick_17 : decode cX0_isTick 17 = .ok (.i2l, 1) := dk_133 (dk_at dksX0_isTick_0 17 rfl rfl)
theorem dX0_isTick_18 : decode cX0_isTick 18 = .ok (.lconst 1, 1) := dk_10 (dk_at dksX0_isTick_0 18 rfl rfl)
theorem dX0_isTick_19 : decode cX0_isTick 19 = .ok (.lsub, 1) := dk_101 (dk_at dksX0_isTick_0 19 rfl rfl)
theorem dX0_isTick_20 : decode cX0_isTick 20 = .ok (.invokestatic 130, 3) := dk_184 0 130 (dk_at dksX0_isTick_0 20 rfl rfl)
theorem dX0_isTick_23 : decode cX0_isTick 23 = .ok (.ifCond .eq 7, 3) := dk_153 0 7 (dk_at dksX0_isTick_1 0 rfl rfl)
theorem dX0_isTick_26 : decode cX0_isTick 26 = .ok (.iconst 1, 1) := dk_4 (dk_at dksX0_isTick_1 3 rfl rfl)
theorem dX0_isTick_27 : decode cX0_isTick 27 = .ok (.goto 4, 3) := dk_167 0 4 (dk_at dksX0_isTick_1 4 rfl rfl)
theorem dX0_isTick_30 : decode cX0_isTick 30 = .ok (.iconst 0, 1) := dk_3 (dk_at dksX0_isTick_1 7 rfl rfl)
theorem dX0_isTick_31 : decode cX0_isTick 31 = .ok (.ireturn, 1) := dk_172 (dk_at dksX0_isTick_1 8 rfl rfl)
abbrev cX0_isMover : ByteArray := prog_1_method_103_code
def yX0_isMover : MethodName := ⟨RX0, "isMover", "(I)Z"⟩
def dkwX0_isMover_0 : List UInt8 := [27, 133, 9, 42, 180, 0, 204, 133, 10, 101, 184, 0, 130, 172]
abbrev dktX0_isMover_0 : List UInt8 := dkwX0_isMover_0 ++ []
theorem dksX0_isMover_0 : cX0_isMover.data.toList.drop 0 = dktX0_isMover_0 := by decide +kernel
theorem dX0_isMover_0 : decode cX0_isMover 0 = .ok (.iload_n 1, 1) := dk_27 (dk_at dksX0_isMover_0 0 rfl rfl)
theorem dX0_isMover_1 : decode cX0_isMover 1 = .ok (.i2l, 1) := dk_133 (dk_at dksX0_isMover_0 1 rfl rfl)
theorem dX0_isMover_2 : decode cX0_isMover 2 = .ok (.lconst 0, 1) := dk_9 (dk_at dksX0_isMover_0 2 rfl rfl)
theorem dX0_isMover_3 : decode cX0_isMover 3 = .ok (.aload_n 0, 1) := dk_42 (dk_at dksX0_isMover_0 3 rfl rfl)
theorem dX0_isMover_4 : decode cX0_isMover 4 = .ok (.getfield 204, 3) := dk_180 0 204 (dk_at dksX0_isMover_0 4 rfl rfl)
theorem dX0_isMover_7 : decode cX0_isMover 7 = .ok (.i2l, 1) := dk_133 (dk_at dksX0_isMover_0 7 rfl rfl)
theorem dX0_isMover_8 : decode cX0_isMover 8 = .ok (.lconst 1, 1) := dk_10 (dk_at dksX0_isMover_0 8 rfl rfl)
theorem dX0_isMover_9 : decode cX0_isMover 9 = .ok (.lsub, 1) := dk_101 (dk_at dksX0_isMover_0 9 rfl rfl)
theorem dX0_isMover_10 : decode cX0_isMover 10 = .ok (.invokestatic 130, 3) := dk_184 0 130 (dk_at dksX0_isMover_0 10 rfl rfl)
theorem dX0_isMover_13 : decode cX0_isMover 13 = .ok (.ireturn, 1) := dk_172 (dk_at dksX0_isMover_0 13 rfl rfl)
abbrev cX0_ways : ByteArray := prog_1_method_108_code
def yX0_ways : MethodName := ⟨RX0, "ways", "(I)J"⟩
def dkwX0_ways_1 : List UInt8 := [184, 2, 112, 173]
abbrev dktX0_ways_1 : List UInt8 := dkwX0_ways_1 ++ []
def dkwX0_ways_0 : List UInt8 := [42, 27, 182, 2, 103, 154, 0, 7, 20, 0, 118, 173, 42, 27, 182, 2, 109, 42, 180, 0, 92, 3, 50]
abbrev dktX0_ways_0 : List UInt8 := dkwX0_ways_0 ++ dktX0_ways_1
theorem dksX0_ways_0 : cX0_ways.data.toList.drop 0 = dktX0_ways_0 := by decide +kernel
theorem dksX0_ways_1 : cX0_ways.data.toList.drop 23 = dktX0_ways_1 := dk_seg dksX0_ways_0 23 rfl rfl
theorem dX0_ways_0 : decode cX0_ways 0 = .ok (.aload_n 0, 1) := dk_42 (dk_at dksX0_ways_0 0 rfl rfl)
theorem dX0_ways_1 : decode cX0_ways 1 = .ok (.iload_n 1, 1) := dk_27 (dk_at dksX0_ways_0 1 rfl rfl)
theorem dX0_ways_2 : decode cX0_ways 2 = .ok (.invokevirtual 615, 3) := dk_182 2 103 (dk_at dksX0_ways_0 2 rfl rfl)
theorem dX0_ways_5 : decode cX0_ways 5 = .ok (.ifCond .ne 7, 3) := dk_154 0 7 (dk_at dksX0_ways_0 5 rfl rfl)
theorem dX0_ways_8 : decode cX0_ways 8 = .ok (.ldc2_w 118, 3) := dk_20 0 118 (dk_at dksX0_ways_0 8 rfl rfl)
theorem dX0_ways_11 : decode cX0_ways 11 = .ok (.lreturn, 1) := dk_173 (dk_at dksX0_ways_0 11 rfl rfl)
theorem dX0_ways_12 : decode cX0_ways 12 = .ok (.aload_n 0, 1) := dk_42 (dk_at dksX0_ways_0 12 rfl rfl)
theorem dX0_ways_13 : decode cX0_ways 13 = .ok (.iload_n 1, 1) := dk_27 (dk_at dksX0_ways_0 13 rfl rfl)
theorem dX0_ways_14 : decode cX0_ways 14 = .ok (.invokevirtual 621, 3) := dk_182 2 109 (dk_at dksX0_ways_0 14 rfl rfl)
theorem dX0_ways_17 : decode cX0_ways 17 = .ok (.aload_n 0, 1) := dk_42 (dk_at dksX0_ways_0 17 rfl rfl)
theorem dX0_ways_18 : decode cX0_ways 18 = .ok (.getfield 92, 3) := dk_180 0 92 (dk_at dksX0_ways_0 18 rfl rfl)
theorem dX0_ways_21 : decode cX0_ways 21 = .ok (.iconst 0, 1) := dk_3 (dk_at dksX0_ways_0 21 rfl rfl)
theorem dX0_ways_22 : decode cX0_ways 22 = .ok (.aaload, 1) := dk_50 (dk_at dksX0_ways_0 22 rfl rfl)
theorem dX0_ways_23 : decode cX0_ways 23 = .ok (.invokestatic 624, 3) := dk_184 2 112 (dk_at dksX0_ways_1 0 rfl rfl)
theorem dX0_ways_26 : decode cX0_ways 26 = .ok (.lreturn, 1) := dk_173 (dk_at dksX0_ways_1 3 rfl rfl)
abbrev cX0_findWays : ByteArray := prog_1_method_107_code
def yX0_findWays : MethodName := ⟨RX0, "findWays", "(I)V"⟩
def dkwX0_findWays_6 : List UInt8 := [132, 3, 1, 167, 255, 134, 132, 2, 255, 167, 255, 122, 177]
abbrev dktX0_findWays_6 : List UInt8 := dkwX0_findWays_6 ++ []
def dkwX0_findWays_5 : List UInt8 := [180, 0, 92, 28, 4, 96, 50, 21, 4, 47, 167, 0, 4, 9, 97, 80, 132, 4, 1, 167, 255, 205]
abbrev dktX0_findWays_5 : List UInt8 := dkwX0_findWays_5 ++ dktX0_findWays_6
def dkwX0_findWays_4 : List UInt8 := [180, 0, 92, 28, 50, 29, 92, 47, 29, 21, 4, 184, 0, 165, 42, 180, 0, 87, 27, 46, 163, 0, 17, 42]
abbrev dktX0_findWays_4 : List UInt8 := dkwX0_findWays_4 ++ dktX0_findWays_5
def dkwX0_findWays_3 : List UInt8 := [180, 0, 92, 28, 50, 29, 10, 80, 167, 0, 60, 3, 54, 4, 21, 4, 16, 64, 162, 0, 50, 42]
abbrev dktX0_findWays_3 : List UInt8 := dkwX0_findWays_3 ++ dktX0_findWays_4
def dkwX0_findWays_2 : List UInt8 := [47, 29, 184, 0, 161, 154, 0, 6, 167, 0, 84, 28, 42, 180, 0, 84, 27, 46, 4, 100, 160, 0, 15, 42]
abbrev dktX0_findWays_2 : List UInt8 := dkwX0_findWays_2 ++ dktX0_findWays_3
def dkwX0_findWays_1 : List UInt8 := [162, 0, 122, 42, 180, 0, 92, 28, 50, 29, 9, 80, 42, 180, 0, 32, 42, 180, 0, 81, 27, 46, 28, 96]
abbrev dktX0_findWays_1 : List UInt8 := dkwX0_findWays_1 ++ dktX0_findWays_2
def dkwX0_findWays_0 : List UInt8 := [42, 182, 1, 54, 42, 180, 0, 84, 27, 46, 4, 100, 61, 28, 155, 0, 136, 3, 62, 29, 16, 64]
abbrev dktX0_findWays_0 : List UInt8 := dkwX0_findWays_0 ++ dktX0_findWays_1
theorem dksX0_findWays_0 : cX0_findWays.data.toList.drop 0 = dktX0_findWays_0 := by decide +kernel
theorem dksX0_findWays_1 : cX0_findWays.data.toList.drop 22 = dktX0_findWays_1 := dk_seg dksX0_findWays_0 22 rfl rfl
theorem dksX0_findWays_2 : cX0_findWays.data.toList.drop 46 = dktX0_findWays_2 := dk_seg dksX0_findWays_1 24 rfl rfl
theorem dksX0_findWays_3 : cX0_findWays.data.toList.drop 70 = dktX0_findWays_3 := dk_seg dksX0_findWays_2 24 rfl rfl
theorem dksX0_findWays_4 : cX0_findWays.data.toList.drop 92 = dktX0_findWays_4 := dk_seg dksX0_findWays_3 22 rfl rfl
theorem dksX0_findWays_5 : cX0_findWays.data.toList.drop 116 = dktX0_findWays_5 := dk_seg dksX0_findWays_4 24 rfl rfl
theorem dksX0_findWays_6 : cX0_findWays.data.toList.drop 138 = dktX0_findWays_6 := dk_seg dksX0_findWays_5 22 rfl rfl
theorem dX0_findWays_0 : decode cX0_findWays 0 = .ok (.aload_n 0, 1) := dk_42 (dk_at dksX0_findWays_0 0 rfl rfl)
theorem dX0_findWays_1 : decode cX0_findWays 1 = .ok (.invokevirtual 310, 3) := dk_182 1 54 (dk_at dksX0_findWays_0 1 rfl rfl)
theorem dX0_findWays_4 : decode cX0_findWays 4 = .ok (.aload_n 0, 1) := dk_42 (dk_at dksX0_findWays_0 4 rfl rfl)
theorem dX0_findWays_5 : decode cX0_findWays 5 = .ok (.getfield 84, 3) := dk_180 0 84 (dk_at dksX0_findWays_0 5 rfl rfl)
theorem dX0_findWays_8 : decode cX0_findWays 8 = .ok (.iload_n 1, 1) := dk_27 (dk_at dksX0_findWays_0 8 rfl rfl)
theorem dX0_findWays_9 : decode cX0_findWays 9 = .ok (.iaload, 1) := dk_46 (dk_at dksX0_findWays_0 9 rfl rfl)
theorem dX0_findWays_10 : decode cX0_findWays 10 = .ok (.iconst 1, 1) := dk_4 (dk_at dksX0_findWays_0 10 rfl rfl)
theorem dX0_findWays_11 : decode cX0_findWays 11 = .ok (.isub, 1) := dk_100 (dk_at dksX0_findWays_0 11 rfl rfl)
theorem dX0_findWays_12 : decode cX0_findWays 12 = .ok (.istore_n 2, 1) := dk_61 (dk_at dksX0_findWays_0 12 rfl rfl)
theorem dX0_findWays_13 : decode cX0_findWays 13 = .ok (.iload_n 2, 1) := dk_28 (dk_at dksX0_findWays_0 13 rfl rfl)
theorem dX0_findWays_14 : decode cX0_findWays 14 = .ok (.ifCond .lt 136, 3) := dk_155 0 136 (dk_at dksX0_findWays_0 14 rfl rfl)
theorem dX0_findWays_17 : decode cX0_findWays 17 = .ok (.iconst 0, 1) := dk_3 (dk_at dksX0_findWays_0 17 rfl rfl)
theorem dX0_findWays_18 : decode cX0_findWays 18 = .ok (.istore_n 3, 1) := dk_62 (dk_at dksX0_findWays_0 18 rfl rfl)
theorem dX0_findWays_19 : decode cX0_findWays 19 = .ok (.iload_n 3, 1) := dk_29 (dk_at dksX0_findWays_0 19 rfl rfl)
theorem dX0_findWays_20 : decode cX0_findWays 20 = .ok (.bipush 64, 2) := dk_16 64 (dk_at dksX0_findWays_0 20 rfl rfl)
theorem dX0_findWays_22 : decode cX0_findWays 22 = .ok (.if_icmp .ge 122, 3) := dk_162 0 122 (dk_at dksX0_findWays_1 0 rfl rfl)
theorem dX0_findWays_25 : decode cX0_findWays 25 = .ok (.aload_n 0, 1) := dk_42 (dk_at dksX0_findWays_1 3 rfl rfl)
theorem dX0_findWays_26 : decode cX0_findWays 26 = .ok (.getfield 92, 3) := dk_180 0 92 (dk_at dksX0_findWays_1 4 rfl rfl)
theorem dX0_findWays_29 : decode cX0_findWays 29 = .ok (.iload_n 2, 1) := dk_28 (dk_at dksX0_findWays_1 7 rfl rfl)
theorem dX0_findWays_30 : decode cX0_findWays 30 = .ok (.aaload, 1) := dk_50 (dk_at dksX0_findWays_1 8 rfl rfl)
theorem dX0_findWays_31 : decode cX0_findWays 31 = .ok (.iload_n 3, 1) := dk_29 (dk_at dksX0_findWays_1 9 rfl rfl)
theorem dX0_findWays_32 : decode cX0_findWays 32 = .ok (.lconst 0, 1) := dk_9 (dk_at dksX0_findWays_1 10 rfl rfl)
theorem dX0_findWays_33 : decode cX0_findWays 33 = .ok (.lastore, 1) := dk_80 (dk_at dksX0_findWays_1 11 rfl rfl)
theorem dX0_findWays_34 : decode cX0_findWays 34 = .ok (.aload_n 0, 1) := dk_42 (dk_at dksX0_findWays_1 12 rfl rfl)
theorem dX0_findWays_35 : decode cX0_findWays 35 = .ok (.getfield 32, 3) := dk_180 0 32 (dk_at dksX0_findWays_1 13 rfl rfl)
theorem dX0_findWays_38 : decode cX0_findWays 38 = .ok (.aload_n 0, 1) := dk_42 (dk_at dksX0_findWays_1 16 rfl rfl)
theorem dX0_findWays_39 : decode cX0_findWays 39 = .ok (.getfield 81, 3) := dk_180 0 81 (dk_at dksX0_findWays_1 17 rfl rfl)
theorem dX0_findWays_42 : decode cX0_findWays 42 = .ok (.iload_n 1, 1) := dk_27 (dk_at dksX0_findWays_1 20 rfl rfl)
theorem dX0_findWays_43 : decode cX0_findWays 43 = .ok (.iaload, 1) := dk_46 (dk_at dksX0_findWays_1 21 rfl rfl)
theorem dX0_findWays_44 : decode cX0_findWays 44 = .ok (.iload_n 2, 1) := dk_28 (dk_at dksX0_findWays_1 22 rfl rfl)
theorem dX0_findWays_45 : decode cX0_findWays 45 = .ok (.iadd, 1) := dk_96 (dk_at dksX0_findWays_1 23 rfl rfl)
theorem dX0_findWays_46 : decode cX0_findWays 46 = .ok (.laload, 1) := dk_47 (dk_at dksX0_findWays_2 0 rfl rfl)
theorem dX0_findWays_47 : decode cX0_findWays 47 = .ok (.iload_n 3, 1) := dk_29 (dk_at dksX0_findWays_2 1 rfl rfl)
theorem dX0_findWays_48 : decode cX0_findWays 48 = .ok (.invokestatic 161, 3) := dk_184 0 161 (dk_at dksX0_findWays_2 2 rfl rfl)
theorem dX0_findWays_51 : decode cX0_findWays 51 = .ok (.ifCond .ne 6, 3) := dk_154 0 6 (dk_at dksX0_findWays_2 5 rfl rfl)
theorem dX0_findWays_54 : decode cX0_findWays 54 = .ok (.goto 84, 3) := dk_167 0 84 (dk_at dksX0_findWays_2 8 rfl rfl)
theorem dX0_findWays_57 : decode cX0_findWays 57 = .ok (.iload_n 2, 1) := dk_28 (dk_at dksX0_findWays_2 11 rfl rfl)
theorem dX0_findWays_58 : decode cX0_findWays 58 = .ok (.aload_n 0, 1) := dk_42 (dk_at dksX0_findWays_2 12 rfl rfl)
theorem dX0_findWays_59 : decode cX0_findWays 59 = .ok (.getfield 84, 3) := dk_180 0 84 (dk_at dksX0_findWays_2 13 rfl rfl)
theorem dX0_findWays_62 : decode cX0_findWays 62 = .ok (.iload_n 1, 1) := dk_27 (dk_at dksX0_findWays_2 16 rfl rfl)
theorem dX0_findWays_63 : decode cX0_findWays 63 = .ok (.iaload, 1) := dk_46 (dk_at dksX0_findWays_2 17 rfl rfl)
theorem dX0_findWays_64 : decode cX0_findWays 64 = .ok (.iconst 1, 1) := dk_4 (dk_at dksX0_findWays_2 18 rfl rfl)
theorem dX0_findWays_65 : decode cX0_findWays 65 = .ok (.isub, 1) := dk_100 (dk_at dksX0_findWays_2 19 rfl rfl)
theorem dX0_findWays_66 : decode cX0_findWays 66 = .ok (.if_icmp .ne 15, 3) := dk_160 0 15 (dk_at dksX0_findWays_2 20 rfl rfl)
theorem dX0_findWays_69 : decode cX0_findWays 69 = .ok (.aload_n 0, 1) := dk_42 (dk_at dksX0_findWays_2 23 rfl rfl)
theorem dX0_findWays_70 : decode cX0_findWays 70 = .ok (.getfield 92, 3) := dk_180 0 92 (dk_at dksX0_findWays_3 0 rfl rfl)
theorem dX0_findWays_73 : decode cX0_findWays 73 = .ok (.iload_n 2, 1) := dk_28 (dk_at dksX0_findWays_3 3 rfl rfl)
theorem dX0_findWays_74 : decode cX0_findWays 74 = .ok (.aaload, 1) := dk_50 (dk_at dksX0_findWays_3 4 rfl rfl)
theorem dX0_findWays_75 : decode cX0_findWays 75 = .ok (.iload_n 3, 1) := dk_29 (dk_at dksX0_findWays_3 5 rfl rfl)
theorem dX0_findWays_76 : decode cX0_findWays 76 = .ok (.lconst 1, 1) := dk_10 (dk_at dksX0_findWays_3 6 rfl rfl)
theorem dX0_findWays_77 : decode cX0_findWays 77 = .ok (.lastore, 1) := dk_80 (dk_at dksX0_findWays_3 7 rfl rfl)
theorem dX0_findWays_78 : decode cX0_findWays 78 = .ok (.goto 60, 3) := dk_167 0 60 (dk_at dksX0_findWays_3 8 rfl rfl)
theorem dX0_findWays_81 : decode cX0_findWays 81 = .ok (.iconst 0, 1) := dk_3 (dk_at dksX0_findWays_3 11 rfl rfl)
theorem dX0_findWays_82 : decode cX0_findWays 82 = .ok (.istore 4, 2) := dk_54 4 (dk_at dksX0_findWays_3 12 rfl rfl)
theorem dX0_findWays_84 : decode cX0_findWays 84 = .ok (.iload 4, 2) := dk_21 4 (dk_at dksX0_findWays_3 14 rfl rfl)
theorem dX0_findWays_86 : decode cX0_findWays 86 = .ok (.bipush 64, 2) := dk_16 64 (dk_at dksX0_findWays_3 16 rfl rfl)
theorem dX0_findWays_88 : decode cX0_findWays 88 = .ok (.if_icmp .ge 50, 3) := dk_162 0 50 (dk_at dksX0_findWays_3 18 rfl rfl)
theorem dX0_findWays_91 : decode cX0_findWays 91 = .ok (.aload_n 0, 1) := dk_42 (dk_at dksX0_findWays_3 21 rfl rfl)
theorem dX0_findWays_92 : decode cX0_findWays 92 = .ok (.getfield 92, 3) := dk_180 0 92 (dk_at dksX0_findWays_4 0 rfl rfl)
theorem dX0_findWays_95 : decode cX0_findWays 95 = .ok (.iload_n 2, 1) := dk_28 (dk_at dksX0_findWays_4 3 rfl rfl)
theorem dX0_findWays_96 : decode cX0_findWays 96 = .ok (.aaload, 1) := dk_50 (dk_at dksX0_findWays_4 4 rfl rfl)
theorem dX0_findWays_97 : decode cX0_findWays 97 = .ok (.iload_n 3, 1) := dk_29 (dk_at dksX0_findWays_4 5 rfl rfl)
theorem dX0_findWays_98 : decode cX0_findWays 98 = .ok (.dup2, 1) := dk_92 (dk_at dksX0_findWays_4 6 rfl rfl)
theorem dX0_findWays_99 : decode cX0_findWays 99 = .ok (.laload, 1) := dk_47 (dk_at dksX0_findWays_4 7 rfl rfl)
theorem dX0_findWays_100 : decode cX0_findWays 100 = .ok (.iload_n 3, 1) := dk_29 (dk_at dksX0_findWays_4 8 rfl rfl)
theorem dX0_findWays_101 : decode cX0_findWays 101 = .ok (.iload 4, 2) := dk_21 4 (dk_at dksX0_findWays_4 9 rfl rfl)
theorem dX0_findWays_103 : decode cX0_findWays 103 = .ok (.invokestatic 165, 3) := dk_184 0 165 (dk_at dksX0_findWays_4 11 rfl rfl)
theorem dX0_findWays_106 : decode cX0_findWays 106 = .ok (.aload_n 0, 1) := dk_42 (dk_at dksX0_findWays_4 14 rfl rfl)
theorem dX0_findWays_107 : decode cX0_findWays 107 = .ok (.getfield 87, 3) := dk_180 0 87 (dk_at dksX0_findWays_4 15 rfl rfl)
theorem dX0_findWays_110 : decode cX0_findWays 110 = .ok (.iload_n 1, 1) := dk_27 (dk_at dksX0_findWays_4 18 rfl rfl)
theorem dX0_findWays_111 : decode cX0_findWays 111 = .ok (.iaload, 1) := dk_46 (dk_at dksX0_findWays_4 19 rfl rfl)
theorem dX0_findWays_112 : decode cX0_findWays 112 = .ok (.if_icmp .gt 17, 3) := dk_163 0 17 (dk_at dksX0_findWays_4 20 rfl rfl)
theorem dX0_findWays_115 : decode cX0_findWays 115 = .ok (.aload_n 0, 1) := dk_42 (dk_at dksX0_findWays_4 23 rfl rfl)
theorem dX0_findWays_116 : decode cX0_findWays 116 = .ok (.getfield 92, 3) := dk_180 0 92 (dk_at dksX0_findWays_5 0 rfl rfl)
theorem dX0_findWays_119 : decode cX0_findWays 119 = .ok (.iload_n 2, 1) := dk_28 (dk_at dksX0_findWays_5 3 rfl rfl)
theorem dX0_findWays_120 : decode cX0_findWays 120 = .ok (.iconst 1, 1) := dk_4 (dk_at dksX0_findWays_5 4 rfl rfl)
theorem dX0_findWays_121 : decode cX0_findWays 121 = .ok (.iadd, 1) := dk_96 (dk_at dksX0_findWays_5 5 rfl rfl)
theorem dX0_findWays_122 : decode cX0_findWays 122 = .ok (.aaload, 1) := dk_50 (dk_at dksX0_findWays_5 6 rfl rfl)
theorem dX0_findWays_123 : decode cX0_findWays 123 = .ok (.iload 4, 2) := dk_21 4 (dk_at dksX0_findWays_5 7 rfl rfl)
theorem dX0_findWays_125 : decode cX0_findWays 125 = .ok (.laload, 1) := dk_47 (dk_at dksX0_findWays_5 9 rfl rfl)
theorem dX0_findWays_126 : decode cX0_findWays 126 = .ok (.goto 4, 3) := dk_167 0 4 (dk_at dksX0_findWays_5 10 rfl rfl)
theorem dX0_findWays_129 : decode cX0_findWays 129 = .ok (.lconst 0, 1) := dk_9 (dk_at dksX0_findWays_5 13 rfl rfl)
theorem dX0_findWays_130 : decode cX0_findWays 130 = .ok (.ladd, 1) := dk_97 (dk_at dksX0_findWays_5 14 rfl rfl)
theorem dX0_findWays_131 : decode cX0_findWays 131 = .ok (.lastore, 1) := dk_80 (dk_at dksX0_findWays_5 15 rfl rfl)
theorem dX0_findWays_132 : decode cX0_findWays 132 = .ok (.iinc 4 1, 3) := dk_132 4 1 (dk_at dksX0_findWays_5 16 rfl rfl)
theorem dX0_findWays_135 : decode cX0_findWays 135 = .ok (.goto (-51), 3) := dk_167 255 205 (dk_at dksX0_findWays_5 19 rfl rfl)
theorem dX0_findWays_138 : decode cX0_findWays 138 = .ok (.iinc 3 1, 3) := dk_132 3 1 (dk_at dksX0_findWays_6 0 rfl rfl)
theorem dX0_findWays_141 : decode cX0_findWays 141 = .ok (.goto (-122), 3) := dk_167 255 134 (dk_at dksX0_findWays_6 3 rfl rfl)
theorem dX0_findWays_144 : decode cX0_findWays 144 = .ok (.iinc 2 (-1), 3) := dk_132 2 255 (dk_at dksX0_findWays_6 6 rfl rfl)
theorem dX0_findWays_147 : decode cX0_findWays 147 = .ok (.goto (-134), 3) := dk_167 255 122 (dk_at dksX0_findWays_6 9 rfl rfl)
theorem dX0_findWays_150 : decode cX0_findWays 150 = .ok (.return_, 1) := dk_177 (dk_at dksX0_findWays_6 12 rfl rfl)
abbrev cX0_sum : ByteArray := prog_1_method_106_code
def yX0_sum : MethodName := ⟨RX0, "sum", "([J)J"⟩
def dkwX0_sum_0 : List UInt8 := [9, 64, 3, 62, 29, 16, 64, 162, 0, 15, 31, 42, 29, 47, 97, 64, 132, 3, 1, 167, 255, 241, 31, 173]
abbrev dktX0_sum_0 : List UInt8 := dkwX0_sum_0 ++ []
theorem dksX0_sum_0 : cX0_sum.data.toList.drop 0 = dktX0_sum_0 := by decide +kernel
theorem dX0_sum_0 : decode cX0_sum 0 = .ok (.lconst 0, 1) := dk_9 (dk_at dksX0_sum_0 0 rfl rfl)
theorem dX0_sum_1 : decode cX0_sum 1 = .ok (.lstore_n 1, 1) := dk_64 (dk_at dksX0_sum_0 1 rfl rfl)
theorem dX0_sum_2 : decode cX0_sum 2 = .ok (.iconst 0, 1) := dk_3 (dk_at dksX0_sum_0 2 rfl rfl)
theorem dX0_sum_3 : decode cX0_sum 3 = .ok (.istore_n 3, 1) := dk_62 (dk_at dksX0_sum_0 3 rfl rfl)
theorem dX0_sum_4 : decode cX0_sum 4 = .ok (.iload_n 3, 1) := dk_29 (dk_at dksX0_sum_0 4 rfl rfl)
theorem dX0_sum_5 : decode cX0_sum 5 = .ok (.bipush 64, 2) := dk_16 64 (dk_at dksX0_sum_0 5 rfl rfl)
theorem dX0_sum_7 : decode cX0_sum 7 = .ok (.if_icmp .ge 15, 3) := dk_162 0 15 (dk_at dksX0_sum_0 7 rfl rfl)
theorem dX0_sum_10 : decode cX0_sum 10 = .ok (.lload_n 1, 1) := dk_31 (dk_at dksX0_sum_0 10 rfl rfl)
theorem dX0_sum_11 : decode cX0_sum 11 = .ok (.aload_n 0, 1) := dk_42 (dk_at dksX0_sum_0 11 rfl rfl)
theorem dX0_sum_12 : decode cX0_sum 12 = .ok (.iload_n 3, 1) := dk_29 (dk_at dksX0_sum_0 12 rfl rfl)
theorem dX0_sum_13 : decode cX0_sum 13 = .ok (.laload, 1) := dk_47 (dk_at dksX0_sum_0 13 rfl rfl)
theorem dX0_sum_14 : decode cX0_sum 14 = .ok (.ladd, 1) := dk_97 (dk_at dksX0_sum_0 14 rfl rfl)
theorem dX0_sum_15 : decode cX0_sum 15 = .ok (.lstore_n 1, 1) := dk_64 (dk_at dksX0_sum_0 15 rfl rfl)
theorem dX0_sum_16 : decode cX0_sum 16 = .ok (.iinc 3 1, 3) := dk_132 3 1 (dk_at dksX0_sum_0 16 rfl rfl)
theorem dX0_sum_19 : decode cX0_sum 19 = .ok (.goto (-15), 3) := dk_167 255 241 (dk_at dksX0_sum_0 19 rfl rfl)
theorem dX0_sum_22 : decode cX0_sum 22 = .ok (.lload_n 1, 1) := dk_31 (dk_at dksX0_sum_0 22 rfl rfl)
theorem dX0_sum_23 : decode cX0_sum 23 = .ok (.lreturn, 1) := dk_173 (dk_at dksX0_sum_0 23 rfl rfl)
abbrev cX0_way : ByteArray := prog_1_method_109_code
def yX0_way : MethodName := ⟨RX0, "way", "(IJI)I"⟩
def dkwX0_way_6 : List UInt8 := [167, 255, 172, 21, 9, 54, 7, 132, 8, 1, 167, 255, 152, 21, 7, 172]
abbrev dktX0_way_6 : List UInt8 := dkwX0_way_6 ++ []
def dkwX0_way_5 : List UInt8 := [46, 164, 0, 7, 9, 167, 0, 13, 42, 180, 0, 92, 21, 8, 50, 21, 9, 47, 101, 55, 5, 132, 9, 1]
abbrev dktX0_way_5 : List UInt8 := dkwX0_way_5 ++ dktX0_way_6
def dkwX0_way_4 : List UInt8 := [155, 0, 51, 22, 5, 21, 7, 16, 247, 159, 0, 23, 21, 7, 21, 9, 184, 0, 165, 42, 180, 0, 87, 27]
abbrev dktX0_way_4 : List UInt8 := dkwX0_way_4 ++ dktX0_way_5
def dkwX0_way_3 : List UInt8 := [42, 180, 0, 87, 27, 46, 163, 0, 19, 22, 5, 42, 180, 0, 92, 21, 8, 50, 21, 9, 47, 148]
abbrev dktX0_way_3 : List UInt8 := dkwX0_way_3 ++ dktX0_way_4
def dkwX0_way_2 : List UInt8 := [21, 8, 21, 4, 163, 0, 103, 3, 54, 9, 21, 7, 16, 247, 159, 0, 19, 21, 7, 21, 9, 184, 0, 165]
abbrev dktX0_way_2 : List UInt8 := dkwX0_way_2 ++ dktX0_way_3
def dkwX0_way_1 : List UInt8 := [50, 184, 2, 112, 10, 101, 184, 0, 130, 154, 0, 5, 2, 172, 32, 55, 5, 16, 247, 54, 7, 3, 54, 8]
abbrev dktX0_way_1 : List UInt8 := dkwX0_way_1 ++ dktX0_way_2
def dkwX0_way_0 : List UInt8 := [42, 27, 21, 4, 182, 2, 106, 154, 0, 5, 2, 172, 42, 27, 182, 2, 109, 32, 9, 42, 180, 0, 92, 3]
abbrev dktX0_way_0 : List UInt8 := dkwX0_way_0 ++ dktX0_way_1
theorem dksX0_way_0 : cX0_way.data.toList.drop 0 = dktX0_way_0 := by decide +kernel
theorem dksX0_way_1 : cX0_way.data.toList.drop 24 = dktX0_way_1 := dk_seg dksX0_way_0 24 rfl rfl
theorem dksX0_way_2 : cX0_way.data.toList.drop 48 = dktX0_way_2 := dk_seg dksX0_way_1 24 rfl rfl
theorem dksX0_way_3 : cX0_way.data.toList.drop 72 = dktX0_way_3 := dk_seg dksX0_way_2 24 rfl rfl
theorem dksX0_way_4 : cX0_way.data.toList.drop 94 = dktX0_way_4 := dk_seg dksX0_way_3 22 rfl rfl
theorem dksX0_way_5 : cX0_way.data.toList.drop 118 = dktX0_way_5 := dk_seg dksX0_way_4 24 rfl rfl
theorem dksX0_way_6 : cX0_way.data.toList.drop 142 = dktX0_way_6 := dk_seg dksX0_way_5 24 rfl rfl
theorem dX0_way_0 : decode cX0_way 0 = .ok (.aload_n 0, 1) := dk_42 (dk_at dksX0_way_0 0 rfl rfl)
theorem dX0_way_1 : decode cX0_way 1 = .ok (.iload_n 1, 1) := dk_27 (dk_at dksX0_way_0 1 rfl rfl)
theorem dX0_way_2 : decode cX0_way 2 = .ok (.iload 4, 2) := dk_21 4 (dk_at dksX0_way_0 2 rfl rfl)
theorem dX0_way_4 : decode cX0_way 4 = .ok (.invokevirtual 618, 3) := dk_182 2 106 (dk_at dksX0_way_0 4 rfl rfl)
theorem dX0_way_7 : decode cX0_way 7 = .ok (.ifCond .ne 5, 3) := dk_154 0 5 (dk_at dksX0_way_0 7 rfl rfl)
theorem dX0_way_10 : decode cX0_way 10 = .ok (.iconst (-1), 1) := dk_2 (dk_at dksX0_way_0 10 rfl rfl)
theorem dX0_way_11 : decode cX0_way 11 = .ok (.ireturn, 1) := dk_172 (dk_at dksX0_way_0 11 rfl rfl)
theorem dX0_way_12 : decode cX0_way 12 = .ok (.aload_n 0, 1) := dk_42 (dk_at dksX0_way_0 12 rfl rfl)
theorem dX0_way_13 : decode cX0_way 13 = .ok (.iload_n 1, 1) := dk_27 (dk_at dksX0_way_0 13 rfl rfl)
theorem dX0_way_14 : decode cX0_way 14 = .ok (.invokevirtual 621, 3) := dk_182 2 109 (dk_at dksX0_way_0 14 rfl rfl)
theorem dX0_way_17 : decode cX0_way 17 = .ok (.lload_n 2, 1) := dk_32 (dk_at dksX0_way_0 17 rfl rfl)
theorem dX0_way_18 : decode cX0_way 18 = .ok (.lconst 0, 1) := dk_9 (dk_at dksX0_way_0 18 rfl rfl)
theorem dX0_way_19 : decode cX0_way 19 = .ok (.aload_n 0, 1) := dk_42 (dk_at dksX0_way_0 19 rfl rfl)
theorem dX0_way_20 : decode cX0_way 20 = .ok (.getfield 92, 3) := dk_180 0 92 (dk_at dksX0_way_0 20 rfl rfl)
theorem dX0_way_23 : decode cX0_way 23 = .ok (.iconst 0, 1) := dk_3 (dk_at dksX0_way_0 23 rfl rfl)
theorem dX0_way_24 : decode cX0_way 24 = .ok (.aaload, 1) := dk_50 (dk_at dksX0_way_1 0 rfl rfl)
theorem dX0_way_25 : decode cX0_way 25 = .ok (.invokestatic 624, 3) := dk_184 2 112 (dk_at dksX0_way_1 1 rfl rfl)
theorem dX0_way_28 : decode cX0_way 28 = .ok (.lconst 1, 1) := dk_10 (dk_at dksX0_way_1 4 rfl rfl)
theorem dX0_way_29 : decode cX0_way 29 = .ok (.lsub, 1) := dk_101 (dk_at dksX0_way_1 5 rfl rfl)
theorem dX0_way_30 : decode cX0_way 30 = .ok (.invokestatic 130, 3) := dk_184 0 130 (dk_at dksX0_way_1 6 rfl rfl)
theorem dX0_way_33 : decode cX0_way 33 = .ok (.ifCond .ne 5, 3) := dk_154 0 5 (dk_at dksX0_way_1 9 rfl rfl)
theorem dX0_way_36 : decode cX0_way 36 = .ok (.iconst (-1), 1) := dk_2 (dk_at dksX0_way_1 12 rfl rfl)
theorem dX0_way_37 : decode cX0_way 37 = .ok (.ireturn, 1) := dk_172 (dk_at dksX0_way_1 13 rfl rfl)
theorem dX0_way_38 : decode cX0_way 38 = .ok (.lload_n 2, 1) := dk_32 (dk_at dksX0_way_1 14 rfl rfl)
theorem dX0_way_39 : decode cX0_way 39 = .ok (.lstore 5, 2) := dk_55 5 (dk_at dksX0_way_1 15 rfl rfl)
theorem dX0_way_41 : decode cX0_way 41 = .ok (.bipush (-9), 2) := dk_16 247 (dk_at dksX0_way_1 17 rfl rfl)
theorem dX0_way_43 : decode cX0_way 43 = .ok (.istore 7, 2) := dk_54 7 (dk_at dksX0_way_1 19 rfl rfl)
theorem dX0_way_45 : decode cX0_way 45 = .ok (.iconst 0, 1) := dk_3 (dk_at dksX0_way_1 21 rfl rfl)
theorem dX0_way_46 : decode cX0_way 46 = .ok (.istore 8, 2) := dk_54 8 (dk_at dksX0_way_1 22 rfl rfl)
theorem dX0_way_48 : decode cX0_way 48 = .ok (.iload 8, 2) := dk_21 8 (dk_at dksX0_way_2 0 rfl rfl)
theorem dX0_way_50 : decode cX0_way 50 = .ok (.iload 4, 2) := dk_21 4 (dk_at dksX0_way_2 2 rfl rfl)
theorem dX0_way_52 : decode cX0_way 52 = .ok (.if_icmp .gt 103, 3) := dk_163 0 103 (dk_at dksX0_way_2 4 rfl rfl)
theorem dX0_way_55 : decode cX0_way 55 = .ok (.iconst 0, 1) := dk_3 (dk_at dksX0_way_2 7 rfl rfl)
theorem dX0_way_56 : decode cX0_way 56 = .ok (.istore 9, 2) := dk_54 9 (dk_at dksX0_way_2 8 rfl rfl)
theorem dX0_way_58 : decode cX0_way 58 = .ok (.iload 7, 2) := dk_21 7 (dk_at dksX0_way_2 10 rfl rfl)
theorem dX0_way_60 : decode cX0_way 60 = .ok (.bipush (-9), 2) := dk_16 247 (dk_at dksX0_way_2 12 rfl rfl)
theorem dX0_way_62 : decode cX0_way 62 = .ok (.if_icmp .eq 19, 3) := dk_159 0 19 (dk_at dksX0_way_2 14 rfl rfl)
theorem dX0_way_65 : decode cX0_way 65 = .ok (.iload 7, 2) := dk_21 7 (dk_at dksX0_way_2 17 rfl rfl)
theorem dX0_way_67 : decode cX0_way 67 = .ok (.iload 9, 2) := dk_21 9 (dk_at dksX0_way_2 19 rfl rfl)
theorem dX0_way_69 : decode cX0_way 69 = .ok (.invokestatic 165, 3) := dk_184 0 165 (dk_at dksX0_way_2 21 rfl rfl)
theorem dX0_way_72 : decode cX0_way 72 = .ok (.aload_n 0, 1) := dk_42 (dk_at dksX0_way_3 0 rfl rfl)
theorem dX0_way_73 : decode cX0_way 73 = .ok (.getfield 87, 3) := dk_180 0 87 (dk_at dksX0_way_3 1 rfl rfl)
theorem dX0_way_76 : decode cX0_way 76 = .ok (.iload_n 1, 1) := dk_27 (dk_at dksX0_way_3 4 rfl rfl)
theorem dX0_way_77 : decode cX0_way 77 = .ok (.iaload, 1) := dk_46 (dk_at dksX0_way_3 5 rfl rfl)
theorem dX0_way_78 : decode cX0_way 78 = .ok (.if_icmp .gt 19, 3) := dk_163 0 19 (dk_at dksX0_way_3 6 rfl rfl)
theorem dX0_way_81 : decode cX0_way 81 = .ok (.lload 5, 2) := dk_22 5 (dk_at dksX0_way_3 9 rfl rfl)
theorem dX0_way_83 : decode cX0_way 83 = .ok (.aload_n 0, 1) := dk_42 (dk_at dksX0_way_3 11 rfl rfl)
theorem dX0_way_84 : decode cX0_way 84 = .ok (.getfield 92, 3) := dk_180 0 92 (dk_at dksX0_way_3 12 rfl rfl)
theorem dX0_way_87 : decode cX0_way 87 = .ok (.iload 8, 2) := dk_21 8 (dk_at dksX0_way_3 15 rfl rfl)
theorem dX0_way_89 : decode cX0_way 89 = .ok (.aaload, 1) := dk_50 (dk_at dksX0_way_3 17 rfl rfl)
theorem dX0_way_90 : decode cX0_way 90 = .ok (.iload 9, 2) := dk_21 9 (dk_at dksX0_way_3 18 rfl rfl)
theorem dX0_way_92 : decode cX0_way 92 = .ok (.laload, 1) := dk_47 (dk_at dksX0_way_3 20 rfl rfl)
theorem dX0_way_93 : decode cX0_way 93 = .ok (.lcmp, 1) := dk_148 (dk_at dksX0_way_3 21 rfl rfl)
theorem dX0_way_94 : decode cX0_way 94 = .ok (.ifCond .lt 51, 3) := dk_155 0 51 (dk_at dksX0_way_4 0 rfl rfl)
theorem dX0_way_97 : decode cX0_way 97 = .ok (.lload 5, 2) := dk_22 5 (dk_at dksX0_way_4 3 rfl rfl)
theorem dX0_way_99 : decode cX0_way 99 = .ok (.iload 7, 2) := dk_21 7 (dk_at dksX0_way_4 5 rfl rfl)
theorem dX0_way_101 : decode cX0_way 101 = .ok (.bipush (-9), 2) := dk_16 247 (dk_at dksX0_way_4 7 rfl rfl)
theorem dX0_way_103 : decode cX0_way 103 = .ok (.if_icmp .eq 23, 3) := dk_159 0 23 (dk_at dksX0_way_4 9 rfl rfl)
theorem dX0_way_106 : decode cX0_way 106 = .ok (.iload 7, 2) := dk_21 7 (dk_at dksX0_way_4 12 rfl rfl)
theorem dX0_way_108 : decode cX0_way 108 = .ok (.iload 9, 2) := dk_21 9 (dk_at dksX0_way_4 14 rfl rfl)
theorem dX0_way_110 : decode cX0_way 110 = .ok (.invokestatic 165, 3) := dk_184 0 165 (dk_at dksX0_way_4 16 rfl rfl)
theorem dX0_way_113 : decode cX0_way 113 = .ok (.aload_n 0, 1) := dk_42 (dk_at dksX0_way_4 19 rfl rfl)
theorem dX0_way_114 : decode cX0_way 114 = .ok (.getfield 87, 3) := dk_180 0 87 (dk_at dksX0_way_4 20 rfl rfl)
theorem dX0_way_117 : decode cX0_way 117 = .ok (.iload_n 1, 1) := dk_27 (dk_at dksX0_way_4 23 rfl rfl)
theorem dX0_way_118 : decode cX0_way 118 = .ok (.iaload, 1) := dk_46 (dk_at dksX0_way_5 0 rfl rfl)
theorem dX0_way_119 : decode cX0_way 119 = .ok (.if_icmp .le 7, 3) := dk_164 0 7 (dk_at dksX0_way_5 1 rfl rfl)
theorem dX0_way_122 : decode cX0_way 122 = .ok (.lconst 0, 1) := dk_9 (dk_at dksX0_way_5 4 rfl rfl)
theorem dX0_way_123 : decode cX0_way 123 = .ok (.goto 13, 3) := dk_167 0 13 (dk_at dksX0_way_5 5 rfl rfl)
theorem dX0_way_126 : decode cX0_way 126 = .ok (.aload_n 0, 1) := dk_42 (dk_at dksX0_way_5 8 rfl rfl)
theorem dX0_way_127 : decode cX0_way 127 = .ok (.getfield 92, 3) := dk_180 0 92 (dk_at dksX0_way_5 9 rfl rfl)
theorem dX0_way_130 : decode cX0_way 130 = .ok (.iload 8, 2) := dk_21 8 (dk_at dksX0_way_5 12 rfl rfl)
theorem dX0_way_132 : decode cX0_way 132 = .ok (.aaload, 1) := dk_50 (dk_at dksX0_way_5 14 rfl rfl)
theorem dX0_way_133 : decode cX0_way 133 = .ok (.iload 9, 2) := dk_21 9 (dk_at dksX0_way_5 15 rfl rfl)
theorem dX0_way_135 : decode cX0_way 135 = .ok (.laload, 1) := dk_47 (dk_at dksX0_way_5 17 rfl rfl)
theorem dX0_way_136 : decode cX0_way 136 = .ok (.lsub, 1) := dk_101 (dk_at dksX0_way_5 18 rfl rfl)
theorem dX0_way_137 : decode cX0_way 137 = .ok (.lstore 5, 2) := dk_55 5 (dk_at dksX0_way_5 19 rfl rfl)
theorem dX0_way_139 : decode cX0_way 139 = .ok (.iinc 9 1, 3) := dk_132 9 1 (dk_at dksX0_way_5 21 rfl rfl)
theorem dX0_way_142 : decode cX0_way 142 = .ok (.goto (-84), 3) := dk_167 255 172 (dk_at dksX0_way_6 0 rfl rfl)
theorem dX0_way_145 : decode cX0_way 145 = .ok (.iload 9, 2) := dk_21 9 (dk_at dksX0_way_6 3 rfl rfl)
theorem dX0_way_147 : decode cX0_way 147 = .ok (.istore 7, 2) := dk_54 7 (dk_at dksX0_way_6 5 rfl rfl)
theorem dX0_way_149 : decode cX0_way 149 = .ok (.iinc 8 1, 3) := dk_132 8 1 (dk_at dksX0_way_6 7 rfl rfl)
theorem dX0_way_152 : decode cX0_way 152 = .ok (.goto (-104), 3) := dk_167 255 152 (dk_at dksX0_way_6 10 rfl rfl)
theorem dX0_way_155 : decode cX0_way 155 = .ok (.iload 7, 2) := dk_21 7 (dk_at dksX0_way_6 13 rfl rfl)
theorem dX0_way_157 : decode cX0_way 157 = .ok (.ireturn, 1) := dk_172 (dk_at dksX0_way_6 15 rfl rfl)
abbrev cX0_trust : ByteArray := prog_1_method_110_code
def yX0_trust : MethodName := ⟨RX0, "trust", "(IZ)I"⟩
def dkwX0_trust_2 : List UInt8 := [181, 1, 63, 42, 3, 181, 1, 172, 4, 172]
abbrev dktX0_trust_2 : List UInt8 := dkwX0_trust_2 ++ []
def dkwX0_trust_1 : List UInt8 := [180, 1, 63, 28, 160, 0, 5, 3, 172, 42, 180, 0, 25, 27, 185, 0, 186, 2, 0, 192, 0, 190, 28]
abbrev dktX0_trust_1 : List UInt8 := dkwX0_trust_1 ++ dktX0_trust_2
def dkwX0_trust_0 : List UInt8 := [42, 27, 182, 1, 37, 154, 0, 5, 2, 172, 42, 180, 0, 25, 27, 185, 0, 186, 2, 0, 192, 0, 190]
abbrev dktX0_trust_0 : List UInt8 := dkwX0_trust_0 ++ dktX0_trust_1
theorem dksX0_trust_0 : cX0_trust.data.toList.drop 0 = dktX0_trust_0 := by decide +kernel
theorem dksX0_trust_1 : cX0_trust.data.toList.drop 23 = dktX0_trust_1 := dk_seg dksX0_trust_0 23 rfl rfl
theorem dksX0_trust_2 : cX0_trust.data.toList.drop 46 = dktX0_trust_2 := dk_seg dksX0_trust_1 23 rfl rfl
theorem dX0_trust_0 : decode cX0_trust 0 = .ok (.aload_n 0, 1) := dk_42 (dk_at dksX0_trust_0 0 rfl rfl)
theorem dX0_trust_1 : decode cX0_trust 1 = .ok (.iload_n 1, 1) := dk_27 (dk_at dksX0_trust_0 1 rfl rfl)
theorem dX0_trust_2 : decode cX0_trust 2 = .ok (.invokevirtual 293, 3) := dk_182 1 37 (dk_at dksX0_trust_0 2 rfl rfl)
theorem dX0_trust_5 : decode cX0_trust 5 = .ok (.ifCond .ne 5, 3) := dk_154 0 5 (dk_at dksX0_trust_0 5 rfl rfl)
theorem dX0_trust_8 : decode cX0_trust 8 = .ok (.iconst (-1), 1) := dk_2 (dk_at dksX0_trust_0 8 rfl rfl)
theorem dX0_trust_9 : decode cX0_trust 9 = .ok (.ireturn, 1) := dk_172 (dk_at dksX0_trust_0 9 rfl rfl)
theorem dX0_trust_10 : decode cX0_trust 10 = .ok (.aload_n 0, 1) := dk_42 (dk_at dksX0_trust_0 10 rfl rfl)
theorem dX0_trust_11 : decode cX0_trust 11 = .ok (.getfield 25, 3) := dk_180 0 25 (dk_at dksX0_trust_0 11 rfl rfl)
theorem dX0_trust_14 : decode cX0_trust 14 = .ok (.iload_n 1, 1) := dk_27 (dk_at dksX0_trust_0 14 rfl rfl)
theorem dX0_trust_15 : decode cX0_trust 15 = .ok (.invokeinterface 186 2, 5) := by decide +kernel
theorem dX0_trust_20 : decode cX0_trust 20 = .ok (.checkcast 190, 3) := dk_192 0 190 (dk_at dksX0_trust_0 20 rfl rfl)
theorem dX0_trust_23 : decode cX0_trust 23 = .ok (.getfield 319, 3) := dk_180 1 63 (dk_at dksX0_trust_1 0 rfl rfl)
theorem dX0_trust_26 : decode cX0_trust 26 = .ok (.iload_n 2, 1) := dk_28 (dk_at dksX0_trust_1 3 rfl rfl)
theorem dX0_trust_27 : decode cX0_trust 27 = .ok (.if_icmp .ne 5, 3) := dk_160 0 5 (dk_at dksX0_trust_1 4 rfl rfl)
theorem dX0_trust_30 : decode cX0_trust 30 = .ok (.iconst 0, 1) := dk_3 (dk_at dksX0_trust_1 7 rfl rfl)
theorem dX0_trust_31 : decode cX0_trust 31 = .ok (.ireturn, 1) := dk_172 (dk_at dksX0_trust_1 8 rfl rfl)
theorem dX0_trust_32 : decode cX0_trust 32 = .ok (.aload_n 0, 1) := dk_42 (dk_at dksX0_trust_1 9 rfl rfl)
theorem dX0_trust_33 : decode cX0_trust 33 = .ok (.getfield 25, 3) := dk_180 0 25 (dk_at dksX0_trust_1 10 rfl rfl)
theorem dX0_trust_36 : decode cX0_trust 36 = .ok (.iload_n 1, 1) := dk_27 (dk_at dksX0_trust_1 13 rfl rfl)
theorem dX0_trust_37 : decode cX0_trust 37 = .ok (.invokeinterface 186 2, 5) := by decide +kernel
theorem dX0_trust_42 : decode cX0_trust 42 = .ok (.checkcast 190, 3) := dk_192 0 190 (dk_at dksX0_trust_1 19 rfl rfl)
theorem dX0_trust_45 : decode cX0_trust 45 = .ok (.iload_n 2, 1) := dk_28 (dk_at dksX0_trust_1 22 rfl rfl)
theorem dX0_trust_46 : decode cX0_trust 46 = .ok (.putfield 319, 3) := dk_181 1 63 (dk_at dksX0_trust_2 0 rfl rfl)
theorem dX0_trust_49 : decode cX0_trust 49 = .ok (.aload_n 0, 1) := dk_42 (dk_at dksX0_trust_2 3 rfl rfl)
theorem dX0_trust_50 : decode cX0_trust 50 = .ok (.iconst 0, 1) := dk_3 (dk_at dksX0_trust_2 4 rfl rfl)
theorem dX0_trust_51 : decode cX0_trust 51 = .ok (.putfield 428, 3) := dk_181 1 172 (dk_at dksX0_trust_2 5 rfl rfl)
theorem dX0_trust_54 : decode cX0_trust 54 = .ok (.iconst 1, 1) := dk_4 (dk_at dksX0_trust_2 8 rfl rfl)
theorem dX0_trust_55 : decode cX0_trust 55 = .ok (.ireturn, 1) := dk_172 (dk_at dksX0_trust_2 9 rfl rfl)
abbrev cX0_liars : ByteArray := prog_1_method_114_code
def yX0_liars : MethodName := ⟨RX0, "liars", "(I)I"⟩
def dkwX0_liars_1 : List UInt8 := [159, 0, 7, 27, 154, 0, 10, 42, 180, 0, 95, 167, 0, 7, 42, 180, 2, 119, 172]
abbrev dktX0_liars_1 : List UInt8 := dkwX0_liars_1 ++ []
def dkwX0_liars_0 : List UInt8 := [27, 133, 9, 10, 184, 0, 130, 154, 0, 6, 16, 254, 172, 42, 182, 2, 134, 42, 180, 0, 95, 16, 247]
abbrev dktX0_liars_0 : List UInt8 := dkwX0_liars_0 ++ dktX0_liars_1
theorem dksX0_liars_0 : cX0_liars.data.toList.drop 0 = dktX0_liars_0 := by decide +kernel
theorem dksX0_liars_1 : cX0_liars.data.toList.drop 23 = dktX0_liars_1 := dk_seg dksX0_liars_0 23 rfl rfl
theorem dX0_liars_0 : decode cX0_liars 0 = .ok (.iload_n 1, 1) := dk_27 (dk_at dksX0_liars_0 0 rfl rfl)
theorem dX0_liars_1 : decode cX0_liars 1 = .ok (.i2l, 1) := dk_133 (dk_at dksX0_liars_0 1 rfl rfl)
theorem dX0_liars_2 : decode cX0_liars 2 = .ok (.lconst 0, 1) := dk_9 (dk_at dksX0_liars_0 2 rfl rfl)
theorem dX0_liars_3 : decode cX0_liars 3 = .ok (.lconst 1, 1) := dk_10 (dk_at dksX0_liars_0 3 rfl rfl)
theorem dX0_liars_4 : decode cX0_liars 4 = .ok (.invokestatic 130, 3) := dk_184 0 130 (dk_at dksX0_liars_0 4 rfl rfl)
theorem dX0_liars_7 : decode cX0_liars 7 = .ok (.ifCond .ne 6, 3) := dk_154 0 6 (dk_at dksX0_liars_0 7 rfl rfl)
theorem dX0_liars_10 : decode cX0_liars 10 = .ok (.bipush (-2), 2) := dk_16 254 (dk_at dksX0_liars_0 10 rfl rfl)
theorem dX0_liars_12 : decode cX0_liars 12 = .ok (.ireturn, 1) := dk_172 (dk_at dksX0_liars_0 12 rfl rfl)
theorem dX0_liars_13 : decode cX0_liars 13 = .ok (.aload_n 0, 1) := dk_42 (dk_at dksX0_liars_0 13 rfl rfl)
theorem dX0_liars_14 : decode cX0_liars 14 = .ok (.invokevirtual 646, 3) := dk_182 2 134 (dk_at dksX0_liars_0 14 rfl rfl)
theorem dX0_liars_17 : decode cX0_liars 17 = .ok (.aload_n 0, 1) := dk_42 (dk_at dksX0_liars_0 17 rfl rfl)
theorem dX0_liars_18 : decode cX0_liars 18 = .ok (.getfield 95, 3) := dk_180 0 95 (dk_at dksX0_liars_0 18 rfl rfl)
theorem dX0_liars_21 : decode cX0_liars 21 = .ok (.bipush (-9), 2) := dk_16 247 (dk_at dksX0_liars_0 21 rfl rfl)
theorem dX0_liars_23 : decode cX0_liars 23 = .ok (.if_icmp .eq 7, 3) := dk_159 0 7 (dk_at dksX0_liars_1 0 rfl rfl)
theorem dX0_liars_26 : decode cX0_liars 26 = .ok (.iload_n 1, 1) := dk_27 (dk_at dksX0_liars_1 3 rfl rfl)
theorem dX0_liars_27 : decode cX0_liars 27 = .ok (.ifCond .ne 10, 3) := dk_154 0 10 (dk_at dksX0_liars_1 4 rfl rfl)
theorem dX0_liars_30 : decode cX0_liars 30 = .ok (.aload_n 0, 1) := dk_42 (dk_at dksX0_liars_1 7 rfl rfl)
theorem dX0_liars_31 : decode cX0_liars 31 = .ok (.getfield 95, 3) := dk_180 0 95 (dk_at dksX0_liars_1 8 rfl rfl)
theorem dX0_liars_34 : decode cX0_liars 34 = .ok (.goto 7, 3) := dk_167 0 7 (dk_at dksX0_liars_1 11 rfl rfl)
theorem dX0_liars_37 : decode cX0_liars 37 = .ok (.aload_n 0, 1) := dk_42 (dk_at dksX0_liars_1 14 rfl rfl)
theorem dX0_liars_38 : decode cX0_liars 38 = .ok (.getfield 631, 3) := dk_180 2 119 (dk_at dksX0_liars_1 15 rfl rfl)
theorem dX0_liars_41 : decode cX0_liars 41 = .ok (.ireturn, 1) := dk_172 (dk_at dksX0_liars_1 18 rfl rfl)
abbrev cX0_findLiars : ByteArray := prog_1_method_113_code
def yX0_findLiars : MethodName := ⟨RX0, "findLiars", "()V"⟩
def dkwX0_findLiars_8 : List UInt8 := [154, 0, 9, 42, 16, 247, 181, 0, 95, 177]
abbrev dktX0_findLiars_8 : List UInt8 := dkwX0_findLiars_8 ++ []
def dkwX0_findLiars_7 : List UInt8 := [182, 2, 128, 132, 2, 1, 167, 255, 210, 132, 1, 1, 167, 255, 147, 167, 255, 117, 42, 180, 2, 119]
abbrev dktX0_findLiars_7 : List UInt8 := dkwX0_findLiars_7 ++ dktX0_findLiars_8
def dkwX0_findLiars_6 : List UInt8 := [185, 0, 186, 2, 0, 192, 0, 190, 182, 2, 131, 153, 0, 14, 42, 4, 27, 120, 4, 28, 120, 128]
abbrev dktX0_findLiars_6 : List UInt8 := dkwX0_findLiars_6 ++ dktX0_findLiars_7
def dkwX0_findLiars_5 : List UInt8 := [27, 4, 96, 61, 28, 42, 180, 0, 25, 185, 0, 180, 1, 0, 162, 0, 39, 42, 180, 0, 25, 28]
abbrev dktX0_findLiars_5 : List UInt8 := dkwX0_findLiars_5 ++ dktX0_findLiars_6
def dkwX0_findLiars_4 : List UInt8 := [154, 0, 6, 167, 0, 74, 42, 180, 0, 95, 4, 160, 0, 13, 42, 4, 27, 120, 182, 2, 128, 167, 0, 56]
abbrev dktX0_findLiars_4 : List UInt8 := dkwX0_findLiars_4 ++ dktX0_findLiars_5
def dkwX0_findLiars_3 : List UInt8 := [185, 0, 180, 1, 0, 162, 0, 102, 42, 180, 0, 25, 27, 185, 0, 186, 2, 0, 192, 0, 190, 182, 2, 131]
abbrev dktX0_findLiars_3 : List UInt8 := dkwX0_findLiars_3 ++ dktX0_findLiars_4
def dkwX0_findLiars_2 : List UInt8 := [180, 0, 95, 5, 162, 0, 130, 42, 89, 180, 0, 95, 4, 96, 181, 0, 95, 3, 60, 27, 42, 180, 0, 25]
abbrev dktX0_findLiars_2 : List UInt8 := dkwX0_findLiars_2 ++ dktX0_findLiars_3
def dkwX0_findLiars_1 : List UInt8 := [3, 181, 2, 125, 42, 3, 181, 0, 95, 42, 3, 182, 2, 128, 42, 180, 2, 119, 154, 0, 138, 42]
abbrev dktX0_findLiars_1 : List UInt8 := dkwX0_findLiars_1 ++ dktX0_findLiars_2
def dkwX0_findLiars_0 : List UInt8 := [42, 180, 1, 172, 153, 0, 4, 177, 42, 4, 181, 1, 172, 42, 3, 181, 2, 119, 42, 3, 181, 2, 122, 42]
abbrev dktX0_findLiars_0 : List UInt8 := dkwX0_findLiars_0 ++ dktX0_findLiars_1
theorem dksX0_findLiars_0 : cX0_findLiars.data.toList.drop 0 = dktX0_findLiars_0 := by decide +kernel
theorem dksX0_findLiars_1 : cX0_findLiars.data.toList.drop 24 = dktX0_findLiars_1 := dk_seg dksX0_findLiars_0 24 rfl rfl
theorem dksX0_findLiars_2 : cX0_findLiars.data.toList.drop 46 = dktX0_findLiars_2 := dk_seg dksX0_findLiars_1 22 rfl rfl
theorem dksX0_findLiars_3 : cX0_findLiars.data.toList.drop 70 = dktX0_findLiars_3 := dk_seg dksX0_findLiars_2 24 rfl rfl
theorem dksX0_findLiars_4 : cX0_findLiars.data.toList.drop 94 = dktX0_findLiars_4 := dk_seg dksX0_findLiars_3 24 rfl rfl
theorem dksX0_findLiars_5 : cX0_findLiars.data.toList.drop 118 = dktX0_findLiars_5 := dk_seg dksX0_findLiars_4 24 rfl rfl
theorem dksX0_findLiars_6 : cX0_findLiars.data.toList.drop 140 = dktX0_findLiars_6 := dk_seg dksX0_findLiars_5 22 rfl rfl
theorem dksX0_findLiars_7 : cX0_findLiars.data.toList.drop 162 = dktX0_findLiars_7 := dk_seg dksX0_findLiars_6 22 rfl rfl
theorem dksX0_findLiars_8 : cX0_findLiars.data.toList.drop 184 = dktX0_findLiars_8 := dk_seg dksX0_findLiars_7 22 rfl rfl
theorem dX0_findLiars_0 : decode cX0_findLiars 0 = .ok (.aload_n 0, 1) := dk_42 (dk_at dksX0_findLiars_0 0 rfl rfl)
theorem dX0_findLiars_1 : decode cX0_findLiars 1 = .ok (.getfield 428, 3) := dk_180 1 172 (dk_at dksX0_findLiars_0 1 rfl rfl)
theorem dX0_findLiars_4 : decode cX0_findLiars 4 = .ok (.ifCond .eq 4, 3) := dk_153 0 4 (dk_at dksX0_findLiars_0 4 rfl rfl)
theorem dX0_findLiars_7 : decode cX0_findLiars 7 = .ok (.return_, 1) := dk_177 (dk_at dksX0_findLiars_0 7 rfl rfl)
theorem dX0_findLiars_8 : decode cX0_findLiars 8 = .ok (.aload_n 0, 1) := dk_42 (dk_at dksX0_findLiars_0 8 rfl rfl)
theorem dX0_findLiars_9 : decode cX0_findLiars 9 = .ok (.iconst 1, 1) := dk_4 (dk_at dksX0_findLiars_0 9 rfl rfl)
theorem dX0_findLiars_10 : decode cX0_findLiars 10 = .ok (.putfield 428, 3) := dk_181 1 172 (dk_at dksX0_findLiars_0 10 rfl rfl)
theorem dX0_findLiars_13 : decode cX0_findLiars 13 = .ok (.aload_n 0, 1) := dk_42 (dk_at dksX0_findLiars_0 13 rfl rfl)
theorem dX0_findLiars_14 : decode cX0_findLiars 14 = .ok (.iconst 0, 1) := dk_3 (dk_at dksX0_findLiars_0 14 rfl rfl)
theorem dX0_findLiars_15 : decode cX0_findLiars 15 = .ok (.putfield 631, 3) := dk_181 2 119 (dk_at dksX0_findLiars_0 15 rfl rfl)
theorem dX0_findLiars_18 : decode cX0_findLiars 18 = .ok (.aload_n 0, 1) := dk_42 (dk_at dksX0_findLiars_0 18 rfl rfl)
theorem dX0_findLiars_19 : decode cX0_findLiars 19 = .ok (.iconst 0, 1) := dk_3 (dk_at dksX0_findLiars_0 19 rfl rfl)
theorem dX0_findLiars_20 : decode cX0_findLiars 20 = .ok (.putfield 634, 3) := dk_181 2 122 (dk_at dksX0_findLiars_0 20 rfl rfl)
theorem dX0_findLiars_23 : decode cX0_findLiars 23 = .ok (.aload_n 0, 1) := dk_42 (dk_at dksX0_findLiars_0 23 rfl rfl)
theorem dX0_findLiars_24 : decode cX0_findLiars 24 = .ok (.iconst 0, 1) := dk_3 (dk_at dksX0_findLiars_1 0 rfl rfl)
theorem dX0_findLiars_25 : decode cX0_findLiars 25 = .ok (.putfield 637, 3) := dk_181 2 125 (dk_at dksX0_findLiars_1 1 rfl rfl)
theorem dX0_findLiars_28 : decode cX0_findLiars 28 = .ok (.aload_n 0, 1) := dk_42 (dk_at dksX0_findLiars_1 4 rfl rfl)
theorem dX0_findLiars_29 : decode cX0_findLiars 29 = .ok (.iconst 0, 1) := dk_3 (dk_at dksX0_findLiars_1 5 rfl rfl)
theorem dX0_findLiars_30 : decode cX0_findLiars 30 = .ok (.putfield 95, 3) := dk_181 0 95 (dk_at dksX0_findLiars_1 6 rfl rfl)
theorem dX0_findLiars_33 : decode cX0_findLiars 33 = .ok (.aload_n 0, 1) := dk_42 (dk_at dksX0_findLiars_1 9 rfl rfl)
theorem dX0_findLiars_34 : decode cX0_findLiars 34 = .ok (.iconst 0, 1) := dk_3 (dk_at dksX0_findLiars_1 10 rfl rfl)
theorem dX0_findLiars_35 : decode cX0_findLiars 35 = .ok (.invokevirtual 640, 3) := dk_182 2 128 (dk_at dksX0_findLiars_1 11 rfl rfl)
theorem dX0_findLiars_38 : decode cX0_findLiars 38 = .ok (.aload_n 0, 1) := dk_42 (dk_at dksX0_findLiars_1 14 rfl rfl)
theorem dX0_findLiars_39 : decode cX0_findLiars 39 = .ok (.getfield 631, 3) := dk_180 2 119 (dk_at dksX0_findLiars_1 15 rfl rfl)
theorem dX0_findLiars_42 : decode cX0_findLiars 42 = .ok (.ifCond .ne 138, 3) := dk_154 0 138 (dk_at dksX0_findLiars_1 18 rfl rfl)
theorem dX0_findLiars_45 : decode cX0_findLiars 45 = .ok (.aload_n 0, 1) := dk_42 (dk_at dksX0_findLiars_1 21 rfl rfl)
theorem dX0_findLiars_46 : decode cX0_findLiars 46 = .ok (.getfield 95, 3) := dk_180 0 95 (dk_at dksX0_findLiars_2 0 rfl rfl)
theorem dX0_findLiars_49 : decode cX0_findLiars 49 = .ok (.iconst 2, 1) := dk_5 (dk_at dksX0_findLiars_2 3 rfl rfl)
theorem dX0_findLiars_50 : decode cX0_findLiars 50 = .ok (.if_icmp .ge 130, 3) := dk_162 0 130 (dk_at dksX0_findLiars_2 4 rfl rfl)
theorem dX0_findLiars_53 : decode cX0_findLiars 53 = .ok (.aload_n 0, 1) := dk_42 (dk_at dksX0_findLiars_2 7 rfl rfl)
theorem dX0_findLiars_54 : decode cX0_findLiars 54 = .ok (.dup, 1) := dk_89 (dk_at dksX0_findLiars_2 8 rfl rfl)
theorem dX0_findLiars_55 : decode cX0_findLiars 55 = .ok (.getfield 95, 3) := dk_180 0 95 (dk_at dksX0_findLiars_2 9 rfl rfl)
theorem dX0_findLiars_58 : decode cX0_findLiars 58 = .ok (.iconst 1, 1) := dk_4 (dk_at dksX0_findLiars_2 12 rfl rfl)
theorem dX0_findLiars_59 : decode cX0_findLiars 59 = .ok (.iadd, 1) := dk_96 (dk_at dksX0_findLiars_2 13 rfl rfl)
theorem dX0_findLiars_60 : decode cX0_findLiars 60 = .ok (.putfield 95, 3) := dk_181 0 95 (dk_at dksX0_findLiars_2 14 rfl rfl)
theorem dX0_findLiars_63 : decode cX0_findLiars 63 = .ok (.iconst 0, 1) := dk_3 (dk_at dksX0_findLiars_2 17 rfl rfl)
theorem dX0_findLiars_64 : decode cX0_findLiars 64 = .ok (.istore_n 1, 1) := dk_60 (dk_at dksX0_findLiars_2 18 rfl rfl)
theorem dX0_findLiars_65 : decode cX0_findLiars 65 = .ok (.iload_n 1, 1) := dk_27 (dk_at dksX0_findLiars_2 19 rfl rfl)
theorem dX0_findLiars_66 : decode cX0_findLiars 66 = .ok (.aload_n 0, 1) := dk_42 (dk_at dksX0_findLiars_2 20 rfl rfl)
theorem dX0_findLiars_67 : decode cX0_findLiars 67 = .ok (.getfield 25, 3) := dk_180 0 25 (dk_at dksX0_findLiars_2 21 rfl rfl)
theorem dX0_findLiars_70 : decode cX0_findLiars 70 = .ok (.invokeinterface 180 1, 5) := by decide +kernel
theorem dX0_findLiars_75 : decode cX0_findLiars 75 = .ok (.if_icmp .ge 102, 3) := dk_162 0 102 (dk_at dksX0_findLiars_3 5 rfl rfl)
theorem dX0_findLiars_78 : decode cX0_findLiars 78 = .ok (.aload_n 0, 1) := dk_42 (dk_at dksX0_findLiars_3 8 rfl rfl)
theorem dX0_findLiars_79 : decode cX0_findLiars 79 = .ok (.getfield 25, 3) := dk_180 0 25 (dk_at dksX0_findLiars_3 9 rfl rfl)
theorem dX0_findLiars_82 : decode cX0_findLiars 82 = .ok (.iload_n 1, 1) := dk_27 (dk_at dksX0_findLiars_3 12 rfl rfl)
theorem dX0_findLiars_83 : decode cX0_findLiars 83 = .ok (.invokeinterface 186 2, 5) := by decide +kernel
theorem dX0_findLiars_88 : decode cX0_findLiars 88 = .ok (.checkcast 190, 3) := dk_192 0 190 (dk_at dksX0_findLiars_3 18 rfl rfl)
theorem dX0_findLiars_91 : decode cX0_findLiars 91 = .ok (.invokevirtual 643, 3) := dk_182 2 131 (dk_at dksX0_findLiars_3 21 rfl rfl)
theorem dX0_findLiars_94 : decode cX0_findLiars 94 = .ok (.ifCond .ne 6, 3) := dk_154 0 6 (dk_at dksX0_findLiars_4 0 rfl rfl)
theorem dX0_findLiars_97 : decode cX0_findLiars 97 = .ok (.goto 74, 3) := dk_167 0 74 (dk_at dksX0_findLiars_4 3 rfl rfl)
theorem dX0_findLiars_100 : decode cX0_findLiars 100 = .ok (.aload_n 0, 1) := dk_42 (dk_at dksX0_findLiars_4 6 rfl rfl)
theorem dX0_findLiars_101 : decode cX0_findLiars 101 = .ok (.getfield 95, 3) := dk_180 0 95 (dk_at dksX0_findLiars_4 7 rfl rfl)
theorem dX0_findLiars_104 : decode cX0_findLiars 104 = .ok (.iconst 1, 1) := dk_4 (dk_at dksX0_findLiars_4 10 rfl rfl)
theorem dX0_findLiars_105 : decode cX0_findLiars 105 = .ok (.if_icmp .ne 13, 3) := dk_160 0 13 (dk_at dksX0_findLiars_4 11 rfl rfl)
theorem dX0_findLiars_108 : decode cX0_findLiars 108 = .ok (.aload_n 0, 1) := dk_42 (dk_at dksX0_findLiars_4 14 rfl rfl)
theorem dX0_findLiars_109 : decode cX0_findLiars 109 = .ok (.iconst 1, 1) := dk_4 (dk_at dksX0_findLiars_4 15 rfl rfl)
theorem dX0_findLiars_110 : decode cX0_findLiars 110 = .ok (.iload_n 1, 1) := dk_27 (dk_at dksX0_findLiars_4 16 rfl rfl)
theorem dX0_findLiars_111 : decode cX0_findLiars 111 = .ok (.ishl, 1) := dk_120 (dk_at dksX0_findLiars_4 17 rfl rfl)
theorem dX0_findLiars_112 : decode cX0_findLiars 112 = .ok (.invokevirtual 640, 3) := dk_182 2 128 (dk_at dksX0_findLiars_4 18 rfl rfl)
theorem dX0_findLiars_115 : decode cX0_findLiars 115 = .ok (.goto 56, 3) := dk_167 0 56 (dk_at dksX0_findLiars_4 21 rfl rfl)
theorem dX0_findLiars_118 : decode cX0_findLiars 118 = .ok (.iload_n 1, 1) := dk_27 (dk_at dksX0_findLiars_5 0 rfl rfl)
theorem dX0_findLiars_119 : decode cX0_findLiars 119 = .ok (.iconst 1, 1) := dk_4 (dk_at dksX0_findLiars_5 1 rfl rfl)
theorem dX0_findLiars_120 : decode cX0_findLiars 120 = .ok (.iadd, 1) := dk_96 (dk_at dksX0_findLiars_5 2 rfl rfl)
theorem dX0_findLiars_121 : decode cX0_findLiars 121 = .ok (.istore_n 2, 1) := dk_61 (dk_at dksX0_findLiars_5 3 rfl rfl)
theorem dX0_findLiars_122 : decode cX0_findLiars 122 = .ok (.iload_n 2, 1) := dk_28 (dk_at dksX0_findLiars_5 4 rfl rfl)
theorem dX0_findLiars_123 : decode cX0_findLiars 123 = .ok (.aload_n 0, 1) := dk_42 (dk_at dksX0_findLiars_5 5 rfl rfl)
theorem dX0_findLiars_124 : decode cX0_findLiars 124 = .ok (.getfield 25, 3) := dk_180 0 25 (dk_at dksX0_findLiars_5 6 rfl rfl)
theorem dX0_findLiars_127 : decode cX0_findLiars 127 = .ok (.invokeinterface 180 1, 5) := by decide +kernel
theorem dX0_findLiars_132 : decode cX0_findLiars 132 = .ok (.if_icmp .ge 39, 3) := dk_162 0 39 (dk_at dksX0_findLiars_5 14 rfl rfl)
theorem dX0_findLiars_135 : decode cX0_findLiars 135 = .ok (.aload_n 0, 1) := dk_42 (dk_at dksX0_findLiars_5 17 rfl rfl)
theorem dX0_findLiars_136 : decode cX0_findLiars 136 = .ok (.getfield 25, 3) := dk_180 0 25 (dk_at dksX0_findLiars_5 18 rfl rfl)
theorem dX0_findLiars_139 : decode cX0_findLiars 139 = .ok (.iload_n 2, 1) := dk_28 (dk_at dksX0_findLiars_5 21 rfl rfl)
theorem dX0_findLiars_140 : decode cX0_findLiars 140 = .ok (.invokeinterface 186 2, 5) := by decide +kernel
theorem dX0_findLiars_145 : decode cX0_findLiars 145 = .ok (.checkcast 190, 3) := dk_192 0 190 (dk_at dksX0_findLiars_6 5 rfl rfl)
theorem dX0_findLiars_148 : decode cX0_findLiars 148 = .ok (.invokevirtual 643, 3) := dk_182 2 131 (dk_at dksX0_findLiars_6 8 rfl rfl)
theorem dX0_findLiars_151 : decode cX0_findLiars 151 = .ok (.ifCond .eq 14, 3) := dk_153 0 14 (dk_at dksX0_findLiars_6 11 rfl rfl)
theorem dX0_findLiars_154 : decode cX0_findLiars 154 = .ok (.aload_n 0, 1) := dk_42 (dk_at dksX0_findLiars_6 14 rfl rfl)
theorem dX0_findLiars_155 : decode cX0_findLiars 155 = .ok (.iconst 1, 1) := dk_4 (dk_at dksX0_findLiars_6 15 rfl rfl)
theorem dX0_findLiars_156 : decode cX0_findLiars 156 = .ok (.iload_n 1, 1) := dk_27 (dk_at dksX0_findLiars_6 16 rfl rfl)
theorem dX0_findLiars_157 : decode cX0_findLiars 157 = .ok (.ishl, 1) := dk_120 (dk_at dksX0_findLiars_6 17 rfl rfl)
theorem dX0_findLiars_158 : decode cX0_findLiars 158 = .ok (.iconst 1, 1) := dk_4 (dk_at dksX0_findLiars_6 18 rfl rfl)
theorem dX0_findLiars_159 : decode cX0_findLiars 159 = .ok (.iload_n 2, 1) := dk_28 (dk_at dksX0_findLiars_6 19 rfl rfl)
theorem dX0_findLiars_160 : decode cX0_findLiars 160 = .ok (.ishl, 1) := dk_120 (dk_at dksX0_findLiars_6 20 rfl rfl)
theorem dX0_findLiars_161 : decode cX0_findLiars 161 = .ok (.ior, 1) := dk_128 (dk_at dksX0_findLiars_6 21 rfl rfl)
theorem dX0_findLiars_162 : decode cX0_findLiars 162 = .ok (.invokevirtual 640, 3) := dk_182 2 128 (dk_at dksX0_findLiars_7 0 rfl rfl)
theorem dX0_findLiars_165 : decode cX0_findLiars 165 = .ok (.iinc 2 1, 3) := dk_132 2 1 (dk_at dksX0_findLiars_7 3 rfl rfl)
theorem dX0_findLiars_168 : decode cX0_findLiars 168 = .ok (.goto (-46), 3) := dk_167 255 210 (dk_at dksX0_findLiars_7 6 rfl rfl)
theorem dX0_findLiars_171 : decode cX0_findLiars 171 = .ok (.iinc 1 1, 3) := dk_132 1 1 (dk_at dksX0_findLiars_7 9 rfl rfl)
theorem dX0_findLiars_174 : decode cX0_findLiars 174 = .ok (.goto (-109), 3) := dk_167 255 147 (dk_at dksX0_findLiars_7 12 rfl rfl)
theorem dX0_findLiars_177 : decode cX0_findLiars 177 = .ok (.goto (-139), 3) := dk_167 255 117 (dk_at dksX0_findLiars_7 15 rfl rfl)
theorem dX0_findLiars_180 : decode cX0_findLiars 180 = .ok (.aload_n 0, 1) := dk_42 (dk_at dksX0_findLiars_7 18 rfl rfl)
theorem dX0_findLiars_181 : decode cX0_findLiars 181 = .ok (.getfield 631, 3) := dk_180 2 119 (dk_at dksX0_findLiars_7 19 rfl rfl)
theorem dX0_findLiars_184 : decode cX0_findLiars 184 = .ok (.ifCond .ne 9, 3) := dk_154 0 9 (dk_at dksX0_findLiars_8 0 rfl rfl)
theorem dX0_findLiars_187 : decode cX0_findLiars 187 = .ok (.aload_n 0, 1) := dk_42 (dk_at dksX0_findLiars_8 3 rfl rfl)
theorem dX0_findLiars_188 : decode cX0_findLiars 188 = .ok (.bipush (-9), 2) := dk_16 247 (dk_at dksX0_findLiars_8 4 rfl rfl)
theorem dX0_findLiars_190 : decode cX0_findLiars 190 = .ok (.putfield 95, 3) := dk_181 0 95 (dk_at dksX0_findLiars_8 6 rfl rfl)
theorem dX0_findLiars_193 : decode cX0_findLiars 193 = .ok (.return_, 1) := dk_177 (dk_at dksX0_findLiars_8 9 rfl rfl)
abbrev cX0_noteLiars : ByteArray := prog_1_method_112_code
def yX0_noteLiars : MethodName := ⟨RX0, "noteLiars", "(I)V"⟩
def dkwX0_noteLiars_2 : List UInt8 := [96, 181, 2, 119, 177]
abbrev dktX0_noteLiars_2 : List UInt8 := dkwX0_noteLiars_2 ++ []
def dkwX0_noteLiars_1 : List UInt8 := [180, 2, 122, 27, 126, 181, 2, 122, 42, 89, 180, 2, 125, 27, 128, 181, 2, 125, 42, 89, 180, 2, 119, 4]
abbrev dktX0_noteLiars_1 : List UInt8 := dkwX0_noteLiars_1 ++ dktX0_noteLiars_2
def dkwX0_noteLiars_0 : List UInt8 := [42, 27, 182, 2, 116, 154, 0, 4, 177, 42, 42, 180, 2, 119, 154, 0, 7, 27, 167, 0, 9, 42]
abbrev dktX0_noteLiars_0 : List UInt8 := dkwX0_noteLiars_0 ++ dktX0_noteLiars_1
theorem dksX0_noteLiars_0 : cX0_noteLiars.data.toList.drop 0 = dktX0_noteLiars_0 := by decide +kernel
theorem dksX0_noteLiars_1 : cX0_noteLiars.data.toList.drop 22 = dktX0_noteLiars_1 := dk_seg dksX0_noteLiars_0 22 rfl rfl
theorem dksX0_noteLiars_2 : cX0_noteLiars.data.toList.drop 46 = dktX0_noteLiars_2 := dk_seg dksX0_noteLiars_1 24 rfl rfl
theorem dX0_noteLiars_0 : decode cX0_noteLiars 0 = .ok (.aload_n 0, 1) := dk_42 (dk_at dksX0_noteLiars_0 0 rfl rfl)
theorem dX0_noteLiars_1 : decode cX0_noteLiars 1 = .ok (.iload_n 1, 1) := dk_27 (dk_at dksX0_noteLiars_0 1 rfl rfl)
theorem dX0_noteLiars_2 : decode cX0_noteLiars 2 = .ok (.invokevirtual 628, 3) := dk_182 2 116 (dk_at dksX0_noteLiars_0 2 rfl rfl)
theorem dX0_noteLiars_5 : decode cX0_noteLiars 5 = .ok (.ifCond .ne 4, 3) := dk_154 0 4 (dk_at dksX0_noteLiars_0 5 rfl rfl)
theorem dX0_noteLiars_8 : decode cX0_noteLiars 8 = .ok (.return_, 1) := dk_177 (dk_at dksX0_noteLiars_0 8 rfl rfl)
theorem dX0_noteLiars_9 : decode cX0_noteLiars 9 = .ok (.aload_n 0, 1) := dk_42 (dk_at dksX0_noteLiars_0 9 rfl rfl)
theorem dX0_noteLiars_10 : decode cX0_noteLiars 10 = .ok (.aload_n 0, 1) := dk_42 (dk_at dksX0_noteLiars_0 10 rfl rfl)
theorem dX0_noteLiars_11 : decode cX0_noteLiars 11 = .ok (.getfield 631, 3) := dk_180 2 119 (dk_at dksX0_noteLiars_0 11 rfl rfl)
theorem dX0_noteLiars_14 : decode cX0_noteLiars 14 = .ok (.ifCond .ne 7, 3) := dk_154 0 7 (dk_at dksX0_noteLiars_0 14 rfl rfl)
theorem dX0_noteLiars_17 : decode cX0_noteLiars 17 = .ok (.iload_n 1, 1) := dk_27 (dk_at dksX0_noteLiars_0 17 rfl rfl)
theorem dX0_noteLiars_18 : decode cX0_noteLiars 18 = .ok (.goto 9, 3) := dk_167 0 9 (dk_at dksX0_noteLiars_0 18 rfl rfl)
theorem dX0_noteLiars_21 : decode cX0_noteLiars 21 = .ok (.aload_n 0, 1) := dk_42 (dk_at dksX0_noteLiars_0 21 rfl rfl)
theorem dX0_noteLiars_22 : decode cX0_noteLiars 22 = .ok (.getfield 634, 3) := dk_180 2 122 (dk_at dksX0_noteLiars_1 0 rfl rfl)
theorem dX0_noteLiars_25 : decode cX0_noteLiars 25 = .ok (.iload_n 1, 1) := dk_27 (dk_at dksX0_noteLiars_1 3 rfl rfl)
theorem dX0_noteLiars_26 : decode cX0_noteLiars 26 = .ok (.iand, 1) := dk_126 (dk_at dksX0_noteLiars_1 4 rfl rfl)
theorem dX0_noteLiars_27 : decode cX0_noteLiars 27 = .ok (.putfield 634, 3) := dk_181 2 122 (dk_at dksX0_noteLiars_1 5 rfl rfl)
theorem dX0_noteLiars_30 : decode cX0_noteLiars 30 = .ok (.aload_n 0, 1) := dk_42 (dk_at dksX0_noteLiars_1 8 rfl rfl)
theorem dX0_noteLiars_31 : decode cX0_noteLiars 31 = .ok (.dup, 1) := dk_89 (dk_at dksX0_noteLiars_1 9 rfl rfl)
theorem dX0_noteLiars_32 : decode cX0_noteLiars 32 = .ok (.getfield 637, 3) := dk_180 2 125 (dk_at dksX0_noteLiars_1 10 rfl rfl)
theorem dX0_noteLiars_35 : decode cX0_noteLiars 35 = .ok (.iload_n 1, 1) := dk_27 (dk_at dksX0_noteLiars_1 13 rfl rfl)
theorem dX0_noteLiars_36 : decode cX0_noteLiars 36 = .ok (.ior, 1) := dk_128 (dk_at dksX0_noteLiars_1 14 rfl rfl)
theorem dX0_noteLiars_37 : decode cX0_noteLiars 37 = .ok (.putfield 637, 3) := dk_181 2 125 (dk_at dksX0_noteLiars_1 15 rfl rfl)
theorem dX0_noteLiars_40 : decode cX0_noteLiars 40 = .ok (.aload_n 0, 1) := dk_42 (dk_at dksX0_noteLiars_1 18 rfl rfl)
theorem dX0_noteLiars_41 : decode cX0_noteLiars 41 = .ok (.dup, 1) := dk_89 (dk_at dksX0_noteLiars_1 19 rfl rfl)
theorem dX0_noteLiars_42 : decode cX0_noteLiars 42 = .ok (.getfield 631, 3) := dk_180 2 119 (dk_at dksX0_noteLiars_1 20 rfl rfl)
theorem dX0_noteLiars_45 : decode cX0_noteLiars 45 = .ok (.iconst 1, 1) := dk_4 (dk_at dksX0_noteLiars_1 23 rfl rfl)
theorem dX0_noteLiars_46 : decode cX0_noteLiars 46 = .ok (.iadd, 1) := dk_96 (dk_at dksX0_noteLiars_2 0 rfl rfl)
theorem dX0_noteLiars_47 : decode cX0_noteLiars 47 = .ok (.putfield 631, 3) := dk_181 2 119 (dk_at dksX0_noteLiars_2 1 rfl rfl)
theorem dX0_noteLiars_50 : decode cX0_noteLiars 50 = .ok (.return_, 1) := dk_177 (dk_at dksX0_noteLiars_2 4 rfl rfl)
abbrev cX0_isPeace : ByteArray := prog_1_method_111_code
def yX0_isPeace : MethodName := ⟨RX0, "isPeace", "(I)Z"⟩
def dkwX0_isPeace_3 : List UInt8 := [167, 255, 190, 42, 182, 1, 200, 154, 0, 7, 4, 167, 0, 4, 3, 172]
abbrev dktX0_isPeace_3 : List UInt8 := dkwX0_isPeace_3 ++ []
def dkwX0_isPeace_2 : List UInt8 := [180, 1, 145, 120, 4, 45, 180, 1, 148, 120, 128, 126, 154, 0, 7, 4, 167, 0, 4, 3, 84, 132, 2, 1]
abbrev dktX0_isPeace_2 : List UInt8 := dkwX0_isPeace_2 ++ dktX0_isPeace_3
def dkwX0_isPeace_1 : List UInt8 := [185, 0, 186, 2, 0, 192, 0, 214, 78, 42, 180, 0, 38, 28, 45, 180, 1, 46, 153, 0, 25, 27, 4, 45]
abbrev dktX0_isPeace_1 : List UInt8 := dkwX0_isPeace_1 ++ dktX0_isPeace_2
def dkwX0_isPeace_0 : List UInt8 := [3, 61, 28, 42, 180, 0, 29, 185, 0, 180, 1, 0, 162, 0, 59, 42, 180, 0, 29, 28]
abbrev dktX0_isPeace_0 : List UInt8 := dkwX0_isPeace_0 ++ dktX0_isPeace_1
theorem dksX0_isPeace_0 : cX0_isPeace.data.toList.drop 0 = dktX0_isPeace_0 := by decide +kernel
theorem dksX0_isPeace_1 : cX0_isPeace.data.toList.drop 20 = dktX0_isPeace_1 := dk_seg dksX0_isPeace_0 20 rfl rfl
theorem dksX0_isPeace_2 : cX0_isPeace.data.toList.drop 44 = dktX0_isPeace_2 := dk_seg dksX0_isPeace_1 24 rfl rfl
theorem dksX0_isPeace_3 : cX0_isPeace.data.toList.drop 68 = dktX0_isPeace_3 := dk_seg dksX0_isPeace_2 24 rfl rfl
theorem dX0_isPeace_0 : decode cX0_isPeace 0 = .ok (.iconst 0, 1) := dk_3 (dk_at dksX0_isPeace_0 0 rfl rfl)
theorem dX0_isPeace_1 : decode cX0_isPeace 1 = .ok (.istore_n 2, 1) := dk_61 (dk_at dksX0_isPeace_0 1 rfl rfl)
theorem dX0_isPeace_2 : decode cX0_isPeace 2 = .ok (.iload_n 2, 1) := dk_28 (dk_at dksX0_isPeace_0 2 rfl rfl)
theorem dX0_isPeace_3 : decode cX0_isPeace 3 = .ok (.aload_n 0, 1) := dk_42 (dk_at dksX0_isPeace_0 3 rfl rfl)
theorem dX0_isPeace_4 : decode cX0_isPeace 4 = .ok (.getfield 29, 3) := dk_180 0 29 (dk_at dksX0_isPeace_0 4 rfl rfl)
theorem dX0_isPeace_7 : decode cX0_isPeace 7 = .ok (.invokeinterface 180 1, 5) := by decide +kernel
theorem dX0_isPeace_12 : decode cX0_isPeace 12 = .ok (.if_icmp .ge 59, 3) := dk_162 0 59 (dk_at dksX0_isPeace_0 12 rfl rfl)
theorem dX0_isPeace_15 : decode cX0_isPeace 15 = .ok (.aload_n 0, 1) := dk_42 (dk_at dksX0_isPeace_0 15 rfl rfl)
theorem dX0_isPeace_16 : decode cX0_isPeace 16 = .ok (.getfield 29, 3) := dk_180 0 29 (dk_at dksX0_isPeace_0 16 rfl rfl)
theorem dX0_isPeace_19 : decode cX0_isPeace 19 = .ok (.iload_n 2, 1) := dk_28 (dk_at dksX0_isPeace_0 19 rfl rfl)
theorem dX0_isPeace_20 : decode cX0_isPeace 20 = .ok (.invokeinterface 186 2, 5) := by decide +kernel
theorem dX0_isPeace_25 : decode cX0_isPeace 25 = .ok (.checkcast 214, 3) := dk_192 0 214 (dk_at dksX0_isPeace_1 5 rfl rfl)
theorem dX0_isPeace_28 : decode cX0_isPeace 28 = .ok (.astore_n 3, 1) := dk_78 (dk_at dksX0_isPeace_1 8 rfl rfl)
theorem dX0_isPeace_29 : decode cX0_isPeace 29 = .ok (.aload_n 0, 1) := dk_42 (dk_at dksX0_isPeace_1 9 rfl rfl)
theorem dX0_isPeace_30 : decode cX0_isPeace 30 = .ok (.getfield 38, 3) := dk_180 0 38 (dk_at dksX0_isPeace_1 10 rfl rfl)
theorem dX0_isPeace_33 : decode cX0_isPeace 33 = .ok (.iload_n 2, 1) := dk_28 (dk_at dksX0_isPeace_1 13 rfl rfl)
theorem dX0_isPeace_34 : decode cX0_isPeace 34 = .ok (.aload_n 3, 1) := dk_45 (dk_at dksX0_isPeace_1 14 rfl rfl)
theorem dX0_isPeace_35 : decode cX0_isPeace 35 = .ok (.getfield 302, 3) := dk_180 1 46 (dk_at dksX0_isPeace_1 15 rfl rfl)
theorem dX0_isPeace_38 : decode cX0_isPeace 38 = .ok (.ifCond .eq 25, 3) := dk_153 0 25 (dk_at dksX0_isPeace_1 18 rfl rfl)
theorem dX0_isPeace_41 : decode cX0_isPeace 41 = .ok (.iload_n 1, 1) := dk_27 (dk_at dksX0_isPeace_1 21 rfl rfl)
theorem dX0_isPeace_42 : decode cX0_isPeace 42 = .ok (.iconst 1, 1) := dk_4 (dk_at dksX0_isPeace_1 22 rfl rfl)
theorem dX0_isPeace_43 : decode cX0_isPeace 43 = .ok (.aload_n 3, 1) := dk_45 (dk_at dksX0_isPeace_1 23 rfl rfl)
theorem dX0_isPeace_44 : decode cX0_isPeace 44 = .ok (.getfield 401, 3) := dk_180 1 145 (dk_at dksX0_isPeace_2 0 rfl rfl)
theorem dX0_isPeace_47 : decode cX0_isPeace 47 = .ok (.ishl, 1) := dk_120 (dk_at dksX0_isPeace_2 3 rfl rfl)
theorem dX0_isPeace_48 : decode cX0_isPeace 48 = .ok (.iconst 1, 1) := dk_4 (dk_at dksX0_isPeace_2 4 rfl rfl)
theorem dX0_isPeace_49 : decode cX0_isPeace 49 = .ok (.aload_n 3, 1) := dk_45 (dk_at dksX0_isPeace_2 5 rfl rfl)
theorem dX0_isPeace_50 : decode cX0_isPeace 50 = .ok (.getfield 404, 3) := dk_180 1 148 (dk_at dksX0_isPeace_2 6 rfl rfl)
theorem dX0_isPeace_53 : decode cX0_isPeace 53 = .ok (.ishl, 1) := dk_120 (dk_at dksX0_isPeace_2 9 rfl rfl)
theorem dX0_isPeace_54 : decode cX0_isPeace 54 = .ok (.ior, 1) := dk_128 (dk_at dksX0_isPeace_2 10 rfl rfl)
theorem dX0_isPeace_55 : decode cX0_isPeace 55 = .ok (.iand, 1) := dk_126 (dk_at dksX0_isPeace_2 11 rfl rfl)
theorem dX0_isPeace_56 : decode cX0_isPeace 56 = .ok (.ifCond .ne 7, 3) := dk_154 0 7 (dk_at dksX0_isPeace_2 12 rfl rfl)
theorem dX0_isPeace_59 : decode cX0_isPeace 59 = .ok (.iconst 1, 1) := dk_4 (dk_at dksX0_isPeace_2 15 rfl rfl)
theorem dX0_isPeace_60 : decode cX0_isPeace 60 = .ok (.goto 4, 3) := dk_167 0 4 (dk_at dksX0_isPeace_2 16 rfl rfl)
theorem dX0_isPeace_63 : decode cX0_isPeace 63 = .ok (.iconst 0, 1) := dk_3 (dk_at dksX0_isPeace_2 19 rfl rfl)
theorem dX0_isPeace_64 : decode cX0_isPeace 64 = .ok (.bastore, 1) := dk_84 (dk_at dksX0_isPeace_2 20 rfl rfl)
theorem dX0_isPeace_65 : decode cX0_isPeace 65 = .ok (.iinc 2 1, 3) := dk_132 2 1 (dk_at dksX0_isPeace_2 21 rfl rfl)
theorem dX0_isPeace_68 : decode cX0_isPeace 68 = .ok (.goto (-66), 3) := dk_167 255 190 (dk_at dksX0_isPeace_3 0 rfl rfl)
theorem dX0_isPeace_71 : decode cX0_isPeace 71 = .ok (.aload_n 0, 1) := dk_42 (dk_at dksX0_isPeace_3 3 rfl rfl)
theorem dX0_isPeace_72 : decode cX0_isPeace 72 = .ok (.invokevirtual 456, 3) := dk_182 1 200 (dk_at dksX0_isPeace_3 4 rfl rfl)
theorem dX0_isPeace_75 : decode cX0_isPeace 75 = .ok (.ifCond .ne 7, 3) := dk_154 0 7 (dk_at dksX0_isPeace_3 7 rfl rfl)
theorem dX0_isPeace_78 : decode cX0_isPeace 78 = .ok (.iconst 1, 1) := dk_4 (dk_at dksX0_isPeace_3 10 rfl rfl)
theorem dX0_isPeace_79 : decode cX0_isPeace 79 = .ok (.goto 4, 3) := dk_167 0 4 (dk_at dksX0_isPeace_3 11 rfl rfl)
theorem dX0_isPeace_82 : decode cX0_isPeace 82 = .ok (.iconst 0, 1) := dk_3 (dk_at dksX0_isPeace_3 14 rfl rfl)
theorem dX0_isPeace_83 : decode cX0_isPeace 83 = .ok (.ireturn, 1) := dk_172 (dk_at dksX0_isPeace_3 15 rfl rfl)
abbrev cX0_lies : ByteArray := prog_1_method_115_code
def yX0_lies : MethodName := ⟨RX0, "lies", "(I)I"⟩
def dkwX0_lies_2 : List UInt8 := [180, 2, 125, 27, 122, 4, 126, 172]
abbrev dktX0_lies_2 : List UInt8 := dkwX0_lies_2 ++ []
def dkwX0_lies_1 : List UInt8 := [16, 247, 167, 0, 27, 42, 180, 2, 122, 27, 122, 4, 126, 4, 160, 0, 7, 5, 167, 0, 11, 42]
abbrev dktX0_lies_1 : List UInt8 := dkwX0_lies_1 ++ dktX0_lies_2
def dkwX0_lies_0 : List UInt8 := [42, 27, 182, 1, 37, 154, 0, 5, 2, 172, 42, 182, 2, 134, 42, 180, 0, 95, 16, 247, 160, 0, 8]
abbrev dktX0_lies_0 : List UInt8 := dkwX0_lies_0 ++ dktX0_lies_1
theorem dksX0_lies_0 : cX0_lies.data.toList.drop 0 = dktX0_lies_0 := by decide +kernel
theorem dksX0_lies_1 : cX0_lies.data.toList.drop 23 = dktX0_lies_1 := dk_seg dksX0_lies_0 23 rfl rfl
theorem dksX0_lies_2 : cX0_lies.data.toList.drop 45 = dktX0_lies_2 := dk_seg dksX0_lies_1 22 rfl rfl
theorem dX0_lies_0 : decode cX0_lies 0 = .ok (.aload_n 0, 1) := dk_42 (dk_at dksX0_lies_0 0 rfl rfl)
theorem dX0_lies_1 : decode cX0_lies 1 = .ok (.iload_n 1, 1) := dk_27 (dk_at dksX0_lies_0 1 rfl rfl)
theorem dX0_lies_2 : decode cX0_lies 2 = .ok (.invokevirtual 293, 3) := dk_182 1 37 (dk_at dksX0_lies_0 2 rfl rfl)
theorem dX0_lies_5 : decode cX0_lies 5 = .ok (.ifCond .ne 5, 3) := dk_154 0 5 (dk_at dksX0_lies_0 5 rfl rfl)
theorem dX0_lies_8 : decode cX0_lies 8 = .ok (.iconst (-1), 1) := dk_2 (dk_at dksX0_lies_0 8 rfl rfl)
theorem dX0_lies_9 : decode cX0_lies 9 = .ok (.ireturn, 1) := dk_172 (dk_at dksX0_lies_0 9 rfl rfl)
theorem dX0_lies_10 : decode cX0_lies 10 = .ok (.aload_n 0, 1) := dk_42 (dk_at dksX0_lies_0 10 rfl rfl)
theorem dX0_lies_11 : decode cX0_lies 11 = .ok (.invokevirtual 646, 3) := dk_182 2 134 (dk_at dksX0_lies_0 11 rfl rfl)
theorem dX0_lies_14 : decode cX0_lies 14 = .ok (.aload_n 0, 1) := dk_42 (dk_at dksX0_lies_0 14 rfl rfl)
theorem dX0_lies_15 : decode cX0_lies 15 = .ok (.getfield 95, 3) := dk_180 0 95 (dk_at dksX0_lies_0 15 rfl rfl)
theorem dX0_lies_18 : decode cX0_lies 18 = .ok (.bipush (-9), 2) := dk_16 247 (dk_at dksX0_lies_0 18 rfl rfl)
theorem dX0_lies_20 : decode cX0_lies 20 = .ok (.if_icmp .ne 8, 3) := dk_160 0 8 (dk_at dksX0_lies_0 20 rfl rfl)
theorem dX0_lies_23 : decode cX0_lies 23 = .ok (.bipush (-9), 2) := dk_16 247 (dk_at dksX0_lies_1 0 rfl rfl)
theorem dX0_lies_25 : decode cX0_lies 25 = .ok (.goto 27, 3) := dk_167 0 27 (dk_at dksX0_lies_1 2 rfl rfl)
theorem dX0_lies_28 : decode cX0_lies 28 = .ok (.aload_n 0, 1) := dk_42 (dk_at dksX0_lies_1 5 rfl rfl)
theorem dX0_lies_29 : decode cX0_lies 29 = .ok (.getfield 634, 3) := dk_180 2 122 (dk_at dksX0_lies_1 6 rfl rfl)
theorem dX0_lies_32 : decode cX0_lies 32 = .ok (.iload_n 1, 1) := dk_27 (dk_at dksX0_lies_1 9 rfl rfl)
theorem dX0_lies_33 : decode cX0_lies 33 = .ok (.ishr, 1) := dk_122 (dk_at dksX0_lies_1 10 rfl rfl)
theorem dX0_lies_34 : decode cX0_lies 34 = .ok (.iconst 1, 1) := dk_4 (dk_at dksX0_lies_1 11 rfl rfl)
theorem dX0_lies_35 : decode cX0_lies 35 = .ok (.iand, 1) := dk_126 (dk_at dksX0_lies_1 12 rfl rfl)
theorem dX0_lies_36 : decode cX0_lies 36 = .ok (.iconst 1, 1) := dk_4 (dk_at dksX0_lies_1 13 rfl rfl)
theorem dX0_lies_37 : decode cX0_lies 37 = .ok (.if_icmp .ne 7, 3) := dk_160 0 7 (dk_at dksX0_lies_1 14 rfl rfl)
theorem dX0_lies_40 : decode cX0_lies 40 = .ok (.iconst 2, 1) := dk_5 (dk_at dksX0_lies_1 17 rfl rfl)
theorem dX0_lies_41 : decode cX0_lies 41 = .ok (.goto 11, 3) := dk_167 0 11 (dk_at dksX0_lies_1 18 rfl rfl)
theorem dX0_lies_44 : decode cX0_lies 44 = .ok (.aload_n 0, 1) := dk_42 (dk_at dksX0_lies_1 21 rfl rfl)
theorem dX0_lies_45 : decode cX0_lies 45 = .ok (.getfield 637, 3) := dk_180 2 125 (dk_at dksX0_lies_2 0 rfl rfl)
theorem dX0_lies_48 : decode cX0_lies 48 = .ok (.iload_n 1, 1) := dk_27 (dk_at dksX0_lies_2 3 rfl rfl)
theorem dX0_lies_49 : decode cX0_lies 49 = .ok (.ishr, 1) := dk_122 (dk_at dksX0_lies_2 4 rfl rfl)
theorem dX0_lies_50 : decode cX0_lies 50 = .ok (.iconst 1, 1) := dk_4 (dk_at dksX0_lies_2 5 rfl rfl)
theorem dX0_lies_51 : decode cX0_lies 51 = .ok (.iand, 1) := dk_126 (dk_at dksX0_lies_2 6 rfl rfl)
theorem dX0_lies_52 : decode cX0_lies 52 = .ok (.ireturn, 1) := dk_172 (dk_at dksX0_lies_2 7 rfl rfl)
abbrev cX0_keep : ByteArray := prog_1_method_117_code
def yX0_keep : MethodName := ⟨RX0, "keep", "(I)I"⟩
def dkwX0_keep_11 : List UInt8 := [44, 4, 181, 2, 163, 42, 180, 0, 100, 27, 44, 83, 4, 172]
abbrev dktX0_keep_11 : List UInt8 := dkwX0_keep_11 ++ []
def dkwX0_keep_10 : List UInt8 := [44, 180, 2, 160, 6, 6, 184, 1, 219, 42, 180, 0, 87, 3, 44, 180, 2, 160, 16, 6, 6, 184, 1, 219]
abbrev dktX0_keep_10 : List UInt8 := dkwX0_keep_10 ++ dktX0_keep_11
def dkwX0_keep_9 : List UInt8 := [16, 24, 184, 1, 219, 42, 180, 0, 81, 3, 44, 180, 2, 160, 3, 6, 184, 1, 219, 42, 180, 0, 84, 3]
abbrev dktX0_keep_9 : List UInt8 := dkwX0_keep_9 ++ dktX0_keep_10
def dkwX0_keep_8 : List UInt8 := [192, 0, 214, 180, 1, 46, 84, 132, 3, 1, 167, 255, 218, 42, 180, 0, 69, 3, 44, 180, 2, 159, 3]
abbrev dktX0_keep_8 : List UInt8 := dkwX0_keep_8 ++ dktX0_keep_9
def dkwX0_keep_7 : List UInt8 := [185, 0, 180, 1, 0, 162, 0, 31, 44, 180, 2, 157, 29, 42, 180, 0, 29, 29, 185, 0, 186, 2, 0]
abbrev dktX0_keep_7 : List UInt8 := dkwX0_keep_7 ++ dktX0_keep_8
def dkwX0_keep_6 : List UInt8 := [192, 0, 190, 180, 1, 63, 84, 132, 3, 1, 167, 255, 196, 3, 62, 29, 42, 180, 0, 29]
abbrev dktX0_keep_6 : List UInt8 := dkwX0_keep_6 ++ dktX0_keep_7
def dkwX0_keep_5 : List UInt8 := [192, 0, 190, 180, 1, 43, 80, 44, 180, 2, 155, 29, 42, 180, 0, 25, 29, 185, 0, 186, 2, 0]
abbrev dktX0_keep_5 : List UInt8 := dkwX0_keep_5 ++ dktX0_keep_6
def dkwX0_keep_4 : List UInt8 := [185, 0, 180, 1, 0, 162, 0, 53, 44, 180, 2, 152, 29, 42, 180, 0, 25, 29, 185, 0, 186, 2, 0]
abbrev dktX0_keep_4 : List UInt8 := dkwX0_keep_4 ++ dktX0_keep_5
def dkwX0_keep_3 : List UInt8 := [87, 44, 180, 2, 151, 42, 180, 0, 29, 185, 2, 147, 2, 0, 87, 3, 62, 29, 42, 180, 0, 25]
abbrev dktX0_keep_3 : List UInt8 := dkwX0_keep_3 ++ dktX0_keep_4
def dkwX0_keep_2 : List UInt8 := [181, 2, 144, 44, 42, 180, 0, 204, 181, 2, 145, 44, 180, 2, 146, 42, 180, 0, 25, 185, 2, 147, 2, 0]
abbrev dktX0_keep_2 : List UInt8 := dkwX0_keep_2 ++ dktX0_keep_3
def dkwX0_keep_1 : List UInt8 := [181, 2, 141, 44, 42, 180, 0, 15, 181, 2, 142, 44, 42, 180, 0, 152, 181, 2, 143, 44, 42, 180, 0, 207]
abbrev dktX0_keep_1 : List UInt8 := dkwX0_keep_1 ++ dktX0_keep_2
def dkwX0_keep_0 : List UInt8 := [27, 184, 2, 137, 154, 0, 5, 2, 172, 187, 0, 98, 89, 183, 2, 140, 77, 44, 42, 180, 0, 11]
abbrev dktX0_keep_0 : List UInt8 := dkwX0_keep_0 ++ dktX0_keep_1
theorem dksX0_keep_0 : cX0_keep.data.toList.drop 0 = dktX0_keep_0 := by decide +kernel
theorem dksX0_keep_1 : cX0_keep.data.toList.drop 22 = dktX0_keep_1 := dk_seg dksX0_keep_0 22 rfl rfl
theorem dksX0_keep_2 : cX0_keep.data.toList.drop 46 = dktX0_keep_2 := dk_seg dksX0_keep_1 24 rfl rfl
theorem dksX0_keep_3 : cX0_keep.data.toList.drop 70 = dktX0_keep_3 := dk_seg dksX0_keep_2 24 rfl rfl
theorem dksX0_keep_4 : cX0_keep.data.toList.drop 92 = dktX0_keep_4 := dk_seg dksX0_keep_3 22 rfl rfl
theorem dksX0_keep_5 : cX0_keep.data.toList.drop 115 = dktX0_keep_5 := dk_seg dksX0_keep_4 23 rfl rfl
theorem dksX0_keep_6 : cX0_keep.data.toList.drop 137 = dktX0_keep_6 := dk_seg dksX0_keep_5 22 rfl rfl
theorem dksX0_keep_7 : cX0_keep.data.toList.drop 157 = dktX0_keep_7 := dk_seg dksX0_keep_6 20 rfl rfl
theorem dksX0_keep_8 : cX0_keep.data.toList.drop 180 = dktX0_keep_8 := dk_seg dksX0_keep_7 23 rfl rfl
theorem dksX0_keep_9 : cX0_keep.data.toList.drop 203 = dktX0_keep_9 := dk_seg dksX0_keep_8 23 rfl rfl
theorem dksX0_keep_10 : cX0_keep.data.toList.drop 227 = dktX0_keep_10 := dk_seg dksX0_keep_9 24 rfl rfl
theorem dksX0_keep_11 : cX0_keep.data.toList.drop 251 = dktX0_keep_11 := dk_seg dksX0_keep_10 24 rfl rfl
theorem dX0_keep_0 : decode cX0_keep 0 = .ok (.iload_n 1, 1) := dk_27 (dk_at dksX0_keep_0 0 rfl rfl)
theorem dX0_keep_1 : decode cX0_keep 1 = .ok (.invokestatic 649, 3) := dk_184 2 137 (dk_at dksX0_keep_0 1 rfl rfl)
theorem dX0_keep_4 : decode cX0_keep 4 = .ok (.ifCond .ne 5, 3) := dk_154 0 5 (dk_at dksX0_keep_0 4 rfl rfl)
theorem dX0_keep_7 : decode cX0_keep 7 = .ok (.iconst (-1), 1) := dk_2 (dk_at dksX0_keep_0 7 rfl rfl)
theorem dX0_keep_8 : decode cX0_keep 8 = .ok (.ireturn, 1) := dk_172 (dk_at dksX0_keep_0 8 rfl rfl)
theorem dX0_keep_9 : decode cX0_keep 9 = .ok (.new 98, 3) := dk_187 0 98 (dk_at dksX0_keep_0 9 rfl rfl)
theorem dX0_keep_12 : decode cX0_keep 12 = .ok (.dup, 1) := dk_89 (dk_at dksX0_keep_0 12 rfl rfl)
theorem dX0_keep_13 : decode cX0_keep 13 = .ok (.invokespecial 652, 3) := dk_183 2 140 (dk_at dksX0_keep_0 13 rfl rfl)
theorem dX0_keep_16 : decode cX0_keep 16 = .ok (.astore_n 2, 1) := dk_77 (dk_at dksX0_keep_0 16 rfl rfl)
theorem dX0_keep_17 : decode cX0_keep 17 = .ok (.aload_n 2, 1) := dk_44 (dk_at dksX0_keep_0 17 rfl rfl)
theorem dX0_keep_18 : decode cX0_keep 18 = .ok (.aload_n 0, 1) := dk_42 (dk_at dksX0_keep_0 18 rfl rfl)
theorem dX0_keep_19 : decode cX0_keep 19 = .ok (.getfield 11, 3) := dk_180 0 11 (dk_at dksX0_keep_0 19 rfl rfl)
theorem dX0_keep_22 : decode cX0_keep 22 = .ok (.putfield 653, 3) := dk_181 2 141 (dk_at dksX0_keep_1 0 rfl rfl)
theorem dX0_keep_25 : decode cX0_keep 25 = .ok (.aload_n 2, 1) := dk_44 (dk_at dksX0_keep_1 3 rfl rfl)
theorem dX0_keep_26 : decode cX0_keep 26 = .ok (.aload_n 0, 1) := dk_42 (dk_at dksX0_keep_1 4 rfl rfl)
theorem dX0_keep_27 : decode cX0_keep 27 = .ok (.getfield 15, 3) := dk_180 0 15 (dk_at dksX0_keep_1 5 rfl rfl)
theorem dX0_keep_30 : decode cX0_keep 30 = .ok (.putfield 654, 3) := dk_181 2 142 (dk_at dksX0_keep_1 8 rfl rfl)
theorem dX0_keep_33 : decode cX0_keep 33 = .ok (.aload_n 2, 1) := dk_44 (dk_at dksX0_keep_1 11 rfl rfl)
theorem dX0_keep_34 : decode cX0_keep 34 = .ok (.aload_n 0, 1) := dk_42 (dk_at dksX0_keep_1 12 rfl rfl)
theorem dX0_keep_35 : decode cX0_keep 35 = .ok (.getfield 152, 3) := dk_180 0 152 (dk_at dksX0_keep_1 13 rfl rfl)
theorem dX0_keep_38 : decode cX0_keep 38 = .ok (.putfield 655, 3) := dk_181 2 143 (dk_at dksX0_keep_1 16 rfl rfl)
theorem dX0_keep_41 : decode cX0_keep 41 = .ok (.aload_n 2, 1) := dk_44 (dk_at dksX0_keep_1 19 rfl rfl)
theorem dX0_keep_42 : decode cX0_keep 42 = .ok (.aload_n 0, 1) := dk_42 (dk_at dksX0_keep_1 20 rfl rfl)
theorem dX0_keep_43 : decode cX0_keep 43 = .ok (.getfield 207, 3) := dk_180 0 207 (dk_at dksX0_keep_1 21 rfl rfl)
theorem dX0_keep_46 : decode cX0_keep 46 = .ok (.putfield 656, 3) := dk_181 2 144 (dk_at dksX0_keep_2 0 rfl rfl)
theorem dX0_keep_49 : decode cX0_keep 49 = .ok (.aload_n 2, 1) := dk_44 (dk_at dksX0_keep_2 3 rfl rfl)
theorem dX0_keep_50 : decode cX0_keep 50 = .ok (.aload_n 0, 1) := dk_42 (dk_at dksX0_keep_2 4 rfl rfl)
theorem dX0_keep_51 : decode cX0_keep 51 = .ok (.getfield 204, 3) := dk_180 0 204 (dk_at dksX0_keep_2 5 rfl rfl)
theorem dX0_keep_54 : decode cX0_keep 54 = .ok (.putfield 657, 3) := dk_181 2 145 (dk_at dksX0_keep_2 8 rfl rfl)
theorem dX0_keep_57 : decode cX0_keep 57 = .ok (.aload_n 2, 1) := dk_44 (dk_at dksX0_keep_2 11 rfl rfl)
theorem dX0_keep_58 : decode cX0_keep 58 = .ok (.getfield 658, 3) := dk_180 2 146 (dk_at dksX0_keep_2 12 rfl rfl)
theorem dX0_keep_61 : decode cX0_keep 61 = .ok (.aload_n 0, 1) := dk_42 (dk_at dksX0_keep_2 15 rfl rfl)
theorem dX0_keep_62 : decode cX0_keep 62 = .ok (.getfield 25, 3) := dk_180 0 25 (dk_at dksX0_keep_2 16 rfl rfl)
theorem dX0_keep_65 : decode cX0_keep 65 = .ok (.invokeinterface 659 2, 5) := by decide +kernel
theorem dX0_keep_70 : decode cX0_keep 70 = .ok (.pop, 1) := dk_87 (dk_at dksX0_keep_3 0 rfl rfl)
theorem dX0_keep_71 : decode cX0_keep 71 = .ok (.aload_n 2, 1) := dk_44 (dk_at dksX0_keep_3 1 rfl rfl)
theorem dX0_keep_72 : decode cX0_keep 72 = .ok (.getfield 663, 3) := dk_180 2 151 (dk_at dksX0_keep_3 2 rfl rfl)
theorem dX0_keep_75 : decode cX0_keep 75 = .ok (.aload_n 0, 1) := dk_42 (dk_at dksX0_keep_3 5 rfl rfl)
theorem dX0_keep_76 : decode cX0_keep 76 = .ok (.getfield 29, 3) := dk_180 0 29 (dk_at dksX0_keep_3 6 rfl rfl)
theorem dX0_keep_79 : decode cX0_keep 79 = .ok (.invokeinterface 659 2, 5) := by decide +kernel
theorem dX0_keep_84 : decode cX0_keep 84 = .ok (.pop, 1) := dk_87 (dk_at dksX0_keep_3 14 rfl rfl)
theorem dX0_keep_85 : decode cX0_keep 85 = .ok (.iconst 0, 1) := dk_3 (dk_at dksX0_keep_3 15 rfl rfl)
theorem dX0_keep_86 : decode cX0_keep 86 = .ok (.istore_n 3, 1) := dk_62 (dk_at dksX0_keep_3 16 rfl rfl)
theorem dX0_keep_87 : decode cX0_keep 87 = .ok (.iload_n 3, 1) := dk_29 (dk_at dksX0_keep_3 17 rfl rfl)
theorem dX0_keep_88 : decode cX0_keep 88 = .ok (.aload_n 0, 1) := dk_42 (dk_at dksX0_keep_3 18 rfl rfl)
theorem dX0_keep_89 : decode cX0_keep 89 = .ok (.getfield 25, 3) := dk_180 0 25 (dk_at dksX0_keep_3 19 rfl rfl)
theorem dX0_keep_92 : decode cX0_keep 92 = .ok (.invokeinterface 180 1, 5) := by decide +kernel
theorem dX0_keep_97 : decode cX0_keep 97 = .ok (.if_icmp .ge 53, 3) := dk_162 0 53 (dk_at dksX0_keep_4 5 rfl rfl)
theorem dX0_keep_100 : decode cX0_keep 100 = .ok (.aload_n 2, 1) := dk_44 (dk_at dksX0_keep_4 8 rfl rfl)
theorem dX0_keep_101 : decode cX0_keep 101 = .ok (.getfield 664, 3) := dk_180 2 152 (dk_at dksX0_keep_4 9 rfl rfl)
theorem dX0_keep_104 : decode cX0_keep 104 = .ok (.iload_n 3, 1) := dk_29 (dk_at dksX0_keep_4 12 rfl rfl)
theorem dX0_keep_105 : decode cX0_keep 105 = .ok (.aload_n 0, 1) := dk_42 (dk_at dksX0_keep_4 13 rfl rfl)
theorem dX0_keep_106 : decode cX0_keep 106 = .ok (.getfield 25, 3) := dk_180 0 25 (dk_at dksX0_keep_4 14 rfl rfl)
theorem dX0_keep_109 : decode cX0_keep 109 = .ok (.iload_n 3, 1) := dk_29 (dk_at dksX0_keep_4 17 rfl rfl)
theorem dX0_keep_110 : decode cX0_keep 110 = .ok (.invokeinterface 186 2, 5) := by decide +kernel
theorem dX0_keep_115 : decode cX0_keep 115 = .ok (.checkcast 190, 3) := dk_192 0 190 (dk_at dksX0_keep_5 0 rfl rfl)
theorem dX0_keep_118 : decode cX0_keep 118 = .ok (.getfield 299, 3) := dk_180 1 43 (dk_at dksX0_keep_5 3 rfl rfl)
theorem dX0_keep_121 : decode cX0_keep 121 = .ok (.lastore, 1) := dk_80 (dk_at dksX0_keep_5 6 rfl rfl)
theorem dX0_keep_122 : decode cX0_keep 122 = .ok (.aload_n 2, 1) := dk_44 (dk_at dksX0_keep_5 7 rfl rfl)
theorem dX0_keep_123 : decode cX0_keep 123 = .ok (.getfield 667, 3) := dk_180 2 155 (dk_at dksX0_keep_5 8 rfl rfl)
theorem dX0_keep_126 : decode cX0_keep 126 = .ok (.iload_n 3, 1) := dk_29 (dk_at dksX0_keep_5 11 rfl rfl)
theorem dX0_keep_127 : decode cX0_keep 127 = .ok (.aload_n 0, 1) := dk_42 (dk_at dksX0_keep_5 12 rfl rfl)
theorem dX0_keep_128 : decode cX0_keep 128 = .ok (.getfield 25, 3) := dk_180 0 25 (dk_at dksX0_keep_5 13 rfl rfl)
theorem dX0_keep_131 : decode cX0_keep 131 = .ok (.iload_n 3, 1) := dk_29 (dk_at dksX0_keep_5 16 rfl rfl)
theorem dX0_keep_132 : decode cX0_keep 132 = .ok (.invokeinterface 186 2, 5) := by decide +kernel
theorem dX0_keep_137 : decode cX0_keep 137 = .ok (.checkcast 190, 3) := dk_192 0 190 (dk_at dksX0_keep_6 0 rfl rfl)
theorem dX0_keep_140 : decode cX0_keep 140 = .ok (.getfield 319, 3) := dk_180 1 63 (dk_at dksX0_keep_6 3 rfl rfl)
theorem dX0_keep_143 : decode cX0_keep 143 = .ok (.bastore, 1) := dk_84 (dk_at dksX0_keep_6 6 rfl rfl)
theorem dX0_keep_144 : decode cX0_keep 144 = .ok (.iinc 3 1, 3) := dk_132 3 1 (dk_at dksX0_keep_6 7 rfl rfl)
theorem dX0_keep_147 : decode cX0_keep 147 = .ok (.goto (-60), 3) := dk_167 255 196 (dk_at dksX0_keep_6 10 rfl rfl)
theorem dX0_keep_150 : decode cX0_keep 150 = .ok (.iconst 0, 1) := dk_3 (dk_at dksX0_keep_6 13 rfl rfl)
theorem dX0_keep_151 : decode cX0_keep 151 = .ok (.istore_n 3, 1) := dk_62 (dk_at dksX0_keep_6 14 rfl rfl)
theorem dX0_keep_152 : decode cX0_keep 152 = .ok (.iload_n 3, 1) := dk_29 (dk_at dksX0_keep_6 15 rfl rfl)
theorem dX0_keep_153 : decode cX0_keep 153 = .ok (.aload_n 0, 1) := dk_42 (dk_at dksX0_keep_6 16 rfl rfl)
theorem dX0_keep_154 : decode cX0_keep 154 = .ok (.getfield 29, 3) := dk_180 0 29 (dk_at dksX0_keep_6 17 rfl rfl)
theorem dX0_keep_157 : decode cX0_keep 157 = .ok (.invokeinterface 180 1, 5) := by decide +kernel
theorem dX0_keep_162 : decode cX0_keep 162 = .ok (.if_icmp .ge 31, 3) := dk_162 0 31 (dk_at dksX0_keep_7 5 rfl rfl)
theorem dX0_keep_165 : decode cX0_keep 165 = .ok (.aload_n 2, 1) := dk_44 (dk_at dksX0_keep_7 8 rfl rfl)
theorem dX0_keep_166 : decode cX0_keep 166 = .ok (.getfield 669, 3) := dk_180 2 157 (dk_at dksX0_keep_7 9 rfl rfl)
theorem dX0_keep_169 : decode cX0_keep 169 = .ok (.iload_n 3, 1) := dk_29 (dk_at dksX0_keep_7 12 rfl rfl)
theorem dX0_keep_170 : decode cX0_keep 170 = .ok (.aload_n 0, 1) := dk_42 (dk_at dksX0_keep_7 13 rfl rfl)
theorem dX0_keep_171 : decode cX0_keep 171 = .ok (.getfield 29, 3) := dk_180 0 29 (dk_at dksX0_keep_7 14 rfl rfl)
theorem dX0_keep_174 : decode cX0_keep 174 = .ok (.iload_n 3, 1) := dk_29 (dk_at dksX0_keep_7 17 rfl rfl)
theorem dX0_keep_175 : decode cX0_keep 175 = .ok (.invokeinterface 186 2, 5) := by decide +kernel
theorem dX0_keep_180 : decode cX0_keep 180 = .ok (.checkcast 214, 3) := dk_192 0 214 (dk_at dksX0_keep_8 0 rfl rfl)
theorem dX0_keep_183 : decode cX0_keep 183 = .ok (.getfield 302, 3) := dk_180 1 46 (dk_at dksX0_keep_8 3 rfl rfl)
theorem dX0_keep_186 : decode cX0_keep 186 = .ok (.bastore, 1) := dk_84 (dk_at dksX0_keep_8 6 rfl rfl)
theorem dX0_keep_187 : decode cX0_keep 187 = .ok (.iinc 3 1, 3) := dk_132 3 1 (dk_at dksX0_keep_8 7 rfl rfl)
theorem dX0_keep_190 : decode cX0_keep 190 = .ok (.goto (-38), 3) := dk_167 255 218 (dk_at dksX0_keep_8 10 rfl rfl)
theorem dX0_keep_193 : decode cX0_keep 193 = .ok (.aload_n 0, 1) := dk_42 (dk_at dksX0_keep_8 13 rfl rfl)
theorem dX0_keep_194 : decode cX0_keep 194 = .ok (.getfield 69, 3) := dk_180 0 69 (dk_at dksX0_keep_8 14 rfl rfl)
theorem dX0_keep_197 : decode cX0_keep 197 = .ok (.iconst 0, 1) := dk_3 (dk_at dksX0_keep_8 17 rfl rfl)
theorem dX0_keep_198 : decode cX0_keep 198 = .ok (.aload_n 2, 1) := dk_44 (dk_at dksX0_keep_8 18 rfl rfl)
theorem dX0_keep_199 : decode cX0_keep 199 = .ok (.getfield 671, 3) := dk_180 2 159 (dk_at dksX0_keep_8 19 rfl rfl)
theorem dX0_keep_202 : decode cX0_keep 202 = .ok (.iconst 0, 1) := dk_3 (dk_at dksX0_keep_8 22 rfl rfl)
theorem dX0_keep_203 : decode cX0_keep 203 = .ok (.bipush 24, 2) := dk_16 24 (dk_at dksX0_keep_9 0 rfl rfl)
theorem dX0_keep_205 : decode cX0_keep 205 = .ok (.invokestatic 475, 3) := dk_184 1 219 (dk_at dksX0_keep_9 2 rfl rfl)
theorem dX0_keep_208 : decode cX0_keep 208 = .ok (.aload_n 0, 1) := dk_42 (dk_at dksX0_keep_9 5 rfl rfl)
theorem dX0_keep_209 : decode cX0_keep 209 = .ok (.getfield 81, 3) := dk_180 0 81 (dk_at dksX0_keep_9 6 rfl rfl)
theorem dX0_keep_212 : decode cX0_keep 212 = .ok (.iconst 0, 1) := dk_3 (dk_at dksX0_keep_9 9 rfl rfl)
theorem dX0_keep_213 : decode cX0_keep 213 = .ok (.aload_n 2, 1) := dk_44 (dk_at dksX0_keep_9 10 rfl rfl)
theorem dX0_keep_214 : decode cX0_keep 214 = .ok (.getfield 672, 3) := dk_180 2 160 (dk_at dksX0_keep_9 11 rfl rfl)
theorem dX0_keep_217 : decode cX0_keep 217 = .ok (.iconst 0, 1) := dk_3 (dk_at dksX0_keep_9 14 rfl rfl)
theorem dX0_keep_218 : decode cX0_keep 218 = .ok (.iconst 3, 1) := dk_6 (dk_at dksX0_keep_9 15 rfl rfl)
theorem dX0_keep_219 : decode cX0_keep 219 = .ok (.invokestatic 475, 3) := dk_184 1 219 (dk_at dksX0_keep_9 16 rfl rfl)
theorem dX0_keep_222 : decode cX0_keep 222 = .ok (.aload_n 0, 1) := dk_42 (dk_at dksX0_keep_9 19 rfl rfl)
theorem dX0_keep_223 : decode cX0_keep 223 = .ok (.getfield 84, 3) := dk_180 0 84 (dk_at dksX0_keep_9 20 rfl rfl)
theorem dX0_keep_226 : decode cX0_keep 226 = .ok (.iconst 0, 1) := dk_3 (dk_at dksX0_keep_9 23 rfl rfl)
theorem dX0_keep_227 : decode cX0_keep 227 = .ok (.aload_n 2, 1) := dk_44 (dk_at dksX0_keep_10 0 rfl rfl)
theorem dX0_keep_228 : decode cX0_keep 228 = .ok (.getfield 672, 3) := dk_180 2 160 (dk_at dksX0_keep_10 1 rfl rfl)
theorem dX0_keep_231 : decode cX0_keep 231 = .ok (.iconst 3, 1) := dk_6 (dk_at dksX0_keep_10 4 rfl rfl)
theorem dX0_keep_232 : decode cX0_keep 232 = .ok (.iconst 3, 1) := dk_6 (dk_at dksX0_keep_10 5 rfl rfl)
theorem dX0_keep_233 : decode cX0_keep 233 = .ok (.invokestatic 475, 3) := dk_184 1 219 (dk_at dksX0_keep_10 6 rfl rfl)
theorem dX0_keep_236 : decode cX0_keep 236 = .ok (.aload_n 0, 1) := dk_42 (dk_at dksX0_keep_10 9 rfl rfl)
theorem dX0_keep_237 : decode cX0_keep 237 = .ok (.getfield 87, 3) := dk_180 0 87 (dk_at dksX0_keep_10 10 rfl rfl)
theorem dX0_keep_240 : decode cX0_keep 240 = .ok (.iconst 0, 1) := dk_3 (dk_at dksX0_keep_10 13 rfl rfl)
theorem dX0_keep_241 : decode cX0_keep 241 = .ok (.aload_n 2, 1) := dk_44 (dk_at dksX0_keep_10 14 rfl rfl)
theorem dX0_keep_242 : decode cX0_keep 242 = .ok (.getfield 672, 3) := dk_180 2 160 (dk_at dksX0_keep_10 15 rfl rfl)
theorem dX0_keep_245 : decode cX0_keep 245 = .ok (.bipush 6, 2) := dk_16 6 (dk_at dksX0_keep_10 18 rfl rfl)
theorem dX0_keep_247 : decode cX0_keep 247 = .ok (.iconst 3, 1) := dk_6 (dk_at dksX0_keep_10 20 rfl rfl)
theorem dX0_keep_248 : decode cX0_keep 248 = .ok (.invokestatic 475, 3) := dk_184 1 219 (dk_at dksX0_keep_10 21 rfl rfl)
theorem dX0_keep_251 : decode cX0_keep 251 = .ok (.aload_n 2, 1) := dk_44 (dk_at dksX0_keep_11 0 rfl rfl)
theorem dX0_keep_252 : decode cX0_keep 252 = .ok (.iconst 1, 1) := dk_4 (dk_at dksX0_keep_11 1 rfl rfl)
theorem dX0_keep_253 : decode cX0_keep 253 = .ok (.putfield 675, 3) := dk_181 2 163 (dk_at dksX0_keep_11 2 rfl rfl)
theorem dX0_keep_256 : decode cX0_keep 256 = .ok (.aload_n 0, 1) := dk_42 (dk_at dksX0_keep_11 5 rfl rfl)
theorem dX0_keep_257 : decode cX0_keep 257 = .ok (.getfield 100, 3) := dk_180 0 100 (dk_at dksX0_keep_11 6 rfl rfl)
theorem dX0_keep_260 : decode cX0_keep 260 = .ok (.iload_n 1, 1) := dk_27 (dk_at dksX0_keep_11 9 rfl rfl)
theorem dX0_keep_261 : decode cX0_keep 261 = .ok (.aload_n 2, 1) := dk_44 (dk_at dksX0_keep_11 10 rfl rfl)
theorem dX0_keep_262 : decode cX0_keep 262 = .ok (.aastore, 1) := dk_83 (dk_at dksX0_keep_11 11 rfl rfl)
theorem dX0_keep_263 : decode cX0_keep 263 = .ok (.iconst 1, 1) := dk_4 (dk_at dksX0_keep_11 12 rfl rfl)
theorem dX0_keep_264 : decode cX0_keep 264 = .ok (.ireturn, 1) := dk_172 (dk_at dksX0_keep_11 13 rfl rfl)
abbrev cX0_isImage : ByteArray := prog_1_method_116_code
def yX0_isImage : MethodName := ⟨RX0, "isImage", "(I)Z"⟩
def dkwX0_isImage_0 : List UInt8 := [26, 133, 9, 10, 184, 0, 130, 172]
abbrev dktX0_isImage_0 : List UInt8 := dkwX0_isImage_0 ++ []
theorem dksX0_isImage_0 : cX0_isImage.data.toList.drop 0 = dktX0_isImage_0 := by decide +kernel
theorem dX0_isImage_0 : decode cX0_isImage 0 = .ok (.iload_n 0, 1) := dk_26 (dk_at dksX0_isImage_0 0 rfl rfl)
theorem dX0_isImage_1 : decode cX0_isImage 1 = .ok (.i2l, 1) := dk_133 (dk_at dksX0_isImage_0 1 rfl rfl)
theorem dX0_isImage_2 : decode cX0_isImage 2 = .ok (.lconst 0, 1) := dk_9 (dk_at dksX0_isImage_0 2 rfl rfl)
theorem dX0_isImage_3 : decode cX0_isImage 3 = .ok (.lconst 1, 1) := dk_10 (dk_at dksX0_isImage_0 3 rfl rfl)
theorem dX0_isImage_4 : decode cX0_isImage 4 = .ok (.invokestatic 130, 3) := dk_184 0 130 (dk_at dksX0_isImage_0 4 rfl rfl)
theorem dX0_isImage_7 : decode cX0_isImage 7 = .ok (.ireturn, 1) := dk_172 (dk_at dksX0_isImage_0 7 rfl rfl)
abbrev cX0_back : ByteArray := prog_1_method_118_code
def yX0_back : MethodName := ⟨RX0, "back", "(I)I"⟩
def dkwX0_back_12 : List UInt8 := [42, 44, 180, 2, 143, 182, 0, 226, 4, 172]
abbrev dktX0_back_12 : List UInt8 := dkwX0_back_12 ++ []
def dkwX0_back_11 : List UInt8 := [42, 180, 0, 84, 3, 6, 184, 1, 219, 44, 180, 2, 160, 16, 6, 42, 180, 0, 87, 3, 6, 184, 1, 219]
abbrev dktX0_back_11 : List UInt8 := dkwX0_back_11 ++ dktX0_back_12
def dkwX0_back_10 : List UInt8 := [16, 24, 184, 1, 219, 44, 180, 2, 160, 3, 42, 180, 0, 81, 3, 6, 184, 1, 219, 44, 180, 2, 160, 6]
abbrev dktX0_back_10 : List UInt8 := dkwX0_back_10 ++ dktX0_back_11
def dkwX0_back_9 : List UInt8 := [180, 2, 157, 29, 51, 181, 1, 46, 132, 3, 1, 167, 255, 218, 44, 180, 2, 159, 3, 42, 180, 0, 69, 3]
abbrev dktX0_back_9 : List UInt8 := dkwX0_back_9 ++ dktX0_back_10
def dkwX0_back_8 : List UInt8 := [185, 0, 180, 1, 0, 162, 0, 31, 42, 180, 0, 29, 29, 185, 0, 186, 2, 0, 192, 0, 214, 44]
abbrev dktX0_back_8 : List UInt8 := dkwX0_back_8 ++ dktX0_back_9
def dkwX0_back_7 : List UInt8 := [180, 2, 155, 29, 51, 181, 1, 63, 132, 3, 1, 167, 255, 196, 3, 62, 29, 42, 180, 0, 29]
abbrev dktX0_back_7 : List UInt8 := dkwX0_back_7 ++ dktX0_back_8
def dkwX0_back_6 : List UInt8 := [180, 2, 152, 29, 47, 181, 1, 43, 42, 180, 0, 25, 29, 185, 0, 186, 2, 0, 192, 0, 190, 44]
abbrev dktX0_back_6 : List UInt8 := dkwX0_back_6 ++ dktX0_back_7
def dkwX0_back_5 : List UInt8 := [185, 0, 180, 1, 0, 162, 0, 53, 42, 180, 0, 25, 29, 185, 0, 186, 2, 0, 192, 0, 190, 44]
abbrev dktX0_back_5 : List UInt8 := dkwX0_back_5 ++ dktX0_back_6
def dkwX0_back_4 : List UInt8 := [180, 0, 29, 44, 180, 2, 151, 185, 2, 147, 2, 0, 87, 3, 62, 29, 42, 180, 0, 25]
abbrev dktX0_back_4 : List UInt8 := dkwX0_back_4 ++ dktX0_back_5
def dkwX0_back_3 : List UInt8 := [180, 0, 25, 44, 180, 2, 146, 185, 2, 147, 2, 0, 87, 42, 180, 0, 29, 185, 0, 201, 1, 0, 42]
abbrev dktX0_back_3 : List UInt8 := dkwX0_back_3 ++ dktX0_back_4
def dkwX0_back_2 : List UInt8 := [180, 2, 144, 181, 0, 207, 42, 44, 180, 2, 145, 181, 0, 204, 42, 180, 0, 25, 185, 0, 201, 1, 0, 42]
abbrev dktX0_back_2 : List UInt8 := dkwX0_back_2 ++ dktX0_back_3
def dkwX0_back_1 : List UInt8 := [154, 0, 6, 16, 253, 172, 42, 44, 180, 2, 141, 181, 0, 11, 42, 44, 180, 2, 142, 181, 0, 15, 42, 44]
abbrev dktX0_back_1 : List UInt8 := dkwX0_back_1 ++ dktX0_back_2
def dkwX0_back_0 : List UInt8 := [27, 184, 2, 137, 154, 0, 5, 2, 172, 42, 180, 0, 100, 27, 50, 77, 44, 198, 0, 10, 44, 180, 2, 163]
abbrev dktX0_back_0 : List UInt8 := dkwX0_back_0 ++ dktX0_back_1
theorem dksX0_back_0 : cX0_back.data.toList.drop 0 = dktX0_back_0 := by decide +kernel
theorem dksX0_back_1 : cX0_back.data.toList.drop 24 = dktX0_back_1 := dk_seg dksX0_back_0 24 rfl rfl
theorem dksX0_back_2 : cX0_back.data.toList.drop 48 = dktX0_back_2 := dk_seg dksX0_back_1 24 rfl rfl
theorem dksX0_back_3 : cX0_back.data.toList.drop 72 = dktX0_back_3 := dk_seg dksX0_back_2 24 rfl rfl
theorem dksX0_back_4 : cX0_back.data.toList.drop 95 = dktX0_back_4 := dk_seg dksX0_back_3 23 rfl rfl
theorem dksX0_back_5 : cX0_back.data.toList.drop 115 = dktX0_back_5 := dk_seg dksX0_back_4 20 rfl rfl
theorem dksX0_back_6 : cX0_back.data.toList.drop 137 = dktX0_back_6 := dk_seg dksX0_back_5 22 rfl rfl
theorem dksX0_back_7 : cX0_back.data.toList.drop 159 = dktX0_back_7 := dk_seg dksX0_back_6 22 rfl rfl
theorem dksX0_back_8 : cX0_back.data.toList.drop 180 = dktX0_back_8 := dk_seg dksX0_back_7 21 rfl rfl
theorem dksX0_back_9 : cX0_back.data.toList.drop 202 = dktX0_back_9 := dk_seg dksX0_back_8 22 rfl rfl
theorem dksX0_back_10 : cX0_back.data.toList.drop 226 = dktX0_back_10 := dk_seg dksX0_back_9 24 rfl rfl
theorem dksX0_back_11 : cX0_back.data.toList.drop 250 = dktX0_back_11 := dk_seg dksX0_back_10 24 rfl rfl
theorem dksX0_back_12 : cX0_back.data.toList.drop 274 = dktX0_back_12 := dk_seg dksX0_back_11 24 rfl rfl
theorem dX0_back_0 : decode cX0_back 0 = .ok (.iload_n 1, 1) := dk_27 (dk_at dksX0_back_0 0 rfl rfl)
theorem dX0_back_1 : decode cX0_back 1 = .ok (.invokestatic 649, 3) := dk_184 2 137 (dk_at dksX0_back_0 1 rfl rfl)
theorem dX0_back_4 : decode cX0_back 4 = .ok (.ifCond .ne 5, 3) := dk_154 0 5 (dk_at dksX0_back_0 4 rfl rfl)
theorem dX0_back_7 : decode cX0_back 7 = .ok (.iconst (-1), 1) := dk_2 (dk_at dksX0_back_0 7 rfl rfl)
theorem dX0_back_8 : decode cX0_back 8 = .ok (.ireturn, 1) := dk_172 (dk_at dksX0_back_0 8 rfl rfl)
theorem dX0_back_9 : decode cX0_back 9 = .ok (.aload_n 0, 1) := dk_42 (dk_at dksX0_back_0 9 rfl rfl)
theorem dX0_back_10 : decode cX0_back 10 = .ok (.getfield 100, 3) := dk_180 0 100 (dk_at dksX0_back_0 10 rfl rfl)
theorem dX0_back_13 : decode cX0_back 13 = .ok (.iload_n 1, 1) := dk_27 (dk_at dksX0_back_0 13 rfl rfl)
theorem dX0_back_14 : decode cX0_back 14 = .ok (.aaload, 1) := dk_50 (dk_at dksX0_back_0 14 rfl rfl)
theorem dX0_back_15 : decode cX0_back 15 = .ok (.astore_n 2, 1) := dk_77 (dk_at dksX0_back_0 15 rfl rfl)
theorem dX0_back_16 : decode cX0_back 16 = .ok (.aload_n 2, 1) := dk_44 (dk_at dksX0_back_0 16 rfl rfl)
theorem dX0_back_17 : decode cX0_back 17 = .ok (.ifnull 10, 3) := dk_198 0 10 (dk_at dksX0_back_0 17 rfl rfl)
theorem dX0_back_20 : decode cX0_back 20 = .ok (.aload_n 2, 1) := dk_44 (dk_at dksX0_back_0 20 rfl rfl)
theorem dX0_back_21 : decode cX0_back 21 = .ok (.getfield 675, 3) := dk_180 2 163 (dk_at dksX0_back_0 21 rfl rfl)
theorem dX0_back_24 : decode cX0_back 24 = .ok (.ifCond .ne 6, 3) := dk_154 0 6 (dk_at dksX0_back_1 0 rfl rfl)
theorem dX0_back_27 : decode cX0_back 27 = .ok (.bipush (-3), 2) := dk_16 253 (dk_at dksX0_back_1 3 rfl rfl)
theorem dX0_back_29 : decode cX0_back 29 = .ok (.ireturn, 1) := dk_172 (dk_at dksX0_back_1 5 rfl rfl)
theorem dX0_back_30 : decode cX0_back 30 = .ok (.aload_n 0, 1) := dk_42 (dk_at dksX0_back_1 6 rfl rfl)
theorem dX0_back_31 : decode cX0_back 31 = .ok (.aload_n 2, 1) := dk_44 (dk_at dksX0_back_1 7 rfl rfl)
theorem dX0_back_32 : decode cX0_back 32 = .ok (.getfield 653, 3) := dk_180 2 141 (dk_at dksX0_back_1 8 rfl rfl)
theorem dX0_back_35 : decode cX0_back 35 = .ok (.putfield 11, 3) := dk_181 0 11 (dk_at dksX0_back_1 11 rfl rfl)
theorem dX0_back_38 : decode cX0_back 38 = .ok (.aload_n 0, 1) := dk_42 (dk_at dksX0_back_1 14 rfl rfl)
theorem dX0_back_39 : decode cX0_back 39 = .ok (.aload_n 2, 1) := dk_44 (dk_at dksX0_back_1 15 rfl rfl)
theorem dX0_back_40 : decode cX0_back 40 = .ok (.getfield 654, 3) := dk_180 2 142 (dk_at dksX0_back_1 16 rfl rfl)
theorem dX0_back_43 : decode cX0_back 43 = .ok (.putfield 15, 3) := dk_181 0 15 (dk_at dksX0_back_1 19 rfl rfl)
theorem dX0_back_46 : decode cX0_back 46 = .ok (.aload_n 0, 1) := dk_42 (dk_at dksX0_back_1 22 rfl rfl)
theorem dX0_back_47 : decode cX0_back 47 = .ok (.aload_n 2, 1) := dk_44 (dk_at dksX0_back_1 23 rfl rfl)
theorem dX0_back_48 : decode cX0_back 48 = .ok (.getfield 656, 3) := dk_180 2 144 (dk_at dksX0_back_2 0 rfl rfl)
theorem dX0_back_51 : decode cX0_back 51 = .ok (.putfield 207, 3) := dk_181 0 207 (dk_at dksX0_back_2 3 rfl rfl)
theorem dX0_back_54 : decode cX0_back 54 = .ok (.aload_n 0, 1) := dk_42 (dk_at dksX0_back_2 6 rfl rfl)
theorem dX0_back_55 : decode cX0_back 55 = .ok (.aload_n 2, 1) := dk_44 (dk_at dksX0_back_2 7 rfl rfl)
theorem dX0_back_56 : decode cX0_back 56 = .ok (.getfield 657, 3) := dk_180 2 145 (dk_at dksX0_back_2 8 rfl rfl)
theorem dX0_back_59 : decode cX0_back 59 = .ok (.putfield 204, 3) := dk_181 0 204 (dk_at dksX0_back_2 11 rfl rfl)
theorem dX0_back_62 : decode cX0_back 62 = .ok (.aload_n 0, 1) := dk_42 (dk_at dksX0_back_2 14 rfl rfl)
theorem dX0_back_63 : decode cX0_back 63 = .ok (.getfield 25, 3) := dk_180 0 25 (dk_at dksX0_back_2 15 rfl rfl)
theorem dX0_back_66 : decode cX0_back 66 = .ok (.invokeinterface 201 1, 5) := by decide +kernel
theorem dX0_back_71 : decode cX0_back 71 = .ok (.aload_n 0, 1) := dk_42 (dk_at dksX0_back_2 23 rfl rfl)
theorem dX0_back_72 : decode cX0_back 72 = .ok (.getfield 25, 3) := dk_180 0 25 (dk_at dksX0_back_3 0 rfl rfl)
theorem dX0_back_75 : decode cX0_back 75 = .ok (.aload_n 2, 1) := dk_44 (dk_at dksX0_back_3 3 rfl rfl)
theorem dX0_back_76 : decode cX0_back 76 = .ok (.getfield 658, 3) := dk_180 2 146 (dk_at dksX0_back_3 4 rfl rfl)
theorem dX0_back_79 : decode cX0_back 79 = .ok (.invokeinterface 659 2, 5) := by decide +kernel
theorem dX0_back_84 : decode cX0_back 84 = .ok (.pop, 1) := dk_87 (dk_at dksX0_back_3 12 rfl rfl)
theorem dX0_back_85 : decode cX0_back 85 = .ok (.aload_n 0, 1) := dk_42 (dk_at dksX0_back_3 13 rfl rfl)
theorem dX0_back_86 : decode cX0_back 86 = .ok (.getfield 29, 3) := dk_180 0 29 (dk_at dksX0_back_3 14 rfl rfl)
theorem dX0_back_89 : decode cX0_back 89 = .ok (.invokeinterface 201 1, 5) := by decide +kernel
theorem dX0_back_94 : decode cX0_back 94 = .ok (.aload_n 0, 1) := dk_42 (dk_at dksX0_back_3 22 rfl rfl)
theorem dX0_back_95 : decode cX0_back 95 = .ok (.getfield 29, 3) := dk_180 0 29 (dk_at dksX0_back_4 0 rfl rfl)
theorem dX0_back_98 : decode cX0_back 98 = .ok (.aload_n 2, 1) := dk_44 (dk_at dksX0_back_4 3 rfl rfl)
theorem dX0_back_99 : decode cX0_back 99 = .ok (.getfield 663, 3) := dk_180 2 151 (dk_at dksX0_back_4 4 rfl rfl)
theorem dX0_back_102 : decode cX0_back 102 = .ok (.invokeinterface 659 2, 5) := by decide +kernel
theorem dX0_back_107 : decode cX0_back 107 = .ok (.pop, 1) := dk_87 (dk_at dksX0_back_4 12 rfl rfl)
theorem dX0_back_108 : decode cX0_back 108 = .ok (.iconst 0, 1) := dk_3 (dk_at dksX0_back_4 13 rfl rfl)
theorem dX0_back_109 : decode cX0_back 109 = .ok (.istore_n 3, 1) := dk_62 (dk_at dksX0_back_4 14 rfl rfl)
theorem dX0_back_110 : decode cX0_back 110 = .ok (.iload_n 3, 1) := dk_29 (dk_at dksX0_back_4 15 rfl rfl)
theorem dX0_back_111 : decode cX0_back 111 = .ok (.aload_n 0, 1) := dk_42 (dk_at dksX0_back_4 16 rfl rfl)
theorem dX0_back_112 : decode cX0_back 112 = .ok (.getfield 25, 3) := dk_180 0 25 (dk_at dksX0_back_4 17 rfl rfl)
theorem dX0_back_115 : decode cX0_back 115 = .ok (.invokeinterface 180 1, 5) := by decide +kernel
theorem dX0_back_120 : decode cX0_back 120 = .ok (.if_icmp .ge 53, 3) := dk_162 0 53 (dk_at dksX0_back_5 5 rfl rfl)
theorem dX0_back_123 : decode cX0_back 123 = .ok (.aload_n 0, 1) := dk_42 (dk_at dksX0_back_5 8 rfl rfl)
theorem dX0_back_124 : decode cX0_back 124 = .ok (.getfield 25, 3) := dk_180 0 25 (dk_at dksX0_back_5 9 rfl rfl)
theorem dX0_back_127 : decode cX0_back 127 = .ok (.iload_n 3, 1) := dk_29 (dk_at dksX0_back_5 12 rfl rfl)
theorem dX0_back_128 : decode cX0_back 128 = .ok (.invokeinterface 186 2, 5) := by decide +kernel
theorem dX0_back_133 : decode cX0_back 133 = .ok (.checkcast 190, 3) := dk_192 0 190 (dk_at dksX0_back_5 18 rfl rfl)
theorem dX0_back_136 : decode cX0_back 136 = .ok (.aload_n 2, 1) := dk_44 (dk_at dksX0_back_5 21 rfl rfl)
theorem dX0_back_137 : decode cX0_back 137 = .ok (.getfield 664, 3) := dk_180 2 152 (dk_at dksX0_back_6 0 rfl rfl)
theorem dX0_back_140 : decode cX0_back 140 = .ok (.iload_n 3, 1) := dk_29 (dk_at dksX0_back_6 3 rfl rfl)
theorem dX0_back_141 : decode cX0_back 141 = .ok (.laload, 1) := dk_47 (dk_at dksX0_back_6 4 rfl rfl)
theorem dX0_back_142 : decode cX0_back 142 = .ok (.putfield 299, 3) := dk_181 1 43 (dk_at dksX0_back_6 5 rfl rfl)
theorem dX0_back_145 : decode cX0_back 145 = .ok (.aload_n 0, 1) := dk_42 (dk_at dksX0_back_6 8 rfl rfl)
theorem dX0_back_146 : decode cX0_back 146 = .ok (.getfield 25, 3) := dk_180 0 25 (dk_at dksX0_back_6 9 rfl rfl)
theorem dX0_back_149 : decode cX0_back 149 = .ok (.iload_n 3, 1) := dk_29 (dk_at dksX0_back_6 12 rfl rfl)
theorem dX0_back_150 : decode cX0_back 150 = .ok (.invokeinterface 186 2, 5) := by decide +kernel
theorem dX0_back_155 : decode cX0_back 155 = .ok (.checkcast 190, 3) := dk_192 0 190 (dk_at dksX0_back_6 18 rfl rfl)
theorem dX0_back_158 : decode cX0_back 158 = .ok (.aload_n 2, 1) := dk_44 (dk_at dksX0_back_6 21 rfl rfl)
theorem dX0_back_159 : decode cX0_back 159 = .ok (.getfield 667, 3) := dk_180 2 155 (dk_at dksX0_back_7 0 rfl rfl)
theorem dX0_back_162 : decode cX0_back 162 = .ok (.iload_n 3, 1) := dk_29 (dk_at dksX0_back_7 3 rfl rfl)
theorem dX0_back_163 : decode cX0_back 163 = .ok (.baload, 1) := dk_51 (dk_at dksX0_back_7 4 rfl rfl)
theorem dX0_back_164 : decode cX0_back 164 = .ok (.putfield 319, 3) := dk_181 1 63 (dk_at dksX0_back_7 5 rfl rfl)
theorem dX0_back_167 : decode cX0_back 167 = .ok (.iinc 3 1, 3) := dk_132 3 1 (dk_at dksX0_back_7 8 rfl rfl)
theorem dX0_back_170 : decode cX0_back 170 = .ok (.goto (-60), 3) := dk_167 255 196 (dk_at dksX0_back_7 11 rfl rfl)
theorem dX0_back_173 : decode cX0_back 173 = .ok (.iconst 0, 1) := dk_3 (dk_at dksX0_back_7 14 rfl rfl)
theorem dX0_back_174 : decode cX0_back 174 = .ok (.istore_n 3, 1) := dk_62 (dk_at dksX0_back_7 15 rfl rfl)
theorem dX0_back_175 : decode cX0_back 175 = .ok (.iload_n 3, 1) := dk_29 (dk_at dksX0_back_7 16 rfl rfl)
theorem dX0_back_176 : decode cX0_back 176 = .ok (.aload_n 0, 1) := dk_42 (dk_at dksX0_back_7 17 rfl rfl)
theorem dX0_back_177 : decode cX0_back 177 = .ok (.getfield 29, 3) := dk_180 0 29 (dk_at dksX0_back_7 18 rfl rfl)
theorem dX0_back_180 : decode cX0_back 180 = .ok (.invokeinterface 180 1, 5) := by decide +kernel
theorem dX0_back_185 : decode cX0_back 185 = .ok (.if_icmp .ge 31, 3) := dk_162 0 31 (dk_at dksX0_back_8 5 rfl rfl)
theorem dX0_back_188 : decode cX0_back 188 = .ok (.aload_n 0, 1) := dk_42 (dk_at dksX0_back_8 8 rfl rfl)
theorem dX0_back_189 : decode cX0_back 189 = .ok (.getfield 29, 3) := dk_180 0 29 (dk_at dksX0_back_8 9 rfl rfl)
theorem dX0_back_192 : decode cX0_back 192 = .ok (.iload_n 3, 1) := dk_29 (dk_at dksX0_back_8 12 rfl rfl)
theorem dX0_back_193 : decode cX0_back 193 = .ok (.invokeinterface 186 2, 5) := by decide +kernel
theorem dX0_back_198 : decode cX0_back 198 = .ok (.checkcast 214, 3) := dk_192 0 214 (dk_at dksX0_back_8 18 rfl rfl)
theorem dX0_back_201 : decode cX0_back 201 = .ok (.aload_n 2, 1) := dk_44 (dk_at dksX0_back_8 21 rfl rfl)
theorem dX0_back_202 : decode cX0_back 202 = .ok (.getfield 669, 3) := dk_180 2 157 (dk_at dksX0_back_9 0 rfl rfl)
theorem dX0_back_205 : decode cX0_back 205 = .ok (.iload_n 3, 1) := dk_29 (dk_at dksX0_back_9 3 rfl rfl)
theorem dX0_back_206 : decode cX0_back 206 = .ok (.baload, 1) := dk_51 (dk_at dksX0_back_9 4 rfl rfl)
theorem dX0_back_207 : decode cX0_back 207 = .ok (.putfield 302, 3) := dk_181 1 46 (dk_at dksX0_back_9 5 rfl rfl)
theorem dX0_back_210 : decode cX0_back 210 = .ok (.iinc 3 1, 3) := dk_132 3 1 (dk_at dksX0_back_9 8 rfl rfl)
theorem dX0_back_213 : decode cX0_back 213 = .ok (.goto (-38), 3) := dk_167 255 218 (dk_at dksX0_back_9 11 rfl rfl)
theorem dX0_back_216 : decode cX0_back 216 = .ok (.aload_n 2, 1) := dk_44 (dk_at dksX0_back_9 14 rfl rfl)
theorem dX0_back_217 : decode cX0_back 217 = .ok (.getfield 671, 3) := dk_180 2 159 (dk_at dksX0_back_9 15 rfl rfl)
theorem dX0_back_220 : decode cX0_back 220 = .ok (.iconst 0, 1) := dk_3 (dk_at dksX0_back_9 18 rfl rfl)
theorem dX0_back_221 : decode cX0_back 221 = .ok (.aload_n 0, 1) := dk_42 (dk_at dksX0_back_9 19 rfl rfl)
theorem dX0_back_222 : decode cX0_back 222 = .ok (.getfield 69, 3) := dk_180 0 69 (dk_at dksX0_back_9 20 rfl rfl)
theorem dX0_back_225 : decode cX0_back 225 = .ok (.iconst 0, 1) := dk_3 (dk_at dksX0_back_9 23 rfl rfl)
theorem dX0_back_226 : decode cX0_back 226 = .ok (.bipush 24, 2) := dk_16 24 (dk_at dksX0_back_10 0 rfl rfl)
theorem dX0_back_228 : decode cX0_back 228 = .ok (.invokestatic 475, 3) := dk_184 1 219 (dk_at dksX0_back_10 2 rfl rfl)
theorem dX0_back_231 : decode cX0_back 231 = .ok (.aload_n 2, 1) := dk_44 (dk_at dksX0_back_10 5 rfl rfl)
theorem dX0_back_232 : decode cX0_back 232 = .ok (.getfield 672, 3) := dk_180 2 160 (dk_at dksX0_back_10 6 rfl rfl)
theorem dX0_back_235 : decode cX0_back 235 = .ok (.iconst 0, 1) := dk_3 (dk_at dksX0_back_10 9 rfl rfl)
theorem dX0_back_236 : decode cX0_back 236 = .ok (.aload_n 0, 1) := dk_42 (dk_at dksX0_back_10 10 rfl rfl)
theorem dX0_back_237 : decode cX0_back 237 = .ok (.getfield 81, 3) := dk_180 0 81 (dk_at dksX0_back_10 11 rfl rfl)
theorem dX0_back_240 : decode cX0_back 240 = .ok (.iconst 0, 1) := dk_3 (dk_at dksX0_back_10 14 rfl rfl)
theorem dX0_back_241 : decode cX0_back 241 = .ok (.iconst 3, 1) := dk_6 (dk_at dksX0_back_10 15 rfl rfl)
theorem dX0_back_242 : decode cX0_back 242 = .ok (.invokestatic 475, 3) := dk_184 1 219 (dk_at dksX0_back_10 16 rfl rfl)
theorem dX0_back_245 : decode cX0_back 245 = .ok (.aload_n 2, 1) := dk_44 (dk_at dksX0_back_10 19 rfl rfl)
theorem dX0_back_246 : decode cX0_back 246 = .ok (.getfield 672, 3) := dk_180 2 160 (dk_at dksX0_back_10 20 rfl rfl)
theorem dX0_back_249 : decode cX0_back 249 = .ok (.iconst 3, 1) := dk_6 (dk_at dksX0_back_10 23 rfl rfl)
theorem dX0_back_250 : decode cX0_back 250 = .ok (.aload_n 0, 1) := dk_42 (dk_at dksX0_back_11 0 rfl rfl)
theorem dX0_back_251 : decode cX0_back 251 = .ok (.getfield 84, 3) := dk_180 0 84 (dk_at dksX0_back_11 1 rfl rfl)
theorem dX0_back_254 : decode cX0_back 254 = .ok (.iconst 0, 1) := dk_3 (dk_at dksX0_back_11 4 rfl rfl)
theorem dX0_back_255 : decode cX0_back 255 = .ok (.iconst 3, 1) := dk_6 (dk_at dksX0_back_11 5 rfl rfl)
theorem dX0_back_256 : decode cX0_back 256 = .ok (.invokestatic 475, 3) := dk_184 1 219 (dk_at dksX0_back_11 6 rfl rfl)
theorem dX0_back_259 : decode cX0_back 259 = .ok (.aload_n 2, 1) := dk_44 (dk_at dksX0_back_11 9 rfl rfl)
theorem dX0_back_260 : decode cX0_back 260 = .ok (.getfield 672, 3) := dk_180 2 160 (dk_at dksX0_back_11 10 rfl rfl)
theorem dX0_back_263 : decode cX0_back 263 = .ok (.bipush 6, 2) := dk_16 6 (dk_at dksX0_back_11 13 rfl rfl)
theorem dX0_back_265 : decode cX0_back 265 = .ok (.aload_n 0, 1) := dk_42 (dk_at dksX0_back_11 15 rfl rfl)
theorem dX0_back_266 : decode cX0_back 266 = .ok (.getfield 87, 3) := dk_180 0 87 (dk_at dksX0_back_11 16 rfl rfl)
theorem dX0_back_269 : decode cX0_back 269 = .ok (.iconst 0, 1) := dk_3 (dk_at dksX0_back_11 19 rfl rfl)
theorem dX0_back_270 : decode cX0_back 270 = .ok (.iconst 3, 1) := dk_6 (dk_at dksX0_back_11 20 rfl rfl)
theorem dX0_back_271 : decode cX0_back 271 = .ok (.invokestatic 475, 3) := dk_184 1 219 (dk_at dksX0_back_11 21 rfl rfl)
theorem dX0_back_274 : decode cX0_back 274 = .ok (.aload_n 0, 1) := dk_42 (dk_at dksX0_back_12 0 rfl rfl)
theorem dX0_back_275 : decode cX0_back 275 = .ok (.aload_n 2, 1) := dk_44 (dk_at dksX0_back_12 1 rfl rfl)
theorem dX0_back_276 : decode cX0_back 276 = .ok (.getfield 655, 3) := dk_180 2 143 (dk_at dksX0_back_12 2 rfl rfl)
theorem dX0_back_279 : decode cX0_back 279 = .ok (.invokevirtual 226, 3) := dk_182 0 226 (dk_at dksX0_back_12 5 rfl rfl)
theorem dX0_back_282 : decode cX0_back 282 = .ok (.iconst 1, 1) := dk_4 (dk_at dksX0_back_12 8 rfl rfl)
theorem dX0_back_283 : decode cX0_back 283 = .ok (.ireturn, 1) := dk_172 (dk_at dksX0_back_12 9 rfl rfl)
abbrev cX0_hold : ByteArray := prog_1_method_120_code
def yX0_hold : MethodName := ⟨RX0, "hold", "(III)I"⟩
def dkwX0_hold_3 : List UInt8 := [180, 0, 29, 29, 185, 0, 186, 2, 0, 181, 0, 247, 4, 172]
abbrev dktX0_hold_3 : List UInt8 := dkwX0_hold_3 ++ []
def dkwX0_hold_2 : List UInt8 := [42, 180, 0, 108, 27, 50, 28, 154, 0, 16, 42, 180, 0, 25, 29, 185, 0, 186, 2, 0, 167, 0, 13, 42]
abbrev dktX0_hold_2 : List UInt8 := dkwX0_hold_2 ++ dktX0_hold_3
def dkwX0_hold_1 : List UInt8 := [154, 0, 14, 42, 29, 182, 1, 37, 154, 0, 16, 167, 0, 11, 42, 29, 182, 1, 140, 154, 0, 5, 2, 172]
abbrev dktX0_hold_1 : List UInt8 := dkwX0_hold_1 ++ dktX0_hold_2
def dkwX0_hold_0 : List UInt8 := [27, 184, 2, 166, 154, 0, 5, 2, 172, 28, 133, 9, 10, 184, 0, 130, 154, 0, 6, 16, 254, 172, 28]
abbrev dktX0_hold_0 : List UInt8 := dkwX0_hold_0 ++ dktX0_hold_1
theorem dksX0_hold_0 : cX0_hold.data.toList.drop 0 = dktX0_hold_0 := by decide +kernel
theorem dksX0_hold_1 : cX0_hold.data.toList.drop 23 = dktX0_hold_1 := dk_seg dksX0_hold_0 23 rfl rfl
theorem dksX0_hold_2 : cX0_hold.data.toList.drop 47 = dktX0_hold_2 := dk_seg dksX0_hold_1 24 rfl rfl
theorem dksX0_hold_3 : cX0_hold.data.toList.drop 71 = dktX0_hold_3 := dk_seg dksX0_hold_2 24 rfl rfl
theorem dX0_hold_0 : decode cX0_hold 0 = .ok (.iload_n 1, 1) := dk_27 (dk_at dksX0_hold_0 0 rfl rfl)
theorem dX0_hold_1 : decode cX0_hold 1 = .ok (.invokestatic 678, 3) := dk_184 2 166 (dk_at dksX0_hold_0 1 rfl rfl)
theorem dX0_hold_4 : decode cX0_hold 4 = .ok (.ifCond .ne 5, 3) := dk_154 0 5 (dk_at dksX0_hold_0 4 rfl rfl)
theorem dX0_hold_7 : decode cX0_hold 7 = .ok (.iconst (-1), 1) := dk_2 (dk_at dksX0_hold_0 7 rfl rfl)
theorem dX0_hold_8 : decode cX0_hold 8 = .ok (.ireturn, 1) := dk_172 (dk_at dksX0_hold_0 8 rfl rfl)
theorem dX0_hold_9 : decode cX0_hold 9 = .ok (.iload_n 2, 1) := dk_28 (dk_at dksX0_hold_0 9 rfl rfl)
theorem dX0_hold_10 : decode cX0_hold 10 = .ok (.i2l, 1) := dk_133 (dk_at dksX0_hold_0 10 rfl rfl)
theorem dX0_hold_11 : decode cX0_hold 11 = .ok (.lconst 0, 1) := dk_9 (dk_at dksX0_hold_0 11 rfl rfl)
theorem dX0_hold_12 : decode cX0_hold 12 = .ok (.lconst 1, 1) := dk_10 (dk_at dksX0_hold_0 12 rfl rfl)
theorem dX0_hold_13 : decode cX0_hold 13 = .ok (.invokestatic 130, 3) := dk_184 0 130 (dk_at dksX0_hold_0 13 rfl rfl)
theorem dX0_hold_16 : decode cX0_hold 16 = .ok (.ifCond .ne 6, 3) := dk_154 0 6 (dk_at dksX0_hold_0 16 rfl rfl)
theorem dX0_hold_19 : decode cX0_hold 19 = .ok (.bipush (-2), 2) := dk_16 254 (dk_at dksX0_hold_0 19 rfl rfl)
theorem dX0_hold_21 : decode cX0_hold 21 = .ok (.ireturn, 1) := dk_172 (dk_at dksX0_hold_0 21 rfl rfl)
theorem dX0_hold_22 : decode cX0_hold 22 = .ok (.iload_n 2, 1) := dk_28 (dk_at dksX0_hold_0 22 rfl rfl)
theorem dX0_hold_23 : decode cX0_hold 23 = .ok (.ifCond .ne 14, 3) := dk_154 0 14 (dk_at dksX0_hold_1 0 rfl rfl)
theorem dX0_hold_26 : decode cX0_hold 26 = .ok (.aload_n 0, 1) := dk_42 (dk_at dksX0_hold_1 3 rfl rfl)
theorem dX0_hold_27 : decode cX0_hold 27 = .ok (.iload_n 3, 1) := dk_29 (dk_at dksX0_hold_1 4 rfl rfl)
theorem dX0_hold_28 : decode cX0_hold 28 = .ok (.invokevirtual 293, 3) := dk_182 1 37 (dk_at dksX0_hold_1 5 rfl rfl)
theorem dX0_hold_31 : decode cX0_hold 31 = .ok (.ifCond .ne 16, 3) := dk_154 0 16 (dk_at dksX0_hold_1 8 rfl rfl)
theorem dX0_hold_34 : decode cX0_hold 34 = .ok (.goto 11, 3) := dk_167 0 11 (dk_at dksX0_hold_1 11 rfl rfl)
theorem dX0_hold_37 : decode cX0_hold 37 = .ok (.aload_n 0, 1) := dk_42 (dk_at dksX0_hold_1 14 rfl rfl)
theorem dX0_hold_38 : decode cX0_hold 38 = .ok (.iload_n 3, 1) := dk_29 (dk_at dksX0_hold_1 15 rfl rfl)
theorem dX0_hold_39 : decode cX0_hold 39 = .ok (.invokevirtual 396, 3) := dk_182 1 140 (dk_at dksX0_hold_1 16 rfl rfl)
theorem dX0_hold_42 : decode cX0_hold 42 = .ok (.ifCond .ne 5, 3) := dk_154 0 5 (dk_at dksX0_hold_1 19 rfl rfl)
theorem dX0_hold_45 : decode cX0_hold 45 = .ok (.iconst (-1), 1) := dk_2 (dk_at dksX0_hold_1 22 rfl rfl)
theorem dX0_hold_46 : decode cX0_hold 46 = .ok (.ireturn, 1) := dk_172 (dk_at dksX0_hold_1 23 rfl rfl)
theorem dX0_hold_47 : decode cX0_hold 47 = .ok (.aload_n 0, 1) := dk_42 (dk_at dksX0_hold_2 0 rfl rfl)
theorem dX0_hold_48 : decode cX0_hold 48 = .ok (.getfield 108, 3) := dk_180 0 108 (dk_at dksX0_hold_2 1 rfl rfl)
theorem dX0_hold_51 : decode cX0_hold 51 = .ok (.iload_n 1, 1) := dk_27 (dk_at dksX0_hold_2 4 rfl rfl)
theorem dX0_hold_52 : decode cX0_hold 52 = .ok (.aaload, 1) := dk_50 (dk_at dksX0_hold_2 5 rfl rfl)
theorem dX0_hold_53 : decode cX0_hold 53 = .ok (.iload_n 2, 1) := dk_28 (dk_at dksX0_hold_2 6 rfl rfl)
theorem dX0_hold_54 : decode cX0_hold 54 = .ok (.ifCond .ne 16, 3) := dk_154 0 16 (dk_at dksX0_hold_2 7 rfl rfl)
theorem dX0_hold_57 : decode cX0_hold 57 = .ok (.aload_n 0, 1) := dk_42 (dk_at dksX0_hold_2 10 rfl rfl)
theorem dX0_hold_58 : decode cX0_hold 58 = .ok (.getfield 25, 3) := dk_180 0 25 (dk_at dksX0_hold_2 11 rfl rfl)
theorem dX0_hold_61 : decode cX0_hold 61 = .ok (.iload_n 3, 1) := dk_29 (dk_at dksX0_hold_2 14 rfl rfl)
theorem dX0_hold_62 : decode cX0_hold 62 = .ok (.invokeinterface 186 2, 5) := by decide +kernel
theorem dX0_hold_67 : decode cX0_hold 67 = .ok (.goto 13, 3) := dk_167 0 13 (dk_at dksX0_hold_2 20 rfl rfl)
theorem dX0_hold_70 : decode cX0_hold 70 = .ok (.aload_n 0, 1) := dk_42 (dk_at dksX0_hold_2 23 rfl rfl)
theorem dX0_hold_71 : decode cX0_hold 71 = .ok (.getfield 29, 3) := dk_180 0 29 (dk_at dksX0_hold_3 0 rfl rfl)
theorem dX0_hold_74 : decode cX0_hold 74 = .ok (.iload_n 3, 1) := dk_29 (dk_at dksX0_hold_3 3 rfl rfl)
theorem dX0_hold_75 : decode cX0_hold 75 = .ok (.invokeinterface 186 2, 5) := by decide +kernel
theorem dX0_hold_80 : decode cX0_hold 80 = .ok (.putfield 247, 3) := dk_181 0 247 (dk_at dksX0_hold_3 9 rfl rfl)
theorem dX0_hold_83 : decode cX0_hold 83 = .ok (.iconst 1, 1) := dk_4 (dk_at dksX0_hold_3 12 rfl rfl)
theorem dX0_hold_84 : decode cX0_hold 84 = .ok (.ireturn, 1) := dk_172 (dk_at dksX0_hold_3 13 rfl rfl)
abbrev cX0_isHold : ByteArray := prog_1_method_119_code
def yX0_isHold : MethodName := ⟨RX0, "isHold", "(I)Z"⟩
def dkwX0_isHold_0 : List UInt8 := [26, 133, 9, 20, 1, 35, 184, 0, 130, 172]
abbrev dktX0_isHold_0 : List UInt8 := dkwX0_isHold_0 ++ []
theorem dksX0_isHold_0 : cX0_isHold.data.toList.drop 0 = dktX0_isHold_0 := by decide +kernel
theorem dX0_isHold_0 : decode cX0_isHold 0 = .ok (.iload_n 0, 1) := dk_26 (dk_at dksX0_isHold_0 0 rfl rfl)
theorem dX0_isHold_1 : decode cX0_isHold 1 = .ok (.i2l, 1) := dk_133 (dk_at dksX0_isHold_0 1 rfl rfl)
theorem dX0_isHold_2 : decode cX0_isHold 2 = .ok (.lconst 0, 1) := dk_9 (dk_at dksX0_isHold_0 2 rfl rfl)
theorem dX0_isHold_3 : decode cX0_isHold 3 = .ok (.ldc2_w 291, 3) := dk_20 1 35 (dk_at dksX0_isHold_0 3 rfl rfl)
theorem dX0_isHold_6 : decode cX0_isHold 6 = .ok (.invokestatic 130, 3) := dk_184 0 130 (dk_at dksX0_isHold_0 6 rfl rfl)
theorem dX0_isHold_9 : decode cX0_isHold 9 = .ok (.ireturn, 1) := dk_172 (dk_at dksX0_isHold_0 9 rfl rfl)
abbrev cX0_loose : ByteArray := prog_1_method_121_code
def yX0_loose : MethodName := ⟨RX0, "loose", "(I)I"⟩
def dkwX0_loose_1 : List UInt8 := [167, 0, 4, 4, 61, 42, 180, 0, 108, 27, 50, 1, 181, 0, 247, 28, 172]
abbrev dktX0_loose_1 : List UInt8 := dkwX0_loose_1 ++ []
def dkwX0_loose_0 : List UInt8 := [27, 184, 2, 166, 154, 0, 5, 2, 172, 42, 180, 0, 108, 27, 50, 180, 0, 247, 199, 0, 7, 3]
abbrev dktX0_loose_0 : List UInt8 := dkwX0_loose_0 ++ dktX0_loose_1
theorem dksX0_loose_0 : cX0_loose.data.toList.drop 0 = dktX0_loose_0 := by decide +kernel
theorem dksX0_loose_1 : cX0_loose.data.toList.drop 22 = dktX0_loose_1 := dk_seg dksX0_loose_0 22 rfl rfl
theorem dX0_loose_0 : decode cX0_loose 0 = .ok (.iload_n 1, 1) := dk_27 (dk_at dksX0_loose_0 0 rfl rfl)
theorem dX0_loose_1 : decode cX0_loose 1 = .ok (.invokestatic 678, 3) := dk_184 2 166 (dk_at dksX0_loose_0 1 rfl rfl)
theorem dX0_loose_4 : decode cX0_loose 4 = .ok (.ifCond .ne 5, 3) := dk_154 0 5 (dk_at dksX0_loose_0 4 rfl rfl)
theorem dX0_loose_7 : decode cX0_loose 7 = .ok (.iconst (-1), 1) := dk_2 (dk_at dksX0_loose_0 7 rfl rfl)
theorem dX0_loose_8 : decode cX0_loose 8 = .ok (.ireturn, 1) := dk_172 (dk_at dksX0_loose_0 8 rfl rfl)
theorem dX0_loose_9 : decode cX0_loose 9 = .ok (.aload_n 0, 1) := dk_42 (dk_at dksX0_loose_0 9 rfl rfl)
theorem dX0_loose_10 : decode cX0_loose 10 = .ok (.getfield 108, 3) := dk_180 0 108 (dk_at dksX0_loose_0 10 rfl rfl)
theorem dX0_loose_13 : decode cX0_loose 13 = .ok (.iload_n 1, 1) := dk_27 (dk_at dksX0_loose_0 13 rfl rfl)
theorem dX0_loose_14 : decode cX0_loose 14 = .ok (.aaload, 1) := dk_50 (dk_at dksX0_loose_0 14 rfl rfl)
theorem dX0_loose_15 : decode cX0_loose 15 = .ok (.getfield 247, 3) := dk_180 0 247 (dk_at dksX0_loose_0 15 rfl rfl)
theorem dX0_loose_18 : decode cX0_loose 18 = .ok (.ifnonnull 7, 3) := dk_199 0 7 (dk_at dksX0_loose_0 18 rfl rfl)
theorem dX0_loose_21 : decode cX0_loose 21 = .ok (.iconst 0, 1) := dk_3 (dk_at dksX0_loose_0 21 rfl rfl)
theorem dX0_loose_22 : decode cX0_loose 22 = .ok (.goto 4, 3) := dk_167 0 4 (dk_at dksX0_loose_1 0 rfl rfl)
theorem dX0_loose_25 : decode cX0_loose 25 = .ok (.iconst 1, 1) := dk_4 (dk_at dksX0_loose_1 3 rfl rfl)
theorem dX0_loose_26 : decode cX0_loose 26 = .ok (.istore_n 2, 1) := dk_61 (dk_at dksX0_loose_1 4 rfl rfl)
theorem dX0_loose_27 : decode cX0_loose 27 = .ok (.aload_n 0, 1) := dk_42 (dk_at dksX0_loose_1 5 rfl rfl)
theorem dX0_loose_28 : decode cX0_loose 28 = .ok (.getfield 108, 3) := dk_180 0 108 (dk_at dksX0_loose_1 6 rfl rfl)
theorem dX0_loose_31 : decode cX0_loose 31 = .ok (.iload_n 1, 1) := dk_27 (dk_at dksX0_loose_1 9 rfl rfl)
theorem dX0_loose_32 : decode cX0_loose 32 = .ok (.aaload, 1) := dk_50 (dk_at dksX0_loose_1 10 rfl rfl)
theorem dX0_loose_33 : decode cX0_loose 33 = .ok (.aconst_null, 1) := dk_1 (dk_at dksX0_loose_1 11 rfl rfl)
theorem dX0_loose_34 : decode cX0_loose 34 = .ok (.putfield 247, 3) := dk_181 0 247 (dk_at dksX0_loose_1 12 rfl rfl)
theorem dX0_loose_37 : decode cX0_loose 37 = .ok (.iload_n 2, 1) := dk_28 (dk_at dksX0_loose_1 15 rfl rfl)
theorem dX0_loose_38 : decode cX0_loose 38 = .ok (.ireturn, 1) := dk_172 (dk_at dksX0_loose_1 16 rfl rfl)
abbrev cX0_as : ByteArray := prog_1_method_123_code
def yX0_as : MethodName := ⟨RX0, "as", "(II)I"⟩
def dkwX0_as_2 : List UInt8 := [182, 1, 9, 172, 78, 42, 4, 182, 1, 9, 172]
abbrev dktX0_as_2 : List UInt8 := dkwX0_as_2 ++ []
def dkwX0_as_1 : List UInt8 := [154, 0, 6, 16, 254, 172, 42, 180, 0, 108, 27, 50, 180, 0, 247, 28, 184, 2, 172, 172, 78, 42, 5]
abbrev dktX0_as_1 : List UInt8 := dkwX0_as_1 ++ dktX0_as_2
def dkwX0_as_0 : List UInt8 := [42, 3, 181, 0, 115, 27, 184, 2, 166, 154, 0, 5, 2, 172, 28, 133, 9, 20, 0, 199, 184, 0, 130]
abbrev dktX0_as_0 : List UInt8 := dkwX0_as_0 ++ dktX0_as_1
theorem dksX0_as_0 : cX0_as.data.toList.drop 0 = dktX0_as_0 := by decide +kernel
theorem dksX0_as_1 : cX0_as.data.toList.drop 23 = dktX0_as_1 := dk_seg dksX0_as_0 23 rfl rfl
theorem dksX0_as_2 : cX0_as.data.toList.drop 46 = dktX0_as_2 := dk_seg dksX0_as_1 23 rfl rfl
theorem dX0_as_0 : decode cX0_as 0 = .ok (.aload_n 0, 1) := dk_42 (dk_at dksX0_as_0 0 rfl rfl)
theorem dX0_as_1 : decode cX0_as 1 = .ok (.iconst 0, 1) := dk_3 (dk_at dksX0_as_0 1 rfl rfl)
theorem dX0_as_2 : decode cX0_as 2 = .ok (.putfield 115, 3) := dk_181 0 115 (dk_at dksX0_as_0 2 rfl rfl)
theorem dX0_as_5 : decode cX0_as 5 = .ok (.iload_n 1, 1) := dk_27 (dk_at dksX0_as_0 5 rfl rfl)
theorem dX0_as_6 : decode cX0_as 6 = .ok (.invokestatic 678, 3) := dk_184 2 166 (dk_at dksX0_as_0 6 rfl rfl)
theorem dX0_as_9 : decode cX0_as 9 = .ok (.ifCond .ne 5, 3) := dk_154 0 5 (dk_at dksX0_as_0 9 rfl rfl)
theorem dX0_as_12 : decode cX0_as 12 = .ok (.iconst (-1), 1) := dk_2 (dk_at dksX0_as_0 12 rfl rfl)
theorem dX0_as_13 : decode cX0_as 13 = .ok (.ireturn, 1) := dk_172 (dk_at dksX0_as_0 13 rfl rfl)
theorem dX0_as_14 : decode cX0_as 14 = .ok (.iload_n 2, 1) := dk_28 (dk_at dksX0_as_0 14 rfl rfl)
theorem dX0_as_15 : decode cX0_as 15 = .ok (.i2l, 1) := dk_133 (dk_at dksX0_as_0 15 rfl rfl)
theorem dX0_as_16 : decode cX0_as 16 = .ok (.lconst 0, 1) := dk_9 (dk_at dksX0_as_0 16 rfl rfl)
theorem dX0_as_17 : decode cX0_as 17 = .ok (.ldc2_w 199, 3) := dk_20 0 199 (dk_at dksX0_as_0 17 rfl rfl)
theorem dX0_as_20 : decode cX0_as 20 = .ok (.invokestatic 130, 3) := dk_184 0 130 (dk_at dksX0_as_0 20 rfl rfl)
theorem dX0_as_23 : decode cX0_as 23 = .ok (.ifCond .ne 6, 3) := dk_154 0 6 (dk_at dksX0_as_1 0 rfl rfl)
theorem dX0_as_26 : decode cX0_as 26 = .ok (.bipush (-2), 2) := dk_16 254 (dk_at dksX0_as_1 3 rfl rfl)
theorem dX0_as_28 : decode cX0_as 28 = .ok (.ireturn, 1) := dk_172 (dk_at dksX0_as_1 5 rfl rfl)
theorem dX0_as_29 : decode cX0_as 29 = .ok (.aload_n 0, 1) := dk_42 (dk_at dksX0_as_1 6 rfl rfl)
theorem dX0_as_30 : decode cX0_as 30 = .ok (.getfield 108, 3) := dk_180 0 108 (dk_at dksX0_as_1 7 rfl rfl)
theorem dX0_as_33 : decode cX0_as 33 = .ok (.iload_n 1, 1) := dk_27 (dk_at dksX0_as_1 10 rfl rfl)
theorem dX0_as_34 : decode cX0_as 34 = .ok (.aaload, 1) := dk_50 (dk_at dksX0_as_1 11 rfl rfl)
theorem dX0_as_35 : decode cX0_as 35 = .ok (.getfield 247, 3) := dk_180 0 247 (dk_at dksX0_as_1 12 rfl rfl)
theorem dX0_as_38 : decode cX0_as 38 = .ok (.iload_n 2, 1) := dk_28 (dk_at dksX0_as_1 15 rfl rfl)
theorem dX0_as_39 : decode cX0_as 39 = .ok (.invokestatic 684, 3) := dk_184 2 172 (dk_at dksX0_as_1 16 rfl rfl)
theorem dX0_as_42 : decode cX0_as 42 = .ok (.ireturn, 1) := dk_172 (dk_at dksX0_as_1 19 rfl rfl)
theorem dX0_as_43 : decode cX0_as 43 = .ok (.astore_n 3, 1) := dk_78 (dk_at dksX0_as_1 20 rfl rfl)
theorem dX0_as_44 : decode cX0_as 44 = .ok (.aload_n 0, 1) := dk_42 (dk_at dksX0_as_1 21 rfl rfl)
theorem dX0_as_45 : decode cX0_as 45 = .ok (.iconst 2, 1) := dk_5 (dk_at dksX0_as_1 22 rfl rfl)
theorem dX0_as_46 : decode cX0_as 46 = .ok (.invokevirtual 265, 3) := dk_182 1 9 (dk_at dksX0_as_2 0 rfl rfl)
theorem dX0_as_49 : decode cX0_as 49 = .ok (.ireturn, 1) := dk_172 (dk_at dksX0_as_2 3 rfl rfl)
theorem dX0_as_50 : decode cX0_as 50 = .ok (.astore_n 3, 1) := dk_78 (dk_at dksX0_as_2 4 rfl rfl)
theorem dX0_as_51 : decode cX0_as 51 = .ok (.aload_n 0, 1) := dk_42 (dk_at dksX0_as_2 5 rfl rfl)
theorem dX0_as_52 : decode cX0_as 52 = .ok (.iconst 1, 1) := dk_4 (dk_at dksX0_as_2 6 rfl rfl)
theorem dX0_as_53 : decode cX0_as 53 = .ok (.invokevirtual 265, 3) := dk_182 1 9 (dk_at dksX0_as_2 7 rfl rfl)
theorem dX0_as_56 : decode cX0_as 56 = .ok (.ireturn, 1) := dk_172 (dk_at dksX0_as_2 10 rfl rfl)
abbrev cX0_numberOf : ByteArray := prog_1_method_122_code
def yX0_numberOf : MethodName := ⟨RX0, "numberOf", "(Ljava/lang/Object;I)I"⟩
def dkwX0_numberOf_5 : List UInt8 := [184, 2, 172, 172, 42, 192, 1, 101, 6, 184, 2, 172, 172]
abbrev dktX0_numberOf_5 : List UInt8 := dkwX0_numberOf_5 ++ []
def dkwX0_numberOf_4 : List UInt8 := [192, 1, 90, 6, 184, 2, 172, 172, 42, 192, 1, 95, 6, 184, 2, 172, 172, 42, 192, 1, 98, 6]
abbrev dktX0_numberOf_4 : List UInt8 := dkwX0_numberOf_4 ++ dktX0_numberOf_5
def dkwX0_numberOf_3 : List UInt8 := [184, 2, 172, 172, 42, 192, 0, 214, 180, 2, 175, 172, 42, 192, 1, 85, 6, 184, 2, 172, 172, 42]
abbrev dktX0_numberOf_3 : List UInt8 := dkwX0_numberOf_3 ++ dktX0_numberOf_4
def dkwX0_numberOf_2 : List UInt8 := [42, 192, 0, 190, 180, 2, 169, 172, 42, 192, 1, 23, 3, 184, 2, 172, 172, 42, 192, 1, 28, 3]
abbrev dktX0_numberOf_2 : List UInt8 := dkwX0_numberOf_2 ++ dktX0_numberOf_3
def dkwX0_numberOf_1 : List UInt8 := [170, 0, 0, 0, 0, 0, 117, 0, 0, 0, 0, 0, 0, 0, 7, 0, 0, 0, 47, 0, 0, 0, 55, 0, 0, 0, 64, 0, 0, 0, 73, 0, 0, 0, 81, 0, 0, 0, 90, 0, 0, 0, 99, 0, 0, 0, 108]
abbrev dktX0_numberOf_1 : List UInt8 := dkwX0_numberOf_1 ++ dktX0_numberOf_2
def dkwX0_numberOf_0 : List UInt8 := [27]
abbrev dktX0_numberOf_0 : List UInt8 := dkwX0_numberOf_0 ++ dktX0_numberOf_1
theorem dksX0_numberOf_0 : cX0_numberOf.data.toList.drop 0 = dktX0_numberOf_0 := by decide +kernel
theorem dksX0_numberOf_1 : cX0_numberOf.data.toList.drop 1 = dktX0_numberOf_1 := dk_seg dksX0_numberOf_0 1 rfl rfl
theorem dksX0_numberOf_2 : cX0_numberOf.data.toList.drop 48 = dktX0_numberOf_2 := dk_seg dksX0_numberOf_1 47 rfl rfl
theorem dksX0_numberOf_3 : cX0_numberOf.data.toList.drop 70 = dktX0_numberOf_3 := dk_seg dksX0_numberOf_2 22 rfl rfl
theorem dksX0_numberOf_4 : cX0_numberOf.data.toList.drop 92 = dktX0_numberOf_4 := dk_seg dksX0_numberOf_3 22 rfl rfl
theorem dksX0_numberOf_5 : cX0_numberOf.data.toList.drop 114 = dktX0_numberOf_5 := dk_seg dksX0_numberOf_4 22 rfl rfl
theorem dX0_numberOf_0 : decode cX0_numberOf 0 = .ok (.iload_n 1, 1) := dk_27 (dk_at dksX0_numberOf_0 0 rfl rfl)
theorem dX0_numberOf_1 : decode cX0_numberOf 1 = .ok (.tableswitch 117 0 7 #[47, 55, 64, 73, 81, 90, 99, 108], 47) := by decide +kernel
theorem dX0_numberOf_48 : decode cX0_numberOf 48 = .ok (.aload_n 0, 1) := dk_42 (dk_at dksX0_numberOf_2 0 rfl rfl)
theorem dX0_numberOf_49 : decode cX0_numberOf 49 = .ok (.checkcast 190, 3) := dk_192 0 190 (dk_at dksX0_numberOf_2 1 rfl rfl)
theorem dX0_numberOf_52 : decode cX0_numberOf 52 = .ok (.getfield 681, 3) := dk_180 2 169 (dk_at dksX0_numberOf_2 4 rfl rfl)
theorem dX0_numberOf_55 : decode cX0_numberOf 55 = .ok (.ireturn, 1) := dk_172 (dk_at dksX0_numberOf_2 7 rfl rfl)
theorem dX0_numberOf_56 : decode cX0_numberOf 56 = .ok (.aload_n 0, 1) := dk_42 (dk_at dksX0_numberOf_2 8 rfl rfl)
theorem dX0_numberOf_57 : decode cX0_numberOf 57 = .ok (.checkcast 279, 3) := dk_192 1 23 (dk_at dksX0_numberOf_2 9 rfl rfl)
theorem dX0_numberOf_60 : decode cX0_numberOf 60 = .ok (.iconst 0, 1) := dk_3 (dk_at dksX0_numberOf_2 12 rfl rfl)
theorem dX0_numberOf_61 : decode cX0_numberOf 61 = .ok (.invokestatic 684, 3) := dk_184 2 172 (dk_at dksX0_numberOf_2 13 rfl rfl)
theorem dX0_numberOf_64 : decode cX0_numberOf 64 = .ok (.ireturn, 1) := dk_172 (dk_at dksX0_numberOf_2 16 rfl rfl)
theorem dX0_numberOf_65 : decode cX0_numberOf 65 = .ok (.aload_n 0, 1) := dk_42 (dk_at dksX0_numberOf_2 17 rfl rfl)
theorem dX0_numberOf_66 : decode cX0_numberOf 66 = .ok (.checkcast 284, 3) := dk_192 1 28 (dk_at dksX0_numberOf_2 18 rfl rfl)
theorem dX0_numberOf_69 : decode cX0_numberOf 69 = .ok (.iconst 0, 1) := dk_3 (dk_at dksX0_numberOf_2 21 rfl rfl)
theorem dX0_numberOf_70 : decode cX0_numberOf 70 = .ok (.invokestatic 684, 3) := dk_184 2 172 (dk_at dksX0_numberOf_3 0 rfl rfl)
theorem dX0_numberOf_73 : decode cX0_numberOf 73 = .ok (.ireturn, 1) := dk_172 (dk_at dksX0_numberOf_3 3 rfl rfl)
theorem dX0_numberOf_74 : decode cX0_numberOf 74 = .ok (.aload_n 0, 1) := dk_42 (dk_at dksX0_numberOf_3 4 rfl rfl)
theorem dX0_numberOf_75 : decode cX0_numberOf 75 = .ok (.checkcast 214, 3) := dk_192 0 214 (dk_at dksX0_numberOf_3 5 rfl rfl)
theorem dX0_numberOf_78 : decode cX0_numberOf 78 = .ok (.getfield 687, 3) := dk_180 2 175 (dk_at dksX0_numberOf_3 8 rfl rfl)
theorem dX0_numberOf_81 : decode cX0_numberOf 81 = .ok (.ireturn, 1) := dk_172 (dk_at dksX0_numberOf_3 11 rfl rfl)
theorem dX0_numberOf_82 : decode cX0_numberOf 82 = .ok (.aload_n 0, 1) := dk_42 (dk_at dksX0_numberOf_3 12 rfl rfl)
theorem dX0_numberOf_83 : decode cX0_numberOf 83 = .ok (.checkcast 341, 3) := dk_192 1 85 (dk_at dksX0_numberOf_3 13 rfl rfl)
theorem dX0_numberOf_86 : decode cX0_numberOf 86 = .ok (.iconst 3, 1) := dk_6 (dk_at dksX0_numberOf_3 16 rfl rfl)
theorem dX0_numberOf_87 : decode cX0_numberOf 87 = .ok (.invokestatic 684, 3) := dk_184 2 172 (dk_at dksX0_numberOf_3 17 rfl rfl)
theorem dX0_numberOf_90 : decode cX0_numberOf 90 = .ok (.ireturn, 1) := dk_172 (dk_at dksX0_numberOf_3 20 rfl rfl)
theorem dX0_numberOf_91 : decode cX0_numberOf 91 = .ok (.aload_n 0, 1) := dk_42 (dk_at dksX0_numberOf_3 21 rfl rfl)
theorem dX0_numberOf_92 : decode cX0_numberOf 92 = .ok (.checkcast 346, 3) := dk_192 1 90 (dk_at dksX0_numberOf_4 0 rfl rfl)
theorem dX0_numberOf_95 : decode cX0_numberOf 95 = .ok (.iconst 3, 1) := dk_6 (dk_at dksX0_numberOf_4 3 rfl rfl)
theorem dX0_numberOf_96 : decode cX0_numberOf 96 = .ok (.invokestatic 684, 3) := dk_184 2 172 (dk_at dksX0_numberOf_4 4 rfl rfl)
theorem dX0_numberOf_99 : decode cX0_numberOf 99 = .ok (.ireturn, 1) := dk_172 (dk_at dksX0_numberOf_4 7 rfl rfl)
theorem dX0_numberOf_100 : decode cX0_numberOf 100 = .ok (.aload_n 0, 1) := dk_42 (dk_at dksX0_numberOf_4 8 rfl rfl)
theorem dX0_numberOf_101 : decode cX0_numberOf 101 = .ok (.checkcast 351, 3) := dk_192 1 95 (dk_at dksX0_numberOf_4 9 rfl rfl)
theorem dX0_numberOf_104 : decode cX0_numberOf 104 = .ok (.iconst 3, 1) := dk_6 (dk_at dksX0_numberOf_4 12 rfl rfl)
theorem dX0_numberOf_105 : decode cX0_numberOf 105 = .ok (.invokestatic 684, 3) := dk_184 2 172 (dk_at dksX0_numberOf_4 13 rfl rfl)
theorem dX0_numberOf_108 : decode cX0_numberOf 108 = .ok (.ireturn, 1) := dk_172 (dk_at dksX0_numberOf_4 16 rfl rfl)
theorem dX0_numberOf_109 : decode cX0_numberOf 109 = .ok (.aload_n 0, 1) := dk_42 (dk_at dksX0_numberOf_4 17 rfl rfl)
theorem dX0_numberOf_110 : decode cX0_numberOf 110 = .ok (.checkcast 354, 3) := dk_192 1 98 (dk_at dksX0_numberOf_4 18 rfl rfl)
theorem dX0_numberOf_113 : decode cX0_numberOf 113 = .ok (.iconst 3, 1) := dk_6 (dk_at dksX0_numberOf_4 21 rfl rfl)
theorem dX0_numberOf_114 : decode cX0_numberOf 114 = .ok (.invokestatic 684, 3) := dk_184 2 172 (dk_at dksX0_numberOf_5 0 rfl rfl)
theorem dX0_numberOf_117 : decode cX0_numberOf 117 = .ok (.ireturn, 1) := dk_172 (dk_at dksX0_numberOf_5 3 rfl rfl)
theorem dX0_numberOf_118 : decode cX0_numberOf 118 = .ok (.aload_n 0, 1) := dk_42 (dk_at dksX0_numberOf_5 4 rfl rfl)
theorem dX0_numberOf_119 : decode cX0_numberOf 119 = .ok (.checkcast 357, 3) := dk_192 1 101 (dk_at dksX0_numberOf_5 5 rfl rfl)
theorem dX0_numberOf_122 : decode cX0_numberOf 122 = .ok (.iconst 3, 1) := dk_6 (dk_at dksX0_numberOf_5 8 rfl rfl)
theorem dX0_numberOf_123 : decode cX0_numberOf 123 = .ok (.invokestatic 684, 3) := dk_184 2 172 (dk_at dksX0_numberOf_5 9 rfl rfl)
theorem dX0_numberOf_126 : decode cX0_numberOf 126 = .ok (.ireturn, 1) := dk_172 (dk_at dksX0_numberOf_5 12 rfl rfl)
abbrev cX0_tell : ByteArray := prog_1_method_124_code
def yX0_tell : MethodName := ⟨RX0, "tell", "(II)I"⟩
def dkwX0_tell_3 : List UInt8 := [182, 1, 9, 172, 78, 42, 4, 182, 1, 9, 172]
abbrev dktX0_tell_3 : List UInt8 := dkwX0_tell_3 ++ []
def dkwX0_tell_2 : List UInt8 := [167, 0, 18, 42, 180, 0, 108, 27, 50, 180, 0, 247, 192, 0, 214, 182, 2, 179, 172, 78, 42, 5]
abbrev dktX0_tell_2 : List UInt8 := dkwX0_tell_2 ++ dktX0_tell_3
def dkwX0_tell_1 : List UInt8 := [16, 254, 172, 28, 154, 0, 21, 42, 180, 0, 108, 27, 50, 180, 0, 247, 192, 0, 190, 182, 2, 176]
abbrev dktX0_tell_1 : List UInt8 := dkwX0_tell_1 ++ dktX0_tell_2
def dkwX0_tell_0 : List UInt8 := [42, 3, 181, 0, 115, 27, 184, 2, 166, 154, 0, 5, 2, 172, 28, 133, 9, 10, 184, 0, 130, 154, 0, 6]
abbrev dktX0_tell_0 : List UInt8 := dkwX0_tell_0 ++ dktX0_tell_1
theorem dksX0_tell_0 : cX0_tell.data.toList.drop 0 = dktX0_tell_0 := by decide +kernel
theorem dksX0_tell_1 : cX0_tell.data.toList.drop 24 = dktX0_tell_1 := dk_seg dksX0_tell_0 24 rfl rfl
theorem dksX0_tell_2 : cX0_tell.data.toList.drop 46 = dktX0_tell_2 := dk_seg dksX0_tell_1 22 rfl rfl
theorem dksX0_tell_3 : cX0_tell.data.toList.drop 68 = dktX0_tell_3 := dk_seg dksX0_tell_2 22 rfl rfl
theorem dX0_tell_0 : decode cX0_tell 0 = .ok (.aload_n 0, 1) := dk_42 (dk_at dksX0_tell_0 0 rfl rfl)
theorem dX0_tell_1 : decode cX0_tell 1 = .ok (.iconst 0, 1) := dk_3 (dk_at dksX0_tell_0 1 rfl rfl)
theorem dX0_tell_2 : decode cX0_tell 2 = .ok (.putfield 115, 3) := dk_181 0 115 (dk_at dksX0_tell_0 2 rfl rfl)
theorem dX0_tell_5 : decode cX0_tell 5 = .ok (.iload_n 1, 1) := dk_27 (dk_at dksX0_tell_0 5 rfl rfl)
theorem dX0_tell_6 : decode cX0_tell 6 = .ok (.invokestatic 678, 3) := dk_184 2 166 (dk_at dksX0_tell_0 6 rfl rfl)
theorem dX0_tell_9 : decode cX0_tell 9 = .ok (.ifCond .ne 5, 3) := dk_154 0 5 (dk_at dksX0_tell_0 9 rfl rfl)
theorem dX0_tell_12 : decode cX0_tell 12 = .ok (.iconst (-1), 1) := dk_2 (dk_at dksX0_tell_0 12 rfl rfl)
theorem dX0_tell_13 : decode cX0_tell 13 = .ok (.ireturn, 1) := dk_172 (dk_at dksX0_tell_0 13 rfl rfl)
theorem dX0_tell_14 : decode cX0_tell 14 = .ok (.iload_n 2, 1) := dk_28 (dk_at dksX0_tell_0 14 rfl rfl)
theorem dX0_tell_15 : decode cX0_tell 15 = .ok (.i2l, 1) := dk_133 (dk_at dksX0_tell_0 15 rfl rfl)
theorem dX0_tell_16 : decode cX0_tell 16 = .ok (.lconst 0, 1) := dk_9 (dk_at dksX0_tell_0 16 rfl rfl)
theorem dX0_tell_17 : decode cX0_tell 17 = .ok (.lconst 1, 1) := dk_10 (dk_at dksX0_tell_0 17 rfl rfl)
theorem dX0_tell_18 : decode cX0_tell 18 = .ok (.invokestatic 130, 3) := dk_184 0 130 (dk_at dksX0_tell_0 18 rfl rfl)
theorem dX0_tell_21 : decode cX0_tell 21 = .ok (.ifCond .ne 6, 3) := dk_154 0 6 (dk_at dksX0_tell_0 21 rfl rfl)
theorem dX0_tell_24 : decode cX0_tell 24 = .ok (.bipush (-2), 2) := dk_16 254 (dk_at dksX0_tell_1 0 rfl rfl)
theorem dX0_tell_26 : decode cX0_tell 26 = .ok (.ireturn, 1) := dk_172 (dk_at dksX0_tell_1 2 rfl rfl)
theorem dX0_tell_27 : decode cX0_tell 27 = .ok (.iload_n 2, 1) := dk_28 (dk_at dksX0_tell_1 3 rfl rfl)
theorem dX0_tell_28 : decode cX0_tell 28 = .ok (.ifCond .ne 21, 3) := dk_154 0 21 (dk_at dksX0_tell_1 4 rfl rfl)
theorem dX0_tell_31 : decode cX0_tell 31 = .ok (.aload_n 0, 1) := dk_42 (dk_at dksX0_tell_1 7 rfl rfl)
theorem dX0_tell_32 : decode cX0_tell 32 = .ok (.getfield 108, 3) := dk_180 0 108 (dk_at dksX0_tell_1 8 rfl rfl)
theorem dX0_tell_35 : decode cX0_tell 35 = .ok (.iload_n 1, 1) := dk_27 (dk_at dksX0_tell_1 11 rfl rfl)
theorem dX0_tell_36 : decode cX0_tell 36 = .ok (.aaload, 1) := dk_50 (dk_at dksX0_tell_1 12 rfl rfl)
theorem dX0_tell_37 : decode cX0_tell 37 = .ok (.getfield 247, 3) := dk_180 0 247 (dk_at dksX0_tell_1 13 rfl rfl)
theorem dX0_tell_40 : decode cX0_tell 40 = .ok (.checkcast 190, 3) := dk_192 0 190 (dk_at dksX0_tell_1 16 rfl rfl)
theorem dX0_tell_43 : decode cX0_tell 43 = .ok (.invokevirtual 688, 3) := dk_182 2 176 (dk_at dksX0_tell_1 19 rfl rfl)
theorem dX0_tell_46 : decode cX0_tell 46 = .ok (.goto 18, 3) := dk_167 0 18 (dk_at dksX0_tell_2 0 rfl rfl)
theorem dX0_tell_49 : decode cX0_tell 49 = .ok (.aload_n 0, 1) := dk_42 (dk_at dksX0_tell_2 3 rfl rfl)
theorem dX0_tell_50 : decode cX0_tell 50 = .ok (.getfield 108, 3) := dk_180 0 108 (dk_at dksX0_tell_2 4 rfl rfl)
theorem dX0_tell_53 : decode cX0_tell 53 = .ok (.iload_n 1, 1) := dk_27 (dk_at dksX0_tell_2 7 rfl rfl)
theorem dX0_tell_54 : decode cX0_tell 54 = .ok (.aaload, 1) := dk_50 (dk_at dksX0_tell_2 8 rfl rfl)
theorem dX0_tell_55 : decode cX0_tell 55 = .ok (.getfield 247, 3) := dk_180 0 247 (dk_at dksX0_tell_2 9 rfl rfl)
theorem dX0_tell_58 : decode cX0_tell 58 = .ok (.checkcast 214, 3) := dk_192 0 214 (dk_at dksX0_tell_2 12 rfl rfl)
theorem dX0_tell_61 : decode cX0_tell 61 = .ok (.invokevirtual 691, 3) := dk_182 2 179 (dk_at dksX0_tell_2 15 rfl rfl)
theorem dX0_tell_64 : decode cX0_tell 64 = .ok (.ireturn, 1) := dk_172 (dk_at dksX0_tell_2 18 rfl rfl)
theorem dX0_tell_65 : decode cX0_tell 65 = .ok (.astore_n 3, 1) := dk_78 (dk_at dksX0_tell_2 19 rfl rfl)
theorem dX0_tell_66 : decode cX0_tell 66 = .ok (.aload_n 0, 1) := dk_42 (dk_at dksX0_tell_2 20 rfl rfl)
theorem dX0_tell_67 : decode cX0_tell 67 = .ok (.iconst 2, 1) := dk_5 (dk_at dksX0_tell_2 21 rfl rfl)
theorem dX0_tell_68 : decode cX0_tell 68 = .ok (.invokevirtual 265, 3) := dk_182 1 9 (dk_at dksX0_tell_3 0 rfl rfl)
theorem dX0_tell_71 : decode cX0_tell 71 = .ok (.ireturn, 1) := dk_172 (dk_at dksX0_tell_3 3 rfl rfl)
theorem dX0_tell_72 : decode cX0_tell 72 = .ok (.astore_n 3, 1) := dk_78 (dk_at dksX0_tell_3 4 rfl rfl)
theorem dX0_tell_73 : decode cX0_tell 73 = .ok (.aload_n 0, 1) := dk_42 (dk_at dksX0_tell_3 5 rfl rfl)
theorem dX0_tell_74 : decode cX0_tell 74 = .ok (.iconst 1, 1) := dk_4 (dk_at dksX0_tell_3 6 rfl rfl)
theorem dX0_tell_75 : decode cX0_tell 75 = .ok (.invokevirtual 265, 3) := dk_182 1 9 (dk_at dksX0_tell_3 7 rfl rfl)
theorem dX0_tell_78 : decode cX0_tell 78 = .ok (.ireturn, 1) := dk_172 (dk_at dksX0_tell_3 10 rfl rfl)
abbrev cX0_begins : ByteArray := prog_1_method_5_code
def yX0_begins : MethodName := ⟨RX0, "begins", "(I)V"⟩
def dkwX0_begins_0 : List UInt8 := [42, 16, 31, 42, 180, 0, 120, 104, 27, 96, 181, 0, 120, 177]
abbrev dktX0_begins_0 : List UInt8 := dkwX0_begins_0 ++ []
theorem dksX0_begins_0 : cX0_begins.data.toList.drop 0 = dktX0_begins_0 := by decide +kernel
theorem dX0_begins_0 : decode cX0_begins 0 = .ok (.aload_n 0, 1) := dk_42 (dk_at dksX0_begins_0 0 rfl rfl)
theorem dX0_begins_1 : decode cX0_begins 1 = .ok (.bipush 31, 2) := dk_16 31 (dk_at dksX0_begins_0 1 rfl rfl)
theorem dX0_begins_3 : decode cX0_begins 3 = .ok (.aload_n 0, 1) := dk_42 (dk_at dksX0_begins_0 3 rfl rfl)
theorem dX0_begins_4 : decode cX0_begins 4 = .ok (.getfield 120, 3) := dk_180 0 120 (dk_at dksX0_begins_0 4 rfl rfl)
theorem dX0_begins_7 : decode cX0_begins 7 = .ok (.imul, 1) := dk_104 (dk_at dksX0_begins_0 7 rfl rfl)
theorem dX0_begins_8 : decode cX0_begins 8 = .ok (.iload_n 1, 1) := dk_27 (dk_at dksX0_begins_0 8 rfl rfl)
theorem dX0_begins_9 : decode cX0_begins 9 = .ok (.iadd, 1) := dk_96 (dk_at dksX0_begins_0 9 rfl rfl)
theorem dX0_begins_10 : decode cX0_begins 10 = .ok (.putfield 120, 3) := dk_181 0 120 (dk_at dksX0_begins_0 10 rfl rfl)
theorem dX0_begins_13 : decode cX0_begins 13 = .ok (.return_, 1) := dk_177 (dk_at dksX0_begins_0 13 rfl rfl)
abbrev cX0_greet : ByteArray := prog_1_method_127_code
def yX0_greet : MethodName := ⟨RX0, "greet", "(II)I"⟩
def dkwX0_greet_3 : List UInt8 := [182, 1, 9, 172, 78, 42, 4, 182, 1, 9, 172]
abbrev dktX0_greet_3 : List UInt8 := dkwX0_greet_3 ++ []
def dkwX0_greet_2 : List UInt8 := [167, 0, 18, 42, 180, 0, 108, 27, 50, 180, 0, 247, 192, 0, 214, 184, 2, 194, 172, 78, 42, 5]
abbrev dktX0_greet_2 : List UInt8 := dkwX0_greet_2 ++ dktX0_greet_3
def dkwX0_greet_1 : List UInt8 := [16, 254, 172, 28, 154, 0, 21, 42, 180, 0, 108, 27, 50, 180, 0, 247, 192, 0, 190, 184, 2, 190]
abbrev dktX0_greet_1 : List UInt8 := dkwX0_greet_1 ++ dktX0_greet_2
def dkwX0_greet_0 : List UInt8 := [42, 3, 181, 0, 115, 27, 184, 2, 166, 154, 0, 5, 2, 172, 28, 133, 9, 10, 184, 0, 130, 154, 0, 6]
abbrev dktX0_greet_0 : List UInt8 := dkwX0_greet_0 ++ dktX0_greet_1
theorem dksX0_greet_0 : cX0_greet.data.toList.drop 0 = dktX0_greet_0 := by decide +kernel
theorem dksX0_greet_1 : cX0_greet.data.toList.drop 24 = dktX0_greet_1 := dk_seg dksX0_greet_0 24 rfl rfl
theorem dksX0_greet_2 : cX0_greet.data.toList.drop 46 = dktX0_greet_2 := dk_seg dksX0_greet_1 22 rfl rfl
theorem dksX0_greet_3 : cX0_greet.data.toList.drop 68 = dktX0_greet_3 := dk_seg dksX0_greet_2 22 rfl rfl
theorem dX0_greet_0 : decode cX0_greet 0 = .ok (.aload_n 0, 1) := dk_42 (dk_at dksX0_greet_0 0 rfl rfl)
theorem dX0_greet_1 : decode cX0_greet 1 = .ok (.iconst 0, 1) := dk_3 (dk_at dksX0_greet_0 1 rfl rfl)
theorem dX0_greet_2 : decode cX0_greet 2 = .ok (.putfield 115, 3) := dk_181 0 115 (dk_at dksX0_greet_0 2 rfl rfl)
theorem dX0_greet_5 : decode cX0_greet 5 = .ok (.iload_n 1, 1) := dk_27 (dk_at dksX0_greet_0 5 rfl rfl)
theorem dX0_greet_6 : decode cX0_greet 6 = .ok (.invokestatic 678, 3) := dk_184 2 166 (dk_at dksX0_greet_0 6 rfl rfl)
theorem dX0_greet_9 : decode cX0_greet 9 = .ok (.ifCond .ne 5, 3) := dk_154 0 5 (dk_at dksX0_greet_0 9 rfl rfl)
theorem dX0_greet_12 : decode cX0_greet 12 = .ok (.iconst (-1), 1) := dk_2 (dk_at dksX0_greet_0 12 rfl rfl)
theorem dX0_greet_13 : decode cX0_greet 13 = .ok (.ireturn, 1) := dk_172 (dk_at dksX0_greet_0 13 rfl rfl)
theorem dX0_greet_14 : decode cX0_greet 14 = .ok (.iload_n 2, 1) := dk_28 (dk_at dksX0_greet_0 14 rfl rfl)
theorem dX0_greet_15 : decode cX0_greet 15 = .ok (.i2l, 1) := dk_133 (dk_at dksX0_greet_0 15 rfl rfl)
theorem dX0_greet_16 : decode cX0_greet 16 = .ok (.lconst 0, 1) := dk_9 (dk_at dksX0_greet_0 16 rfl rfl)
theorem dX0_greet_17 : decode cX0_greet 17 = .ok (.lconst 1, 1) := dk_10 (dk_at dksX0_greet_0 17 rfl rfl)
theorem dX0_greet_18 : decode cX0_greet 18 = .ok (.invokestatic 130, 3) := dk_184 0 130 (dk_at dksX0_greet_0 18 rfl rfl)
theorem dX0_greet_21 : decode cX0_greet 21 = .ok (.ifCond .ne 6, 3) := dk_154 0 6 (dk_at dksX0_greet_0 21 rfl rfl)
theorem dX0_greet_24 : decode cX0_greet 24 = .ok (.bipush (-2), 2) := dk_16 254 (dk_at dksX0_greet_1 0 rfl rfl)
theorem dX0_greet_26 : decode cX0_greet 26 = .ok (.ireturn, 1) := dk_172 (dk_at dksX0_greet_1 2 rfl rfl)
theorem dX0_greet_27 : decode cX0_greet 27 = .ok (.iload_n 2, 1) := dk_28 (dk_at dksX0_greet_1 3 rfl rfl)
theorem dX0_greet_28 : decode cX0_greet 28 = .ok (.ifCond .ne 21, 3) := dk_154 0 21 (dk_at dksX0_greet_1 4 rfl rfl)
theorem dX0_greet_31 : decode cX0_greet 31 = .ok (.aload_n 0, 1) := dk_42 (dk_at dksX0_greet_1 7 rfl rfl)
theorem dX0_greet_32 : decode cX0_greet 32 = .ok (.getfield 108, 3) := dk_180 0 108 (dk_at dksX0_greet_1 8 rfl rfl)
theorem dX0_greet_35 : decode cX0_greet 35 = .ok (.iload_n 1, 1) := dk_27 (dk_at dksX0_greet_1 11 rfl rfl)
theorem dX0_greet_36 : decode cX0_greet 36 = .ok (.aaload, 1) := dk_50 (dk_at dksX0_greet_1 12 rfl rfl)
theorem dX0_greet_37 : decode cX0_greet 37 = .ok (.getfield 247, 3) := dk_180 0 247 (dk_at dksX0_greet_1 13 rfl rfl)
theorem dX0_greet_40 : decode cX0_greet 40 = .ok (.checkcast 190, 3) := dk_192 0 190 (dk_at dksX0_greet_1 16 rfl rfl)
theorem dX0_greet_43 : decode cX0_greet 43 = .ok (.invokestatic 702, 3) := dk_184 2 190 (dk_at dksX0_greet_1 19 rfl rfl)
theorem dX0_greet_46 : decode cX0_greet 46 = .ok (.goto 18, 3) := dk_167 0 18 (dk_at dksX0_greet_2 0 rfl rfl)
theorem dX0_greet_49 : decode cX0_greet 49 = .ok (.aload_n 0, 1) := dk_42 (dk_at dksX0_greet_2 3 rfl rfl)
theorem dX0_greet_50 : decode cX0_greet 50 = .ok (.getfield 108, 3) := dk_180 0 108 (dk_at dksX0_greet_2 4 rfl rfl)
theorem dX0_greet_53 : decode cX0_greet 53 = .ok (.iload_n 1, 1) := dk_27 (dk_at dksX0_greet_2 7 rfl rfl)
theorem dX0_greet_54 : decode cX0_greet 54 = .ok (.aaload, 1) := dk_50 (dk_at dksX0_greet_2 8 rfl rfl)
theorem dX0_greet_55 : decode cX0_greet 55 = .ok (.getfield 247, 3) := dk_180 0 247 (dk_at dksX0_greet_2 9 rfl rfl)
theorem dX0_greet_58 : decode cX0_greet 58 = .ok (.checkcast 214, 3) := dk_192 0 214 (dk_at dksX0_greet_2 12 rfl rfl)
theorem dX0_greet_61 : decode cX0_greet 61 = .ok (.invokestatic 706, 3) := dk_184 2 194 (dk_at dksX0_greet_2 15 rfl rfl)
theorem dX0_greet_64 : decode cX0_greet 64 = .ok (.ireturn, 1) := dk_172 (dk_at dksX0_greet_2 18 rfl rfl)
theorem dX0_greet_65 : decode cX0_greet 65 = .ok (.astore_n 3, 1) := dk_78 (dk_at dksX0_greet_2 19 rfl rfl)
theorem dX0_greet_66 : decode cX0_greet 66 = .ok (.aload_n 0, 1) := dk_42 (dk_at dksX0_greet_2 20 rfl rfl)
theorem dX0_greet_67 : decode cX0_greet 67 = .ok (.iconst 2, 1) := dk_5 (dk_at dksX0_greet_2 21 rfl rfl)
theorem dX0_greet_68 : decode cX0_greet 68 = .ok (.invokevirtual 265, 3) := dk_182 1 9 (dk_at dksX0_greet_3 0 rfl rfl)
theorem dX0_greet_71 : decode cX0_greet 71 = .ok (.ireturn, 1) := dk_172 (dk_at dksX0_greet_3 3 rfl rfl)
theorem dX0_greet_72 : decode cX0_greet 72 = .ok (.astore_n 3, 1) := dk_78 (dk_at dksX0_greet_3 4 rfl rfl)
theorem dX0_greet_73 : decode cX0_greet 73 = .ok (.aload_n 0, 1) := dk_42 (dk_at dksX0_greet_3 5 rfl rfl)
theorem dX0_greet_74 : decode cX0_greet 74 = .ok (.iconst 1, 1) := dk_4 (dk_at dksX0_greet_3 6 rfl rfl)
theorem dX0_greet_75 : decode cX0_greet 75 = .ok (.invokevirtual 265, 3) := dk_182 1 9 (dk_at dksX0_greet_3 7 rfl rfl)
theorem dX0_greet_78 : decode cX0_greet 78 = .ok (.ireturn, 1) := dk_172 (dk_at dksX0_greet_3 10 rfl rfl)
abbrev cX0_greeted : ByteArray := prog_1_method_125_code
def yX0_greeted : MethodName := ⟨RX0, "greeted", "(LHeardPlaces$Stands;)I"⟩
theorem dX0_greeted_0 : decode cX0_greeted 0 = .ok (.aload_n 0, 1) := by decide +kernel
theorem dX0_greeted_1 : decode cX0_greeted 1 = .ok (.invokeinterface 692 1, 5) := by decide +kernel
theorem dX0_greeted_6 : decode cX0_greeted 6 = .ok (.ireturn, 1) := by decide +kernel
abbrev cX0_weighed : ByteArray := prog_1_method_126_code
def yX0_weighed : MethodName := ⟨RX0, "weighed", "(LHeardPlaces$Weighs;)I"⟩
theorem dX0_weighed_0 : decode cX0_weighed 0 = .ok (.aload_n 0, 1) := by decide +kernel
theorem dX0_weighed_1 : decode cX0_weighed 1 = .ok (.invokeinterface 697 1, 5) := by decide +kernel
theorem dX0_weighed_6 : decode cX0_weighed 6 = .ok (.ireturn, 1) := by decide +kernel
abbrev cX0_sheet : ByteArray := prog_1_method_136_code
def yX0_sheet : MethodName := ⟨RX0, "sheet", "(III)I"⟩
def dkwX0_sheet_2 : List UInt8 := [42, 7, 182, 1, 9, 172]
abbrev dktX0_sheet_2 : List UInt8 := dkwX0_sheet_2 ++ []
def dkwX0_sheet_1 : List UInt8 := [164, 0, 6, 16, 254, 172, 42, 180, 0, 112, 27, 50, 28, 29, 184, 2, 205, 181, 0, 247, 4, 172, 58, 4]
abbrev dktX0_sheet_1 : List UInt8 := dkwX0_sheet_1 ++ dktX0_sheet_2
def dkwX0_sheet_0 : List UInt8 := [42, 3, 181, 0, 115, 27, 184, 0, 241, 154, 0, 5, 2, 172, 28, 184, 0, 244, 153, 0, 9, 29, 16, 64]
abbrev dktX0_sheet_0 : List UInt8 := dkwX0_sheet_0 ++ dktX0_sheet_1
theorem dksX0_sheet_0 : cX0_sheet.data.toList.drop 0 = dktX0_sheet_0 := by decide +kernel
theorem dksX0_sheet_1 : cX0_sheet.data.toList.drop 24 = dktX0_sheet_1 := dk_seg dksX0_sheet_0 24 rfl rfl
theorem dksX0_sheet_2 : cX0_sheet.data.toList.drop 48 = dktX0_sheet_2 := dk_seg dksX0_sheet_1 24 rfl rfl
theorem dX0_sheet_0 : decode cX0_sheet 0 = .ok (.aload_n 0, 1) := dk_42 (dk_at dksX0_sheet_0 0 rfl rfl)
theorem dX0_sheet_1 : decode cX0_sheet 1 = .ok (.iconst 0, 1) := dk_3 (dk_at dksX0_sheet_0 1 rfl rfl)
theorem dX0_sheet_2 : decode cX0_sheet 2 = .ok (.putfield 115, 3) := dk_181 0 115 (dk_at dksX0_sheet_0 2 rfl rfl)
theorem dX0_sheet_5 : decode cX0_sheet 5 = .ok (.iload_n 1, 1) := dk_27 (dk_at dksX0_sheet_0 5 rfl rfl)
theorem dX0_sheet_6 : decode cX0_sheet 6 = .ok (.invokestatic 241, 3) := dk_184 0 241 (dk_at dksX0_sheet_0 6 rfl rfl)
theorem dX0_sheet_9 : decode cX0_sheet 9 = .ok (.ifCond .ne 5, 3) := dk_154 0 5 (dk_at dksX0_sheet_0 9 rfl rfl)
theorem dX0_sheet_12 : decode cX0_sheet 12 = .ok (.iconst (-1), 1) := dk_2 (dk_at dksX0_sheet_0 12 rfl rfl)
theorem dX0_sheet_13 : decode cX0_sheet 13 = .ok (.ireturn, 1) := dk_172 (dk_at dksX0_sheet_0 13 rfl rfl)
theorem dX0_sheet_14 : decode cX0_sheet 14 = .ok (.iload_n 2, 1) := dk_28 (dk_at dksX0_sheet_0 14 rfl rfl)
theorem dX0_sheet_15 : decode cX0_sheet 15 = .ok (.invokestatic 244, 3) := dk_184 0 244 (dk_at dksX0_sheet_0 15 rfl rfl)
theorem dX0_sheet_18 : decode cX0_sheet 18 = .ok (.ifCond .eq 9, 3) := dk_153 0 9 (dk_at dksX0_sheet_0 18 rfl rfl)
theorem dX0_sheet_21 : decode cX0_sheet 21 = .ok (.iload_n 3, 1) := dk_29 (dk_at dksX0_sheet_0 21 rfl rfl)
theorem dX0_sheet_22 : decode cX0_sheet 22 = .ok (.bipush 64, 2) := dk_16 64 (dk_at dksX0_sheet_0 22 rfl rfl)
theorem dX0_sheet_24 : decode cX0_sheet 24 = .ok (.if_icmp .le 6, 3) := dk_164 0 6 (dk_at dksX0_sheet_1 0 rfl rfl)
theorem dX0_sheet_27 : decode cX0_sheet 27 = .ok (.bipush (-2), 2) := dk_16 254 (dk_at dksX0_sheet_1 3 rfl rfl)
theorem dX0_sheet_29 : decode cX0_sheet 29 = .ok (.ireturn, 1) := dk_172 (dk_at dksX0_sheet_1 5 rfl rfl)
theorem dX0_sheet_30 : decode cX0_sheet 30 = .ok (.aload_n 0, 1) := dk_42 (dk_at dksX0_sheet_1 6 rfl rfl)
theorem dX0_sheet_31 : decode cX0_sheet 31 = .ok (.getfield 112, 3) := dk_180 0 112 (dk_at dksX0_sheet_1 7 rfl rfl)
theorem dX0_sheet_34 : decode cX0_sheet 34 = .ok (.iload_n 1, 1) := dk_27 (dk_at dksX0_sheet_1 10 rfl rfl)
theorem dX0_sheet_35 : decode cX0_sheet 35 = .ok (.aaload, 1) := dk_50 (dk_at dksX0_sheet_1 11 rfl rfl)
theorem dX0_sheet_36 : decode cX0_sheet 36 = .ok (.iload_n 2, 1) := dk_28 (dk_at dksX0_sheet_1 12 rfl rfl)
theorem dX0_sheet_37 : decode cX0_sheet 37 = .ok (.iload_n 3, 1) := dk_29 (dk_at dksX0_sheet_1 13 rfl rfl)
theorem dX0_sheet_38 : decode cX0_sheet 38 = .ok (.invokestatic 717, 3) := dk_184 2 205 (dk_at dksX0_sheet_1 14 rfl rfl)
theorem dX0_sheet_41 : decode cX0_sheet 41 = .ok (.putfield 247, 3) := dk_181 0 247 (dk_at dksX0_sheet_1 17 rfl rfl)
theorem dX0_sheet_44 : decode cX0_sheet 44 = .ok (.iconst 1, 1) := dk_4 (dk_at dksX0_sheet_1 20 rfl rfl)
theorem dX0_sheet_45 : decode cX0_sheet 45 = .ok (.ireturn, 1) := dk_172 (dk_at dksX0_sheet_1 21 rfl rfl)
theorem dX0_sheet_46 : decode cX0_sheet 46 = .ok (.astore 4, 2) := dk_58 4 (dk_at dksX0_sheet_1 22 rfl rfl)
theorem dX0_sheet_48 : decode cX0_sheet 48 = .ok (.aload_n 0, 1) := dk_42 (dk_at dksX0_sheet_2 0 rfl rfl)
theorem dX0_sheet_49 : decode cX0_sheet 49 = .ok (.iconst 4, 1) := dk_7 (dk_at dksX0_sheet_2 1 rfl rfl)
theorem dX0_sheet_50 : decode cX0_sheet 50 = .ok (.invokevirtual 265, 3) := dk_182 1 9 (dk_at dksX0_sheet_2 2 rfl rfl)
theorem dX0_sheet_53 : decode cX0_sheet 53 = .ok (.ireturn, 1) := dk_172 (dk_at dksX0_sheet_2 5 rfl rfl)
abbrev cX0_row : ByteArray := prog_1_method_135_code
def yX0_row : MethodName := ⟨RX0, "row", "(II)Ljava/lang/Object;"⟩
def dkwX0_row_2 : List UInt8 := [27, 188, 8, 176, 27, 188, 9, 176, 27, 188, 10, 176, 27, 188, 11, 176]
abbrev dktX0_row_2 : List UInt8 := dkwX0_row_2 ++ []
def dkwX0_row_1 : List UInt8 := [170, 0, 0, 0, 0, 0, 39, 0, 0, 0, 0, 0, 0, 0, 2, 0, 0, 0, 27, 0, 0, 0, 31, 0, 0, 0, 35]
abbrev dktX0_row_1 : List UInt8 := dkwX0_row_1 ++ dktX0_row_2
def dkwX0_row_0 : List UInt8 := [26]
abbrev dktX0_row_0 : List UInt8 := dkwX0_row_0 ++ dktX0_row_1
theorem dksX0_row_0 : cX0_row.data.toList.drop 0 = dktX0_row_0 := by decide +kernel
theorem dksX0_row_1 : cX0_row.data.toList.drop 1 = dktX0_row_1 := dk_seg dksX0_row_0 1 rfl rfl
theorem dksX0_row_2 : cX0_row.data.toList.drop 28 = dktX0_row_2 := dk_seg dksX0_row_1 27 rfl rfl
theorem dX0_row_0 : decode cX0_row 0 = .ok (.iload_n 0, 1) := dk_26 (dk_at dksX0_row_0 0 rfl rfl)
theorem dX0_row_1 : decode cX0_row 1 = .ok (.tableswitch 39 0 2 #[27, 31, 35], 27) := by decide +kernel
theorem dX0_row_28 : decode cX0_row 28 = .ok (.iload_n 1, 1) := dk_27 (dk_at dksX0_row_2 0 rfl rfl)
theorem dX0_row_29 : decode cX0_row 29 = .ok (.newarray .byte, 2) := dk_188_8 (dk_at dksX0_row_2 1 rfl rfl)
theorem dX0_row_31 : decode cX0_row 31 = .ok (.areturn, 1) := dk_176 (dk_at dksX0_row_2 3 rfl rfl)
theorem dX0_row_32 : decode cX0_row 32 = .ok (.iload_n 1, 1) := dk_27 (dk_at dksX0_row_2 4 rfl rfl)
theorem dX0_row_33 : decode cX0_row 33 = .ok (.newarray .short, 2) := dk_188_9 (dk_at dksX0_row_2 5 rfl rfl)
theorem dX0_row_35 : decode cX0_row 35 = .ok (.areturn, 1) := dk_176 (dk_at dksX0_row_2 7 rfl rfl)
theorem dX0_row_36 : decode cX0_row 36 = .ok (.iload_n 1, 1) := dk_27 (dk_at dksX0_row_2 8 rfl rfl)
theorem dX0_row_37 : decode cX0_row 37 = .ok (.newarray .int, 2) := dk_188_10 (dk_at dksX0_row_2 9 rfl rfl)
theorem dX0_row_39 : decode cX0_row 39 = .ok (.areturn, 1) := dk_176 (dk_at dksX0_row_2 11 rfl rfl)
theorem dX0_row_40 : decode cX0_row 40 = .ok (.iload_n 1, 1) := dk_27 (dk_at dksX0_row_2 12 rfl rfl)
theorem dX0_row_41 : decode cX0_row 41 = .ok (.newarray .long, 2) := dk_188_11 (dk_at dksX0_row_2 13 rfl rfl)
theorem dX0_row_43 : decode cX0_row 43 = .ok (.areturn, 1) := dk_176 (dk_at dksX0_row_2 15 rfl rfl)
abbrev cX0_lose : ByteArray := prog_1_method_137_code
def yX0_lose : MethodName := ⟨RX0, "lose", "(I)I"⟩
def dkwX0_lose_1 : List UInt8 := [167, 0, 4, 4, 61, 42, 180, 0, 112, 27, 50, 1, 181, 0, 247, 28, 172]
abbrev dktX0_lose_1 : List UInt8 := dkwX0_lose_1 ++ []
def dkwX0_lose_0 : List UInt8 := [27, 184, 0, 241, 154, 0, 5, 2, 172, 42, 180, 0, 112, 27, 50, 180, 0, 247, 199, 0, 7, 3]
abbrev dktX0_lose_0 : List UInt8 := dkwX0_lose_0 ++ dktX0_lose_1
theorem dksX0_lose_0 : cX0_lose.data.toList.drop 0 = dktX0_lose_0 := by decide +kernel
theorem dksX0_lose_1 : cX0_lose.data.toList.drop 22 = dktX0_lose_1 := dk_seg dksX0_lose_0 22 rfl rfl
theorem dX0_lose_0 : decode cX0_lose 0 = .ok (.iload_n 1, 1) := dk_27 (dk_at dksX0_lose_0 0 rfl rfl)
theorem dX0_lose_1 : decode cX0_lose 1 = .ok (.invokestatic 241, 3) := dk_184 0 241 (dk_at dksX0_lose_0 1 rfl rfl)
theorem dX0_lose_4 : decode cX0_lose 4 = .ok (.ifCond .ne 5, 3) := dk_154 0 5 (dk_at dksX0_lose_0 4 rfl rfl)
theorem dX0_lose_7 : decode cX0_lose 7 = .ok (.iconst (-1), 1) := dk_2 (dk_at dksX0_lose_0 7 rfl rfl)
theorem dX0_lose_8 : decode cX0_lose 8 = .ok (.ireturn, 1) := dk_172 (dk_at dksX0_lose_0 8 rfl rfl)
theorem dX0_lose_9 : decode cX0_lose 9 = .ok (.aload_n 0, 1) := dk_42 (dk_at dksX0_lose_0 9 rfl rfl)
theorem dX0_lose_10 : decode cX0_lose 10 = .ok (.getfield 112, 3) := dk_180 0 112 (dk_at dksX0_lose_0 10 rfl rfl)
theorem dX0_lose_13 : decode cX0_lose 13 = .ok (.iload_n 1, 1) := dk_27 (dk_at dksX0_lose_0 13 rfl rfl)
theorem dX0_lose_14 : decode cX0_lose 14 = .ok (.aaload, 1) := dk_50 (dk_at dksX0_lose_0 14 rfl rfl)
theorem dX0_lose_15 : decode cX0_lose 15 = .ok (.getfield 247, 3) := dk_180 0 247 (dk_at dksX0_lose_0 15 rfl rfl)
theorem dX0_lose_18 : decode cX0_lose 18 = .ok (.ifnonnull 7, 3) := dk_199 0 7 (dk_at dksX0_lose_0 18 rfl rfl)
theorem dX0_lose_21 : decode cX0_lose 21 = .ok (.iconst 0, 1) := dk_3 (dk_at dksX0_lose_0 21 rfl rfl)
theorem dX0_lose_22 : decode cX0_lose 22 = .ok (.goto 4, 3) := dk_167 0 4 (dk_at dksX0_lose_1 0 rfl rfl)
theorem dX0_lose_25 : decode cX0_lose 25 = .ok (.iconst 1, 1) := dk_4 (dk_at dksX0_lose_1 3 rfl rfl)
theorem dX0_lose_26 : decode cX0_lose 26 = .ok (.istore_n 2, 1) := dk_61 (dk_at dksX0_lose_1 4 rfl rfl)
theorem dX0_lose_27 : decode cX0_lose 27 = .ok (.aload_n 0, 1) := dk_42 (dk_at dksX0_lose_1 5 rfl rfl)
theorem dX0_lose_28 : decode cX0_lose 28 = .ok (.getfield 112, 3) := dk_180 0 112 (dk_at dksX0_lose_1 6 rfl rfl)
theorem dX0_lose_31 : decode cX0_lose 31 = .ok (.iload_n 1, 1) := dk_27 (dk_at dksX0_lose_1 9 rfl rfl)
theorem dX0_lose_32 : decode cX0_lose 32 = .ok (.aaload, 1) := dk_50 (dk_at dksX0_lose_1 10 rfl rfl)
theorem dX0_lose_33 : decode cX0_lose 33 = .ok (.aconst_null, 1) := dk_1 (dk_at dksX0_lose_1 11 rfl rfl)
theorem dX0_lose_34 : decode cX0_lose 34 = .ok (.putfield 247, 3) := dk_181 0 247 (dk_at dksX0_lose_1 12 rfl rfl)
theorem dX0_lose_37 : decode cX0_lose 37 = .ok (.iload_n 2, 1) := dk_28 (dk_at dksX0_lose_1 15 rfl rfl)
theorem dX0_lose_38 : decode cX0_lose 38 = .ok (.ireturn, 1) := dk_172 (dk_at dksX0_lose_1 16 rfl rfl)
abbrev cX0_lay : ByteArray := prog_1_method_138_code
def yX0_lay : MethodName := ⟨RX0, "lay", "(IIJ)I"⟩
def dkwX0_lay_1 : List UInt8 := [33, 184, 2, 209, 4, 172, 58, 5, 42, 4, 182, 1, 9, 172, 58, 5, 42, 6, 182, 1, 9, 172]
abbrev dktX0_lay_1 : List UInt8 := dkwX0_lay_1 ++ []
def dkwX0_lay_0 : List UInt8 := [42, 3, 181, 0, 115, 27, 184, 0, 241, 154, 0, 5, 2, 172, 42, 180, 0, 112, 27, 50, 180, 0, 247, 28]
abbrev dktX0_lay_0 : List UInt8 := dkwX0_lay_0 ++ dktX0_lay_1
theorem dksX0_lay_0 : cX0_lay.data.toList.drop 0 = dktX0_lay_0 := by decide +kernel
theorem dksX0_lay_1 : cX0_lay.data.toList.drop 24 = dktX0_lay_1 := dk_seg dksX0_lay_0 24 rfl rfl
theorem dX0_lay_0 : decode cX0_lay 0 = .ok (.aload_n 0, 1) := dk_42 (dk_at dksX0_lay_0 0 rfl rfl)
theorem dX0_lay_1 : decode cX0_lay 1 = .ok (.iconst 0, 1) := dk_3 (dk_at dksX0_lay_0 1 rfl rfl)
theorem dX0_lay_2 : decode cX0_lay 2 = .ok (.putfield 115, 3) := dk_181 0 115 (dk_at dksX0_lay_0 2 rfl rfl)
theorem dX0_lay_5 : decode cX0_lay 5 = .ok (.iload_n 1, 1) := dk_27 (dk_at dksX0_lay_0 5 rfl rfl)
theorem dX0_lay_6 : decode cX0_lay 6 = .ok (.invokestatic 241, 3) := dk_184 0 241 (dk_at dksX0_lay_0 6 rfl rfl)
theorem dX0_lay_9 : decode cX0_lay 9 = .ok (.ifCond .ne 5, 3) := dk_154 0 5 (dk_at dksX0_lay_0 9 rfl rfl)
theorem dX0_lay_12 : decode cX0_lay 12 = .ok (.iconst (-1), 1) := dk_2 (dk_at dksX0_lay_0 12 rfl rfl)
theorem dX0_lay_13 : decode cX0_lay 13 = .ok (.ireturn, 1) := dk_172 (dk_at dksX0_lay_0 13 rfl rfl)
theorem dX0_lay_14 : decode cX0_lay 14 = .ok (.aload_n 0, 1) := dk_42 (dk_at dksX0_lay_0 14 rfl rfl)
theorem dX0_lay_15 : decode cX0_lay 15 = .ok (.getfield 112, 3) := dk_180 0 112 (dk_at dksX0_lay_0 15 rfl rfl)
theorem dX0_lay_18 : decode cX0_lay 18 = .ok (.iload_n 1, 1) := dk_27 (dk_at dksX0_lay_0 18 rfl rfl)
theorem dX0_lay_19 : decode cX0_lay 19 = .ok (.aaload, 1) := dk_50 (dk_at dksX0_lay_0 19 rfl rfl)
theorem dX0_lay_20 : decode cX0_lay 20 = .ok (.getfield 247, 3) := dk_180 0 247 (dk_at dksX0_lay_0 20 rfl rfl)
theorem dX0_lay_23 : decode cX0_lay 23 = .ok (.iload_n 2, 1) := dk_28 (dk_at dksX0_lay_0 23 rfl rfl)
theorem dX0_lay_24 : decode cX0_lay 24 = .ok (.lload_n 3, 1) := dk_33 (dk_at dksX0_lay_1 0 rfl rfl)
theorem dX0_lay_25 : decode cX0_lay 25 = .ok (.invokestatic 721, 3) := dk_184 2 209 (dk_at dksX0_lay_1 1 rfl rfl)
theorem dX0_lay_28 : decode cX0_lay 28 = .ok (.iconst 1, 1) := dk_4 (dk_at dksX0_lay_1 4 rfl rfl)
theorem dX0_lay_29 : decode cX0_lay 29 = .ok (.ireturn, 1) := dk_172 (dk_at dksX0_lay_1 5 rfl rfl)
theorem dX0_lay_30 : decode cX0_lay 30 = .ok (.astore 5, 2) := dk_58 5 (dk_at dksX0_lay_1 6 rfl rfl)
theorem dX0_lay_32 : decode cX0_lay 32 = .ok (.aload_n 0, 1) := dk_42 (dk_at dksX0_lay_1 8 rfl rfl)
theorem dX0_lay_33 : decode cX0_lay 33 = .ok (.iconst 1, 1) := dk_4 (dk_at dksX0_lay_1 9 rfl rfl)
theorem dX0_lay_34 : decode cX0_lay 34 = .ok (.invokevirtual 265, 3) := dk_182 1 9 (dk_at dksX0_lay_1 10 rfl rfl)
theorem dX0_lay_37 : decode cX0_lay 37 = .ok (.ireturn, 1) := dk_172 (dk_at dksX0_lay_1 13 rfl rfl)
theorem dX0_lay_38 : decode cX0_lay 38 = .ok (.astore 5, 2) := dk_58 5 (dk_at dksX0_lay_1 14 rfl rfl)
theorem dX0_lay_40 : decode cX0_lay 40 = .ok (.aload_n 0, 1) := dk_42 (dk_at dksX0_lay_1 16 rfl rfl)
theorem dX0_lay_41 : decode cX0_lay 41 = .ok (.iconst 3, 1) := dk_6 (dk_at dksX0_lay_1 17 rfl rfl)
theorem dX0_lay_42 : decode cX0_lay 42 = .ok (.invokevirtual 265, 3) := dk_182 1 9 (dk_at dksX0_lay_1 18 rfl rfl)
theorem dX0_lay_45 : decode cX0_lay 45 = .ok (.ireturn, 1) := dk_172 (dk_at dksX0_lay_1 21 rfl rfl)
abbrev cX0_write : ByteArray := prog_1_method_134_code
def yX0_write : MethodName := ⟨RX0, "write", "(Ljava/lang/Object;IJ)V"⟩
def dkwX0_write_3 : List UInt8 := [192, 2, 204, 27, 32, 80, 177]
abbrev dktX0_write_3 : List UInt8 := dkwX0_write_3 ++ []
def dkwX0_write_2 : List UInt8 := [193, 2, 203, 153, 0, 18, 42, 192, 2, 203, 58, 6, 25, 6, 27, 32, 136, 79, 167, 0, 10, 42]
abbrev dktX0_write_2 : List UInt8 := dkwX0_write_2 ++ dktX0_write_3
def dkwX0_write_1 : List UInt8 := [193, 2, 201, 153, 0, 19, 42, 192, 2, 201, 58, 5, 25, 5, 27, 32, 136, 147, 86, 167, 0, 32, 42]
abbrev dktX0_write_1 : List UInt8 := dkwX0_write_1 ++ dktX0_write_2
def dkwX0_write_0 : List UInt8 := [42, 193, 2, 199, 153, 0, 19, 42, 192, 2, 199, 58, 4, 25, 4, 27, 32, 136, 145, 84, 167, 0, 55, 42]
abbrev dktX0_write_0 : List UInt8 := dkwX0_write_0 ++ dktX0_write_1
theorem dksX0_write_0 : cX0_write.data.toList.drop 0 = dktX0_write_0 := by decide +kernel
theorem dksX0_write_1 : cX0_write.data.toList.drop 24 = dktX0_write_1 := dk_seg dksX0_write_0 24 rfl rfl
theorem dksX0_write_2 : cX0_write.data.toList.drop 47 = dktX0_write_2 := dk_seg dksX0_write_1 23 rfl rfl
theorem dksX0_write_3 : cX0_write.data.toList.drop 69 = dktX0_write_3 := dk_seg dksX0_write_2 22 rfl rfl
theorem dX0_write_0 : decode cX0_write 0 = .ok (.aload_n 0, 1) := dk_42 (dk_at dksX0_write_0 0 rfl rfl)
theorem dX0_write_1 : decode cX0_write 1 = .ok (.instanceof 711, 3) := dk_193 2 199 (dk_at dksX0_write_0 1 rfl rfl)
theorem dX0_write_4 : decode cX0_write 4 = .ok (.ifCond .eq 19, 3) := dk_153 0 19 (dk_at dksX0_write_0 4 rfl rfl)
theorem dX0_write_7 : decode cX0_write 7 = .ok (.aload_n 0, 1) := dk_42 (dk_at dksX0_write_0 7 rfl rfl)
theorem dX0_write_8 : decode cX0_write 8 = .ok (.checkcast 711, 3) := dk_192 2 199 (dk_at dksX0_write_0 8 rfl rfl)
theorem dX0_write_11 : decode cX0_write 11 = .ok (.astore 4, 2) := dk_58 4 (dk_at dksX0_write_0 11 rfl rfl)
theorem dX0_write_13 : decode cX0_write 13 = .ok (.aload 4, 2) := dk_25 4 (dk_at dksX0_write_0 13 rfl rfl)
theorem dX0_write_15 : decode cX0_write 15 = .ok (.iload_n 1, 1) := dk_27 (dk_at dksX0_write_0 15 rfl rfl)
theorem dX0_write_16 : decode cX0_write 16 = .ok (.lload_n 2, 1) := dk_32 (dk_at dksX0_write_0 16 rfl rfl)
theorem dX0_write_17 : decode cX0_write 17 = .ok (.l2i, 1) := dk_136 (dk_at dksX0_write_0 17 rfl rfl)
theorem dX0_write_18 : decode cX0_write 18 = .ok (.i2b, 1) := dk_145 (dk_at dksX0_write_0 18 rfl rfl)
theorem dX0_write_19 : decode cX0_write 19 = .ok (.bastore, 1) := dk_84 (dk_at dksX0_write_0 19 rfl rfl)
theorem dX0_write_20 : decode cX0_write 20 = .ok (.goto 55, 3) := dk_167 0 55 (dk_at dksX0_write_0 20 rfl rfl)
theorem dX0_write_23 : decode cX0_write 23 = .ok (.aload_n 0, 1) := dk_42 (dk_at dksX0_write_0 23 rfl rfl)
theorem dX0_write_24 : decode cX0_write 24 = .ok (.instanceof 713, 3) := dk_193 2 201 (dk_at dksX0_write_1 0 rfl rfl)
theorem dX0_write_27 : decode cX0_write 27 = .ok (.ifCond .eq 19, 3) := dk_153 0 19 (dk_at dksX0_write_1 3 rfl rfl)
theorem dX0_write_30 : decode cX0_write 30 = .ok (.aload_n 0, 1) := dk_42 (dk_at dksX0_write_1 6 rfl rfl)
theorem dX0_write_31 : decode cX0_write 31 = .ok (.checkcast 713, 3) := dk_192 2 201 (dk_at dksX0_write_1 7 rfl rfl)
theorem dX0_write_34 : decode cX0_write 34 = .ok (.astore 5, 2) := dk_58 5 (dk_at dksX0_write_1 10 rfl rfl)
theorem dX0_write_36 : decode cX0_write 36 = .ok (.aload 5, 2) := dk_25 5 (dk_at dksX0_write_1 12 rfl rfl)
theorem dX0_write_38 : decode cX0_write 38 = .ok (.iload_n 1, 1) := dk_27 (dk_at dksX0_write_1 14 rfl rfl)
theorem dX0_write_39 : decode cX0_write 39 = .ok (.lload_n 2, 1) := dk_32 (dk_at dksX0_write_1 15 rfl rfl)
theorem dX0_write_40 : decode cX0_write 40 = .ok (.l2i, 1) := dk_136 (dk_at dksX0_write_1 16 rfl rfl)
theorem dX0_write_41 : decode cX0_write 41 = .ok (.i2s, 1) := dk_147 (dk_at dksX0_write_1 17 rfl rfl)
theorem dX0_write_42 : decode cX0_write 42 = .ok (.sastore, 1) := dk_86 (dk_at dksX0_write_1 18 rfl rfl)
theorem dX0_write_43 : decode cX0_write 43 = .ok (.goto 32, 3) := dk_167 0 32 (dk_at dksX0_write_1 19 rfl rfl)
theorem dX0_write_46 : decode cX0_write 46 = .ok (.aload_n 0, 1) := dk_42 (dk_at dksX0_write_1 22 rfl rfl)
theorem dX0_write_47 : decode cX0_write 47 = .ok (.instanceof 715, 3) := dk_193 2 203 (dk_at dksX0_write_2 0 rfl rfl)
theorem dX0_write_50 : decode cX0_write 50 = .ok (.ifCond .eq 18, 3) := dk_153 0 18 (dk_at dksX0_write_2 3 rfl rfl)
theorem dX0_write_53 : decode cX0_write 53 = .ok (.aload_n 0, 1) := dk_42 (dk_at dksX0_write_2 6 rfl rfl)
theorem dX0_write_54 : decode cX0_write 54 = .ok (.checkcast 715, 3) := dk_192 2 203 (dk_at dksX0_write_2 7 rfl rfl)
theorem dX0_write_57 : decode cX0_write 57 = .ok (.astore 6, 2) := dk_58 6 (dk_at dksX0_write_2 10 rfl rfl)
theorem dX0_write_59 : decode cX0_write 59 = .ok (.aload 6, 2) := dk_25 6 (dk_at dksX0_write_2 12 rfl rfl)
theorem dX0_write_61 : decode cX0_write 61 = .ok (.iload_n 1, 1) := dk_27 (dk_at dksX0_write_2 14 rfl rfl)
theorem dX0_write_62 : decode cX0_write 62 = .ok (.lload_n 2, 1) := dk_32 (dk_at dksX0_write_2 15 rfl rfl)
theorem dX0_write_63 : decode cX0_write 63 = .ok (.l2i, 1) := dk_136 (dk_at dksX0_write_2 16 rfl rfl)
theorem dX0_write_64 : decode cX0_write 64 = .ok (.iastore, 1) := dk_79 (dk_at dksX0_write_2 17 rfl rfl)
theorem dX0_write_65 : decode cX0_write 65 = .ok (.goto 10, 3) := dk_167 0 10 (dk_at dksX0_write_2 18 rfl rfl)
theorem dX0_write_68 : decode cX0_write 68 = .ok (.aload_n 0, 1) := dk_42 (dk_at dksX0_write_2 21 rfl rfl)
theorem dX0_write_69 : decode cX0_write 69 = .ok (.checkcast 716, 3) := dk_192 2 204 (dk_at dksX0_write_3 0 rfl rfl)
theorem dX0_write_72 : decode cX0_write 72 = .ok (.iload_n 1, 1) := dk_27 (dk_at dksX0_write_3 3 rfl rfl)
theorem dX0_write_73 : decode cX0_write 73 = .ok (.lload_n 2, 1) := dk_32 (dk_at dksX0_write_3 4 rfl rfl)
theorem dX0_write_74 : decode cX0_write 74 = .ok (.lastore, 1) := dk_80 (dk_at dksX0_write_3 5 rfl rfl)
theorem dX0_write_75 : decode cX0_write 75 = .ok (.return_, 1) := dk_177 (dk_at dksX0_write_3 6 rfl rfl)
abbrev cX0_cell : ByteArray := prog_1_method_139_code
def yX0_cell : MethodName := ⟨RX0, "cell", "(III)J"⟩
def dkwX0_cell_2 : List UInt8 := [173, 58, 4, 42, 4, 182, 2, 213, 173, 58, 4, 42, 6, 182, 2, 213, 173]
abbrev dktX0_cell_2 : List UInt8 := dkwX0_cell_2 ++ []
def dkwX0_cell_1 : List UInt8 := [180, 0, 112, 27, 50, 180, 0, 247, 29, 184, 0, 253, 28, 184, 0, 237, 173, 58, 4, 42, 5, 182, 2, 213]
abbrev dktX0_cell_1 : List UInt8 := dkwX0_cell_1 ++ dktX0_cell_2
def dkwX0_cell_0 : List UInt8 := [42, 3, 181, 0, 115, 27, 184, 0, 241, 153, 0, 10, 29, 184, 0, 244, 154, 0, 7, 20, 0, 118, 173, 42]
abbrev dktX0_cell_0 : List UInt8 := dkwX0_cell_0 ++ dktX0_cell_1
theorem dksX0_cell_0 : cX0_cell.data.toList.drop 0 = dktX0_cell_0 := by decide +kernel
theorem dksX0_cell_1 : cX0_cell.data.toList.drop 24 = dktX0_cell_1 := dk_seg dksX0_cell_0 24 rfl rfl
theorem dksX0_cell_2 : cX0_cell.data.toList.drop 48 = dktX0_cell_2 := dk_seg dksX0_cell_1 24 rfl rfl
theorem dX0_cell_0 : decode cX0_cell 0 = .ok (.aload_n 0, 1) := dk_42 (dk_at dksX0_cell_0 0 rfl rfl)
theorem dX0_cell_1 : decode cX0_cell 1 = .ok (.iconst 0, 1) := dk_3 (dk_at dksX0_cell_0 1 rfl rfl)
theorem dX0_cell_2 : decode cX0_cell 2 = .ok (.putfield 115, 3) := dk_181 0 115 (dk_at dksX0_cell_0 2 rfl rfl)
theorem dX0_cell_5 : decode cX0_cell 5 = .ok (.iload_n 1, 1) := dk_27 (dk_at dksX0_cell_0 5 rfl rfl)
theorem dX0_cell_6 : decode cX0_cell 6 = .ok (.invokestatic 241, 3) := dk_184 0 241 (dk_at dksX0_cell_0 6 rfl rfl)
theorem dX0_cell_9 : decode cX0_cell 9 = .ok (.ifCond .eq 10, 3) := dk_153 0 10 (dk_at dksX0_cell_0 9 rfl rfl)
theorem dX0_cell_12 : decode cX0_cell 12 = .ok (.iload_n 3, 1) := dk_29 (dk_at dksX0_cell_0 12 rfl rfl)
theorem dX0_cell_13 : decode cX0_cell 13 = .ok (.invokestatic 244, 3) := dk_184 0 244 (dk_at dksX0_cell_0 13 rfl rfl)
theorem dX0_cell_16 : decode cX0_cell 16 = .ok (.ifCond .ne 7, 3) := dk_154 0 7 (dk_at dksX0_cell_0 16 rfl rfl)
theorem dX0_cell_19 : decode cX0_cell 19 = .ok (.ldc2_w 118, 3) := dk_20 0 118 (dk_at dksX0_cell_0 19 rfl rfl)
theorem dX0_cell_22 : decode cX0_cell 22 = .ok (.lreturn, 1) := dk_173 (dk_at dksX0_cell_0 22 rfl rfl)
theorem dX0_cell_23 : decode cX0_cell 23 = .ok (.aload_n 0, 1) := dk_42 (dk_at dksX0_cell_0 23 rfl rfl)
theorem dX0_cell_24 : decode cX0_cell 24 = .ok (.getfield 112, 3) := dk_180 0 112 (dk_at dksX0_cell_1 0 rfl rfl)
theorem dX0_cell_27 : decode cX0_cell 27 = .ok (.iload_n 1, 1) := dk_27 (dk_at dksX0_cell_1 3 rfl rfl)
theorem dX0_cell_28 : decode cX0_cell 28 = .ok (.aaload, 1) := dk_50 (dk_at dksX0_cell_1 4 rfl rfl)
theorem dX0_cell_29 : decode cX0_cell 29 = .ok (.getfield 247, 3) := dk_180 0 247 (dk_at dksX0_cell_1 5 rfl rfl)
theorem dX0_cell_32 : decode cX0_cell 32 = .ok (.iload_n 3, 1) := dk_29 (dk_at dksX0_cell_1 8 rfl rfl)
theorem dX0_cell_33 : decode cX0_cell 33 = .ok (.invokestatic 253, 3) := dk_184 0 253 (dk_at dksX0_cell_1 9 rfl rfl)
theorem dX0_cell_36 : decode cX0_cell 36 = .ok (.iload_n 2, 1) := dk_28 (dk_at dksX0_cell_1 12 rfl rfl)
theorem dX0_cell_37 : decode cX0_cell 37 = .ok (.invokestatic 237, 3) := dk_184 0 237 (dk_at dksX0_cell_1 13 rfl rfl)
theorem dX0_cell_40 : decode cX0_cell 40 = .ok (.lreturn, 1) := dk_173 (dk_at dksX0_cell_1 16 rfl rfl)
theorem dX0_cell_41 : decode cX0_cell 41 = .ok (.astore 4, 2) := dk_58 4 (dk_at dksX0_cell_1 17 rfl rfl)
theorem dX0_cell_43 : decode cX0_cell 43 = .ok (.aload_n 0, 1) := dk_42 (dk_at dksX0_cell_1 19 rfl rfl)
theorem dX0_cell_44 : decode cX0_cell 44 = .ok (.iconst 2, 1) := dk_5 (dk_at dksX0_cell_1 20 rfl rfl)
theorem dX0_cell_45 : decode cX0_cell 45 = .ok (.invokevirtual 725, 3) := dk_182 2 213 (dk_at dksX0_cell_1 21 rfl rfl)
theorem dX0_cell_48 : decode cX0_cell 48 = .ok (.lreturn, 1) := dk_173 (dk_at dksX0_cell_2 0 rfl rfl)
theorem dX0_cell_49 : decode cX0_cell 49 = .ok (.astore 4, 2) := dk_58 4 (dk_at dksX0_cell_2 1 rfl rfl)
theorem dX0_cell_51 : decode cX0_cell 51 = .ok (.aload_n 0, 1) := dk_42 (dk_at dksX0_cell_2 3 rfl rfl)
theorem dX0_cell_52 : decode cX0_cell 52 = .ok (.iconst 1, 1) := dk_4 (dk_at dksX0_cell_2 4 rfl rfl)
theorem dX0_cell_53 : decode cX0_cell 53 = .ok (.invokevirtual 725, 3) := dk_182 2 213 (dk_at dksX0_cell_2 5 rfl rfl)
theorem dX0_cell_56 : decode cX0_cell 56 = .ok (.lreturn, 1) := dk_173 (dk_at dksX0_cell_2 8 rfl rfl)
theorem dX0_cell_57 : decode cX0_cell 57 = .ok (.astore 4, 2) := dk_58 4 (dk_at dksX0_cell_2 9 rfl rfl)
theorem dX0_cell_59 : decode cX0_cell 59 = .ok (.aload_n 0, 1) := dk_42 (dk_at dksX0_cell_2 11 rfl rfl)
theorem dX0_cell_60 : decode cX0_cell 60 = .ok (.iconst 3, 1) := dk_6 (dk_at dksX0_cell_2 12 rfl rfl)
theorem dX0_cell_61 : decode cX0_cell 61 = .ok (.invokevirtual 725, 3) := dk_182 2 213 (dk_at dksX0_cell_2 13 rfl rfl)
theorem dX0_cell_64 : decode cX0_cell 64 = .ok (.lreturn, 1) := dk_173 (dk_at dksX0_cell_2 16 rfl rfl)
abbrev cX0_lost : ByteArray := prog_1_method_4_code
def yX0_lost : MethodName := ⟨RX0, "lost", "(I)J"⟩
def dkwX0_lost_0 : List UInt8 := [42, 27, 181, 0, 115, 20, 0, 118, 173]
abbrev dktX0_lost_0 : List UInt8 := dkwX0_lost_0 ++ []
theorem dksX0_lost_0 : cX0_lost.data.toList.drop 0 = dktX0_lost_0 := by decide +kernel
theorem dX0_lost_0 : decode cX0_lost 0 = .ok (.aload_n 0, 1) := dk_42 (dk_at dksX0_lost_0 0 rfl rfl)
theorem dX0_lost_1 : decode cX0_lost 1 = .ok (.iload_n 1, 1) := dk_27 (dk_at dksX0_lost_0 1 rfl rfl)
theorem dX0_lost_2 : decode cX0_lost 2 = .ok (.putfield 115, 3) := dk_181 0 115 (dk_at dksX0_lost_0 2 rfl rfl)
theorem dX0_lost_5 : decode cX0_lost 5 = .ok (.ldc2_w 118, 3) := dk_20 0 118 (dk_at dksX0_lost_0 5 rfl rfl)
theorem dX0_lost_8 : decode cX0_lost 8 = .ok (.lreturn, 1) := dk_173 (dk_at dksX0_lost_0 8 rfl rfl)
abbrev cX0_copy : ByteArray := prog_1_method_140_code
def yX0_copy : MethodName := ⟨RX0, "copy", "(IIIII)I"⟩
def dkwX0_copy_3 : List UInt8 := [42, 6, 182, 1, 9, 172]
abbrev dktX0_copy_3 : List UInt8 := dkwX0_copy_3 ++ []
def dkwX0_copy_2 : List UInt8 := [184, 1, 219, 21, 5, 172, 58, 6, 42, 4, 182, 1, 9, 172, 58, 6, 42, 5, 182, 1, 9, 172, 58, 6]
abbrev dktX0_copy_2 : List UInt8 := dkwX0_copy_2 ++ dktX0_copy_3
def dkwX0_copy_1 : List UInt8 := [180, 0, 112, 27, 50, 180, 0, 247, 28, 42, 180, 0, 112, 29, 50, 180, 0, 247, 21, 4, 21, 5]
abbrev dktX0_copy_1 : List UInt8 := dkwX0_copy_1 ++ dktX0_copy_2
def dkwX0_copy_0 : List UInt8 := [42, 3, 181, 0, 115, 27, 184, 0, 241, 153, 0, 10, 29, 184, 0, 241, 154, 0, 5, 2, 172, 42]
abbrev dktX0_copy_0 : List UInt8 := dkwX0_copy_0 ++ dktX0_copy_1
theorem dksX0_copy_0 : cX0_copy.data.toList.drop 0 = dktX0_copy_0 := by decide +kernel
theorem dksX0_copy_1 : cX0_copy.data.toList.drop 22 = dktX0_copy_1 := dk_seg dksX0_copy_0 22 rfl rfl
theorem dksX0_copy_2 : cX0_copy.data.toList.drop 44 = dktX0_copy_2 := dk_seg dksX0_copy_1 22 rfl rfl
theorem dksX0_copy_3 : cX0_copy.data.toList.drop 68 = dktX0_copy_3 := dk_seg dksX0_copy_2 24 rfl rfl
theorem dX0_copy_0 : decode cX0_copy 0 = .ok (.aload_n 0, 1) := dk_42 (dk_at dksX0_copy_0 0 rfl rfl)
theorem dX0_copy_1 : decode cX0_copy 1 = .ok (.iconst 0, 1) := dk_3 (dk_at dksX0_copy_0 1 rfl rfl)
theorem dX0_copy_2 : decode cX0_copy 2 = .ok (.putfield 115, 3) := dk_181 0 115 (dk_at dksX0_copy_0 2 rfl rfl)
theorem dX0_copy_5 : decode cX0_copy 5 = .ok (.iload_n 1, 1) := dk_27 (dk_at dksX0_copy_0 5 rfl rfl)
theorem dX0_copy_6 : decode cX0_copy 6 = .ok (.invokestatic 241, 3) := dk_184 0 241 (dk_at dksX0_copy_0 6 rfl rfl)
theorem dX0_copy_9 : decode cX0_copy 9 = .ok (.ifCond .eq 10, 3) := dk_153 0 10 (dk_at dksX0_copy_0 9 rfl rfl)
theorem dX0_copy_12 : decode cX0_copy 12 = .ok (.iload_n 3, 1) := dk_29 (dk_at dksX0_copy_0 12 rfl rfl)
theorem dX0_copy_13 : decode cX0_copy 13 = .ok (.invokestatic 241, 3) := dk_184 0 241 (dk_at dksX0_copy_0 13 rfl rfl)
theorem dX0_copy_16 : decode cX0_copy 16 = .ok (.ifCond .ne 5, 3) := dk_154 0 5 (dk_at dksX0_copy_0 16 rfl rfl)
theorem dX0_copy_19 : decode cX0_copy 19 = .ok (.iconst (-1), 1) := dk_2 (dk_at dksX0_copy_0 19 rfl rfl)
theorem dX0_copy_20 : decode cX0_copy 20 = .ok (.ireturn, 1) := dk_172 (dk_at dksX0_copy_0 20 rfl rfl)
theorem dX0_copy_21 : decode cX0_copy 21 = .ok (.aload_n 0, 1) := dk_42 (dk_at dksX0_copy_0 21 rfl rfl)
theorem dX0_copy_22 : decode cX0_copy 22 = .ok (.getfield 112, 3) := dk_180 0 112 (dk_at dksX0_copy_1 0 rfl rfl)
theorem dX0_copy_25 : decode cX0_copy 25 = .ok (.iload_n 1, 1) := dk_27 (dk_at dksX0_copy_1 3 rfl rfl)
theorem dX0_copy_26 : decode cX0_copy 26 = .ok (.aaload, 1) := dk_50 (dk_at dksX0_copy_1 4 rfl rfl)
theorem dX0_copy_27 : decode cX0_copy 27 = .ok (.getfield 247, 3) := dk_180 0 247 (dk_at dksX0_copy_1 5 rfl rfl)
theorem dX0_copy_30 : decode cX0_copy 30 = .ok (.iload_n 2, 1) := dk_28 (dk_at dksX0_copy_1 8 rfl rfl)
theorem dX0_copy_31 : decode cX0_copy 31 = .ok (.aload_n 0, 1) := dk_42 (dk_at dksX0_copy_1 9 rfl rfl)
theorem dX0_copy_32 : decode cX0_copy 32 = .ok (.getfield 112, 3) := dk_180 0 112 (dk_at dksX0_copy_1 10 rfl rfl)
theorem dX0_copy_35 : decode cX0_copy 35 = .ok (.iload_n 3, 1) := dk_29 (dk_at dksX0_copy_1 13 rfl rfl)
theorem dX0_copy_36 : decode cX0_copy 36 = .ok (.aaload, 1) := dk_50 (dk_at dksX0_copy_1 14 rfl rfl)
theorem dX0_copy_37 : decode cX0_copy 37 = .ok (.getfield 247, 3) := dk_180 0 247 (dk_at dksX0_copy_1 15 rfl rfl)
theorem dX0_copy_40 : decode cX0_copy 40 = .ok (.iload 4, 2) := dk_21 4 (dk_at dksX0_copy_1 18 rfl rfl)
theorem dX0_copy_42 : decode cX0_copy 42 = .ok (.iload 5, 2) := dk_21 5 (dk_at dksX0_copy_1 20 rfl rfl)
theorem dX0_copy_44 : decode cX0_copy 44 = .ok (.invokestatic 475, 3) := dk_184 1 219 (dk_at dksX0_copy_2 0 rfl rfl)
theorem dX0_copy_47 : decode cX0_copy 47 = .ok (.iload 5, 2) := dk_21 5 (dk_at dksX0_copy_2 3 rfl rfl)
theorem dX0_copy_49 : decode cX0_copy 49 = .ok (.ireturn, 1) := dk_172 (dk_at dksX0_copy_2 5 rfl rfl)
theorem dX0_copy_50 : decode cX0_copy 50 = .ok (.astore 6, 2) := dk_58 6 (dk_at dksX0_copy_2 6 rfl rfl)
theorem dX0_copy_52 : decode cX0_copy 52 = .ok (.aload_n 0, 1) := dk_42 (dk_at dksX0_copy_2 8 rfl rfl)
theorem dX0_copy_53 : decode cX0_copy 53 = .ok (.iconst 1, 1) := dk_4 (dk_at dksX0_copy_2 9 rfl rfl)
theorem dX0_copy_54 : decode cX0_copy 54 = .ok (.invokevirtual 265, 3) := dk_182 1 9 (dk_at dksX0_copy_2 10 rfl rfl)
theorem dX0_copy_57 : decode cX0_copy 57 = .ok (.ireturn, 1) := dk_172 (dk_at dksX0_copy_2 13 rfl rfl)
theorem dX0_copy_58 : decode cX0_copy 58 = .ok (.astore 6, 2) := dk_58 6 (dk_at dksX0_copy_2 14 rfl rfl)
theorem dX0_copy_60 : decode cX0_copy 60 = .ok (.aload_n 0, 1) := dk_42 (dk_at dksX0_copy_2 16 rfl rfl)
theorem dX0_copy_61 : decode cX0_copy 61 = .ok (.iconst 2, 1) := dk_5 (dk_at dksX0_copy_2 17 rfl rfl)
theorem dX0_copy_62 : decode cX0_copy 62 = .ok (.invokevirtual 265, 3) := dk_182 1 9 (dk_at dksX0_copy_2 18 rfl rfl)
theorem dX0_copy_65 : decode cX0_copy 65 = .ok (.ireturn, 1) := dk_172 (dk_at dksX0_copy_2 21 rfl rfl)
theorem dX0_copy_66 : decode cX0_copy 66 = .ok (.astore 6, 2) := dk_58 6 (dk_at dksX0_copy_2 22 rfl rfl)
theorem dX0_copy_68 : decode cX0_copy 68 = .ok (.aload_n 0, 1) := dk_42 (dk_at dksX0_copy_3 0 rfl rfl)
theorem dX0_copy_69 : decode cX0_copy 69 = .ok (.iconst 3, 1) := dk_6 (dk_at dksX0_copy_3 1 rfl rfl)
theorem dX0_copy_70 : decode cX0_copy 70 = .ok (.invokevirtual 265, 3) := dk_182 1 9 (dk_at dksX0_copy_3 2 rfl rfl)
theorem dX0_copy_73 : decode cX0_copy 73 = .ok (.ireturn, 1) := dk_172 (dk_at dksX0_copy_3 5 rfl rfl)
abbrev cX0_trace : ByteArray := prog_1_method_141_code
def yX0_trace : MethodName := ⟨RX0, "trace", "()I"⟩
theorem dX0_trace_0 : decode cX0_trace 0 = .ok (.aload_n 0, 1) := by decide +kernel
theorem dX0_trace_1 : decode cX0_trace 1 = .ok (.getfield 120, 3) := by decide +kernel
theorem dX0_trace_4 : decode cX0_trace 4 = .ok (.ireturn, 1) := by decide +kernel
abbrev cX0_fault : ByteArray := prog_1_method_142_code
def yX0_fault : MethodName := ⟨RX0, "fault", "()I"⟩
theorem dX0_fault_0 : decode cX0_fault 0 = .ok (.aload_n 0, 1) := by decide +kernel
theorem dX0_fault_1 : decode cX0_fault 1 = .ok (.getfield 115, 3) := by decide +kernel
theorem dX0_fault_4 : decode cX0_fault 4 = .ok (.ireturn, 1) := by decide +kernel
abbrev cX0_many : ByteArray := prog_1_method_144_code
def yX0_many : MethodName := ⟨RX0, "many", "(I)I"⟩
def dkwX0_many_10 : List UInt8 := [16, 254, 172]
abbrev dktX0_many_10 : List UInt8 := dkwX0_many_10 ++ []
def dkwX0_many_9 : List UInt8 := [96, 61, 132, 3, 1, 167, 255, 227, 28, 172, 42, 180, 0, 207, 153, 0, 7, 4, 167, 0, 4, 3, 172]
abbrev dktX0_many_9 : List UInt8 := dkwX0_many_9 ++ dktX0_many_10
def dkwX0_many_8 : List UInt8 := [29, 16, 8, 162, 0, 29, 28, 42, 180, 0, 108, 29, 50, 180, 0, 247, 199, 0, 7, 3, 167, 0, 4, 4]
abbrev dktX0_many_8 : List UInt8 := dkwX0_many_8 ++ dktX0_many_9
def dkwX0_many_7 : List UInt8 := [29, 46, 16, 247, 160, 0, 7, 3, 167, 0, 4, 4, 96, 61, 132, 3, 1, 167, 255, 221, 28, 172, 3, 62]
abbrev dktX0_many_7 : List UInt8 := dkwX0_many_7 ++ dktX0_many_8
def dkwX0_many_6 : List UInt8 := [182, 2, 220, 172, 3, 62, 29, 42, 180, 0, 25, 185, 0, 180, 1, 0, 162, 0, 28, 28, 42, 180, 0, 69]
abbrev dktX0_many_6 : List UInt8 := dkwX0_many_6 ++ dktX0_many_7
def dkwX0_many_5 : List UInt8 := [61, 132, 3, 1, 167, 255, 213, 28, 172, 42, 180, 0, 204, 172, 42, 4, 182, 2, 220, 172, 42, 3]
abbrev dktX0_many_5 : List UInt8 := dkwX0_many_5 ++ dktX0_many_6
def dkwX0_many_4 : List UInt8 := [180, 0, 29, 29, 185, 0, 186, 2, 0, 192, 0, 214, 180, 1, 46, 153, 0, 7, 4, 167, 0, 4, 3, 96]
abbrev dktX0_many_4 : List UInt8 := dkwX0_many_4 ++ dktX0_many_5
def dkwX0_many_3 : List UInt8 := [185, 0, 180, 1, 0, 172, 3, 62, 29, 42, 180, 0, 29, 185, 0, 180, 1, 0, 162, 0, 36, 28, 42]
abbrev dktX0_many_3 : List UInt8 := dkwX0_many_3 ++ dktX0_many_4
def dkwX0_many_2 : List UInt8 := [42, 182, 0, 158, 184, 1, 4, 172, 42, 180, 0, 25, 185, 0, 180, 1, 0, 172, 42, 180, 0, 29]
abbrev dktX0_many_2 : List UInt8 := dkwX0_many_2 ++ dktX0_many_3
def dkwX0_many_1 : List UInt8 := [170, 0, 0, 0, 239, 0, 0, 0, 0, 0, 0, 0, 9, 0, 0, 0, 53, 0, 0, 0, 61, 0, 0, 0, 71, 0, 0, 0, 81, 0, 0, 0, 131, 0, 0, 0, 136, 0, 0, 0, 142, 0, 0, 0, 148, 0, 0, 0, 190, 0, 0, 0, 226]
abbrev dktX0_many_1 : List UInt8 := dkwX0_many_1 ++ dktX0_many_2
def dkwX0_many_0 : List UInt8 := [3, 61, 27]
abbrev dktX0_many_0 : List UInt8 := dkwX0_many_0 ++ dktX0_many_1
theorem dksX0_many_0 : cX0_many.data.toList.drop 0 = dktX0_many_0 := by decide +kernel
theorem dksX0_many_1 : cX0_many.data.toList.drop 3 = dktX0_many_1 := dk_seg dksX0_many_0 3 rfl rfl
theorem dksX0_many_2 : cX0_many.data.toList.drop 56 = dktX0_many_2 := dk_seg dksX0_many_1 53 rfl rfl
theorem dksX0_many_3 : cX0_many.data.toList.drop 78 = dktX0_many_3 := dk_seg dksX0_many_2 22 rfl rfl
theorem dksX0_many_4 : cX0_many.data.toList.drop 101 = dktX0_many_4 := dk_seg dksX0_many_3 23 rfl rfl
theorem dksX0_many_5 : cX0_many.data.toList.drop 125 = dktX0_many_5 := dk_seg dksX0_many_4 24 rfl rfl
theorem dksX0_many_6 : cX0_many.data.toList.drop 147 = dktX0_many_6 := dk_seg dksX0_many_5 22 rfl rfl
theorem dksX0_many_7 : cX0_many.data.toList.drop 171 = dktX0_many_7 := dk_seg dksX0_many_6 24 rfl rfl
theorem dksX0_many_8 : cX0_many.data.toList.drop 195 = dktX0_many_8 := dk_seg dksX0_many_7 24 rfl rfl
theorem dksX0_many_9 : cX0_many.data.toList.drop 219 = dktX0_many_9 := dk_seg dksX0_many_8 24 rfl rfl
theorem dksX0_many_10 : cX0_many.data.toList.drop 242 = dktX0_many_10 := dk_seg dksX0_many_9 23 rfl rfl
theorem dX0_many_0 : decode cX0_many 0 = .ok (.iconst 0, 1) := dk_3 (dk_at dksX0_many_0 0 rfl rfl)
theorem dX0_many_1 : decode cX0_many 1 = .ok (.istore_n 2, 1) := dk_61 (dk_at dksX0_many_0 1 rfl rfl)
theorem dX0_many_2 : decode cX0_many 2 = .ok (.iload_n 1, 1) := dk_27 (dk_at dksX0_many_0 2 rfl rfl)
theorem dX0_many_3 : decode cX0_many 3 = .ok (.tableswitch 239 0 9 #[53, 61, 71, 81, 131, 136, 142, 148, 190, 226], 53) := by decide +kernel
theorem dX0_many_56 : decode cX0_many 56 = .ok (.aload_n 0, 1) := dk_42 (dk_at dksX0_many_2 0 rfl rfl)
theorem dX0_many_57 : decode cX0_many 57 = .ok (.invokevirtual 158, 3) := dk_182 0 158 (dk_at dksX0_many_2 1 rfl rfl)
theorem dX0_many_60 : decode cX0_many 60 = .ok (.invokestatic 260, 3) := dk_184 1 4 (dk_at dksX0_many_2 4 rfl rfl)
theorem dX0_many_63 : decode cX0_many 63 = .ok (.ireturn, 1) := dk_172 (dk_at dksX0_many_2 7 rfl rfl)
theorem dX0_many_64 : decode cX0_many 64 = .ok (.aload_n 0, 1) := dk_42 (dk_at dksX0_many_2 8 rfl rfl)
theorem dX0_many_65 : decode cX0_many 65 = .ok (.getfield 25, 3) := dk_180 0 25 (dk_at dksX0_many_2 9 rfl rfl)
theorem dX0_many_68 : decode cX0_many 68 = .ok (.invokeinterface 180 1, 5) := by decide +kernel
theorem dX0_many_73 : decode cX0_many 73 = .ok (.ireturn, 1) := dk_172 (dk_at dksX0_many_2 17 rfl rfl)
theorem dX0_many_74 : decode cX0_many 74 = .ok (.aload_n 0, 1) := dk_42 (dk_at dksX0_many_2 18 rfl rfl)
theorem dX0_many_75 : decode cX0_many 75 = .ok (.getfield 29, 3) := dk_180 0 29 (dk_at dksX0_many_2 19 rfl rfl)
theorem dX0_many_78 : decode cX0_many 78 = .ok (.invokeinterface 180 1, 5) := by decide +kernel
theorem dX0_many_83 : decode cX0_many 83 = .ok (.ireturn, 1) := dk_172 (dk_at dksX0_many_3 5 rfl rfl)
theorem dX0_many_84 : decode cX0_many 84 = .ok (.iconst 0, 1) := dk_3 (dk_at dksX0_many_3 6 rfl rfl)
theorem dX0_many_85 : decode cX0_many 85 = .ok (.istore_n 3, 1) := dk_62 (dk_at dksX0_many_3 7 rfl rfl)
theorem dX0_many_86 : decode cX0_many 86 = .ok (.iload_n 3, 1) := dk_29 (dk_at dksX0_many_3 8 rfl rfl)
theorem dX0_many_87 : decode cX0_many 87 = .ok (.aload_n 0, 1) := dk_42 (dk_at dksX0_many_3 9 rfl rfl)
theorem dX0_many_88 : decode cX0_many 88 = .ok (.getfield 29, 3) := dk_180 0 29 (dk_at dksX0_many_3 10 rfl rfl)
theorem dX0_many_91 : decode cX0_many 91 = .ok (.invokeinterface 180 1, 5) := by decide +kernel
theorem dX0_many_96 : decode cX0_many 96 = .ok (.if_icmp .ge 36, 3) := dk_162 0 36 (dk_at dksX0_many_3 18 rfl rfl)
theorem dX0_many_99 : decode cX0_many 99 = .ok (.iload_n 2, 1) := dk_28 (dk_at dksX0_many_3 21 rfl rfl)
theorem dX0_many_100 : decode cX0_many 100 = .ok (.aload_n 0, 1) := dk_42 (dk_at dksX0_many_3 22 rfl rfl)
theorem dX0_many_101 : decode cX0_many 101 = .ok (.getfield 29, 3) := dk_180 0 29 (dk_at dksX0_many_4 0 rfl rfl)
theorem dX0_many_104 : decode cX0_many 104 = .ok (.iload_n 3, 1) := dk_29 (dk_at dksX0_many_4 3 rfl rfl)
theorem dX0_many_105 : decode cX0_many 105 = .ok (.invokeinterface 186 2, 5) := by decide +kernel
theorem dX0_many_110 : decode cX0_many 110 = .ok (.checkcast 214, 3) := dk_192 0 214 (dk_at dksX0_many_4 9 rfl rfl)
theorem dX0_many_113 : decode cX0_many 113 = .ok (.getfield 302, 3) := dk_180 1 46 (dk_at dksX0_many_4 12 rfl rfl)
theorem dX0_many_116 : decode cX0_many 116 = .ok (.ifCond .eq 7, 3) := dk_153 0 7 (dk_at dksX0_many_4 15 rfl rfl)
theorem dX0_many_119 : decode cX0_many 119 = .ok (.iconst 1, 1) := dk_4 (dk_at dksX0_many_4 18 rfl rfl)
theorem dX0_many_120 : decode cX0_many 120 = .ok (.goto 4, 3) := dk_167 0 4 (dk_at dksX0_many_4 19 rfl rfl)
theorem dX0_many_123 : decode cX0_many 123 = .ok (.iconst 0, 1) := dk_3 (dk_at dksX0_many_4 22 rfl rfl)
theorem dX0_many_124 : decode cX0_many 124 = .ok (.iadd, 1) := dk_96 (dk_at dksX0_many_4 23 rfl rfl)
theorem dX0_many_125 : decode cX0_many 125 = .ok (.istore_n 2, 1) := dk_61 (dk_at dksX0_many_5 0 rfl rfl)
theorem dX0_many_126 : decode cX0_many 126 = .ok (.iinc 3 1, 3) := dk_132 3 1 (dk_at dksX0_many_5 1 rfl rfl)
theorem dX0_many_129 : decode cX0_many 129 = .ok (.goto (-43), 3) := dk_167 255 213 (dk_at dksX0_many_5 4 rfl rfl)
theorem dX0_many_132 : decode cX0_many 132 = .ok (.iload_n 2, 1) := dk_28 (dk_at dksX0_many_5 7 rfl rfl)
theorem dX0_many_133 : decode cX0_many 133 = .ok (.ireturn, 1) := dk_172 (dk_at dksX0_many_5 8 rfl rfl)
theorem dX0_many_134 : decode cX0_many 134 = .ok (.aload_n 0, 1) := dk_42 (dk_at dksX0_many_5 9 rfl rfl)
theorem dX0_many_135 : decode cX0_many 135 = .ok (.getfield 204, 3) := dk_180 0 204 (dk_at dksX0_many_5 10 rfl rfl)
theorem dX0_many_138 : decode cX0_many 138 = .ok (.ireturn, 1) := dk_172 (dk_at dksX0_many_5 13 rfl rfl)
theorem dX0_many_139 : decode cX0_many 139 = .ok (.aload_n 0, 1) := dk_42 (dk_at dksX0_many_5 14 rfl rfl)
theorem dX0_many_140 : decode cX0_many 140 = .ok (.iconst 1, 1) := dk_4 (dk_at dksX0_many_5 15 rfl rfl)
theorem dX0_many_141 : decode cX0_many 141 = .ok (.invokevirtual 732, 3) := dk_182 2 220 (dk_at dksX0_many_5 16 rfl rfl)
theorem dX0_many_144 : decode cX0_many 144 = .ok (.ireturn, 1) := dk_172 (dk_at dksX0_many_5 19 rfl rfl)
theorem dX0_many_145 : decode cX0_many 145 = .ok (.aload_n 0, 1) := dk_42 (dk_at dksX0_many_5 20 rfl rfl)
theorem dX0_many_146 : decode cX0_many 146 = .ok (.iconst 0, 1) := dk_3 (dk_at dksX0_many_5 21 rfl rfl)
theorem dX0_many_147 : decode cX0_many 147 = .ok (.invokevirtual 732, 3) := dk_182 2 220 (dk_at dksX0_many_6 0 rfl rfl)
theorem dX0_many_150 : decode cX0_many 150 = .ok (.ireturn, 1) := dk_172 (dk_at dksX0_many_6 3 rfl rfl)
theorem dX0_many_151 : decode cX0_many 151 = .ok (.iconst 0, 1) := dk_3 (dk_at dksX0_many_6 4 rfl rfl)
theorem dX0_many_152 : decode cX0_many 152 = .ok (.istore_n 3, 1) := dk_62 (dk_at dksX0_many_6 5 rfl rfl)
theorem dX0_many_153 : decode cX0_many 153 = .ok (.iload_n 3, 1) := dk_29 (dk_at dksX0_many_6 6 rfl rfl)
theorem dX0_many_154 : decode cX0_many 154 = .ok (.aload_n 0, 1) := dk_42 (dk_at dksX0_many_6 7 rfl rfl)
theorem dX0_many_155 : decode cX0_many 155 = .ok (.getfield 25, 3) := dk_180 0 25 (dk_at dksX0_many_6 8 rfl rfl)
theorem dX0_many_158 : decode cX0_many 158 = .ok (.invokeinterface 180 1, 5) := by decide +kernel
theorem dX0_many_163 : decode cX0_many 163 = .ok (.if_icmp .ge 28, 3) := dk_162 0 28 (dk_at dksX0_many_6 16 rfl rfl)
theorem dX0_many_166 : decode cX0_many 166 = .ok (.iload_n 2, 1) := dk_28 (dk_at dksX0_many_6 19 rfl rfl)
theorem dX0_many_167 : decode cX0_many 167 = .ok (.aload_n 0, 1) := dk_42 (dk_at dksX0_many_6 20 rfl rfl)
theorem dX0_many_168 : decode cX0_many 168 = .ok (.getfield 69, 3) := dk_180 0 69 (dk_at dksX0_many_6 21 rfl rfl)
theorem dX0_many_171 : decode cX0_many 171 = .ok (.iload_n 3, 1) := dk_29 (dk_at dksX0_many_7 0 rfl rfl)
theorem dX0_many_172 : decode cX0_many 172 = .ok (.iaload, 1) := dk_46 (dk_at dksX0_many_7 1 rfl rfl)
theorem dX0_many_173 : decode cX0_many 173 = .ok (.bipush (-9), 2) := dk_16 247 (dk_at dksX0_many_7 2 rfl rfl)
theorem dX0_many_175 : decode cX0_many 175 = .ok (.if_icmp .ne 7, 3) := dk_160 0 7 (dk_at dksX0_many_7 4 rfl rfl)
theorem dX0_many_178 : decode cX0_many 178 = .ok (.iconst 0, 1) := dk_3 (dk_at dksX0_many_7 7 rfl rfl)
theorem dX0_many_179 : decode cX0_many 179 = .ok (.goto 4, 3) := dk_167 0 4 (dk_at dksX0_many_7 8 rfl rfl)
theorem dX0_many_182 : decode cX0_many 182 = .ok (.iconst 1, 1) := dk_4 (dk_at dksX0_many_7 11 rfl rfl)
theorem dX0_many_183 : decode cX0_many 183 = .ok (.iadd, 1) := dk_96 (dk_at dksX0_many_7 12 rfl rfl)
theorem dX0_many_184 : decode cX0_many 184 = .ok (.istore_n 2, 1) := dk_61 (dk_at dksX0_many_7 13 rfl rfl)
theorem dX0_many_185 : decode cX0_many 185 = .ok (.iinc 3 1, 3) := dk_132 3 1 (dk_at dksX0_many_7 14 rfl rfl)
theorem dX0_many_188 : decode cX0_many 188 = .ok (.goto (-35), 3) := dk_167 255 221 (dk_at dksX0_many_7 17 rfl rfl)
theorem dX0_many_191 : decode cX0_many 191 = .ok (.iload_n 2, 1) := dk_28 (dk_at dksX0_many_7 20 rfl rfl)
theorem dX0_many_192 : decode cX0_many 192 = .ok (.ireturn, 1) := dk_172 (dk_at dksX0_many_7 21 rfl rfl)
theorem dX0_many_193 : decode cX0_many 193 = .ok (.iconst 0, 1) := dk_3 (dk_at dksX0_many_7 22 rfl rfl)
theorem dX0_many_194 : decode cX0_many 194 = .ok (.istore_n 3, 1) := dk_62 (dk_at dksX0_many_7 23 rfl rfl)
theorem dX0_many_195 : decode cX0_many 195 = .ok (.iload_n 3, 1) := dk_29 (dk_at dksX0_many_8 0 rfl rfl)
theorem dX0_many_196 : decode cX0_many 196 = .ok (.bipush 8, 2) := dk_16 8 (dk_at dksX0_many_8 1 rfl rfl)
theorem dX0_many_198 : decode cX0_many 198 = .ok (.if_icmp .ge 29, 3) := dk_162 0 29 (dk_at dksX0_many_8 3 rfl rfl)
theorem dX0_many_201 : decode cX0_many 201 = .ok (.iload_n 2, 1) := dk_28 (dk_at dksX0_many_8 6 rfl rfl)
theorem dX0_many_202 : decode cX0_many 202 = .ok (.aload_n 0, 1) := dk_42 (dk_at dksX0_many_8 7 rfl rfl)
theorem dX0_many_203 : decode cX0_many 203 = .ok (.getfield 108, 3) := dk_180 0 108 (dk_at dksX0_many_8 8 rfl rfl)
theorem dX0_many_206 : decode cX0_many 206 = .ok (.iload_n 3, 1) := dk_29 (dk_at dksX0_many_8 11 rfl rfl)
theorem dX0_many_207 : decode cX0_many 207 = .ok (.aaload, 1) := dk_50 (dk_at dksX0_many_8 12 rfl rfl)
theorem dX0_many_208 : decode cX0_many 208 = .ok (.getfield 247, 3) := dk_180 0 247 (dk_at dksX0_many_8 13 rfl rfl)
theorem dX0_many_211 : decode cX0_many 211 = .ok (.ifnonnull 7, 3) := dk_199 0 7 (dk_at dksX0_many_8 16 rfl rfl)
theorem dX0_many_214 : decode cX0_many 214 = .ok (.iconst 0, 1) := dk_3 (dk_at dksX0_many_8 19 rfl rfl)
theorem dX0_many_215 : decode cX0_many 215 = .ok (.goto 4, 3) := dk_167 0 4 (dk_at dksX0_many_8 20 rfl rfl)
theorem dX0_many_218 : decode cX0_many 218 = .ok (.iconst 1, 1) := dk_4 (dk_at dksX0_many_8 23 rfl rfl)
theorem dX0_many_219 : decode cX0_many 219 = .ok (.iadd, 1) := dk_96 (dk_at dksX0_many_9 0 rfl rfl)
theorem dX0_many_220 : decode cX0_many 220 = .ok (.istore_n 2, 1) := dk_61 (dk_at dksX0_many_9 1 rfl rfl)
theorem dX0_many_221 : decode cX0_many 221 = .ok (.iinc 3 1, 3) := dk_132 3 1 (dk_at dksX0_many_9 2 rfl rfl)
theorem dX0_many_224 : decode cX0_many 224 = .ok (.goto (-29), 3) := dk_167 255 227 (dk_at dksX0_many_9 5 rfl rfl)
theorem dX0_many_227 : decode cX0_many 227 = .ok (.iload_n 2, 1) := dk_28 (dk_at dksX0_many_9 8 rfl rfl)
theorem dX0_many_228 : decode cX0_many 228 = .ok (.ireturn, 1) := dk_172 (dk_at dksX0_many_9 9 rfl rfl)
theorem dX0_many_229 : decode cX0_many 229 = .ok (.aload_n 0, 1) := dk_42 (dk_at dksX0_many_9 10 rfl rfl)
theorem dX0_many_230 : decode cX0_many 230 = .ok (.getfield 207, 3) := dk_180 0 207 (dk_at dksX0_many_9 11 rfl rfl)
theorem dX0_many_233 : decode cX0_many 233 = .ok (.ifCond .eq 7, 3) := dk_153 0 7 (dk_at dksX0_many_9 14 rfl rfl)
theorem dX0_many_236 : decode cX0_many 236 = .ok (.iconst 1, 1) := dk_4 (dk_at dksX0_many_9 17 rfl rfl)
theorem dX0_many_237 : decode cX0_many 237 = .ok (.goto 4, 3) := dk_167 0 4 (dk_at dksX0_many_9 18 rfl rfl)
theorem dX0_many_240 : decode cX0_many 240 = .ok (.iconst 0, 1) := dk_3 (dk_at dksX0_many_9 21 rfl rfl)
theorem dX0_many_241 : decode cX0_many 241 = .ok (.ireturn, 1) := dk_172 (dk_at dksX0_many_9 22 rfl rfl)
theorem dX0_many_242 : decode cX0_many 242 = .ok (.bipush (-2), 2) := dk_16 254 (dk_at dksX0_many_10 0 rfl rfl)
theorem dX0_many_244 : decode cX0_many 244 = .ok (.ireturn, 1) := dk_172 (dk_at dksX0_many_10 2 rfl rfl)
abbrev cX0_manyNarrowed : ByteArray := prog_1_method_143_code
def yX0_manyNarrowed : MethodName := ⟨RX0, "manyNarrowed", "(Z)I"⟩
def dkwX0_manyNarrowed_2 : List UInt8 := [42, 180, 0, 32, 29, 47, 184, 1, 4, 96, 61, 132, 3, 1, 167, 255, 203, 28, 172]
abbrev dktX0_manyNarrowed_2 : List UInt8 := dkwX0_manyNarrowed_2 ++ []
def dkwX0_manyNarrowed_1 : List UInt8 := [153, 0, 24, 42, 180, 0, 32, 29, 47, 184, 1, 4, 4, 160, 0, 7, 4, 167, 0, 16, 3, 167, 0, 12]
abbrev dktX0_manyNarrowed_1 : List UInt8 := dkwX0_manyNarrowed_1 ++ dktX0_manyNarrowed_2
def dkwX0_manyNarrowed_0 : List UInt8 := [42, 182, 1, 54, 3, 61, 3, 62, 29, 42, 180, 0, 25, 185, 0, 180, 1, 0, 162, 0, 46, 28, 27]
abbrev dktX0_manyNarrowed_0 : List UInt8 := dkwX0_manyNarrowed_0 ++ dktX0_manyNarrowed_1
theorem dksX0_manyNarrowed_0 : cX0_manyNarrowed.data.toList.drop 0 = dktX0_manyNarrowed_0 := by decide +kernel
theorem dksX0_manyNarrowed_1 : cX0_manyNarrowed.data.toList.drop 23 = dktX0_manyNarrowed_1 := dk_seg dksX0_manyNarrowed_0 23 rfl rfl
theorem dksX0_manyNarrowed_2 : cX0_manyNarrowed.data.toList.drop 47 = dktX0_manyNarrowed_2 := dk_seg dksX0_manyNarrowed_1 24 rfl rfl
theorem dX0_manyNarrowed_0 : decode cX0_manyNarrowed 0 = .ok (.aload_n 0, 1) := dk_42 (dk_at dksX0_manyNarrowed_0 0 rfl rfl)
theorem dX0_manyNarrowed_1 : decode cX0_manyNarrowed 1 = .ok (.invokevirtual 310, 3) := dk_182 1 54 (dk_at dksX0_manyNarrowed_0 1 rfl rfl)
theorem dX0_manyNarrowed_4 : decode cX0_manyNarrowed 4 = .ok (.iconst 0, 1) := dk_3 (dk_at dksX0_manyNarrowed_0 4 rfl rfl)
theorem dX0_manyNarrowed_5 : decode cX0_manyNarrowed 5 = .ok (.istore_n 2, 1) := dk_61 (dk_at dksX0_manyNarrowed_0 5 rfl rfl)
theorem dX0_manyNarrowed_6 : decode cX0_manyNarrowed 6 = .ok (.iconst 0, 1) := dk_3 (dk_at dksX0_manyNarrowed_0 6 rfl rfl)
theorem dX0_manyNarrowed_7 : decode cX0_manyNarrowed 7 = .ok (.istore_n 3, 1) := dk_62 (dk_at dksX0_manyNarrowed_0 7 rfl rfl)
theorem dX0_manyNarrowed_8 : decode cX0_manyNarrowed 8 = .ok (.iload_n 3, 1) := dk_29 (dk_at dksX0_manyNarrowed_0 8 rfl rfl)
theorem dX0_manyNarrowed_9 : decode cX0_manyNarrowed 9 = .ok (.aload_n 0, 1) := dk_42 (dk_at dksX0_manyNarrowed_0 9 rfl rfl)
theorem dX0_manyNarrowed_10 : decode cX0_manyNarrowed 10 = .ok (.getfield 25, 3) := dk_180 0 25 (dk_at dksX0_manyNarrowed_0 10 rfl rfl)
theorem dX0_manyNarrowed_13 : decode cX0_manyNarrowed 13 = .ok (.invokeinterface 180 1, 5) := by decide +kernel
theorem dX0_manyNarrowed_18 : decode cX0_manyNarrowed 18 = .ok (.if_icmp .ge 46, 3) := dk_162 0 46 (dk_at dksX0_manyNarrowed_0 18 rfl rfl)
theorem dX0_manyNarrowed_21 : decode cX0_manyNarrowed 21 = .ok (.iload_n 2, 1) := dk_28 (dk_at dksX0_manyNarrowed_0 21 rfl rfl)
theorem dX0_manyNarrowed_22 : decode cX0_manyNarrowed 22 = .ok (.iload_n 1, 1) := dk_27 (dk_at dksX0_manyNarrowed_0 22 rfl rfl)
theorem dX0_manyNarrowed_23 : decode cX0_manyNarrowed 23 = .ok (.ifCond .eq 24, 3) := dk_153 0 24 (dk_at dksX0_manyNarrowed_1 0 rfl rfl)
theorem dX0_manyNarrowed_26 : decode cX0_manyNarrowed 26 = .ok (.aload_n 0, 1) := dk_42 (dk_at dksX0_manyNarrowed_1 3 rfl rfl)
theorem dX0_manyNarrowed_27 : decode cX0_manyNarrowed 27 = .ok (.getfield 32, 3) := dk_180 0 32 (dk_at dksX0_manyNarrowed_1 4 rfl rfl)
theorem dX0_manyNarrowed_30 : decode cX0_manyNarrowed 30 = .ok (.iload_n 3, 1) := dk_29 (dk_at dksX0_manyNarrowed_1 7 rfl rfl)
theorem dX0_manyNarrowed_31 : decode cX0_manyNarrowed 31 = .ok (.laload, 1) := dk_47 (dk_at dksX0_manyNarrowed_1 8 rfl rfl)
theorem dX0_manyNarrowed_32 : decode cX0_manyNarrowed 32 = .ok (.invokestatic 260, 3) := dk_184 1 4 (dk_at dksX0_manyNarrowed_1 9 rfl rfl)
theorem dX0_manyNarrowed_35 : decode cX0_manyNarrowed 35 = .ok (.iconst 1, 1) := dk_4 (dk_at dksX0_manyNarrowed_1 12 rfl rfl)
theorem dX0_manyNarrowed_36 : decode cX0_manyNarrowed 36 = .ok (.if_icmp .ne 7, 3) := dk_160 0 7 (dk_at dksX0_manyNarrowed_1 13 rfl rfl)
theorem dX0_manyNarrowed_39 : decode cX0_manyNarrowed 39 = .ok (.iconst 1, 1) := dk_4 (dk_at dksX0_manyNarrowed_1 16 rfl rfl)
theorem dX0_manyNarrowed_40 : decode cX0_manyNarrowed 40 = .ok (.goto 16, 3) := dk_167 0 16 (dk_at dksX0_manyNarrowed_1 17 rfl rfl)
theorem dX0_manyNarrowed_43 : decode cX0_manyNarrowed 43 = .ok (.iconst 0, 1) := dk_3 (dk_at dksX0_manyNarrowed_1 20 rfl rfl)
theorem dX0_manyNarrowed_44 : decode cX0_manyNarrowed 44 = .ok (.goto 12, 3) := dk_167 0 12 (dk_at dksX0_manyNarrowed_1 21 rfl rfl)
theorem dX0_manyNarrowed_47 : decode cX0_manyNarrowed 47 = .ok (.aload_n 0, 1) := dk_42 (dk_at dksX0_manyNarrowed_2 0 rfl rfl)
theorem dX0_manyNarrowed_48 : decode cX0_manyNarrowed 48 = .ok (.getfield 32, 3) := dk_180 0 32 (dk_at dksX0_manyNarrowed_2 1 rfl rfl)
theorem dX0_manyNarrowed_51 : decode cX0_manyNarrowed 51 = .ok (.iload_n 3, 1) := dk_29 (dk_at dksX0_manyNarrowed_2 4 rfl rfl)
theorem dX0_manyNarrowed_52 : decode cX0_manyNarrowed 52 = .ok (.laload, 1) := dk_47 (dk_at dksX0_manyNarrowed_2 5 rfl rfl)
theorem dX0_manyNarrowed_53 : decode cX0_manyNarrowed 53 = .ok (.invokestatic 260, 3) := dk_184 1 4 (dk_at dksX0_manyNarrowed_2 6 rfl rfl)
theorem dX0_manyNarrowed_56 : decode cX0_manyNarrowed 56 = .ok (.iadd, 1) := dk_96 (dk_at dksX0_manyNarrowed_2 9 rfl rfl)
theorem dX0_manyNarrowed_57 : decode cX0_manyNarrowed 57 = .ok (.istore_n 2, 1) := dk_61 (dk_at dksX0_manyNarrowed_2 10 rfl rfl)
theorem dX0_manyNarrowed_58 : decode cX0_manyNarrowed 58 = .ok (.iinc 3 1, 3) := dk_132 3 1 (dk_at dksX0_manyNarrowed_2 11 rfl rfl)
theorem dX0_manyNarrowed_61 : decode cX0_manyNarrowed 61 = .ok (.goto (-53), 3) := dk_167 255 203 (dk_at dksX0_manyNarrowed_2 14 rfl rfl)
theorem dX0_manyNarrowed_64 : decode cX0_manyNarrowed 64 = .ok (.iload_n 2, 1) := dk_28 (dk_at dksX0_manyNarrowed_2 17 rfl rfl)
theorem dX0_manyNarrowed_65 : decode cX0_manyNarrowed 65 = .ok (.ireturn, 1) := dk_172 (dk_at dksX0_manyNarrowed_2 18 rfl rfl)
theorem q128 : (Jvm.Cond.initialized "HeardPlaces") ∈ lw_all := lw_g (lw_at lw_m1 1 rfl) rfl
theorem q164 : (Jvm.Cond.instantiable "HeardPlaces" (55 : Nat)) ∈ lw_all := lw_g (lw_at lw_m1 37 rfl) rfl
theorem q166 : (Jvm.Cond.instanceMethod ({ cls := "HeardPlaces", name := "<init>", desc := "()V" } : Jvm.MethodName)) ∈ lw_all := lw_g (lw_at lw_m1 39 rfl) rfl
theorem q167 : (Jvm.Cond.code ({ cls := "HeardPlaces", name := "<init>", desc := "()V" } : Jvm.MethodName) prog_1_method_1_code (1 : Nat) (Option.none : Option Jvm.ClassFile.FieldType)) ∈ lw_all := lw_g (lw_at lw_m1 40 rfl) rfl
theorem q168 : (Jvm.Cond.methodLink "HeardPlaces" (3 : Nat) ({ cls := "java/lang/Object", name := "<init>", desc := "()V" } : Jvm.MethodName)) ∈ lw_all := lw_g (lw_at lw_m1 41 rfl) rfl
theorem q171 : (Jvm.Cond.classLink "HeardPlaces" (22 : Nat) "java/util/ArrayList") ∈ lw_all := lw_g (lw_at lw_m1 44 rfl) rfl
theorem q173 : (Jvm.Cond.methodLink "HeardPlaces" (24 : Nat) ({ cls := "java/util/ArrayList", name := "<init>", desc := "()V" } : Jvm.MethodName)) ∈ lw_all := lw_g (lw_at lw_m1 46 rfl) rfl
theorem q198 : (Jvm.Cond.classLink "HeardPlaces" (55 : Nat) "[[I") ∈ lw_all := lw_g (lw_at lw_m1 71 rfl) rfl
theorem q200 : (Jvm.Cond.methodLink "HeardPlaces" (72 : Nat) ({ cls := "java/util/Arrays", name := "fill", desc := "([II)V" } : Jvm.MethodName)) ∈ lw_all := lw_g (lw_at lw_m1 73 rfl) rfl
theorem q203 : (Jvm.Cond.classLink "HeardPlaces" (90 : Nat) "[[J") ∈ lw_all := lw_g (lw_at lw_m1 76 rfl) rfl
theorem q205 : (Jvm.Cond.classLink "HeardPlaces" (98 : Nat) "HeardPlaces$Image") ∈ lw_all := lw_g (lw_at lw_m1 78 rfl) rfl
theorem q207 : (Jvm.Cond.methodLink "HeardPlaces" (104 : Nat) ({ cls := "HeardPlaces", name := "places", desc := "(I)[LHeardPlaces$Place;" } : Jvm.MethodName)) ∈ lw_all := lw_g (lw_at lw_m1 80 rfl) rfl
theorem q208 : (Jvm.Cond.static ({ cls := "HeardPlaces", name := "places", desc := "(I)[LHeardPlaces$Place;" } : Jvm.MethodName)) ∈ lw_all := lw_g (lw_at lw_m1 81 rfl) rfl
theorem q209 : (Jvm.Cond.code ({ cls := "HeardPlaces", name := "places", desc := "(I)[LHeardPlaces$Place;" } : Jvm.MethodName) prog_1_method_128_code (3 : Nat) (Option.some (Jvm.ClassFile.FieldType.array (Jvm.ClassFile.FieldType.object "HeardPlaces$Place")))) ∈ lw_all := lw_g (lw_at lw_m1 82 rfl) rfl
theorem q210 : (Jvm.Cond.classLink "HeardPlaces" (248 : Nat) "HeardPlaces$Place") ∈ lw_all := lw_g (lw_at lw_m1 83 rfl) rfl
theorem q213 : (Jvm.Cond.methodLinkNest "HeardPlaces" (710 : Nat) ({ cls := "HeardPlaces$Place", name := "<init>", desc := "()V" } : Jvm.MethodName) "HeardPlaces") ∈ lw_tbl := lw_at lw_m1 86 rfl
theorem q217 : (Jvm.Cond.fieldLinkNest "HeardPlaces" (247 : Nat) "HeardPlaces$Place" "has" "Ljava/lang/Object;" "HeardPlaces") ∈ lw_tbl := lw_at lw_m1 90 rfl
theorem q223 : (Jvm.Cond.fieldLink "HeardPlaces" (115 : Nat) "HeardPlaces" "fault" "I") ∈ lw_all := lw_g (lw_at lw_m1 96 rfl) rfl
theorem q224 : (Jvm.Cond.fieldLink "HeardPlaces" (120 : Nat) "HeardPlaces" "trace" "I") ∈ lw_all := lw_g (lw_at lw_m1 97 rfl) rfl
theorem q225 : (Jvm.Cond.fieldLink "HeardPlaces" (11 : Nat) "HeardPlaces" "wide" "I") ∈ lw_all := lw_g (lw_at lw_m1 98 rfl) rfl
theorem q226 : (Jvm.Cond.fieldLink "HeardPlaces" (15 : Nat) "HeardPlaces" "high" "I") ∈ lw_all := lw_g (lw_at lw_m1 99 rfl) rfl
theorem q227 : (Jvm.Cond.fieldLink "HeardPlaces" (152 : Nat) "HeardPlaces" "walls" "J") ∈ lw_all := lw_g (lw_at lw_m1 100 rfl) rfl
theorem q228 : (Jvm.Cond.fieldLink "HeardPlaces" (18 : Nat) "HeardPlaces" "hop" "[J") ∈ lw_all := lw_g (lw_at lw_m1 101 rfl) rfl
theorem q229 : (Jvm.Cond.fieldLink "HeardPlaces" (25 : Nat) "HeardPlaces" "things" "Ljava/util/List;") ∈ lw_all := lw_g (lw_at lw_m1 102 rfl) rfl
theorem q231 : (Jvm.Cond.fieldLink "HeardPlaces" (29 : Nat) "HeardPlaces" "measures" "Ljava/util/List;") ∈ lw_all := lw_g (lw_at lw_m1 104 rfl) rfl
theorem q232 : (Jvm.Cond.fieldLink "HeardPlaces" (32 : Nat) "HeardPlaces" "narrowed" "[J") ∈ lw_all := lw_g (lw_at lw_m1 105 rfl) rfl
theorem q233 : (Jvm.Cond.fieldLink "HeardPlaces" (35 : Nat) "HeardPlaces" "tried" "[J") ∈ lw_all := lw_g (lw_at lw_m1 106 rfl) rfl
theorem q234 : (Jvm.Cond.fieldLink "HeardPlaces" (38 : Nat) "HeardPlaces" "isAsked" "[Z") ∈ lw_all := lw_g (lw_at lw_m1 107 rfl) rfl
theorem q235 : (Jvm.Cond.fieldLink "HeardPlaces" (422 : Nat) "HeardPlaces" "isNarrow" "Z") ∈ lw_all := lw_g (lw_at lw_m1 108 rfl) rfl
theorem q236 : (Jvm.Cond.fieldLink "HeardPlaces" (425 : Nat) "HeardPlaces" "isQuarrelFound" "Z") ∈ lw_all := lw_g (lw_at lw_m1 109 rfl) rfl
theorem q237 : (Jvm.Cond.fieldLink "HeardPlaces" (416 : Nat) "HeardPlaces" "isQuarrel" "Z") ∈ lw_all := lw_g (lw_at lw_m1 110 rfl) rfl
theorem q238 : (Jvm.Cond.fieldLink "HeardPlaces" (42 : Nat) "HeardPlaces" "isLeft" "[Z") ∈ lw_all := lw_g (lw_at lw_m1 111 rfl) rfl
theorem q239 : (Jvm.Cond.fieldLink "HeardPlaces" (453 : Nat) "HeardPlaces" "leftMany" "I") ∈ lw_all := lw_g (lw_at lw_m1 112 rfl) rfl
theorem q240 : (Jvm.Cond.fieldLink "HeardPlaces" (207 : Nat) "HeardPlaces" "isAlone" "Z") ∈ lw_all := lw_g (lw_at lw_m1 113 rfl) rfl
theorem q241 : (Jvm.Cond.fieldLink "HeardPlaces" (45 : Nat) "HeardPlaces" "member" "[I") ∈ lw_all := lw_g (lw_at lw_m1 114 rfl) rfl
theorem q242 : (Jvm.Cond.fieldLink "HeardPlaces" (49 : Nat) "HeardPlaces" "at" "[I") ∈ lw_all := lw_g (lw_at lw_m1 115 rfl) rfl
theorem q243 : (Jvm.Cond.fieldLink "HeardPlaces" (472 : Nat) "HeardPlaces" "members" "I") ∈ lw_all := lw_g (lw_at lw_m1 116 rfl) rfl
theorem q244 : (Jvm.Cond.fieldLink "HeardPlaces" (509 : Nat) "HeardPlaces" "barred" "J") ∈ lw_all := lw_g (lw_at lw_m1 117 rfl) rfl
theorem q245 : (Jvm.Cond.fieldLink "HeardPlaces" (518 : Nat) "HeardPlaces" "trialMany" "I") ∈ lw_all := lw_g (lw_at lw_m1 118 rfl) rfl
theorem q246 : (Jvm.Cond.fieldLink "HeardPlaces" (538 : Nat) "HeardPlaces" "trialsTold" "I") ∈ lw_all := lw_g (lw_at lw_m1 119 rfl) rfl
theorem q247 : (Jvm.Cond.fieldLink "HeardPlaces" (469 : Nat) "HeardPlaces" "found" "I") ∈ lw_all := lw_g (lw_at lw_m1 120 rfl) rfl
theorem q248 : (Jvm.Cond.fieldLink "HeardPlaces" (52 : Nat) "HeardPlaces" "seen" "[J") ∈ lw_all := lw_g (lw_at lw_m1 121 rfl) rfl
theorem q249 : (Jvm.Cond.fieldLink "HeardPlaces" (57 : Nat) "HeardPlaces" "often" "[[I") ∈ lw_all := lw_g (lw_at lw_m1 122 rfl) rfl
theorem q250 : (Jvm.Cond.fieldLink "HeardPlaces" (60 : Nat) "HeardPlaces" "apart" "[[I") ∈ lw_all := lw_g (lw_at lw_m1 123 rfl) rfl
theorem q251 : (Jvm.Cond.fieldLink "HeardPlaces" (63 : Nat) "HeardPlaces" "wanted" "I") ∈ lw_all := lw_g (lw_at lw_m1 124 rfl) rfl
theorem q252 : (Jvm.Cond.fieldLink "HeardPlaces" (66 : Nat) "HeardPlaces" "wantedAt" "[I") ∈ lw_all := lw_g (lw_at lw_m1 125 rfl) rfl
theorem q253 : (Jvm.Cond.fieldLink "HeardPlaces" (484 : Nat) "HeardPlaces" "firstThing" "I") ∈ lw_all := lw_g (lw_at lw_m1 126 rfl) rfl
theorem q254 : (Jvm.Cond.fieldLink "HeardPlaces" (487 : Nat) "HeardPlaces" "firstCell" "I") ∈ lw_all := lw_g (lw_at lw_m1 127 rfl) rfl
theorem q255 : (Jvm.Cond.fieldLink "HeardPlaces" (493 : Nat) "HeardPlaces" "secondThing" "I") ∈ lw_all := lw_g (lw_at lw_m1 128 rfl) rfl
theorem q256 : (Jvm.Cond.fieldLink "HeardPlaces" (496 : Nat) "HeardPlaces" "secondCell" "I") ∈ lw_all := lw_g (lw_at lw_m1 129 rfl) rfl
theorem q257 : (Jvm.Cond.fieldLink "HeardPlaces" (481 : Nat) "HeardPlaces" "isMet" "Z") ∈ lw_all := lw_g (lw_at lw_m1 130 rfl) rfl
theorem q258 : (Jvm.Cond.fieldLink "HeardPlaces" (69 : Nat) "HeardPlaces" "map" "[I") ∈ lw_all := lw_g (lw_at lw_m1 131 rfl) rfl
theorem q259 : (Jvm.Cond.fieldLink "HeardPlaces" (578 : Nat) "HeardPlaces" "flipWanted" "I") ∈ lw_all := lw_g (lw_at lw_m1 132 rfl) rfl
theorem q260 : (Jvm.Cond.fieldLink "HeardPlaces" (575 : Nat) "HeardPlaces" "flipMany" "I") ∈ lw_all := lw_g (lw_at lw_m1 133 rfl) rfl
theorem q261 : (Jvm.Cond.fieldLink "HeardPlaces" (581 : Nat) "HeardPlaces" "flipFirst" "I") ∈ lw_all := lw_g (lw_at lw_m1 134 rfl) rfl
theorem q262 : (Jvm.Cond.fieldLink "HeardPlaces" (584 : Nat) "HeardPlaces" "flipSecond" "I") ∈ lw_all := lw_g (lw_at lw_m1 135 rfl) rfl
theorem q263 : (Jvm.Cond.fieldLink "HeardPlaces" (587 : Nat) "HeardPlaces" "flipWay" "I") ∈ lw_all := lw_g (lw_at lw_m1 136 rfl) rfl
theorem q264 : (Jvm.Cond.fieldLink "HeardPlaces" (590 : Nat) "HeardPlaces" "flipPart" "I") ∈ lw_all := lw_g (lw_at lw_m1 137 rfl) rfl
theorem q265 : (Jvm.Cond.fieldLink "HeardPlaces" (78 : Nat) "HeardPlaces" "after" "[I") ∈ lw_all := lw_g (lw_at lw_m1 138 rfl) rfl
theorem q266 : (Jvm.Cond.fieldLink "HeardPlaces" (81 : Nat) "HeardPlaces" "moverFirst" "[I") ∈ lw_all := lw_g (lw_at lw_m1 139 rfl) rfl
theorem q267 : (Jvm.Cond.fieldLink "HeardPlaces" (84 : Nat) "HeardPlaces" "moverTicks" "[I") ∈ lw_all := lw_g (lw_at lw_m1 140 rfl) rfl
theorem q268 : (Jvm.Cond.fieldLink "HeardPlaces" (87 : Nat) "HeardPlaces" "moverReach" "[I") ∈ lw_all := lw_g (lw_at lw_m1 141 rfl) rfl
theorem q269 : (Jvm.Cond.fieldLink "HeardPlaces" (204 : Nat) "HeardPlaces" "moverMany" "I") ∈ lw_all := lw_g (lw_at lw_m1 142 rfl) rfl
theorem q270 : (Jvm.Cond.fieldLink "HeardPlaces" (92 : Nat) "HeardPlaces" "ways" "[[J") ∈ lw_all := lw_g (lw_at lw_m1 143 rfl) rfl
theorem q271 : (Jvm.Cond.fieldLink "HeardPlaces" (428 : Nat) "HeardPlaces" "isLied" "Z") ∈ lw_all := lw_g (lw_at lw_m1 144 rfl) rfl
theorem q272 : (Jvm.Cond.fieldLink "HeardPlaces" (95 : Nat) "HeardPlaces" "liarMany" "I") ∈ lw_all := lw_g (lw_at lw_m1 145 rfl) rfl
theorem q273 : (Jvm.Cond.fieldLink "HeardPlaces" (631 : Nat) "HeardPlaces" "liarSets" "I") ∈ lw_all := lw_g (lw_at lw_m1 146 rfl) rfl
theorem q274 : (Jvm.Cond.fieldLink "HeardPlaces" (634 : Nat) "HeardPlaces" "inAll" "I") ∈ lw_all := lw_g (lw_at lw_m1 147 rfl) rfl
theorem q275 : (Jvm.Cond.fieldLink "HeardPlaces" (637 : Nat) "HeardPlaces" "inSome" "I") ∈ lw_all := lw_g (lw_at lw_m1 148 rfl) rfl
theorem q276 : (Jvm.Cond.fieldLink "HeardPlaces" (100 : Nat) "HeardPlaces" "images" "[LHeardPlaces$Image;") ∈ lw_all := lw_g (lw_at lw_m1 149 rfl) rfl
theorem q277 : (Jvm.Cond.fieldLink "HeardPlaces" (108 : Nat) "HeardPlaces" "holds" "[LHeardPlaces$Place;") ∈ lw_all := lw_g (lw_at lw_m1 150 rfl) rfl
theorem q278 : (Jvm.Cond.fieldLink "HeardPlaces" (112 : Nat) "HeardPlaces" "sheets" "[LHeardPlaces$Place;") ∈ lw_all := lw_g (lw_at lw_m1 151 rfl) rfl
theorem q279 : (Jvm.Cond.lays "HeardPlaces" "HeardPlaces" "fault" "I") ∈ lw_all := lw_g (lw_at lw_m1 152 rfl) rfl
theorem q280 : (Jvm.Cond.soleField "HeardPlaces" "fault") ∈ lw_all := lw_g (lw_at lw_m1 153 rfl) rfl
theorem q281 : (Jvm.Cond.lays "HeardPlaces" "HeardPlaces" "trace" "I") ∈ lw_all := lw_g (lw_at lw_m1 154 rfl) rfl
theorem q282 : (Jvm.Cond.soleField "HeardPlaces" "trace") ∈ lw_all := lw_g (lw_at lw_m1 155 rfl) rfl
theorem q283 : (Jvm.Cond.lays "HeardPlaces" "HeardPlaces" "wide" "I") ∈ lw_all := lw_g (lw_at lw_m1 156 rfl) rfl
theorem q284 : (Jvm.Cond.soleField "HeardPlaces" "wide") ∈ lw_all := lw_g (lw_at lw_m1 157 rfl) rfl
theorem q285 : (Jvm.Cond.lays "HeardPlaces" "HeardPlaces" "high" "I") ∈ lw_all := lw_g (lw_at lw_m1 158 rfl) rfl
theorem q286 : (Jvm.Cond.soleField "HeardPlaces" "high") ∈ lw_all := lw_g (lw_at lw_m1 159 rfl) rfl
theorem q287 : (Jvm.Cond.lays "HeardPlaces" "HeardPlaces" "walls" "J") ∈ lw_all := lw_g (lw_at lw_m1 160 rfl) rfl
theorem q288 : (Jvm.Cond.soleField "HeardPlaces" "walls") ∈ lw_all := lw_g (lw_at lw_m1 161 rfl) rfl
theorem q289 : (Jvm.Cond.laysFinal "HeardPlaces" "HeardPlaces" "hop" "[J") ∈ lw_all := lw_g (lw_at lw_m1 162 rfl) rfl
theorem q290 : (Jvm.Cond.soleField "HeardPlaces" "hop") ∈ lw_all := lw_g (lw_at lw_m1 163 rfl) rfl
theorem q291 : (Jvm.Cond.laysFinal "HeardPlaces" "HeardPlaces" "things" "Ljava/util/List;") ∈ lw_all := lw_g (lw_at lw_m1 164 rfl) rfl
theorem q292 : (Jvm.Cond.soleField "HeardPlaces" "things") ∈ lw_all := lw_g (lw_at lw_m1 165 rfl) rfl
theorem q293 : (Jvm.Cond.laysFinal "HeardPlaces" "HeardPlaces" "measures" "Ljava/util/List;") ∈ lw_all := lw_g (lw_at lw_m1 166 rfl) rfl
theorem q294 : (Jvm.Cond.soleField "HeardPlaces" "measures") ∈ lw_all := lw_g (lw_at lw_m1 167 rfl) rfl
theorem q295 : (Jvm.Cond.laysFinal "HeardPlaces" "HeardPlaces" "narrowed" "[J") ∈ lw_all := lw_g (lw_at lw_m1 168 rfl) rfl
theorem q296 : (Jvm.Cond.soleField "HeardPlaces" "narrowed") ∈ lw_all := lw_g (lw_at lw_m1 169 rfl) rfl
theorem q297 : (Jvm.Cond.laysFinal "HeardPlaces" "HeardPlaces" "tried" "[J") ∈ lw_all := lw_g (lw_at lw_m1 170 rfl) rfl
theorem q298 : (Jvm.Cond.soleField "HeardPlaces" "tried") ∈ lw_all := lw_g (lw_at lw_m1 171 rfl) rfl
theorem q299 : (Jvm.Cond.laysFinal "HeardPlaces" "HeardPlaces" "isAsked" "[Z") ∈ lw_all := lw_g (lw_at lw_m1 172 rfl) rfl
theorem q300 : (Jvm.Cond.soleField "HeardPlaces" "isAsked") ∈ lw_all := lw_g (lw_at lw_m1 173 rfl) rfl
theorem q301 : (Jvm.Cond.lays "HeardPlaces" "HeardPlaces" "isNarrow" "Z") ∈ lw_all := lw_g (lw_at lw_m1 174 rfl) rfl
theorem q302 : (Jvm.Cond.soleField "HeardPlaces" "isNarrow") ∈ lw_all := lw_g (lw_at lw_m1 175 rfl) rfl
theorem q303 : (Jvm.Cond.lays "HeardPlaces" "HeardPlaces" "isQuarrelFound" "Z") ∈ lw_all := lw_g (lw_at lw_m1 176 rfl) rfl
theorem q304 : (Jvm.Cond.soleField "HeardPlaces" "isQuarrelFound") ∈ lw_all := lw_g (lw_at lw_m1 177 rfl) rfl
theorem q305 : (Jvm.Cond.lays "HeardPlaces" "HeardPlaces" "isQuarrel" "Z") ∈ lw_all := lw_g (lw_at lw_m1 178 rfl) rfl
theorem q306 : (Jvm.Cond.soleField "HeardPlaces" "isQuarrel") ∈ lw_all := lw_g (lw_at lw_m1 179 rfl) rfl
theorem q307 : (Jvm.Cond.laysFinal "HeardPlaces" "HeardPlaces" "isLeft" "[Z") ∈ lw_all := lw_g (lw_at lw_m1 180 rfl) rfl
theorem q308 : (Jvm.Cond.soleField "HeardPlaces" "isLeft") ∈ lw_all := lw_g (lw_at lw_m1 181 rfl) rfl
theorem q309 : (Jvm.Cond.lays "HeardPlaces" "HeardPlaces" "leftMany" "I") ∈ lw_all := lw_g (lw_at lw_m1 182 rfl) rfl
theorem q310 : (Jvm.Cond.soleField "HeardPlaces" "leftMany") ∈ lw_all := lw_g (lw_at lw_m1 183 rfl) rfl
theorem q311 : (Jvm.Cond.lays "HeardPlaces" "HeardPlaces" "isAlone" "Z") ∈ lw_all := lw_g (lw_at lw_m1 184 rfl) rfl
theorem q312 : (Jvm.Cond.soleField "HeardPlaces" "isAlone") ∈ lw_all := lw_g (lw_at lw_m1 185 rfl) rfl
theorem q313 : (Jvm.Cond.laysFinal "HeardPlaces" "HeardPlaces" "member" "[I") ∈ lw_all := lw_g (lw_at lw_m1 186 rfl) rfl
theorem q314 : (Jvm.Cond.soleField "HeardPlaces" "member") ∈ lw_all := lw_g (lw_at lw_m1 187 rfl) rfl
theorem q315 : (Jvm.Cond.laysFinal "HeardPlaces" "HeardPlaces" "at" "[I") ∈ lw_all := lw_g (lw_at lw_m1 188 rfl) rfl
theorem q316 : (Jvm.Cond.soleField "HeardPlaces" "at") ∈ lw_all := lw_g (lw_at lw_m1 189 rfl) rfl
theorem q317 : (Jvm.Cond.lays "HeardPlaces" "HeardPlaces" "members" "I") ∈ lw_all := lw_g (lw_at lw_m1 190 rfl) rfl
theorem q318 : (Jvm.Cond.soleField "HeardPlaces" "members") ∈ lw_all := lw_g (lw_at lw_m1 191 rfl) rfl
theorem q319 : (Jvm.Cond.lays "HeardPlaces" "HeardPlaces" "barred" "J") ∈ lw_all := lw_g (lw_at lw_m1 192 rfl) rfl
theorem q320 : (Jvm.Cond.soleField "HeardPlaces" "barred") ∈ lw_all := lw_g (lw_at lw_m1 193 rfl) rfl
theorem q321 : (Jvm.Cond.lays "HeardPlaces" "HeardPlaces" "trialMany" "I") ∈ lw_all := lw_g (lw_at lw_m1 194 rfl) rfl
theorem q322 : (Jvm.Cond.soleField "HeardPlaces" "trialMany") ∈ lw_all := lw_g (lw_at lw_m1 195 rfl) rfl
theorem q323 : (Jvm.Cond.lays "HeardPlaces" "HeardPlaces" "trialsTold" "I") ∈ lw_all := lw_g (lw_at lw_m1 196 rfl) rfl
theorem q324 : (Jvm.Cond.soleField "HeardPlaces" "trialsTold") ∈ lw_all := lw_g (lw_at lw_m1 197 rfl) rfl
theorem q325 : (Jvm.Cond.lays "HeardPlaces" "HeardPlaces" "found" "I") ∈ lw_all := lw_g (lw_at lw_m1 198 rfl) rfl
theorem q326 : (Jvm.Cond.soleField "HeardPlaces" "found") ∈ lw_all := lw_g (lw_at lw_m1 199 rfl) rfl
theorem q327 : (Jvm.Cond.laysFinal "HeardPlaces" "HeardPlaces" "seen" "[J") ∈ lw_all := lw_g (lw_at lw_m1 200 rfl) rfl
theorem q328 : (Jvm.Cond.soleField "HeardPlaces" "seen") ∈ lw_all := lw_g (lw_at lw_m1 201 rfl) rfl
theorem q329 : (Jvm.Cond.laysFinal "HeardPlaces" "HeardPlaces" "often" "[[I") ∈ lw_all := lw_g (lw_at lw_m1 202 rfl) rfl
theorem q330 : (Jvm.Cond.soleField "HeardPlaces" "often") ∈ lw_all := lw_g (lw_at lw_m1 203 rfl) rfl
theorem q331 : (Jvm.Cond.laysFinal "HeardPlaces" "HeardPlaces" "apart" "[[I") ∈ lw_all := lw_g (lw_at lw_m1 204 rfl) rfl
theorem q332 : (Jvm.Cond.soleField "HeardPlaces" "apart") ∈ lw_all := lw_g (lw_at lw_m1 205 rfl) rfl
theorem q333 : (Jvm.Cond.lays "HeardPlaces" "HeardPlaces" "wanted" "I") ∈ lw_all := lw_g (lw_at lw_m1 206 rfl) rfl
theorem q334 : (Jvm.Cond.soleField "HeardPlaces" "wanted") ∈ lw_all := lw_g (lw_at lw_m1 207 rfl) rfl
theorem q335 : (Jvm.Cond.laysFinal "HeardPlaces" "HeardPlaces" "wantedAt" "[I") ∈ lw_all := lw_g (lw_at lw_m1 208 rfl) rfl
theorem q336 : (Jvm.Cond.soleField "HeardPlaces" "wantedAt") ∈ lw_all := lw_g (lw_at lw_m1 209 rfl) rfl
theorem q337 : (Jvm.Cond.lays "HeardPlaces" "HeardPlaces" "firstThing" "I") ∈ lw_all := lw_g (lw_at lw_m1 210 rfl) rfl
theorem q338 : (Jvm.Cond.soleField "HeardPlaces" "firstThing") ∈ lw_all := lw_g (lw_at lw_m1 211 rfl) rfl
theorem q339 : (Jvm.Cond.lays "HeardPlaces" "HeardPlaces" "firstCell" "I") ∈ lw_all := lw_g (lw_at lw_m1 212 rfl) rfl
theorem q340 : (Jvm.Cond.soleField "HeardPlaces" "firstCell") ∈ lw_all := lw_g (lw_at lw_m1 213 rfl) rfl
theorem q341 : (Jvm.Cond.lays "HeardPlaces" "HeardPlaces" "secondThing" "I") ∈ lw_all := lw_g (lw_at lw_m1 214 rfl) rfl
theorem q342 : (Jvm.Cond.soleField "HeardPlaces" "secondThing") ∈ lw_all := lw_g (lw_at lw_m1 215 rfl) rfl
theorem q343 : (Jvm.Cond.lays "HeardPlaces" "HeardPlaces" "secondCell" "I") ∈ lw_all := lw_g (lw_at lw_m1 216 rfl) rfl
theorem q344 : (Jvm.Cond.soleField "HeardPlaces" "secondCell") ∈ lw_all := lw_g (lw_at lw_m1 217 rfl) rfl
theorem q345 : (Jvm.Cond.lays "HeardPlaces" "HeardPlaces" "isMet" "Z") ∈ lw_all := lw_g (lw_at lw_m1 218 rfl) rfl
theorem q346 : (Jvm.Cond.soleField "HeardPlaces" "isMet") ∈ lw_all := lw_g (lw_at lw_m1 219 rfl) rfl
theorem q347 : (Jvm.Cond.laysFinal "HeardPlaces" "HeardPlaces" "map" "[I") ∈ lw_all := lw_g (lw_at lw_m1 220 rfl) rfl
theorem q348 : (Jvm.Cond.soleField "HeardPlaces" "map") ∈ lw_all := lw_g (lw_at lw_m1 221 rfl) rfl
theorem q349 : (Jvm.Cond.lays "HeardPlaces" "HeardPlaces" "flipWanted" "I") ∈ lw_all := lw_g (lw_at lw_m1 222 rfl) rfl
theorem q350 : (Jvm.Cond.soleField "HeardPlaces" "flipWanted") ∈ lw_all := lw_g (lw_at lw_m1 223 rfl) rfl
theorem q351 : (Jvm.Cond.lays "HeardPlaces" "HeardPlaces" "flipMany" "I") ∈ lw_all := lw_g (lw_at lw_m1 224 rfl) rfl
theorem q352 : (Jvm.Cond.soleField "HeardPlaces" "flipMany") ∈ lw_all := lw_g (lw_at lw_m1 225 rfl) rfl
theorem q353 : (Jvm.Cond.lays "HeardPlaces" "HeardPlaces" "flipFirst" "I") ∈ lw_all := lw_g (lw_at lw_m1 226 rfl) rfl
theorem q354 : (Jvm.Cond.soleField "HeardPlaces" "flipFirst") ∈ lw_all := lw_g (lw_at lw_m1 227 rfl) rfl
theorem q355 : (Jvm.Cond.lays "HeardPlaces" "HeardPlaces" "flipSecond" "I") ∈ lw_all := lw_g (lw_at lw_m1 228 rfl) rfl
theorem q356 : (Jvm.Cond.soleField "HeardPlaces" "flipSecond") ∈ lw_all := lw_g (lw_at lw_m1 229 rfl) rfl
theorem q357 : (Jvm.Cond.lays "HeardPlaces" "HeardPlaces" "flipWay" "I") ∈ lw_all := lw_g (lw_at lw_m1 230 rfl) rfl
theorem q358 : (Jvm.Cond.soleField "HeardPlaces" "flipWay") ∈ lw_all := lw_g (lw_at lw_m1 231 rfl) rfl
theorem q359 : (Jvm.Cond.lays "HeardPlaces" "HeardPlaces" "flipPart" "I") ∈ lw_all := lw_g (lw_at lw_m1 232 rfl) rfl
theorem q360 : (Jvm.Cond.soleField "HeardPlaces" "flipPart") ∈ lw_all := lw_g (lw_at lw_m1 233 rfl) rfl
theorem q361 : (Jvm.Cond.laysFinal "HeardPlaces" "HeardPlaces" "after" "[I") ∈ lw_all := lw_g (lw_at lw_m1 234 rfl) rfl
theorem q362 : (Jvm.Cond.soleField "HeardPlaces" "after") ∈ lw_all := lw_g (lw_at lw_m1 235 rfl) rfl
theorem q363 : (Jvm.Cond.laysFinal "HeardPlaces" "HeardPlaces" "moverFirst" "[I") ∈ lw_all := lw_g (lw_at lw_m1 236 rfl) rfl
theorem q364 : (Jvm.Cond.soleField "HeardPlaces" "moverFirst") ∈ lw_all := lw_g (lw_at lw_m1 237 rfl) rfl
theorem q365 : (Jvm.Cond.laysFinal "HeardPlaces" "HeardPlaces" "moverTicks" "[I") ∈ lw_all := lw_g (lw_at lw_m1 238 rfl) rfl
theorem q366 : (Jvm.Cond.soleField "HeardPlaces" "moverTicks") ∈ lw_all := lw_g (lw_at lw_m1 239 rfl) rfl
theorem q367 : (Jvm.Cond.laysFinal "HeardPlaces" "HeardPlaces" "moverReach" "[I") ∈ lw_all := lw_g (lw_at lw_m2 0 rfl) rfl
theorem q368 : (Jvm.Cond.soleField "HeardPlaces" "moverReach") ∈ lw_all := lw_g (lw_at lw_m2 1 rfl) rfl
theorem q369 : (Jvm.Cond.lays "HeardPlaces" "HeardPlaces" "moverMany" "I") ∈ lw_all := lw_g (lw_at lw_m2 2 rfl) rfl
theorem q370 : (Jvm.Cond.soleField "HeardPlaces" "moverMany") ∈ lw_all := lw_g (lw_at lw_m2 3 rfl) rfl
theorem q371 : (Jvm.Cond.laysFinal "HeardPlaces" "HeardPlaces" "ways" "[[J") ∈ lw_all := lw_g (lw_at lw_m2 4 rfl) rfl
theorem q372 : (Jvm.Cond.soleField "HeardPlaces" "ways") ∈ lw_all := lw_g (lw_at lw_m2 5 rfl) rfl
theorem q373 : (Jvm.Cond.lays "HeardPlaces" "HeardPlaces" "isLied" "Z") ∈ lw_all := lw_g (lw_at lw_m2 6 rfl) rfl
theorem q374 : (Jvm.Cond.soleField "HeardPlaces" "isLied") ∈ lw_all := lw_g (lw_at lw_m2 7 rfl) rfl
theorem q375 : (Jvm.Cond.lays "HeardPlaces" "HeardPlaces" "liarMany" "I") ∈ lw_all := lw_g (lw_at lw_m2 8 rfl) rfl
theorem q376 : (Jvm.Cond.soleField "HeardPlaces" "liarMany") ∈ lw_all := lw_g (lw_at lw_m2 9 rfl) rfl
theorem q377 : (Jvm.Cond.lays "HeardPlaces" "HeardPlaces" "liarSets" "I") ∈ lw_all := lw_g (lw_at lw_m2 10 rfl) rfl
theorem q378 : (Jvm.Cond.soleField "HeardPlaces" "liarSets") ∈ lw_all := lw_g (lw_at lw_m2 11 rfl) rfl
theorem q379 : (Jvm.Cond.lays "HeardPlaces" "HeardPlaces" "inAll" "I") ∈ lw_all := lw_g (lw_at lw_m2 12 rfl) rfl
theorem q380 : (Jvm.Cond.soleField "HeardPlaces" "inAll") ∈ lw_all := lw_g (lw_at lw_m2 13 rfl) rfl
theorem q381 : (Jvm.Cond.lays "HeardPlaces" "HeardPlaces" "inSome" "I") ∈ lw_all := lw_g (lw_at lw_m2 14 rfl) rfl
theorem q382 : (Jvm.Cond.soleField "HeardPlaces" "inSome") ∈ lw_all := lw_g (lw_at lw_m2 15 rfl) rfl
theorem q383 : (Jvm.Cond.laysFinal "HeardPlaces" "HeardPlaces" "images" "[LHeardPlaces$Image;") ∈ lw_all := lw_g (lw_at lw_m2 16 rfl) rfl
theorem q384 : (Jvm.Cond.soleField "HeardPlaces" "images") ∈ lw_all := lw_g (lw_at lw_m2 17 rfl) rfl
theorem q385 : (Jvm.Cond.laysFinal "HeardPlaces" "HeardPlaces" "holds" "[LHeardPlaces$Place;") ∈ lw_all := lw_g (lw_at lw_m2 18 rfl) rfl
theorem q386 : (Jvm.Cond.soleField "HeardPlaces" "holds") ∈ lw_all := lw_g (lw_at lw_m2 19 rfl) rfl
theorem q387 : (Jvm.Cond.laysFinal "HeardPlaces" "HeardPlaces" "sheets" "[LHeardPlaces$Place;") ∈ lw_all := lw_g (lw_at lw_m2 20 rfl) rfl
theorem q388 : (Jvm.Cond.soleField "HeardPlaces" "sheets") ∈ lw_all := lw_g (lw_at lw_m2 21 rfl) rfl
theorem q389 : (Jvm.Cond.superclass "HeardPlaces" "java/lang/Object") ∈ lw_all := lw_g (lw_at lw_m2 22 rfl) rfl
theorem q391 : (Jvm.Cond.instanceMethod ({ cls := "HeardPlaces", name := "field", desc := "(II)I" } : Jvm.MethodName)) ∈ lw_all := lw_g (lw_at lw_m2 24 rfl) rfl
theorem q392 : (Jvm.Cond.selects "HeardPlaces" ({ cls := "HeardPlaces", name := "field", desc := "(II)I" } : Jvm.MethodName) ({ cls := "HeardPlaces", name := "field", desc := "(II)I" } : Jvm.MethodName)) ∈ lw_all := lw_g (lw_at lw_m2 25 rfl) rfl
theorem q393 : (Jvm.Cond.code ({ cls := "HeardPlaces", name := "field", desc := "(II)I" } : Jvm.MethodName) prog_1_method_22_code (3 : Nat) (Option.some Jvm.ClassFile.FieldType.int)) ∈ lw_all := lw_g (lw_at lw_m2 26 rfl) rfl
theorem q394 : (Jvm.Cond.constantLong "HeardPlaces" (199 : Nat) (8 : Int64)) ∈ lw_all := lw_g (lw_at lw_m2 27 rfl) rfl
theorem q395 : (Jvm.Cond.methodLink "HeardPlaces" (130 : Nat) ({ cls := "HeardPlaces", name := "isIn", desc := "(JJJ)Z" } : Jvm.MethodName)) ∈ lw_all := lw_g (lw_at lw_m2 28 rfl) rfl
theorem q396 : (Jvm.Cond.static ({ cls := "HeardPlaces", name := "isIn", desc := "(JJJ)Z" } : Jvm.MethodName)) ∈ lw_all := lw_g (lw_at lw_m2 29 rfl) rfl
theorem q397 : (Jvm.Cond.code ({ cls := "HeardPlaces", name := "isIn", desc := "(JJJ)Z" } : Jvm.MethodName) prog_1_method_2_code (6 : Nat) (Option.some Jvm.ClassFile.FieldType.boolean)) ∈ lw_all := lw_g (lw_at lw_m2 30 rfl) rfl
theorem q398 : (Jvm.Cond.interfaceEntry "HeardPlaces" (201 : Nat)) ∈ lw_tbl := lw_at lw_m2 31 rfl
theorem q399 : (Jvm.Cond.methodLink "HeardPlaces" (201 : Nat) ({ cls := "java/util/List", name := "clear", desc := "()V" } : Jvm.MethodName)) ∈ lw_all := lw_g (lw_at lw_m2 32 rfl) rfl
theorem q408 : (Jvm.Cond.methodLink "HeardPlaces" (211 : Nat) ({ cls := "HeardPlaces", name := "changes", desc := "()V" } : Jvm.MethodName)) ∈ lw_all := lw_g (lw_at lw_m2 41 rfl) rfl
theorem q409 : (Jvm.Cond.privateMethod ({ cls := "HeardPlaces", name := "changes", desc := "()V" } : Jvm.MethodName)) ∈ lw_tbl := lw_at lw_m2 42 rfl
theorem q410 : (Jvm.Cond.instanceMethod ({ cls := "HeardPlaces", name := "changes", desc := "()V" } : Jvm.MethodName)) ∈ lw_all := lw_g (lw_at lw_m2 43 rfl) rfl
theorem q411 : (Jvm.Cond.code ({ cls := "HeardPlaces", name := "changes", desc := "()V" } : Jvm.MethodName) prog_1_method_50_code (1 : Nat) (Option.none : Option Jvm.ClassFile.FieldType)) ∈ lw_all := lw_g (lw_at lw_m2 44 rfl) rfl
theorem q413 : (Jvm.Cond.instanceMethod ({ cls := "HeardPlaces", name := "wall", desc := "(IZ)I" } : Jvm.MethodName)) ∈ lw_all := lw_g (lw_at lw_m2 46 rfl) rfl
theorem q414 : (Jvm.Cond.selects "HeardPlaces" ({ cls := "HeardPlaces", name := "wall", desc := "(IZ)I" } : Jvm.MethodName) ({ cls := "HeardPlaces", name := "wall", desc := "(IZ)I" } : Jvm.MethodName)) ∈ lw_all := lw_g (lw_at lw_m2 47 rfl) rfl
theorem q415 : (Jvm.Cond.code ({ cls := "HeardPlaces", name := "wall", desc := "(IZ)I" } : Jvm.MethodName) prog_1_method_24_code (3 : Nat) (Option.some Jvm.ClassFile.FieldType.int)) ∈ lw_all := lw_g (lw_at lw_m2 48 rfl) rfl
theorem q416 : (Jvm.Cond.methodLink "HeardPlaces" (219 : Nat) ({ cls := "HeardPlaces", name := "isCell", desc := "(I)Z" } : Jvm.MethodName)) ∈ lw_all := lw_g (lw_at lw_m2 49 rfl) rfl
theorem q417 : (Jvm.Cond.privateMethod ({ cls := "HeardPlaces", name := "isCell", desc := "(I)Z" } : Jvm.MethodName)) ∈ lw_tbl := lw_at lw_m2 50 rfl
theorem q418 : (Jvm.Cond.instanceMethod ({ cls := "HeardPlaces", name := "isCell", desc := "(I)Z" } : Jvm.MethodName)) ∈ lw_all := lw_g (lw_at lw_m2 51 rfl) rfl
theorem q419 : (Jvm.Cond.code ({ cls := "HeardPlaces", name := "isCell", desc := "(I)Z" } : Jvm.MethodName) prog_1_method_13_code (2 : Nat) (Option.some Jvm.ClassFile.FieldType.boolean)) ∈ lw_all := lw_g (lw_at lw_m2 52 rfl) rfl
theorem q420 : (Jvm.Cond.constantLong "HeardPlaces" (134 : Nat) (63 : Int64)) ∈ lw_all := lw_g (lw_at lw_m2 53 rfl) rfl
theorem q421 : (Jvm.Cond.methodLink "HeardPlaces" (123 : Nat) ({ cls := "HeardPlaces", name := "xOf", desc := "(I)I" } : Jvm.MethodName)) ∈ lw_all := lw_g (lw_at lw_m2 54 rfl) rfl
theorem q422 : (Jvm.Cond.static ({ cls := "HeardPlaces", name := "xOf", desc := "(I)I" } : Jvm.MethodName)) ∈ lw_all := lw_g (lw_at lw_m2 55 rfl) rfl
theorem q423 : (Jvm.Cond.code ({ cls := "HeardPlaces", name := "xOf", desc := "(I)I" } : Jvm.MethodName) prog_1_method_7_code (1 : Nat) (Option.some Jvm.ClassFile.FieldType.int)) ∈ lw_all := lw_g (lw_at lw_m2 56 rfl) rfl
theorem q424 : (Jvm.Cond.methodLink "HeardPlaces" (127 : Nat) ({ cls := "HeardPlaces", name := "yOf", desc := "(I)I" } : Jvm.MethodName)) ∈ lw_all := lw_g (lw_at lw_m2 57 rfl) rfl
theorem q425 : (Jvm.Cond.static ({ cls := "HeardPlaces", name := "yOf", desc := "(I)I" } : Jvm.MethodName)) ∈ lw_all := lw_g (lw_at lw_m2 58 rfl) rfl
theorem q426 : (Jvm.Cond.code ({ cls := "HeardPlaces", name := "yOf", desc := "(I)I" } : Jvm.MethodName) prog_1_method_8_code (1 : Nat) (Option.some Jvm.ClassFile.FieldType.int)) ∈ lw_all := lw_g (lw_at lw_m2 59 rfl) rfl
theorem q427 : (Jvm.Cond.methodLink "HeardPlaces" (136 : Nat) ({ cls := "HeardPlaces", name := "isPlace", desc := "(II)Z" } : Jvm.MethodName)) ∈ lw_all := lw_g (lw_at lw_m2 60 rfl) rfl
theorem q428 : (Jvm.Cond.privateMethod ({ cls := "HeardPlaces", name := "isPlace", desc := "(II)Z" } : Jvm.MethodName)) ∈ lw_tbl := lw_at lw_m2 61 rfl
theorem q429 : (Jvm.Cond.instanceMethod ({ cls := "HeardPlaces", name := "isPlace", desc := "(II)Z" } : Jvm.MethodName)) ∈ lw_all := lw_g (lw_at lw_m2 62 rfl) rfl
theorem q430 : (Jvm.Cond.code ({ cls := "HeardPlaces", name := "isPlace", desc := "(II)Z" } : Jvm.MethodName) prog_1_method_12_code (3 : Nat) (Option.some Jvm.ClassFile.FieldType.boolean)) ∈ lw_all := lw_g (lw_at lw_m2 63 rfl) rfl
theorem q431 : (Jvm.Cond.methodLink "HeardPlaces" (223 : Nat) ({ cls := "HeardPlaces", name := "known", desc := "(I)J" } : Jvm.MethodName)) ∈ lw_all := lw_g (lw_at lw_m2 64 rfl) rfl
theorem q432 : (Jvm.Cond.privateMethod ({ cls := "HeardPlaces", name := "known", desc := "(I)J" } : Jvm.MethodName)) ∈ lw_tbl := lw_at lw_m2 65 rfl
theorem q433 : (Jvm.Cond.instanceMethod ({ cls := "HeardPlaces", name := "known", desc := "(I)J" } : Jvm.MethodName)) ∈ lw_all := lw_g (lw_at lw_m2 66 rfl) rfl
theorem q434 : (Jvm.Cond.code ({ cls := "HeardPlaces", name := "known", desc := "(I)J" } : Jvm.MethodName) prog_1_method_21_code (5 : Nat) (Option.some Jvm.ClassFile.FieldType.long)) ∈ lw_all := lw_g (lw_at lw_m2 67 rfl) rfl
theorem q435 : (Jvm.Cond.interfaceEntry "HeardPlaces" (180 : Nat)) ∈ lw_tbl := lw_at lw_m2 68 rfl
theorem q436 : (Jvm.Cond.methodLink "HeardPlaces" (180 : Nat) ({ cls := "java/util/List", name := "size", desc := "()I" } : Jvm.MethodName)) ∈ lw_all := lw_g (lw_at lw_m2 69 rfl) rfl
theorem q444 : (Jvm.Cond.interfaceEntry "HeardPlaces" (186 : Nat)) ∈ lw_tbl := lw_at lw_m2 77 rfl
theorem q445 : (Jvm.Cond.methodLink "HeardPlaces" (186 : Nat) ({ cls := "java/util/List", name := "get", desc := "(I)Ljava/lang/Object;" } : Jvm.MethodName)) ∈ lw_all := lw_g (lw_at lw_m2 78 rfl) rfl
theorem q463 : (Jvm.Cond.classLink "HeardPlaces" (190 : Nat) "HeardPlaces$Thing") ∈ lw_all := lw_g (lw_at lw_m2 96 rfl) rfl
theorem q464 : (Jvm.Cond.methodLink "HeardPlaces" (192 : Nat) ({ cls := "HeardPlaces$Thing", name := "isKnown", desc := "()Z" } : Jvm.MethodName)) ∈ lw_all := lw_g (lw_at lw_m2 97 rfl) rfl
theorem q473 : (Jvm.Cond.methodLink "HeardPlaces" (196 : Nat) ({ cls := "HeardPlaces$Thing", name := "told", desc := "()J" } : Jvm.MethodName)) ∈ lw_all := lw_g (lw_at lw_m2 106 rfl) rfl
theorem q481 : (Jvm.Cond.static ({ cls := "HeardPlaces", name := "bit", desc := "(I)J" } : Jvm.MethodName)) ∈ lw_all := lw_g (lw_at lw_m2 114 rfl) rfl
theorem q482 : (Jvm.Cond.code ({ cls := "HeardPlaces", name := "bit", desc := "(I)J" } : Jvm.MethodName) prog_1_method_6_code (1 : Nat) (Option.some Jvm.ClassFile.FieldType.long)) ∈ lw_all := lw_g (lw_at lw_m2 115 rfl) rfl
theorem q486 : (Jvm.Cond.privateMethod ({ cls := "HeardPlaces", name := "free", desc := "()J" } : Jvm.MethodName)) ∈ lw_tbl := lw_at lw_m2 119 rfl
theorem q487 : (Jvm.Cond.instanceMethod ({ cls := "HeardPlaces", name := "free", desc := "()J" } : Jvm.MethodName)) ∈ lw_all := lw_g (lw_at lw_m2 120 rfl) rfl
theorem q488 : (Jvm.Cond.code ({ cls := "HeardPlaces", name := "free", desc := "()J" } : Jvm.MethodName) prog_1_method_15_code (1 : Nat) (Option.some Jvm.ClassFile.FieldType.long)) ∈ lw_all := lw_g (lw_at lw_m2 121 rfl) rfl
theorem q489 : (Jvm.Cond.methodLink "HeardPlaces" (148 : Nat) ({ cls := "HeardPlaces", name := "all", desc := "()J" } : Jvm.MethodName)) ∈ lw_all := lw_g (lw_at lw_m2 122 rfl) rfl
theorem q490 : (Jvm.Cond.privateMethod ({ cls := "HeardPlaces", name := "all", desc := "()J" } : Jvm.MethodName)) ∈ lw_tbl := lw_at lw_m2 123 rfl
theorem q491 : (Jvm.Cond.instanceMethod ({ cls := "HeardPlaces", name := "all", desc := "()J" } : Jvm.MethodName)) ∈ lw_all := lw_g (lw_at lw_m2 124 rfl) rfl
theorem q492 : (Jvm.Cond.code ({ cls := "HeardPlaces", name := "all", desc := "()J" } : Jvm.MethodName) prog_1_method_14_code (5 : Nat) (Option.some Jvm.ClassFile.FieldType.long)) ∈ lw_all := lw_g (lw_at lw_m2 125 rfl) rfl
theorem q493 : (Jvm.Cond.methodLink "HeardPlaces" (140 : Nat) ({ cls := "HeardPlaces", name := "cellAt", desc := "(II)I" } : Jvm.MethodName)) ∈ lw_all := lw_g (lw_at lw_m2 126 rfl) rfl
theorem q494 : (Jvm.Cond.static ({ cls := "HeardPlaces", name := "cellAt", desc := "(II)I" } : Jvm.MethodName)) ∈ lw_all := lw_g (lw_at lw_m2 127 rfl) rfl
theorem q495 : (Jvm.Cond.code ({ cls := "HeardPlaces", name := "cellAt", desc := "(II)I" } : Jvm.MethodName) prog_1_method_9_code (2 : Nat) (Option.some Jvm.ClassFile.FieldType.int)) ∈ lw_all := lw_g (lw_at lw_m2 128 rfl) rfl
theorem q496 : (Jvm.Cond.methodLink "HeardPlaces" (144 : Nat) ({ cls := "HeardPlaces", name := "bit", desc := "(I)J" } : Jvm.MethodName)) ∈ lw_all := lw_g (lw_at lw_m2 129 rfl) rfl
theorem q497 : (Jvm.Cond.constantLong "HeardPlaces" (156 : Nat) (-1 : Int64)) ∈ lw_all := lw_g (lw_at lw_m2 130 rfl) rfl
theorem q498 : (Jvm.Cond.methodLink "HeardPlaces" (161 : Nat) ({ cls := "HeardPlaces", name := "isOn", desc := "(JI)Z" } : Jvm.MethodName)) ∈ lw_all := lw_g (lw_at lw_m2 131 rfl) rfl
theorem q499 : (Jvm.Cond.static ({ cls := "HeardPlaces", name := "isOn", desc := "(JI)Z" } : Jvm.MethodName)) ∈ lw_all := lw_g (lw_at lw_m2 132 rfl) rfl
theorem q500 : (Jvm.Cond.code ({ cls := "HeardPlaces", name := "isOn", desc := "(JI)Z" } : Jvm.MethodName) prog_1_method_10_code (3 : Nat) (Option.some Jvm.ClassFile.FieldType.boolean)) ∈ lw_all := lw_g (lw_at lw_m2 133 rfl) rfl
theorem q501 : (Jvm.Cond.methodLink "HeardPlaces" (226 : Nat) ({ cls := "HeardPlaces", name := "wallsBecome", desc := "(J)V" } : Jvm.MethodName)) ∈ lw_all := lw_g (lw_at lw_m2 134 rfl) rfl
theorem q502 : (Jvm.Cond.privateMethod ({ cls := "HeardPlaces", name := "wallsBecome", desc := "(J)V" } : Jvm.MethodName)) ∈ lw_tbl := lw_at lw_m2 135 rfl
theorem q503 : (Jvm.Cond.instanceMethod ({ cls := "HeardPlaces", name := "wallsBecome", desc := "(J)V" } : Jvm.MethodName)) ∈ lw_all := lw_g (lw_at lw_m2 136 rfl) rfl
theorem q504 : (Jvm.Cond.code ({ cls := "HeardPlaces", name := "wallsBecome", desc := "(J)V" } : Jvm.MethodName) prog_1_method_23_code (4 : Nat) (Option.none : Option Jvm.ClassFile.FieldType)) ∈ lw_all := lw_g (lw_at lw_m2 137 rfl) rfl
theorem q505 : (Jvm.Cond.classLink "HeardPlaces" (214 : Nat) "HeardPlaces$Measure") ∈ lw_all := lw_g (lw_at lw_m2 138 rfl) rfl
theorem q506 : (Jvm.Cond.methodLink "HeardPlaces" (216 : Nat) ({ cls := "HeardPlaces$Measure", name := "makeAnew", desc := "()V" } : Jvm.MethodName)) ∈ lw_all := lw_g (lw_at lw_m2 139 rfl) rfl
theorem q521 : (Jvm.Cond.privateMethod ({ cls := "HeardPlaces", name := "layHops", desc := "(I)V" } : Jvm.MethodName)) ∈ lw_tbl := lw_at lw_m2 154 rfl
theorem q522 : (Jvm.Cond.instanceMethod ({ cls := "HeardPlaces", name := "layHops", desc := "(I)V" } : Jvm.MethodName)) ∈ lw_all := lw_g (lw_at lw_m2 155 rfl) rfl
theorem q523 : (Jvm.Cond.code ({ cls := "HeardPlaces", name := "layHops", desc := "(I)V" } : Jvm.MethodName) prog_1_method_16_code (6 : Nat) (Option.none : Option Jvm.ClassFile.FieldType)) ∈ lw_all := lw_g (lw_at lw_m2 156 rfl) rfl
theorem q524 : (Jvm.Cond.methodLink "HeardPlaces" (158 : Nat) ({ cls := "HeardPlaces", name := "free", desc := "()J" } : Jvm.MethodName)) ∈ lw_all := lw_g (lw_at lw_m2 157 rfl) rfl
theorem q525 : (Jvm.Cond.methodLink "HeardPlaces" (165 : Nat) ({ cls := "HeardPlaces", name := "far", desc := "(II)I" } : Jvm.MethodName)) ∈ lw_all := lw_g (lw_at lw_m2 158 rfl) rfl
theorem q526 : (Jvm.Cond.static ({ cls := "HeardPlaces", name := "far", desc := "(II)I" } : Jvm.MethodName)) ∈ lw_all := lw_g (lw_at lw_m2 159 rfl) rfl
theorem q527 : (Jvm.Cond.code ({ cls := "HeardPlaces", name := "far", desc := "(II)I" } : Jvm.MethodName) prog_1_method_11_code (4 : Nat) (Option.some Jvm.ClassFile.FieldType.int)) ∈ lw_all := lw_g (lw_at lw_m2 160 rfl) rfl
theorem q529 : (Jvm.Cond.privateMethod ({ cls := "HeardPlaces", name := "hopped", desc := "(II)J" } : Jvm.MethodName)) ∈ lw_tbl := lw_at lw_m2 162 rfl
theorem q530 : (Jvm.Cond.instanceMethod ({ cls := "HeardPlaces", name := "hopped", desc := "(II)J" } : Jvm.MethodName)) ∈ lw_all := lw_g (lw_at lw_m2 163 rfl) rfl
theorem q531 : (Jvm.Cond.code ({ cls := "HeardPlaces", name := "hopped", desc := "(II)J" } : Jvm.MethodName) prog_1_method_18_code (8 : Nat) (Option.some Jvm.ClassFile.FieldType.long)) ∈ lw_all := lw_g (lw_at lw_m2 164 rfl) rfl
theorem q532 : (Jvm.Cond.methodLink "HeardPlaces" (172 : Nat) ({ cls := "HeardPlaces", name := "hopOn", desc := "(JJ)J" } : Jvm.MethodName)) ∈ lw_all := lw_g (lw_at lw_m2 165 rfl) rfl
theorem q533 : (Jvm.Cond.privateMethod ({ cls := "HeardPlaces", name := "hopOn", desc := "(JJ)J" } : Jvm.MethodName)) ∈ lw_tbl := lw_at lw_m2 166 rfl
theorem q534 : (Jvm.Cond.instanceMethod ({ cls := "HeardPlaces", name := "hopOn", desc := "(JJ)J" } : Jvm.MethodName)) ∈ lw_all := lw_g (lw_at lw_m2 167 rfl) rfl
theorem q535 : (Jvm.Cond.code ({ cls := "HeardPlaces", name := "hopOn", desc := "(JJ)J" } : Jvm.MethodName) prog_1_method_17_code (9 : Nat) (Option.some Jvm.ClassFile.FieldType.long)) ∈ lw_all := lw_g (lw_at lw_m2 168 rfl) rfl
theorem q536 : (Jvm.Cond.methodLink "HeardPlaces" (168 : Nat) ({ cls := "java/lang/Long", name := "numberOfTrailingZeros", desc := "(J)I" } : Jvm.MethodName)) ∈ lw_all := lw_g (lw_at lw_m2 169 rfl) rfl
theorem q545 : (Jvm.Cond.instanceMethod ({ cls := "HeardPlaces", name := "plan", desc := "(III)I" } : Jvm.MethodName)) ∈ lw_all := lw_g (lw_at lw_m2 178 rfl) rfl
theorem q546 : (Jvm.Cond.selects "HeardPlaces" ({ cls := "HeardPlaces", name := "plan", desc := "(III)I" } : Jvm.MethodName) ({ cls := "HeardPlaces", name := "plan", desc := "(III)I" } : Jvm.MethodName)) ∈ lw_all := lw_g (lw_at lw_m2 179 rfl) rfl
theorem q547 : (Jvm.Cond.codeWith ({ cls := "HeardPlaces", name := "plan", desc := "(III)I" } : Jvm.MethodName) prog_1_method_26_code (6 : Nat) (Option.some Jvm.ClassFile.FieldType.int) [((24 : Nat), (59 : Nat), (74 : Nat), (263 : Nat)), ((60 : Nat), (73 : Nat), (74 : Nat), (263 : Nat)), ((24 : Nat), (59 : Nat), (82 : Nat), (268 : Nat)), ((60 : Nat), (73 : Nat), (82 : Nat), (268 : Nat)), ((24 : Nat), (59 : Nat), (90 : Nat), (234 : Nat)), ((60 : Nat), (73 : Nat), (90 : Nat), (234 : Nat))]) ∈ lw_all := lw_g (lw_at lw_m2 180 rfl) rfl
theorem q548 : (Jvm.Cond.classLink "HeardPlaces" (263 : Nat) "java/lang/ClassCastException") ∈ lw_all := lw_g (lw_at lw_m2 181 rfl) rfl
theorem q635 : (Jvm.Cond.classLink "HeardPlaces" (268 : Nat) "java/lang/NullPointerException") ∈ lw_all := lw_g (lw_at lw_m3 28 rfl) rfl
theorem q660 : (Jvm.Cond.classLink "HeardPlaces" (234 : Nat) "java/lang/ArrayIndexOutOfBoundsException") ∈ lw_all := lw_g (lw_at lw_m3 53 rfl) rfl
theorem q679 : (Jvm.Cond.methodLink "HeardPlaces" (241 : Nat) ({ cls := "HeardPlaces", name := "isSheet", desc := "(I)Z" } : Jvm.MethodName)) ∈ lw_all := lw_g (lw_at lw_m3 72 rfl) rfl
theorem q680 : (Jvm.Cond.static ({ cls := "HeardPlaces", name := "isSheet", desc := "(I)Z" } : Jvm.MethodName)) ∈ lw_all := lw_g (lw_at lw_m3 73 rfl) rfl
theorem q681 : (Jvm.Cond.code ({ cls := "HeardPlaces", name := "isSheet", desc := "(I)Z" } : Jvm.MethodName) prog_1_method_129_code (1 : Nat) (Option.some Jvm.ClassFile.FieldType.boolean)) ∈ lw_all := lw_g (lw_at lw_m3 74 rfl) rfl
theorem q682 : (Jvm.Cond.constantLong "HeardPlaces" (337 : Nat) (3 : Int64)) ∈ lw_all := lw_g (lw_at lw_m3 75 rfl) rfl
theorem q683 : (Jvm.Cond.methodLink "HeardPlaces" (244 : Nat) ({ cls := "HeardPlaces", name := "isLane", desc := "(I)Z" } : Jvm.MethodName)) ∈ lw_all := lw_g (lw_at lw_m3 76 rfl) rfl
theorem q684 : (Jvm.Cond.static ({ cls := "HeardPlaces", name := "isLane", desc := "(I)Z" } : Jvm.MethodName)) ∈ lw_all := lw_g (lw_at lw_m3 77 rfl) rfl
theorem q685 : (Jvm.Cond.code ({ cls := "HeardPlaces", name := "isLane", desc := "(I)Z" } : Jvm.MethodName) prog_1_method_130_code (1 : Nat) (Option.some Jvm.ClassFile.FieldType.boolean)) ∈ lw_all := lw_g (lw_at lw_m3 78 rfl) rfl
theorem q686 : (Jvm.Cond.methodLink "HeardPlaces" (253 : Nat) ({ cls := "HeardPlaces", name := "asLane", desc := "(Ljava/lang/Object;I)Ljava/lang/Object;" } : Jvm.MethodName)) ∈ lw_all := lw_g (lw_at lw_m3 79 rfl) rfl
theorem q687 : (Jvm.Cond.static ({ cls := "HeardPlaces", name := "asLane", desc := "(Ljava/lang/Object;I)Ljava/lang/Object;" } : Jvm.MethodName)) ∈ lw_all := lw_g (lw_at lw_m3 80 rfl) rfl
theorem q688 : (Jvm.Cond.code ({ cls := "HeardPlaces", name := "asLane", desc := "(Ljava/lang/Object;I)Ljava/lang/Object;" } : Jvm.MethodName) prog_1_method_131_code (2 : Nat) (Option.some (Jvm.ClassFile.FieldType.object "java/lang/Object"))) ∈ lw_all := lw_g (lw_at lw_m3 81 rfl) rfl
theorem q689 : (Jvm.Cond.classLink "HeardPlaces" (711 : Nat) "[B") ∈ lw_all := lw_g (lw_at lw_m3 82 rfl) rfl
theorem q690 : (Jvm.Cond.classLink "HeardPlaces" (713 : Nat) "[S") ∈ lw_all := lw_g (lw_at lw_m3 83 rfl) rfl
theorem q691 : (Jvm.Cond.classLink "HeardPlaces" (715 : Nat) "[I") ∈ lw_all := lw_g (lw_at lw_m3 84 rfl) rfl
theorem q692 : (Jvm.Cond.classLink "HeardPlaces" (716 : Nat) "[J") ∈ lw_all := lw_g (lw_at lw_m3 85 rfl) rfl
theorem q693 : (Jvm.Cond.methodLink "HeardPlaces" (257 : Nat) ({ cls := "HeardPlaces", name := "wallsBy", desc := "(Ljava/lang/Object;I)J" } : Jvm.MethodName)) ∈ lw_all := lw_g (lw_at lw_m3 86 rfl) rfl
theorem q694 : (Jvm.Cond.privateMethod ({ cls := "HeardPlaces", name := "wallsBy", desc := "(Ljava/lang/Object;I)J" } : Jvm.MethodName)) ∈ lw_tbl := lw_at lw_m3 87 rfl
theorem q695 : (Jvm.Cond.instanceMethod ({ cls := "HeardPlaces", name := "wallsBy", desc := "(Ljava/lang/Object;I)J" } : Jvm.MethodName)) ∈ lw_all := lw_g (lw_at lw_m3 88 rfl) rfl
theorem q696 : (Jvm.Cond.code ({ cls := "HeardPlaces", name := "wallsBy", desc := "(Ljava/lang/Object;I)J" } : Jvm.MethodName) prog_1_method_25_code (7 : Nat) (Option.some Jvm.ClassFile.FieldType.long)) ∈ lw_all := lw_g (lw_at lw_m3 89 rfl) rfl
theorem q697 : (Jvm.Cond.methodLink "HeardPlaces" (230 : Nat) ({ cls := "HeardPlaces", name := "lengthOf", desc := "(Ljava/lang/Object;)I" } : Jvm.MethodName)) ∈ lw_all := lw_g (lw_at lw_m3 90 rfl) rfl
theorem q698 : (Jvm.Cond.static ({ cls := "HeardPlaces", name := "lengthOf", desc := "(Ljava/lang/Object;)I" } : Jvm.MethodName)) ∈ lw_all := lw_g (lw_at lw_m3 91 rfl) rfl
theorem q699 : (Jvm.Cond.code ({ cls := "HeardPlaces", name := "lengthOf", desc := "(Ljava/lang/Object;)I" } : Jvm.MethodName) prog_1_method_133_code (2 : Nat) (Option.some Jvm.ClassFile.FieldType.int)) ∈ lw_all := lw_g (lw_at lw_m3 92 rfl) rfl
theorem q700 : (Jvm.Cond.methodLink "HeardPlaces" (236 : Nat) ({ cls := "java/lang/ArrayIndexOutOfBoundsException", name := "<init>", desc := "()V" } : Jvm.MethodName)) ∈ lw_all := lw_g (lw_at lw_m3 93 rfl) rfl
theorem q707 : (Jvm.Cond.methodLink "HeardPlaces" (237 : Nat) ({ cls := "HeardPlaces", name := "cellOf", desc := "(Ljava/lang/Object;I)J" } : Jvm.MethodName)) ∈ lw_all := lw_g (lw_at lw_m3 100 rfl) rfl
theorem q708 : (Jvm.Cond.static ({ cls := "HeardPlaces", name := "cellOf", desc := "(Ljava/lang/Object;I)J" } : Jvm.MethodName)) ∈ lw_all := lw_g (lw_at lw_m3 101 rfl) rfl
theorem q709 : (Jvm.Cond.code ({ cls := "HeardPlaces", name := "cellOf", desc := "(Ljava/lang/Object;I)J" } : Jvm.MethodName) prog_1_method_132_code (3 : Nat) (Option.some Jvm.ClassFile.FieldType.long)) ∈ lw_all := lw_g (lw_at lw_m3 102 rfl) rfl
theorem q710 : (Jvm.Cond.methodLink "HeardPlaces" (260 : Nat) ({ cls := "java/lang/Long", name := "bitCount", desc := "(J)I" } : Jvm.MethodName)) ∈ lw_all := lw_g (lw_at lw_m3 103 rfl) rfl
theorem q716 : (Jvm.Cond.methodLink "HeardPlaces" (265 : Nat) ({ cls := "HeardPlaces", name := "faulty", desc := "(I)I" } : Jvm.MethodName)) ∈ lw_all := lw_g (lw_at lw_m3 109 rfl) rfl
theorem q717 : (Jvm.Cond.privateMethod ({ cls := "HeardPlaces", name := "faulty", desc := "(I)I" } : Jvm.MethodName)) ∈ lw_tbl := lw_at lw_m3 110 rfl
theorem q718 : (Jvm.Cond.instanceMethod ({ cls := "HeardPlaces", name := "faulty", desc := "(I)I" } : Jvm.MethodName)) ∈ lw_all := lw_g (lw_at lw_m3 111 rfl) rfl
theorem q719 : (Jvm.Cond.code ({ cls := "HeardPlaces", name := "faulty", desc := "(I)I" } : Jvm.MethodName) prog_1_method_3_code (2 : Nat) (Option.some Jvm.ClassFile.FieldType.int)) ∈ lw_all := lw_g (lw_at lw_m3 112 rfl) rfl
theorem q721 : (Jvm.Cond.instanceMethod ({ cls := "HeardPlaces", name := "thing", desc := "(II)I" } : Jvm.MethodName)) ∈ lw_all := lw_g (lw_at lw_m3 114 rfl) rfl
theorem q722 : (Jvm.Cond.selects "HeardPlaces" ({ cls := "HeardPlaces", name := "thing", desc := "(II)I" } : Jvm.MethodName) ({ cls := "HeardPlaces", name := "thing", desc := "(II)I" } : Jvm.MethodName)) ∈ lw_all := lw_g (lw_at lw_m3 115 rfl) rfl
theorem q723 : (Jvm.Cond.code ({ cls := "HeardPlaces", name := "thing", desc := "(II)I" } : Jvm.MethodName) prog_1_method_28_code (4 : Nat) (Option.some Jvm.ClassFile.FieldType.int)) ∈ lw_all := lw_g (lw_at lw_m3 116 rfl) rfl
theorem q724 : (Jvm.Cond.constantLong "HeardPlaces" (274 : Nat) (2 : Int64)) ∈ lw_all := lw_g (lw_at lw_m3 117 rfl) rfl
theorem q726 : (Jvm.Cond.methodLink "HeardPlaces" (276 : Nat) ({ cls := "HeardPlaces$Thing", name := "<init>", desc := "(LHeardPlaces;III)V" } : Jvm.MethodName)) ∈ lw_all := lw_g (lw_at lw_m3 119 rfl) rfl
theorem q732 : (Jvm.Cond.fieldLinkNest "HeardPlaces" (681 : Nat) "HeardPlaces$Thing" "number" "I" "HeardPlaces") ∈ lw_tbl := lw_at lw_m3 125 rfl
theorem q734 : (Jvm.Cond.fieldLinkNest "HeardPlaces" (299 : Nat) "HeardPlaces$Thing" "box" "J" "HeardPlaces") ∈ lw_tbl := lw_at lw_m3 127 rfl
theorem q736 : (Jvm.Cond.fieldLinkNest "HeardPlaces" (319 : Nat) "HeardPlaces$Thing" "isTrusted" "Z" "HeardPlaces") ∈ lw_tbl := lw_at lw_m3 129 rfl
theorem q738 : (Jvm.Cond.fieldLinkNest "HeardPlaces" (322 : Nat) "HeardPlaces$Thing" "mover" "I" "HeardPlaces") ∈ lw_tbl := lw_at lw_m3 131 rfl
theorem q740 : (Jvm.Cond.fieldLinkNest "HeardPlaces" (325 : Nat) "HeardPlaces$Thing" "tick" "I" "HeardPlaces") ∈ lw_tbl := lw_at lw_m3 133 rfl
theorem q755 : (Jvm.Cond.classLink "HeardPlaces" (279 : Nat) "HeardPlaces$Anchor") ∈ lw_all := lw_g (lw_at lw_m3 148 rfl) rfl
theorem q757 : (Jvm.Cond.methodLink "HeardPlaces" (281 : Nat) ({ cls := "HeardPlaces$Anchor", name := "<init>", desc := "(LHeardPlaces;II)V" } : Jvm.MethodName)) ∈ lw_all := lw_g (lw_at lw_m3 150 rfl) rfl
theorem q774 : (Jvm.Cond.classLink "HeardPlaces" (284 : Nat) "HeardPlaces$Beacon") ∈ lw_all := lw_g (lw_at lw_m3 167 rfl) rfl
theorem q776 : (Jvm.Cond.methodLink "HeardPlaces" (286 : Nat) ({ cls := "HeardPlaces$Beacon", name := "<init>", desc := "(LHeardPlaces;II)V" } : Jvm.MethodName)) ∈ lw_all := lw_g (lw_at lw_m3 169 rfl) rfl
theorem q792 : (Jvm.Cond.methodLink "HeardPlaces" (287 : Nat) ({ cls := "HeardPlaces", name := "comes", desc := "(LHeardPlaces$Thing;)I" } : Jvm.MethodName)) ∈ lw_all := lw_g (lw_at lw_m3 185 rfl) rfl
theorem q793 : (Jvm.Cond.privateMethod ({ cls := "HeardPlaces", name := "comes", desc := "(LHeardPlaces$Thing;)I" } : Jvm.MethodName)) ∈ lw_tbl := lw_at lw_m3 186 rfl
theorem q794 : (Jvm.Cond.instanceMethod ({ cls := "HeardPlaces", name := "comes", desc := "(LHeardPlaces$Thing;)I" } : Jvm.MethodName)) ∈ lw_all := lw_g (lw_at lw_m3 187 rfl) rfl
theorem q795 : (Jvm.Cond.code ({ cls := "HeardPlaces", name := "comes", desc := "(LHeardPlaces$Thing;)I" } : Jvm.MethodName) prog_1_method_27_code (2 : Nat) (Option.some Jvm.ClassFile.FieldType.int)) ∈ lw_all := lw_g (lw_at lw_m3 188 rfl) rfl
theorem q796 : (Jvm.Cond.interfaceEntry "HeardPlaces" (270 : Nat)) ∈ lw_tbl := lw_at lw_m3 189 rfl
theorem q797 : (Jvm.Cond.methodLink "HeardPlaces" (270 : Nat) ({ cls := "java/util/List", name := "add", desc := "(Ljava/lang/Object;)Z" } : Jvm.MethodName)) ∈ lw_all := lw_g (lw_at lw_m3 190 rfl) rfl
theorem q833 : (Jvm.Cond.selects "HeardPlaces" ({ cls := "java/lang/Object", name := "getClass", desc := "()Ljava/lang/Class;" } : Jvm.MethodName) ({ cls := "java/lang/Object", name := "getClass", desc := "()Ljava/lang/Class;" } : Jvm.MethodName)) ∈ lw_all := lw_g (lw_at lw_m3 226 rfl) rfl
theorem q868 : (Jvm.Cond.instanceMethod ({ cls := "HeardPlaces", name := "box", desc := "(IIIII)I" } : Jvm.MethodName)) ∈ lw_all := lw_g (lw_at lw_m4 21 rfl) rfl
theorem q869 : (Jvm.Cond.selects "HeardPlaces" ({ cls := "HeardPlaces", name := "box", desc := "(IIIII)I" } : Jvm.MethodName) ({ cls := "HeardPlaces", name := "box", desc := "(IIIII)I" } : Jvm.MethodName)) ∈ lw_all := lw_g (lw_at lw_m4 22 rfl) rfl
theorem q870 : (Jvm.Cond.code ({ cls := "HeardPlaces", name := "box", desc := "(IIIII)I" } : Jvm.MethodName) prog_1_method_30_code (9 : Nat) (Option.some Jvm.ClassFile.FieldType.int)) ∈ lw_all := lw_g (lw_at lw_m4 23 rfl) rfl
theorem q871 : (Jvm.Cond.methodLink "HeardPlaces" (293 : Nat) ({ cls := "HeardPlaces", name := "isThing", desc := "(I)Z" } : Jvm.MethodName)) ∈ lw_all := lw_g (lw_at lw_m4 24 rfl) rfl
theorem q872 : (Jvm.Cond.privateMethod ({ cls := "HeardPlaces", name := "isThing", desc := "(I)Z" } : Jvm.MethodName)) ∈ lw_tbl := lw_at lw_m4 25 rfl
theorem q873 : (Jvm.Cond.instanceMethod ({ cls := "HeardPlaces", name := "isThing", desc := "(I)Z" } : Jvm.MethodName)) ∈ lw_all := lw_g (lw_at lw_m4 26 rfl) rfl
theorem q874 : (Jvm.Cond.code ({ cls := "HeardPlaces", name := "isThing", desc := "(I)Z" } : Jvm.MethodName) prog_1_method_20_code (2 : Nat) (Option.some Jvm.ClassFile.FieldType.boolean)) ∈ lw_all := lw_g (lw_at lw_m4 27 rfl) rfl
theorem q875 : (Jvm.Cond.methodLink "HeardPlaces" (296 : Nat) ({ cls := "HeardPlaces", name := "isEdge", desc := "(I)Z" } : Jvm.MethodName)) ∈ lw_all := lw_g (lw_at lw_m4 28 rfl) rfl
theorem q876 : (Jvm.Cond.static ({ cls := "HeardPlaces", name := "isEdge", desc := "(I)Z" } : Jvm.MethodName)) ∈ lw_all := lw_g (lw_at lw_m4 29 rfl) rfl
theorem q877 : (Jvm.Cond.code ({ cls := "HeardPlaces", name := "isEdge", desc := "(I)Z" } : Jvm.MethodName) prog_1_method_29_code (1 : Nat) (Option.some Jvm.ClassFile.FieldType.boolean)) ∈ lw_all := lw_g (lw_at lw_m4 30 rfl) rfl
theorem q878 : (Jvm.Cond.constantLong "HeardPlaces" (291 : Nat) (7 : Int64)) ∈ lw_all := lw_g (lw_at lw_m4 31 rfl) rfl
theorem q880 : (Jvm.Cond.instanceMethod ({ cls := "HeardPlaces", name := "about", desc := "(II)I" } : Jvm.MethodName)) ∈ lw_all := lw_g (lw_at lw_m4 33 rfl) rfl
theorem q881 : (Jvm.Cond.selects "HeardPlaces" ({ cls := "HeardPlaces", name := "about", desc := "(II)I" } : Jvm.MethodName) ({ cls := "HeardPlaces", name := "about", desc := "(II)I" } : Jvm.MethodName)) ∈ lw_all := lw_g (lw_at lw_m4 34 rfl) rfl
theorem q882 : (Jvm.Cond.code ({ cls := "HeardPlaces", name := "about", desc := "(II)I" } : Jvm.MethodName) prog_1_method_33_code (4 : Nat) (Option.some Jvm.ClassFile.FieldType.int)) ∈ lw_all := lw_g (lw_at lw_m4 35 rfl) rfl
theorem q883 : (Jvm.Cond.methodLink "HeardPlaces" (307 : Nat) ({ cls := "HeardPlaces$Thing", name := "kind", desc := "()I" } : Jvm.MethodName)) ∈ lw_all := lw_g (lw_at lw_m4 36 rfl) rfl
theorem q894 : (Jvm.Cond.methodLink "HeardPlaces" (310 : Nat) ({ cls := "HeardPlaces", name := "narrow", desc := "()V" } : Jvm.MethodName)) ∈ lw_all := lw_g (lw_at lw_m4 47 rfl) rfl
theorem q895 : (Jvm.Cond.privateMethod ({ cls := "HeardPlaces", name := "narrow", desc := "()V" } : Jvm.MethodName)) ∈ lw_tbl := lw_at lw_m4 48 rfl
theorem q896 : (Jvm.Cond.instanceMethod ({ cls := "HeardPlaces", name := "narrow", desc := "()V" } : Jvm.MethodName)) ∈ lw_all := lw_g (lw_at lw_m4 49 rfl) rfl
theorem q897 : (Jvm.Cond.code ({ cls := "HeardPlaces", name := "narrow", desc := "()V" } : Jvm.MethodName) prog_1_method_55_code (1 : Nat) (Option.none : Option Jvm.ClassFile.FieldType)) ∈ lw_all := lw_g (lw_at lw_m4 50 rfl) rfl
theorem q898 : (Jvm.Cond.methodLink "HeardPlaces" (442 : Nat) ({ cls := "HeardPlaces", name := "askAll", desc := "()V" } : Jvm.MethodName)) ∈ lw_all := lw_g (lw_at lw_m4 51 rfl) rfl
theorem q899 : (Jvm.Cond.privateMethod ({ cls := "HeardPlaces", name := "askAll", desc := "()V" } : Jvm.MethodName)) ∈ lw_tbl := lw_at lw_m4 52 rfl
theorem q900 : (Jvm.Cond.instanceMethod ({ cls := "HeardPlaces", name := "askAll", desc := "()V" } : Jvm.MethodName)) ∈ lw_all := lw_g (lw_at lw_m4 53 rfl) rfl
theorem q901 : (Jvm.Cond.code ({ cls := "HeardPlaces", name := "askAll", desc := "()V" } : Jvm.MethodName) prog_1_method_54_code (2 : Nat) (Option.none : Option Jvm.ClassFile.FieldType)) ∈ lw_all := lw_g (lw_at lw_m4 54 rfl) rfl
theorem q902 : (Jvm.Cond.methodLink "HeardPlaces" (445 : Nat) ({ cls := "HeardPlaces", name := "settle", desc := "([J)V" } : Jvm.MethodName)) ∈ lw_all := lw_g (lw_at lw_m4 55 rfl) rfl
theorem q903 : (Jvm.Cond.privateMethod ({ cls := "HeardPlaces", name := "settle", desc := "([J)V" } : Jvm.MethodName)) ∈ lw_tbl := lw_at lw_m4 56 rfl
theorem q904 : (Jvm.Cond.instanceMethod ({ cls := "HeardPlaces", name := "settle", desc := "([J)V" } : Jvm.MethodName)) ∈ lw_all := lw_g (lw_at lw_m4 57 rfl) rfl
theorem q905 : (Jvm.Cond.code ({ cls := "HeardPlaces", name := "settle", desc := "([J)V" } : Jvm.MethodName) prog_1_method_53_code (4 : Nat) (Option.none : Option Jvm.ClassFile.FieldType)) ∈ lw_all := lw_g (lw_at lw_m4 58 rfl) rfl
theorem q906 : (Jvm.Cond.methodLink "HeardPlaces" (438 : Nat) ({ cls := "HeardPlaces", name := "isLess", desc := "(LHeardPlaces$Measure;[J)Z" } : Jvm.MethodName)) ∈ lw_all := lw_g (lw_at lw_m4 59 rfl) rfl
theorem q907 : (Jvm.Cond.privateMethod ({ cls := "HeardPlaces", name := "isLess", desc := "(LHeardPlaces$Measure;[J)Z" } : Jvm.MethodName)) ∈ lw_tbl := lw_at lw_m4 60 rfl
theorem q908 : (Jvm.Cond.instanceMethod ({ cls := "HeardPlaces", name := "isLess", desc := "(LHeardPlaces$Measure;[J)Z" } : Jvm.MethodName)) ∈ lw_all := lw_g (lw_at lw_m4 61 rfl) rfl
theorem q909 : (Jvm.Cond.code ({ cls := "HeardPlaces", name := "isLess", desc := "(LHeardPlaces$Measure;[J)Z" } : Jvm.MethodName) prog_1_method_52_code (8 : Nat) (Option.some Jvm.ClassFile.FieldType.boolean)) ∈ lw_all := lw_g (lw_at lw_m4 62 rfl) rfl
theorem q910 : (Jvm.Cond.methodLink "HeardPlaces" (431 : Nat) ({ cls := "HeardPlaces", name := "left", desc := "(JJ[J)J" } : Jvm.MethodName)) ∈ lw_all := lw_g (lw_at lw_m4 63 rfl) rfl
theorem q911 : (Jvm.Cond.static ({ cls := "HeardPlaces", name := "left", desc := "(JJ[J)J" } : Jvm.MethodName)) ∈ lw_all := lw_g (lw_at lw_m4 64 rfl) rfl
theorem q912 : (Jvm.Cond.code ({ cls := "HeardPlaces", name := "left", desc := "(JJ[J)J" } : Jvm.MethodName) prog_1_method_51_code (10 : Nat) (Option.some Jvm.ClassFile.FieldType.long)) ∈ lw_all := lw_g (lw_at lw_m4 65 rfl) rfl
theorem q913 : (Jvm.Cond.methodLink "HeardPlaces" (313 : Nat) ({ cls := "HeardPlaces", name := "firstOf", desc := "(J)I" } : Jvm.MethodName)) ∈ lw_all := lw_g (lw_at lw_m4 66 rfl) rfl
theorem q914 : (Jvm.Cond.static ({ cls := "HeardPlaces", name := "firstOf", desc := "(J)I" } : Jvm.MethodName)) ∈ lw_all := lw_g (lw_at lw_m4 67 rfl) rfl
theorem q915 : (Jvm.Cond.code ({ cls := "HeardPlaces", name := "firstOf", desc := "(J)I" } : Jvm.MethodName) prog_1_method_32_code (2 : Nat) (Option.some Jvm.ClassFile.FieldType.int)) ∈ lw_all := lw_g (lw_at lw_m4 68 rfl) rfl
theorem q916 : (Jvm.Cond.methodLink "HeardPlaces" (316 : Nat) ({ cls := "HeardPlaces", name := "measuresOf", desc := "(I)I" } : Jvm.MethodName)) ∈ lw_all := lw_g (lw_at lw_m4 69 rfl) rfl
theorem q917 : (Jvm.Cond.privateMethod ({ cls := "HeardPlaces", name := "measuresOf", desc := "(I)I" } : Jvm.MethodName)) ∈ lw_tbl := lw_at lw_m4 70 rfl
theorem q918 : (Jvm.Cond.instanceMethod ({ cls := "HeardPlaces", name := "measuresOf", desc := "(I)I" } : Jvm.MethodName)) ∈ lw_all := lw_g (lw_at lw_m4 71 rfl) rfl
theorem q919 : (Jvm.Cond.code ({ cls := "HeardPlaces", name := "measuresOf", desc := "(I)I" } : Jvm.MethodName) prog_1_method_31_code (4 : Nat) (Option.some Jvm.ClassFile.FieldType.int)) ∈ lw_all := lw_g (lw_at lw_m4 72 rfl) rfl
theorem q920 : (Jvm.Cond.methodLink "HeardPlaces" (304 : Nat) ({ cls := "HeardPlaces$Measure", name := "isOf", desc := "(I)Z" } : Jvm.MethodName)) ∈ lw_all := lw_g (lw_at lw_m4 73 rfl) rfl
theorem q930 : (Jvm.Cond.instanceMethod ({ cls := "HeardPlaces", name := "can", desc := "(III)I" } : Jvm.MethodName)) ∈ lw_all := lw_g (lw_at lw_m4 83 rfl) rfl
theorem q931 : (Jvm.Cond.selects "HeardPlaces" ({ cls := "HeardPlaces", name := "can", desc := "(III)I" } : Jvm.MethodName) ({ cls := "HeardPlaces", name := "can", desc := "(III)I" } : Jvm.MethodName)) ∈ lw_all := lw_g (lw_at lw_m4 84 rfl) rfl
theorem q932 : (Jvm.Cond.code ({ cls := "HeardPlaces", name := "can", desc := "(III)I" } : Jvm.MethodName) prog_1_method_34_code (4 : Nat) (Option.some Jvm.ClassFile.FieldType.int)) ∈ lw_all := lw_g (lw_at lw_m4 85 rfl) rfl
theorem q934 : (Jvm.Cond.instanceMethod ({ cls := "HeardPlaces", name := "cells", desc := "(I)J" } : Jvm.MethodName)) ∈ lw_all := lw_g (lw_at lw_m4 87 rfl) rfl
theorem q935 : (Jvm.Cond.selects "HeardPlaces" ({ cls := "HeardPlaces", name := "cells", desc := "(I)J" } : Jvm.MethodName) ({ cls := "HeardPlaces", name := "cells", desc := "(I)J" } : Jvm.MethodName)) ∈ lw_all := lw_g (lw_at lw_m4 88 rfl) rfl
theorem q936 : (Jvm.Cond.code ({ cls := "HeardPlaces", name := "cells", desc := "(I)J" } : Jvm.MethodName) prog_1_method_35_code (2 : Nat) (Option.some Jvm.ClassFile.FieldType.long)) ∈ lw_all := lw_g (lw_at lw_m4 89 rfl) rfl
theorem q938 : (Jvm.Cond.instanceMethod ({ cls := "HeardPlaces", name := "hops", desc := "(III)I" } : Jvm.MethodName)) ∈ lw_all := lw_g (lw_at lw_m4 91 rfl) rfl
theorem q939 : (Jvm.Cond.selects "HeardPlaces" ({ cls := "HeardPlaces", name := "hops", desc := "(III)I" } : Jvm.MethodName) ({ cls := "HeardPlaces", name := "hops", desc := "(III)I" } : Jvm.MethodName)) ∈ lw_all := lw_g (lw_at lw_m4 92 rfl) rfl
theorem q940 : (Jvm.Cond.code ({ cls := "HeardPlaces", name := "hops", desc := "(III)I" } : Jvm.MethodName) prog_1_method_36_code (4 : Nat) (Option.some Jvm.ClassFile.FieldType.int)) ∈ lw_all := lw_g (lw_at lw_m4 93 rfl) rfl
theorem q941 : (Jvm.Cond.constantLong "HeardPlaces" (328 : Nat) (98 : Int64)) ∈ lw_all := lw_g (lw_at lw_m4 94 rfl) rfl
theorem q942 : (Jvm.Cond.methodLink "HeardPlaces" (330 : Nat) ({ cls := "HeardPlaces", name := "hopsOf", desc := "(III)I" } : Jvm.MethodName)) ∈ lw_all := lw_g (lw_at lw_m4 95 rfl) rfl
theorem q943 : (Jvm.Cond.privateMethod ({ cls := "HeardPlaces", name := "hopsOf", desc := "(III)I" } : Jvm.MethodName)) ∈ lw_tbl := lw_at lw_m4 96 rfl
theorem q944 : (Jvm.Cond.instanceMethod ({ cls := "HeardPlaces", name := "hopsOf", desc := "(III)I" } : Jvm.MethodName)) ∈ lw_all := lw_g (lw_at lw_m4 97 rfl) rfl
theorem q945 : (Jvm.Cond.code ({ cls := "HeardPlaces", name := "hopsOf", desc := "(III)I" } : Jvm.MethodName) prog_1_method_19_code (9 : Nat) (Option.some Jvm.ClassFile.FieldType.int)) ∈ lw_all := lw_g (lw_at lw_m4 98 rfl) rfl
theorem q946 : (Jvm.Cond.methodLink "HeardPlaces" (176 : Nat) ({ cls := "HeardPlaces", name := "layHops", desc := "(I)V" } : Jvm.MethodName)) ∈ lw_all := lw_g (lw_at lw_m4 99 rfl) rfl
theorem q948 : (Jvm.Cond.instanceMethod ({ cls := "HeardPlaces", name := "measure", desc := "(IIIII)I" } : Jvm.MethodName)) ∈ lw_all := lw_g (lw_at lw_m4 101 rfl) rfl
theorem q949 : (Jvm.Cond.selects "HeardPlaces" ({ cls := "HeardPlaces", name := "measure", desc := "(IIIII)I" } : Jvm.MethodName) ({ cls := "HeardPlaces", name := "measure", desc := "(IIIII)I" } : Jvm.MethodName)) ∈ lw_all := lw_g (lw_at lw_m4 102 rfl) rfl
theorem q950 : (Jvm.Cond.code ({ cls := "HeardPlaces", name := "measure", desc := "(IIIII)I" } : Jvm.MethodName) prog_1_method_42_code (6 : Nat) (Option.some Jvm.ClassFile.FieldType.int)) ∈ lw_all := lw_g (lw_at lw_m4 103 rfl) rfl
theorem q951 : (Jvm.Cond.methodLink "HeardPlaces" (367 : Nat) ({ cls := "HeardPlaces", name := "mayMeasure", desc := "(III)Z" } : Jvm.MethodName)) ∈ lw_all := lw_g (lw_at lw_m4 104 rfl) rfl
theorem q952 : (Jvm.Cond.static ({ cls := "HeardPlaces", name := "mayMeasure", desc := "(III)Z" } : Jvm.MethodName)) ∈ lw_all := lw_g (lw_at lw_m4 105 rfl) rfl
theorem q953 : (Jvm.Cond.code ({ cls := "HeardPlaces", name := "mayMeasure", desc := "(III)Z" } : Jvm.MethodName) prog_1_method_39_code (3 : Nat) (Option.some Jvm.ClassFile.FieldType.boolean)) ∈ lw_all := lw_g (lw_at lw_m4 106 rfl) rfl
theorem q954 : (Jvm.Cond.methodLink "HeardPlaces" (334 : Nat) ({ cls := "HeardPlaces", name := "isDistance", desc := "(I)Z" } : Jvm.MethodName)) ∈ lw_all := lw_g (lw_at lw_m4 107 rfl) rfl
theorem q955 : (Jvm.Cond.static ({ cls := "HeardPlaces", name := "isDistance", desc := "(I)Z" } : Jvm.MethodName)) ∈ lw_all := lw_g (lw_at lw_m4 108 rfl) rfl
theorem q956 : (Jvm.Cond.code ({ cls := "HeardPlaces", name := "isDistance", desc := "(I)Z" } : Jvm.MethodName) prog_1_method_38_code (1 : Nat) (Option.some Jvm.ClassFile.FieldType.boolean)) ∈ lw_all := lw_g (lw_at lw_m4 109 rfl) rfl
theorem q957 : (Jvm.Cond.constantLong "HeardPlaces" (339 : Nat) (20 : Int64)) ∈ lw_all := lw_g (lw_at lw_m4 110 rfl) rfl
theorem q958 : (Jvm.Cond.methodLink "HeardPlaces" (371 : Nat) ({ cls := "HeardPlaces", name := "lays", desc := "(IIIII)I" } : Jvm.MethodName)) ∈ lw_all := lw_g (lw_at lw_m4 111 rfl) rfl
theorem q959 : (Jvm.Cond.privateMethod ({ cls := "HeardPlaces", name := "lays", desc := "(IIIII)I" } : Jvm.MethodName)) ∈ lw_tbl := lw_at lw_m4 112 rfl
theorem q960 : (Jvm.Cond.instanceMethod ({ cls := "HeardPlaces", name := "lays", desc := "(IIIII)I" } : Jvm.MethodName)) ∈ lw_all := lw_g (lw_at lw_m4 113 rfl) rfl
theorem q961 : (Jvm.Cond.code ({ cls := "HeardPlaces", name := "lays", desc := "(IIIII)I" } : Jvm.MethodName) prog_1_method_41_code (7 : Nat) (Option.some Jvm.ClassFile.FieldType.int)) ∈ lw_all := lw_g (lw_at lw_m4 114 rfl) rfl
theorem q962 : (Jvm.Cond.methodLink "HeardPlaces" (360 : Nat) ({ cls := "HeardPlaces", name := "made", desc := "(IIIII)LHeardPlaces$Measure;" } : Jvm.MethodName)) ∈ lw_all := lw_g (lw_at lw_m4 115 rfl) rfl
theorem q963 : (Jvm.Cond.privateMethod ({ cls := "HeardPlaces", name := "made", desc := "(IIIII)LHeardPlaces$Measure;" } : Jvm.MethodName)) ∈ lw_tbl := lw_at lw_m4 116 rfl
theorem q964 : (Jvm.Cond.instanceMethod ({ cls := "HeardPlaces", name := "made", desc := "(IIIII)LHeardPlaces$Measure;" } : Jvm.MethodName)) ∈ lw_all := lw_g (lw_at lw_m4 117 rfl) rfl
theorem q965 : (Jvm.Cond.code ({ cls := "HeardPlaces", name := "made", desc := "(IIIII)LHeardPlaces$Measure;" } : Jvm.MethodName) prog_1_method_40_code (6 : Nat) (Option.some (Jvm.ClassFile.FieldType.object "HeardPlaces$Measure"))) ∈ lw_all := lw_g (lw_at lw_m4 118 rfl) rfl
theorem q966 : (Jvm.Cond.classLink "HeardPlaces" (341 : Nat) "HeardPlaces$Far") ∈ lw_all := lw_g (lw_at lw_m4 119 rfl) rfl
theorem q968 : (Jvm.Cond.methodLink "HeardPlaces" (343 : Nat) ({ cls := "HeardPlaces$Far", name := "<init>", desc := "(LHeardPlaces;IIIII)V" } : Jvm.MethodName)) ∈ lw_all := lw_g (lw_at lw_m4 121 rfl) rfl
theorem q983 : (Jvm.Cond.fieldLinkNest "HeardPlaces" (687 : Nat) "HeardPlaces$Measure" "number" "I" "HeardPlaces") ∈ lw_tbl := lw_at lw_m4 136 rfl
theorem q985 : (Jvm.Cond.fieldLinkNest "HeardPlaces" (399 : Nat) "HeardPlaces$Measure" "kind" "I" "HeardPlaces") ∈ lw_tbl := lw_at lw_m4 138 rfl
theorem q987 : (Jvm.Cond.fieldLink "HeardPlaces" (401 : Nat) "HeardPlaces$Measure" "a" "I") ∈ lw_all := lw_g (lw_at lw_m4 140 rfl) rfl
theorem q989 : (Jvm.Cond.fieldLink "HeardPlaces" (404 : Nat) "HeardPlaces$Measure" "b" "I") ∈ lw_all := lw_g (lw_at lw_m4 142 rfl) rfl
theorem q991 : (Jvm.Cond.fieldLinkNest "HeardPlaces" (302 : Nat) "HeardPlaces$Measure" "isOn" "Z" "HeardPlaces") ∈ lw_tbl := lw_at lw_m4 144 rfl
theorem q995 : (Jvm.Cond.fieldLink "HeardPlaces" (419 : Nat) "HeardPlaces$Measure" "toB" "[J") ∈ lw_all := lw_g (lw_at lw_m4 148 rfl) rfl
theorem q999 : (Jvm.Cond.fieldLink "HeardPlaces" (435 : Nat) "HeardPlaces$Measure" "toA" "[J") ∈ lw_all := lw_g (lw_at lw_m4 152 rfl) rfl
theorem q1024 : (Jvm.Cond.classLink "HeardPlaces" (346 : Nat) "HeardPlaces$Hears") ∈ lw_all := lw_g (lw_at lw_m4 177 rfl) rfl
theorem q1026 : (Jvm.Cond.methodLink "HeardPlaces" (348 : Nat) ({ cls := "HeardPlaces$Hears", name := "<init>", desc := "(LHeardPlaces;IIII)V" } : Jvm.MethodName)) ∈ lw_all := lw_g (lw_at lw_m4 179 rfl) rfl
theorem q1045 : (Jvm.Cond.classLink "HeardPlaces" (351 : Nat) "HeardPlaces$Deaf") ∈ lw_all := lw_g (lw_at lw_m4 198 rfl) rfl
theorem q1047 : (Jvm.Cond.methodLink "HeardPlaces" (353 : Nat) ({ cls := "HeardPlaces$Deaf", name := "<init>", desc := "(LHeardPlaces;III)V" } : Jvm.MethodName)) ∈ lw_all := lw_g (lw_at lw_m4 200 rfl) rfl
theorem q1067 : (Jvm.Cond.classLink "HeardPlaces" (354 : Nat) "HeardPlaces$Side") ∈ lw_all := lw_g (lw_at lw_m4 220 rfl) rfl
theorem q1069 : (Jvm.Cond.methodLink "HeardPlaces" (356 : Nat) ({ cls := "HeardPlaces$Side", name := "<init>", desc := "(LHeardPlaces;III)V" } : Jvm.MethodName)) ∈ lw_all := lw_g (lw_at lw_m4 222 rfl) rfl
theorem q1088 : (Jvm.Cond.classLink "HeardPlaces" (357 : Nat) "HeardPlaces$Steps") ∈ lw_all := lw_g (lw_at lw_m5 1 rfl) rfl
theorem q1090 : (Jvm.Cond.methodLink "HeardPlaces" (359 : Nat) ({ cls := "HeardPlaces$Steps", name := "<init>", desc := "(LHeardPlaces;IIII)V" } : Jvm.MethodName)) ∈ lw_all := lw_g (lw_at lw_m5 3 rfl) rfl
theorem q1113 : (Jvm.Cond.methodLink "HeardPlaces" (364 : Nat) ({ cls := "HeardPlaces$Measure", name := "make", desc := "()V" } : Jvm.MethodName)) ∈ lw_all := lw_g (lw_at lw_m5 26 rfl) rfl
theorem q1151 : (Jvm.Cond.instanceMethod ({ cls := "HeardPlaces", name := "measures", desc := "(IIII)I" } : Jvm.MethodName)) ∈ lw_all := lw_g (lw_at lw_m5 64 rfl) rfl
theorem q1152 : (Jvm.Cond.selects "HeardPlaces" ({ cls := "HeardPlaces", name := "measures", desc := "(IIII)I" } : Jvm.MethodName) ({ cls := "HeardPlaces", name := "measures", desc := "(IIII)I" } : Jvm.MethodName)) ∈ lw_all := lw_g (lw_at lw_m5 65 rfl) rfl
theorem q1153 : (Jvm.Cond.codeWith ({ cls := "HeardPlaces", name := "measures", desc := "(IIII)I" } : Jvm.MethodName) prog_1_method_46_code (6 : Nat) (Option.some Jvm.ClassFile.FieldType.int) [((24 : Nat), (49 : Nat), (50 : Nat), (263 : Nat)), ((24 : Nat), (49 : Nat), (58 : Nat), (268 : Nat)), ((24 : Nat), (49 : Nat), (66 : Nat), (394 : Nat))]) ∈ lw_all := lw_g (lw_at lw_m5 66 rfl) rfl
theorem q1154 : (Jvm.Cond.classLink "HeardPlaces" (394 : Nat) "java/lang/NegativeArraySizeException") ∈ lw_all := lw_g (lw_at lw_m5 67 rfl) rfl
theorem q1168 : (Jvm.Cond.methodLink "HeardPlaces" (387 : Nat) ({ cls := "HeardPlaces", name := "askedFor", desc := "(Ljava/lang/Object;I)Ljava/lang/Object;" } : Jvm.MethodName)) ∈ lw_all := lw_g (lw_at lw_m5 81 rfl) rfl
theorem q1169 : (Jvm.Cond.static ({ cls := "HeardPlaces", name := "askedFor", desc := "(Ljava/lang/Object;I)Ljava/lang/Object;" } : Jvm.MethodName)) ∈ lw_all := lw_g (lw_at lw_m5 82 rfl) rfl
theorem q1170 : (Jvm.Cond.code ({ cls := "HeardPlaces", name := "askedFor", desc := "(Ljava/lang/Object;I)Ljava/lang/Object;" } : Jvm.MethodName) prog_1_method_45_code (4 : Nat) (Option.some (Jvm.ClassFile.FieldType.object "java/lang/Object"))) ∈ lw_all := lw_g (lw_at lw_m5 83 rfl) rfl
theorem q1171 : (Jvm.Cond.methodLink "HeardPlaces" (382 : Nat) ({ cls := "java/lang/Math", name := "min", desc := "(II)I" } : Jvm.MethodName)) ∈ lw_all := lw_g (lw_at lw_m5 84 rfl) rfl
theorem q1172 : (Jvm.Cond.methodLink "HeardPlaces" (390 : Nat) ({ cls := "HeardPlaces", name := "comeFrom", desc := "(Ljava/lang/Object;II)I" } : Jvm.MethodName)) ∈ lw_all := lw_g (lw_at lw_m5 85 rfl) rfl
theorem q1173 : (Jvm.Cond.privateMethod ({ cls := "HeardPlaces", name := "comeFrom", desc := "(Ljava/lang/Object;II)I" } : Jvm.MethodName)) ∈ lw_tbl := lw_at lw_m5 86 rfl
theorem q1174 : (Jvm.Cond.instanceMethod ({ cls := "HeardPlaces", name := "comeFrom", desc := "(Ljava/lang/Object;II)I" } : Jvm.MethodName)) ∈ lw_all := lw_g (lw_at lw_m5 87 rfl) rfl
theorem q1175 : (Jvm.Cond.codeWith ({ cls := "HeardPlaces", name := "comeFrom", desc := "(Ljava/lang/Object;II)I" } : Jvm.MethodName) prog_1_method_44_code (6 : Nat) (Option.some Jvm.ClassFile.FieldType.int) [((3 : Nat), (29 : Nat), (32 : Nat), (234 : Nat))]) ∈ lw_all := lw_g (lw_at lw_m5 88 rfl) rfl
theorem q1176 : (Jvm.Cond.methodLink "HeardPlaces" (378 : Nat) ({ cls := "HeardPlaces", name := "oneOf", desc := "(Ljava/lang/Object;I)I" } : Jvm.MethodName)) ∈ lw_all := lw_g (lw_at lw_m5 89 rfl) rfl
theorem q1177 : (Jvm.Cond.privateMethod ({ cls := "HeardPlaces", name := "oneOf", desc := "(Ljava/lang/Object;I)I" } : Jvm.MethodName)) ∈ lw_tbl := lw_at lw_m5 90 rfl
theorem q1178 : (Jvm.Cond.instanceMethod ({ cls := "HeardPlaces", name := "oneOf", desc := "(Ljava/lang/Object;I)I" } : Jvm.MethodName)) ∈ lw_all := lw_g (lw_at lw_m5 91 rfl) rfl
theorem q1179 : (Jvm.Cond.code ({ cls := "HeardPlaces", name := "oneOf", desc := "(Ljava/lang/Object;I)I" } : Jvm.MethodName) prog_1_method_43_code (3 : Nat) (Option.some Jvm.ClassFile.FieldType.int)) ∈ lw_all := lw_g (lw_at lw_m5 92 rfl) rfl
theorem q1180 : (Jvm.Cond.methodLink "HeardPlaces" (375 : Nat) ({ cls := "HeardPlaces", name := "measure", desc := "(IIIII)I" } : Jvm.MethodName)) ∈ lw_all := lw_g (lw_at lw_m5 93 rfl) rfl
theorem q1182 : (Jvm.Cond.instanceMethod ({ cls := "HeardPlaces", name := "turn", desc := "(IZ)I" } : Jvm.MethodName)) ∈ lw_all := lw_g (lw_at lw_m5 95 rfl) rfl
theorem q1183 : (Jvm.Cond.selects "HeardPlaces" ({ cls := "HeardPlaces", name := "turn", desc := "(IZ)I" } : Jvm.MethodName) ({ cls := "HeardPlaces", name := "turn", desc := "(IZ)I" } : Jvm.MethodName)) ∈ lw_all := lw_g (lw_at lw_m5 96 rfl) rfl
theorem q1184 : (Jvm.Cond.code ({ cls := "HeardPlaces", name := "turn", desc := "(IZ)I" } : Jvm.MethodName) prog_1_method_47_code (3 : Nat) (Option.some Jvm.ClassFile.FieldType.int)) ∈ lw_all := lw_g (lw_at lw_m5 97 rfl) rfl
theorem q1185 : (Jvm.Cond.methodLink "HeardPlaces" (396 : Nat) ({ cls := "HeardPlaces", name := "isMeasure", desc := "(I)Z" } : Jvm.MethodName)) ∈ lw_all := lw_g (lw_at lw_m5 98 rfl) rfl
theorem q1186 : (Jvm.Cond.privateMethod ({ cls := "HeardPlaces", name := "isMeasure", desc := "(I)Z" } : Jvm.MethodName)) ∈ lw_tbl := lw_at lw_m5 99 rfl
theorem q1187 : (Jvm.Cond.instanceMethod ({ cls := "HeardPlaces", name := "isMeasure", desc := "(I)Z" } : Jvm.MethodName)) ∈ lw_all := lw_g (lw_at lw_m5 100 rfl) rfl
theorem q1188 : (Jvm.Cond.code ({ cls := "HeardPlaces", name := "isMeasure", desc := "(I)Z" } : Jvm.MethodName) prog_1_method_37_code (2 : Nat) (Option.some Jvm.ClassFile.FieldType.boolean)) ∈ lw_all := lw_g (lw_at lw_m5 101 rfl) rfl
theorem q1190 : (Jvm.Cond.instanceMethod ({ cls := "HeardPlaces", name := "told", desc := "(II)I" } : Jvm.MethodName)) ∈ lw_all := lw_g (lw_at lw_m5 103 rfl) rfl
theorem q1191 : (Jvm.Cond.selects "HeardPlaces" ({ cls := "HeardPlaces", name := "told", desc := "(II)I" } : Jvm.MethodName) ({ cls := "HeardPlaces", name := "told", desc := "(II)I" } : Jvm.MethodName)) ∈ lw_all := lw_g (lw_at lw_m5 104 rfl) rfl
theorem q1192 : (Jvm.Cond.code ({ cls := "HeardPlaces", name := "told", desc := "(II)I" } : Jvm.MethodName) prog_1_method_48_code (4 : Nat) (Option.some Jvm.ClassFile.FieldType.int)) ∈ lw_all := lw_g (lw_at lw_m5 105 rfl) rfl
theorem q1193 : (Jvm.Cond.methodLink "HeardPlaces" (407 : Nat) ({ cls := "HeardPlaces$Measure", name := "p", desc := "()I" } : Jvm.MethodName)) ∈ lw_all := lw_g (lw_at lw_m5 106 rfl) rfl
theorem q1208 : (Jvm.Cond.methodLink "HeardPlaces" (410 : Nat) ({ cls := "HeardPlaces$Measure", name := "q", desc := "()I" } : Jvm.MethodName)) ∈ lw_all := lw_g (lw_at lw_m5 121 rfl) rfl
theorem q1219 : (Jvm.Cond.methodLink "HeardPlaces" (413 : Nat) ({ cls := "HeardPlaces", name := "findQuarrel", desc := "()V" } : Jvm.MethodName)) ∈ lw_all := lw_g (lw_at lw_m5 132 rfl) rfl
theorem q1220 : (Jvm.Cond.privateMethod ({ cls := "HeardPlaces", name := "findQuarrel", desc := "()V" } : Jvm.MethodName)) ∈ lw_tbl := lw_at lw_m5 133 rfl
theorem q1221 : (Jvm.Cond.instanceMethod ({ cls := "HeardPlaces", name := "findQuarrel", desc := "()V" } : Jvm.MethodName)) ∈ lw_all := lw_g (lw_at lw_m5 134 rfl) rfl
theorem q1222 : (Jvm.Cond.code ({ cls := "HeardPlaces", name := "findQuarrel", desc := "()V" } : Jvm.MethodName) prog_1_method_58_code (2 : Nat) (Option.none : Option Jvm.ClassFile.FieldType)) ∈ lw_all := lw_g (lw_at lw_m5 135 rfl) rfl
theorem q1223 : (Jvm.Cond.methodLink "HeardPlaces" (449 : Nat) ({ cls := "HeardPlaces", name := "isEmpty", desc := "([J)Z" } : Jvm.MethodName)) ∈ lw_all := lw_g (lw_at lw_m5 136 rfl) rfl
theorem q1224 : (Jvm.Cond.privateMethod ({ cls := "HeardPlaces", name := "isEmpty", desc := "([J)Z" } : Jvm.MethodName)) ∈ lw_tbl := lw_at lw_m5 137 rfl
theorem q1225 : (Jvm.Cond.instanceMethod ({ cls := "HeardPlaces", name := "isEmpty", desc := "([J)Z" } : Jvm.MethodName)) ∈ lw_all := lw_g (lw_at lw_m5 138 rfl) rfl
theorem q1226 : (Jvm.Cond.code ({ cls := "HeardPlaces", name := "isEmpty", desc := "([J)Z" } : Jvm.MethodName) prog_1_method_56_code (4 : Nat) (Option.some Jvm.ClassFile.FieldType.boolean)) ∈ lw_all := lw_g (lw_at lw_m5 139 rfl) rfl
theorem q1227 : (Jvm.Cond.methodLink "HeardPlaces" (456 : Nat) ({ cls := "HeardPlaces", name := "isStillQuarrel", desc := "()Z" } : Jvm.MethodName)) ∈ lw_all := lw_g (lw_at lw_m5 140 rfl) rfl
theorem q1228 : (Jvm.Cond.privateMethod ({ cls := "HeardPlaces", name := "isStillQuarrel", desc := "()Z" } : Jvm.MethodName)) ∈ lw_tbl := lw_at lw_m5 141 rfl
theorem q1229 : (Jvm.Cond.instanceMethod ({ cls := "HeardPlaces", name := "isStillQuarrel", desc := "()Z" } : Jvm.MethodName)) ∈ lw_all := lw_g (lw_at lw_m5 142 rfl) rfl
theorem q1230 : (Jvm.Cond.code ({ cls := "HeardPlaces", name := "isStillQuarrel", desc := "()Z" } : Jvm.MethodName) prog_1_method_57_code (1 : Nat) (Option.some Jvm.ClassFile.FieldType.boolean)) ∈ lw_all := lw_g (lw_at lw_m5 143 rfl) rfl
theorem q1232 : (Jvm.Cond.instanceMethod ({ cls := "HeardPlaces", name := "keeps", desc := "(III)I" } : Jvm.MethodName)) ∈ lw_all := lw_g (lw_at lw_m5 145 rfl) rfl
theorem q1233 : (Jvm.Cond.selects "HeardPlaces" ({ cls := "HeardPlaces", name := "keeps", desc := "(III)I" } : Jvm.MethodName) ({ cls := "HeardPlaces", name := "keeps", desc := "(III)I" } : Jvm.MethodName)) ∈ lw_all := lw_g (lw_at lw_m5 146 rfl) rfl
theorem q1234 : (Jvm.Cond.code ({ cls := "HeardPlaces", name := "keeps", desc := "(III)I" } : Jvm.MethodName) prog_1_method_49_code (4 : Nat) (Option.some Jvm.ClassFile.FieldType.int)) ∈ lw_all := lw_g (lw_at lw_m5 147 rfl) rfl
theorem q1236 : (Jvm.Cond.instanceMethod ({ cls := "HeardPlaces", name := "quarrel", desc := "()I" } : Jvm.MethodName)) ∈ lw_all := lw_g (lw_at lw_m5 149 rfl) rfl
theorem q1237 : (Jvm.Cond.selects "HeardPlaces" ({ cls := "HeardPlaces", name := "quarrel", desc := "()I" } : Jvm.MethodName) ({ cls := "HeardPlaces", name := "quarrel", desc := "()I" } : Jvm.MethodName)) ∈ lw_all := lw_g (lw_at lw_m5 150 rfl) rfl
theorem q1238 : (Jvm.Cond.code ({ cls := "HeardPlaces", name := "quarrel", desc := "()I" } : Jvm.MethodName) prog_1_method_59_code (1 : Nat) (Option.some Jvm.ClassFile.FieldType.int)) ∈ lw_all := lw_g (lw_at lw_m5 151 rfl) rfl
theorem q1240 : (Jvm.Cond.instanceMethod ({ cls := "HeardPlaces", name := "group", desc := "(I)I" } : Jvm.MethodName)) ∈ lw_all := lw_g (lw_at lw_m5 153 rfl) rfl
theorem q1241 : (Jvm.Cond.selects "HeardPlaces" ({ cls := "HeardPlaces", name := "group", desc := "(I)I" } : Jvm.MethodName) ({ cls := "HeardPlaces", name := "group", desc := "(I)I" } : Jvm.MethodName)) ∈ lw_all := lw_g (lw_at lw_m5 154 rfl) rfl
theorem q1242 : (Jvm.Cond.code ({ cls := "HeardPlaces", name := "group", desc := "(I)I" } : Jvm.MethodName) prog_1_method_63_code (2 : Nat) (Option.some Jvm.ClassFile.FieldType.int)) ∈ lw_all := lw_g (lw_at lw_m5 155 rfl) rfl
theorem q1243 : (Jvm.Cond.methodLink "HeardPlaces" (466 : Nat) ({ cls := "HeardPlaces", name := "groupOf", desc := "(I)I" } : Jvm.MethodName)) ∈ lw_all := lw_g (lw_at lw_m5 156 rfl) rfl
theorem q1244 : (Jvm.Cond.privateMethod ({ cls := "HeardPlaces", name := "groupOf", desc := "(I)I" } : Jvm.MethodName)) ∈ lw_tbl := lw_at lw_m5 157 rfl
theorem q1245 : (Jvm.Cond.instanceMethod ({ cls := "HeardPlaces", name := "groupOf", desc := "(I)I" } : Jvm.MethodName)) ∈ lw_all := lw_g (lw_at lw_m5 158 rfl) rfl
theorem q1246 : (Jvm.Cond.code ({ cls := "HeardPlaces", name := "groupOf", desc := "(I)I" } : Jvm.MethodName) prog_1_method_62_code (2 : Nat) (Option.some Jvm.ClassFile.FieldType.int)) ∈ lw_all := lw_g (lw_at lw_m5 159 rfl) rfl
theorem q1247 : (Jvm.Cond.methodLink "HeardPlaces" (463 : Nat) ({ cls := "HeardPlaces", name := "comeTo", desc := "(II)I" } : Jvm.MethodName)) ∈ lw_all := lw_g (lw_at lw_m5 160 rfl) rfl
theorem q1248 : (Jvm.Cond.privateMethod ({ cls := "HeardPlaces", name := "comeTo", desc := "(II)I" } : Jvm.MethodName)) ∈ lw_tbl := lw_at lw_m5 161 rfl
theorem q1249 : (Jvm.Cond.instanceMethod ({ cls := "HeardPlaces", name := "comeTo", desc := "(II)I" } : Jvm.MethodName)) ∈ lw_all := lw_g (lw_at lw_m5 162 rfl) rfl
theorem q1250 : (Jvm.Cond.code ({ cls := "HeardPlaces", name := "comeTo", desc := "(II)I" } : Jvm.MethodName) prog_1_method_61_code (8 : Nat) (Option.some Jvm.ClassFile.FieldType.int)) ∈ lw_all := lw_g (lw_at lw_m5 163 rfl) rfl
theorem q1251 : (Jvm.Cond.methodLink "HeardPlaces" (459 : Nat) ({ cls := "HeardPlaces", name := "isJoining", desc := "(LHeardPlaces$Measure;)Z" } : Jvm.MethodName)) ∈ lw_all := lw_g (lw_at lw_m5 164 rfl) rfl
theorem q1252 : (Jvm.Cond.privateMethod ({ cls := "HeardPlaces", name := "isJoining", desc := "(LHeardPlaces$Measure;)Z" } : Jvm.MethodName)) ∈ lw_tbl := lw_at lw_m5 165 rfl
theorem q1253 : (Jvm.Cond.instanceMethod ({ cls := "HeardPlaces", name := "isJoining", desc := "(LHeardPlaces$Measure;)Z" } : Jvm.MethodName)) ∈ lw_all := lw_g (lw_at lw_m5 166 rfl) rfl
theorem q1254 : (Jvm.Cond.code ({ cls := "HeardPlaces", name := "isJoining", desc := "(LHeardPlaces$Measure;)Z" } : Jvm.MethodName) prog_1_method_60_code (2 : Nat) (Option.some Jvm.ClassFile.FieldType.boolean)) ∈ lw_all := lw_g (lw_at lw_m5 167 rfl) rfl
theorem q1256 : (Jvm.Cond.instanceMethod ({ cls := "HeardPlaces", name := "alone", desc := "(Z)I" } : Jvm.MethodName)) ∈ lw_all := lw_g (lw_at lw_m5 169 rfl) rfl
theorem q1257 : (Jvm.Cond.selects "HeardPlaces" ({ cls := "HeardPlaces", name := "alone", desc := "(Z)I" } : Jvm.MethodName) ({ cls := "HeardPlaces", name := "alone", desc := "(Z)I" } : Jvm.MethodName)) ∈ lw_all := lw_g (lw_at lw_m5 170 rfl) rfl
theorem q1258 : (Jvm.Cond.code ({ cls := "HeardPlaces", name := "alone", desc := "(Z)I" } : Jvm.MethodName) prog_1_method_64_code (2 : Nat) (Option.some Jvm.ClassFile.FieldType.int)) ∈ lw_all := lw_g (lw_at lw_m5 171 rfl) rfl
theorem q1260 : (Jvm.Cond.instanceMethod ({ cls := "HeardPlaces", name := "placings", desc := "(I)I" } : Jvm.MethodName)) ∈ lw_all := lw_g (lw_at lw_m5 173 rfl) rfl
theorem q1261 : (Jvm.Cond.selects "HeardPlaces" ({ cls := "HeardPlaces", name := "placings", desc := "(I)I" } : Jvm.MethodName) ({ cls := "HeardPlaces", name := "placings", desc := "(I)I" } : Jvm.MethodName)) ∈ lw_all := lw_g (lw_at lw_m5 174 rfl) rfl
theorem q1262 : (Jvm.Cond.code ({ cls := "HeardPlaces", name := "placings", desc := "(I)I" } : Jvm.MethodName) prog_1_method_72_code (3 : Nat) (Option.some Jvm.ClassFile.FieldType.int)) ∈ lw_all := lw_g (lw_at lw_m5 175 rfl) rfl
theorem q1263 : (Jvm.Cond.methodLink "HeardPlaces" (535 : Nat) ({ cls := "HeardPlaces", name := "isPlaced", desc := "(I)Z" } : Jvm.MethodName)) ∈ lw_all := lw_g (lw_at lw_m5 176 rfl) rfl
theorem q1264 : (Jvm.Cond.privateMethod ({ cls := "HeardPlaces", name := "isPlaced", desc := "(I)Z" } : Jvm.MethodName)) ∈ lw_tbl := lw_at lw_m5 177 rfl
theorem q1265 : (Jvm.Cond.instanceMethod ({ cls := "HeardPlaces", name := "isPlaced", desc := "(I)Z" } : Jvm.MethodName)) ∈ lw_all := lw_g (lw_at lw_m5 178 rfl) rfl
theorem q1266 : (Jvm.Cond.codeWith ({ cls := "HeardPlaces", name := "isPlaced", desc := "(I)Z" } : Jvm.MethodName) prog_1_method_71_code (3 : Nat) (Option.some Jvm.ClassFile.FieldType.boolean) [((0 : Nat), (10 : Nat), (11 : Nat), (522 : Nat))]) ∈ lw_all := lw_g (lw_at lw_m5 179 rfl) rfl
theorem q1267 : (Jvm.Cond.classLink "HeardPlaces" (522 : Nat) "HeardPlaces$TooMany") ∈ lw_all := lw_g (lw_at lw_m5 180 rfl) rfl
theorem q1268 : (Jvm.Cond.methodLink "HeardPlaces" (532 : Nat) ({ cls := "HeardPlaces", name := "place", desc := "(I)V" } : Jvm.MethodName)) ∈ lw_all := lw_g (lw_at lw_m5 181 rfl) rfl
theorem q1269 : (Jvm.Cond.privateMethod ({ cls := "HeardPlaces", name := "place", desc := "(I)V" } : Jvm.MethodName)) ∈ lw_tbl := lw_at lw_m5 182 rfl
theorem q1270 : (Jvm.Cond.instanceMethod ({ cls := "HeardPlaces", name := "place", desc := "(I)V" } : Jvm.MethodName)) ∈ lw_all := lw_g (lw_at lw_m5 183 rfl) rfl
theorem q1271 : (Jvm.Cond.code ({ cls := "HeardPlaces", name := "place", desc := "(I)V" } : Jvm.MethodName) prog_1_method_70_code (4 : Nat) (Option.none : Option Jvm.ClassFile.FieldType)) ∈ lw_all := lw_g (lw_at lw_m5 184 rfl) rfl
theorem q1272 : (Jvm.Cond.methodLink "HeardPlaces" (528 : Nat) ({ cls := "java/lang/Integer", name := "bitCount", desc := "(I)I" } : Jvm.MethodName)) ∈ lw_all := lw_g (lw_at lw_m5 185 rfl) rfl
theorem q1286 : (Jvm.Cond.methodLink "HeardPlaces" (524 : Nat) ({ cls := "HeardPlaces$TooMany", name := "<init>", desc := "()V" } : Jvm.MethodName)) ∈ lw_all := lw_g (lw_at lw_m5 199 rfl) rfl
theorem q1298 : (Jvm.Cond.methodLink "HeardPlaces" (525 : Nat) ({ cls := "HeardPlaces", name := "seek", desc := "(I)V" } : Jvm.MethodName)) ∈ lw_all := lw_g (lw_at lw_m5 211 rfl) rfl
theorem q1299 : (Jvm.Cond.privateMethod ({ cls := "HeardPlaces", name := "seek", desc := "(I)V" } : Jvm.MethodName)) ∈ lw_tbl := lw_at lw_m5 212 rfl
theorem q1300 : (Jvm.Cond.instanceMethod ({ cls := "HeardPlaces", name := "seek", desc := "(I)V" } : Jvm.MethodName)) ∈ lw_all := lw_g (lw_at lw_m5 213 rfl) rfl
theorem q1301 : (Jvm.Cond.code ({ cls := "HeardPlaces", name := "seek", desc := "(I)V" } : Jvm.MethodName) prog_1_method_69_code (6 : Nat) (Option.none : Option Jvm.ClassFile.FieldType)) ∈ lw_all := lw_g (lw_at lw_m5 214 rfl) rfl
theorem q1302 : (Jvm.Cond.methodLink "HeardPlaces" (512 : Nat) ({ cls := "HeardPlaces", name := "note", desc := "()V" } : Jvm.MethodName)) ∈ lw_all := lw_g (lw_at lw_m5 215 rfl) rfl
theorem q1303 : (Jvm.Cond.privateMethod ({ cls := "HeardPlaces", name := "note", desc := "()V" } : Jvm.MethodName)) ∈ lw_tbl := lw_at lw_m5 216 rfl
theorem q1304 : (Jvm.Cond.instanceMethod ({ cls := "HeardPlaces", name := "note", desc := "()V" } : Jvm.MethodName)) ∈ lw_all := lw_g (lw_at lw_m5 217 rfl) rfl
theorem q1305 : (Jvm.Cond.code ({ cls := "HeardPlaces", name := "note", desc := "()V" } : Jvm.MethodName) prog_1_method_65_code (3 : Nat) (Option.none : Option Jvm.ClassFile.FieldType)) ∈ lw_all := lw_g (lw_at lw_m5 218 rfl) rfl
theorem q1306 : (Jvm.Cond.methodLink "HeardPlaces" (475 : Nat) ({ cls := "java/lang/System", name := "arraycopy", desc := "(Ljava/lang/Object;ILjava/lang/Object;II)V" } : Jvm.MethodName)) ∈ lw_all := lw_g (lw_at lw_m5 219 rfl) rfl
theorem q1307 : (Jvm.Cond.methodLink "HeardPlaces" (490 : Nat) ({ cls := "HeardPlaces", name := "hasAt", desc := "(II)Z" } : Jvm.MethodName)) ∈ lw_all := lw_g (lw_at lw_m5 220 rfl) rfl
theorem q1308 : (Jvm.Cond.privateMethod ({ cls := "HeardPlaces", name := "hasAt", desc := "(II)Z" } : Jvm.MethodName)) ∈ lw_tbl := lw_at lw_m5 221 rfl
theorem q1309 : (Jvm.Cond.instanceMethod ({ cls := "HeardPlaces", name := "hasAt", desc := "(II)Z" } : Jvm.MethodName)) ∈ lw_all := lw_g (lw_at lw_m5 222 rfl) rfl
theorem q1310 : (Jvm.Cond.code ({ cls := "HeardPlaces", name := "hasAt", desc := "(II)Z" } : Jvm.MethodName) prog_1_method_67_code (4 : Nat) (Option.some Jvm.ClassFile.FieldType.boolean)) ∈ lw_all := lw_g (lw_at lw_m5 223 rfl) rfl
theorem q1311 : (Jvm.Cond.methodLink "HeardPlaces" (499 : Nat) ({ cls := "HeardPlaces", name := "placeOf", desc := "(I)I" } : Jvm.MethodName)) ∈ lw_all := lw_g (lw_at lw_m5 224 rfl) rfl
theorem q1312 : (Jvm.Cond.privateMethod ({ cls := "HeardPlaces", name := "placeOf", desc := "(I)I" } : Jvm.MethodName)) ∈ lw_tbl := lw_at lw_m5 225 rfl
theorem q1313 : (Jvm.Cond.instanceMethod ({ cls := "HeardPlaces", name := "placeOf", desc := "(I)I" } : Jvm.MethodName)) ∈ lw_all := lw_g (lw_at lw_m5 226 rfl) rfl
theorem q1314 : (Jvm.Cond.code ({ cls := "HeardPlaces", name := "placeOf", desc := "(I)I" } : Jvm.MethodName) prog_1_method_66_code (3 : Nat) (Option.some Jvm.ClassFile.FieldType.int)) ∈ lw_all := lw_g (lw_at lw_m5 227 rfl) rfl
theorem q1315 : (Jvm.Cond.methodLink "HeardPlaces" (515 : Nat) ({ cls := "HeardPlaces", name := "allowed", desc := "(I)J" } : Jvm.MethodName)) ∈ lw_all := lw_g (lw_at lw_m5 228 rfl) rfl
theorem q1316 : (Jvm.Cond.privateMethod ({ cls := "HeardPlaces", name := "allowed", desc := "(I)J" } : Jvm.MethodName)) ∈ lw_tbl := lw_at lw_m5 229 rfl
theorem q1317 : (Jvm.Cond.instanceMethod ({ cls := "HeardPlaces", name := "allowed", desc := "(I)J" } : Jvm.MethodName)) ∈ lw_all := lw_g (lw_at lw_m5 230 rfl) rfl
theorem q1318 : (Jvm.Cond.code ({ cls := "HeardPlaces", name := "allowed", desc := "(I)J" } : Jvm.MethodName) prog_1_method_68_code (8 : Nat) (Option.some Jvm.ClassFile.FieldType.long)) ∈ lw_all := lw_g (lw_at lw_m5 231 rfl) rfl
theorem q1319 : (Jvm.Cond.methodLink "HeardPlaces" (502 : Nat) ({ cls := "HeardPlaces$Measure", name := "other", desc := "(I)I" } : Jvm.MethodName)) ∈ lw_all := lw_g (lw_at lw_m5 232 rfl) rfl
theorem q1328 : (Jvm.Cond.methodLink "HeardPlaces" (505 : Nat) ({ cls := "HeardPlaces$Measure", name := "with", desc := "(II)J" } : Jvm.MethodName)) ∈ lw_all := lw_g (lw_at lw_m6 1 rfl) rfl
theorem q1337 : (Jvm.Cond.constant "HeardPlaces" (521 : Nat) (60000 : Int32)) ∈ lw_all := lw_g (lw_at lw_m6 10 rfl) rfl
theorem q1339 : (Jvm.Cond.instanceMethod ({ cls := "HeardPlaces", name := "trials", desc := "()I" } : Jvm.MethodName)) ∈ lw_all := lw_g (lw_at lw_m6 12 rfl) rfl
theorem q1340 : (Jvm.Cond.selects "HeardPlaces" ({ cls := "HeardPlaces", name := "trials", desc := "()I" } : Jvm.MethodName) ({ cls := "HeardPlaces", name := "trials", desc := "()I" } : Jvm.MethodName)) ∈ lw_all := lw_g (lw_at lw_m6 13 rfl) rfl
theorem q1341 : (Jvm.Cond.code ({ cls := "HeardPlaces", name := "trials", desc := "()I" } : Jvm.MethodName) prog_1_method_73_code (1 : Nat) (Option.some Jvm.ClassFile.FieldType.int)) ∈ lw_all := lw_g (lw_at lw_m6 14 rfl) rfl
theorem q1343 : (Jvm.Cond.instanceMethod ({ cls := "HeardPlaces", name := "nth", desc := "(II)I" } : Jvm.MethodName)) ∈ lw_all := lw_g (lw_at lw_m6 16 rfl) rfl
theorem q1344 : (Jvm.Cond.selects "HeardPlaces" ({ cls := "HeardPlaces", name := "nth", desc := "(II)I" } : Jvm.MethodName) ({ cls := "HeardPlaces", name := "nth", desc := "(II)I" } : Jvm.MethodName)) ∈ lw_all := lw_g (lw_at lw_m6 17 rfl) rfl
theorem q1345 : (Jvm.Cond.code ({ cls := "HeardPlaces", name := "nth", desc := "(II)I" } : Jvm.MethodName) prog_1_method_75_code (4 : Nat) (Option.some Jvm.ClassFile.FieldType.int)) ∈ lw_all := lw_g (lw_at lw_m6 18 rfl) rfl
theorem q1346 : (Jvm.Cond.methodLink "HeardPlaces" (541 : Nat) ({ cls := "HeardPlaces", name := "look", desc := "(II)I" } : Jvm.MethodName)) ∈ lw_all := lw_g (lw_at lw_m6 19 rfl) rfl
theorem q1347 : (Jvm.Cond.privateMethod ({ cls := "HeardPlaces", name := "look", desc := "(II)I" } : Jvm.MethodName)) ∈ lw_tbl := lw_at lw_m6 20 rfl
theorem q1348 : (Jvm.Cond.instanceMethod ({ cls := "HeardPlaces", name := "look", desc := "(II)I" } : Jvm.MethodName)) ∈ lw_all := lw_g (lw_at lw_m6 21 rfl) rfl
theorem q1349 : (Jvm.Cond.code ({ cls := "HeardPlaces", name := "look", desc := "(II)I" } : Jvm.MethodName) prog_1_method_74_code (4 : Nat) (Option.some Jvm.ClassFile.FieldType.int)) ∈ lw_all := lw_g (lw_at lw_m6 22 rfl) rfl
theorem q1351 : (Jvm.Cond.instanceMethod ({ cls := "HeardPlaces", name := "sure", desc := "(I)I" } : Jvm.MethodName)) ∈ lw_all := lw_g (lw_at lw_m6 24 rfl) rfl
theorem q1352 : (Jvm.Cond.selects "HeardPlaces" ({ cls := "HeardPlaces", name := "sure", desc := "(I)I" } : Jvm.MethodName) ({ cls := "HeardPlaces", name := "sure", desc := "(I)I" } : Jvm.MethodName)) ∈ lw_all := lw_g (lw_at lw_m6 25 rfl) rfl
theorem q1353 : (Jvm.Cond.code ({ cls := "HeardPlaces", name := "sure", desc := "(I)I" } : Jvm.MethodName) prog_1_method_76_code (4 : Nat) (Option.some Jvm.ClassFile.FieldType.int)) ∈ lw_all := lw_g (lw_at lw_m6 26 rfl) rfl
theorem q1355 : (Jvm.Cond.instanceMethod ({ cls := "HeardPlaces", name := "could", desc := "(I)I" } : Jvm.MethodName)) ∈ lw_all := lw_g (lw_at lw_m6 28 rfl) rfl
theorem q1356 : (Jvm.Cond.selects "HeardPlaces" ({ cls := "HeardPlaces", name := "could", desc := "(I)I" } : Jvm.MethodName) ({ cls := "HeardPlaces", name := "could", desc := "(I)I" } : Jvm.MethodName)) ∈ lw_all := lw_g (lw_at lw_m6 29 rfl) rfl
theorem q1357 : (Jvm.Cond.code ({ cls := "HeardPlaces", name := "could", desc := "(I)I" } : Jvm.MethodName) prog_1_method_77_code (2 : Nat) (Option.some Jvm.ClassFile.FieldType.int)) ∈ lw_all := lw_g (lw_at lw_m6 30 rfl) rfl
theorem q1359 : (Jvm.Cond.instanceMethod ({ cls := "HeardPlaces", name := "together", desc := "(IIII)I" } : Jvm.MethodName)) ∈ lw_all := lw_g (lw_at lw_m6 32 rfl) rfl
theorem q1360 : (Jvm.Cond.selects "HeardPlaces" ({ cls := "HeardPlaces", name := "together", desc := "(IIII)I" } : Jvm.MethodName) ({ cls := "HeardPlaces", name := "together", desc := "(IIII)I" } : Jvm.MethodName)) ∈ lw_all := lw_g (lw_at lw_m6 33 rfl) rfl
theorem q1361 : (Jvm.Cond.code ({ cls := "HeardPlaces", name := "together", desc := "(IIII)I" } : Jvm.MethodName) prog_1_method_78_code (7 : Nat) (Option.some Jvm.ClassFile.FieldType.int)) ∈ lw_all := lw_g (lw_at lw_m6 34 rfl) rfl
theorem q1363 : (Jvm.Cond.instanceMethod ({ cls := "HeardPlaces", name := "ask", desc := "(II)I" } : Jvm.MethodName)) ∈ lw_all := lw_g (lw_at lw_m6 36 rfl) rfl
theorem q1364 : (Jvm.Cond.selects "HeardPlaces" ({ cls := "HeardPlaces", name := "ask", desc := "(II)I" } : Jvm.MethodName) ({ cls := "HeardPlaces", name := "ask", desc := "(II)I" } : Jvm.MethodName)) ∈ lw_all := lw_g (lw_at lw_m6 37 rfl) rfl
theorem q1365 : (Jvm.Cond.code ({ cls := "HeardPlaces", name := "ask", desc := "(II)I" } : Jvm.MethodName) prog_1_method_80_code (5 : Nat) (Option.some Jvm.ClassFile.FieldType.int)) ∈ lw_all := lw_g (lw_at lw_m6 38 rfl) rfl
theorem q1366 : (Jvm.Cond.methodLink "HeardPlaces" (547 : Nat) ({ cls := "HeardPlaces", name := "most", desc := "([I)I" } : Jvm.MethodName)) ∈ lw_all := lw_g (lw_at lw_m6 39 rfl) rfl
theorem q1367 : (Jvm.Cond.static ({ cls := "HeardPlaces", name := "most", desc := "([I)I" } : Jvm.MethodName)) ∈ lw_all := lw_g (lw_at lw_m6 40 rfl) rfl
theorem q1368 : (Jvm.Cond.code ({ cls := "HeardPlaces", name := "most", desc := "([I)I" } : Jvm.MethodName) prog_1_method_79_code (3 : Nat) (Option.some Jvm.ClassFile.FieldType.int)) ∈ lw_all := lw_g (lw_at lw_m6 41 rfl) rfl
theorem q1369 : (Jvm.Cond.methodLink "HeardPlaces" (544 : Nat) ({ cls := "java/lang/Math", name := "max", desc := "(II)I" } : Jvm.MethodName)) ∈ lw_all := lw_g (lw_at lw_m6 42 rfl) rfl
theorem q1371 : (Jvm.Cond.instanceMethod ({ cls := "HeardPlaces", name := "between", desc := "(II)I" } : Jvm.MethodName)) ∈ lw_all := lw_g (lw_at lw_m6 44 rfl) rfl
theorem q1372 : (Jvm.Cond.selects "HeardPlaces" ({ cls := "HeardPlaces", name := "between", desc := "(II)I" } : Jvm.MethodName) ({ cls := "HeardPlaces", name := "between", desc := "(II)I" } : Jvm.MethodName)) ∈ lw_all := lw_g (lw_at lw_m6 45 rfl) rfl
theorem q1373 : (Jvm.Cond.code ({ cls := "HeardPlaces", name := "between", desc := "(II)I" } : Jvm.MethodName) prog_1_method_81_code (9 : Nat) (Option.some Jvm.ClassFile.FieldType.int)) ∈ lw_all := lw_g (lw_at lw_m6 46 rfl) rfl
theorem q1375 : (Jvm.Cond.instanceMethod ({ cls := "HeardPlaces", name := "put", desc := "(II)I" } : Jvm.MethodName)) ∈ lw_all := lw_g (lw_at lw_m6 48 rfl) rfl
theorem q1376 : (Jvm.Cond.selects "HeardPlaces" ({ cls := "HeardPlaces", name := "put", desc := "(II)I" } : Jvm.MethodName) ({ cls := "HeardPlaces", name := "put", desc := "(II)I" } : Jvm.MethodName)) ∈ lw_all := lw_g (lw_at lw_m6 49 rfl) rfl
theorem q1377 : (Jvm.Cond.code ({ cls := "HeardPlaces", name := "put", desc := "(II)I" } : Jvm.MethodName) prog_1_method_82_code (4 : Nat) (Option.some Jvm.ClassFile.FieldType.int)) ∈ lw_all := lw_g (lw_at lw_m6 50 rfl) rfl
theorem q1379 : (Jvm.Cond.instanceMethod ({ cls := "HeardPlaces", name := "take", desc := "(II)I" } : Jvm.MethodName)) ∈ lw_all := lw_g (lw_at lw_m6 52 rfl) rfl
theorem q1380 : (Jvm.Cond.selects "HeardPlaces" ({ cls := "HeardPlaces", name := "take", desc := "(II)I" } : Jvm.MethodName) ({ cls := "HeardPlaces", name := "take", desc := "(II)I" } : Jvm.MethodName)) ∈ lw_all := lw_g (lw_at lw_m6 53 rfl) rfl
theorem q1381 : (Jvm.Cond.code ({ cls := "HeardPlaces", name := "take", desc := "(II)I" } : Jvm.MethodName) prog_1_method_83_code (5 : Nat) (Option.some Jvm.ClassFile.FieldType.int)) ∈ lw_all := lw_g (lw_at lw_m6 54 rfl) rfl
theorem q1383 : (Jvm.Cond.instanceMethod ({ cls := "HeardPlaces", name := "check", desc := "()I" } : Jvm.MethodName)) ∈ lw_all := lw_g (lw_at lw_m6 56 rfl) rfl
theorem q1384 : (Jvm.Cond.selects "HeardPlaces" ({ cls := "HeardPlaces", name := "check", desc := "()I" } : Jvm.MethodName) ({ cls := "HeardPlaces", name := "check", desc := "()I" } : Jvm.MethodName)) ∈ lw_all := lw_g (lw_at lw_m6 57 rfl) rfl
theorem q1385 : (Jvm.Cond.code ({ cls := "HeardPlaces", name := "check", desc := "()I" } : Jvm.MethodName) prog_1_method_86_code (2 : Nat) (Option.some Jvm.ClassFile.FieldType.int)) ∈ lw_all := lw_g (lw_at lw_m6 58 rfl) rfl
theorem q1386 : (Jvm.Cond.methodLink "HeardPlaces" (551 : Nat) ({ cls := "HeardPlaces", name := "isShared", desc := "(I)Z" } : Jvm.MethodName)) ∈ lw_all := lw_g (lw_at lw_m6 59 rfl) rfl
theorem q1387 : (Jvm.Cond.privateMethod ({ cls := "HeardPlaces", name := "isShared", desc := "(I)Z" } : Jvm.MethodName)) ∈ lw_tbl := lw_at lw_m6 60 rfl
theorem q1388 : (Jvm.Cond.instanceMethod ({ cls := "HeardPlaces", name := "isShared", desc := "(I)Z" } : Jvm.MethodName)) ∈ lw_all := lw_g (lw_at lw_m6 61 rfl) rfl
theorem q1389 : (Jvm.Cond.code ({ cls := "HeardPlaces", name := "isShared", desc := "(I)Z" } : Jvm.MethodName) prog_1_method_84_code (4 : Nat) (Option.some Jvm.ClassFile.FieldType.boolean)) ∈ lw_all := lw_g (lw_at lw_m6 62 rfl) rfl
theorem q1390 : (Jvm.Cond.methodLink "HeardPlaces" (554 : Nat) ({ cls := "HeardPlaces", name := "isKeptOnMap", desc := "(LHeardPlaces$Measure;)Z" } : Jvm.MethodName)) ∈ lw_all := lw_g (lw_at lw_m6 63 rfl) rfl
theorem q1391 : (Jvm.Cond.privateMethod ({ cls := "HeardPlaces", name := "isKeptOnMap", desc := "(LHeardPlaces$Measure;)Z" } : Jvm.MethodName)) ∈ lw_tbl := lw_at lw_m6 64 rfl
theorem q1392 : (Jvm.Cond.instanceMethod ({ cls := "HeardPlaces", name := "isKeptOnMap", desc := "(LHeardPlaces$Measure;)Z" } : Jvm.MethodName)) ∈ lw_all := lw_g (lw_at lw_m6 65 rfl) rfl
theorem q1393 : (Jvm.Cond.code ({ cls := "HeardPlaces", name := "isKeptOnMap", desc := "(LHeardPlaces$Measure;)Z" } : Jvm.MethodName) prog_1_method_85_code (2 : Nat) (Option.some Jvm.ClassFile.FieldType.boolean)) ∈ lw_all := lw_g (lw_at lw_m6 66 rfl) rfl
theorem q1395 : (Jvm.Cond.instanceMethod ({ cls := "HeardPlaces", name := "flips", desc := "(I)I" } : Jvm.MethodName)) ∈ lw_all := lw_g (lw_at lw_m6 68 rfl) rfl
theorem q1396 : (Jvm.Cond.selects "HeardPlaces" ({ cls := "HeardPlaces", name := "flips", desc := "(I)I" } : Jvm.MethodName) ({ cls := "HeardPlaces", name := "flips", desc := "(I)I" } : Jvm.MethodName)) ∈ lw_all := lw_g (lw_at lw_m6 69 rfl) rfl
theorem q1397 : (Jvm.Cond.code ({ cls := "HeardPlaces", name := "flips", desc := "(I)I" } : Jvm.MethodName) prog_1_method_99_code (3 : Nat) (Option.some Jvm.ClassFile.FieldType.int)) ∈ lw_all := lw_g (lw_at lw_m6 70 rfl) rfl
theorem q1398 : (Jvm.Cond.methodLink "HeardPlaces" (612 : Nat) ({ cls := "HeardPlaces", name := "lookAtFlip", desc := "(II)I" } : Jvm.MethodName)) ∈ lw_all := lw_g (lw_at lw_m6 71 rfl) rfl
theorem q1399 : (Jvm.Cond.privateMethod ({ cls := "HeardPlaces", name := "lookAtFlip", desc := "(II)I" } : Jvm.MethodName)) ∈ lw_tbl := lw_at lw_m6 72 rfl
theorem q1400 : (Jvm.Cond.instanceMethod ({ cls := "HeardPlaces", name := "lookAtFlip", desc := "(II)I" } : Jvm.MethodName)) ∈ lw_all := lw_g (lw_at lw_m6 73 rfl) rfl
theorem q1401 : (Jvm.Cond.code ({ cls := "HeardPlaces", name := "lookAtFlip", desc := "(II)I" } : Jvm.MethodName) prog_1_method_98_code (3 : Nat) (Option.some Jvm.ClassFile.FieldType.int)) ∈ lw_all := lw_g (lw_at lw_m6 74 rfl) rfl
theorem q1402 : (Jvm.Cond.methodLink "HeardPlaces" (605 : Nat) ({ cls := "HeardPlaces", name := "isOnMap", desc := "(I)Z" } : Jvm.MethodName)) ∈ lw_all := lw_g (lw_at lw_m6 75 rfl) rfl
theorem q1403 : (Jvm.Cond.privateMethod ({ cls := "HeardPlaces", name := "isOnMap", desc := "(I)Z" } : Jvm.MethodName)) ∈ lw_tbl := lw_at lw_m6 76 rfl
theorem q1404 : (Jvm.Cond.instanceMethod ({ cls := "HeardPlaces", name := "isOnMap", desc := "(I)Z" } : Jvm.MethodName)) ∈ lw_all := lw_g (lw_at lw_m6 77 rfl) rfl
theorem q1405 : (Jvm.Cond.code ({ cls := "HeardPlaces", name := "isOnMap", desc := "(I)Z" } : Jvm.MethodName) prog_1_method_97_code (4 : Nat) (Option.some Jvm.ClassFile.FieldType.boolean)) ∈ lw_all := lw_g (lw_at lw_m6 78 rfl) rfl
theorem q1406 : (Jvm.Cond.methodLink "HeardPlaces" (608 : Nat) ({ cls := "HeardPlaces", name := "flipAll", desc := "(II)V" } : Jvm.MethodName)) ∈ lw_all := lw_g (lw_at lw_m6 79 rfl) rfl
theorem q1407 : (Jvm.Cond.privateMethod ({ cls := "HeardPlaces", name := "flipAll", desc := "(II)V" } : Jvm.MethodName)) ∈ lw_tbl := lw_at lw_m6 80 rfl
theorem q1408 : (Jvm.Cond.instanceMethod ({ cls := "HeardPlaces", name := "flipAll", desc := "(II)V" } : Jvm.MethodName)) ∈ lw_all := lw_g (lw_at lw_m6 81 rfl) rfl
theorem q1409 : (Jvm.Cond.code ({ cls := "HeardPlaces", name := "flipAll", desc := "(II)V" } : Jvm.MethodName) prog_1_method_96_code (5 : Nat) (Option.none : Option Jvm.ClassFile.FieldType)) ∈ lw_all := lw_g (lw_at lw_m6 82 rfl) rfl
theorem q1410 : (Jvm.Cond.methodLink "HeardPlaces" (599 : Nat) ({ cls := "HeardPlaces", name := "mayJoint", desc := "(II)Z" } : Jvm.MethodName)) ∈ lw_all := lw_g (lw_at lw_m6 83 rfl) rfl
theorem q1411 : (Jvm.Cond.privateMethod ({ cls := "HeardPlaces", name := "mayJoint", desc := "(II)Z" } : Jvm.MethodName)) ∈ lw_tbl := lw_at lw_m6 84 rfl
theorem q1412 : (Jvm.Cond.instanceMethod ({ cls := "HeardPlaces", name := "mayJoint", desc := "(II)Z" } : Jvm.MethodName)) ∈ lw_all := lw_g (lw_at lw_m6 85 rfl) rfl
theorem q1413 : (Jvm.Cond.code ({ cls := "HeardPlaces", name := "mayJoint", desc := "(II)Z" } : Jvm.MethodName) prog_1_method_90_code (3 : Nat) (Option.some Jvm.ClassFile.FieldType.boolean)) ∈ lw_all := lw_g (lw_at lw_m6 86 rfl) rfl
theorem q1414 : (Jvm.Cond.methodLink "HeardPlaces" (602 : Nat) ({ cls := "HeardPlaces", name := "flipAt", desc := "(III)V" } : Jvm.MethodName)) ∈ lw_all := lw_g (lw_at lw_m6 87 rfl) rfl
theorem q1415 : (Jvm.Cond.privateMethod ({ cls := "HeardPlaces", name := "flipAt", desc := "(III)V" } : Jvm.MethodName)) ∈ lw_tbl := lw_at lw_m6 88 rfl
theorem q1416 : (Jvm.Cond.instanceMethod ({ cls := "HeardPlaces", name := "flipAt", desc := "(III)V" } : Jvm.MethodName)) ∈ lw_all := lw_g (lw_at lw_m6 89 rfl) rfl
theorem q1417 : (Jvm.Cond.code ({ cls := "HeardPlaces", name := "flipAt", desc := "(III)V" } : Jvm.MethodName) prog_1_method_95_code (7 : Nat) (Option.none : Option Jvm.ClassFile.FieldType)) ∈ lw_all := lw_g (lw_at lw_m6 90 rfl) rfl
theorem q1418 : (Jvm.Cond.methodLink "HeardPlaces" (593 : Nat) ({ cls := "java/lang/Integer", name := "numberOfTrailingZeros", desc := "(I)I" } : Jvm.MethodName)) ∈ lw_all := lw_g (lw_at lw_m6 91 rfl) rfl
theorem q1419 : (Jvm.Cond.methodLink "HeardPlaces" (595 : Nat) ({ cls := "HeardPlaces", name := "flipOne", desc := "(III)V" } : Jvm.MethodName)) ∈ lw_all := lw_g (lw_at lw_m6 92 rfl) rfl
theorem q1420 : (Jvm.Cond.privateMethod ({ cls := "HeardPlaces", name := "flipOne", desc := "(III)V" } : Jvm.MethodName)) ∈ lw_tbl := lw_at lw_m6 93 rfl
theorem q1421 : (Jvm.Cond.instanceMethod ({ cls := "HeardPlaces", name := "flipOne", desc := "(III)V" } : Jvm.MethodName)) ∈ lw_all := lw_g (lw_at lw_m6 94 rfl) rfl
theorem q1422 : (Jvm.Cond.code ({ cls := "HeardPlaces", name := "flipOne", desc := "(III)V" } : Jvm.MethodName) prog_1_method_94_code (5 : Nat) (Option.none : Option Jvm.ClassFile.FieldType)) ∈ lw_all := lw_g (lw_at lw_m6 95 rfl) rfl
theorem q1423 : (Jvm.Cond.methodLink "HeardPlaces" (566 : Nat) ({ cls := "HeardPlaces", name := "doesHang", desc := "(III)Z" } : Jvm.MethodName)) ∈ lw_all := lw_g (lw_at lw_m6 96 rfl) rfl
theorem q1424 : (Jvm.Cond.privateMethod ({ cls := "HeardPlaces", name := "doesHang", desc := "(III)Z" } : Jvm.MethodName)) ∈ lw_tbl := lw_at lw_m6 97 rfl
theorem q1425 : (Jvm.Cond.instanceMethod ({ cls := "HeardPlaces", name := "doesHang", desc := "(III)Z" } : Jvm.MethodName)) ∈ lw_all := lw_g (lw_at lw_m6 98 rfl) rfl
theorem q1426 : (Jvm.Cond.code ({ cls := "HeardPlaces", name := "doesHang", desc := "(III)Z" } : Jvm.MethodName) prog_1_method_91_code (11 : Nat) (Option.some Jvm.ClassFile.FieldType.boolean)) ∈ lw_all := lw_g (lw_at lw_m6 99 rfl) rfl
theorem q1427 : (Jvm.Cond.methodLink "HeardPlaces" (563 : Nat) ({ cls := "HeardPlaces", name := "turned", desc := "(III)I" } : Jvm.MethodName)) ∈ lw_all := lw_g (lw_at lw_m6 100 rfl) rfl
theorem q1428 : (Jvm.Cond.privateMethod ({ cls := "HeardPlaces", name := "turned", desc := "(III)I" } : Jvm.MethodName)) ∈ lw_tbl := lw_at lw_m6 101 rfl
theorem q1429 : (Jvm.Cond.instanceMethod ({ cls := "HeardPlaces", name := "turned", desc := "(III)I" } : Jvm.MethodName)) ∈ lw_all := lw_g (lw_at lw_m6 102 rfl) rfl
theorem q1430 : (Jvm.Cond.code ({ cls := "HeardPlaces", name := "turned", desc := "(III)I" } : Jvm.MethodName) prog_1_method_89_code (8 : Nat) (Option.some Jvm.ClassFile.FieldType.int)) ∈ lw_all := lw_g (lw_at lw_m6 103 rfl) rfl
theorem q1431 : (Jvm.Cond.methodLink "HeardPlaces" (557 : Nat) ({ cls := "HeardPlaces", name := "turnedX", desc := "(III)I" } : Jvm.MethodName)) ∈ lw_all := lw_g (lw_at lw_m6 104 rfl) rfl
theorem q1432 : (Jvm.Cond.static ({ cls := "HeardPlaces", name := "turnedX", desc := "(III)I" } : Jvm.MethodName)) ∈ lw_all := lw_g (lw_at lw_m6 105 rfl) rfl
theorem q1433 : (Jvm.Cond.code ({ cls := "HeardPlaces", name := "turnedX", desc := "(III)I" } : Jvm.MethodName) prog_1_method_87_code (3 : Nat) (Option.some Jvm.ClassFile.FieldType.int)) ∈ lw_all := lw_g (lw_at lw_m6 106 rfl) rfl
theorem q1434 : (Jvm.Cond.methodLink "HeardPlaces" (560 : Nat) ({ cls := "HeardPlaces", name := "turnedY", desc := "(III)I" } : Jvm.MethodName)) ∈ lw_all := lw_g (lw_at lw_m6 107 rfl) rfl
theorem q1435 : (Jvm.Cond.static ({ cls := "HeardPlaces", name := "turnedY", desc := "(III)I" } : Jvm.MethodName)) ∈ lw_all := lw_g (lw_at lw_m6 108 rfl) rfl
theorem q1436 : (Jvm.Cond.code ({ cls := "HeardPlaces", name := "turnedY", desc := "(III)I" } : Jvm.MethodName) prog_1_method_88_code (3 : Nat) (Option.some Jvm.ClassFile.FieldType.int)) ∈ lw_all := lw_g (lw_at lw_m6 109 rfl) rfl
theorem q1437 : (Jvm.Cond.methodLink "HeardPlaces" (569 : Nat) ({ cls := "HeardPlaces", name := "areTurned", desc := "(III)Z" } : Jvm.MethodName)) ∈ lw_all := lw_g (lw_at lw_m6 110 rfl) rfl
theorem q1438 : (Jvm.Cond.privateMethod ({ cls := "HeardPlaces", name := "areTurned", desc := "(III)Z" } : Jvm.MethodName)) ∈ lw_tbl := lw_at lw_m6 111 rfl
theorem q1439 : (Jvm.Cond.instanceMethod ({ cls := "HeardPlaces", name := "areTurned", desc := "(III)Z" } : Jvm.MethodName)) ∈ lw_all := lw_g (lw_at lw_m6 112 rfl) rfl
theorem q1440 : (Jvm.Cond.code ({ cls := "HeardPlaces", name := "areTurned", desc := "(III)Z" } : Jvm.MethodName) prog_1_method_92_code (6 : Nat) (Option.some Jvm.ClassFile.FieldType.boolean)) ∈ lw_all := lw_g (lw_at lw_m6 113 rfl) rfl
theorem q1441 : (Jvm.Cond.methodLink "HeardPlaces" (572 : Nat) ({ cls := "HeardPlaces", name := "isKeptAfter", desc := "(I)Z" } : Jvm.MethodName)) ∈ lw_all := lw_g (lw_at lw_m6 114 rfl) rfl
theorem q1442 : (Jvm.Cond.privateMethod ({ cls := "HeardPlaces", name := "isKeptAfter", desc := "(I)Z" } : Jvm.MethodName)) ∈ lw_tbl := lw_at lw_m6 115 rfl
theorem q1443 : (Jvm.Cond.instanceMethod ({ cls := "HeardPlaces", name := "isKeptAfter", desc := "(I)Z" } : Jvm.MethodName)) ∈ lw_all := lw_g (lw_at lw_m6 116 rfl) rfl
theorem q1444 : (Jvm.Cond.code ({ cls := "HeardPlaces", name := "isKeptAfter", desc := "(I)Z" } : Jvm.MethodName) prog_1_method_93_code (4 : Nat) (Option.some Jvm.ClassFile.FieldType.boolean)) ∈ lw_all := lw_g (lw_at lw_m6 117 rfl) rfl
theorem q1446 : (Jvm.Cond.instanceMethod ({ cls := "HeardPlaces", name := "flip", desc := "(III)I" } : Jvm.MethodName)) ∈ lw_all := lw_g (lw_at lw_m6 119 rfl) rfl
theorem q1447 : (Jvm.Cond.selects "HeardPlaces" ({ cls := "HeardPlaces", name := "flip", desc := "(III)I" } : Jvm.MethodName) ({ cls := "HeardPlaces", name := "flip", desc := "(III)I" } : Jvm.MethodName)) ∈ lw_all := lw_g (lw_at lw_m6 120 rfl) rfl
theorem q1448 : (Jvm.Cond.code ({ cls := "HeardPlaces", name := "flip", desc := "(III)I" } : Jvm.MethodName) prog_1_method_100_code (5 : Nat) (Option.some Jvm.ClassFile.FieldType.int)) ∈ lw_all := lw_g (lw_at lw_m6 121 rfl) rfl
theorem q1450 : (Jvm.Cond.instanceMethod ({ cls := "HeardPlaces", name := "flipped", desc := "(II)I" } : Jvm.MethodName)) ∈ lw_all := lw_g (lw_at lw_m6 123 rfl) rfl
theorem q1451 : (Jvm.Cond.selects "HeardPlaces" ({ cls := "HeardPlaces", name := "flipped", desc := "(II)I" } : Jvm.MethodName) ({ cls := "HeardPlaces", name := "flipped", desc := "(II)I" } : Jvm.MethodName)) ∈ lw_all := lw_g (lw_at lw_m6 124 rfl) rfl
theorem q1452 : (Jvm.Cond.code ({ cls := "HeardPlaces", name := "flipped", desc := "(II)I" } : Jvm.MethodName) prog_1_method_101_code (7 : Nat) (Option.some Jvm.ClassFile.FieldType.int)) ∈ lw_all := lw_g (lw_at lw_m6 125 rfl) rfl
theorem q1454 : (Jvm.Cond.instanceMethod ({ cls := "HeardPlaces", name := "mover", desc := "(II)I" } : Jvm.MethodName)) ∈ lw_all := lw_g (lw_at lw_m6 127 rfl) rfl
theorem q1455 : (Jvm.Cond.selects "HeardPlaces" ({ cls := "HeardPlaces", name := "mover", desc := "(II)I" } : Jvm.MethodName) ({ cls := "HeardPlaces", name := "mover", desc := "(II)I" } : Jvm.MethodName)) ∈ lw_all := lw_g (lw_at lw_m6 128 rfl) rfl
theorem q1456 : (Jvm.Cond.code ({ cls := "HeardPlaces", name := "mover", desc := "(II)I" } : Jvm.MethodName) prog_1_method_102_code (5 : Nat) (Option.some Jvm.ClassFile.FieldType.int)) ∈ lw_all := lw_g (lw_at lw_m6 129 rfl) rfl
theorem q1458 : (Jvm.Cond.instanceMethod ({ cls := "HeardPlaces", name := "tick", desc := "(II)I" } : Jvm.MethodName)) ∈ lw_all := lw_g (lw_at lw_m6 131 rfl) rfl
theorem q1459 : (Jvm.Cond.selects "HeardPlaces" ({ cls := "HeardPlaces", name := "tick", desc := "(II)I" } : Jvm.MethodName) ({ cls := "HeardPlaces", name := "tick", desc := "(II)I" } : Jvm.MethodName)) ∈ lw_all := lw_g (lw_at lw_m6 132 rfl) rfl
theorem q1460 : (Jvm.Cond.code ({ cls := "HeardPlaces", name := "tick", desc := "(II)I" } : Jvm.MethodName) prog_1_method_105_code (3 : Nat) (Option.some Jvm.ClassFile.FieldType.int)) ∈ lw_all := lw_g (lw_at lw_m6 133 rfl) rfl
theorem q1461 : (Jvm.Cond.methodLink "HeardPlaces" (618 : Nat) ({ cls := "HeardPlaces", name := "isTick", desc := "(II)Z" } : Jvm.MethodName)) ∈ lw_all := lw_g (lw_at lw_m6 134 rfl) rfl
theorem q1462 : (Jvm.Cond.privateMethod ({ cls := "HeardPlaces", name := "isTick", desc := "(II)Z" } : Jvm.MethodName)) ∈ lw_tbl := lw_at lw_m6 135 rfl
theorem q1463 : (Jvm.Cond.instanceMethod ({ cls := "HeardPlaces", name := "isTick", desc := "(II)Z" } : Jvm.MethodName)) ∈ lw_all := lw_g (lw_at lw_m6 136 rfl) rfl
theorem q1464 : (Jvm.Cond.code ({ cls := "HeardPlaces", name := "isTick", desc := "(II)Z" } : Jvm.MethodName) prog_1_method_104_code (3 : Nat) (Option.some Jvm.ClassFile.FieldType.boolean)) ∈ lw_all := lw_g (lw_at lw_m6 137 rfl) rfl
theorem q1465 : (Jvm.Cond.methodLink "HeardPlaces" (615 : Nat) ({ cls := "HeardPlaces", name := "isMover", desc := "(I)Z" } : Jvm.MethodName)) ∈ lw_all := lw_g (lw_at lw_m6 138 rfl) rfl
theorem q1466 : (Jvm.Cond.privateMethod ({ cls := "HeardPlaces", name := "isMover", desc := "(I)Z" } : Jvm.MethodName)) ∈ lw_tbl := lw_at lw_m6 139 rfl
theorem q1467 : (Jvm.Cond.instanceMethod ({ cls := "HeardPlaces", name := "isMover", desc := "(I)Z" } : Jvm.MethodName)) ∈ lw_all := lw_g (lw_at lw_m6 140 rfl) rfl
theorem q1468 : (Jvm.Cond.code ({ cls := "HeardPlaces", name := "isMover", desc := "(I)Z" } : Jvm.MethodName) prog_1_method_103_code (2 : Nat) (Option.some Jvm.ClassFile.FieldType.boolean)) ∈ lw_all := lw_g (lw_at lw_m6 141 rfl) rfl
theorem q1470 : (Jvm.Cond.instanceMethod ({ cls := "HeardPlaces", name := "ways", desc := "(I)J" } : Jvm.MethodName)) ∈ lw_all := lw_g (lw_at lw_m6 143 rfl) rfl
theorem q1471 : (Jvm.Cond.selects "HeardPlaces" ({ cls := "HeardPlaces", name := "ways", desc := "(I)J" } : Jvm.MethodName) ({ cls := "HeardPlaces", name := "ways", desc := "(I)J" } : Jvm.MethodName)) ∈ lw_all := lw_g (lw_at lw_m6 144 rfl) rfl
theorem q1472 : (Jvm.Cond.code ({ cls := "HeardPlaces", name := "ways", desc := "(I)J" } : Jvm.MethodName) prog_1_method_108_code (2 : Nat) (Option.some Jvm.ClassFile.FieldType.long)) ∈ lw_all := lw_g (lw_at lw_m6 145 rfl) rfl
theorem q1473 : (Jvm.Cond.constantLong "HeardPlaces" (118 : Nat) (-9223372036854775808 : Int64)) ∈ lw_all := lw_g (lw_at lw_m6 146 rfl) rfl
theorem q1474 : (Jvm.Cond.methodLink "HeardPlaces" (621 : Nat) ({ cls := "HeardPlaces", name := "findWays", desc := "(I)V" } : Jvm.MethodName)) ∈ lw_all := lw_g (lw_at lw_m6 147 rfl) rfl
theorem q1475 : (Jvm.Cond.privateMethod ({ cls := "HeardPlaces", name := "findWays", desc := "(I)V" } : Jvm.MethodName)) ∈ lw_tbl := lw_at lw_m6 148 rfl
theorem q1476 : (Jvm.Cond.instanceMethod ({ cls := "HeardPlaces", name := "findWays", desc := "(I)V" } : Jvm.MethodName)) ∈ lw_all := lw_g (lw_at lw_m6 149 rfl) rfl
theorem q1477 : (Jvm.Cond.code ({ cls := "HeardPlaces", name := "findWays", desc := "(I)V" } : Jvm.MethodName) prog_1_method_107_code (5 : Nat) (Option.none : Option Jvm.ClassFile.FieldType)) ∈ lw_all := lw_g (lw_at lw_m6 150 rfl) rfl
theorem q1478 : (Jvm.Cond.methodLink "HeardPlaces" (624 : Nat) ({ cls := "HeardPlaces", name := "sum", desc := "([J)J" } : Jvm.MethodName)) ∈ lw_all := lw_g (lw_at lw_m6 151 rfl) rfl
theorem q1479 : (Jvm.Cond.static ({ cls := "HeardPlaces", name := "sum", desc := "([J)J" } : Jvm.MethodName)) ∈ lw_all := lw_g (lw_at lw_m6 152 rfl) rfl
theorem q1480 : (Jvm.Cond.code ({ cls := "HeardPlaces", name := "sum", desc := "([J)J" } : Jvm.MethodName) prog_1_method_106_code (4 : Nat) (Option.some Jvm.ClassFile.FieldType.long)) ∈ lw_all := lw_g (lw_at lw_m6 153 rfl) rfl
theorem q1482 : (Jvm.Cond.instanceMethod ({ cls := "HeardPlaces", name := "way", desc := "(IJI)I" } : Jvm.MethodName)) ∈ lw_all := lw_g (lw_at lw_m6 155 rfl) rfl
theorem q1483 : (Jvm.Cond.selects "HeardPlaces" ({ cls := "HeardPlaces", name := "way", desc := "(IJI)I" } : Jvm.MethodName) ({ cls := "HeardPlaces", name := "way", desc := "(IJI)I" } : Jvm.MethodName)) ∈ lw_all := lw_g (lw_at lw_m6 156 rfl) rfl
theorem q1484 : (Jvm.Cond.code ({ cls := "HeardPlaces", name := "way", desc := "(IJI)I" } : Jvm.MethodName) prog_1_method_109_code (10 : Nat) (Option.some Jvm.ClassFile.FieldType.int)) ∈ lw_all := lw_g (lw_at lw_m6 157 rfl) rfl
theorem q1486 : (Jvm.Cond.instanceMethod ({ cls := "HeardPlaces", name := "trust", desc := "(IZ)I" } : Jvm.MethodName)) ∈ lw_all := lw_g (lw_at lw_m6 159 rfl) rfl
theorem q1487 : (Jvm.Cond.selects "HeardPlaces" ({ cls := "HeardPlaces", name := "trust", desc := "(IZ)I" } : Jvm.MethodName) ({ cls := "HeardPlaces", name := "trust", desc := "(IZ)I" } : Jvm.MethodName)) ∈ lw_all := lw_g (lw_at lw_m6 160 rfl) rfl
theorem q1488 : (Jvm.Cond.code ({ cls := "HeardPlaces", name := "trust", desc := "(IZ)I" } : Jvm.MethodName) prog_1_method_110_code (3 : Nat) (Option.some Jvm.ClassFile.FieldType.int)) ∈ lw_all := lw_g (lw_at lw_m6 161 rfl) rfl
theorem q1490 : (Jvm.Cond.instanceMethod ({ cls := "HeardPlaces", name := "liars", desc := "(I)I" } : Jvm.MethodName)) ∈ lw_all := lw_g (lw_at lw_m6 163 rfl) rfl
theorem q1491 : (Jvm.Cond.selects "HeardPlaces" ({ cls := "HeardPlaces", name := "liars", desc := "(I)I" } : Jvm.MethodName) ({ cls := "HeardPlaces", name := "liars", desc := "(I)I" } : Jvm.MethodName)) ∈ lw_all := lw_g (lw_at lw_m6 164 rfl) rfl
theorem q1492 : (Jvm.Cond.code ({ cls := "HeardPlaces", name := "liars", desc := "(I)I" } : Jvm.MethodName) prog_1_method_114_code (2 : Nat) (Option.some Jvm.ClassFile.FieldType.int)) ∈ lw_all := lw_g (lw_at lw_m6 165 rfl) rfl
theorem q1493 : (Jvm.Cond.methodLink "HeardPlaces" (646 : Nat) ({ cls := "HeardPlaces", name := "findLiars", desc := "()V" } : Jvm.MethodName)) ∈ lw_all := lw_g (lw_at lw_m6 166 rfl) rfl
theorem q1494 : (Jvm.Cond.privateMethod ({ cls := "HeardPlaces", name := "findLiars", desc := "()V" } : Jvm.MethodName)) ∈ lw_tbl := lw_at lw_m6 167 rfl
theorem q1495 : (Jvm.Cond.instanceMethod ({ cls := "HeardPlaces", name := "findLiars", desc := "()V" } : Jvm.MethodName)) ∈ lw_all := lw_g (lw_at lw_m6 168 rfl) rfl
theorem q1496 : (Jvm.Cond.code ({ cls := "HeardPlaces", name := "findLiars", desc := "()V" } : Jvm.MethodName) prog_1_method_113_code (3 : Nat) (Option.none : Option Jvm.ClassFile.FieldType)) ∈ lw_all := lw_g (lw_at lw_m6 169 rfl) rfl
theorem q1497 : (Jvm.Cond.methodLink "HeardPlaces" (640 : Nat) ({ cls := "HeardPlaces", name := "noteLiars", desc := "(I)V" } : Jvm.MethodName)) ∈ lw_all := lw_g (lw_at lw_m6 170 rfl) rfl
theorem q1498 : (Jvm.Cond.privateMethod ({ cls := "HeardPlaces", name := "noteLiars", desc := "(I)V" } : Jvm.MethodName)) ∈ lw_tbl := lw_at lw_m6 171 rfl
theorem q1499 : (Jvm.Cond.instanceMethod ({ cls := "HeardPlaces", name := "noteLiars", desc := "(I)V" } : Jvm.MethodName)) ∈ lw_all := lw_g (lw_at lw_m6 172 rfl) rfl
theorem q1500 : (Jvm.Cond.code ({ cls := "HeardPlaces", name := "noteLiars", desc := "(I)V" } : Jvm.MethodName) prog_1_method_112_code (2 : Nat) (Option.none : Option Jvm.ClassFile.FieldType)) ∈ lw_all := lw_g (lw_at lw_m6 173 rfl) rfl
theorem q1501 : (Jvm.Cond.methodLink "HeardPlaces" (628 : Nat) ({ cls := "HeardPlaces", name := "isPeace", desc := "(I)Z" } : Jvm.MethodName)) ∈ lw_all := lw_g (lw_at lw_m6 174 rfl) rfl
theorem q1502 : (Jvm.Cond.privateMethod ({ cls := "HeardPlaces", name := "isPeace", desc := "(I)Z" } : Jvm.MethodName)) ∈ lw_tbl := lw_at lw_m6 175 rfl
theorem q1503 : (Jvm.Cond.instanceMethod ({ cls := "HeardPlaces", name := "isPeace", desc := "(I)Z" } : Jvm.MethodName)) ∈ lw_all := lw_g (lw_at lw_m6 176 rfl) rfl
theorem q1504 : (Jvm.Cond.code ({ cls := "HeardPlaces", name := "isPeace", desc := "(I)Z" } : Jvm.MethodName) prog_1_method_111_code (4 : Nat) (Option.some Jvm.ClassFile.FieldType.boolean)) ∈ lw_all := lw_g (lw_at lw_m6 177 rfl) rfl
theorem q1505 : (Jvm.Cond.methodLink "HeardPlaces" (643 : Nat) ({ cls := "HeardPlaces$Thing", name := "mayLie", desc := "()Z" } : Jvm.MethodName)) ∈ lw_all := lw_g (lw_at lw_m6 178 rfl) rfl
theorem q1515 : (Jvm.Cond.instanceMethod ({ cls := "HeardPlaces", name := "lies", desc := "(I)I" } : Jvm.MethodName)) ∈ lw_all := lw_g (lw_at lw_m6 188 rfl) rfl
theorem q1516 : (Jvm.Cond.selects "HeardPlaces" ({ cls := "HeardPlaces", name := "lies", desc := "(I)I" } : Jvm.MethodName) ({ cls := "HeardPlaces", name := "lies", desc := "(I)I" } : Jvm.MethodName)) ∈ lw_all := lw_g (lw_at lw_m6 189 rfl) rfl
theorem q1517 : (Jvm.Cond.code ({ cls := "HeardPlaces", name := "lies", desc := "(I)I" } : Jvm.MethodName) prog_1_method_115_code (2 : Nat) (Option.some Jvm.ClassFile.FieldType.int)) ∈ lw_all := lw_g (lw_at lw_m6 190 rfl) rfl
theorem q1519 : (Jvm.Cond.instanceMethod ({ cls := "HeardPlaces", name := "keep", desc := "(I)I" } : Jvm.MethodName)) ∈ lw_all := lw_g (lw_at lw_m6 192 rfl) rfl
theorem q1520 : (Jvm.Cond.selects "HeardPlaces" ({ cls := "HeardPlaces", name := "keep", desc := "(I)I" } : Jvm.MethodName) ({ cls := "HeardPlaces", name := "keep", desc := "(I)I" } : Jvm.MethodName)) ∈ lw_all := lw_g (lw_at lw_m6 193 rfl) rfl
theorem q1521 : (Jvm.Cond.code ({ cls := "HeardPlaces", name := "keep", desc := "(I)I" } : Jvm.MethodName) prog_1_method_117_code (4 : Nat) (Option.some Jvm.ClassFile.FieldType.int)) ∈ lw_all := lw_g (lw_at lw_m6 194 rfl) rfl
theorem q1522 : (Jvm.Cond.methodLink "HeardPlaces" (649 : Nat) ({ cls := "HeardPlaces", name := "isImage", desc := "(I)Z" } : Jvm.MethodName)) ∈ lw_all := lw_g (lw_at lw_m6 195 rfl) rfl
theorem q1523 : (Jvm.Cond.static ({ cls := "HeardPlaces", name := "isImage", desc := "(I)Z" } : Jvm.MethodName)) ∈ lw_all := lw_g (lw_at lw_m6 196 rfl) rfl
theorem q1524 : (Jvm.Cond.code ({ cls := "HeardPlaces", name := "isImage", desc := "(I)Z" } : Jvm.MethodName) prog_1_method_116_code (1 : Nat) (Option.some Jvm.ClassFile.FieldType.boolean)) ∈ lw_all := lw_g (lw_at lw_m6 197 rfl) rfl
theorem q1526 : (Jvm.Cond.methodLinkNest "HeardPlaces" (652 : Nat) ({ cls := "HeardPlaces$Image", name := "<init>", desc := "()V" } : Jvm.MethodName) "HeardPlaces") ∈ lw_tbl := lw_at lw_m6 199 rfl
theorem q1532 : (Jvm.Cond.fieldLinkNest "HeardPlaces" (653 : Nat) "HeardPlaces$Image" "wide" "I" "HeardPlaces") ∈ lw_tbl := lw_at lw_m6 205 rfl
theorem q1533 : (Jvm.Cond.fieldLinkNest "HeardPlaces" (654 : Nat) "HeardPlaces$Image" "high" "I" "HeardPlaces") ∈ lw_tbl := lw_at lw_m6 206 rfl
theorem q1534 : (Jvm.Cond.fieldLinkNest "HeardPlaces" (655 : Nat) "HeardPlaces$Image" "walls" "J" "HeardPlaces") ∈ lw_tbl := lw_at lw_m6 207 rfl
theorem q1535 : (Jvm.Cond.fieldLinkNest "HeardPlaces" (656 : Nat) "HeardPlaces$Image" "isAlone" "Z" "HeardPlaces") ∈ lw_tbl := lw_at lw_m6 208 rfl
theorem q1536 : (Jvm.Cond.fieldLinkNest "HeardPlaces" (657 : Nat) "HeardPlaces$Image" "moverMany" "I" "HeardPlaces") ∈ lw_tbl := lw_at lw_m6 209 rfl
theorem q1538 : (Jvm.Cond.fieldLinkNest "HeardPlaces" (658 : Nat) "HeardPlaces$Image" "things" "Ljava/util/List;" "HeardPlaces") ∈ lw_tbl := lw_at lw_m6 211 rfl
theorem q1540 : (Jvm.Cond.fieldLinkNest "HeardPlaces" (663 : Nat) "HeardPlaces$Image" "measures" "Ljava/util/List;" "HeardPlaces") ∈ lw_tbl := lw_at lw_m6 213 rfl
theorem q1542 : (Jvm.Cond.fieldLinkNest "HeardPlaces" (664 : Nat) "HeardPlaces$Image" "boxes" "[J" "HeardPlaces") ∈ lw_tbl := lw_at lw_m6 215 rfl
theorem q1544 : (Jvm.Cond.fieldLinkNest "HeardPlaces" (667 : Nat) "HeardPlaces$Image" "isTrusted" "[Z" "HeardPlaces") ∈ lw_tbl := lw_at lw_m6 217 rfl
theorem q1546 : (Jvm.Cond.fieldLinkNest "HeardPlaces" (669 : Nat) "HeardPlaces$Image" "isOn" "[Z" "HeardPlaces") ∈ lw_tbl := lw_at lw_m6 219 rfl
theorem q1548 : (Jvm.Cond.fieldLinkNest "HeardPlaces" (671 : Nat) "HeardPlaces$Image" "map" "[I" "HeardPlaces") ∈ lw_tbl := lw_at lw_m6 221 rfl
theorem q1550 : (Jvm.Cond.fieldLinkNest "HeardPlaces" (672 : Nat) "HeardPlaces$Image" "movers" "[I" "HeardPlaces") ∈ lw_tbl := lw_at lw_m6 223 rfl
theorem q1551 : (Jvm.Cond.fieldLinkNest "HeardPlaces" (675 : Nat) "HeardPlaces$Image" "isKept" "Z" "HeardPlaces") ∈ lw_tbl := lw_at lw_m6 224 rfl
theorem q1579 : (Jvm.Cond.interfaceEntry "HeardPlaces" (659 : Nat)) ∈ lw_tbl := lw_at lw_m7 12 rfl
theorem q1580 : (Jvm.Cond.methodLink "HeardPlaces" (659 : Nat) ({ cls := "java/util/List", name := "addAll", desc := "(Ljava/util/Collection;)Z" } : Jvm.MethodName)) ∈ lw_all := lw_g (lw_at lw_m7 13 rfl) rfl
theorem q1600 : (Jvm.Cond.instanceMethod ({ cls := "HeardPlaces", name := "back", desc := "(I)I" } : Jvm.MethodName)) ∈ lw_all := lw_g (lw_at lw_m7 33 rfl) rfl
theorem q1601 : (Jvm.Cond.selects "HeardPlaces" ({ cls := "HeardPlaces", name := "back", desc := "(I)I" } : Jvm.MethodName) ({ cls := "HeardPlaces", name := "back", desc := "(I)I" } : Jvm.MethodName)) ∈ lw_all := lw_g (lw_at lw_m7 34 rfl) rfl
theorem q1602 : (Jvm.Cond.code ({ cls := "HeardPlaces", name := "back", desc := "(I)I" } : Jvm.MethodName) prog_1_method_118_code (4 : Nat) (Option.some Jvm.ClassFile.FieldType.int)) ∈ lw_all := lw_g (lw_at lw_m7 35 rfl) rfl
theorem q1604 : (Jvm.Cond.instanceMethod ({ cls := "HeardPlaces", name := "hold", desc := "(III)I" } : Jvm.MethodName)) ∈ lw_all := lw_g (lw_at lw_m7 37 rfl) rfl
theorem q1605 : (Jvm.Cond.selects "HeardPlaces" ({ cls := "HeardPlaces", name := "hold", desc := "(III)I" } : Jvm.MethodName) ({ cls := "HeardPlaces", name := "hold", desc := "(III)I" } : Jvm.MethodName)) ∈ lw_all := lw_g (lw_at lw_m7 38 rfl) rfl
theorem q1606 : (Jvm.Cond.code ({ cls := "HeardPlaces", name := "hold", desc := "(III)I" } : Jvm.MethodName) prog_1_method_120_code (4 : Nat) (Option.some Jvm.ClassFile.FieldType.int)) ∈ lw_all := lw_g (lw_at lw_m7 39 rfl) rfl
theorem q1607 : (Jvm.Cond.methodLink "HeardPlaces" (678 : Nat) ({ cls := "HeardPlaces", name := "isHold", desc := "(I)Z" } : Jvm.MethodName)) ∈ lw_all := lw_g (lw_at lw_m7 40 rfl) rfl
theorem q1608 : (Jvm.Cond.static ({ cls := "HeardPlaces", name := "isHold", desc := "(I)Z" } : Jvm.MethodName)) ∈ lw_all := lw_g (lw_at lw_m7 41 rfl) rfl
theorem q1609 : (Jvm.Cond.code ({ cls := "HeardPlaces", name := "isHold", desc := "(I)Z" } : Jvm.MethodName) prog_1_method_119_code (1 : Nat) (Option.some Jvm.ClassFile.FieldType.boolean)) ∈ lw_all := lw_g (lw_at lw_m7 42 rfl) rfl
theorem q1611 : (Jvm.Cond.instanceMethod ({ cls := "HeardPlaces", name := "loose", desc := "(I)I" } : Jvm.MethodName)) ∈ lw_all := lw_g (lw_at lw_m7 44 rfl) rfl
theorem q1612 : (Jvm.Cond.selects "HeardPlaces" ({ cls := "HeardPlaces", name := "loose", desc := "(I)I" } : Jvm.MethodName) ({ cls := "HeardPlaces", name := "loose", desc := "(I)I" } : Jvm.MethodName)) ∈ lw_all := lw_g (lw_at lw_m7 45 rfl) rfl
theorem q1613 : (Jvm.Cond.code ({ cls := "HeardPlaces", name := "loose", desc := "(I)I" } : Jvm.MethodName) prog_1_method_121_code (3 : Nat) (Option.some Jvm.ClassFile.FieldType.int)) ∈ lw_all := lw_g (lw_at lw_m7 46 rfl) rfl
theorem q1615 : (Jvm.Cond.instanceMethod ({ cls := "HeardPlaces", name := "as", desc := "(II)I" } : Jvm.MethodName)) ∈ lw_all := lw_g (lw_at lw_m7 48 rfl) rfl
theorem q1616 : (Jvm.Cond.selects "HeardPlaces" ({ cls := "HeardPlaces", name := "as", desc := "(II)I" } : Jvm.MethodName) ({ cls := "HeardPlaces", name := "as", desc := "(II)I" } : Jvm.MethodName)) ∈ lw_all := lw_g (lw_at lw_m7 49 rfl) rfl
theorem q1617 : (Jvm.Cond.codeWith ({ cls := "HeardPlaces", name := "as", desc := "(II)I" } : Jvm.MethodName) prog_1_method_123_code (4 : Nat) (Option.some Jvm.ClassFile.FieldType.int) [((29 : Nat), (42 : Nat), (43 : Nat), (263 : Nat)), ((29 : Nat), (42 : Nat), (50 : Nat), (268 : Nat))]) ∈ lw_all := lw_g (lw_at lw_m7 50 rfl) rfl
theorem q1618 : (Jvm.Cond.methodLink "HeardPlaces" (684 : Nat) ({ cls := "HeardPlaces", name := "numberOf", desc := "(Ljava/lang/Object;I)I" } : Jvm.MethodName)) ∈ lw_all := lw_g (lw_at lw_m7 51 rfl) rfl
theorem q1619 : (Jvm.Cond.static ({ cls := "HeardPlaces", name := "numberOf", desc := "(Ljava/lang/Object;I)I" } : Jvm.MethodName)) ∈ lw_all := lw_g (lw_at lw_m7 52 rfl) rfl
theorem q1620 : (Jvm.Cond.code ({ cls := "HeardPlaces", name := "numberOf", desc := "(Ljava/lang/Object;I)I" } : Jvm.MethodName) prog_1_method_122_code (2 : Nat) (Option.some Jvm.ClassFile.FieldType.int)) ∈ lw_all := lw_g (lw_at lw_m7 53 rfl) rfl
theorem q1622 : (Jvm.Cond.instanceMethod ({ cls := "HeardPlaces", name := "tell", desc := "(II)I" } : Jvm.MethodName)) ∈ lw_all := lw_g (lw_at lw_m7 55 rfl) rfl
theorem q1623 : (Jvm.Cond.selects "HeardPlaces" ({ cls := "HeardPlaces", name := "tell", desc := "(II)I" } : Jvm.MethodName) ({ cls := "HeardPlaces", name := "tell", desc := "(II)I" } : Jvm.MethodName)) ∈ lw_all := lw_g (lw_at lw_m7 56 rfl) rfl
theorem q1624 : (Jvm.Cond.codeWith ({ cls := "HeardPlaces", name := "tell", desc := "(II)I" } : Jvm.MethodName) prog_1_method_124_code (4 : Nat) (Option.some Jvm.ClassFile.FieldType.int) [((27 : Nat), (64 : Nat), (65 : Nat), (263 : Nat)), ((27 : Nat), (64 : Nat), (72 : Nat), (268 : Nat))]) ∈ lw_all := lw_g (lw_at lw_m7 57 rfl) rfl
theorem q1625 : (Jvm.Cond.methodLink "HeardPlaces" (688 : Nat) ({ cls := "HeardPlaces$Thing", name := "tell", desc := "()I" } : Jvm.MethodName)) ∈ lw_all := lw_g (lw_at lw_m7 58 rfl) rfl
theorem q1633 : (Jvm.Cond.privateMethod ({ cls := "HeardPlaces", name := "begins", desc := "(I)V" } : Jvm.MethodName)) ∈ lw_tbl := lw_at lw_m7 66 rfl
theorem q1634 : (Jvm.Cond.instanceMethod ({ cls := "HeardPlaces", name := "begins", desc := "(I)V" } : Jvm.MethodName)) ∈ lw_all := lw_g (lw_at lw_m7 67 rfl) rfl
theorem q1635 : (Jvm.Cond.code ({ cls := "HeardPlaces", name := "begins", desc := "(I)V" } : Jvm.MethodName) prog_1_method_5_code (2 : Nat) (Option.none : Option Jvm.ClassFile.FieldType)) ∈ lw_all := lw_g (lw_at lw_m7 68 rfl) rfl
theorem q1651 : (Jvm.Cond.methodLink "HeardPlaces" (691 : Nat) ({ cls := "HeardPlaces$Measure", name := "tell", desc := "()I" } : Jvm.MethodName)) ∈ lw_all := lw_g (lw_at lw_m7 84 rfl) rfl
theorem q1703 : (Jvm.Cond.instanceMethod ({ cls := "HeardPlaces", name := "greet", desc := "(II)I" } : Jvm.MethodName)) ∈ lw_all := lw_g (lw_at lw_m7 136 rfl) rfl
theorem q1704 : (Jvm.Cond.selects "HeardPlaces" ({ cls := "HeardPlaces", name := "greet", desc := "(II)I" } : Jvm.MethodName) ({ cls := "HeardPlaces", name := "greet", desc := "(II)I" } : Jvm.MethodName)) ∈ lw_all := lw_g (lw_at lw_m7 137 rfl) rfl
theorem q1705 : (Jvm.Cond.codeWith ({ cls := "HeardPlaces", name := "greet", desc := "(II)I" } : Jvm.MethodName) prog_1_method_127_code (4 : Nat) (Option.some Jvm.ClassFile.FieldType.int) [((27 : Nat), (64 : Nat), (65 : Nat), (263 : Nat)), ((27 : Nat), (64 : Nat), (72 : Nat), (268 : Nat))]) ∈ lw_all := lw_g (lw_at lw_m7 138 rfl) rfl
theorem q1706 : (Jvm.Cond.methodLink "HeardPlaces" (702 : Nat) ({ cls := "HeardPlaces", name := "greeted", desc := "(LHeardPlaces$Stands;)I" } : Jvm.MethodName)) ∈ lw_all := lw_g (lw_at lw_m7 139 rfl) rfl
theorem q1707 : (Jvm.Cond.static ({ cls := "HeardPlaces", name := "greeted", desc := "(LHeardPlaces$Stands;)I" } : Jvm.MethodName)) ∈ lw_all := lw_g (lw_at lw_m7 140 rfl) rfl
theorem q1708 : (Jvm.Cond.code ({ cls := "HeardPlaces", name := "greeted", desc := "(LHeardPlaces$Stands;)I" } : Jvm.MethodName) prog_1_method_125_code (1 : Nat) (Option.some Jvm.ClassFile.FieldType.int)) ∈ lw_all := lw_g (lw_at lw_m7 141 rfl) rfl
theorem q1709 : (Jvm.Cond.interfaceEntry "HeardPlaces" (692 : Nat)) ∈ lw_tbl := lw_at lw_m7 142 rfl
theorem q1710 : (Jvm.Cond.methodLink "HeardPlaces" (692 : Nat) ({ cls := "HeardPlaces$Stands", name := "greet", desc := "()I" } : Jvm.MethodName)) ∈ lw_all := lw_g (lw_at lw_m7 143 rfl) rfl
theorem q1743 : (Jvm.Cond.methodLink "HeardPlaces" (706 : Nat) ({ cls := "HeardPlaces", name := "weighed", desc := "(LHeardPlaces$Weighs;)I" } : Jvm.MethodName)) ∈ lw_all := lw_g (lw_at lw_m7 176 rfl) rfl
theorem q1744 : (Jvm.Cond.static ({ cls := "HeardPlaces", name := "weighed", desc := "(LHeardPlaces$Weighs;)I" } : Jvm.MethodName)) ∈ lw_all := lw_g (lw_at lw_m7 177 rfl) rfl
theorem q1745 : (Jvm.Cond.code ({ cls := "HeardPlaces", name := "weighed", desc := "(LHeardPlaces$Weighs;)I" } : Jvm.MethodName) prog_1_method_126_code (1 : Nat) (Option.some Jvm.ClassFile.FieldType.int)) ∈ lw_all := lw_g (lw_at lw_m7 178 rfl) rfl
theorem q1746 : (Jvm.Cond.interfaceEntry "HeardPlaces" (697 : Nat)) ∈ lw_tbl := lw_at lw_m7 179 rfl
theorem q1747 : (Jvm.Cond.methodLink "HeardPlaces" (697 : Nat) ({ cls := "HeardPlaces$Weighs", name := "weigh", desc := "()I" } : Jvm.MethodName)) ∈ lw_all := lw_g (lw_at lw_m7 180 rfl) rfl
theorem q1795 : (Jvm.Cond.instanceMethod ({ cls := "HeardPlaces", name := "sheet", desc := "(III)I" } : Jvm.MethodName)) ∈ lw_all := lw_g (lw_at lw_m7 228 rfl) rfl
theorem q1796 : (Jvm.Cond.selects "HeardPlaces" ({ cls := "HeardPlaces", name := "sheet", desc := "(III)I" } : Jvm.MethodName) ({ cls := "HeardPlaces", name := "sheet", desc := "(III)I" } : Jvm.MethodName)) ∈ lw_all := lw_g (lw_at lw_m7 229 rfl) rfl
theorem q1797 : (Jvm.Cond.codeWith ({ cls := "HeardPlaces", name := "sheet", desc := "(III)I" } : Jvm.MethodName) prog_1_method_136_code (5 : Nat) (Option.some Jvm.ClassFile.FieldType.int) [((30 : Nat), (45 : Nat), (46 : Nat), (394 : Nat))]) ∈ lw_all := lw_g (lw_at lw_m7 230 rfl) rfl
theorem q1798 : (Jvm.Cond.methodLink "HeardPlaces" (717 : Nat) ({ cls := "HeardPlaces", name := "row", desc := "(II)Ljava/lang/Object;" } : Jvm.MethodName)) ∈ lw_all := lw_g (lw_at lw_m7 231 rfl) rfl
theorem q1799 : (Jvm.Cond.static ({ cls := "HeardPlaces", name := "row", desc := "(II)Ljava/lang/Object;" } : Jvm.MethodName)) ∈ lw_all := lw_g (lw_at lw_m7 232 rfl) rfl
theorem q1800 : (Jvm.Cond.code ({ cls := "HeardPlaces", name := "row", desc := "(II)Ljava/lang/Object;" } : Jvm.MethodName) prog_1_method_135_code (2 : Nat) (Option.some (Jvm.ClassFile.FieldType.object "java/lang/Object"))) ∈ lw_all := lw_g (lw_at lw_m7 233 rfl) rfl
theorem q1803 : (Jvm.Cond.instanceMethod ({ cls := "HeardPlaces", name := "lose", desc := "(I)I" } : Jvm.MethodName)) ∈ lw_all := lw_g (lw_at lw_m7 236 rfl) rfl
theorem q1804 : (Jvm.Cond.selects "HeardPlaces" ({ cls := "HeardPlaces", name := "lose", desc := "(I)I" } : Jvm.MethodName) ({ cls := "HeardPlaces", name := "lose", desc := "(I)I" } : Jvm.MethodName)) ∈ lw_all := lw_g (lw_at lw_m7 237 rfl) rfl
theorem q1805 : (Jvm.Cond.code ({ cls := "HeardPlaces", name := "lose", desc := "(I)I" } : Jvm.MethodName) prog_1_method_137_code (3 : Nat) (Option.some Jvm.ClassFile.FieldType.int)) ∈ lw_all := lw_g (lw_at lw_m7 238 rfl) rfl
theorem q1807 : (Jvm.Cond.instanceMethod ({ cls := "HeardPlaces", name := "lay", desc := "(IIJ)I" } : Jvm.MethodName)) ∈ lw_all := lw_g (lw_at lw_m8 0 rfl) rfl
theorem q1808 : (Jvm.Cond.selects "HeardPlaces" ({ cls := "HeardPlaces", name := "lay", desc := "(IIJ)I" } : Jvm.MethodName) ({ cls := "HeardPlaces", name := "lay", desc := "(IIJ)I" } : Jvm.MethodName)) ∈ lw_all := lw_g (lw_at lw_m8 1 rfl) rfl
theorem q1809 : (Jvm.Cond.codeWith ({ cls := "HeardPlaces", name := "lay", desc := "(IIJ)I" } : Jvm.MethodName) prog_1_method_138_code (6 : Nat) (Option.some Jvm.ClassFile.FieldType.int) [((14 : Nat), (29 : Nat), (30 : Nat), (268 : Nat)), ((14 : Nat), (29 : Nat), (38 : Nat), (234 : Nat))]) ∈ lw_all := lw_g (lw_at lw_m8 2 rfl) rfl
theorem q1810 : (Jvm.Cond.methodLink "HeardPlaces" (721 : Nat) ({ cls := "HeardPlaces", name := "write", desc := "(Ljava/lang/Object;IJ)V" } : Jvm.MethodName)) ∈ lw_all := lw_g (lw_at lw_m8 3 rfl) rfl
theorem q1811 : (Jvm.Cond.static ({ cls := "HeardPlaces", name := "write", desc := "(Ljava/lang/Object;IJ)V" } : Jvm.MethodName)) ∈ lw_all := lw_g (lw_at lw_m8 4 rfl) rfl
theorem q1812 : (Jvm.Cond.code ({ cls := "HeardPlaces", name := "write", desc := "(Ljava/lang/Object;IJ)V" } : Jvm.MethodName) prog_1_method_134_code (7 : Nat) (Option.none : Option Jvm.ClassFile.FieldType)) ∈ lw_all := lw_g (lw_at lw_m8 5 rfl) rfl
theorem q1814 : (Jvm.Cond.instanceMethod ({ cls := "HeardPlaces", name := "cell", desc := "(III)J" } : Jvm.MethodName)) ∈ lw_all := lw_g (lw_at lw_m8 7 rfl) rfl
theorem q1815 : (Jvm.Cond.selects "HeardPlaces" ({ cls := "HeardPlaces", name := "cell", desc := "(III)J" } : Jvm.MethodName) ({ cls := "HeardPlaces", name := "cell", desc := "(III)J" } : Jvm.MethodName)) ∈ lw_all := lw_g (lw_at lw_m8 8 rfl) rfl
theorem q1816 : (Jvm.Cond.codeWith ({ cls := "HeardPlaces", name := "cell", desc := "(III)J" } : Jvm.MethodName) prog_1_method_139_code (5 : Nat) (Option.some Jvm.ClassFile.FieldType.long) [((23 : Nat), (40 : Nat), (41 : Nat), (263 : Nat)), ((23 : Nat), (40 : Nat), (49 : Nat), (268 : Nat)), ((23 : Nat), (40 : Nat), (57 : Nat), (234 : Nat))]) ∈ lw_all := lw_g (lw_at lw_m8 9 rfl) rfl
theorem q1817 : (Jvm.Cond.methodLink "HeardPlaces" (725 : Nat) ({ cls := "HeardPlaces", name := "lost", desc := "(I)J" } : Jvm.MethodName)) ∈ lw_all := lw_g (lw_at lw_m8 10 rfl) rfl
theorem q1818 : (Jvm.Cond.privateMethod ({ cls := "HeardPlaces", name := "lost", desc := "(I)J" } : Jvm.MethodName)) ∈ lw_tbl := lw_at lw_m8 11 rfl
theorem q1819 : (Jvm.Cond.instanceMethod ({ cls := "HeardPlaces", name := "lost", desc := "(I)J" } : Jvm.MethodName)) ∈ lw_all := lw_g (lw_at lw_m8 12 rfl) rfl
theorem q1820 : (Jvm.Cond.code ({ cls := "HeardPlaces", name := "lost", desc := "(I)J" } : Jvm.MethodName) prog_1_method_4_code (2 : Nat) (Option.some Jvm.ClassFile.FieldType.long)) ∈ lw_all := lw_g (lw_at lw_m8 13 rfl) rfl
theorem q1822 : (Jvm.Cond.instanceMethod ({ cls := "HeardPlaces", name := "copy", desc := "(IIIII)I" } : Jvm.MethodName)) ∈ lw_all := lw_g (lw_at lw_m8 15 rfl) rfl
theorem q1823 : (Jvm.Cond.selects "HeardPlaces" ({ cls := "HeardPlaces", name := "copy", desc := "(IIIII)I" } : Jvm.MethodName) ({ cls := "HeardPlaces", name := "copy", desc := "(IIIII)I" } : Jvm.MethodName)) ∈ lw_all := lw_g (lw_at lw_m8 16 rfl) rfl
theorem q1824 : (Jvm.Cond.codeWith ({ cls := "HeardPlaces", name := "copy", desc := "(IIIII)I" } : Jvm.MethodName) prog_1_method_140_code (7 : Nat) (Option.some Jvm.ClassFile.FieldType.int) [((21 : Nat), (49 : Nat), (50 : Nat), (268 : Nat)), ((21 : Nat), (49 : Nat), (58 : Nat), (728 : Nat)), ((21 : Nat), (49 : Nat), (66 : Nat), (730 : Nat))]) ∈ lw_all := lw_g (lw_at lw_m8 17 rfl) rfl
theorem q1825 : (Jvm.Cond.classLink "HeardPlaces" (728 : Nat) "java/lang/ArrayStoreException") ∈ lw_all := lw_g (lw_at lw_m8 18 rfl) rfl
theorem q1839 : (Jvm.Cond.classLink "HeardPlaces" (730 : Nat) "java/lang/IndexOutOfBoundsException") ∈ lw_all := lw_g (lw_at lw_m8 32 rfl) rfl
theorem q1841 : (Jvm.Cond.instanceMethod ({ cls := "HeardPlaces", name := "trace", desc := "()I" } : Jvm.MethodName)) ∈ lw_all := lw_g (lw_at lw_m8 34 rfl) rfl
theorem q1842 : (Jvm.Cond.selects "HeardPlaces" ({ cls := "HeardPlaces", name := "trace", desc := "()I" } : Jvm.MethodName) ({ cls := "HeardPlaces", name := "trace", desc := "()I" } : Jvm.MethodName)) ∈ lw_all := lw_g (lw_at lw_m8 35 rfl) rfl
theorem q1843 : (Jvm.Cond.code ({ cls := "HeardPlaces", name := "trace", desc := "()I" } : Jvm.MethodName) prog_1_method_141_code (1 : Nat) (Option.some Jvm.ClassFile.FieldType.int)) ∈ lw_all := lw_g (lw_at lw_m8 36 rfl) rfl
theorem q1845 : (Jvm.Cond.instanceMethod ({ cls := "HeardPlaces", name := "fault", desc := "()I" } : Jvm.MethodName)) ∈ lw_all := lw_g (lw_at lw_m8 38 rfl) rfl
theorem q1846 : (Jvm.Cond.selects "HeardPlaces" ({ cls := "HeardPlaces", name := "fault", desc := "()I" } : Jvm.MethodName) ({ cls := "HeardPlaces", name := "fault", desc := "()I" } : Jvm.MethodName)) ∈ lw_all := lw_g (lw_at lw_m8 39 rfl) rfl
theorem q1847 : (Jvm.Cond.code ({ cls := "HeardPlaces", name := "fault", desc := "()I" } : Jvm.MethodName) prog_1_method_142_code (1 : Nat) (Option.some Jvm.ClassFile.FieldType.int)) ∈ lw_all := lw_g (lw_at lw_m8 40 rfl) rfl
theorem q1849 : (Jvm.Cond.instanceMethod ({ cls := "HeardPlaces", name := "many", desc := "(I)I" } : Jvm.MethodName)) ∈ lw_all := lw_g (lw_at lw_m8 42 rfl) rfl
theorem q1850 : (Jvm.Cond.selects "HeardPlaces" ({ cls := "HeardPlaces", name := "many", desc := "(I)I" } : Jvm.MethodName) ({ cls := "HeardPlaces", name := "many", desc := "(I)I" } : Jvm.MethodName)) ∈ lw_all := lw_g (lw_at lw_m8 43 rfl) rfl
theorem q1851 : (Jvm.Cond.code ({ cls := "HeardPlaces", name := "many", desc := "(I)I" } : Jvm.MethodName) prog_1_method_144_code (4 : Nat) (Option.some Jvm.ClassFile.FieldType.int)) ∈ lw_all := lw_g (lw_at lw_m8 44 rfl) rfl
theorem q1852 : (Jvm.Cond.methodLink "HeardPlaces" (732 : Nat) ({ cls := "HeardPlaces", name := "manyNarrowed", desc := "(Z)I" } : Jvm.MethodName)) ∈ lw_all := lw_g (lw_at lw_m8 45 rfl) rfl
theorem q1853 : (Jvm.Cond.privateMethod ({ cls := "HeardPlaces", name := "manyNarrowed", desc := "(Z)I" } : Jvm.MethodName)) ∈ lw_tbl := lw_at lw_m8 46 rfl
theorem q1854 : (Jvm.Cond.instanceMethod ({ cls := "HeardPlaces", name := "manyNarrowed", desc := "(Z)I" } : Jvm.MethodName)) ∈ lw_all := lw_g (lw_at lw_m8 47 rfl) rfl
theorem q1855 : (Jvm.Cond.code ({ cls := "HeardPlaces", name := "manyNarrowed", desc := "(Z)I" } : Jvm.MethodName) prog_1_method_143_code (4 : Nat) (Option.some Jvm.ClassFile.FieldType.int)) ∈ lw_all := lw_g (lw_at lw_m8 48 rfl) rfl
theorem q2671 : (Jvm.Cond.castable "HeardPlaces" "java/lang/Object") ∈ lw_tbl := lw_at lw_m11 144 rfl
theorem in_X0 : ∀ w ∈ wsX00, w ∈ lw_all := lw_in wsX00 [279, 281, 283, 285, 287, 289, 291, 293, 295, 297, 299, 301, 303, 305, 307, 309, 311, 313, 315, 317, 319, 321, 323, 325, 327, 329, 331, 333, 335, 337, 339, 341, 343, 345, 347, 349, 351, 353, 355, 357, 359, 361, 363, 365, 367, 369, 371, 373, 375, 377, 379, 381, 383, 385, 387] (by decide +kernel) (by decide +kernel)
