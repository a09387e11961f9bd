/-! StarEyeModel -/
set_option maxRecDepth 100000
def RX2 : String := "StarEyeModel"
def TX2 : u_T := fun k => match k with
  | 0 => ("StarEyeModel", "tape", "[I", true)
  | 1 => ("StarEyeModel", "taped", "I", false)
  | 2 => ("StarEyeModel", "fault", "I", false)
  | 3 => ("StarEyeModel", "faultPlace", "I", false)
  | 4 => ("StarEyeModel", "at", "I", false)
  | 5 => ("StarEyeModel", "size", "I", false)
  | 6 => ("StarEyeModel", "sort", "I", false)
  | 7 => ("StarEyeModel", "place", "I", false)
  | 8 => ("StarEyeModel", "number", "I", false)
  | 9 => ("StarEyeModel", "word", "J", false)
  | 10 => ("StarEyeModel", "ofRules", "Z", false)
  | 11 => ("StarEyeModel", "nTold", "[I", true)
  | 12 => ("StarEyeModel", "told", "[I", true)
  | 13 => ("StarEyeModel", "nX", "[I", true)
  | 14 => ("StarEyeModel", "nY", "[I", true)
  | 15 => ("StarEyeModel", "nLight", "[I", true)
  | 16 => ("StarEyeModel", "starX", "[I", true)
  | 17 => ("StarEyeModel", "starY", "[I", true)
  | 18 => ("StarEyeModel", "starLight", "[I", true)
  | 19 => ("StarEyeModel", "nHas", "[Z", true)
  | 20 => ("StarEyeModel", "nName", "[J", true)
  | 21 => ("StarEyeModel", "nStars", "I", false)
  | 22 => ("StarEyeModel", "stars", "I", false)
  | 23 => ("StarEyeModel", "lights", "[I", true)
  | 24 => ("StarEyeModel", "nRow", "[I", true)
  | 25 => ("StarEyeModel", "whenTold", "[I", true)
  | 26 => ("StarEyeModel", "untold", "[I", true)
  | 27 => ("StarEyeModel", "isFree", "[Z", true)
  | 28 => ("StarEyeModel", "pictures", "I", false)
  | 29 => ("StarEyeModel", "time", "I", false)
  | 30 => ("StarEyeModel", "dLight", "[I", true)
  | 31 => ("StarEyeModel", "dX", "[I", true)
  | 32 => ("StarEyeModel", "dY", "[I", true)
  | 33 => ("StarEyeModel", "dPixels", "[I", true)
  | 34 => ("StarEyeModel", "dKind", "[I", true)
  | 35 => ("StarEyeModel", "order", "[I", true)
  | 36 => ("StarEyeModel", "marks", "[I", true)
  | 37 => ("StarEyeModel", "dSmear", "[Z", true)
  | 38 => ("StarEyeModel", "found", "I", false)
  | 39 => ("StarEyeModel", "dotMany", "I", false)
  | 40 => ("StarEyeModel", "seen", "[I", true)
  | 41 => ("StarEyeModel", "isHere", "[Z", true)
  | 42 => ("StarEyeModel", "points", "[I", true)
  | 43 => ("StarEyeModel", "pointMany", "I", false)
  | 44 => ("StarEyeModel", "ofStars", "[I", true)
  | 45 => ("StarEyeModel", "ofPoints", "[I", true)
  | 46 => ("StarEyeModel", "row", "[I", true)
  | 47 => ("StarEyeModel", "names", "[I", true)
  | 48 => ("StarEyeModel", "namingMany", "I", false)
  | 49 => ("StarEyeModel", "namedMany", "I", false)
  | 50 => ("StarEyeModel", "up", "J", false)
  | 51 => ("StarEyeModel", "low", "J", false)
  | 52 => ("StarEyeModel", "sumA", "J", false)
  | 53 => ("StarEyeModel", "sumC", "J", false)
  | 54 => ("StarEyeModel", "sumS", "J", false)
  | 55 => ("StarEyeModel", "allX", "J", false)
  | 56 => ("StarEyeModel", "allY", "J", false)
  | 57 => ("StarEyeModel", "allStarX", "J", false)
  | 58 => ("StarEyeModel", "allStarY", "J", false)
  | 59 => ("StarEyeModel", "many", "J", false)
  | 60 => ("StarEyeModel", "fromX", "[I", true)
  | 61 => ("StarEyeModel", "fromY", "[I", true)
  | 62 => ("StarEyeModel", "becomes", "[I", true)
  | 63 => ("StarEyeModel", "isTaken", "[Z", true)
  | 64 => ("StarEyeModel", "fromMany", "I", false)
  | 65 => ("StarEyeModel", "followedMany", "I", false)
  | 66 => ("StarEyeModel", "placeX", "I", false)
  | 67 => ("StarEyeModel", "placeY", "I", false)
  | 68 => ("StarEyeModel", "bright", "[I", true)
  | 69 => ("StarEyeModel", "nWhat", "[I", true)
  | 70 => ("StarEyeModel", "nNumber", "[I", true)
  | 71 => ("StarEyeModel", "nBegin", "[I", true)
  | 72 => ("StarEyeModel", "nTrust", "[I", true)
  | 73 => ("StarEyeModel", "whats", "[I", true)
  | 74 => ("StarEyeModel", "numbers", "[I", true)
  | 75 => ("StarEyeModel", "begin", "[I", true)
  | 76 => ("StarEyeModel", "trusts", "[I", true)
  | 77 => ("StarEyeModel", "waits", "[I", true)
  | 78 => ("StarEyeModel", "pile", "[I", true)
  | 79 => ("StarEyeModel", "asked", "[I", true)
  | 80 => ("StarEyeModel", "nNotes", "I", false)
  | 81 => ("StarEyeModel", "nRules", "I", false)
  | 82 => ("StarEyeModel", "nUnits", "I", false)
  | 83 => ("StarEyeModel", "ruleMany", "I", false)
  | 84 => ("StarEyeModel", "units", "I", false)
  | 85 => ("StarEyeModel", "waiting", "I", false)
  | 86 => ("StarEyeModel", "deep", "I", false)
  | 87 => ("StarEyeModel", "hasBox", "[Z", true)
  | 88 => ("StarEyeModel", "boxFree", "[Z", true)
  | 89 => ("StarEyeModel", "boxLights", "[I", true)
  | 90 => ("StarEyeModel", "boxTold", "[I", true)
  | 91 => ("StarEyeModel", "boxUntold", "[I", true)
  | 92 => ("StarEyeModel", "boxMany", "[I", true)
  | _ => ("StarEyeModel", "boxTime", "[I", true)
def tyX2 : Nat → FieldType := fun k => match k with
  | 0 => .array .int
  | 1 => .int
  | 2 => .int
  | 3 => .int
  | 4 => .int
  | 5 => .int
  | 6 => .int
  | 7 => .int
  | 8 => .int
  | 9 => .long
  | 10 => .boolean
  | 11 => .array .int
  | 12 => .array .int
  | 13 => .array .int
  | 14 => .array .int
  | 15 => .array .int
  | 16 => .array .int
  | 17 => .array .int
  | 18 => .array .int
  | 19 => .array .boolean
  | 20 => .array .long
  | 21 => .int
  | 22 => .int
  | 23 => .array .int
  | 24 => .array .int
  | 25 => .array .int
  | 26 => .array .int
  | 27 => .array .boolean
  | 28 => .int
  | 29 => .int
  | 30 => .array .int
  | 31 => .array .int
  | 32 => .array .int
  | 33 => .array .int
  | 34 => .array .int
  | 35 => .array .int
  | 36 => .array .int
  | 37 => .array .boolean
  | 38 => .int
  | 39 => .int
  | 40 => .array .int
  | 41 => .array .boolean
  | 42 => .array .int
  | 43 => .int
  | 44 => .array .int
  | 45 => .array .int
  | 46 => .array .int
  | 47 => .array .int
  | 48 => .int
  | 49 => .int
  | 50 => .long
  | 51 => .long
  | 52 => .long
  | 53 => .long
  | 54 => .long
  | 55 => .long
  | 56 => .long
  | 57 => .long
  | 58 => .long
  | 59 => .long
  | 60 => .array .int
  | 61 => .array .int
  | 62 => .array .int
  | 63 => .array .boolean
  | 64 => .int
  | 65 => .int
  | 66 => .int
  | 67 => .int
  | 68 => .array .int
  | 69 => .array .int
  | 70 => .array .int
  | 71 => .array .int
  | 72 => .array .int
  | 73 => .array .int
  | 74 => .array .int
  | 75 => .array .int
  | 76 => .array .int
  | 77 => .array .int
  | 78 => .array .int
  | 79 => .array .int
  | 80 => .int
  | 81 => .int
  | 82 => .int
  | 83 => .int
  | 84 => .int
  | 85 => .int
  | 86 => .int
  | 87 => .array .boolean
  | 88 => .array .boolean
  | 89 => .array .int
  | 90 => .array .int
  | 91 => .array .int
  | 92 => .array .int
  | _ => .array .int
abbrev wsX20 : List Cond := u_ws RX2 TX2 94
set_option maxRecDepth 100000 in
theorem nmX2 : ∀ a, a < 94 → ∀ b, b < 94 → a ≠ b → (TX2 a).2.1 ≠ (TX2 b).2.1 := by decide +kernel
set_option maxRecDepth 100000 in
theorem tyX2_ok : ∀ k, k < 94 → parseFieldDescriptor (TX2 k).2.2.1 = some (tyX2 k) := by decide +kernel
abbrev cX2_init : ByteArray := prog_28_method_1_code
def yX2_init : MethodName := ⟨RX2, "<init>", "()V"⟩
def dkwX2_init_19 : List UInt8 := [181, 0, 169, 42, 6, 188, 10, 181, 0, 172, 42, 6, 188, 10, 181, 0, 175, 42, 182, 0, 178, 177]
abbrev dktX2_init_19 : List UInt8 := dkwX2_init_19 ++ []
def dkwX2_init_18 : List UInt8 := [42, 17, 36, 0, 188, 10, 181, 0, 163, 42, 16, 36, 188, 10, 181, 0, 166, 42, 16, 36, 188, 10]
abbrev dktX2_init_18 : List UInt8 := dkwX2_init_18 ++ dktX2_init_19
def dkwX2_init_17 : List UInt8 := [42, 16, 9, 188, 10, 181, 0, 154, 42, 6, 188, 4, 181, 0, 157, 42, 17, 3, 0, 188, 4, 181, 0, 160]
abbrev dktX2_init_17 : List UInt8 := dkwX2_init_17 ++ dktX2_init_18
def dkwX2_init_16 : List UInt8 := [16, 6, 188, 10, 181, 0, 145, 42, 17, 1, 44, 188, 10, 181, 0, 148, 42, 16, 50, 188, 10, 181, 0, 151]
abbrev dktX2_init_16 : List UInt8 := dkwX2_init_16 ++ dktX2_init_17
def dkwX2_init_15 : List UInt8 := [188, 10, 181, 0, 136, 42, 17, 1, 44, 188, 10, 181, 0, 139, 42, 16, 7, 188, 10, 181, 0, 142, 42]
abbrev dktX2_init_15 : List UInt8 := dkwX2_init_15 ++ dktX2_init_16
def dkwX2_init_14 : List UInt8 := [181, 0, 127, 42, 16, 7, 188, 10, 181, 0, 130, 42, 16, 6, 188, 10, 181, 0, 133, 42, 17, 1, 44]
abbrev dktX2_init_14 : List UInt8 := dkwX2_init_14 ++ dktX2_init_15
def dkwX2_init_13 : List UInt8 := [16, 32, 188, 10, 181, 0, 121, 42, 17, 1, 44, 188, 10, 181, 0, 124, 42, 17, 1, 44, 188, 10]
abbrev dktX2_init_13 : List UInt8 := dkwX2_init_13 ++ dktX2_init_14
def dkwX2_init_12 : List UInt8 := [16, 12, 188, 10, 181, 0, 112, 42, 16, 12, 188, 10, 181, 0, 115, 42, 16, 12, 188, 4, 181, 0, 118, 42]
abbrev dktX2_init_12 : List UInt8 := dkwX2_init_12 ++ dktX2_init_13
def dkwX2_init_11 : List UInt8 := [188, 10, 181, 0, 103, 42, 17, 4, 176, 188, 10, 181, 0, 106, 42, 16, 12, 188, 10, 181, 0, 109, 42]
abbrev dktX2_init_11 : List UInt8 := dkwX2_init_11 ++ dktX2_init_12
def dkwX2_init_10 : List UInt8 := [181, 0, 94, 42, 17, 4, 0, 188, 10, 181, 0, 97, 42, 16, 36, 188, 10, 181, 0, 100, 42, 16, 6]
abbrev dktX2_init_10 : List UInt8 := dkwX2_init_10 ++ dktX2_init_11
def dkwX2_init_9 : List UInt8 := [17, 1, 0, 188, 10, 181, 0, 88, 42, 17, 1, 0, 188, 4, 181, 0, 91, 42, 16, 12, 188, 10]
abbrev dktX2_init_9 : List UInt8 := dkwX2_init_9 ++ dktX2_init_10
def dkwX2_init_8 : List UInt8 := [188, 10, 181, 0, 79, 42, 17, 1, 0, 188, 10, 181, 0, 82, 42, 17, 0, 140, 188, 4, 181, 0, 85, 42]
abbrev dktX2_init_8 : List UInt8 := dkwX2_init_8 ++ dktX2_init_9
def dkwX2_init_7 : List UInt8 := [181, 0, 70, 42, 17, 0, 140, 188, 10, 181, 0, 73, 42, 16, 12, 188, 10, 181, 0, 76, 42, 17, 0, 140]
abbrev dktX2_init_7 : List UInt8 := dkwX2_init_7 ++ dktX2_init_8
def dkwX2_init_6 : List UInt8 := [17, 0, 140, 188, 10, 181, 0, 64, 42, 17, 0, 140, 188, 10, 181, 0, 67, 42, 17, 0, 140, 188, 10]
abbrev dktX2_init_6 : List UInt8 := dkwX2_init_6 ++ dktX2_init_7
def dkwX2_init_5 : List UInt8 := [188, 10, 181, 0, 55, 42, 16, 12, 188, 10, 181, 0, 58, 42, 17, 1, 0, 188, 4, 181, 0, 61, 42]
abbrev dktX2_init_5 : List UInt8 := dkwX2_init_5 ++ dktX2_init_6
def dkwX2_init_4 : List UInt8 := [181, 0, 45, 42, 17, 12, 0, 188, 10, 181, 0, 49, 42, 17, 1, 0, 188, 10, 181, 0, 52, 42, 16, 12]
abbrev dktX2_init_4 : List UInt8 := dkwX2_init_4 ++ dktX2_init_5
def dkwX2_init_3 : List UInt8 := [181, 0, 35, 42, 16, 32, 188, 10, 181, 0, 38, 42, 16, 12, 188, 4, 181, 0, 41, 42, 16, 32, 188, 11]
abbrev dktX2_init_3 : List UInt8 := dkwX2_init_3 ++ dktX2_init_4
def dkwX2_init_2 : List UInt8 := [181, 0, 26, 42, 16, 32, 188, 10, 181, 0, 29, 42, 16, 32, 188, 10, 181, 0, 32, 42, 16, 32, 188, 10]
abbrev dktX2_init_2 : List UInt8 := dkwX2_init_2 ++ dktX2_init_3
def dkwX2_init_1 : List UInt8 := [181, 0, 17, 42, 16, 12, 188, 10, 181, 0, 20, 42, 16, 32, 188, 10, 181, 0, 23, 42, 16, 32, 188, 10]
abbrev dktX2_init_1 : List UInt8 := dkwX2_init_1 ++ dktX2_init_2
def dkwX2_init_0 : List UInt8 := [42, 183, 0, 1, 42, 17, 5, 220, 188, 10, 181, 0, 7, 42, 2, 181, 0, 13, 42, 16, 12, 188, 10]
abbrev dktX2_init_0 : List UInt8 := dkwX2_init_0 ++ dktX2_init_1
theorem dksX2_init_0 : cX2_init.data.toList.drop 0 = dktX2_init_0 := by decide +kernel
theorem dksX2_init_1 : cX2_init.data.toList.drop 23 = dktX2_init_1 := dk_seg dksX2_init_0 23 rfl rfl
theorem dksX2_init_2 : cX2_init.data.toList.drop 47 = dktX2_init_2 := dk_seg dksX2_init_1 24 rfl rfl
theorem dksX2_init_3 : cX2_init.data.toList.drop 71 = dktX2_init_3 := dk_seg dksX2_init_2 24 rfl rfl
theorem dksX2_init_4 : cX2_init.data.toList.drop 95 = dktX2_init_4 := dk_seg dksX2_init_3 24 rfl rfl
theorem dksX2_init_5 : cX2_init.data.toList.drop 119 = dktX2_init_5 := dk_seg dksX2_init_4 24 rfl rfl
theorem dksX2_init_6 : cX2_init.data.toList.drop 142 = dktX2_init_6 := dk_seg dksX2_init_5 23 rfl rfl
theorem dksX2_init_7 : cX2_init.data.toList.drop 165 = dktX2_init_7 := dk_seg dksX2_init_6 23 rfl rfl
theorem dksX2_init_8 : cX2_init.data.toList.drop 189 = dktX2_init_8 := dk_seg dksX2_init_7 24 rfl rfl
theorem dksX2_init_9 : cX2_init.data.toList.drop 213 = dktX2_init_9 := dk_seg dksX2_init_8 24 rfl rfl
theorem dksX2_init_10 : cX2_init.data.toList.drop 235 = dktX2_init_10 := dk_seg dksX2_init_9 22 rfl rfl
theorem dksX2_init_11 : cX2_init.data.toList.drop 258 = dktX2_init_11 := dk_seg dksX2_init_10 23 rfl rfl
theorem dksX2_init_12 : cX2_init.data.toList.drop 281 = dktX2_init_12 := dk_seg dksX2_init_11 23 rfl rfl
theorem dksX2_init_13 : cX2_init.data.toList.drop 305 = dktX2_init_13 := dk_seg dksX2_init_12 24 rfl rfl
theorem dksX2_init_14 : cX2_init.data.toList.drop 327 = dktX2_init_14 := dk_seg dksX2_init_13 22 rfl rfl
theorem dksX2_init_15 : cX2_init.data.toList.drop 350 = dktX2_init_15 := dk_seg dksX2_init_14 23 rfl rfl
theorem dksX2_init_16 : cX2_init.data.toList.drop 373 = dktX2_init_16 := dk_seg dksX2_init_15 23 rfl rfl
theorem dksX2_init_17 : cX2_init.data.toList.drop 397 = dktX2_init_17 := dk_seg dksX2_init_16 24 rfl rfl
theorem dksX2_init_18 : cX2_init.data.toList.drop 421 = dktX2_init_18 := dk_seg dksX2_init_17 24 rfl rfl
theorem dksX2_init_19 : cX2_init.data.toList.drop 443 = dktX2_init_19 := dk_seg dksX2_init_18 22 rfl rfl
theorem dX2_init_0 : decode cX2_init 0 = .ok (.aload_n 0, 1) := dk_42 (dk_at dksX2_init_0 0 rfl rfl)
theorem dX2_init_1 : decode cX2_init 1 = .ok (.invokespecial 1, 3) := dk_183 0 1 (dk_at dksX2_init_0 1 rfl rfl)
theorem dX2_init_4 : decode cX2_init 4 = .ok (.aload_n 0, 1) := dk_42 (dk_at dksX2_init_0 4 rfl rfl)
theorem dX2_init_5 : decode cX2_init 5 = .ok (.sipush 1500, 3) := dk_17 5 220 (dk_at dksX2_init_0 5 rfl rfl)
theorem dX2_init_8 : decode cX2_init 8 = .ok (.newarray .int, 2) := dk_188_10 (dk_at dksX2_init_0 8 rfl rfl)
theorem dX2_init_10 : decode cX2_init 10 = .ok (.putfield 7, 3) := dk_181 0 7 (dk_at dksX2_init_0 10 rfl rfl)
theorem dX2_init_13 : decode cX2_init 13 = .ok (.aload_n 0, 1) := dk_42 (dk_at dksX2_init_0 13 rfl rfl)
theorem dX2_init_14 : decode cX2_init 14 = .ok (.iconst (-1), 1) := dk_2 (dk_at dksX2_init_0 14 rfl rfl)
theorem dX2_init_15 : decode cX2_init 15 = .ok (.putfield 13, 3) := dk_181 0 13 (dk_at dksX2_init_0 15 rfl rfl)
theorem dX2_init_18 : decode cX2_init 18 = .ok (.aload_n 0, 1) := dk_42 (dk_at dksX2_init_0 18 rfl rfl)
theorem dX2_init_19 : decode cX2_init 19 = .ok (.bipush 12, 2) := dk_16 12 (dk_at dksX2_init_0 19 rfl rfl)
theorem dX2_init_21 : decode cX2_init 21 = .ok (.newarray .int, 2) := dk_188_10 (dk_at dksX2_init_0 21 rfl rfl)
theorem dX2_init_23 : decode cX2_init 23 = .ok (.putfield 17, 3) := dk_181 0 17 (dk_at dksX2_init_1 0 rfl rfl)
theorem dX2_init_26 : decode cX2_init 26 = .ok (.aload_n 0, 1) := dk_42 (dk_at dksX2_init_1 3 rfl rfl)
theorem dX2_init_27 : decode cX2_init 27 = .ok (.bipush 12, 2) := dk_16 12 (dk_at dksX2_init_1 4 rfl rfl)
theorem dX2_init_29 : decode cX2_init 29 = .ok (.newarray .int, 2) := dk_188_10 (dk_at dksX2_init_1 6 rfl rfl)
theorem dX2_init_31 : decode cX2_init 31 = .ok (.putfield 20, 3) := dk_181 0 20 (dk_at dksX2_init_1 8 rfl rfl)
theorem dX2_init_34 : decode cX2_init 34 = .ok (.aload_n 0, 1) := dk_42 (dk_at dksX2_init_1 11 rfl rfl)
theorem dX2_init_35 : decode cX2_init 35 = .ok (.bipush 32, 2) := dk_16 32 (dk_at dksX2_init_1 12 rfl rfl)
theorem dX2_init_37 : decode cX2_init 37 = .ok (.newarray .int, 2) := dk_188_10 (dk_at dksX2_init_1 14 rfl rfl)
theorem dX2_init_39 : decode cX2_init 39 = .ok (.putfield 23, 3) := dk_181 0 23 (dk_at dksX2_init_1 16 rfl rfl)
theorem dX2_init_42 : decode cX2_init 42 = .ok (.aload_n 0, 1) := dk_42 (dk_at dksX2_init_1 19 rfl rfl)
theorem dX2_init_43 : decode cX2_init 43 = .ok (.bipush 32, 2) := dk_16 32 (dk_at dksX2_init_1 20 rfl rfl)
theorem dX2_init_45 : decode cX2_init 45 = .ok (.newarray .int, 2) := dk_188_10 (dk_at dksX2_init_1 22 rfl rfl)
theorem dX2_init_47 : decode cX2_init 47 = .ok (.putfield 26, 3) := dk_181 0 26 (dk_at dksX2_init_2 0 rfl rfl)
theorem dX2_init_50 : decode cX2_init 50 = .ok (.aload_n 0, 1) := dk_42 (dk_at dksX2_init_2 3 rfl rfl)
theorem dX2_init_51 : decode cX2_init 51 = .ok (.bipush 32, 2) := dk_16 32 (dk_at dksX2_init_2 4 rfl rfl)
theorem dX2_init_53 : decode cX2_init 53 = .ok (.newarray .int, 2) := dk_188_10 (dk_at dksX2_init_2 6 rfl rfl)
theorem dX2_init_55 : decode cX2_init 55 = .ok (.putfield 29, 3) := dk_181 0 29 (dk_at dksX2_init_2 8 rfl rfl)
theorem dX2_init_58 : decode cX2_init 58 = .ok (.aload_n 0, 1) := dk_42 (dk_at dksX2_init_2 11 rfl rfl)
theorem dX2_init_59 : decode cX2_init 59 = .ok (.bipush 32, 2) := dk_16 32 (dk_at dksX2_init_2 12 rfl rfl)
theorem dX2_init_61 : decode cX2_init 61 = .ok (.newarray .int, 2) := dk_188_10 (dk_at dksX2_init_2 14 rfl rfl)
theorem dX2_init_63 : decode cX2_init 63 = .ok (.putfield 32, 3) := dk_181 0 32 (dk_at dksX2_init_2 16 rfl rfl)
theorem dX2_init_66 : decode cX2_init 66 = .ok (.aload_n 0, 1) := dk_42 (dk_at dksX2_init_2 19 rfl rfl)
theorem dX2_init_67 : decode cX2_init 67 = .ok (.bipush 32, 2) := dk_16 32 (dk_at dksX2_init_2 20 rfl rfl)
theorem dX2_init_69 : decode cX2_init 69 = .ok (.newarray .int, 2) := dk_188_10 (dk_at dksX2_init_2 22 rfl rfl)
theorem dX2_init_71 : decode cX2_init 71 = .ok (.putfield 35, 3) := dk_181 0 35 (dk_at dksX2_init_3 0 rfl rfl)
theorem dX2_init_74 : decode cX2_init 74 = .ok (.aload_n 0, 1) := dk_42 (dk_at dksX2_init_3 3 rfl rfl)
theorem dX2_init_75 : decode cX2_init 75 = .ok (.bipush 32, 2) := dk_16 32 (dk_at dksX2_init_3 4 rfl rfl)
theorem dX2_init_77 : decode cX2_init 77 = .ok (.newarray .int, 2) := dk_188_10 (dk_at dksX2_init_3 6 rfl rfl)
theorem dX2_init_79 : decode cX2_init 79 = .ok (.putfield 38, 3) := dk_181 0 38 (dk_at dksX2_init_3 8 rfl rfl)
theorem dX2_init_82 : decode cX2_init 82 = .ok (.aload_n 0, 1) := dk_42 (dk_at dksX2_init_3 11 rfl rfl)
theorem dX2_init_83 : decode cX2_init 83 = .ok (.bipush 12, 2) := dk_16 12 (dk_at dksX2_init_3 12 rfl rfl)
theorem dX2_init_85 : decode cX2_init 85 = .ok (.newarray .boolean, 2) := dk_188_4 (dk_at dksX2_init_3 14 rfl rfl)
theorem dX2_init_87 : decode cX2_init 87 = .ok (.putfield 41, 3) := dk_181 0 41 (dk_at dksX2_init_3 16 rfl rfl)
theorem dX2_init_90 : decode cX2_init 90 = .ok (.aload_n 0, 1) := dk_42 (dk_at dksX2_init_3 19 rfl rfl)
theorem dX2_init_91 : decode cX2_init 91 = .ok (.bipush 32, 2) := dk_16 32 (dk_at dksX2_init_3 20 rfl rfl)
theorem dX2_init_93 : decode cX2_init 93 = .ok (.newarray .long, 2) := dk_188_11 (dk_at dksX2_init_3 22 rfl rfl)
theorem dX2_init_95 : decode cX2_init 95 = .ok (.putfield 45, 3) := dk_181 0 45 (dk_at dksX2_init_4 0 rfl rfl)
theorem dX2_init_98 : decode cX2_init 98 = .ok (.aload_n 0, 1) := dk_42 (dk_at dksX2_init_4 3 rfl rfl)
theorem dX2_init_99 : decode cX2_init 99 = .ok (.sipush 3072, 3) := dk_17 12 0 (dk_at dksX2_init_4 4 rfl rfl)
theorem dX2_init_102 : decode cX2_init 102 = .ok (.newarray .int, 2) := dk_188_10 (dk_at dksX2_init_4 7 rfl rfl)
theorem dX2_init_104 : decode cX2_init 104 = .ok (.putfield 49, 3) := dk_181 0 49 (dk_at dksX2_init_4 9 rfl rfl)
theorem dX2_init_107 : decode cX2_init 107 = .ok (.aload_n 0, 1) := dk_42 (dk_at dksX2_init_4 12 rfl rfl)
theorem dX2_init_108 : decode cX2_init 108 = .ok (.sipush 256, 3) := dk_17 1 0 (dk_at dksX2_init_4 13 rfl rfl)
theorem dX2_init_111 : decode cX2_init 111 = .ok (.newarray .int, 2) := dk_188_10 (dk_at dksX2_init_4 16 rfl rfl)
theorem dX2_init_113 : decode cX2_init 113 = .ok (.putfield 52, 3) := dk_181 0 52 (dk_at dksX2_init_4 18 rfl rfl)
theorem dX2_init_116 : decode cX2_init 116 = .ok (.aload_n 0, 1) := dk_42 (dk_at dksX2_init_4 21 rfl rfl)
theorem dX2_init_117 : decode cX2_init 117 = .ok (.bipush 12, 2) := dk_16 12 (dk_at dksX2_init_4 22 rfl rfl)
theorem dX2_init_119 : decode cX2_init 119 = .ok (.newarray .int, 2) := dk_188_10 (dk_at dksX2_init_5 0 rfl rfl)
theorem dX2_init_121 : decode cX2_init 121 = .ok (.putfield 55, 3) := dk_181 0 55 (dk_at dksX2_init_5 2 rfl rfl)
theorem dX2_init_124 : decode cX2_init 124 = .ok (.aload_n 0, 1) := dk_42 (dk_at dksX2_init_5 5 rfl rfl)
theorem dX2_init_125 : decode cX2_init 125 = .ok (.bipush 12, 2) := dk_16 12 (dk_at dksX2_init_5 6 rfl rfl)
theorem dX2_init_127 : decode cX2_init 127 = .ok (.newarray .int, 2) := dk_188_10 (dk_at dksX2_init_5 8 rfl rfl)
theorem dX2_init_129 : decode cX2_init 129 = .ok (.putfield 58, 3) := dk_181 0 58 (dk_at dksX2_init_5 10 rfl rfl)
theorem dX2_init_132 : decode cX2_init 132 = .ok (.aload_n 0, 1) := dk_42 (dk_at dksX2_init_5 13 rfl rfl)
theorem dX2_init_133 : decode cX2_init 133 = .ok (.sipush 256, 3) := dk_17 1 0 (dk_at dksX2_init_5 14 rfl rfl)
theorem dX2_init_136 : decode cX2_init 136 = .ok (.newarray .boolean, 2) := dk_188_4 (dk_at dksX2_init_5 17 rfl rfl)
theorem dX2_init_138 : decode cX2_init 138 = .ok (.putfield 61, 3) := dk_181 0 61 (dk_at dksX2_init_5 19 rfl rfl)
theorem dX2_init_141 : decode cX2_init 141 = .ok (.aload_n 0, 1) := dk_42 (dk_at dksX2_init_5 22 rfl rfl)
theorem dX2_init_142 : decode cX2_init 142 = .ok (.sipush 140, 3) := dk_17 0 140 (dk_at dksX2_init_6 0 rfl rfl)
theorem dX2_init_145 : decode cX2_init 145 = .ok (.newarray .int, 2) := dk_188_10 (dk_at dksX2_init_6 3 rfl rfl)
theorem dX2_init_147 : decode cX2_init 147 = .ok (.putfield 64, 3) := dk_181 0 64 (dk_at dksX2_init_6 5 rfl rfl)
theorem dX2_init_150 : decode cX2_init 150 = .ok (.aload_n 0, 1) := dk_42 (dk_at dksX2_init_6 8 rfl rfl)
theorem dX2_init_151 : decode cX2_init 151 = .ok (.sipush 140, 3) := dk_17 0 140 (dk_at dksX2_init_6 9 rfl rfl)
theorem dX2_init_154 : decode cX2_init 154 = .ok (.newarray .int, 2) := dk_188_10 (dk_at dksX2_init_6 12 rfl rfl)
theorem dX2_init_156 : decode cX2_init 156 = .ok (.putfield 67, 3) := dk_181 0 67 (dk_at dksX2_init_6 14 rfl rfl)
theorem dX2_init_159 : decode cX2_init 159 = .ok (.aload_n 0, 1) := dk_42 (dk_at dksX2_init_6 17 rfl rfl)
theorem dX2_init_160 : decode cX2_init 160 = .ok (.sipush 140, 3) := dk_17 0 140 (dk_at dksX2_init_6 18 rfl rfl)
theorem dX2_init_163 : decode cX2_init 163 = .ok (.newarray .int, 2) := dk_188_10 (dk_at dksX2_init_6 21 rfl rfl)
theorem dX2_init_165 : decode cX2_init 165 = .ok (.putfield 70, 3) := dk_181 0 70 (dk_at dksX2_init_7 0 rfl rfl)
theorem dX2_init_168 : decode cX2_init 168 = .ok (.aload_n 0, 1) := dk_42 (dk_at dksX2_init_7 3 rfl rfl)
theorem dX2_init_169 : decode cX2_init 169 = .ok (.sipush 140, 3) := dk_17 0 140 (dk_at dksX2_init_7 4 rfl rfl)
theorem dX2_init_172 : decode cX2_init 172 = .ok (.newarray .int, 2) := dk_188_10 (dk_at dksX2_init_7 7 rfl rfl)
theorem dX2_init_174 : decode cX2_init 174 = .ok (.putfield 73, 3) := dk_181 0 73 (dk_at dksX2_init_7 9 rfl rfl)
theorem dX2_init_177 : decode cX2_init 177 = .ok (.aload_n 0, 1) := dk_42 (dk_at dksX2_init_7 12 rfl rfl)
theorem dX2_init_178 : decode cX2_init 178 = .ok (.bipush 12, 2) := dk_16 12 (dk_at dksX2_init_7 13 rfl rfl)
theorem dX2_init_180 : decode cX2_init 180 = .ok (.newarray .int, 2) := dk_188_10 (dk_at dksX2_init_7 15 rfl rfl)
theorem dX2_init_182 : decode cX2_init 182 = .ok (.putfield 76, 3) := dk_181 0 76 (dk_at dksX2_init_7 17 rfl rfl)
theorem dX2_init_185 : decode cX2_init 185 = .ok (.aload_n 0, 1) := dk_42 (dk_at dksX2_init_7 20 rfl rfl)
theorem dX2_init_186 : decode cX2_init 186 = .ok (.sipush 140, 3) := dk_17 0 140 (dk_at dksX2_init_7 21 rfl rfl)
theorem dX2_init_189 : decode cX2_init 189 = .ok (.newarray .int, 2) := dk_188_10 (dk_at dksX2_init_8 0 rfl rfl)
theorem dX2_init_191 : decode cX2_init 191 = .ok (.putfield 79, 3) := dk_181 0 79 (dk_at dksX2_init_8 2 rfl rfl)
theorem dX2_init_194 : decode cX2_init 194 = .ok (.aload_n 0, 1) := dk_42 (dk_at dksX2_init_8 5 rfl rfl)
theorem dX2_init_195 : decode cX2_init 195 = .ok (.sipush 256, 3) := dk_17 1 0 (dk_at dksX2_init_8 6 rfl rfl)
theorem dX2_init_198 : decode cX2_init 198 = .ok (.newarray .int, 2) := dk_188_10 (dk_at dksX2_init_8 9 rfl rfl)
theorem dX2_init_200 : decode cX2_init 200 = .ok (.putfield 82, 3) := dk_181 0 82 (dk_at dksX2_init_8 11 rfl rfl)
theorem dX2_init_203 : decode cX2_init 203 = .ok (.aload_n 0, 1) := dk_42 (dk_at dksX2_init_8 14 rfl rfl)
theorem dX2_init_204 : decode cX2_init 204 = .ok (.sipush 140, 3) := dk_17 0 140 (dk_at dksX2_init_8 15 rfl rfl)
theorem dX2_init_207 : decode cX2_init 207 = .ok (.newarray .boolean, 2) := dk_188_4 (dk_at dksX2_init_8 18 rfl rfl)
theorem dX2_init_209 : decode cX2_init 209 = .ok (.putfield 85, 3) := dk_181 0 85 (dk_at dksX2_init_8 20 rfl rfl)
theorem dX2_init_212 : decode cX2_init 212 = .ok (.aload_n 0, 1) := dk_42 (dk_at dksX2_init_8 23 rfl rfl)
theorem dX2_init_213 : decode cX2_init 213 = .ok (.sipush 256, 3) := dk_17 1 0 (dk_at dksX2_init_9 0 rfl rfl)
theorem dX2_init_216 : decode cX2_init 216 = .ok (.newarray .int, 2) := dk_188_10 (dk_at dksX2_init_9 3 rfl rfl)
theorem dX2_init_218 : decode cX2_init 218 = .ok (.putfield 88, 3) := dk_181 0 88 (dk_at dksX2_init_9 5 rfl rfl)
theorem dX2_init_221 : decode cX2_init 221 = .ok (.aload_n 0, 1) := dk_42 (dk_at dksX2_init_9 8 rfl rfl)
theorem dX2_init_222 : decode cX2_init 222 = .ok (.sipush 256, 3) := dk_17 1 0 (dk_at dksX2_init_9 9 rfl rfl)
theorem dX2_init_225 : decode cX2_init 225 = .ok (.newarray .boolean, 2) := dk_188_4 (dk_at dksX2_init_9 12 rfl rfl)
theorem dX2_init_227 : decode cX2_init 227 = .ok (.putfield 91, 3) := dk_181 0 91 (dk_at dksX2_init_9 14 rfl rfl)
theorem dX2_init_230 : decode cX2_init 230 = .ok (.aload_n 0, 1) := dk_42 (dk_at dksX2_init_9 17 rfl rfl)
theorem dX2_init_231 : decode cX2_init 231 = .ok (.bipush 12, 2) := dk_16 12 (dk_at dksX2_init_9 18 rfl rfl)
theorem dX2_init_233 : decode cX2_init 233 = .ok (.newarray .int, 2) := dk_188_10 (dk_at dksX2_init_9 20 rfl rfl)
theorem dX2_init_235 : decode cX2_init 235 = .ok (.putfield 94, 3) := dk_181 0 94 (dk_at dksX2_init_10 0 rfl rfl)
theorem dX2_init_238 : decode cX2_init 238 = .ok (.aload_n 0, 1) := dk_42 (dk_at dksX2_init_10 3 rfl rfl)
theorem dX2_init_239 : decode cX2_init 239 = .ok (.sipush 1024, 3) := dk_17 4 0 (dk_at dksX2_init_10 4 rfl rfl)
theorem dX2_init_242 : decode cX2_init 242 = .ok (.newarray .int, 2) := dk_188_10 (dk_at dksX2_init_10 7 rfl rfl)
theorem dX2_init_244 : decode cX2_init 244 = .ok (.putfield 97, 3) := dk_181 0 97 (dk_at dksX2_init_10 9 rfl rfl)
theorem dX2_init_247 : decode cX2_init 247 = .ok (.aload_n 0, 1) := dk_42 (dk_at dksX2_init_10 12 rfl rfl)
theorem dX2_init_248 : decode cX2_init 248 = .ok (.bipush 36, 2) := dk_16 36 (dk_at dksX2_init_10 13 rfl rfl)
theorem dX2_init_250 : decode cX2_init 250 = .ok (.newarray .int, 2) := dk_188_10 (dk_at dksX2_init_10 15 rfl rfl)
theorem dX2_init_252 : decode cX2_init 252 = .ok (.putfield 100, 3) := dk_181 0 100 (dk_at dksX2_init_10 17 rfl rfl)
theorem dX2_init_255 : decode cX2_init 255 = .ok (.aload_n 0, 1) := dk_42 (dk_at dksX2_init_10 20 rfl rfl)
theorem dX2_init_256 : decode cX2_init 256 = .ok (.bipush 6, 2) := dk_16 6 (dk_at dksX2_init_10 21 rfl rfl)
theorem dX2_init_258 : decode cX2_init 258 = .ok (.newarray .int, 2) := dk_188_10 (dk_at dksX2_init_11 0 rfl rfl)
theorem dX2_init_260 : decode cX2_init 260 = .ok (.putfield 103, 3) := dk_181 0 103 (dk_at dksX2_init_11 2 rfl rfl)
theorem dX2_init_263 : decode cX2_init 263 = .ok (.aload_n 0, 1) := dk_42 (dk_at dksX2_init_11 5 rfl rfl)
theorem dX2_init_264 : decode cX2_init 264 = .ok (.sipush 1200, 3) := dk_17 4 176 (dk_at dksX2_init_11 6 rfl rfl)
theorem dX2_init_267 : decode cX2_init 267 = .ok (.newarray .int, 2) := dk_188_10 (dk_at dksX2_init_11 9 rfl rfl)
theorem dX2_init_269 : decode cX2_init 269 = .ok (.putfield 106, 3) := dk_181 0 106 (dk_at dksX2_init_11 11 rfl rfl)
theorem dX2_init_272 : decode cX2_init 272 = .ok (.aload_n 0, 1) := dk_42 (dk_at dksX2_init_11 14 rfl rfl)
theorem dX2_init_273 : decode cX2_init 273 = .ok (.bipush 12, 2) := dk_16 12 (dk_at dksX2_init_11 15 rfl rfl)
theorem dX2_init_275 : decode cX2_init 275 = .ok (.newarray .int, 2) := dk_188_10 (dk_at dksX2_init_11 17 rfl rfl)
theorem dX2_init_277 : decode cX2_init 277 = .ok (.putfield 109, 3) := dk_181 0 109 (dk_at dksX2_init_11 19 rfl rfl)
theorem dX2_init_280 : decode cX2_init 280 = .ok (.aload_n 0, 1) := dk_42 (dk_at dksX2_init_11 22 rfl rfl)
theorem dX2_init_281 : decode cX2_init 281 = .ok (.bipush 12, 2) := dk_16 12 (dk_at dksX2_init_12 0 rfl rfl)
theorem dX2_init_283 : decode cX2_init 283 = .ok (.newarray .int, 2) := dk_188_10 (dk_at dksX2_init_12 2 rfl rfl)
theorem dX2_init_285 : decode cX2_init 285 = .ok (.putfield 112, 3) := dk_181 0 112 (dk_at dksX2_init_12 4 rfl rfl)
theorem dX2_init_288 : decode cX2_init 288 = .ok (.aload_n 0, 1) := dk_42 (dk_at dksX2_init_12 7 rfl rfl)
theorem dX2_init_289 : decode cX2_init 289 = .ok (.bipush 12, 2) := dk_16 12 (dk_at dksX2_init_12 8 rfl rfl)
theorem dX2_init_291 : decode cX2_init 291 = .ok (.newarray .int, 2) := dk_188_10 (dk_at dksX2_init_12 10 rfl rfl)
theorem dX2_init_293 : decode cX2_init 293 = .ok (.putfield 115, 3) := dk_181 0 115 (dk_at dksX2_init_12 12 rfl rfl)
theorem dX2_init_296 : decode cX2_init 296 = .ok (.aload_n 0, 1) := dk_42 (dk_at dksX2_init_12 15 rfl rfl)
theorem dX2_init_297 : decode cX2_init 297 = .ok (.bipush 12, 2) := dk_16 12 (dk_at dksX2_init_12 16 rfl rfl)
theorem dX2_init_299 : decode cX2_init 299 = .ok (.newarray .boolean, 2) := dk_188_4 (dk_at dksX2_init_12 18 rfl rfl)
theorem dX2_init_301 : decode cX2_init 301 = .ok (.putfield 118, 3) := dk_181 0 118 (dk_at dksX2_init_12 20 rfl rfl)
theorem dX2_init_304 : decode cX2_init 304 = .ok (.aload_n 0, 1) := dk_42 (dk_at dksX2_init_12 23 rfl rfl)
theorem dX2_init_305 : decode cX2_init 305 = .ok (.bipush 32, 2) := dk_16 32 (dk_at dksX2_init_13 0 rfl rfl)
theorem dX2_init_307 : decode cX2_init 307 = .ok (.newarray .int, 2) := dk_188_10 (dk_at dksX2_init_13 2 rfl rfl)
theorem dX2_init_309 : decode cX2_init 309 = .ok (.putfield 121, 3) := dk_181 0 121 (dk_at dksX2_init_13 4 rfl rfl)
theorem dX2_init_312 : decode cX2_init 312 = .ok (.aload_n 0, 1) := dk_42 (dk_at dksX2_init_13 7 rfl rfl)
theorem dX2_init_313 : decode cX2_init 313 = .ok (.sipush 300, 3) := dk_17 1 44 (dk_at dksX2_init_13 8 rfl rfl)
theorem dX2_init_316 : decode cX2_init 316 = .ok (.newarray .int, 2) := dk_188_10 (dk_at dksX2_init_13 11 rfl rfl)
theorem dX2_init_318 : decode cX2_init 318 = .ok (.putfield 124, 3) := dk_181 0 124 (dk_at dksX2_init_13 13 rfl rfl)
theorem dX2_init_321 : decode cX2_init 321 = .ok (.aload_n 0, 1) := dk_42 (dk_at dksX2_init_13 16 rfl rfl)
theorem dX2_init_322 : decode cX2_init 322 = .ok (.sipush 300, 3) := dk_17 1 44 (dk_at dksX2_init_13 17 rfl rfl)
theorem dX2_init_325 : decode cX2_init 325 = .ok (.newarray .int, 2) := dk_188_10 (dk_at dksX2_init_13 20 rfl rfl)
theorem dX2_init_327 : decode cX2_init 327 = .ok (.putfield 127, 3) := dk_181 0 127 (dk_at dksX2_init_14 0 rfl rfl)
theorem dX2_init_330 : decode cX2_init 330 = .ok (.aload_n 0, 1) := dk_42 (dk_at dksX2_init_14 3 rfl rfl)
theorem dX2_init_331 : decode cX2_init 331 = .ok (.bipush 7, 2) := dk_16 7 (dk_at dksX2_init_14 4 rfl rfl)
theorem dX2_init_333 : decode cX2_init 333 = .ok (.newarray .int, 2) := dk_188_10 (dk_at dksX2_init_14 6 rfl rfl)
theorem dX2_init_335 : decode cX2_init 335 = .ok (.putfield 130, 3) := dk_181 0 130 (dk_at dksX2_init_14 8 rfl rfl)
theorem dX2_init_338 : decode cX2_init 338 = .ok (.aload_n 0, 1) := dk_42 (dk_at dksX2_init_14 11 rfl rfl)
theorem dX2_init_339 : decode cX2_init 339 = .ok (.bipush 6, 2) := dk_16 6 (dk_at dksX2_init_14 12 rfl rfl)
theorem dX2_init_341 : decode cX2_init 341 = .ok (.newarray .int, 2) := dk_188_10 (dk_at dksX2_init_14 14 rfl rfl)
theorem dX2_init_343 : decode cX2_init 343 = .ok (.putfield 133, 3) := dk_181 0 133 (dk_at dksX2_init_14 16 rfl rfl)
theorem dX2_init_346 : decode cX2_init 346 = .ok (.aload_n 0, 1) := dk_42 (dk_at dksX2_init_14 19 rfl rfl)
theorem dX2_init_347 : decode cX2_init 347 = .ok (.sipush 300, 3) := dk_17 1 44 (dk_at dksX2_init_14 20 rfl rfl)
theorem dX2_init_350 : decode cX2_init 350 = .ok (.newarray .int, 2) := dk_188_10 (dk_at dksX2_init_15 0 rfl rfl)
theorem dX2_init_352 : decode cX2_init 352 = .ok (.putfield 136, 3) := dk_181 0 136 (dk_at dksX2_init_15 2 rfl rfl)
theorem dX2_init_355 : decode cX2_init 355 = .ok (.aload_n 0, 1) := dk_42 (dk_at dksX2_init_15 5 rfl rfl)
theorem dX2_init_356 : decode cX2_init 356 = .ok (.sipush 300, 3) := dk_17 1 44 (dk_at dksX2_init_15 6 rfl rfl)
theorem dX2_init_359 : decode cX2_init 359 = .ok (.newarray .int, 2) := dk_188_10 (dk_at dksX2_init_15 9 rfl rfl)
theorem dX2_init_361 : decode cX2_init 361 = .ok (.putfield 139, 3) := dk_181 0 139 (dk_at dksX2_init_15 11 rfl rfl)
theorem dX2_init_364 : decode cX2_init 364 = .ok (.aload_n 0, 1) := dk_42 (dk_at dksX2_init_15 14 rfl rfl)
theorem dX2_init_365 : decode cX2_init 365 = .ok (.bipush 7, 2) := dk_16 7 (dk_at dksX2_init_15 15 rfl rfl)
theorem dX2_init_367 : decode cX2_init 367 = .ok (.newarray .int, 2) := dk_188_10 (dk_at dksX2_init_15 17 rfl rfl)
theorem dX2_init_369 : decode cX2_init 369 = .ok (.putfield 142, 3) := dk_181 0 142 (dk_at dksX2_init_15 19 rfl rfl)
theorem dX2_init_372 : decode cX2_init 372 = .ok (.aload_n 0, 1) := dk_42 (dk_at dksX2_init_15 22 rfl rfl)
theorem dX2_init_373 : decode cX2_init 373 = .ok (.bipush 6, 2) := dk_16 6 (dk_at dksX2_init_16 0 rfl rfl)
theorem dX2_init_375 : decode cX2_init 375 = .ok (.newarray .int, 2) := dk_188_10 (dk_at dksX2_init_16 2 rfl rfl)
theorem dX2_init_377 : decode cX2_init 377 = .ok (.putfield 145, 3) := dk_181 0 145 (dk_at dksX2_init_16 4 rfl rfl)
theorem dX2_init_380 : decode cX2_init 380 = .ok (.aload_n 0, 1) := dk_42 (dk_at dksX2_init_16 7 rfl rfl)
theorem dX2_init_381 : decode cX2_init 381 = .ok (.sipush 300, 3) := dk_17 1 44 (dk_at dksX2_init_16 8 rfl rfl)
theorem dX2_init_384 : decode cX2_init 384 = .ok (.newarray .int, 2) := dk_188_10 (dk_at dksX2_init_16 11 rfl rfl)
theorem dX2_init_386 : decode cX2_init 386 = .ok (.putfield 148, 3) := dk_181 0 148 (dk_at dksX2_init_16 13 rfl rfl)
theorem dX2_init_389 : decode cX2_init 389 = .ok (.aload_n 0, 1) := dk_42 (dk_at dksX2_init_16 16 rfl rfl)
theorem dX2_init_390 : decode cX2_init 390 = .ok (.bipush 50, 2) := dk_16 50 (dk_at dksX2_init_16 17 rfl rfl)
theorem dX2_init_392 : decode cX2_init 392 = .ok (.newarray .int, 2) := dk_188_10 (dk_at dksX2_init_16 19 rfl rfl)
theorem dX2_init_394 : decode cX2_init 394 = .ok (.putfield 151, 3) := dk_181 0 151 (dk_at dksX2_init_16 21 rfl rfl)
theorem dX2_init_397 : decode cX2_init 397 = .ok (.aload_n 0, 1) := dk_42 (dk_at dksX2_init_17 0 rfl rfl)
theorem dX2_init_398 : decode cX2_init 398 = .ok (.bipush 9, 2) := dk_16 9 (dk_at dksX2_init_17 1 rfl rfl)
theorem dX2_init_400 : decode cX2_init 400 = .ok (.newarray .int, 2) := dk_188_10 (dk_at dksX2_init_17 3 rfl rfl)
theorem dX2_init_402 : decode cX2_init 402 = .ok (.putfield 154, 3) := dk_181 0 154 (dk_at dksX2_init_17 5 rfl rfl)
theorem dX2_init_405 : decode cX2_init 405 = .ok (.aload_n 0, 1) := dk_42 (dk_at dksX2_init_17 8 rfl rfl)
theorem dX2_init_406 : decode cX2_init 406 = .ok (.iconst 3, 1) := dk_6 (dk_at dksX2_init_17 9 rfl rfl)
theorem dX2_init_407 : decode cX2_init 407 = .ok (.newarray .boolean, 2) := dk_188_4 (dk_at dksX2_init_17 10 rfl rfl)
theorem dX2_init_409 : decode cX2_init 409 = .ok (.putfield 157, 3) := dk_181 0 157 (dk_at dksX2_init_17 12 rfl rfl)
theorem dX2_init_412 : decode cX2_init 412 = .ok (.aload_n 0, 1) := dk_42 (dk_at dksX2_init_17 15 rfl rfl)
theorem dX2_init_413 : decode cX2_init 413 = .ok (.sipush 768, 3) := dk_17 3 0 (dk_at dksX2_init_17 16 rfl rfl)
theorem dX2_init_416 : decode cX2_init 416 = .ok (.newarray .boolean, 2) := dk_188_4 (dk_at dksX2_init_17 19 rfl rfl)
theorem dX2_init_418 : decode cX2_init 418 = .ok (.putfield 160, 3) := dk_181 0 160 (dk_at dksX2_init_17 21 rfl rfl)
theorem dX2_init_421 : decode cX2_init 421 = .ok (.aload_n 0, 1) := dk_42 (dk_at dksX2_init_18 0 rfl rfl)
theorem dX2_init_422 : decode cX2_init 422 = .ok (.sipush 9216, 3) := dk_17 36 0 (dk_at dksX2_init_18 1 rfl rfl)
theorem dX2_init_425 : decode cX2_init 425 = .ok (.newarray .int, 2) := dk_188_10 (dk_at dksX2_init_18 4 rfl rfl)
theorem dX2_init_427 : decode cX2_init 427 = .ok (.putfield 163, 3) := dk_181 0 163 (dk_at dksX2_init_18 6 rfl rfl)
theorem dX2_init_430 : decode cX2_init 430 = .ok (.aload_n 0, 1) := dk_42 (dk_at dksX2_init_18 9 rfl rfl)
theorem dX2_init_431 : decode cX2_init 431 = .ok (.bipush 36, 2) := dk_16 36 (dk_at dksX2_init_18 10 rfl rfl)
theorem dX2_init_433 : decode cX2_init 433 = .ok (.newarray .int, 2) := dk_188_10 (dk_at dksX2_init_18 12 rfl rfl)
theorem dX2_init_435 : decode cX2_init 435 = .ok (.putfield 166, 3) := dk_181 0 166 (dk_at dksX2_init_18 14 rfl rfl)
theorem dX2_init_438 : decode cX2_init 438 = .ok (.aload_n 0, 1) := dk_42 (dk_at dksX2_init_18 17 rfl rfl)
theorem dX2_init_439 : decode cX2_init 439 = .ok (.bipush 36, 2) := dk_16 36 (dk_at dksX2_init_18 18 rfl rfl)
theorem dX2_init_441 : decode cX2_init 441 = .ok (.newarray .int, 2) := dk_188_10 (dk_at dksX2_init_18 20 rfl rfl)
theorem dX2_init_443 : decode cX2_init 443 = .ok (.putfield 169, 3) := dk_181 0 169 (dk_at dksX2_init_19 0 rfl rfl)
theorem dX2_init_446 : decode cX2_init 446 = .ok (.aload_n 0, 1) := dk_42 (dk_at dksX2_init_19 3 rfl rfl)
theorem dX2_init_447 : decode cX2_init 447 = .ok (.iconst 3, 1) := dk_6 (dk_at dksX2_init_19 4 rfl rfl)
theorem dX2_init_448 : decode cX2_init 448 = .ok (.newarray .int, 2) := dk_188_10 (dk_at dksX2_init_19 5 rfl rfl)
theorem dX2_init_450 : decode cX2_init 450 = .ok (.putfield 172, 3) := dk_181 0 172 (dk_at dksX2_init_19 7 rfl rfl)
theorem dX2_init_453 : decode cX2_init 453 = .ok (.aload_n 0, 1) := dk_42 (dk_at dksX2_init_19 10 rfl rfl)
theorem dX2_init_454 : decode cX2_init 454 = .ok (.iconst 3, 1) := dk_6 (dk_at dksX2_init_19 11 rfl rfl)
theorem dX2_init_455 : decode cX2_init 455 = .ok (.newarray .int, 2) := dk_188_10 (dk_at dksX2_init_19 12 rfl rfl)
theorem dX2_init_457 : decode cX2_init 457 = .ok (.putfield 175, 3) := dk_181 0 175 (dk_at dksX2_init_19 14 rfl rfl)
theorem dX2_init_460 : decode cX2_init 460 = .ok (.aload_n 0, 1) := dk_42 (dk_at dksX2_init_19 17 rfl rfl)
theorem dX2_init_461 : decode cX2_init 461 = .ok (.invokevirtual 178, 3) := dk_182 0 178 (dk_at dksX2_init_19 18 rfl rfl)
theorem dX2_init_464 : decode cX2_init 464 = .ok (.return_, 1) := dk_177 (dk_at dksX2_init_19 21 rfl rfl)
abbrev cX2_plain : ByteArray := prog_28_method_18_code
def yX2_plain : MethodName := ⟨RX2, "plain", "()V"⟩
def dkwX2_plain_1 : List UInt8 := [177]
abbrev dktX2_plain_1 : List UInt8 := dkwX2_plain_1 ++ []
def dkwX2_plain_0 : List UInt8 := [3, 60, 27, 16, 12, 162, 0, 19, 42, 180, 0, 20, 27, 27, 184, 1, 36, 79, 132, 1, 1, 167, 255, 237]
abbrev dktX2_plain_0 : List UInt8 := dkwX2_plain_0 ++ dktX2_plain_1
theorem dksX2_plain_0 : cX2_plain.data.toList.drop 0 = dktX2_plain_0 := by decide +kernel
theorem dksX2_plain_1 : cX2_plain.data.toList.drop 24 = dktX2_plain_1 := dk_seg dksX2_plain_0 24 rfl rfl
theorem dX2_plain_0 : decode cX2_plain 0 = .ok (.iconst 0, 1) := dk_3 (dk_at dksX2_plain_0 0 rfl rfl)
theorem dX2_plain_1 : decode cX2_plain 1 = .ok (.istore_n 1, 1) := dk_60 (dk_at dksX2_plain_0 1 rfl rfl)
theorem dX2_plain_2 : decode cX2_plain 2 = .ok (.iload_n 1, 1) := dk_27 (dk_at dksX2_plain_0 2 rfl rfl)
theorem dX2_plain_3 : decode cX2_plain 3 = .ok (.bipush 12, 2) := dk_16 12 (dk_at dksX2_plain_0 3 rfl rfl)
theorem dX2_plain_5 : decode cX2_plain 5 = .ok (.if_icmp .ge 19, 3) := dk_162 0 19 (dk_at dksX2_plain_0 5 rfl rfl)
theorem dX2_plain_8 : decode cX2_plain 8 = .ok (.aload_n 0, 1) := dk_42 (dk_at dksX2_plain_0 8 rfl rfl)
theorem dX2_plain_9 : decode cX2_plain 9 = .ok (.getfield 20, 3) := dk_180 0 20 (dk_at dksX2_plain_0 9 rfl rfl)
theorem dX2_plain_12 : decode cX2_plain 12 = .ok (.iload_n 1, 1) := dk_27 (dk_at dksX2_plain_0 12 rfl rfl)
theorem dX2_plain_13 : decode cX2_plain 13 = .ok (.iload_n 1, 1) := dk_27 (dk_at dksX2_plain_0 13 rfl rfl)
theorem dX2_plain_14 : decode cX2_plain 14 = .ok (.invokestatic 292, 3) := dk_184 1 36 (dk_at dksX2_plain_0 14 rfl rfl)
theorem dX2_plain_17 : decode cX2_plain 17 = .ok (.iastore, 1) := dk_79 (dk_at dksX2_plain_0 17 rfl rfl)
theorem dX2_plain_18 : decode cX2_plain 18 = .ok (.iinc 1 1, 3) := dk_132 1 1 (dk_at dksX2_plain_0 18 rfl rfl)
theorem dX2_plain_21 : decode cX2_plain 21 = .ok (.goto (-19), 3) := dk_167 255 237 (dk_at dksX2_plain_0 21 rfl rfl)
theorem dX2_plain_24 : decode cX2_plain 24 = .ok (.return_, 1) := dk_177 (dk_at dksX2_plain_1 0 rfl rfl)
abbrev cX2_plainOf : ByteArray := prog_28_method_17_code
def yX2_plainOf : MethodName := ⟨RX2, "plainOf", "(I)I"⟩
def dkwX2_plainOf_2 : List UInt8 := [16, 8, 172, 8, 172, 16, 40, 172, 5, 172, 16, 100, 172, 6, 172, 16, 6, 172, 7, 172, 3, 172]
abbrev dktX2_plainOf_2 : List UInt8 := dkwX2_plainOf_2 ++ []
def dkwX2_plainOf_1 : List UInt8 := [170, 0, 0, 0, 0, 0, 83, 0, 0, 0, 0, 0, 0, 0, 11, 0, 0, 0, 63, 0, 0, 0, 66, 0, 0, 0, 68, 0, 0, 0, 71, 0, 0, 0, 71, 0, 0, 0, 73, 0, 0, 0, 73, 0, 0, 0, 76, 0, 0, 0, 83, 0, 0, 0, 83, 0, 0, 0, 78, 0, 0, 0, 81]
abbrev dktX2_plainOf_1 : List UInt8 := dkwX2_plainOf_1 ++ dktX2_plainOf_2
def dkwX2_plainOf_0 : List UInt8 := [26]
abbrev dktX2_plainOf_0 : List UInt8 := dkwX2_plainOf_0 ++ dktX2_plainOf_1
theorem dksX2_plainOf_0 : cX2_plainOf.data.toList.drop 0 = dktX2_plainOf_0 := by decide +kernel
theorem dksX2_plainOf_1 : cX2_plainOf.data.toList.drop 1 = dktX2_plainOf_1 := dk_seg dksX2_plainOf_0 1 rfl rfl
theorem dksX2_plainOf_2 : cX2_plainOf.data.toList.drop 64 = dktX2_plainOf_2 := dk_seg dksX2_plainOf_1 63 rfl rfl
theorem dX2_plainOf_0 : decode cX2_plainOf 0 = .ok (.iload_n 0, 1) := dk_26 (dk_at dksX2_plainOf_0 0 rfl rfl)
theorem dX2_plainOf_1 : decode cX2_plainOf 1 = .ok (.tableswitch 83 0 11 #[63, 66, 68, 71, 71, 73, 73, 76, 83, 83, 78, 81], 63) := by decide +kernel
theorem dX2_plainOf_64 : decode cX2_plainOf 64 = .ok (.bipush 8, 2) := dk_16 8 (dk_at dksX2_plainOf_2 0 rfl rfl)
theorem dX2_plainOf_66 : decode cX2_plainOf 66 = .ok (.ireturn, 1) := dk_172 (dk_at dksX2_plainOf_2 2 rfl rfl)
theorem dX2_plainOf_67 : decode cX2_plainOf 67 = .ok (.iconst 5, 1) := dk_8 (dk_at dksX2_plainOf_2 3 rfl rfl)
theorem dX2_plainOf_68 : decode cX2_plainOf 68 = .ok (.ireturn, 1) := dk_172 (dk_at dksX2_plainOf_2 4 rfl rfl)
theorem dX2_plainOf_69 : decode cX2_plainOf 69 = .ok (.bipush 40, 2) := dk_16 40 (dk_at dksX2_plainOf_2 5 rfl rfl)
theorem dX2_plainOf_71 : decode cX2_plainOf 71 = .ok (.ireturn, 1) := dk_172 (dk_at dksX2_plainOf_2 7 rfl rfl)
theorem dX2_plainOf_72 : decode cX2_plainOf 72 = .ok (.iconst 2, 1) := dk_5 (dk_at dksX2_plainOf_2 8 rfl rfl)
theorem dX2_plainOf_73 : decode cX2_plainOf 73 = .ok (.ireturn, 1) := dk_172 (dk_at dksX2_plainOf_2 9 rfl rfl)
theorem dX2_plainOf_74 : decode cX2_plainOf 74 = .ok (.bipush 100, 2) := dk_16 100 (dk_at dksX2_plainOf_2 10 rfl rfl)
theorem dX2_plainOf_76 : decode cX2_plainOf 76 = .ok (.ireturn, 1) := dk_172 (dk_at dksX2_plainOf_2 12 rfl rfl)
theorem dX2_plainOf_77 : decode cX2_plainOf 77 = .ok (.iconst 3, 1) := dk_6 (dk_at dksX2_plainOf_2 13 rfl rfl)
theorem dX2_plainOf_78 : decode cX2_plainOf 78 = .ok (.ireturn, 1) := dk_172 (dk_at dksX2_plainOf_2 14 rfl rfl)
theorem dX2_plainOf_79 : decode cX2_plainOf 79 = .ok (.bipush 6, 2) := dk_16 6 (dk_at dksX2_plainOf_2 15 rfl rfl)
theorem dX2_plainOf_81 : decode cX2_plainOf 81 = .ok (.ireturn, 1) := dk_172 (dk_at dksX2_plainOf_2 17 rfl rfl)
theorem dX2_plainOf_82 : decode cX2_plainOf 82 = .ok (.iconst 4, 1) := dk_7 (dk_at dksX2_plainOf_2 18 rfl rfl)
theorem dX2_plainOf_83 : decode cX2_plainOf 83 = .ok (.ireturn, 1) := dk_172 (dk_at dksX2_plainOf_2 19 rfl rfl)
theorem dX2_plainOf_84 : decode cX2_plainOf 84 = .ok (.iconst 0, 1) := dk_3 (dk_at dksX2_plainOf_2 20 rfl rfl)
theorem dX2_plainOf_85 : decode cX2_plainOf 85 = .ok (.ireturn, 1) := dk_172 (dk_at dksX2_plainOf_2 21 rfl rfl)
abbrev cX2_feed : ByteArray := prog_28_method_2_code
def yX2_feed : MethodName := ⟨RX2, "feed", "(IIIII)I"⟩
def dkwX2_feed_2 : List UInt8 := [172]
abbrev dktX2_feed_2 : List UInt8 := dkwX2_feed_2 ++ []
def dkwX2_feed_1 : List UInt8 := [182, 0, 184, 42, 29, 182, 0, 184, 42, 21, 4, 182, 0, 184, 42, 21, 5, 182, 0, 184, 42, 180, 0, 181]
abbrev dktX2_feed_1 : List UInt8 := dkwX2_feed_1 ++ dktX2_feed_2
def dkwX2_feed_0 : List UInt8 := [42, 180, 0, 181, 16, 20, 96, 17, 5, 220, 164, 0, 5, 2, 172, 42, 27, 182, 0, 184, 42, 28]
abbrev dktX2_feed_0 : List UInt8 := dkwX2_feed_0 ++ dktX2_feed_1
theorem dksX2_feed_0 : cX2_feed.data.toList.drop 0 = dktX2_feed_0 := by decide +kernel
theorem dksX2_feed_1 : cX2_feed.data.toList.drop 22 = dktX2_feed_1 := dk_seg dksX2_feed_0 22 rfl rfl
theorem dksX2_feed_2 : cX2_feed.data.toList.drop 46 = dktX2_feed_2 := dk_seg dksX2_feed_1 24 rfl rfl
theorem dX2_feed_0 : decode cX2_feed 0 = .ok (.aload_n 0, 1) := dk_42 (dk_at dksX2_feed_0 0 rfl rfl)
theorem dX2_feed_1 : decode cX2_feed 1 = .ok (.getfield 181, 3) := dk_180 0 181 (dk_at dksX2_feed_0 1 rfl rfl)
theorem dX2_feed_4 : decode cX2_feed 4 = .ok (.bipush 20, 2) := dk_16 20 (dk_at dksX2_feed_0 4 rfl rfl)
theorem dX2_feed_6 : decode cX2_feed 6 = .ok (.iadd, 1) := dk_96 (dk_at dksX2_feed_0 6 rfl rfl)
theorem dX2_feed_7 : decode cX2_feed 7 = .ok (.sipush 1500, 3) := dk_17 5 220 (dk_at dksX2_feed_0 7 rfl rfl)
theorem dX2_feed_10 : decode cX2_feed 10 = .ok (.if_icmp .le 5, 3) := dk_164 0 5 (dk_at dksX2_feed_0 10 rfl rfl)
theorem dX2_feed_13 : decode cX2_feed 13 = .ok (.iconst (-1), 1) := dk_2 (dk_at dksX2_feed_0 13 rfl rfl)
theorem dX2_feed_14 : decode cX2_feed 14 = .ok (.ireturn, 1) := dk_172 (dk_at dksX2_feed_0 14 rfl rfl)
theorem dX2_feed_15 : decode cX2_feed 15 = .ok (.aload_n 0, 1) := dk_42 (dk_at dksX2_feed_0 15 rfl rfl)
theorem dX2_feed_16 : decode cX2_feed 16 = .ok (.iload_n 1, 1) := dk_27 (dk_at dksX2_feed_0 16 rfl rfl)
theorem dX2_feed_17 : decode cX2_feed 17 = .ok (.invokevirtual 184, 3) := dk_182 0 184 (dk_at dksX2_feed_0 17 rfl rfl)
theorem dX2_feed_20 : decode cX2_feed 20 = .ok (.aload_n 0, 1) := dk_42 (dk_at dksX2_feed_0 20 rfl rfl)
theorem dX2_feed_21 : decode cX2_feed 21 = .ok (.iload_n 2, 1) := dk_28 (dk_at dksX2_feed_0 21 rfl rfl)
theorem dX2_feed_22 : decode cX2_feed 22 = .ok (.invokevirtual 184, 3) := dk_182 0 184 (dk_at dksX2_feed_1 0 rfl rfl)
theorem dX2_feed_25 : decode cX2_feed 25 = .ok (.aload_n 0, 1) := dk_42 (dk_at dksX2_feed_1 3 rfl rfl)
theorem dX2_feed_26 : decode cX2_feed 26 = .ok (.iload_n 3, 1) := dk_29 (dk_at dksX2_feed_1 4 rfl rfl)
theorem dX2_feed_27 : decode cX2_feed 27 = .ok (.invokevirtual 184, 3) := dk_182 0 184 (dk_at dksX2_feed_1 5 rfl rfl)
theorem dX2_feed_30 : decode cX2_feed 30 = .ok (.aload_n 0, 1) := dk_42 (dk_at dksX2_feed_1 8 rfl rfl)
theorem dX2_feed_31 : decode cX2_feed 31 = .ok (.iload 4, 2) := dk_21 4 (dk_at dksX2_feed_1 9 rfl rfl)
theorem dX2_feed_33 : decode cX2_feed 33 = .ok (.invokevirtual 184, 3) := dk_182 0 184 (dk_at dksX2_feed_1 11 rfl rfl)
theorem dX2_feed_36 : decode cX2_feed 36 = .ok (.aload_n 0, 1) := dk_42 (dk_at dksX2_feed_1 14 rfl rfl)
theorem dX2_feed_37 : decode cX2_feed 37 = .ok (.iload 5, 2) := dk_21 5 (dk_at dksX2_feed_1 15 rfl rfl)
theorem dX2_feed_39 : decode cX2_feed 39 = .ok (.invokevirtual 184, 3) := dk_182 0 184 (dk_at dksX2_feed_1 17 rfl rfl)
theorem dX2_feed_42 : decode cX2_feed 42 = .ok (.aload_n 0, 1) := dk_42 (dk_at dksX2_feed_1 20 rfl rfl)
theorem dX2_feed_43 : decode cX2_feed 43 = .ok (.getfield 181, 3) := dk_180 0 181 (dk_at dksX2_feed_1 21 rfl rfl)
theorem dX2_feed_46 : decode cX2_feed 46 = .ok (.ireturn, 1) := dk_172 (dk_at dksX2_feed_2 0 rfl rfl)
abbrev cX2_four : ByteArray := prog_28_method_3_code
def yX2_four : MethodName := ⟨RX2, "four", "(I)V"⟩
def dkwX2_four_1 : List UInt8 := [89, 180, 0, 181, 4, 96, 181, 0, 181, 132, 2, 248, 167, 255, 223, 177]
abbrev dktX2_four_1 : List UInt8 := dkwX2_four_1 ++ []
def dkwX2_four_0 : List UInt8 := [16, 24, 61, 28, 155, 0, 35, 42, 180, 0, 7, 42, 180, 0, 181, 27, 28, 122, 17, 0, 255, 126, 79, 42]
abbrev dktX2_four_0 : List UInt8 := dkwX2_four_0 ++ dktX2_four_1
theorem dksX2_four_0 : cX2_four.data.toList.drop 0 = dktX2_four_0 := by decide +kernel
theorem dksX2_four_1 : cX2_four.data.toList.drop 24 = dktX2_four_1 := dk_seg dksX2_four_0 24 rfl rfl
theorem dX2_four_0 : decode cX2_four 0 = .ok (.bipush 24, 2) := dk_16 24 (dk_at dksX2_four_0 0 rfl rfl)
theorem dX2_four_2 : decode cX2_four 2 = .ok (.istore_n 2, 1) := dk_61 (dk_at dksX2_four_0 2 rfl rfl)
theorem dX2_four_3 : decode cX2_four 3 = .ok (.iload_n 2, 1) := dk_28 (dk_at dksX2_four_0 3 rfl rfl)
theorem dX2_four_4 : decode cX2_four 4 = .ok (.ifCond .lt 35, 3) := dk_155 0 35 (dk_at dksX2_four_0 4 rfl rfl)
theorem dX2_four_7 : decode cX2_four 7 = .ok (.aload_n 0, 1) := dk_42 (dk_at dksX2_four_0 7 rfl rfl)
theorem dX2_four_8 : decode cX2_four 8 = .ok (.getfield 7, 3) := dk_180 0 7 (dk_at dksX2_four_0 8 rfl rfl)
theorem dX2_four_11 : decode cX2_four 11 = .ok (.aload_n 0, 1) := dk_42 (dk_at dksX2_four_0 11 rfl rfl)
theorem dX2_four_12 : decode cX2_four 12 = .ok (.getfield 181, 3) := dk_180 0 181 (dk_at dksX2_four_0 12 rfl rfl)
theorem dX2_four_15 : decode cX2_four 15 = .ok (.iload_n 1, 1) := dk_27 (dk_at dksX2_four_0 15 rfl rfl)
theorem dX2_four_16 : decode cX2_four 16 = .ok (.iload_n 2, 1) := dk_28 (dk_at dksX2_four_0 16 rfl rfl)
theorem dX2_four_17 : decode cX2_four 17 = .ok (.ishr, 1) := dk_122 (dk_at dksX2_four_0 17 rfl rfl)
theorem dX2_four_18 : decode cX2_four 18 = .ok (.sipush 255, 3) := dk_17 0 255 (dk_at dksX2_four_0 18 rfl rfl)
theorem dX2_four_21 : decode cX2_four 21 = .ok (.iand, 1) := dk_126 (dk_at dksX2_four_0 21 rfl rfl)
theorem dX2_four_22 : decode cX2_four 22 = .ok (.iastore, 1) := dk_79 (dk_at dksX2_four_0 22 rfl rfl)
theorem dX2_four_23 : decode cX2_four 23 = .ok (.aload_n 0, 1) := dk_42 (dk_at dksX2_four_0 23 rfl rfl)
theorem dX2_four_24 : decode cX2_four 24 = .ok (.dup, 1) := dk_89 (dk_at dksX2_four_1 0 rfl rfl)
theorem dX2_four_25 : decode cX2_four 25 = .ok (.getfield 181, 3) := dk_180 0 181 (dk_at dksX2_four_1 1 rfl rfl)
theorem dX2_four_28 : decode cX2_four 28 = .ok (.iconst 1, 1) := dk_4 (dk_at dksX2_four_1 4 rfl rfl)
theorem dX2_four_29 : decode cX2_four 29 = .ok (.iadd, 1) := dk_96 (dk_at dksX2_four_1 5 rfl rfl)
theorem dX2_four_30 : decode cX2_four 30 = .ok (.putfield 181, 3) := dk_181 0 181 (dk_at dksX2_four_1 6 rfl rfl)
theorem dX2_four_33 : decode cX2_four 33 = .ok (.iinc 2 (-8), 3) := dk_132 2 248 (dk_at dksX2_four_1 9 rfl rfl)
theorem dX2_four_36 : decode cX2_four 36 = .ok (.goto (-33), 3) := dk_167 255 223 (dk_at dksX2_four_1 12 rfl rfl)
theorem dX2_four_39 : decode cX2_four 39 = .ok (.return_, 1) := dk_177 (dk_at dksX2_four_1 15 rfl rfl)
abbrev cX2_end : ByteArray := prog_28_method_4_code
def yX2_end : MethodName := ⟨RX2, "end", "(I)I"⟩
def dkwX2_end_0 : List UInt8 := [27, 155, 0, 11, 27, 42, 180, 0, 181, 164, 0, 5, 2, 172, 42, 27, 181, 0, 181, 27, 172]
abbrev dktX2_end_0 : List UInt8 := dkwX2_end_0 ++ []
theorem dksX2_end_0 : cX2_end.data.toList.drop 0 = dktX2_end_0 := by decide +kernel
theorem dX2_end_0 : decode cX2_end 0 = .ok (.iload_n 1, 1) := dk_27 (dk_at dksX2_end_0 0 rfl rfl)
theorem dX2_end_1 : decode cX2_end 1 = .ok (.ifCond .lt 11, 3) := dk_155 0 11 (dk_at dksX2_end_0 1 rfl rfl)
theorem dX2_end_4 : decode cX2_end 4 = .ok (.iload_n 1, 1) := dk_27 (dk_at dksX2_end_0 4 rfl rfl)
theorem dX2_end_5 : decode cX2_end 5 = .ok (.aload_n 0, 1) := dk_42 (dk_at dksX2_end_0 5 rfl rfl)
theorem dX2_end_6 : decode cX2_end 6 = .ok (.getfield 181, 3) := dk_180 0 181 (dk_at dksX2_end_0 6 rfl rfl)
theorem dX2_end_9 : decode cX2_end 9 = .ok (.if_icmp .le 5, 3) := dk_164 0 5 (dk_at dksX2_end_0 9 rfl rfl)
theorem dX2_end_12 : decode cX2_end 12 = .ok (.iconst (-1), 1) := dk_2 (dk_at dksX2_end_0 12 rfl rfl)
theorem dX2_end_13 : decode cX2_end 13 = .ok (.ireturn, 1) := dk_172 (dk_at dksX2_end_0 13 rfl rfl)
theorem dX2_end_14 : decode cX2_end 14 = .ok (.aload_n 0, 1) := dk_42 (dk_at dksX2_end_0 14 rfl rfl)
theorem dX2_end_15 : decode cX2_end 15 = .ok (.iload_n 1, 1) := dk_27 (dk_at dksX2_end_0 15 rfl rfl)
theorem dX2_end_16 : decode cX2_end 16 = .ok (.putfield 181, 3) := dk_181 0 181 (dk_at dksX2_end_0 16 rfl rfl)
theorem dX2_end_19 : decode cX2_end 19 = .ok (.iload_n 1, 1) := dk_27 (dk_at dksX2_end_0 19 rfl rfl)
theorem dX2_end_20 : decode cX2_end 20 = .ok (.ireturn, 1) := dk_172 (dk_at dksX2_end_0 20 rfl rfl)
abbrev cX2_book : ByteArray := prog_28_method_23_code
def yX2_book : MethodName := ⟨RX2, "book", "()I"⟩
def dkwX2_book_12 : List UInt8 := [6, 162, 0, 16, 42, 180, 0, 157, 27, 3, 84, 132, 1, 1, 167, 255, 241, 42, 180, 1, 74, 172]
abbrev dktX2_book_12 : List UInt8 := dkwX2_book_12 ++ []
def dkwX2_book_11 : List UInt8 := [60, 27, 17, 1, 0, 162, 0, 16, 42, 180, 0, 61, 27, 3, 84, 132, 1, 1, 167, 255, 239, 3, 60, 27]
abbrev dktX2_book_11 : List UInt8 := dkwX2_book_11 ++ dktX2_book_12
def dkwX2_book_10 : List UInt8 := [42, 42, 180, 1, 39, 181, 1, 74, 42, 3, 181, 1, 77, 42, 3, 181, 1, 80, 42, 3, 181, 1, 83, 3]
abbrev dktX2_book_10 : List UInt8 := dkwX2_book_10 ++ dktX2_book_11
def dkwX2_book_9 : List UInt8 := [180, 0, 26, 27, 46, 79, 42, 180, 0, 38, 27, 42, 180, 0, 29, 27, 46, 79, 132, 1, 1, 167, 255, 209]
abbrev dktX2_book_9 : List UInt8 := dkwX2_book_9 ++ dktX2_book_10
def dkwX2_book_8 : List UInt8 := [180, 1, 39, 162, 0, 45, 42, 180, 0, 32, 27, 42, 180, 0, 23, 27, 46, 79, 42, 180, 0, 35, 27, 42]
abbrev dktX2_book_8 : List UInt8 := dkwX2_book_8 ++ dktX2_book_9
def dkwX2_book_7 : List UInt8 := [42, 180, 0, 20, 27, 42, 180, 0, 17, 27, 46, 79, 132, 1, 1, 167, 255, 235, 3, 60, 27, 42]
abbrev dktX2_book_7 : List UInt8 := dkwX2_book_7 ++ dktX2_book_8
def dkwX2_book_6 : List UInt8 := [42, 182, 1, 33, 167, 255, 162, 42, 180, 0, 225, 158, 0, 5, 2, 172, 3, 60, 27, 16, 12, 162, 0, 21]
abbrev dktX2_book_6 : List UInt8 := dkwX2_book_6 ++ dktX2_book_7
def dkwX2_book_5 : List UInt8 := [154, 0, 17, 42, 180, 0, 212, 16, 59, 159, 0, 8, 42, 5, 182, 1, 30, 42, 180, 0, 225, 154, 0, 7]
abbrev dktX2_book_5 : List UInt8 := dkwX2_book_5 ++ dktX2_book_6
def dkwX2_book_4 : List UInt8 := [167, 0, 20, 27, 155, 0, 11, 42, 27, 182, 1, 71, 167, 0, 8, 42, 5, 182, 1, 30, 42, 180, 0, 225]
abbrev dktX2_book_4 : List UInt8 := dkwX2_book_4 ++ dktX2_book_5
def dkwX2_book_3 : List UInt8 := [20, 0, 228, 182, 1, 26, 153, 0, 19, 42, 180, 1, 39, 16, 32, 162, 0, 10, 42, 182, 1, 68]
abbrev dktX2_book_3 : List UInt8 := dkwX2_book_3 ++ dktX2_book_4
def dkwX2_book_2 : List UInt8 := [182, 1, 33, 42, 180, 0, 225, 154, 0, 93, 42, 180, 0, 212, 153, 0, 86, 42, 182, 1, 64, 60, 42]
abbrev dktX2_book_2 : List UInt8 := dkwX2_book_2 ++ dktX2_book_3
def dkwX2_book_1 : List UInt8 := [180, 0, 41, 27, 3, 84, 132, 1, 1, 167, 255, 230, 42, 3, 181, 0, 194, 42, 182, 1, 61, 42]
abbrev dktX2_book_1 : List UInt8 := dkwX2_book_1 ++ dktX2_book_2
def dkwX2_book_0 : List UInt8 := [42, 3, 181, 1, 39, 3, 60, 27, 16, 12, 162, 0, 26, 42, 180, 0, 17, 27, 27, 184, 1, 36, 79, 42]
abbrev dktX2_book_0 : List UInt8 := dkwX2_book_0 ++ dktX2_book_1
theorem dksX2_book_0 : cX2_book.data.toList.drop 0 = dktX2_book_0 := by decide +kernel
theorem dksX2_book_1 : cX2_book.data.toList.drop 24 = dktX2_book_1 := dk_seg dksX2_book_0 24 rfl rfl
theorem dksX2_book_2 : cX2_book.data.toList.drop 46 = dktX2_book_2 := dk_seg dksX2_book_1 22 rfl rfl
theorem dksX2_book_3 : cX2_book.data.toList.drop 69 = dktX2_book_3 := dk_seg dksX2_book_2 23 rfl rfl
theorem dksX2_book_4 : cX2_book.data.toList.drop 91 = dktX2_book_4 := dk_seg dksX2_book_3 22 rfl rfl
theorem dksX2_book_5 : cX2_book.data.toList.drop 115 = dktX2_book_5 := dk_seg dksX2_book_4 24 rfl rfl
theorem dksX2_book_6 : cX2_book.data.toList.drop 139 = dktX2_book_6 := dk_seg dksX2_book_5 24 rfl rfl
theorem dksX2_book_7 : cX2_book.data.toList.drop 163 = dktX2_book_7 := dk_seg dksX2_book_6 24 rfl rfl
theorem dksX2_book_8 : cX2_book.data.toList.drop 185 = dktX2_book_8 := dk_seg dksX2_book_7 22 rfl rfl
theorem dksX2_book_9 : cX2_book.data.toList.drop 209 = dktX2_book_9 := dk_seg dksX2_book_8 24 rfl rfl
theorem dksX2_book_10 : cX2_book.data.toList.drop 233 = dktX2_book_10 := dk_seg dksX2_book_9 24 rfl rfl
theorem dksX2_book_11 : cX2_book.data.toList.drop 257 = dktX2_book_11 := dk_seg dksX2_book_10 24 rfl rfl
theorem dksX2_book_12 : cX2_book.data.toList.drop 281 = dktX2_book_12 := dk_seg dksX2_book_11 24 rfl rfl
theorem dX2_book_0 : decode cX2_book 0 = .ok (.aload_n 0, 1) := dk_42 (dk_at dksX2_book_0 0 rfl rfl)
theorem dX2_book_1 : decode cX2_book 1 = .ok (.iconst 0, 1) := dk_3 (dk_at dksX2_book_0 1 rfl rfl)
theorem dX2_book_2 : decode cX2_book 2 = .ok (.putfield 295, 3) := dk_181 1 39 (dk_at dksX2_book_0 2 rfl rfl)
theorem dX2_book_5 : decode cX2_book 5 = .ok (.iconst 0, 1) := dk_3 (dk_at dksX2_book_0 5 rfl rfl)
theorem dX2_book_6 : decode cX2_book 6 = .ok (.istore_n 1, 1) := dk_60 (dk_at dksX2_book_0 6 rfl rfl)
theorem dX2_book_7 : decode cX2_book 7 = .ok (.iload_n 1, 1) := dk_27 (dk_at dksX2_book_0 7 rfl rfl)
theorem dX2_book_8 : decode cX2_book 8 = .ok (.bipush 12, 2) := dk_16 12 (dk_at dksX2_book_0 8 rfl rfl)
theorem dX2_book_10 : decode cX2_book 10 = .ok (.if_icmp .ge 26, 3) := dk_162 0 26 (dk_at dksX2_book_0 10 rfl rfl)
theorem dX2_book_13 : decode cX2_book 13 = .ok (.aload_n 0, 1) := dk_42 (dk_at dksX2_book_0 13 rfl rfl)
theorem dX2_book_14 : decode cX2_book 14 = .ok (.getfield 17, 3) := dk_180 0 17 (dk_at dksX2_book_0 14 rfl rfl)
theorem dX2_book_17 : decode cX2_book 17 = .ok (.iload_n 1, 1) := dk_27 (dk_at dksX2_book_0 17 rfl rfl)
theorem dX2_book_18 : decode cX2_book 18 = .ok (.iload_n 1, 1) := dk_27 (dk_at dksX2_book_0 18 rfl rfl)
theorem dX2_book_19 : decode cX2_book 19 = .ok (.invokestatic 292, 3) := dk_184 1 36 (dk_at dksX2_book_0 19 rfl rfl)
theorem dX2_book_22 : decode cX2_book 22 = .ok (.iastore, 1) := dk_79 (dk_at dksX2_book_0 22 rfl rfl)
theorem dX2_book_23 : decode cX2_book 23 = .ok (.aload_n 0, 1) := dk_42 (dk_at dksX2_book_0 23 rfl rfl)
theorem dX2_book_24 : decode cX2_book 24 = .ok (.getfield 41, 3) := dk_180 0 41 (dk_at dksX2_book_1 0 rfl rfl)
theorem dX2_book_27 : decode cX2_book 27 = .ok (.iload_n 1, 1) := dk_27 (dk_at dksX2_book_1 3 rfl rfl)
theorem dX2_book_28 : decode cX2_book 28 = .ok (.iconst 0, 1) := dk_3 (dk_at dksX2_book_1 4 rfl rfl)
theorem dX2_book_29 : decode cX2_book 29 = .ok (.bastore, 1) := dk_84 (dk_at dksX2_book_1 5 rfl rfl)
theorem dX2_book_30 : decode cX2_book 30 = .ok (.iinc 1 1, 3) := dk_132 1 1 (dk_at dksX2_book_1 6 rfl rfl)
theorem dX2_book_33 : decode cX2_book 33 = .ok (.goto (-26), 3) := dk_167 255 230 (dk_at dksX2_book_1 9 rfl rfl)
theorem dX2_book_36 : decode cX2_book 36 = .ok (.aload_n 0, 1) := dk_42 (dk_at dksX2_book_1 12 rfl rfl)
theorem dX2_book_37 : decode cX2_book 37 = .ok (.iconst 0, 1) := dk_3 (dk_at dksX2_book_1 13 rfl rfl)
theorem dX2_book_38 : decode cX2_book 38 = .ok (.putfield 194, 3) := dk_181 0 194 (dk_at dksX2_book_1 14 rfl rfl)
theorem dX2_book_41 : decode cX2_book 41 = .ok (.aload_n 0, 1) := dk_42 (dk_at dksX2_book_1 17 rfl rfl)
theorem dX2_book_42 : decode cX2_book 42 = .ok (.invokevirtual 317, 3) := dk_182 1 61 (dk_at dksX2_book_1 18 rfl rfl)
theorem dX2_book_45 : decode cX2_book 45 = .ok (.aload_n 0, 1) := dk_42 (dk_at dksX2_book_1 21 rfl rfl)
theorem dX2_book_46 : decode cX2_book 46 = .ok (.invokevirtual 289, 3) := dk_182 1 33 (dk_at dksX2_book_2 0 rfl rfl)
theorem dX2_book_49 : decode cX2_book 49 = .ok (.aload_n 0, 1) := dk_42 (dk_at dksX2_book_2 3 rfl rfl)
theorem dX2_book_50 : decode cX2_book 50 = .ok (.getfield 225, 3) := dk_180 0 225 (dk_at dksX2_book_2 4 rfl rfl)
theorem dX2_book_53 : decode cX2_book 53 = .ok (.ifCond .ne 93, 3) := dk_154 0 93 (dk_at dksX2_book_2 7 rfl rfl)
theorem dX2_book_56 : decode cX2_book 56 = .ok (.aload_n 0, 1) := dk_42 (dk_at dksX2_book_2 10 rfl rfl)
theorem dX2_book_57 : decode cX2_book 57 = .ok (.getfield 212, 3) := dk_180 0 212 (dk_at dksX2_book_2 11 rfl rfl)
theorem dX2_book_60 : decode cX2_book 60 = .ok (.ifCond .eq 86, 3) := dk_153 0 86 (dk_at dksX2_book_2 14 rfl rfl)
theorem dX2_book_63 : decode cX2_book 63 = .ok (.aload_n 0, 1) := dk_42 (dk_at dksX2_book_2 17 rfl rfl)
theorem dX2_book_64 : decode cX2_book 64 = .ok (.invokevirtual 320, 3) := dk_182 1 64 (dk_at dksX2_book_2 18 rfl rfl)
theorem dX2_book_67 : decode cX2_book 67 = .ok (.istore_n 1, 1) := dk_60 (dk_at dksX2_book_2 21 rfl rfl)
theorem dX2_book_68 : decode cX2_book 68 = .ok (.aload_n 0, 1) := dk_42 (dk_at dksX2_book_2 22 rfl rfl)
theorem dX2_book_69 : decode cX2_book 69 = .ok (.ldc2_w 228, 3) := dk_20 0 228 (dk_at dksX2_book_3 0 rfl rfl)
theorem dX2_book_72 : decode cX2_book 72 = .ok (.invokevirtual 282, 3) := dk_182 1 26 (dk_at dksX2_book_3 3 rfl rfl)
theorem dX2_book_75 : decode cX2_book 75 = .ok (.ifCond .eq 19, 3) := dk_153 0 19 (dk_at dksX2_book_3 6 rfl rfl)
theorem dX2_book_78 : decode cX2_book 78 = .ok (.aload_n 0, 1) := dk_42 (dk_at dksX2_book_3 9 rfl rfl)
theorem dX2_book_79 : decode cX2_book 79 = .ok (.getfield 295, 3) := dk_180 1 39 (dk_at dksX2_book_3 10 rfl rfl)
theorem dX2_book_82 : decode cX2_book 82 = .ok (.bipush 32, 2) := dk_16 32 (dk_at dksX2_book_3 13 rfl rfl)
theorem dX2_book_84 : decode cX2_book 84 = .ok (.if_icmp .ge 10, 3) := dk_162 0 10 (dk_at dksX2_book_3 15 rfl rfl)
theorem dX2_book_87 : decode cX2_book 87 = .ok (.aload_n 0, 1) := dk_42 (dk_at dksX2_book_3 18 rfl rfl)
theorem dX2_book_88 : decode cX2_book 88 = .ok (.invokevirtual 324, 3) := dk_182 1 68 (dk_at dksX2_book_3 19 rfl rfl)
theorem dX2_book_91 : decode cX2_book 91 = .ok (.goto 20, 3) := dk_167 0 20 (dk_at dksX2_book_4 0 rfl rfl)
theorem dX2_book_94 : decode cX2_book 94 = .ok (.iload_n 1, 1) := dk_27 (dk_at dksX2_book_4 3 rfl rfl)
theorem dX2_book_95 : decode cX2_book 95 = .ok (.ifCond .lt 11, 3) := dk_155 0 11 (dk_at dksX2_book_4 4 rfl rfl)
theorem dX2_book_98 : decode cX2_book 98 = .ok (.aload_n 0, 1) := dk_42 (dk_at dksX2_book_4 7 rfl rfl)
theorem dX2_book_99 : decode cX2_book 99 = .ok (.iload_n 1, 1) := dk_27 (dk_at dksX2_book_4 8 rfl rfl)
theorem dX2_book_100 : decode cX2_book 100 = .ok (.invokevirtual 327, 3) := dk_182 1 71 (dk_at dksX2_book_4 9 rfl rfl)
theorem dX2_book_103 : decode cX2_book 103 = .ok (.goto 8, 3) := dk_167 0 8 (dk_at dksX2_book_4 12 rfl rfl)
theorem dX2_book_106 : decode cX2_book 106 = .ok (.aload_n 0, 1) := dk_42 (dk_at dksX2_book_4 15 rfl rfl)
theorem dX2_book_107 : decode cX2_book 107 = .ok (.iconst 2, 1) := dk_5 (dk_at dksX2_book_4 16 rfl rfl)
theorem dX2_book_108 : decode cX2_book 108 = .ok (.invokevirtual 286, 3) := dk_182 1 30 (dk_at dksX2_book_4 17 rfl rfl)
theorem dX2_book_111 : decode cX2_book 111 = .ok (.aload_n 0, 1) := dk_42 (dk_at dksX2_book_4 20 rfl rfl)
theorem dX2_book_112 : decode cX2_book 112 = .ok (.getfield 225, 3) := dk_180 0 225 (dk_at dksX2_book_4 21 rfl rfl)
theorem dX2_book_115 : decode cX2_book 115 = .ok (.ifCond .ne 17, 3) := dk_154 0 17 (dk_at dksX2_book_5 0 rfl rfl)
theorem dX2_book_118 : decode cX2_book 118 = .ok (.aload_n 0, 1) := dk_42 (dk_at dksX2_book_5 3 rfl rfl)
theorem dX2_book_119 : decode cX2_book 119 = .ok (.getfield 212, 3) := dk_180 0 212 (dk_at dksX2_book_5 4 rfl rfl)
theorem dX2_book_122 : decode cX2_book 122 = .ok (.bipush 59, 2) := dk_16 59 (dk_at dksX2_book_5 7 rfl rfl)
theorem dX2_book_124 : decode cX2_book 124 = .ok (.if_icmp .eq 8, 3) := dk_159 0 8 (dk_at dksX2_book_5 9 rfl rfl)
theorem dX2_book_127 : decode cX2_book 127 = .ok (.aload_n 0, 1) := dk_42 (dk_at dksX2_book_5 12 rfl rfl)
theorem dX2_book_128 : decode cX2_book 128 = .ok (.iconst 2, 1) := dk_5 (dk_at dksX2_book_5 13 rfl rfl)
theorem dX2_book_129 : decode cX2_book 129 = .ok (.invokevirtual 286, 3) := dk_182 1 30 (dk_at dksX2_book_5 14 rfl rfl)
theorem dX2_book_132 : decode cX2_book 132 = .ok (.aload_n 0, 1) := dk_42 (dk_at dksX2_book_5 17 rfl rfl)
theorem dX2_book_133 : decode cX2_book 133 = .ok (.getfield 225, 3) := dk_180 0 225 (dk_at dksX2_book_5 18 rfl rfl)
theorem dX2_book_136 : decode cX2_book 136 = .ok (.ifCond .ne 7, 3) := dk_154 0 7 (dk_at dksX2_book_5 21 rfl rfl)
theorem dX2_book_139 : decode cX2_book 139 = .ok (.aload_n 0, 1) := dk_42 (dk_at dksX2_book_6 0 rfl rfl)
theorem dX2_book_140 : decode cX2_book 140 = .ok (.invokevirtual 289, 3) := dk_182 1 33 (dk_at dksX2_book_6 1 rfl rfl)
theorem dX2_book_143 : decode cX2_book 143 = .ok (.goto (-94), 3) := dk_167 255 162 (dk_at dksX2_book_6 4 rfl rfl)
theorem dX2_book_146 : decode cX2_book 146 = .ok (.aload_n 0, 1) := dk_42 (dk_at dksX2_book_6 7 rfl rfl)
theorem dX2_book_147 : decode cX2_book 147 = .ok (.getfield 225, 3) := dk_180 0 225 (dk_at dksX2_book_6 8 rfl rfl)
theorem dX2_book_150 : decode cX2_book 150 = .ok (.ifCond .le 5, 3) := dk_158 0 5 (dk_at dksX2_book_6 11 rfl rfl)
theorem dX2_book_153 : decode cX2_book 153 = .ok (.iconst (-1), 1) := dk_2 (dk_at dksX2_book_6 14 rfl rfl)
theorem dX2_book_154 : decode cX2_book 154 = .ok (.ireturn, 1) := dk_172 (dk_at dksX2_book_6 15 rfl rfl)
theorem dX2_book_155 : decode cX2_book 155 = .ok (.iconst 0, 1) := dk_3 (dk_at dksX2_book_6 16 rfl rfl)
theorem dX2_book_156 : decode cX2_book 156 = .ok (.istore_n 1, 1) := dk_60 (dk_at dksX2_book_6 17 rfl rfl)
theorem dX2_book_157 : decode cX2_book 157 = .ok (.iload_n 1, 1) := dk_27 (dk_at dksX2_book_6 18 rfl rfl)
theorem dX2_book_158 : decode cX2_book 158 = .ok (.bipush 12, 2) := dk_16 12 (dk_at dksX2_book_6 19 rfl rfl)
theorem dX2_book_160 : decode cX2_book 160 = .ok (.if_icmp .ge 21, 3) := dk_162 0 21 (dk_at dksX2_book_6 21 rfl rfl)
theorem dX2_book_163 : decode cX2_book 163 = .ok (.aload_n 0, 1) := dk_42 (dk_at dksX2_book_7 0 rfl rfl)
theorem dX2_book_164 : decode cX2_book 164 = .ok (.getfield 20, 3) := dk_180 0 20 (dk_at dksX2_book_7 1 rfl rfl)
theorem dX2_book_167 : decode cX2_book 167 = .ok (.iload_n 1, 1) := dk_27 (dk_at dksX2_book_7 4 rfl rfl)
theorem dX2_book_168 : decode cX2_book 168 = .ok (.aload_n 0, 1) := dk_42 (dk_at dksX2_book_7 5 rfl rfl)
theorem dX2_book_169 : decode cX2_book 169 = .ok (.getfield 17, 3) := dk_180 0 17 (dk_at dksX2_book_7 6 rfl rfl)
theorem dX2_book_172 : decode cX2_book 172 = .ok (.iload_n 1, 1) := dk_27 (dk_at dksX2_book_7 9 rfl rfl)
theorem dX2_book_173 : decode cX2_book 173 = .ok (.iaload, 1) := dk_46 (dk_at dksX2_book_7 10 rfl rfl)
theorem dX2_book_174 : decode cX2_book 174 = .ok (.iastore, 1) := dk_79 (dk_at dksX2_book_7 11 rfl rfl)
theorem dX2_book_175 : decode cX2_book 175 = .ok (.iinc 1 1, 3) := dk_132 1 1 (dk_at dksX2_book_7 12 rfl rfl)
theorem dX2_book_178 : decode cX2_book 178 = .ok (.goto (-21), 3) := dk_167 255 235 (dk_at dksX2_book_7 15 rfl rfl)
theorem dX2_book_181 : decode cX2_book 181 = .ok (.iconst 0, 1) := dk_3 (dk_at dksX2_book_7 18 rfl rfl)
theorem dX2_book_182 : decode cX2_book 182 = .ok (.istore_n 1, 1) := dk_60 (dk_at dksX2_book_7 19 rfl rfl)
theorem dX2_book_183 : decode cX2_book 183 = .ok (.iload_n 1, 1) := dk_27 (dk_at dksX2_book_7 20 rfl rfl)
theorem dX2_book_184 : decode cX2_book 184 = .ok (.aload_n 0, 1) := dk_42 (dk_at dksX2_book_7 21 rfl rfl)
theorem dX2_book_185 : decode cX2_book 185 = .ok (.getfield 295, 3) := dk_180 1 39 (dk_at dksX2_book_8 0 rfl rfl)
theorem dX2_book_188 : decode cX2_book 188 = .ok (.if_icmp .ge 45, 3) := dk_162 0 45 (dk_at dksX2_book_8 3 rfl rfl)
theorem dX2_book_191 : decode cX2_book 191 = .ok (.aload_n 0, 1) := dk_42 (dk_at dksX2_book_8 6 rfl rfl)
theorem dX2_book_192 : decode cX2_book 192 = .ok (.getfield 32, 3) := dk_180 0 32 (dk_at dksX2_book_8 7 rfl rfl)
theorem dX2_book_195 : decode cX2_book 195 = .ok (.iload_n 1, 1) := dk_27 (dk_at dksX2_book_8 10 rfl rfl)
theorem dX2_book_196 : decode cX2_book 196 = .ok (.aload_n 0, 1) := dk_42 (dk_at dksX2_book_8 11 rfl rfl)
theorem dX2_book_197 : decode cX2_book 197 = .ok (.getfield 23, 3) := dk_180 0 23 (dk_at dksX2_book_8 12 rfl rfl)
theorem dX2_book_200 : decode cX2_book 200 = .ok (.iload_n 1, 1) := dk_27 (dk_at dksX2_book_8 15 rfl rfl)
theorem dX2_book_201 : decode cX2_book 201 = .ok (.iaload, 1) := dk_46 (dk_at dksX2_book_8 16 rfl rfl)
theorem dX2_book_202 : decode cX2_book 202 = .ok (.iastore, 1) := dk_79 (dk_at dksX2_book_8 17 rfl rfl)
theorem dX2_book_203 : decode cX2_book 203 = .ok (.aload_n 0, 1) := dk_42 (dk_at dksX2_book_8 18 rfl rfl)
theorem dX2_book_204 : decode cX2_book 204 = .ok (.getfield 35, 3) := dk_180 0 35 (dk_at dksX2_book_8 19 rfl rfl)
theorem dX2_book_207 : decode cX2_book 207 = .ok (.iload_n 1, 1) := dk_27 (dk_at dksX2_book_8 22 rfl rfl)
theorem dX2_book_208 : decode cX2_book 208 = .ok (.aload_n 0, 1) := dk_42 (dk_at dksX2_book_8 23 rfl rfl)
theorem dX2_book_209 : decode cX2_book 209 = .ok (.getfield 26, 3) := dk_180 0 26 (dk_at dksX2_book_9 0 rfl rfl)
theorem dX2_book_212 : decode cX2_book 212 = .ok (.iload_n 1, 1) := dk_27 (dk_at dksX2_book_9 3 rfl rfl)
theorem dX2_book_213 : decode cX2_book 213 = .ok (.iaload, 1) := dk_46 (dk_at dksX2_book_9 4 rfl rfl)
theorem dX2_book_214 : decode cX2_book 214 = .ok (.iastore, 1) := dk_79 (dk_at dksX2_book_9 5 rfl rfl)
theorem dX2_book_215 : decode cX2_book 215 = .ok (.aload_n 0, 1) := dk_42 (dk_at dksX2_book_9 6 rfl rfl)
theorem dX2_book_216 : decode cX2_book 216 = .ok (.getfield 38, 3) := dk_180 0 38 (dk_at dksX2_book_9 7 rfl rfl)
theorem dX2_book_219 : decode cX2_book 219 = .ok (.iload_n 1, 1) := dk_27 (dk_at dksX2_book_9 10 rfl rfl)
theorem dX2_book_220 : decode cX2_book 220 = .ok (.aload_n 0, 1) := dk_42 (dk_at dksX2_book_9 11 rfl rfl)
theorem dX2_book_221 : decode cX2_book 221 = .ok (.getfield 29, 3) := dk_180 0 29 (dk_at dksX2_book_9 12 rfl rfl)
theorem dX2_book_224 : decode cX2_book 224 = .ok (.iload_n 1, 1) := dk_27 (dk_at dksX2_book_9 15 rfl rfl)
theorem dX2_book_225 : decode cX2_book 225 = .ok (.iaload, 1) := dk_46 (dk_at dksX2_book_9 16 rfl rfl)
theorem dX2_book_226 : decode cX2_book 226 = .ok (.iastore, 1) := dk_79 (dk_at dksX2_book_9 17 rfl rfl)
theorem dX2_book_227 : decode cX2_book 227 = .ok (.iinc 1 1, 3) := dk_132 1 1 (dk_at dksX2_book_9 18 rfl rfl)
theorem dX2_book_230 : decode cX2_book 230 = .ok (.goto (-47), 3) := dk_167 255 209 (dk_at dksX2_book_9 21 rfl rfl)
theorem dX2_book_233 : decode cX2_book 233 = .ok (.aload_n 0, 1) := dk_42 (dk_at dksX2_book_10 0 rfl rfl)
theorem dX2_book_234 : decode cX2_book 234 = .ok (.aload_n 0, 1) := dk_42 (dk_at dksX2_book_10 1 rfl rfl)
theorem dX2_book_235 : decode cX2_book 235 = .ok (.getfield 295, 3) := dk_180 1 39 (dk_at dksX2_book_10 2 rfl rfl)
theorem dX2_book_238 : decode cX2_book 238 = .ok (.putfield 330, 3) := dk_181 1 74 (dk_at dksX2_book_10 5 rfl rfl)
theorem dX2_book_241 : decode cX2_book 241 = .ok (.aload_n 0, 1) := dk_42 (dk_at dksX2_book_10 8 rfl rfl)
theorem dX2_book_242 : decode cX2_book 242 = .ok (.iconst 0, 1) := dk_3 (dk_at dksX2_book_10 9 rfl rfl)
theorem dX2_book_243 : decode cX2_book 243 = .ok (.putfield 333, 3) := dk_181 1 77 (dk_at dksX2_book_10 10 rfl rfl)
theorem dX2_book_246 : decode cX2_book 246 = .ok (.aload_n 0, 1) := dk_42 (dk_at dksX2_book_10 13 rfl rfl)
theorem dX2_book_247 : decode cX2_book 247 = .ok (.iconst 0, 1) := dk_3 (dk_at dksX2_book_10 14 rfl rfl)
theorem dX2_book_248 : decode cX2_book 248 = .ok (.putfield 336, 3) := dk_181 1 80 (dk_at dksX2_book_10 15 rfl rfl)
theorem dX2_book_251 : decode cX2_book 251 = .ok (.aload_n 0, 1) := dk_42 (dk_at dksX2_book_10 18 rfl rfl)
theorem dX2_book_252 : decode cX2_book 252 = .ok (.iconst 0, 1) := dk_3 (dk_at dksX2_book_10 19 rfl rfl)
theorem dX2_book_253 : decode cX2_book 253 = .ok (.putfield 339, 3) := dk_181 1 83 (dk_at dksX2_book_10 20 rfl rfl)
theorem dX2_book_256 : decode cX2_book 256 = .ok (.iconst 0, 1) := dk_3 (dk_at dksX2_book_10 23 rfl rfl)
theorem dX2_book_257 : decode cX2_book 257 = .ok (.istore_n 1, 1) := dk_60 (dk_at dksX2_book_11 0 rfl rfl)
theorem dX2_book_258 : decode cX2_book 258 = .ok (.iload_n 1, 1) := dk_27 (dk_at dksX2_book_11 1 rfl rfl)
theorem dX2_book_259 : decode cX2_book 259 = .ok (.sipush 256, 3) := dk_17 1 0 (dk_at dksX2_book_11 2 rfl rfl)
theorem dX2_book_262 : decode cX2_book 262 = .ok (.if_icmp .ge 16, 3) := dk_162 0 16 (dk_at dksX2_book_11 5 rfl rfl)
theorem dX2_book_265 : decode cX2_book 265 = .ok (.aload_n 0, 1) := dk_42 (dk_at dksX2_book_11 8 rfl rfl)
theorem dX2_book_266 : decode cX2_book 266 = .ok (.getfield 61, 3) := dk_180 0 61 (dk_at dksX2_book_11 9 rfl rfl)
theorem dX2_book_269 : decode cX2_book 269 = .ok (.iload_n 1, 1) := dk_27 (dk_at dksX2_book_11 12 rfl rfl)
theorem dX2_book_270 : decode cX2_book 270 = .ok (.iconst 0, 1) := dk_3 (dk_at dksX2_book_11 13 rfl rfl)
theorem dX2_book_271 : decode cX2_book 271 = .ok (.bastore, 1) := dk_84 (dk_at dksX2_book_11 14 rfl rfl)
theorem dX2_book_272 : decode cX2_book 272 = .ok (.iinc 1 1, 3) := dk_132 1 1 (dk_at dksX2_book_11 15 rfl rfl)
theorem dX2_book_275 : decode cX2_book 275 = .ok (.goto (-17), 3) := dk_167 255 239 (dk_at dksX2_book_11 18 rfl rfl)
theorem dX2_book_278 : decode cX2_book 278 = .ok (.iconst 0, 1) := dk_3 (dk_at dksX2_book_11 21 rfl rfl)
theorem dX2_book_279 : decode cX2_book 279 = .ok (.istore_n 1, 1) := dk_60 (dk_at dksX2_book_11 22 rfl rfl)
theorem dX2_book_280 : decode cX2_book 280 = .ok (.iload_n 1, 1) := dk_27 (dk_at dksX2_book_11 23 rfl rfl)
theorem dX2_book_281 : decode cX2_book 281 = .ok (.iconst 3, 1) := dk_6 (dk_at dksX2_book_12 0 rfl rfl)
theorem dX2_book_282 : decode cX2_book 282 = .ok (.if_icmp .ge 16, 3) := dk_162 0 16 (dk_at dksX2_book_12 1 rfl rfl)
theorem dX2_book_285 : decode cX2_book 285 = .ok (.aload_n 0, 1) := dk_42 (dk_at dksX2_book_12 4 rfl rfl)
theorem dX2_book_286 : decode cX2_book 286 = .ok (.getfield 157, 3) := dk_180 0 157 (dk_at dksX2_book_12 5 rfl rfl)
theorem dX2_book_289 : decode cX2_book 289 = .ok (.iload_n 1, 1) := dk_27 (dk_at dksX2_book_12 8 rfl rfl)
theorem dX2_book_290 : decode cX2_book 290 = .ok (.iconst 0, 1) := dk_3 (dk_at dksX2_book_12 9 rfl rfl)
theorem dX2_book_291 : decode cX2_book 291 = .ok (.bastore, 1) := dk_84 (dk_at dksX2_book_12 10 rfl rfl)
theorem dX2_book_292 : decode cX2_book 292 = .ok (.iinc 1 1, 3) := dk_132 1 1 (dk_at dksX2_book_12 11 rfl rfl)
theorem dX2_book_295 : decode cX2_book 295 = .ok (.goto (-15), 3) := dk_167 255 241 (dk_at dksX2_book_12 14 rfl rfl)
theorem dX2_book_298 : decode cX2_book 298 = .ok (.aload_n 0, 1) := dk_42 (dk_at dksX2_book_12 17 rfl rfl)
theorem dX2_book_299 : decode cX2_book 299 = .ok (.getfield 330, 3) := dk_180 1 74 (dk_at dksX2_book_12 18 rfl rfl)
theorem dX2_book_302 : decode cX2_book 302 = .ok (.ireturn, 1) := dk_172 (dk_at dksX2_book_12 21 rfl rfl)
abbrev cX2_start : ByteArray := prog_28_method_11_code
def yX2_start : MethodName := ⟨RX2, "start", "()V"⟩
def dkwX2_start_1 : List UInt8 := [2, 181, 0, 13, 177]
abbrev dktX2_start_1 : List UInt8 := dkwX2_start_1 ++ []
def dkwX2_start_0 : List UInt8 := [42, 42, 180, 0, 181, 181, 0, 191, 42, 3, 181, 0, 181, 42, 3, 181, 0, 188, 42, 3, 181, 0, 225, 42]
abbrev dktX2_start_0 : List UInt8 := dkwX2_start_0 ++ dktX2_start_1
theorem dksX2_start_0 : cX2_start.data.toList.drop 0 = dktX2_start_0 := by decide +kernel
theorem dksX2_start_1 : cX2_start.data.toList.drop 24 = dktX2_start_1 := dk_seg dksX2_start_0 24 rfl rfl
theorem dX2_start_0 : decode cX2_start 0 = .ok (.aload_n 0, 1) := dk_42 (dk_at dksX2_start_0 0 rfl rfl)
theorem dX2_start_1 : decode cX2_start 1 = .ok (.aload_n 0, 1) := dk_42 (dk_at dksX2_start_0 1 rfl rfl)
theorem dX2_start_2 : decode cX2_start 2 = .ok (.getfield 181, 3) := dk_180 0 181 (dk_at dksX2_start_0 2 rfl rfl)
theorem dX2_start_5 : decode cX2_start 5 = .ok (.putfield 191, 3) := dk_181 0 191 (dk_at dksX2_start_0 5 rfl rfl)
theorem dX2_start_8 : decode cX2_start 8 = .ok (.aload_n 0, 1) := dk_42 (dk_at dksX2_start_0 8 rfl rfl)
theorem dX2_start_9 : decode cX2_start 9 = .ok (.iconst 0, 1) := dk_3 (dk_at dksX2_start_0 9 rfl rfl)
theorem dX2_start_10 : decode cX2_start 10 = .ok (.putfield 181, 3) := dk_181 0 181 (dk_at dksX2_start_0 10 rfl rfl)
theorem dX2_start_13 : decode cX2_start 13 = .ok (.aload_n 0, 1) := dk_42 (dk_at dksX2_start_0 13 rfl rfl)
theorem dX2_start_14 : decode cX2_start 14 = .ok (.iconst 0, 1) := dk_3 (dk_at dksX2_start_0 14 rfl rfl)
theorem dX2_start_15 : decode cX2_start 15 = .ok (.putfield 188, 3) := dk_181 0 188 (dk_at dksX2_start_0 15 rfl rfl)
theorem dX2_start_18 : decode cX2_start 18 = .ok (.aload_n 0, 1) := dk_42 (dk_at dksX2_start_0 18 rfl rfl)
theorem dX2_start_19 : decode cX2_start 19 = .ok (.iconst 0, 1) := dk_3 (dk_at dksX2_start_0 19 rfl rfl)
theorem dX2_start_20 : decode cX2_start 20 = .ok (.putfield 225, 3) := dk_181 0 225 (dk_at dksX2_start_0 20 rfl rfl)
theorem dX2_start_23 : decode cX2_start 23 = .ok (.aload_n 0, 1) := dk_42 (dk_at dksX2_start_0 23 rfl rfl)
theorem dX2_start_24 : decode cX2_start 24 = .ok (.iconst (-1), 1) := dk_2 (dk_at dksX2_start_1 0 rfl rfl)
theorem dX2_start_25 : decode cX2_start 25 = .ok (.putfield 13, 3) := dk_181 0 13 (dk_at dksX2_start_1 1 rfl rfl)
theorem dX2_start_28 : decode cX2_start 28 = .ok (.return_, 1) := dk_177 (dk_at dksX2_start_1 4 rfl rfl)
abbrev cX2_token : ByteArray := prog_28_method_9_code
def yX2_token : MethodName := ⟨RX2, "token", "()V"⟩
def dkwX2_token_10 : List UInt8 := [181, 0, 212, 42, 180, 0, 212, 6, 159, 0, 13, 42, 89, 180, 0, 188, 28, 96, 181, 0, 188, 177]
abbrev dktX2_token_10 : List UInt8 := dkwX2_token_10 ++ []
def dkwX2_token_9 : List UInt8 := [5, 181, 0, 212, 167, 0, 22, 4, 61, 42, 42, 27, 182, 0, 222, 153, 0, 7, 27, 167, 0, 4, 6]
abbrev dktX2_token_9 : List UInt8 := dkwX2_token_9 ++ dktX2_token_10
def dkwX2_token_8 : List UInt8 := [167, 255, 217, 42, 28, 7, 163, 0, 14, 42, 28, 182, 0, 198, 184, 0, 215, 153, 0, 7, 6, 167, 0, 4]
abbrev dktX2_token_8 : List UInt8 := dkwX2_token_8 ++ dktX2_token_9
def dkwX2_token_7 : List UInt8 := [16, 10, 42, 180, 0, 209, 104, 42, 28, 182, 0, 198, 96, 16, 48, 100, 181, 0, 209, 132, 2, 1]
abbrev dktX2_token_7 : List UInt8 := dkwX2_token_7 ++ dktX2_token_8
def dkwX2_token_6 : List UInt8 := [184, 0, 219, 153, 0, 73, 42, 28, 182, 0, 198, 184, 0, 219, 153, 0, 34, 28, 7, 162, 0, 23, 42]
abbrev dktX2_token_6 : List UInt8 := dkwX2_token_6 ++ dktX2_token_7
def dkwX2_token_5 : List UInt8 := [167, 255, 218, 42, 28, 16, 8, 164, 0, 7, 6, 167, 0, 4, 4, 181, 0, 212, 167, 0, 99, 27]
abbrev dktX2_token_5 : List UInt8 := dkwX2_token_5 ++ dktX2_token_6
def dkwX2_token_4 : List UInt8 := [162, 0, 21, 42, 42, 180, 0, 205, 16, 8, 121, 42, 28, 182, 0, 198, 133, 129, 181, 0, 205, 132, 2, 1]
abbrev dktX2_token_4 : List UInt8 := dkwX2_token_4 ++ dktX2_token_5
def dkwX2_token_3 : List UInt8 := [167, 0, 165, 27, 184, 0, 215, 153, 0, 62, 42, 28, 182, 0, 198, 184, 0, 215, 153, 0, 33, 28, 16, 8]
abbrev dktX2_token_3 : List UInt8 := dkwX2_token_3 ++ dktX2_token_4
def dkwX2_token_2 : List UInt8 := [60, 3, 61, 42, 9, 181, 0, 205, 42, 3, 181, 0, 209, 27, 156, 0, 11, 42, 3, 181, 0, 212]
abbrev dktX2_token_2 : List UInt8 := dkwX2_token_2 ++ dktX2_token_3
def dkwX2_token_1 : List UInt8 := [180, 0, 188, 4, 96, 181, 0, 188, 167, 255, 226, 42, 42, 180, 0, 188, 181, 0, 202, 42, 3, 182, 0, 198]
abbrev dktX2_token_1 : List UInt8 := dkwX2_token_1 ++ dktX2_token_2
def dkwX2_token_0 : List UInt8 := [42, 3, 182, 0, 198, 16, 32, 159, 0, 13, 42, 3, 182, 0, 198, 16, 10, 160, 0, 16, 42, 89]
abbrev dktX2_token_0 : List UInt8 := dkwX2_token_0 ++ dktX2_token_1
theorem dksX2_token_0 : cX2_token.data.toList.drop 0 = dktX2_token_0 := by decide +kernel
theorem dksX2_token_1 : cX2_token.data.toList.drop 22 = dktX2_token_1 := dk_seg dksX2_token_0 22 rfl rfl
theorem dksX2_token_2 : cX2_token.data.toList.drop 46 = dktX2_token_2 := dk_seg dksX2_token_1 24 rfl rfl
theorem dksX2_token_3 : cX2_token.data.toList.drop 68 = dktX2_token_3 := dk_seg dksX2_token_2 22 rfl rfl
theorem dksX2_token_4 : cX2_token.data.toList.drop 92 = dktX2_token_4 := dk_seg dksX2_token_3 24 rfl rfl
theorem dksX2_token_5 : cX2_token.data.toList.drop 116 = dktX2_token_5 := dk_seg dksX2_token_4 24 rfl rfl
theorem dksX2_token_6 : cX2_token.data.toList.drop 138 = dktX2_token_6 := dk_seg dksX2_token_5 22 rfl rfl
theorem dksX2_token_7 : cX2_token.data.toList.drop 161 = dktX2_token_7 := dk_seg dksX2_token_6 23 rfl rfl
theorem dksX2_token_8 : cX2_token.data.toList.drop 183 = dktX2_token_8 := dk_seg dksX2_token_7 22 rfl rfl
theorem dksX2_token_9 : cX2_token.data.toList.drop 207 = dktX2_token_9 := dk_seg dksX2_token_8 24 rfl rfl
theorem dksX2_token_10 : cX2_token.data.toList.drop 230 = dktX2_token_10 := dk_seg dksX2_token_9 23 rfl rfl
theorem dX2_token_0 : decode cX2_token 0 = .ok (.aload_n 0, 1) := dk_42 (dk_at dksX2_token_0 0 rfl rfl)
theorem dX2_token_1 : decode cX2_token 1 = .ok (.iconst 0, 1) := dk_3 (dk_at dksX2_token_0 1 rfl rfl)
theorem dX2_token_2 : decode cX2_token 2 = .ok (.invokevirtual 198, 3) := dk_182 0 198 (dk_at dksX2_token_0 2 rfl rfl)
theorem dX2_token_5 : decode cX2_token 5 = .ok (.bipush 32, 2) := dk_16 32 (dk_at dksX2_token_0 5 rfl rfl)
theorem dX2_token_7 : decode cX2_token 7 = .ok (.if_icmp .eq 13, 3) := dk_159 0 13 (dk_at dksX2_token_0 7 rfl rfl)
theorem dX2_token_10 : decode cX2_token 10 = .ok (.aload_n 0, 1) := dk_42 (dk_at dksX2_token_0 10 rfl rfl)
theorem dX2_token_11 : decode cX2_token 11 = .ok (.iconst 0, 1) := dk_3 (dk_at dksX2_token_0 11 rfl rfl)
theorem dX2_token_12 : decode cX2_token 12 = .ok (.invokevirtual 198, 3) := dk_182 0 198 (dk_at dksX2_token_0 12 rfl rfl)
theorem dX2_token_15 : decode cX2_token 15 = .ok (.bipush 10, 2) := dk_16 10 (dk_at dksX2_token_0 15 rfl rfl)
theorem dX2_token_17 : decode cX2_token 17 = .ok (.if_icmp .ne 16, 3) := dk_160 0 16 (dk_at dksX2_token_0 17 rfl rfl)
theorem dX2_token_20 : decode cX2_token 20 = .ok (.aload_n 0, 1) := dk_42 (dk_at dksX2_token_0 20 rfl rfl)
theorem dX2_token_21 : decode cX2_token 21 = .ok (.dup, 1) := dk_89 (dk_at dksX2_token_0 21 rfl rfl)
theorem dX2_token_22 : decode cX2_token 22 = .ok (.getfield 188, 3) := dk_180 0 188 (dk_at dksX2_token_1 0 rfl rfl)
theorem dX2_token_25 : decode cX2_token 25 = .ok (.iconst 1, 1) := dk_4 (dk_at dksX2_token_1 3 rfl rfl)
theorem dX2_token_26 : decode cX2_token 26 = .ok (.iadd, 1) := dk_96 (dk_at dksX2_token_1 4 rfl rfl)
theorem dX2_token_27 : decode cX2_token 27 = .ok (.putfield 188, 3) := dk_181 0 188 (dk_at dksX2_token_1 5 rfl rfl)
theorem dX2_token_30 : decode cX2_token 30 = .ok (.goto (-30), 3) := dk_167 255 226 (dk_at dksX2_token_1 8 rfl rfl)
theorem dX2_token_33 : decode cX2_token 33 = .ok (.aload_n 0, 1) := dk_42 (dk_at dksX2_token_1 11 rfl rfl)
theorem dX2_token_34 : decode cX2_token 34 = .ok (.aload_n 0, 1) := dk_42 (dk_at dksX2_token_1 12 rfl rfl)
theorem dX2_token_35 : decode cX2_token 35 = .ok (.getfield 188, 3) := dk_180 0 188 (dk_at dksX2_token_1 13 rfl rfl)
theorem dX2_token_38 : decode cX2_token 38 = .ok (.putfield 202, 3) := dk_181 0 202 (dk_at dksX2_token_1 16 rfl rfl)
theorem dX2_token_41 : decode cX2_token 41 = .ok (.aload_n 0, 1) := dk_42 (dk_at dksX2_token_1 19 rfl rfl)
theorem dX2_token_42 : decode cX2_token 42 = .ok (.iconst 0, 1) := dk_3 (dk_at dksX2_token_1 20 rfl rfl)
theorem dX2_token_43 : decode cX2_token 43 = .ok (.invokevirtual 198, 3) := dk_182 0 198 (dk_at dksX2_token_1 21 rfl rfl)
theorem dX2_token_46 : decode cX2_token 46 = .ok (.istore_n 1, 1) := dk_60 (dk_at dksX2_token_2 0 rfl rfl)
theorem dX2_token_47 : decode cX2_token 47 = .ok (.iconst 0, 1) := dk_3 (dk_at dksX2_token_2 1 rfl rfl)
theorem dX2_token_48 : decode cX2_token 48 = .ok (.istore_n 2, 1) := dk_61 (dk_at dksX2_token_2 2 rfl rfl)
theorem dX2_token_49 : decode cX2_token 49 = .ok (.aload_n 0, 1) := dk_42 (dk_at dksX2_token_2 3 rfl rfl)
theorem dX2_token_50 : decode cX2_token 50 = .ok (.lconst 0, 1) := dk_9 (dk_at dksX2_token_2 4 rfl rfl)
theorem dX2_token_51 : decode cX2_token 51 = .ok (.putfield 205, 3) := dk_181 0 205 (dk_at dksX2_token_2 5 rfl rfl)
theorem dX2_token_54 : decode cX2_token 54 = .ok (.aload_n 0, 1) := dk_42 (dk_at dksX2_token_2 8 rfl rfl)
theorem dX2_token_55 : decode cX2_token 55 = .ok (.iconst 0, 1) := dk_3 (dk_at dksX2_token_2 9 rfl rfl)
theorem dX2_token_56 : decode cX2_token 56 = .ok (.putfield 209, 3) := dk_181 0 209 (dk_at dksX2_token_2 10 rfl rfl)
theorem dX2_token_59 : decode cX2_token 59 = .ok (.iload_n 1, 1) := dk_27 (dk_at dksX2_token_2 13 rfl rfl)
theorem dX2_token_60 : decode cX2_token 60 = .ok (.ifCond .ge 11, 3) := dk_156 0 11 (dk_at dksX2_token_2 14 rfl rfl)
theorem dX2_token_63 : decode cX2_token 63 = .ok (.aload_n 0, 1) := dk_42 (dk_at dksX2_token_2 17 rfl rfl)
theorem dX2_token_64 : decode cX2_token 64 = .ok (.iconst 0, 1) := dk_3 (dk_at dksX2_token_2 18 rfl rfl)
theorem dX2_token_65 : decode cX2_token 65 = .ok (.putfield 212, 3) := dk_181 0 212 (dk_at dksX2_token_2 19 rfl rfl)
theorem dX2_token_68 : decode cX2_token 68 = .ok (.goto 165, 3) := dk_167 0 165 (dk_at dksX2_token_3 0 rfl rfl)
theorem dX2_token_71 : decode cX2_token 71 = .ok (.iload_n 1, 1) := dk_27 (dk_at dksX2_token_3 3 rfl rfl)
theorem dX2_token_72 : decode cX2_token 72 = .ok (.invokestatic 215, 3) := dk_184 0 215 (dk_at dksX2_token_3 4 rfl rfl)
theorem dX2_token_75 : decode cX2_token 75 = .ok (.ifCond .eq 62, 3) := dk_153 0 62 (dk_at dksX2_token_3 7 rfl rfl)
theorem dX2_token_78 : decode cX2_token 78 = .ok (.aload_n 0, 1) := dk_42 (dk_at dksX2_token_3 10 rfl rfl)
theorem dX2_token_79 : decode cX2_token 79 = .ok (.iload_n 2, 1) := dk_28 (dk_at dksX2_token_3 11 rfl rfl)
theorem dX2_token_80 : decode cX2_token 80 = .ok (.invokevirtual 198, 3) := dk_182 0 198 (dk_at dksX2_token_3 12 rfl rfl)
theorem dX2_token_83 : decode cX2_token 83 = .ok (.invokestatic 215, 3) := dk_184 0 215 (dk_at dksX2_token_3 15 rfl rfl)
theorem dX2_token_86 : decode cX2_token 86 = .ok (.ifCond .eq 33, 3) := dk_153 0 33 (dk_at dksX2_token_3 18 rfl rfl)
theorem dX2_token_89 : decode cX2_token 89 = .ok (.iload_n 2, 1) := dk_28 (dk_at dksX2_token_3 21 rfl rfl)
theorem dX2_token_90 : decode cX2_token 90 = .ok (.bipush 8, 2) := dk_16 8 (dk_at dksX2_token_3 22 rfl rfl)
theorem dX2_token_92 : decode cX2_token 92 = .ok (.if_icmp .ge 21, 3) := dk_162 0 21 (dk_at dksX2_token_4 0 rfl rfl)
theorem dX2_token_95 : decode cX2_token 95 = .ok (.aload_n 0, 1) := dk_42 (dk_at dksX2_token_4 3 rfl rfl)
theorem dX2_token_96 : decode cX2_token 96 = .ok (.aload_n 0, 1) := dk_42 (dk_at dksX2_token_4 4 rfl rfl)
theorem dX2_token_97 : decode cX2_token 97 = .ok (.getfield 205, 3) := dk_180 0 205 (dk_at dksX2_token_4 5 rfl rfl)
theorem dX2_token_100 : decode cX2_token 100 = .ok (.bipush 8, 2) := dk_16 8 (dk_at dksX2_token_4 8 rfl rfl)
theorem dX2_token_102 : decode cX2_token 102 = .ok (.lshl, 1) := dk_121 (dk_at dksX2_token_4 10 rfl rfl)
theorem dX2_token_103 : decode cX2_token 103 = .ok (.aload_n 0, 1) := dk_42 (dk_at dksX2_token_4 11 rfl rfl)
theorem dX2_token_104 : decode cX2_token 104 = .ok (.iload_n 2, 1) := dk_28 (dk_at dksX2_token_4 12 rfl rfl)
theorem dX2_token_105 : decode cX2_token 105 = .ok (.invokevirtual 198, 3) := dk_182 0 198 (dk_at dksX2_token_4 13 rfl rfl)
theorem dX2_token_108 : decode cX2_token 108 = .ok (.i2l, 1) := dk_133 (dk_at dksX2_token_4 16 rfl rfl)
theorem dX2_token_109 : decode cX2_token 109 = .ok (.lor, 1) := dk_129 (dk_at dksX2_token_4 17 rfl rfl)
theorem dX2_token_110 : decode cX2_token 110 = .ok (.putfield 205, 3) := dk_181 0 205 (dk_at dksX2_token_4 18 rfl rfl)
theorem dX2_token_113 : decode cX2_token 113 = .ok (.iinc 2 1, 3) := dk_132 2 1 (dk_at dksX2_token_4 21 rfl rfl)
theorem dX2_token_116 : decode cX2_token 116 = .ok (.goto (-38), 3) := dk_167 255 218 (dk_at dksX2_token_5 0 rfl rfl)
theorem dX2_token_119 : decode cX2_token 119 = .ok (.aload_n 0, 1) := dk_42 (dk_at dksX2_token_5 3 rfl rfl)
theorem dX2_token_120 : decode cX2_token 120 = .ok (.iload_n 2, 1) := dk_28 (dk_at dksX2_token_5 4 rfl rfl)
theorem dX2_token_121 : decode cX2_token 121 = .ok (.bipush 8, 2) := dk_16 8 (dk_at dksX2_token_5 5 rfl rfl)
theorem dX2_token_123 : decode cX2_token 123 = .ok (.if_icmp .le 7, 3) := dk_164 0 7 (dk_at dksX2_token_5 7 rfl rfl)
theorem dX2_token_126 : decode cX2_token 126 = .ok (.iconst 3, 1) := dk_6 (dk_at dksX2_token_5 10 rfl rfl)
theorem dX2_token_127 : decode cX2_token 127 = .ok (.goto 4, 3) := dk_167 0 4 (dk_at dksX2_token_5 11 rfl rfl)
theorem dX2_token_130 : decode cX2_token 130 = .ok (.iconst 1, 1) := dk_4 (dk_at dksX2_token_5 14 rfl rfl)
theorem dX2_token_131 : decode cX2_token 131 = .ok (.putfield 212, 3) := dk_181 0 212 (dk_at dksX2_token_5 15 rfl rfl)
theorem dX2_token_134 : decode cX2_token 134 = .ok (.goto 99, 3) := dk_167 0 99 (dk_at dksX2_token_5 18 rfl rfl)
theorem dX2_token_137 : decode cX2_token 137 = .ok (.iload_n 1, 1) := dk_27 (dk_at dksX2_token_5 21 rfl rfl)
theorem dX2_token_138 : decode cX2_token 138 = .ok (.invokestatic 219, 3) := dk_184 0 219 (dk_at dksX2_token_6 0 rfl rfl)
theorem dX2_token_141 : decode cX2_token 141 = .ok (.ifCond .eq 73, 3) := dk_153 0 73 (dk_at dksX2_token_6 3 rfl rfl)
theorem dX2_token_144 : decode cX2_token 144 = .ok (.aload_n 0, 1) := dk_42 (dk_at dksX2_token_6 6 rfl rfl)
theorem dX2_token_145 : decode cX2_token 145 = .ok (.iload_n 2, 1) := dk_28 (dk_at dksX2_token_6 7 rfl rfl)
theorem dX2_token_146 : decode cX2_token 146 = .ok (.invokevirtual 198, 3) := dk_182 0 198 (dk_at dksX2_token_6 8 rfl rfl)
theorem dX2_token_149 : decode cX2_token 149 = .ok (.invokestatic 219, 3) := dk_184 0 219 (dk_at dksX2_token_6 11 rfl rfl)
theorem dX2_token_152 : decode cX2_token 152 = .ok (.ifCond .eq 34, 3) := dk_153 0 34 (dk_at dksX2_token_6 14 rfl rfl)
theorem dX2_token_155 : decode cX2_token 155 = .ok (.iload_n 2, 1) := dk_28 (dk_at dksX2_token_6 17 rfl rfl)
theorem dX2_token_156 : decode cX2_token 156 = .ok (.iconst 4, 1) := dk_7 (dk_at dksX2_token_6 18 rfl rfl)
theorem dX2_token_157 : decode cX2_token 157 = .ok (.if_icmp .ge 23, 3) := dk_162 0 23 (dk_at dksX2_token_6 19 rfl rfl)
theorem dX2_token_160 : decode cX2_token 160 = .ok (.aload_n 0, 1) := dk_42 (dk_at dksX2_token_6 22 rfl rfl)
theorem dX2_token_161 : decode cX2_token 161 = .ok (.bipush 10, 2) := dk_16 10 (dk_at dksX2_token_7 0 rfl rfl)
theorem dX2_token_163 : decode cX2_token 163 = .ok (.aload_n 0, 1) := dk_42 (dk_at dksX2_token_7 2 rfl rfl)
theorem dX2_token_164 : decode cX2_token 164 = .ok (.getfield 209, 3) := dk_180 0 209 (dk_at dksX2_token_7 3 rfl rfl)
theorem dX2_token_167 : decode cX2_token 167 = .ok (.imul, 1) := dk_104 (dk_at dksX2_token_7 6 rfl rfl)
theorem dX2_token_168 : decode cX2_token 168 = .ok (.aload_n 0, 1) := dk_42 (dk_at dksX2_token_7 7 rfl rfl)
theorem dX2_token_169 : decode cX2_token 169 = .ok (.iload_n 2, 1) := dk_28 (dk_at dksX2_token_7 8 rfl rfl)
theorem dX2_token_170 : decode cX2_token 170 = .ok (.invokevirtual 198, 3) := dk_182 0 198 (dk_at dksX2_token_7 9 rfl rfl)
theorem dX2_token_173 : decode cX2_token 173 = .ok (.iadd, 1) := dk_96 (dk_at dksX2_token_7 12 rfl rfl)
theorem dX2_token_174 : decode cX2_token 174 = .ok (.bipush 48, 2) := dk_16 48 (dk_at dksX2_token_7 13 rfl rfl)
theorem dX2_token_176 : decode cX2_token 176 = .ok (.isub, 1) := dk_100 (dk_at dksX2_token_7 15 rfl rfl)
theorem dX2_token_177 : decode cX2_token 177 = .ok (.putfield 209, 3) := dk_181 0 209 (dk_at dksX2_token_7 16 rfl rfl)
theorem dX2_token_180 : decode cX2_token 180 = .ok (.iinc 2 1, 3) := dk_132 2 1 (dk_at dksX2_token_7 19 rfl rfl)
theorem dX2_token_183 : decode cX2_token 183 = .ok (.goto (-39), 3) := dk_167 255 217 (dk_at dksX2_token_8 0 rfl rfl)
theorem dX2_token_186 : decode cX2_token 186 = .ok (.aload_n 0, 1) := dk_42 (dk_at dksX2_token_8 3 rfl rfl)
theorem dX2_token_187 : decode cX2_token 187 = .ok (.iload_n 2, 1) := dk_28 (dk_at dksX2_token_8 4 rfl rfl)
theorem dX2_token_188 : decode cX2_token 188 = .ok (.iconst 4, 1) := dk_7 (dk_at dksX2_token_8 5 rfl rfl)
theorem dX2_token_189 : decode cX2_token 189 = .ok (.if_icmp .gt 14, 3) := dk_163 0 14 (dk_at dksX2_token_8 6 rfl rfl)
theorem dX2_token_192 : decode cX2_token 192 = .ok (.aload_n 0, 1) := dk_42 (dk_at dksX2_token_8 9 rfl rfl)
theorem dX2_token_193 : decode cX2_token 193 = .ok (.iload_n 2, 1) := dk_28 (dk_at dksX2_token_8 10 rfl rfl)
theorem dX2_token_194 : decode cX2_token 194 = .ok (.invokevirtual 198, 3) := dk_182 0 198 (dk_at dksX2_token_8 11 rfl rfl)
theorem dX2_token_197 : decode cX2_token 197 = .ok (.invokestatic 215, 3) := dk_184 0 215 (dk_at dksX2_token_8 14 rfl rfl)
theorem dX2_token_200 : decode cX2_token 200 = .ok (.ifCond .eq 7, 3) := dk_153 0 7 (dk_at dksX2_token_8 17 rfl rfl)
theorem dX2_token_203 : decode cX2_token 203 = .ok (.iconst 3, 1) := dk_6 (dk_at dksX2_token_8 20 rfl rfl)
theorem dX2_token_204 : decode cX2_token 204 = .ok (.goto 4, 3) := dk_167 0 4 (dk_at dksX2_token_8 21 rfl rfl)
theorem dX2_token_207 : decode cX2_token 207 = .ok (.iconst 2, 1) := dk_5 (dk_at dksX2_token_9 0 rfl rfl)
theorem dX2_token_208 : decode cX2_token 208 = .ok (.putfield 212, 3) := dk_181 0 212 (dk_at dksX2_token_9 1 rfl rfl)
theorem dX2_token_211 : decode cX2_token 211 = .ok (.goto 22, 3) := dk_167 0 22 (dk_at dksX2_token_9 4 rfl rfl)
theorem dX2_token_214 : decode cX2_token 214 = .ok (.iconst 1, 1) := dk_4 (dk_at dksX2_token_9 7 rfl rfl)
theorem dX2_token_215 : decode cX2_token 215 = .ok (.istore_n 2, 1) := dk_61 (dk_at dksX2_token_9 8 rfl rfl)
theorem dX2_token_216 : decode cX2_token 216 = .ok (.aload_n 0, 1) := dk_42 (dk_at dksX2_token_9 9 rfl rfl)
theorem dX2_token_217 : decode cX2_token 217 = .ok (.aload_n 0, 1) := dk_42 (dk_at dksX2_token_9 10 rfl rfl)
theorem dX2_token_218 : decode cX2_token 218 = .ok (.iload_n 1, 1) := dk_27 (dk_at dksX2_token_9 11 rfl rfl)
theorem dX2_token_219 : decode cX2_token 219 = .ok (.invokevirtual 222, 3) := dk_182 0 222 (dk_at dksX2_token_9 12 rfl rfl)
theorem dX2_token_222 : decode cX2_token 222 = .ok (.ifCond .eq 7, 3) := dk_153 0 7 (dk_at dksX2_token_9 15 rfl rfl)
theorem dX2_token_225 : decode cX2_token 225 = .ok (.iload_n 1, 1) := dk_27 (dk_at dksX2_token_9 18 rfl rfl)
theorem dX2_token_226 : decode cX2_token 226 = .ok (.goto 4, 3) := dk_167 0 4 (dk_at dksX2_token_9 19 rfl rfl)
theorem dX2_token_229 : decode cX2_token 229 = .ok (.iconst 3, 1) := dk_6 (dk_at dksX2_token_9 22 rfl rfl)
theorem dX2_token_230 : decode cX2_token 230 = .ok (.putfield 212, 3) := dk_181 0 212 (dk_at dksX2_token_10 0 rfl rfl)
theorem dX2_token_233 : decode cX2_token 233 = .ok (.aload_n 0, 1) := dk_42 (dk_at dksX2_token_10 3 rfl rfl)
theorem dX2_token_234 : decode cX2_token 234 = .ok (.getfield 212, 3) := dk_180 0 212 (dk_at dksX2_token_10 4 rfl rfl)
theorem dX2_token_237 : decode cX2_token 237 = .ok (.iconst 3, 1) := dk_6 (dk_at dksX2_token_10 7 rfl rfl)
theorem dX2_token_238 : decode cX2_token 238 = .ok (.if_icmp .eq 13, 3) := dk_159 0 13 (dk_at dksX2_token_10 8 rfl rfl)
theorem dX2_token_241 : decode cX2_token 241 = .ok (.aload_n 0, 1) := dk_42 (dk_at dksX2_token_10 11 rfl rfl)
theorem dX2_token_242 : decode cX2_token 242 = .ok (.dup, 1) := dk_89 (dk_at dksX2_token_10 12 rfl rfl)
theorem dX2_token_243 : decode cX2_token 243 = .ok (.getfield 188, 3) := dk_180 0 188 (dk_at dksX2_token_10 13 rfl rfl)
theorem dX2_token_246 : decode cX2_token 246 = .ok (.iload_n 2, 1) := dk_28 (dk_at dksX2_token_10 16 rfl rfl)
theorem dX2_token_247 : decode cX2_token 247 = .ok (.iadd, 1) := dk_96 (dk_at dksX2_token_10 17 rfl rfl)
theorem dX2_token_248 : decode cX2_token 248 = .ok (.putfield 188, 3) := dk_181 0 188 (dk_at dksX2_token_10 18 rfl rfl)
theorem dX2_token_251 : decode cX2_token 251 = .ok (.return_, 1) := dk_177 (dk_at dksX2_token_10 21 rfl rfl)
abbrev cX2_here : ByteArray := prog_28_method_5_code
def yX2_here : MethodName := ⟨RX2, "here", "(I)I"⟩
def dkwX2_here_1 : List UInt8 := [167, 0, 4, 2, 172]
abbrev dktX2_here_1 : List UInt8 := dkwX2_here_1 ++ []
def dkwX2_here_0 : List UInt8 := [42, 180, 0, 188, 27, 96, 42, 180, 0, 191, 162, 0, 17, 42, 180, 0, 7, 42, 180, 0, 188, 27, 96, 46]
abbrev dktX2_here_0 : List UInt8 := dkwX2_here_0 ++ dktX2_here_1
theorem dksX2_here_0 : cX2_here.data.toList.drop 0 = dktX2_here_0 := by decide +kernel
theorem dksX2_here_1 : cX2_here.data.toList.drop 24 = dktX2_here_1 := dk_seg dksX2_here_0 24 rfl rfl
theorem dX2_here_0 : decode cX2_here 0 = .ok (.aload_n 0, 1) := dk_42 (dk_at dksX2_here_0 0 rfl rfl)
theorem dX2_here_1 : decode cX2_here 1 = .ok (.getfield 188, 3) := dk_180 0 188 (dk_at dksX2_here_0 1 rfl rfl)
theorem dX2_here_4 : decode cX2_here 4 = .ok (.iload_n 1, 1) := dk_27 (dk_at dksX2_here_0 4 rfl rfl)
theorem dX2_here_5 : decode cX2_here 5 = .ok (.iadd, 1) := dk_96 (dk_at dksX2_here_0 5 rfl rfl)
theorem dX2_here_6 : decode cX2_here 6 = .ok (.aload_n 0, 1) := dk_42 (dk_at dksX2_here_0 6 rfl rfl)
theorem dX2_here_7 : decode cX2_here 7 = .ok (.getfield 191, 3) := dk_180 0 191 (dk_at dksX2_here_0 7 rfl rfl)
theorem dX2_here_10 : decode cX2_here 10 = .ok (.if_icmp .ge 17, 3) := dk_162 0 17 (dk_at dksX2_here_0 10 rfl rfl)
theorem dX2_here_13 : decode cX2_here 13 = .ok (.aload_n 0, 1) := dk_42 (dk_at dksX2_here_0 13 rfl rfl)
theorem dX2_here_14 : decode cX2_here 14 = .ok (.getfield 7, 3) := dk_180 0 7 (dk_at dksX2_here_0 14 rfl rfl)
theorem dX2_here_17 : decode cX2_here 17 = .ok (.aload_n 0, 1) := dk_42 (dk_at dksX2_here_0 17 rfl rfl)
theorem dX2_here_18 : decode cX2_here 18 = .ok (.getfield 188, 3) := dk_180 0 188 (dk_at dksX2_here_0 18 rfl rfl)
theorem dX2_here_21 : decode cX2_here 21 = .ok (.iload_n 1, 1) := dk_27 (dk_at dksX2_here_0 21 rfl rfl)
theorem dX2_here_22 : decode cX2_here 22 = .ok (.iadd, 1) := dk_96 (dk_at dksX2_here_0 22 rfl rfl)
theorem dX2_here_23 : decode cX2_here 23 = .ok (.iaload, 1) := dk_46 (dk_at dksX2_here_0 23 rfl rfl)
theorem dX2_here_24 : decode cX2_here 24 = .ok (.goto 4, 3) := dk_167 0 4 (dk_at dksX2_here_1 0 rfl rfl)
theorem dX2_here_27 : decode cX2_here 27 = .ok (.iconst (-1), 1) := dk_2 (dk_at dksX2_here_1 3 rfl rfl)
theorem dX2_here_28 : decode cX2_here 28 = .ok (.ireturn, 1) := dk_172 (dk_at dksX2_here_1 4 rfl rfl)
abbrev cX2_isLetter : ByteArray := prog_28_method_6_code
def yX2_isLetter : MethodName := ⟨RX2, "isLetter", "(I)Z"⟩
def dkwX2_isLetter_0 : List UInt8 := [26, 16, 97, 161, 0, 13, 26, 16, 122, 163, 0, 7, 4, 167, 0, 4, 3, 172]
abbrev dktX2_isLetter_0 : List UInt8 := dkwX2_isLetter_0 ++ []
theorem dksX2_isLetter_0 : cX2_isLetter.data.toList.drop 0 = dktX2_isLetter_0 := by decide +kernel
theorem dX2_isLetter_0 : decode cX2_isLetter 0 = .ok (.iload_n 0, 1) := dk_26 (dk_at dksX2_isLetter_0 0 rfl rfl)
theorem dX2_isLetter_1 : decode cX2_isLetter 1 = .ok (.bipush 97, 2) := dk_16 97 (dk_at dksX2_isLetter_0 1 rfl rfl)
theorem dX2_isLetter_3 : decode cX2_isLetter 3 = .ok (.if_icmp .lt 13, 3) := dk_161 0 13 (dk_at dksX2_isLetter_0 3 rfl rfl)
theorem dX2_isLetter_6 : decode cX2_isLetter 6 = .ok (.iload_n 0, 1) := dk_26 (dk_at dksX2_isLetter_0 6 rfl rfl)
theorem dX2_isLetter_7 : decode cX2_isLetter 7 = .ok (.bipush 122, 2) := dk_16 122 (dk_at dksX2_isLetter_0 7 rfl rfl)
theorem dX2_isLetter_9 : decode cX2_isLetter 9 = .ok (.if_icmp .gt 7, 3) := dk_163 0 7 (dk_at dksX2_isLetter_0 9 rfl rfl)
theorem dX2_isLetter_12 : decode cX2_isLetter 12 = .ok (.iconst 1, 1) := dk_4 (dk_at dksX2_isLetter_0 12 rfl rfl)
theorem dX2_isLetter_13 : decode cX2_isLetter 13 = .ok (.goto 4, 3) := dk_167 0 4 (dk_at dksX2_isLetter_0 13 rfl rfl)
theorem dX2_isLetter_16 : decode cX2_isLetter 16 = .ok (.iconst 0, 1) := dk_3 (dk_at dksX2_isLetter_0 16 rfl rfl)
theorem dX2_isLetter_17 : decode cX2_isLetter 17 = .ok (.ireturn, 1) := dk_172 (dk_at dksX2_isLetter_0 17 rfl rfl)
abbrev cX2_isDigit : ByteArray := prog_28_method_7_code
def yX2_isDigit : MethodName := ⟨RX2, "isDigit", "(I)Z"⟩
def dkwX2_isDigit_0 : List UInt8 := [26, 16, 48, 161, 0, 13, 26, 16, 57, 163, 0, 7, 4, 167, 0, 4, 3, 172]
abbrev dktX2_isDigit_0 : List UInt8 := dkwX2_isDigit_0 ++ []
theorem dksX2_isDigit_0 : cX2_isDigit.data.toList.drop 0 = dktX2_isDigit_0 := by decide +kernel
theorem dX2_isDigit_0 : decode cX2_isDigit 0 = .ok (.iload_n 0, 1) := dk_26 (dk_at dksX2_isDigit_0 0 rfl rfl)
theorem dX2_isDigit_1 : decode cX2_isDigit 1 = .ok (.bipush 48, 2) := dk_16 48 (dk_at dksX2_isDigit_0 1 rfl rfl)
theorem dX2_isDigit_3 : decode cX2_isDigit 3 = .ok (.if_icmp .lt 13, 3) := dk_161 0 13 (dk_at dksX2_isDigit_0 3 rfl rfl)
theorem dX2_isDigit_6 : decode cX2_isDigit 6 = .ok (.iload_n 0, 1) := dk_26 (dk_at dksX2_isDigit_0 6 rfl rfl)
theorem dX2_isDigit_7 : decode cX2_isDigit 7 = .ok (.bipush 57, 2) := dk_16 57 (dk_at dksX2_isDigit_0 7 rfl rfl)
theorem dX2_isDigit_9 : decode cX2_isDigit 9 = .ok (.if_icmp .gt 7, 3) := dk_163 0 7 (dk_at dksX2_isDigit_0 9 rfl rfl)
theorem dX2_isDigit_12 : decode cX2_isDigit 12 = .ok (.iconst 1, 1) := dk_4 (dk_at dksX2_isDigit_0 12 rfl rfl)
theorem dX2_isDigit_13 : decode cX2_isDigit 13 = .ok (.goto 4, 3) := dk_167 0 4 (dk_at dksX2_isDigit_0 13 rfl rfl)
theorem dX2_isDigit_16 : decode cX2_isDigit 16 = .ok (.iconst 0, 1) := dk_3 (dk_at dksX2_isDigit_0 16 rfl rfl)
theorem dX2_isDigit_17 : decode cX2_isDigit 17 = .ok (.ireturn, 1) := dk_172 (dk_at dksX2_isDigit_0 17 rfl rfl)
abbrev cX2_isSign : ByteArray := prog_28_method_8_code
def yX2_isSign : MethodName := ⟨RX2, "isSign", "(I)Z"⟩
def dkwX2_isSign_2 : List UInt8 := [159, 0, 9, 27, 16, 43, 160, 0, 7, 4, 167, 0, 4, 3, 172]
abbrev dktX2_isSign_2 : List UInt8 := dkwX2_isSign_2 ++ []
def dkwX2_isSign_1 : List UInt8 := [159, 0, 33, 27, 16, 41, 159, 0, 27, 27, 16, 60, 159, 0, 21, 27, 16, 62, 159, 0, 15, 27, 16, 61]
abbrev dktX2_isSign_1 : List UInt8 := dkwX2_isSign_1 ++ dktX2_isSign_2
def dkwX2_isSign_0 : List UInt8 := [27, 16, 59, 159, 0, 52, 27, 16, 45, 159, 0, 46, 42, 180, 0, 194, 153, 0, 43, 27, 16, 40]
abbrev dktX2_isSign_0 : List UInt8 := dkwX2_isSign_0 ++ dktX2_isSign_1
theorem dksX2_isSign_0 : cX2_isSign.data.toList.drop 0 = dktX2_isSign_0 := by decide +kernel
theorem dksX2_isSign_1 : cX2_isSign.data.toList.drop 22 = dktX2_isSign_1 := dk_seg dksX2_isSign_0 22 rfl rfl
theorem dksX2_isSign_2 : cX2_isSign.data.toList.drop 46 = dktX2_isSign_2 := dk_seg dksX2_isSign_1 24 rfl rfl
theorem dX2_isSign_0 : decode cX2_isSign 0 = .ok (.iload_n 1, 1) := dk_27 (dk_at dksX2_isSign_0 0 rfl rfl)
theorem dX2_isSign_1 : decode cX2_isSign 1 = .ok (.bipush 59, 2) := dk_16 59 (dk_at dksX2_isSign_0 1 rfl rfl)
theorem dX2_isSign_3 : decode cX2_isSign 3 = .ok (.if_icmp .eq 52, 3) := dk_159 0 52 (dk_at dksX2_isSign_0 3 rfl rfl)
theorem dX2_isSign_6 : decode cX2_isSign 6 = .ok (.iload_n 1, 1) := dk_27 (dk_at dksX2_isSign_0 6 rfl rfl)
theorem dX2_isSign_7 : decode cX2_isSign 7 = .ok (.bipush 45, 2) := dk_16 45 (dk_at dksX2_isSign_0 7 rfl rfl)
theorem dX2_isSign_9 : decode cX2_isSign 9 = .ok (.if_icmp .eq 46, 3) := dk_159 0 46 (dk_at dksX2_isSign_0 9 rfl rfl)
theorem dX2_isSign_12 : decode cX2_isSign 12 = .ok (.aload_n 0, 1) := dk_42 (dk_at dksX2_isSign_0 12 rfl rfl)
theorem dX2_isSign_13 : decode cX2_isSign 13 = .ok (.getfield 194, 3) := dk_180 0 194 (dk_at dksX2_isSign_0 13 rfl rfl)
theorem dX2_isSign_16 : decode cX2_isSign 16 = .ok (.ifCond .eq 43, 3) := dk_153 0 43 (dk_at dksX2_isSign_0 16 rfl rfl)
theorem dX2_isSign_19 : decode cX2_isSign 19 = .ok (.iload_n 1, 1) := dk_27 (dk_at dksX2_isSign_0 19 rfl rfl)
theorem dX2_isSign_20 : decode cX2_isSign 20 = .ok (.bipush 40, 2) := dk_16 40 (dk_at dksX2_isSign_0 20 rfl rfl)
theorem dX2_isSign_22 : decode cX2_isSign 22 = .ok (.if_icmp .eq 33, 3) := dk_159 0 33 (dk_at dksX2_isSign_1 0 rfl rfl)
theorem dX2_isSign_25 : decode cX2_isSign 25 = .ok (.iload_n 1, 1) := dk_27 (dk_at dksX2_isSign_1 3 rfl rfl)
theorem dX2_isSign_26 : decode cX2_isSign 26 = .ok (.bipush 41, 2) := dk_16 41 (dk_at dksX2_isSign_1 4 rfl rfl)
theorem dX2_isSign_28 : decode cX2_isSign 28 = .ok (.if_icmp .eq 27, 3) := dk_159 0 27 (dk_at dksX2_isSign_1 6 rfl rfl)
theorem dX2_isSign_31 : decode cX2_isSign 31 = .ok (.iload_n 1, 1) := dk_27 (dk_at dksX2_isSign_1 9 rfl rfl)
theorem dX2_isSign_32 : decode cX2_isSign 32 = .ok (.bipush 60, 2) := dk_16 60 (dk_at dksX2_isSign_1 10 rfl rfl)
theorem dX2_isSign_34 : decode cX2_isSign 34 = .ok (.if_icmp .eq 21, 3) := dk_159 0 21 (dk_at dksX2_isSign_1 12 rfl rfl)
theorem dX2_isSign_37 : decode cX2_isSign 37 = .ok (.iload_n 1, 1) := dk_27 (dk_at dksX2_isSign_1 15 rfl rfl)
theorem dX2_isSign_38 : decode cX2_isSign 38 = .ok (.bipush 62, 2) := dk_16 62 (dk_at dksX2_isSign_1 16 rfl rfl)
theorem dX2_isSign_40 : decode cX2_isSign 40 = .ok (.if_icmp .eq 15, 3) := dk_159 0 15 (dk_at dksX2_isSign_1 18 rfl rfl)
theorem dX2_isSign_43 : decode cX2_isSign 43 = .ok (.iload_n 1, 1) := dk_27 (dk_at dksX2_isSign_1 21 rfl rfl)
theorem dX2_isSign_44 : decode cX2_isSign 44 = .ok (.bipush 61, 2) := dk_16 61 (dk_at dksX2_isSign_1 22 rfl rfl)
theorem dX2_isSign_46 : decode cX2_isSign 46 = .ok (.if_icmp .eq 9, 3) := dk_159 0 9 (dk_at dksX2_isSign_2 0 rfl rfl)
theorem dX2_isSign_49 : decode cX2_isSign 49 = .ok (.iload_n 1, 1) := dk_27 (dk_at dksX2_isSign_2 3 rfl rfl)
theorem dX2_isSign_50 : decode cX2_isSign 50 = .ok (.bipush 43, 2) := dk_16 43 (dk_at dksX2_isSign_2 4 rfl rfl)
theorem dX2_isSign_52 : decode cX2_isSign 52 = .ok (.if_icmp .ne 7, 3) := dk_160 0 7 (dk_at dksX2_isSign_2 6 rfl rfl)
theorem dX2_isSign_55 : decode cX2_isSign 55 = .ok (.iconst 1, 1) := dk_4 (dk_at dksX2_isSign_2 9 rfl rfl)
theorem dX2_isSign_56 : decode cX2_isSign 56 = .ok (.goto 4, 3) := dk_167 0 4 (dk_at dksX2_isSign_2 10 rfl rfl)
theorem dX2_isSign_59 : decode cX2_isSign 59 = .ok (.iconst 0, 1) := dk_3 (dk_at dksX2_isSign_2 13 rfl rfl)
theorem dX2_isSign_60 : decode cX2_isSign 60 = .ok (.ireturn, 1) := dk_172 (dk_at dksX2_isSign_2 14 rfl rfl)
abbrev cX2_lineOf : ByteArray := prog_28_method_20_code
def yX2_lineOf : MethodName := ⟨RX2, "lineOf", "()I"⟩
def dkwX2_lineOf_5 : List UInt8 := [153, 0, 7, 2, 167, 0, 4, 27, 172]
abbrev dktX2_lineOf_5 : List UInt8 := dkwX2_lineOf_5 ++ []
def dkwX2_lineOf_4 : List UInt8 := [182, 1, 26, 153, 0, 8, 16, 10, 167, 0, 4, 2, 60, 27, 155, 0, 12, 42, 180, 0, 41, 27, 51]
abbrev dktX2_lineOf_4 : List UInt8 := dkwX2_lineOf_4 ++ dktX2_lineOf_5
def dkwX2_lineOf_3 : List UInt8 := [167, 0, 34, 42, 20, 0, 252, 182, 1, 26, 153, 0, 8, 16, 8, 167, 0, 19, 42, 20, 0, 254]
abbrev dktX2_lineOf_3 : List UInt8 := dkwX2_lineOf_3 ++ dktX2_lineOf_4
def dkwX2_lineOf_2 : List UInt8 := [182, 1, 26, 153, 0, 7, 8, 167, 0, 49, 42, 20, 0, 248, 182, 1, 26, 153, 0, 8, 16, 6]
abbrev dktX2_lineOf_2 : List UInt8 := dkwX2_lineOf_2 ++ dktX2_lineOf_3
def dkwX2_lineOf_1 : List UInt8 := [6, 167, 0, 77, 42, 20, 0, 244, 182, 1, 26, 153, 0, 7, 7, 167, 0, 63, 42, 20, 0, 246]
abbrev dktX2_lineOf_1 : List UInt8 := dkwX2_lineOf_1 ++ dktX2_lineOf_2
def dkwX2_lineOf_0 : List UInt8 := [42, 20, 0, 234, 182, 1, 26, 153, 0, 7, 3, 167, 0, 91, 42, 20, 0, 242, 182, 1, 26, 153, 0, 7]
abbrev dktX2_lineOf_0 : List UInt8 := dkwX2_lineOf_0 ++ dktX2_lineOf_1
theorem dksX2_lineOf_0 : cX2_lineOf.data.toList.drop 0 = dktX2_lineOf_0 := by decide +kernel
theorem dksX2_lineOf_1 : cX2_lineOf.data.toList.drop 24 = dktX2_lineOf_1 := dk_seg dksX2_lineOf_0 24 rfl rfl
theorem dksX2_lineOf_2 : cX2_lineOf.data.toList.drop 46 = dktX2_lineOf_2 := dk_seg dksX2_lineOf_1 22 rfl rfl
theorem dksX2_lineOf_3 : cX2_lineOf.data.toList.drop 68 = dktX2_lineOf_3 := dk_seg dksX2_lineOf_2 22 rfl rfl
theorem dksX2_lineOf_4 : cX2_lineOf.data.toList.drop 90 = dktX2_lineOf_4 := dk_seg dksX2_lineOf_3 22 rfl rfl
theorem dksX2_lineOf_5 : cX2_lineOf.data.toList.drop 113 = dktX2_lineOf_5 := dk_seg dksX2_lineOf_4 23 rfl rfl
theorem dX2_lineOf_0 : decode cX2_lineOf 0 = .ok (.aload_n 0, 1) := dk_42 (dk_at dksX2_lineOf_0 0 rfl rfl)
theorem dX2_lineOf_1 : decode cX2_lineOf 1 = .ok (.ldc2_w 234, 3) := dk_20 0 234 (dk_at dksX2_lineOf_0 1 rfl rfl)
theorem dX2_lineOf_4 : decode cX2_lineOf 4 = .ok (.invokevirtual 282, 3) := dk_182 1 26 (dk_at dksX2_lineOf_0 4 rfl rfl)
theorem dX2_lineOf_7 : decode cX2_lineOf 7 = .ok (.ifCond .eq 7, 3) := dk_153 0 7 (dk_at dksX2_lineOf_0 7 rfl rfl)
theorem dX2_lineOf_10 : decode cX2_lineOf 10 = .ok (.iconst 0, 1) := dk_3 (dk_at dksX2_lineOf_0 10 rfl rfl)
theorem dX2_lineOf_11 : decode cX2_lineOf 11 = .ok (.goto 91, 3) := dk_167 0 91 (dk_at dksX2_lineOf_0 11 rfl rfl)
theorem dX2_lineOf_14 : decode cX2_lineOf 14 = .ok (.aload_n 0, 1) := dk_42 (dk_at dksX2_lineOf_0 14 rfl rfl)
theorem dX2_lineOf_15 : decode cX2_lineOf 15 = .ok (.ldc2_w 242, 3) := dk_20 0 242 (dk_at dksX2_lineOf_0 15 rfl rfl)
theorem dX2_lineOf_18 : decode cX2_lineOf 18 = .ok (.invokevirtual 282, 3) := dk_182 1 26 (dk_at dksX2_lineOf_0 18 rfl rfl)
theorem dX2_lineOf_21 : decode cX2_lineOf 21 = .ok (.ifCond .eq 7, 3) := dk_153 0 7 (dk_at dksX2_lineOf_0 21 rfl rfl)
theorem dX2_lineOf_24 : decode cX2_lineOf 24 = .ok (.iconst 3, 1) := dk_6 (dk_at dksX2_lineOf_1 0 rfl rfl)
theorem dX2_lineOf_25 : decode cX2_lineOf 25 = .ok (.goto 77, 3) := dk_167 0 77 (dk_at dksX2_lineOf_1 1 rfl rfl)
theorem dX2_lineOf_28 : decode cX2_lineOf 28 = .ok (.aload_n 0, 1) := dk_42 (dk_at dksX2_lineOf_1 4 rfl rfl)
theorem dX2_lineOf_29 : decode cX2_lineOf 29 = .ok (.ldc2_w 244, 3) := dk_20 0 244 (dk_at dksX2_lineOf_1 5 rfl rfl)
theorem dX2_lineOf_32 : decode cX2_lineOf 32 = .ok (.invokevirtual 282, 3) := dk_182 1 26 (dk_at dksX2_lineOf_1 8 rfl rfl)
theorem dX2_lineOf_35 : decode cX2_lineOf 35 = .ok (.ifCond .eq 7, 3) := dk_153 0 7 (dk_at dksX2_lineOf_1 11 rfl rfl)
theorem dX2_lineOf_38 : decode cX2_lineOf 38 = .ok (.iconst 4, 1) := dk_7 (dk_at dksX2_lineOf_1 14 rfl rfl)
theorem dX2_lineOf_39 : decode cX2_lineOf 39 = .ok (.goto 63, 3) := dk_167 0 63 (dk_at dksX2_lineOf_1 15 rfl rfl)
theorem dX2_lineOf_42 : decode cX2_lineOf 42 = .ok (.aload_n 0, 1) := dk_42 (dk_at dksX2_lineOf_1 18 rfl rfl)
theorem dX2_lineOf_43 : decode cX2_lineOf 43 = .ok (.ldc2_w 246, 3) := dk_20 0 246 (dk_at dksX2_lineOf_1 19 rfl rfl)
theorem dX2_lineOf_46 : decode cX2_lineOf 46 = .ok (.invokevirtual 282, 3) := dk_182 1 26 (dk_at dksX2_lineOf_2 0 rfl rfl)
theorem dX2_lineOf_49 : decode cX2_lineOf 49 = .ok (.ifCond .eq 7, 3) := dk_153 0 7 (dk_at dksX2_lineOf_2 3 rfl rfl)
theorem dX2_lineOf_52 : decode cX2_lineOf 52 = .ok (.iconst 5, 1) := dk_8 (dk_at dksX2_lineOf_2 6 rfl rfl)
theorem dX2_lineOf_53 : decode cX2_lineOf 53 = .ok (.goto 49, 3) := dk_167 0 49 (dk_at dksX2_lineOf_2 7 rfl rfl)
theorem dX2_lineOf_56 : decode cX2_lineOf 56 = .ok (.aload_n 0, 1) := dk_42 (dk_at dksX2_lineOf_2 10 rfl rfl)
theorem dX2_lineOf_57 : decode cX2_lineOf 57 = .ok (.ldc2_w 248, 3) := dk_20 0 248 (dk_at dksX2_lineOf_2 11 rfl rfl)
theorem dX2_lineOf_60 : decode cX2_lineOf 60 = .ok (.invokevirtual 282, 3) := dk_182 1 26 (dk_at dksX2_lineOf_2 14 rfl rfl)
theorem dX2_lineOf_63 : decode cX2_lineOf 63 = .ok (.ifCond .eq 8, 3) := dk_153 0 8 (dk_at dksX2_lineOf_2 17 rfl rfl)
theorem dX2_lineOf_66 : decode cX2_lineOf 66 = .ok (.bipush 6, 2) := dk_16 6 (dk_at dksX2_lineOf_2 20 rfl rfl)
theorem dX2_lineOf_68 : decode cX2_lineOf 68 = .ok (.goto 34, 3) := dk_167 0 34 (dk_at dksX2_lineOf_3 0 rfl rfl)
theorem dX2_lineOf_71 : decode cX2_lineOf 71 = .ok (.aload_n 0, 1) := dk_42 (dk_at dksX2_lineOf_3 3 rfl rfl)
theorem dX2_lineOf_72 : decode cX2_lineOf 72 = .ok (.ldc2_w 252, 3) := dk_20 0 252 (dk_at dksX2_lineOf_3 4 rfl rfl)
theorem dX2_lineOf_75 : decode cX2_lineOf 75 = .ok (.invokevirtual 282, 3) := dk_182 1 26 (dk_at dksX2_lineOf_3 7 rfl rfl)
theorem dX2_lineOf_78 : decode cX2_lineOf 78 = .ok (.ifCond .eq 8, 3) := dk_153 0 8 (dk_at dksX2_lineOf_3 10 rfl rfl)
theorem dX2_lineOf_81 : decode cX2_lineOf 81 = .ok (.bipush 8, 2) := dk_16 8 (dk_at dksX2_lineOf_3 13 rfl rfl)
theorem dX2_lineOf_83 : decode cX2_lineOf 83 = .ok (.goto 19, 3) := dk_167 0 19 (dk_at dksX2_lineOf_3 15 rfl rfl)
theorem dX2_lineOf_86 : decode cX2_lineOf 86 = .ok (.aload_n 0, 1) := dk_42 (dk_at dksX2_lineOf_3 18 rfl rfl)
theorem dX2_lineOf_87 : decode cX2_lineOf 87 = .ok (.ldc2_w 254, 3) := dk_20 0 254 (dk_at dksX2_lineOf_3 19 rfl rfl)
theorem dX2_lineOf_90 : decode cX2_lineOf 90 = .ok (.invokevirtual 282, 3) := dk_182 1 26 (dk_at dksX2_lineOf_4 0 rfl rfl)
theorem dX2_lineOf_93 : decode cX2_lineOf 93 = .ok (.ifCond .eq 8, 3) := dk_153 0 8 (dk_at dksX2_lineOf_4 3 rfl rfl)
theorem dX2_lineOf_96 : decode cX2_lineOf 96 = .ok (.bipush 10, 2) := dk_16 10 (dk_at dksX2_lineOf_4 6 rfl rfl)
theorem dX2_lineOf_98 : decode cX2_lineOf 98 = .ok (.goto 4, 3) := dk_167 0 4 (dk_at dksX2_lineOf_4 8 rfl rfl)
theorem dX2_lineOf_101 : decode cX2_lineOf 101 = .ok (.iconst (-1), 1) := dk_2 (dk_at dksX2_lineOf_4 11 rfl rfl)
theorem dX2_lineOf_102 : decode cX2_lineOf 102 = .ok (.istore_n 1, 1) := dk_60 (dk_at dksX2_lineOf_4 12 rfl rfl)
theorem dX2_lineOf_103 : decode cX2_lineOf 103 = .ok (.iload_n 1, 1) := dk_27 (dk_at dksX2_lineOf_4 13 rfl rfl)
theorem dX2_lineOf_104 : decode cX2_lineOf 104 = .ok (.ifCond .lt 12, 3) := dk_155 0 12 (dk_at dksX2_lineOf_4 14 rfl rfl)
theorem dX2_lineOf_107 : decode cX2_lineOf 107 = .ok (.aload_n 0, 1) := dk_42 (dk_at dksX2_lineOf_4 17 rfl rfl)
theorem dX2_lineOf_108 : decode cX2_lineOf 108 = .ok (.getfield 41, 3) := dk_180 0 41 (dk_at dksX2_lineOf_4 18 rfl rfl)
theorem dX2_lineOf_111 : decode cX2_lineOf 111 = .ok (.iload_n 1, 1) := dk_27 (dk_at dksX2_lineOf_4 21 rfl rfl)
theorem dX2_lineOf_112 : decode cX2_lineOf 112 = .ok (.baload, 1) := dk_51 (dk_at dksX2_lineOf_4 22 rfl rfl)
theorem dX2_lineOf_113 : decode cX2_lineOf 113 = .ok (.ifCond .eq 7, 3) := dk_153 0 7 (dk_at dksX2_lineOf_5 0 rfl rfl)
theorem dX2_lineOf_116 : decode cX2_lineOf 116 = .ok (.iconst (-1), 1) := dk_2 (dk_at dksX2_lineOf_5 3 rfl rfl)
theorem dX2_lineOf_117 : decode cX2_lineOf 117 = .ok (.goto 4, 3) := dk_167 0 4 (dk_at dksX2_lineOf_5 4 rfl rfl)
theorem dX2_lineOf_120 : decode cX2_lineOf 120 = .ok (.iload_n 1, 1) := dk_27 (dk_at dksX2_lineOf_5 7 rfl rfl)
theorem dX2_lineOf_121 : decode cX2_lineOf 121 = .ok (.ireturn, 1) := dk_172 (dk_at dksX2_lineOf_5 8 rfl rfl)
abbrev cX2_isWord : ByteArray := prog_28_method_12_code
def yX2_isWord : MethodName := ⟨RX2, "isWord", "(J)Z"⟩
def dkwX2_isWord_0 : List UInt8 := [42, 180, 0, 212, 4, 160, 0, 16, 42, 180, 0, 205, 31, 148, 154, 0, 7, 4, 167, 0, 4, 3, 172]
abbrev dktX2_isWord_0 : List UInt8 := dkwX2_isWord_0 ++ []
theorem dksX2_isWord_0 : cX2_isWord.data.toList.drop 0 = dktX2_isWord_0 := by decide +kernel
theorem dX2_isWord_0 : decode cX2_isWord 0 = .ok (.aload_n 0, 1) := dk_42 (dk_at dksX2_isWord_0 0 rfl rfl)
theorem dX2_isWord_1 : decode cX2_isWord 1 = .ok (.getfield 212, 3) := dk_180 0 212 (dk_at dksX2_isWord_0 1 rfl rfl)
theorem dX2_isWord_4 : decode cX2_isWord 4 = .ok (.iconst 1, 1) := dk_4 (dk_at dksX2_isWord_0 4 rfl rfl)
theorem dX2_isWord_5 : decode cX2_isWord 5 = .ok (.if_icmp .ne 16, 3) := dk_160 0 16 (dk_at dksX2_isWord_0 5 rfl rfl)
theorem dX2_isWord_8 : decode cX2_isWord 8 = .ok (.aload_n 0, 1) := dk_42 (dk_at dksX2_isWord_0 8 rfl rfl)
theorem dX2_isWord_9 : decode cX2_isWord 9 = .ok (.getfield 205, 3) := dk_180 0 205 (dk_at dksX2_isWord_0 9 rfl rfl)
theorem dX2_isWord_12 : decode cX2_isWord 12 = .ok (.lload_n 1, 1) := dk_31 (dk_at dksX2_isWord_0 12 rfl rfl)
theorem dX2_isWord_13 : decode cX2_isWord 13 = .ok (.lcmp, 1) := dk_148 (dk_at dksX2_isWord_0 13 rfl rfl)
theorem dX2_isWord_14 : decode cX2_isWord 14 = .ok (.ifCond .ne 7, 3) := dk_154 0 7 (dk_at dksX2_isWord_0 14 rfl rfl)
theorem dX2_isWord_17 : decode cX2_isWord 17 = .ok (.iconst 1, 1) := dk_4 (dk_at dksX2_isWord_0 17 rfl rfl)
theorem dX2_isWord_18 : decode cX2_isWord 18 = .ok (.goto 4, 3) := dk_167 0 4 (dk_at dksX2_isWord_0 18 rfl rfl)
theorem dX2_isWord_21 : decode cX2_isWord 21 = .ok (.iconst 0, 1) := dk_3 (dk_at dksX2_isWord_0 21 rfl rfl)
theorem dX2_isWord_22 : decode cX2_isWord 22 = .ok (.ireturn, 1) := dk_172 (dk_at dksX2_isWord_0 22 rfl rfl)
abbrev cX2_readStar : ByteArray := prog_28_method_19_code
def yX2_readStar : MethodName := ⟨RX2, "readStar", "()V"⟩
def dkwX2_readStar_12 : List UInt8 := [96, 181, 1, 39, 177]
abbrev dktX2_readStar_12 : List UInt8 := dkwX2_readStar_12 ++ []
def dkwX2_readStar_11 : List UInt8 := [42, 180, 1, 39, 21, 6, 79, 42, 180, 0, 29, 42, 180, 1, 39, 21, 7, 79, 42, 89, 180, 1, 39, 4]
abbrev dktX2_readStar_11 : List UInt8 := dkwX2_readStar_11 ++ dktX2_readStar_12
def dkwX2_readStar_10 : List UInt8 := [180, 0, 45, 42, 180, 1, 39, 32, 80, 42, 180, 0, 23, 42, 180, 1, 39, 21, 5, 79, 42, 180, 0, 26]
abbrev dktX2_readStar_10 : List UInt8 := dkwX2_readStar_10 ++ dktX2_readStar_11
def dkwX2_readStar_9 : List UInt8 := [20, 0, 232, 182, 1, 46, 42, 4, 16, 99, 182, 1, 50, 54, 7, 42, 180, 0, 225, 158, 0, 4, 177, 42]
abbrev dktX2_readStar_9 : List UInt8 := dkwX2_readStar_9 ++ dktX2_readStar_10
def dkwX2_readStar_8 : List UInt8 := [167, 0, 15, 42, 16, 6, 181, 0, 225, 42, 21, 4, 181, 0, 13, 132, 7, 1, 167, 255, 173, 42]
abbrev dktX2_readStar_8 : List UInt8 := dkwX2_readStar_8 ++ dktX2_readStar_9
def dkwX2_readStar_7 : List UInt8 := [21, 7, 46, 100, 21, 6, 42, 180, 0, 26, 21, 7, 46, 100, 104, 96, 17, 1, 144, 161, 0, 6]
abbrev dktX2_readStar_7 : List UInt8 := dkwX2_readStar_7 ++ dktX2_readStar_8
def dkwX2_readStar_6 : List UInt8 := [180, 0, 23, 21, 7, 46, 100, 21, 5, 42, 180, 0, 23, 21, 7, 46, 100, 104, 21, 6, 42, 180, 0, 26]
abbrev dktX2_readStar_6 : List UInt8 := dkwX2_readStar_6 ++ dktX2_readStar_7
def dkwX2_readStar_5 : List UInt8 := [54, 6, 3, 54, 7, 21, 7, 42, 180, 1, 39, 162, 0, 80, 42, 180, 0, 225, 154, 0, 73, 21, 5, 42]
abbrev dktX2_readStar_5 : List UInt8 := dkwX2_readStar_5 ++ dktX2_readStar_6
def dkwX2_readStar_4 : List UInt8 := [180, 0, 202, 54, 4, 42, 3, 17, 3, 231, 182, 1, 50, 54, 5, 42, 3, 17, 3, 231, 182, 1, 50]
abbrev dktX2_readStar_4 : List UInt8 := dkwX2_readStar_4 ++ dktX2_readStar_5
def dkwX2_readStar_3 : List UInt8 := [180, 0, 225, 158, 0, 4, 177, 42, 180, 0, 205, 65, 42, 182, 1, 33, 42, 20, 0, 230, 182, 1, 46, 42]
abbrev dktX2_readStar_3 : List UInt8 := dkwX2_readStar_3 ++ dktX2_readStar_4
def dkwX2_readStar_2 : List UInt8 := [182, 1, 42, 154, 0, 11, 42, 5, 182, 1, 30, 167, 0, 12, 27, 153, 0, 8, 42, 6, 182, 1, 30, 42]
abbrev dktX2_readStar_2 : List UInt8 := dkwX2_readStar_2 ++ dktX2_readStar_3
def dkwX2_readStar_1 : List UInt8 := [28, 47, 42, 180, 0, 205, 148, 154, 0, 7, 4, 167, 0, 4, 3, 60, 132, 2, 1, 167, 255, 221, 42]
abbrev dktX2_readStar_1 : List UInt8 := dkwX2_readStar_1 ++ dktX2_readStar_2
def dkwX2_readStar_0 : List UInt8 := [42, 182, 1, 33, 3, 60, 3, 61, 28, 42, 180, 1, 39, 162, 0, 33, 27, 154, 0, 17, 42, 180, 0, 45]
abbrev dktX2_readStar_0 : List UInt8 := dkwX2_readStar_0 ++ dktX2_readStar_1
theorem dksX2_readStar_0 : cX2_readStar.data.toList.drop 0 = dktX2_readStar_0 := by decide +kernel
theorem dksX2_readStar_1 : cX2_readStar.data.toList.drop 24 = dktX2_readStar_1 := dk_seg dksX2_readStar_0 24 rfl rfl
theorem dksX2_readStar_2 : cX2_readStar.data.toList.drop 47 = dktX2_readStar_2 := dk_seg dksX2_readStar_1 23 rfl rfl
theorem dksX2_readStar_3 : cX2_readStar.data.toList.drop 71 = dktX2_readStar_3 := dk_seg dksX2_readStar_2 24 rfl rfl
theorem dksX2_readStar_4 : cX2_readStar.data.toList.drop 95 = dktX2_readStar_4 := dk_seg dksX2_readStar_3 24 rfl rfl
theorem dksX2_readStar_5 : cX2_readStar.data.toList.drop 118 = dktX2_readStar_5 := dk_seg dksX2_readStar_4 23 rfl rfl
theorem dksX2_readStar_6 : cX2_readStar.data.toList.drop 142 = dktX2_readStar_6 := dk_seg dksX2_readStar_5 24 rfl rfl
theorem dksX2_readStar_7 : cX2_readStar.data.toList.drop 166 = dktX2_readStar_7 := dk_seg dksX2_readStar_6 24 rfl rfl
theorem dksX2_readStar_8 : cX2_readStar.data.toList.drop 188 = dktX2_readStar_8 := dk_seg dksX2_readStar_7 22 rfl rfl
theorem dksX2_readStar_9 : cX2_readStar.data.toList.drop 210 = dktX2_readStar_9 := dk_seg dksX2_readStar_8 22 rfl rfl
theorem dksX2_readStar_10 : cX2_readStar.data.toList.drop 234 = dktX2_readStar_10 := dk_seg dksX2_readStar_9 24 rfl rfl
theorem dksX2_readStar_11 : cX2_readStar.data.toList.drop 258 = dktX2_readStar_11 := dk_seg dksX2_readStar_10 24 rfl rfl
theorem dksX2_readStar_12 : cX2_readStar.data.toList.drop 282 = dktX2_readStar_12 := dk_seg dksX2_readStar_11 24 rfl rfl
theorem dX2_readStar_0 : decode cX2_readStar 0 = .ok (.aload_n 0, 1) := dk_42 (dk_at dksX2_readStar_0 0 rfl rfl)
theorem dX2_readStar_1 : decode cX2_readStar 1 = .ok (.invokevirtual 289, 3) := dk_182 1 33 (dk_at dksX2_readStar_0 1 rfl rfl)
theorem dX2_readStar_4 : decode cX2_readStar 4 = .ok (.iconst 0, 1) := dk_3 (dk_at dksX2_readStar_0 4 rfl rfl)
theorem dX2_readStar_5 : decode cX2_readStar 5 = .ok (.istore_n 1, 1) := dk_60 (dk_at dksX2_readStar_0 5 rfl rfl)
theorem dX2_readStar_6 : decode cX2_readStar 6 = .ok (.iconst 0, 1) := dk_3 (dk_at dksX2_readStar_0 6 rfl rfl)
theorem dX2_readStar_7 : decode cX2_readStar 7 = .ok (.istore_n 2, 1) := dk_61 (dk_at dksX2_readStar_0 7 rfl rfl)
theorem dX2_readStar_8 : decode cX2_readStar 8 = .ok (.iload_n 2, 1) := dk_28 (dk_at dksX2_readStar_0 8 rfl rfl)
theorem dX2_readStar_9 : decode cX2_readStar 9 = .ok (.aload_n 0, 1) := dk_42 (dk_at dksX2_readStar_0 9 rfl rfl)
theorem dX2_readStar_10 : decode cX2_readStar 10 = .ok (.getfield 295, 3) := dk_180 1 39 (dk_at dksX2_readStar_0 10 rfl rfl)
theorem dX2_readStar_13 : decode cX2_readStar 13 = .ok (.if_icmp .ge 33, 3) := dk_162 0 33 (dk_at dksX2_readStar_0 13 rfl rfl)
theorem dX2_readStar_16 : decode cX2_readStar 16 = .ok (.iload_n 1, 1) := dk_27 (dk_at dksX2_readStar_0 16 rfl rfl)
theorem dX2_readStar_17 : decode cX2_readStar 17 = .ok (.ifCond .ne 17, 3) := dk_154 0 17 (dk_at dksX2_readStar_0 17 rfl rfl)
theorem dX2_readStar_20 : decode cX2_readStar 20 = .ok (.aload_n 0, 1) := dk_42 (dk_at dksX2_readStar_0 20 rfl rfl)
theorem dX2_readStar_21 : decode cX2_readStar 21 = .ok (.getfield 45, 3) := dk_180 0 45 (dk_at dksX2_readStar_0 21 rfl rfl)
theorem dX2_readStar_24 : decode cX2_readStar 24 = .ok (.iload_n 2, 1) := dk_28 (dk_at dksX2_readStar_1 0 rfl rfl)
theorem dX2_readStar_25 : decode cX2_readStar 25 = .ok (.laload, 1) := dk_47 (dk_at dksX2_readStar_1 1 rfl rfl)
theorem dX2_readStar_26 : decode cX2_readStar 26 = .ok (.aload_n 0, 1) := dk_42 (dk_at dksX2_readStar_1 2 rfl rfl)
theorem dX2_readStar_27 : decode cX2_readStar 27 = .ok (.getfield 205, 3) := dk_180 0 205 (dk_at dksX2_readStar_1 3 rfl rfl)
theorem dX2_readStar_30 : decode cX2_readStar 30 = .ok (.lcmp, 1) := dk_148 (dk_at dksX2_readStar_1 6 rfl rfl)
theorem dX2_readStar_31 : decode cX2_readStar 31 = .ok (.ifCond .ne 7, 3) := dk_154 0 7 (dk_at dksX2_readStar_1 7 rfl rfl)
theorem dX2_readStar_34 : decode cX2_readStar 34 = .ok (.iconst 1, 1) := dk_4 (dk_at dksX2_readStar_1 10 rfl rfl)
theorem dX2_readStar_35 : decode cX2_readStar 35 = .ok (.goto 4, 3) := dk_167 0 4 (dk_at dksX2_readStar_1 11 rfl rfl)
theorem dX2_readStar_38 : decode cX2_readStar 38 = .ok (.iconst 0, 1) := dk_3 (dk_at dksX2_readStar_1 14 rfl rfl)
theorem dX2_readStar_39 : decode cX2_readStar 39 = .ok (.istore_n 1, 1) := dk_60 (dk_at dksX2_readStar_1 15 rfl rfl)
theorem dX2_readStar_40 : decode cX2_readStar 40 = .ok (.iinc 2 1, 3) := dk_132 2 1 (dk_at dksX2_readStar_1 16 rfl rfl)
theorem dX2_readStar_43 : decode cX2_readStar 43 = .ok (.goto (-35), 3) := dk_167 255 221 (dk_at dksX2_readStar_1 19 rfl rfl)
theorem dX2_readStar_46 : decode cX2_readStar 46 = .ok (.aload_n 0, 1) := dk_42 (dk_at dksX2_readStar_1 22 rfl rfl)
theorem dX2_readStar_47 : decode cX2_readStar 47 = .ok (.invokevirtual 298, 3) := dk_182 1 42 (dk_at dksX2_readStar_2 0 rfl rfl)
theorem dX2_readStar_50 : decode cX2_readStar 50 = .ok (.ifCond .ne 11, 3) := dk_154 0 11 (dk_at dksX2_readStar_2 3 rfl rfl)
theorem dX2_readStar_53 : decode cX2_readStar 53 = .ok (.aload_n 0, 1) := dk_42 (dk_at dksX2_readStar_2 6 rfl rfl)
theorem dX2_readStar_54 : decode cX2_readStar 54 = .ok (.iconst 2, 1) := dk_5 (dk_at dksX2_readStar_2 7 rfl rfl)
theorem dX2_readStar_55 : decode cX2_readStar 55 = .ok (.invokevirtual 286, 3) := dk_182 1 30 (dk_at dksX2_readStar_2 8 rfl rfl)
theorem dX2_readStar_58 : decode cX2_readStar 58 = .ok (.goto 12, 3) := dk_167 0 12 (dk_at dksX2_readStar_2 11 rfl rfl)
theorem dX2_readStar_61 : decode cX2_readStar 61 = .ok (.iload_n 1, 1) := dk_27 (dk_at dksX2_readStar_2 14 rfl rfl)
theorem dX2_readStar_62 : decode cX2_readStar 62 = .ok (.ifCond .eq 8, 3) := dk_153 0 8 (dk_at dksX2_readStar_2 15 rfl rfl)
theorem dX2_readStar_65 : decode cX2_readStar 65 = .ok (.aload_n 0, 1) := dk_42 (dk_at dksX2_readStar_2 18 rfl rfl)
theorem dX2_readStar_66 : decode cX2_readStar 66 = .ok (.iconst 3, 1) := dk_6 (dk_at dksX2_readStar_2 19 rfl rfl)
theorem dX2_readStar_67 : decode cX2_readStar 67 = .ok (.invokevirtual 286, 3) := dk_182 1 30 (dk_at dksX2_readStar_2 20 rfl rfl)
theorem dX2_readStar_70 : decode cX2_readStar 70 = .ok (.aload_n 0, 1) := dk_42 (dk_at dksX2_readStar_2 23 rfl rfl)
theorem dX2_readStar_71 : decode cX2_readStar 71 = .ok (.getfield 225, 3) := dk_180 0 225 (dk_at dksX2_readStar_3 0 rfl rfl)
theorem dX2_readStar_74 : decode cX2_readStar 74 = .ok (.ifCond .le 4, 3) := dk_158 0 4 (dk_at dksX2_readStar_3 3 rfl rfl)
theorem dX2_readStar_77 : decode cX2_readStar 77 = .ok (.return_, 1) := dk_177 (dk_at dksX2_readStar_3 6 rfl rfl)
theorem dX2_readStar_78 : decode cX2_readStar 78 = .ok (.aload_n 0, 1) := dk_42 (dk_at dksX2_readStar_3 7 rfl rfl)
theorem dX2_readStar_79 : decode cX2_readStar 79 = .ok (.getfield 205, 3) := dk_180 0 205 (dk_at dksX2_readStar_3 8 rfl rfl)
theorem dX2_readStar_82 : decode cX2_readStar 82 = .ok (.lstore_n 2, 1) := dk_65 (dk_at dksX2_readStar_3 11 rfl rfl)
theorem dX2_readStar_83 : decode cX2_readStar 83 = .ok (.aload_n 0, 1) := dk_42 (dk_at dksX2_readStar_3 12 rfl rfl)
theorem dX2_readStar_84 : decode cX2_readStar 84 = .ok (.invokevirtual 289, 3) := dk_182 1 33 (dk_at dksX2_readStar_3 13 rfl rfl)
theorem dX2_readStar_87 : decode cX2_readStar 87 = .ok (.aload_n 0, 1) := dk_42 (dk_at dksX2_readStar_3 16 rfl rfl)
theorem dX2_readStar_88 : decode cX2_readStar 88 = .ok (.ldc2_w 230, 3) := dk_20 0 230 (dk_at dksX2_readStar_3 17 rfl rfl)
theorem dX2_readStar_91 : decode cX2_readStar 91 = .ok (.invokevirtual 302, 3) := dk_182 1 46 (dk_at dksX2_readStar_3 20 rfl rfl)
theorem dX2_readStar_94 : decode cX2_readStar 94 = .ok (.aload_n 0, 1) := dk_42 (dk_at dksX2_readStar_3 23 rfl rfl)
theorem dX2_readStar_95 : decode cX2_readStar 95 = .ok (.getfield 202, 3) := dk_180 0 202 (dk_at dksX2_readStar_4 0 rfl rfl)
theorem dX2_readStar_98 : decode cX2_readStar 98 = .ok (.istore 4, 2) := dk_54 4 (dk_at dksX2_readStar_4 3 rfl rfl)
theorem dX2_readStar_100 : decode cX2_readStar 100 = .ok (.aload_n 0, 1) := dk_42 (dk_at dksX2_readStar_4 5 rfl rfl)
theorem dX2_readStar_101 : decode cX2_readStar 101 = .ok (.iconst 0, 1) := dk_3 (dk_at dksX2_readStar_4 6 rfl rfl)
theorem dX2_readStar_102 : decode cX2_readStar 102 = .ok (.sipush 999, 3) := dk_17 3 231 (dk_at dksX2_readStar_4 7 rfl rfl)
theorem dX2_readStar_105 : decode cX2_readStar 105 = .ok (.invokevirtual 306, 3) := dk_182 1 50 (dk_at dksX2_readStar_4 10 rfl rfl)
theorem dX2_readStar_108 : decode cX2_readStar 108 = .ok (.istore 5, 2) := dk_54 5 (dk_at dksX2_readStar_4 13 rfl rfl)
theorem dX2_readStar_110 : decode cX2_readStar 110 = .ok (.aload_n 0, 1) := dk_42 (dk_at dksX2_readStar_4 15 rfl rfl)
theorem dX2_readStar_111 : decode cX2_readStar 111 = .ok (.iconst 0, 1) := dk_3 (dk_at dksX2_readStar_4 16 rfl rfl)
theorem dX2_readStar_112 : decode cX2_readStar 112 = .ok (.sipush 999, 3) := dk_17 3 231 (dk_at dksX2_readStar_4 17 rfl rfl)
theorem dX2_readStar_115 : decode cX2_readStar 115 = .ok (.invokevirtual 306, 3) := dk_182 1 50 (dk_at dksX2_readStar_4 20 rfl rfl)
theorem dX2_readStar_118 : decode cX2_readStar 118 = .ok (.istore 6, 2) := dk_54 6 (dk_at dksX2_readStar_5 0 rfl rfl)
theorem dX2_readStar_120 : decode cX2_readStar 120 = .ok (.iconst 0, 1) := dk_3 (dk_at dksX2_readStar_5 2 rfl rfl)
theorem dX2_readStar_121 : decode cX2_readStar 121 = .ok (.istore 7, 2) := dk_54 7 (dk_at dksX2_readStar_5 3 rfl rfl)
theorem dX2_readStar_123 : decode cX2_readStar 123 = .ok (.iload 7, 2) := dk_21 7 (dk_at dksX2_readStar_5 5 rfl rfl)
theorem dX2_readStar_125 : decode cX2_readStar 125 = .ok (.aload_n 0, 1) := dk_42 (dk_at dksX2_readStar_5 7 rfl rfl)
theorem dX2_readStar_126 : decode cX2_readStar 126 = .ok (.getfield 295, 3) := dk_180 1 39 (dk_at dksX2_readStar_5 8 rfl rfl)
theorem dX2_readStar_129 : decode cX2_readStar 129 = .ok (.if_icmp .ge 80, 3) := dk_162 0 80 (dk_at dksX2_readStar_5 11 rfl rfl)
theorem dX2_readStar_132 : decode cX2_readStar 132 = .ok (.aload_n 0, 1) := dk_42 (dk_at dksX2_readStar_5 14 rfl rfl)
theorem dX2_readStar_133 : decode cX2_readStar 133 = .ok (.getfield 225, 3) := dk_180 0 225 (dk_at dksX2_readStar_5 15 rfl rfl)
theorem dX2_readStar_136 : decode cX2_readStar 136 = .ok (.ifCond .ne 73, 3) := dk_154 0 73 (dk_at dksX2_readStar_5 18 rfl rfl)
theorem dX2_readStar_139 : decode cX2_readStar 139 = .ok (.iload 5, 2) := dk_21 5 (dk_at dksX2_readStar_5 21 rfl rfl)
theorem dX2_readStar_141 : decode cX2_readStar 141 = .ok (.aload_n 0, 1) := dk_42 (dk_at dksX2_readStar_5 23 rfl rfl)
theorem dX2_readStar_142 : decode cX2_readStar 142 = .ok (.getfield 23, 3) := dk_180 0 23 (dk_at dksX2_readStar_6 0 rfl rfl)
theorem dX2_readStar_145 : decode cX2_readStar 145 = .ok (.iload 7, 2) := dk_21 7 (dk_at dksX2_readStar_6 3 rfl rfl)
theorem dX2_readStar_147 : decode cX2_readStar 147 = .ok (.iaload, 1) := dk_46 (dk_at dksX2_readStar_6 5 rfl rfl)
theorem dX2_readStar_148 : decode cX2_readStar 148 = .ok (.isub, 1) := dk_100 (dk_at dksX2_readStar_6 6 rfl rfl)
theorem dX2_readStar_149 : decode cX2_readStar 149 = .ok (.iload 5, 2) := dk_21 5 (dk_at dksX2_readStar_6 7 rfl rfl)
theorem dX2_readStar_151 : decode cX2_readStar 151 = .ok (.aload_n 0, 1) := dk_42 (dk_at dksX2_readStar_6 9 rfl rfl)
theorem dX2_readStar_152 : decode cX2_readStar 152 = .ok (.getfield 23, 3) := dk_180 0 23 (dk_at dksX2_readStar_6 10 rfl rfl)
theorem dX2_readStar_155 : decode cX2_readStar 155 = .ok (.iload 7, 2) := dk_21 7 (dk_at dksX2_readStar_6 13 rfl rfl)
theorem dX2_readStar_157 : decode cX2_readStar 157 = .ok (.iaload, 1) := dk_46 (dk_at dksX2_readStar_6 15 rfl rfl)
theorem dX2_readStar_158 : decode cX2_readStar 158 = .ok (.isub, 1) := dk_100 (dk_at dksX2_readStar_6 16 rfl rfl)
theorem dX2_readStar_159 : decode cX2_readStar 159 = .ok (.imul, 1) := dk_104 (dk_at dksX2_readStar_6 17 rfl rfl)
theorem dX2_readStar_160 : decode cX2_readStar 160 = .ok (.iload 6, 2) := dk_21 6 (dk_at dksX2_readStar_6 18 rfl rfl)
theorem dX2_readStar_162 : decode cX2_readStar 162 = .ok (.aload_n 0, 1) := dk_42 (dk_at dksX2_readStar_6 20 rfl rfl)
theorem dX2_readStar_163 : decode cX2_readStar 163 = .ok (.getfield 26, 3) := dk_180 0 26 (dk_at dksX2_readStar_6 21 rfl rfl)
theorem dX2_readStar_166 : decode cX2_readStar 166 = .ok (.iload 7, 2) := dk_21 7 (dk_at dksX2_readStar_7 0 rfl rfl)
theorem dX2_readStar_168 : decode cX2_readStar 168 = .ok (.iaload, 1) := dk_46 (dk_at dksX2_readStar_7 2 rfl rfl)
theorem dX2_readStar_169 : decode cX2_readStar 169 = .ok (.isub, 1) := dk_100 (dk_at dksX2_readStar_7 3 rfl rfl)
theorem dX2_readStar_170 : decode cX2_readStar 170 = .ok (.iload 6, 2) := dk_21 6 (dk_at dksX2_readStar_7 4 rfl rfl)
theorem dX2_readStar_172 : decode cX2_readStar 172 = .ok (.aload_n 0, 1) := dk_42 (dk_at dksX2_readStar_7 6 rfl rfl)
theorem dX2_readStar_173 : decode cX2_readStar 173 = .ok (.getfield 26, 3) := dk_180 0 26 (dk_at dksX2_readStar_7 7 rfl rfl)
theorem dX2_readStar_176 : decode cX2_readStar 176 = .ok (.iload 7, 2) := dk_21 7 (dk_at dksX2_readStar_7 10 rfl rfl)
theorem dX2_readStar_178 : decode cX2_readStar 178 = .ok (.iaload, 1) := dk_46 (dk_at dksX2_readStar_7 12 rfl rfl)
theorem dX2_readStar_179 : decode cX2_readStar 179 = .ok (.isub, 1) := dk_100 (dk_at dksX2_readStar_7 13 rfl rfl)
theorem dX2_readStar_180 : decode cX2_readStar 180 = .ok (.imul, 1) := dk_104 (dk_at dksX2_readStar_7 14 rfl rfl)
theorem dX2_readStar_181 : decode cX2_readStar 181 = .ok (.iadd, 1) := dk_96 (dk_at dksX2_readStar_7 15 rfl rfl)
theorem dX2_readStar_182 : decode cX2_readStar 182 = .ok (.sipush 400, 3) := dk_17 1 144 (dk_at dksX2_readStar_7 16 rfl rfl)
theorem dX2_readStar_185 : decode cX2_readStar 185 = .ok (.if_icmp .lt 6, 3) := dk_161 0 6 (dk_at dksX2_readStar_7 19 rfl rfl)
theorem dX2_readStar_188 : decode cX2_readStar 188 = .ok (.goto 15, 3) := dk_167 0 15 (dk_at dksX2_readStar_8 0 rfl rfl)
theorem dX2_readStar_191 : decode cX2_readStar 191 = .ok (.aload_n 0, 1) := dk_42 (dk_at dksX2_readStar_8 3 rfl rfl)
theorem dX2_readStar_192 : decode cX2_readStar 192 = .ok (.bipush 6, 2) := dk_16 6 (dk_at dksX2_readStar_8 4 rfl rfl)
theorem dX2_readStar_194 : decode cX2_readStar 194 = .ok (.putfield 225, 3) := dk_181 0 225 (dk_at dksX2_readStar_8 6 rfl rfl)
theorem dX2_readStar_197 : decode cX2_readStar 197 = .ok (.aload_n 0, 1) := dk_42 (dk_at dksX2_readStar_8 9 rfl rfl)
theorem dX2_readStar_198 : decode cX2_readStar 198 = .ok (.iload 4, 2) := dk_21 4 (dk_at dksX2_readStar_8 10 rfl rfl)
theorem dX2_readStar_200 : decode cX2_readStar 200 = .ok (.putfield 13, 3) := dk_181 0 13 (dk_at dksX2_readStar_8 12 rfl rfl)
theorem dX2_readStar_203 : decode cX2_readStar 203 = .ok (.iinc 7 1, 3) := dk_132 7 1 (dk_at dksX2_readStar_8 15 rfl rfl)
theorem dX2_readStar_206 : decode cX2_readStar 206 = .ok (.goto (-83), 3) := dk_167 255 173 (dk_at dksX2_readStar_8 18 rfl rfl)
theorem dX2_readStar_209 : decode cX2_readStar 209 = .ok (.aload_n 0, 1) := dk_42 (dk_at dksX2_readStar_8 21 rfl rfl)
theorem dX2_readStar_210 : decode cX2_readStar 210 = .ok (.ldc2_w 232, 3) := dk_20 0 232 (dk_at dksX2_readStar_9 0 rfl rfl)
theorem dX2_readStar_213 : decode cX2_readStar 213 = .ok (.invokevirtual 302, 3) := dk_182 1 46 (dk_at dksX2_readStar_9 3 rfl rfl)
theorem dX2_readStar_216 : decode cX2_readStar 216 = .ok (.aload_n 0, 1) := dk_42 (dk_at dksX2_readStar_9 6 rfl rfl)
theorem dX2_readStar_217 : decode cX2_readStar 217 = .ok (.iconst 1, 1) := dk_4 (dk_at dksX2_readStar_9 7 rfl rfl)
theorem dX2_readStar_218 : decode cX2_readStar 218 = .ok (.bipush 99, 2) := dk_16 99 (dk_at dksX2_readStar_9 8 rfl rfl)
theorem dX2_readStar_220 : decode cX2_readStar 220 = .ok (.invokevirtual 306, 3) := dk_182 1 50 (dk_at dksX2_readStar_9 10 rfl rfl)
theorem dX2_readStar_223 : decode cX2_readStar 223 = .ok (.istore 7, 2) := dk_54 7 (dk_at dksX2_readStar_9 13 rfl rfl)
theorem dX2_readStar_225 : decode cX2_readStar 225 = .ok (.aload_n 0, 1) := dk_42 (dk_at dksX2_readStar_9 15 rfl rfl)
theorem dX2_readStar_226 : decode cX2_readStar 226 = .ok (.getfield 225, 3) := dk_180 0 225 (dk_at dksX2_readStar_9 16 rfl rfl)
theorem dX2_readStar_229 : decode cX2_readStar 229 = .ok (.ifCond .le 4, 3) := dk_158 0 4 (dk_at dksX2_readStar_9 19 rfl rfl)
theorem dX2_readStar_232 : decode cX2_readStar 232 = .ok (.return_, 1) := dk_177 (dk_at dksX2_readStar_9 22 rfl rfl)
theorem dX2_readStar_233 : decode cX2_readStar 233 = .ok (.aload_n 0, 1) := dk_42 (dk_at dksX2_readStar_9 23 rfl rfl)
theorem dX2_readStar_234 : decode cX2_readStar 234 = .ok (.getfield 45, 3) := dk_180 0 45 (dk_at dksX2_readStar_10 0 rfl rfl)
theorem dX2_readStar_237 : decode cX2_readStar 237 = .ok (.aload_n 0, 1) := dk_42 (dk_at dksX2_readStar_10 3 rfl rfl)
theorem dX2_readStar_238 : decode cX2_readStar 238 = .ok (.getfield 295, 3) := dk_180 1 39 (dk_at dksX2_readStar_10 4 rfl rfl)
theorem dX2_readStar_241 : decode cX2_readStar 241 = .ok (.lload_n 2, 1) := dk_32 (dk_at dksX2_readStar_10 7 rfl rfl)
theorem dX2_readStar_242 : decode cX2_readStar 242 = .ok (.lastore, 1) := dk_80 (dk_at dksX2_readStar_10 8 rfl rfl)
theorem dX2_readStar_243 : decode cX2_readStar 243 = .ok (.aload_n 0, 1) := dk_42 (dk_at dksX2_readStar_10 9 rfl rfl)
theorem dX2_readStar_244 : decode cX2_readStar 244 = .ok (.getfield 23, 3) := dk_180 0 23 (dk_at dksX2_readStar_10 10 rfl rfl)
theorem dX2_readStar_247 : decode cX2_readStar 247 = .ok (.aload_n 0, 1) := dk_42 (dk_at dksX2_readStar_10 13 rfl rfl)
theorem dX2_readStar_248 : decode cX2_readStar 248 = .ok (.getfield 295, 3) := dk_180 1 39 (dk_at dksX2_readStar_10 14 rfl rfl)
theorem dX2_readStar_251 : decode cX2_readStar 251 = .ok (.iload 5, 2) := dk_21 5 (dk_at dksX2_readStar_10 17 rfl rfl)
theorem dX2_readStar_253 : decode cX2_readStar 253 = .ok (.iastore, 1) := dk_79 (dk_at dksX2_readStar_10 19 rfl rfl)
theorem dX2_readStar_254 : decode cX2_readStar 254 = .ok (.aload_n 0, 1) := dk_42 (dk_at dksX2_readStar_10 20 rfl rfl)
theorem dX2_readStar_255 : decode cX2_readStar 255 = .ok (.getfield 26, 3) := dk_180 0 26 (dk_at dksX2_readStar_10 21 rfl rfl)
theorem dX2_readStar_258 : decode cX2_readStar 258 = .ok (.aload_n 0, 1) := dk_42 (dk_at dksX2_readStar_11 0 rfl rfl)
theorem dX2_readStar_259 : decode cX2_readStar 259 = .ok (.getfield 295, 3) := dk_180 1 39 (dk_at dksX2_readStar_11 1 rfl rfl)
theorem dX2_readStar_262 : decode cX2_readStar 262 = .ok (.iload 6, 2) := dk_21 6 (dk_at dksX2_readStar_11 4 rfl rfl)
theorem dX2_readStar_264 : decode cX2_readStar 264 = .ok (.iastore, 1) := dk_79 (dk_at dksX2_readStar_11 6 rfl rfl)
theorem dX2_readStar_265 : decode cX2_readStar 265 = .ok (.aload_n 0, 1) := dk_42 (dk_at dksX2_readStar_11 7 rfl rfl)
theorem dX2_readStar_266 : decode cX2_readStar 266 = .ok (.getfield 29, 3) := dk_180 0 29 (dk_at dksX2_readStar_11 8 rfl rfl)
theorem dX2_readStar_269 : decode cX2_readStar 269 = .ok (.aload_n 0, 1) := dk_42 (dk_at dksX2_readStar_11 11 rfl rfl)
theorem dX2_readStar_270 : decode cX2_readStar 270 = .ok (.getfield 295, 3) := dk_180 1 39 (dk_at dksX2_readStar_11 12 rfl rfl)
theorem dX2_readStar_273 : decode cX2_readStar 273 = .ok (.iload 7, 2) := dk_21 7 (dk_at dksX2_readStar_11 15 rfl rfl)
theorem dX2_readStar_275 : decode cX2_readStar 275 = .ok (.iastore, 1) := dk_79 (dk_at dksX2_readStar_11 17 rfl rfl)
theorem dX2_readStar_276 : decode cX2_readStar 276 = .ok (.aload_n 0, 1) := dk_42 (dk_at dksX2_readStar_11 18 rfl rfl)
theorem dX2_readStar_277 : decode cX2_readStar 277 = .ok (.dup, 1) := dk_89 (dk_at dksX2_readStar_11 19 rfl rfl)
theorem dX2_readStar_278 : decode cX2_readStar 278 = .ok (.getfield 295, 3) := dk_180 1 39 (dk_at dksX2_readStar_11 20 rfl rfl)
theorem dX2_readStar_281 : decode cX2_readStar 281 = .ok (.iconst 1, 1) := dk_4 (dk_at dksX2_readStar_11 23 rfl rfl)
theorem dX2_readStar_282 : decode cX2_readStar 282 = .ok (.iadd, 1) := dk_96 (dk_at dksX2_readStar_12 0 rfl rfl)
theorem dX2_readStar_283 : decode cX2_readStar 283 = .ok (.putfield 295, 3) := dk_181 1 39 (dk_at dksX2_readStar_12 1 rfl rfl)
theorem dX2_readStar_286 : decode cX2_readStar 286 = .ok (.return_, 1) := dk_177 (dk_at dksX2_readStar_12 4 rfl rfl)
abbrev cX2_isName : ByteArray := prog_28_method_13_code
def yX2_isName : MethodName := ⟨RX2, "isName", "()Z"⟩
def dkwX2_isName_14 : List UInt8 := [20, 1, 24, 148, 153, 0, 7, 4, 167, 0, 4, 3, 172]
abbrev dktX2_isName_14 : List UInt8 := dkwX2_isName_14 ++ []
def dkwX2_isName_13 : List UInt8 := [20, 1, 20, 148, 153, 0, 29, 42, 180, 0, 205, 20, 1, 22, 148, 153, 0, 18, 42, 180, 0, 205]
abbrev dktX2_isName_13 : List UInt8 := dkwX2_isName_13 ++ dktX2_isName_14
def dkwX2_isName_12 : List UInt8 := [20, 1, 16, 148, 153, 0, 51, 42, 180, 0, 205, 20, 1, 18, 148, 153, 0, 40, 42, 180, 0, 205]
abbrev dktX2_isName_12 : List UInt8 := dkwX2_isName_12 ++ dktX2_isName_13
def dkwX2_isName_11 : List UInt8 := [20, 1, 12, 148, 153, 0, 73, 42, 180, 0, 205, 20, 1, 14, 148, 153, 0, 62, 42, 180, 0, 205]
abbrev dktX2_isName_11 : List UInt8 := dkwX2_isName_11 ++ dktX2_isName_12
def dkwX2_isName_10 : List UInt8 := [20, 1, 8, 148, 153, 0, 95, 42, 180, 0, 205, 20, 1, 10, 148, 153, 0, 84, 42, 180, 0, 205]
abbrev dktX2_isName_10 : List UInt8 := dkwX2_isName_10 ++ dktX2_isName_11
def dkwX2_isName_9 : List UInt8 := [20, 1, 4, 148, 153, 0, 117, 42, 180, 0, 205, 20, 1, 6, 148, 153, 0, 106, 42, 180, 0, 205]
abbrev dktX2_isName_9 : List UInt8 := dkwX2_isName_9 ++ dktX2_isName_10
def dkwX2_isName_8 : List UInt8 := [167, 0, 4, 3, 60, 27, 154, 0, 139, 42, 180, 0, 205, 20, 1, 2, 148, 153, 0, 128, 42, 180, 0, 205]
abbrev dktX2_isName_8 : List UInt8 := dkwX2_isName_8 ++ dktX2_isName_9
def dkwX2_isName_7 : List UInt8 := [180, 0, 205, 20, 0, 254, 148, 153, 0, 14, 42, 180, 0, 205, 20, 1, 0, 148, 154, 0, 7, 4]
abbrev dktX2_isName_7 : List UInt8 := dkwX2_isName_7 ++ dktX2_isName_8
def dkwX2_isName_6 : List UInt8 := [180, 0, 205, 20, 0, 250, 148, 153, 0, 36, 42, 180, 0, 205, 20, 0, 252, 148, 153, 0, 25, 42]
abbrev dktX2_isName_6 : List UInt8 := dkwX2_isName_6 ++ dktX2_isName_7
def dkwX2_isName_5 : List UInt8 := [180, 0, 205, 20, 0, 246, 148, 153, 0, 58, 42, 180, 0, 205, 20, 0, 248, 148, 153, 0, 47, 42]
abbrev dktX2_isName_5 : List UInt8 := dkwX2_isName_5 ++ dktX2_isName_6
def dkwX2_isName_4 : List UInt8 := [180, 0, 205, 20, 0, 242, 148, 153, 0, 80, 42, 180, 0, 205, 20, 0, 244, 148, 153, 0, 69, 42]
abbrev dktX2_isName_4 : List UInt8 := dkwX2_isName_4 ++ dktX2_isName_5
def dkwX2_isName_3 : List UInt8 := [180, 0, 205, 20, 0, 238, 148, 153, 0, 102, 42, 180, 0, 205, 20, 0, 240, 148, 153, 0, 91, 42]
abbrev dktX2_isName_3 : List UInt8 := dkwX2_isName_3 ++ dktX2_isName_4
def dkwX2_isName_2 : List UInt8 := [180, 0, 205, 20, 0, 234, 148, 153, 0, 124, 42, 180, 0, 205, 20, 0, 236, 148, 153, 0, 113, 42]
abbrev dktX2_isName_2 : List UInt8 := dkwX2_isName_2 ++ dktX2_isName_3
def dkwX2_isName_1 : List UInt8 := [180, 0, 205, 20, 0, 230, 148, 153, 0, 146, 42, 180, 0, 205, 20, 0, 232, 148, 153, 0, 135, 42]
abbrev dktX2_isName_1 : List UInt8 := dkwX2_isName_1 ++ dktX2_isName_2
def dkwX2_isName_0 : List UInt8 := [42, 180, 0, 212, 4, 159, 0, 5, 3, 172, 42, 180, 0, 205, 20, 0, 228, 148, 153, 0, 157, 42]
abbrev dktX2_isName_0 : List UInt8 := dkwX2_isName_0 ++ dktX2_isName_1
theorem dksX2_isName_0 : cX2_isName.data.toList.drop 0 = dktX2_isName_0 := by decide +kernel
theorem dksX2_isName_1 : cX2_isName.data.toList.drop 22 = dktX2_isName_1 := dk_seg dksX2_isName_0 22 rfl rfl
theorem dksX2_isName_2 : cX2_isName.data.toList.drop 44 = dktX2_isName_2 := dk_seg dksX2_isName_1 22 rfl rfl
theorem dksX2_isName_3 : cX2_isName.data.toList.drop 66 = dktX2_isName_3 := dk_seg dksX2_isName_2 22 rfl rfl
theorem dksX2_isName_4 : cX2_isName.data.toList.drop 88 = dktX2_isName_4 := dk_seg dksX2_isName_3 22 rfl rfl
theorem dksX2_isName_5 : cX2_isName.data.toList.drop 110 = dktX2_isName_5 := dk_seg dksX2_isName_4 22 rfl rfl
theorem dksX2_isName_6 : cX2_isName.data.toList.drop 132 = dktX2_isName_6 := dk_seg dksX2_isName_5 22 rfl rfl
theorem dksX2_isName_7 : cX2_isName.data.toList.drop 154 = dktX2_isName_7 := dk_seg dksX2_isName_6 22 rfl rfl
theorem dksX2_isName_8 : cX2_isName.data.toList.drop 176 = dktX2_isName_8 := dk_seg dksX2_isName_7 22 rfl rfl
theorem dksX2_isName_9 : cX2_isName.data.toList.drop 200 = dktX2_isName_9 := dk_seg dksX2_isName_8 24 rfl rfl
theorem dksX2_isName_10 : cX2_isName.data.toList.drop 222 = dktX2_isName_10 := dk_seg dksX2_isName_9 22 rfl rfl
theorem dksX2_isName_11 : cX2_isName.data.toList.drop 244 = dktX2_isName_11 := dk_seg dksX2_isName_10 22 rfl rfl
theorem dksX2_isName_12 : cX2_isName.data.toList.drop 266 = dktX2_isName_12 := dk_seg dksX2_isName_11 22 rfl rfl
theorem dksX2_isName_13 : cX2_isName.data.toList.drop 288 = dktX2_isName_13 := dk_seg dksX2_isName_12 22 rfl rfl
theorem dksX2_isName_14 : cX2_isName.data.toList.drop 310 = dktX2_isName_14 := dk_seg dksX2_isName_13 22 rfl rfl
theorem dX2_isName_0 : decode cX2_isName 0 = .ok (.aload_n 0, 1) := dk_42 (dk_at dksX2_isName_0 0 rfl rfl)
theorem dX2_isName_1 : decode cX2_isName 1 = .ok (.getfield 212, 3) := dk_180 0 212 (dk_at dksX2_isName_0 1 rfl rfl)
theorem dX2_isName_4 : decode cX2_isName 4 = .ok (.iconst 1, 1) := dk_4 (dk_at dksX2_isName_0 4 rfl rfl)
theorem dX2_isName_5 : decode cX2_isName 5 = .ok (.if_icmp .eq 5, 3) := dk_159 0 5 (dk_at dksX2_isName_0 5 rfl rfl)
theorem dX2_isName_8 : decode cX2_isName 8 = .ok (.iconst 0, 1) := dk_3 (dk_at dksX2_isName_0 8 rfl rfl)
theorem dX2_isName_9 : decode cX2_isName 9 = .ok (.ireturn, 1) := dk_172 (dk_at dksX2_isName_0 9 rfl rfl)
theorem dX2_isName_10 : decode cX2_isName 10 = .ok (.aload_n 0, 1) := dk_42 (dk_at dksX2_isName_0 10 rfl rfl)
theorem dX2_isName_11 : decode cX2_isName 11 = .ok (.getfield 205, 3) := dk_180 0 205 (dk_at dksX2_isName_0 11 rfl rfl)
theorem dX2_isName_14 : decode cX2_isName 14 = .ok (.ldc2_w 228, 3) := dk_20 0 228 (dk_at dksX2_isName_0 14 rfl rfl)
theorem dX2_isName_17 : decode cX2_isName 17 = .ok (.lcmp, 1) := dk_148 (dk_at dksX2_isName_0 17 rfl rfl)
theorem dX2_isName_18 : decode cX2_isName 18 = .ok (.ifCond .eq 157, 3) := dk_153 0 157 (dk_at dksX2_isName_0 18 rfl rfl)
theorem dX2_isName_21 : decode cX2_isName 21 = .ok (.aload_n 0, 1) := dk_42 (dk_at dksX2_isName_0 21 rfl rfl)
theorem dX2_isName_22 : decode cX2_isName 22 = .ok (.getfield 205, 3) := dk_180 0 205 (dk_at dksX2_isName_1 0 rfl rfl)
theorem dX2_isName_25 : decode cX2_isName 25 = .ok (.ldc2_w 230, 3) := dk_20 0 230 (dk_at dksX2_isName_1 3 rfl rfl)
theorem dX2_isName_28 : decode cX2_isName 28 = .ok (.lcmp, 1) := dk_148 (dk_at dksX2_isName_1 6 rfl rfl)
theorem dX2_isName_29 : decode cX2_isName 29 = .ok (.ifCond .eq 146, 3) := dk_153 0 146 (dk_at dksX2_isName_1 7 rfl rfl)
theorem dX2_isName_32 : decode cX2_isName 32 = .ok (.aload_n 0, 1) := dk_42 (dk_at dksX2_isName_1 10 rfl rfl)
theorem dX2_isName_33 : decode cX2_isName 33 = .ok (.getfield 205, 3) := dk_180 0 205 (dk_at dksX2_isName_1 11 rfl rfl)
theorem dX2_isName_36 : decode cX2_isName 36 = .ok (.ldc2_w 232, 3) := dk_20 0 232 (dk_at dksX2_isName_1 14 rfl rfl)
theorem dX2_isName_39 : decode cX2_isName 39 = .ok (.lcmp, 1) := dk_148 (dk_at dksX2_isName_1 17 rfl rfl)
theorem dX2_isName_40 : decode cX2_isName 40 = .ok (.ifCond .eq 135, 3) := dk_153 0 135 (dk_at dksX2_isName_1 18 rfl rfl)
theorem dX2_isName_43 : decode cX2_isName 43 = .ok (.aload_n 0, 1) := dk_42 (dk_at dksX2_isName_1 21 rfl rfl)
theorem dX2_isName_44 : decode cX2_isName 44 = .ok (.getfield 205, 3) := dk_180 0 205 (dk_at dksX2_isName_2 0 rfl rfl)
theorem dX2_isName_47 : decode cX2_isName 47 = .ok (.ldc2_w 234, 3) := dk_20 0 234 (dk_at dksX2_isName_2 3 rfl rfl)
theorem dX2_isName_50 : decode cX2_isName 50 = .ok (.lcmp, 1) := dk_148 (dk_at dksX2_isName_2 6 rfl rfl)
theorem dX2_isName_51 : decode cX2_isName 51 = .ok (.ifCond .eq 124, 3) := dk_153 0 124 (dk_at dksX2_isName_2 7 rfl rfl)
theorem dX2_isName_54 : decode cX2_isName 54 = .ok (.aload_n 0, 1) := dk_42 (dk_at dksX2_isName_2 10 rfl rfl)
theorem dX2_isName_55 : decode cX2_isName 55 = .ok (.getfield 205, 3) := dk_180 0 205 (dk_at dksX2_isName_2 11 rfl rfl)
theorem dX2_isName_58 : decode cX2_isName 58 = .ok (.ldc2_w 236, 3) := dk_20 0 236 (dk_at dksX2_isName_2 14 rfl rfl)
theorem dX2_isName_61 : decode cX2_isName 61 = .ok (.lcmp, 1) := dk_148 (dk_at dksX2_isName_2 17 rfl rfl)
theorem dX2_isName_62 : decode cX2_isName 62 = .ok (.ifCond .eq 113, 3) := dk_153 0 113 (dk_at dksX2_isName_2 18 rfl rfl)
theorem dX2_isName_65 : decode cX2_isName 65 = .ok (.aload_n 0, 1) := dk_42 (dk_at dksX2_isName_2 21 rfl rfl)
theorem dX2_isName_66 : decode cX2_isName 66 = .ok (.getfield 205, 3) := dk_180 0 205 (dk_at dksX2_isName_3 0 rfl rfl)
theorem dX2_isName_69 : decode cX2_isName 69 = .ok (.ldc2_w 238, 3) := dk_20 0 238 (dk_at dksX2_isName_3 3 rfl rfl)
theorem dX2_isName_72 : decode cX2_isName 72 = .ok (.lcmp, 1) := dk_148 (dk_at dksX2_isName_3 6 rfl rfl)
theorem dX2_isName_73 : decode cX2_isName 73 = .ok (.ifCond .eq 102, 3) := dk_153 0 102 (dk_at dksX2_isName_3 7 rfl rfl)
theorem dX2_isName_76 : decode cX2_isName 76 = .ok (.aload_n 0, 1) := dk_42 (dk_at dksX2_isName_3 10 rfl rfl)
theorem dX2_isName_77 : decode cX2_isName 77 = .ok (.getfield 205, 3) := dk_180 0 205 (dk_at dksX2_isName_3 11 rfl rfl)
theorem dX2_isName_80 : decode cX2_isName 80 = .ok (.ldc2_w 240, 3) := dk_20 0 240 (dk_at dksX2_isName_3 14 rfl rfl)
theorem dX2_isName_83 : decode cX2_isName 83 = .ok (.lcmp, 1) := dk_148 (dk_at dksX2_isName_3 17 rfl rfl)
theorem dX2_isName_84 : decode cX2_isName 84 = .ok (.ifCond .eq 91, 3) := dk_153 0 91 (dk_at dksX2_isName_3 18 rfl rfl)
theorem dX2_isName_87 : decode cX2_isName 87 = .ok (.aload_n 0, 1) := dk_42 (dk_at dksX2_isName_3 21 rfl rfl)
theorem dX2_isName_88 : decode cX2_isName 88 = .ok (.getfield 205, 3) := dk_180 0 205 (dk_at dksX2_isName_4 0 rfl rfl)
theorem dX2_isName_91 : decode cX2_isName 91 = .ok (.ldc2_w 242, 3) := dk_20 0 242 (dk_at dksX2_isName_4 3 rfl rfl)
theorem dX2_isName_94 : decode cX2_isName 94 = .ok (.lcmp, 1) := dk_148 (dk_at dksX2_isName_4 6 rfl rfl)
theorem dX2_isName_95 : decode cX2_isName 95 = .ok (.ifCond .eq 80, 3) := dk_153 0 80 (dk_at dksX2_isName_4 7 rfl rfl)
theorem dX2_isName_98 : decode cX2_isName 98 = .ok (.aload_n 0, 1) := dk_42 (dk_at dksX2_isName_4 10 rfl rfl)
theorem dX2_isName_99 : decode cX2_isName 99 = .ok (.getfield 205, 3) := dk_180 0 205 (dk_at dksX2_isName_4 11 rfl rfl)
theorem dX2_isName_102 : decode cX2_isName 102 = .ok (.ldc2_w 244, 3) := dk_20 0 244 (dk_at dksX2_isName_4 14 rfl rfl)
theorem dX2_isName_105 : decode cX2_isName 105 = .ok (.lcmp, 1) := dk_148 (dk_at dksX2_isName_4 17 rfl rfl)
theorem dX2_isName_106 : decode cX2_isName 106 = .ok (.ifCond .eq 69, 3) := dk_153 0 69 (dk_at dksX2_isName_4 18 rfl rfl)
theorem dX2_isName_109 : decode cX2_isName 109 = .ok (.aload_n 0, 1) := dk_42 (dk_at dksX2_isName_4 21 rfl rfl)
theorem dX2_isName_110 : decode cX2_isName 110 = .ok (.getfield 205, 3) := dk_180 0 205 (dk_at dksX2_isName_5 0 rfl rfl)
theorem dX2_isName_113 : decode cX2_isName 113 = .ok (.ldc2_w 246, 3) := dk_20 0 246 (dk_at dksX2_isName_5 3 rfl rfl)
theorem dX2_isName_116 : decode cX2_isName 116 = .ok (.lcmp, 1) := dk_148 (dk_at dksX2_isName_5 6 rfl rfl)
theorem dX2_isName_117 : decode cX2_isName 117 = .ok (.ifCond .eq 58, 3) := dk_153 0 58 (dk_at dksX2_isName_5 7 rfl rfl)
theorem dX2_isName_120 : decode cX2_isName 120 = .ok (.aload_n 0, 1) := dk_42 (dk_at dksX2_isName_5 10 rfl rfl)
theorem dX2_isName_121 : decode cX2_isName 121 = .ok (.getfield 205, 3) := dk_180 0 205 (dk_at dksX2_isName_5 11 rfl rfl)
theorem dX2_isName_124 : decode cX2_isName 124 = .ok (.ldc2_w 248, 3) := dk_20 0 248 (dk_at dksX2_isName_5 14 rfl rfl)
theorem dX2_isName_127 : decode cX2_isName 127 = .ok (.lcmp, 1) := dk_148 (dk_at dksX2_isName_5 17 rfl rfl)
theorem dX2_isName_128 : decode cX2_isName 128 = .ok (.ifCond .eq 47, 3) := dk_153 0 47 (dk_at dksX2_isName_5 18 rfl rfl)
theorem dX2_isName_131 : decode cX2_isName 131 = .ok (.aload_n 0, 1) := dk_42 (dk_at dksX2_isName_5 21 rfl rfl)
theorem dX2_isName_132 : decode cX2_isName 132 = .ok (.getfield 205, 3) := dk_180 0 205 (dk_at dksX2_isName_6 0 rfl rfl)
theorem dX2_isName_135 : decode cX2_isName 135 = .ok (.ldc2_w 250, 3) := dk_20 0 250 (dk_at dksX2_isName_6 3 rfl rfl)
theorem dX2_isName_138 : decode cX2_isName 138 = .ok (.lcmp, 1) := dk_148 (dk_at dksX2_isName_6 6 rfl rfl)
theorem dX2_isName_139 : decode cX2_isName 139 = .ok (.ifCond .eq 36, 3) := dk_153 0 36 (dk_at dksX2_isName_6 7 rfl rfl)
theorem dX2_isName_142 : decode cX2_isName 142 = .ok (.aload_n 0, 1) := dk_42 (dk_at dksX2_isName_6 10 rfl rfl)
theorem dX2_isName_143 : decode cX2_isName 143 = .ok (.getfield 205, 3) := dk_180 0 205 (dk_at dksX2_isName_6 11 rfl rfl)
theorem dX2_isName_146 : decode cX2_isName 146 = .ok (.ldc2_w 252, 3) := dk_20 0 252 (dk_at dksX2_isName_6 14 rfl rfl)
theorem dX2_isName_149 : decode cX2_isName 149 = .ok (.lcmp, 1) := dk_148 (dk_at dksX2_isName_6 17 rfl rfl)
theorem dX2_isName_150 : decode cX2_isName 150 = .ok (.ifCond .eq 25, 3) := dk_153 0 25 (dk_at dksX2_isName_6 18 rfl rfl)
theorem dX2_isName_153 : decode cX2_isName 153 = .ok (.aload_n 0, 1) := dk_42 (dk_at dksX2_isName_6 21 rfl rfl)
theorem dX2_isName_154 : decode cX2_isName 154 = .ok (.getfield 205, 3) := dk_180 0 205 (dk_at dksX2_isName_7 0 rfl rfl)
theorem dX2_isName_157 : decode cX2_isName 157 = .ok (.ldc2_w 254, 3) := dk_20 0 254 (dk_at dksX2_isName_7 3 rfl rfl)
theorem dX2_isName_160 : decode cX2_isName 160 = .ok (.lcmp, 1) := dk_148 (dk_at dksX2_isName_7 6 rfl rfl)
theorem dX2_isName_161 : decode cX2_isName 161 = .ok (.ifCond .eq 14, 3) := dk_153 0 14 (dk_at dksX2_isName_7 7 rfl rfl)
theorem dX2_isName_164 : decode cX2_isName 164 = .ok (.aload_n 0, 1) := dk_42 (dk_at dksX2_isName_7 10 rfl rfl)
theorem dX2_isName_165 : decode cX2_isName 165 = .ok (.getfield 205, 3) := dk_180 0 205 (dk_at dksX2_isName_7 11 rfl rfl)
theorem dX2_isName_168 : decode cX2_isName 168 = .ok (.ldc2_w 256, 3) := dk_20 1 0 (dk_at dksX2_isName_7 14 rfl rfl)
theorem dX2_isName_171 : decode cX2_isName 171 = .ok (.lcmp, 1) := dk_148 (dk_at dksX2_isName_7 17 rfl rfl)
theorem dX2_isName_172 : decode cX2_isName 172 = .ok (.ifCond .ne 7, 3) := dk_154 0 7 (dk_at dksX2_isName_7 18 rfl rfl)
theorem dX2_isName_175 : decode cX2_isName 175 = .ok (.iconst 1, 1) := dk_4 (dk_at dksX2_isName_7 21 rfl rfl)
theorem dX2_isName_176 : decode cX2_isName 176 = .ok (.goto 4, 3) := dk_167 0 4 (dk_at dksX2_isName_8 0 rfl rfl)
theorem dX2_isName_179 : decode cX2_isName 179 = .ok (.iconst 0, 1) := dk_3 (dk_at dksX2_isName_8 3 rfl rfl)
theorem dX2_isName_180 : decode cX2_isName 180 = .ok (.istore_n 1, 1) := dk_60 (dk_at dksX2_isName_8 4 rfl rfl)
theorem dX2_isName_181 : decode cX2_isName 181 = .ok (.iload_n 1, 1) := dk_27 (dk_at dksX2_isName_8 5 rfl rfl)
theorem dX2_isName_182 : decode cX2_isName 182 = .ok (.ifCond .ne 139, 3) := dk_154 0 139 (dk_at dksX2_isName_8 6 rfl rfl)
theorem dX2_isName_185 : decode cX2_isName 185 = .ok (.aload_n 0, 1) := dk_42 (dk_at dksX2_isName_8 9 rfl rfl)
theorem dX2_isName_186 : decode cX2_isName 186 = .ok (.getfield 205, 3) := dk_180 0 205 (dk_at dksX2_isName_8 10 rfl rfl)
theorem dX2_isName_189 : decode cX2_isName 189 = .ok (.ldc2_w 258, 3) := dk_20 1 2 (dk_at dksX2_isName_8 13 rfl rfl)
theorem dX2_isName_192 : decode cX2_isName 192 = .ok (.lcmp, 1) := dk_148 (dk_at dksX2_isName_8 16 rfl rfl)
theorem dX2_isName_193 : decode cX2_isName 193 = .ok (.ifCond .eq 128, 3) := dk_153 0 128 (dk_at dksX2_isName_8 17 rfl rfl)
theorem dX2_isName_196 : decode cX2_isName 196 = .ok (.aload_n 0, 1) := dk_42 (dk_at dksX2_isName_8 20 rfl rfl)
theorem dX2_isName_197 : decode cX2_isName 197 = .ok (.getfield 205, 3) := dk_180 0 205 (dk_at dksX2_isName_8 21 rfl rfl)
theorem dX2_isName_200 : decode cX2_isName 200 = .ok (.ldc2_w 260, 3) := dk_20 1 4 (dk_at dksX2_isName_9 0 rfl rfl)
theorem dX2_isName_203 : decode cX2_isName 203 = .ok (.lcmp, 1) := dk_148 (dk_at dksX2_isName_9 3 rfl rfl)
theorem dX2_isName_204 : decode cX2_isName 204 = .ok (.ifCond .eq 117, 3) := dk_153 0 117 (dk_at dksX2_isName_9 4 rfl rfl)
theorem dX2_isName_207 : decode cX2_isName 207 = .ok (.aload_n 0, 1) := dk_42 (dk_at dksX2_isName_9 7 rfl rfl)
theorem dX2_isName_208 : decode cX2_isName 208 = .ok (.getfield 205, 3) := dk_180 0 205 (dk_at dksX2_isName_9 8 rfl rfl)
theorem dX2_isName_211 : decode cX2_isName 211 = .ok (.ldc2_w 262, 3) := dk_20 1 6 (dk_at dksX2_isName_9 11 rfl rfl)
theorem dX2_isName_214 : decode cX2_isName 214 = .ok (.lcmp, 1) := dk_148 (dk_at dksX2_isName_9 14 rfl rfl)
theorem dX2_isName_215 : decode cX2_isName 215 = .ok (.ifCond .eq 106, 3) := dk_153 0 106 (dk_at dksX2_isName_9 15 rfl rfl)
theorem dX2_isName_218 : decode cX2_isName 218 = .ok (.aload_n 0, 1) := dk_42 (dk_at dksX2_isName_9 18 rfl rfl)
theorem dX2_isName_219 : decode cX2_isName 219 = .ok (.getfield 205, 3) := dk_180 0 205 (dk_at dksX2_isName_9 19 rfl rfl)
theorem dX2_isName_222 : decode cX2_isName 222 = .ok (.ldc2_w 264, 3) := dk_20 1 8 (dk_at dksX2_isName_10 0 rfl rfl)
theorem dX2_isName_225 : decode cX2_isName 225 = .ok (.lcmp, 1) := dk_148 (dk_at dksX2_isName_10 3 rfl rfl)
theorem dX2_isName_226 : decode cX2_isName 226 = .ok (.ifCond .eq 95, 3) := dk_153 0 95 (dk_at dksX2_isName_10 4 rfl rfl)
theorem dX2_isName_229 : decode cX2_isName 229 = .ok (.aload_n 0, 1) := dk_42 (dk_at dksX2_isName_10 7 rfl rfl)
theorem dX2_isName_230 : decode cX2_isName 230 = .ok (.getfield 205, 3) := dk_180 0 205 (dk_at dksX2_isName_10 8 rfl rfl)
theorem dX2_isName_233 : decode cX2_isName 233 = .ok (.ldc2_w 266, 3) := dk_20 1 10 (dk_at dksX2_isName_10 11 rfl rfl)
theorem dX2_isName_236 : decode cX2_isName 236 = .ok (.lcmp, 1) := dk_148 (dk_at dksX2_isName_10 14 rfl rfl)
theorem dX2_isName_237 : decode cX2_isName 237 = .ok (.ifCond .eq 84, 3) := dk_153 0 84 (dk_at dksX2_isName_10 15 rfl rfl)
theorem dX2_isName_240 : decode cX2_isName 240 = .ok (.aload_n 0, 1) := dk_42 (dk_at dksX2_isName_10 18 rfl rfl)
theorem dX2_isName_241 : decode cX2_isName 241 = .ok (.getfield 205, 3) := dk_180 0 205 (dk_at dksX2_isName_10 19 rfl rfl)
theorem dX2_isName_244 : decode cX2_isName 244 = .ok (.ldc2_w 268, 3) := dk_20 1 12 (dk_at dksX2_isName_11 0 rfl rfl)
theorem dX2_isName_247 : decode cX2_isName 247 = .ok (.lcmp, 1) := dk_148 (dk_at dksX2_isName_11 3 rfl rfl)
theorem dX2_isName_248 : decode cX2_isName 248 = .ok (.ifCond .eq 73, 3) := dk_153 0 73 (dk_at dksX2_isName_11 4 rfl rfl)
theorem dX2_isName_251 : decode cX2_isName 251 = .ok (.aload_n 0, 1) := dk_42 (dk_at dksX2_isName_11 7 rfl rfl)
theorem dX2_isName_252 : decode cX2_isName 252 = .ok (.getfield 205, 3) := dk_180 0 205 (dk_at dksX2_isName_11 8 rfl rfl)
theorem dX2_isName_255 : decode cX2_isName 255 = .ok (.ldc2_w 270, 3) := dk_20 1 14 (dk_at dksX2_isName_11 11 rfl rfl)
theorem dX2_isName_258 : decode cX2_isName 258 = .ok (.lcmp, 1) := dk_148 (dk_at dksX2_isName_11 14 rfl rfl)
theorem dX2_isName_259 : decode cX2_isName 259 = .ok (.ifCond .eq 62, 3) := dk_153 0 62 (dk_at dksX2_isName_11 15 rfl rfl)
theorem dX2_isName_262 : decode cX2_isName 262 = .ok (.aload_n 0, 1) := dk_42 (dk_at dksX2_isName_11 18 rfl rfl)
theorem dX2_isName_263 : decode cX2_isName 263 = .ok (.getfield 205, 3) := dk_180 0 205 (dk_at dksX2_isName_11 19 rfl rfl)
theorem dX2_isName_266 : decode cX2_isName 266 = .ok (.ldc2_w 272, 3) := dk_20 1 16 (dk_at dksX2_isName_12 0 rfl rfl)
theorem dX2_isName_269 : decode cX2_isName 269 = .ok (.lcmp, 1) := dk_148 (dk_at dksX2_isName_12 3 rfl rfl)
theorem dX2_isName_270 : decode cX2_isName 270 = .ok (.ifCond .eq 51, 3) := dk_153 0 51 (dk_at dksX2_isName_12 4 rfl rfl)
theorem dX2_isName_273 : decode cX2_isName 273 = .ok (.aload_n 0, 1) := dk_42 (dk_at dksX2_isName_12 7 rfl rfl)
theorem dX2_isName_274 : decode cX2_isName 274 = .ok (.getfield 205, 3) := dk_180 0 205 (dk_at dksX2_isName_12 8 rfl rfl)
theorem dX2_isName_277 : decode cX2_isName 277 = .ok (.ldc2_w 274, 3) := dk_20 1 18 (dk_at dksX2_isName_12 11 rfl rfl)
theorem dX2_isName_280 : decode cX2_isName 280 = .ok (.lcmp, 1) := dk_148 (dk_at dksX2_isName_12 14 rfl rfl)
theorem dX2_isName_281 : decode cX2_isName 281 = .ok (.ifCond .eq 40, 3) := dk_153 0 40 (dk_at dksX2_isName_12 15 rfl rfl)
theorem dX2_isName_284 : decode cX2_isName 284 = .ok (.aload_n 0, 1) := dk_42 (dk_at dksX2_isName_12 18 rfl rfl)
theorem dX2_isName_285 : decode cX2_isName 285 = .ok (.getfield 205, 3) := dk_180 0 205 (dk_at dksX2_isName_12 19 rfl rfl)
theorem dX2_isName_288 : decode cX2_isName 288 = .ok (.ldc2_w 276, 3) := dk_20 1 20 (dk_at dksX2_isName_13 0 rfl rfl)
theorem dX2_isName_291 : decode cX2_isName 291 = .ok (.lcmp, 1) := dk_148 (dk_at dksX2_isName_13 3 rfl rfl)
theorem dX2_isName_292 : decode cX2_isName 292 = .ok (.ifCond .eq 29, 3) := dk_153 0 29 (dk_at dksX2_isName_13 4 rfl rfl)
theorem dX2_isName_295 : decode cX2_isName 295 = .ok (.aload_n 0, 1) := dk_42 (dk_at dksX2_isName_13 7 rfl rfl)
theorem dX2_isName_296 : decode cX2_isName 296 = .ok (.getfield 205, 3) := dk_180 0 205 (dk_at dksX2_isName_13 8 rfl rfl)
theorem dX2_isName_299 : decode cX2_isName 299 = .ok (.ldc2_w 278, 3) := dk_20 1 22 (dk_at dksX2_isName_13 11 rfl rfl)
theorem dX2_isName_302 : decode cX2_isName 302 = .ok (.lcmp, 1) := dk_148 (dk_at dksX2_isName_13 14 rfl rfl)
theorem dX2_isName_303 : decode cX2_isName 303 = .ok (.ifCond .eq 18, 3) := dk_153 0 18 (dk_at dksX2_isName_13 15 rfl rfl)
theorem dX2_isName_306 : decode cX2_isName 306 = .ok (.aload_n 0, 1) := dk_42 (dk_at dksX2_isName_13 18 rfl rfl)
theorem dX2_isName_307 : decode cX2_isName 307 = .ok (.getfield 205, 3) := dk_180 0 205 (dk_at dksX2_isName_13 19 rfl rfl)
theorem dX2_isName_310 : decode cX2_isName 310 = .ok (.ldc2_w 280, 3) := dk_20 1 24 (dk_at dksX2_isName_14 0 rfl rfl)
theorem dX2_isName_313 : decode cX2_isName 313 = .ok (.lcmp, 1) := dk_148 (dk_at dksX2_isName_14 3 rfl rfl)
theorem dX2_isName_314 : decode cX2_isName 314 = .ok (.ifCond .eq 7, 3) := dk_153 0 7 (dk_at dksX2_isName_14 4 rfl rfl)
theorem dX2_isName_317 : decode cX2_isName 317 = .ok (.iconst 1, 1) := dk_4 (dk_at dksX2_isName_14 7 rfl rfl)
theorem dX2_isName_318 : decode cX2_isName 318 = .ok (.goto 4, 3) := dk_167 0 4 (dk_at dksX2_isName_14 8 rfl rfl)
theorem dX2_isName_321 : decode cX2_isName 321 = .ok (.iconst 0, 1) := dk_3 (dk_at dksX2_isName_14 11 rfl rfl)
theorem dX2_isName_322 : decode cX2_isName 322 = .ok (.ireturn, 1) := dk_172 (dk_at dksX2_isName_14 12 rfl rfl)
abbrev cX2_wrong : ByteArray := prog_28_method_10_code
def yX2_wrong : MethodName := ⟨RX2, "wrong", "(I)V"⟩
def dkwX2_wrong_1 : List UInt8 := [181, 0, 225, 42, 42, 180, 0, 202, 181, 0, 13, 177]
abbrev dktX2_wrong_1 : List UInt8 := dkwX2_wrong_1 ++ []
def dkwX2_wrong_0 : List UInt8 := [42, 180, 0, 225, 158, 0, 4, 177, 42, 42, 180, 0, 212, 6, 160, 0, 7, 4, 167, 0, 4, 27]
abbrev dktX2_wrong_0 : List UInt8 := dkwX2_wrong_0 ++ dktX2_wrong_1
theorem dksX2_wrong_0 : cX2_wrong.data.toList.drop 0 = dktX2_wrong_0 := by decide +kernel
theorem dksX2_wrong_1 : cX2_wrong.data.toList.drop 22 = dktX2_wrong_1 := dk_seg dksX2_wrong_0 22 rfl rfl
theorem dX2_wrong_0 : decode cX2_wrong 0 = .ok (.aload_n 0, 1) := dk_42 (dk_at dksX2_wrong_0 0 rfl rfl)
theorem dX2_wrong_1 : decode cX2_wrong 1 = .ok (.getfield 225, 3) := dk_180 0 225 (dk_at dksX2_wrong_0 1 rfl rfl)
theorem dX2_wrong_4 : decode cX2_wrong 4 = .ok (.ifCond .le 4, 3) := dk_158 0 4 (dk_at dksX2_wrong_0 4 rfl rfl)
theorem dX2_wrong_7 : decode cX2_wrong 7 = .ok (.return_, 1) := dk_177 (dk_at dksX2_wrong_0 7 rfl rfl)
theorem dX2_wrong_8 : decode cX2_wrong 8 = .ok (.aload_n 0, 1) := dk_42 (dk_at dksX2_wrong_0 8 rfl rfl)
theorem dX2_wrong_9 : decode cX2_wrong 9 = .ok (.aload_n 0, 1) := dk_42 (dk_at dksX2_wrong_0 9 rfl rfl)
theorem dX2_wrong_10 : decode cX2_wrong 10 = .ok (.getfield 212, 3) := dk_180 0 212 (dk_at dksX2_wrong_0 10 rfl rfl)
theorem dX2_wrong_13 : decode cX2_wrong 13 = .ok (.iconst 3, 1) := dk_6 (dk_at dksX2_wrong_0 13 rfl rfl)
theorem dX2_wrong_14 : decode cX2_wrong 14 = .ok (.if_icmp .ne 7, 3) := dk_160 0 7 (dk_at dksX2_wrong_0 14 rfl rfl)
theorem dX2_wrong_17 : decode cX2_wrong 17 = .ok (.iconst 1, 1) := dk_4 (dk_at dksX2_wrong_0 17 rfl rfl)
theorem dX2_wrong_18 : decode cX2_wrong 18 = .ok (.goto 4, 3) := dk_167 0 4 (dk_at dksX2_wrong_0 18 rfl rfl)
theorem dX2_wrong_21 : decode cX2_wrong 21 = .ok (.iload_n 1, 1) := dk_27 (dk_at dksX2_wrong_0 21 rfl rfl)
theorem dX2_wrong_22 : decode cX2_wrong 22 = .ok (.putfield 225, 3) := dk_181 0 225 (dk_at dksX2_wrong_1 0 rfl rfl)
theorem dX2_wrong_25 : decode cX2_wrong 25 = .ok (.aload_n 0, 1) := dk_42 (dk_at dksX2_wrong_1 3 rfl rfl)
theorem dX2_wrong_26 : decode cX2_wrong 26 = .ok (.aload_n 0, 1) := dk_42 (dk_at dksX2_wrong_1 4 rfl rfl)
theorem dX2_wrong_27 : decode cX2_wrong 27 = .ok (.getfield 202, 3) := dk_180 0 202 (dk_at dksX2_wrong_1 5 rfl rfl)
theorem dX2_wrong_30 : decode cX2_wrong 30 = .ok (.putfield 13, 3) := dk_181 0 13 (dk_at dksX2_wrong_1 8 rfl rfl)
theorem dX2_wrong_33 : decode cX2_wrong 33 = .ok (.return_, 1) := dk_177 (dk_at dksX2_wrong_1 11 rfl rfl)
abbrev cX2_want : ByteArray := prog_28_method_14_code
def yX2_want : MethodName := ⟨RX2, "want", "(J)V"⟩
def dkwX2_want_1 : List UInt8 := [42, 182, 1, 33, 177]
abbrev dktX2_want_1 : List UInt8 := dkwX2_want_1 ++ []
def dkwX2_want_0 : List UInt8 := [42, 180, 0, 225, 158, 0, 4, 177, 42, 31, 182, 1, 26, 154, 0, 11, 42, 5, 182, 1, 30, 167, 0, 7]
abbrev dktX2_want_0 : List UInt8 := dkwX2_want_0 ++ dktX2_want_1
theorem dksX2_want_0 : cX2_want.data.toList.drop 0 = dktX2_want_0 := by decide +kernel
theorem dksX2_want_1 : cX2_want.data.toList.drop 24 = dktX2_want_1 := dk_seg dksX2_want_0 24 rfl rfl
theorem dX2_want_0 : decode cX2_want 0 = .ok (.aload_n 0, 1) := dk_42 (dk_at dksX2_want_0 0 rfl rfl)
theorem dX2_want_1 : decode cX2_want 1 = .ok (.getfield 225, 3) := dk_180 0 225 (dk_at dksX2_want_0 1 rfl rfl)
theorem dX2_want_4 : decode cX2_want 4 = .ok (.ifCond .le 4, 3) := dk_158 0 4 (dk_at dksX2_want_0 4 rfl rfl)
theorem dX2_want_7 : decode cX2_want 7 = .ok (.return_, 1) := dk_177 (dk_at dksX2_want_0 7 rfl rfl)
theorem dX2_want_8 : decode cX2_want 8 = .ok (.aload_n 0, 1) := dk_42 (dk_at dksX2_want_0 8 rfl rfl)
theorem dX2_want_9 : decode cX2_want 9 = .ok (.lload_n 1, 1) := dk_31 (dk_at dksX2_want_0 9 rfl rfl)
theorem dX2_want_10 : decode cX2_want 10 = .ok (.invokevirtual 282, 3) := dk_182 1 26 (dk_at dksX2_want_0 10 rfl rfl)
theorem dX2_want_13 : decode cX2_want 13 = .ok (.ifCond .ne 11, 3) := dk_154 0 11 (dk_at dksX2_want_0 13 rfl rfl)
theorem dX2_want_16 : decode cX2_want 16 = .ok (.aload_n 0, 1) := dk_42 (dk_at dksX2_want_0 16 rfl rfl)
theorem dX2_want_17 : decode cX2_want 17 = .ok (.iconst 2, 1) := dk_5 (dk_at dksX2_want_0 17 rfl rfl)
theorem dX2_want_18 : decode cX2_want 18 = .ok (.invokevirtual 286, 3) := dk_182 1 30 (dk_at dksX2_want_0 18 rfl rfl)
theorem dX2_want_21 : decode cX2_want 21 = .ok (.goto 7, 3) := dk_167 0 7 (dk_at dksX2_want_0 21 rfl rfl)
theorem dX2_want_24 : decode cX2_want 24 = .ok (.aload_n 0, 1) := dk_42 (dk_at dksX2_want_1 0 rfl rfl)
theorem dX2_want_25 : decode cX2_want 25 = .ok (.invokevirtual 289, 3) := dk_182 1 33 (dk_at dksX2_want_1 1 rfl rfl)
theorem dX2_want_28 : decode cX2_want 28 = .ok (.return_, 1) := dk_177 (dk_at dksX2_want_1 4 rfl rfl)
abbrev cX2_toldNumber : ByteArray := prog_28_method_15_code
def yX2_toldNumber : MethodName := ⟨RX2, "toldNumber", "(II)I"⟩
def dkwX2_toldNumber_2 : List UInt8 := [42, 180, 0, 209, 62, 42, 180, 0, 225, 154, 0, 7, 42, 182, 1, 33, 29, 172]
abbrev dktX2_toldNumber_2 : List UInt8 := dkwX2_toldNumber_2 ++ []
def dkwX2_toldNumber_1 : List UInt8 := [167, 0, 24, 42, 180, 0, 209, 27, 161, 0, 11, 42, 180, 0, 209, 28, 164, 0, 8, 42, 7, 182, 1, 30]
abbrev dktX2_toldNumber_1 : List UInt8 := dkwX2_toldNumber_1 ++ dktX2_toldNumber_2
def dkwX2_toldNumber_0 : List UInt8 := [42, 180, 0, 225, 158, 0, 5, 3, 172, 42, 180, 0, 212, 5, 159, 0, 11, 42, 5, 182, 1, 30]
abbrev dktX2_toldNumber_0 : List UInt8 := dkwX2_toldNumber_0 ++ dktX2_toldNumber_1
theorem dksX2_toldNumber_0 : cX2_toldNumber.data.toList.drop 0 = dktX2_toldNumber_0 := by decide +kernel
theorem dksX2_toldNumber_1 : cX2_toldNumber.data.toList.drop 22 = dktX2_toldNumber_1 := dk_seg dksX2_toldNumber_0 22 rfl rfl
theorem dksX2_toldNumber_2 : cX2_toldNumber.data.toList.drop 46 = dktX2_toldNumber_2 := dk_seg dksX2_toldNumber_1 24 rfl rfl
theorem dX2_toldNumber_0 : decode cX2_toldNumber 0 = .ok (.aload_n 0, 1) := dk_42 (dk_at dksX2_toldNumber_0 0 rfl rfl)
theorem dX2_toldNumber_1 : decode cX2_toldNumber 1 = .ok (.getfield 225, 3) := dk_180 0 225 (dk_at dksX2_toldNumber_0 1 rfl rfl)
theorem dX2_toldNumber_4 : decode cX2_toldNumber 4 = .ok (.ifCond .le 5, 3) := dk_158 0 5 (dk_at dksX2_toldNumber_0 4 rfl rfl)
theorem dX2_toldNumber_7 : decode cX2_toldNumber 7 = .ok (.iconst 0, 1) := dk_3 (dk_at dksX2_toldNumber_0 7 rfl rfl)
theorem dX2_toldNumber_8 : decode cX2_toldNumber 8 = .ok (.ireturn, 1) := dk_172 (dk_at dksX2_toldNumber_0 8 rfl rfl)
theorem dX2_toldNumber_9 : decode cX2_toldNumber 9 = .ok (.aload_n 0, 1) := dk_42 (dk_at dksX2_toldNumber_0 9 rfl rfl)
theorem dX2_toldNumber_10 : decode cX2_toldNumber 10 = .ok (.getfield 212, 3) := dk_180 0 212 (dk_at dksX2_toldNumber_0 10 rfl rfl)
theorem dX2_toldNumber_13 : decode cX2_toldNumber 13 = .ok (.iconst 2, 1) := dk_5 (dk_at dksX2_toldNumber_0 13 rfl rfl)
theorem dX2_toldNumber_14 : decode cX2_toldNumber 14 = .ok (.if_icmp .eq 11, 3) := dk_159 0 11 (dk_at dksX2_toldNumber_0 14 rfl rfl)
theorem dX2_toldNumber_17 : decode cX2_toldNumber 17 = .ok (.aload_n 0, 1) := dk_42 (dk_at dksX2_toldNumber_0 17 rfl rfl)
theorem dX2_toldNumber_18 : decode cX2_toldNumber 18 = .ok (.iconst 2, 1) := dk_5 (dk_at dksX2_toldNumber_0 18 rfl rfl)
theorem dX2_toldNumber_19 : decode cX2_toldNumber 19 = .ok (.invokevirtual 286, 3) := dk_182 1 30 (dk_at dksX2_toldNumber_0 19 rfl rfl)
theorem dX2_toldNumber_22 : decode cX2_toldNumber 22 = .ok (.goto 24, 3) := dk_167 0 24 (dk_at dksX2_toldNumber_1 0 rfl rfl)
theorem dX2_toldNumber_25 : decode cX2_toldNumber 25 = .ok (.aload_n 0, 1) := dk_42 (dk_at dksX2_toldNumber_1 3 rfl rfl)
theorem dX2_toldNumber_26 : decode cX2_toldNumber 26 = .ok (.getfield 209, 3) := dk_180 0 209 (dk_at dksX2_toldNumber_1 4 rfl rfl)
theorem dX2_toldNumber_29 : decode cX2_toldNumber 29 = .ok (.iload_n 1, 1) := dk_27 (dk_at dksX2_toldNumber_1 7 rfl rfl)
theorem dX2_toldNumber_30 : decode cX2_toldNumber 30 = .ok (.if_icmp .lt 11, 3) := dk_161 0 11 (dk_at dksX2_toldNumber_1 8 rfl rfl)
theorem dX2_toldNumber_33 : decode cX2_toldNumber 33 = .ok (.aload_n 0, 1) := dk_42 (dk_at dksX2_toldNumber_1 11 rfl rfl)
theorem dX2_toldNumber_34 : decode cX2_toldNumber 34 = .ok (.getfield 209, 3) := dk_180 0 209 (dk_at dksX2_toldNumber_1 12 rfl rfl)
theorem dX2_toldNumber_37 : decode cX2_toldNumber 37 = .ok (.iload_n 2, 1) := dk_28 (dk_at dksX2_toldNumber_1 15 rfl rfl)
theorem dX2_toldNumber_38 : decode cX2_toldNumber 38 = .ok (.if_icmp .le 8, 3) := dk_164 0 8 (dk_at dksX2_toldNumber_1 16 rfl rfl)
theorem dX2_toldNumber_41 : decode cX2_toldNumber 41 = .ok (.aload_n 0, 1) := dk_42 (dk_at dksX2_toldNumber_1 19 rfl rfl)
theorem dX2_toldNumber_42 : decode cX2_toldNumber 42 = .ok (.iconst 4, 1) := dk_7 (dk_at dksX2_toldNumber_1 20 rfl rfl)
theorem dX2_toldNumber_43 : decode cX2_toldNumber 43 = .ok (.invokevirtual 286, 3) := dk_182 1 30 (dk_at dksX2_toldNumber_1 21 rfl rfl)
theorem dX2_toldNumber_46 : decode cX2_toldNumber 46 = .ok (.aload_n 0, 1) := dk_42 (dk_at dksX2_toldNumber_2 0 rfl rfl)
theorem dX2_toldNumber_47 : decode cX2_toldNumber 47 = .ok (.getfield 209, 3) := dk_180 0 209 (dk_at dksX2_toldNumber_2 1 rfl rfl)
theorem dX2_toldNumber_50 : decode cX2_toldNumber 50 = .ok (.istore_n 3, 1) := dk_62 (dk_at dksX2_toldNumber_2 4 rfl rfl)
theorem dX2_toldNumber_51 : decode cX2_toldNumber 51 = .ok (.aload_n 0, 1) := dk_42 (dk_at dksX2_toldNumber_2 5 rfl rfl)
theorem dX2_toldNumber_52 : decode cX2_toldNumber 52 = .ok (.getfield 225, 3) := dk_180 0 225 (dk_at dksX2_toldNumber_2 6 rfl rfl)
theorem dX2_toldNumber_55 : decode cX2_toldNumber 55 = .ok (.ifCond .ne 7, 3) := dk_154 0 7 (dk_at dksX2_toldNumber_2 9 rfl rfl)
theorem dX2_toldNumber_58 : decode cX2_toldNumber 58 = .ok (.aload_n 0, 1) := dk_42 (dk_at dksX2_toldNumber_2 12 rfl rfl)
theorem dX2_toldNumber_59 : decode cX2_toldNumber 59 = .ok (.invokevirtual 289, 3) := dk_182 1 33 (dk_at dksX2_toldNumber_2 13 rfl rfl)
theorem dX2_toldNumber_62 : decode cX2_toldNumber 62 = .ok (.iload_n 3, 1) := dk_29 (dk_at dksX2_toldNumber_2 16 rfl rfl)
theorem dX2_toldNumber_63 : decode cX2_toldNumber 63 = .ok (.ireturn, 1) := dk_172 (dk_at dksX2_toldNumber_2 17 rfl rfl)
abbrev cX2_readTold : ByteArray := prog_28_method_22_code
def yX2_readTold : MethodName := ⟨RX2, "readTold", "(I)V"⟩
def dkwX2_readTold_10 : List UInt8 := [42, 180, 0, 17, 16, 11, 42, 20, 1, 0, 4, 16, 99, 182, 1, 54, 79, 177]
abbrev dktX2_readTold_10 : List UInt8 := dkwX2_readTold_10 ++ []
def dkwX2_readTold_9 : List UInt8 := [182, 1, 58, 79, 167, 0, 37, 42, 180, 0, 17, 16, 10, 42, 20, 0, 228, 4, 16, 99, 182, 1, 54, 79]
abbrev dktX2_readTold_9 : List UInt8 := dkwX2_readTold_9 ++ dktX2_readTold_10
def dkwX2_readTold_8 : List UInt8 := [16, 8, 42, 16, 157, 16, 99, 182, 1, 58, 79, 42, 180, 0, 17, 16, 9, 42, 16, 157, 16, 99]
abbrev dktX2_readTold_8 : List UInt8 := dkwX2_readTold_8 ++ dktX2_readTold_9
def dkwX2_readTold_7 : List UInt8 := [180, 0, 17, 16, 7, 42, 20, 0, 250, 4, 16, 6, 182, 1, 54, 79, 167, 0, 70, 42, 180, 0, 17]
abbrev dktX2_readTold_7 : List UInt8 := dkwX2_readTold_7 ++ dktX2_readTold_8
def dkwX2_readTold_6 : List UInt8 := [182, 1, 50, 79, 167, 0, 106, 42, 180, 0, 17, 16, 6, 42, 16, 100, 17, 3, 231, 182, 1, 50, 79, 42]
abbrev dktX2_readTold_6 : List UInt8 := dkwX2_readTold_6 ++ dktX2_readTold_7
def dkwX2_readTold_5 : List UInt8 := [180, 0, 17, 7, 42, 3, 8, 182, 1, 50, 79, 167, 0, 123, 42, 180, 0, 17, 8, 42, 4, 17, 39, 15]
abbrev dktX2_readTold_5 : List UInt8 := dkwX2_readTold_5 ++ dktX2_readTold_6
def dkwX2_readTold_4 : List UInt8 := [182, 1, 54, 79, 167, 0, 154, 42, 180, 0, 17, 6, 42, 3, 16, 9, 182, 1, 50, 79, 167, 0, 138, 42]
abbrev dktX2_readTold_4 : List UInt8 := dkwX2_readTold_4 ++ dktX2_readTold_5
def dkwX2_readTold_3 : List UInt8 := [20, 0, 238, 4, 16, 9, 182, 1, 54, 79, 42, 180, 0, 17, 5, 42, 20, 0, 240, 4, 17, 3, 231]
abbrev dktX2_readTold_3 : List UInt8 := dkwX2_readTold_3 ++ dktX2_readTold_4
def dkwX2_readTold_2 : List UInt8 := [42, 180, 0, 17, 3, 42, 20, 0, 236, 7, 16, 16, 182, 1, 54, 79, 42, 180, 0, 17, 4, 42]
abbrev dktX2_readTold_2 : List UInt8 := dkwX2_readTold_2 ++ dktX2_readTold_3
def dkwX2_readTold_1 : List UInt8 := [170, 0, 0, 0, 0, 0, 0, 221, 0, 0, 0, 0, 0, 0, 0, 8, 0, 0, 0, 52, 0, 0, 0, 221, 0, 0, 0, 221, 0, 0, 0, 104, 0, 0, 0, 120, 0, 0, 0, 135, 0, 0, 0, 152, 0, 0, 0, 221, 0, 0, 0, 188]
abbrev dktX2_readTold_1 : List UInt8 := dkwX2_readTold_1 ++ dktX2_readTold_2
def dkwX2_readTold_0 : List UInt8 := [42, 180, 0, 41, 27, 4, 84, 42, 182, 1, 33, 27]
abbrev dktX2_readTold_0 : List UInt8 := dkwX2_readTold_0 ++ dktX2_readTold_1
theorem dksX2_readTold_0 : cX2_readTold.data.toList.drop 0 = dktX2_readTold_0 := by decide +kernel
theorem dksX2_readTold_1 : cX2_readTold.data.toList.drop 12 = dktX2_readTold_1 := dk_seg dksX2_readTold_0 12 rfl rfl
theorem dksX2_readTold_2 : cX2_readTold.data.toList.drop 64 = dktX2_readTold_2 := dk_seg dksX2_readTold_1 52 rfl rfl
theorem dksX2_readTold_3 : cX2_readTold.data.toList.drop 86 = dktX2_readTold_3 := dk_seg dksX2_readTold_2 22 rfl rfl
theorem dksX2_readTold_4 : cX2_readTold.data.toList.drop 109 = dktX2_readTold_4 := dk_seg dksX2_readTold_3 23 rfl rfl
theorem dksX2_readTold_5 : cX2_readTold.data.toList.drop 133 = dktX2_readTold_5 := dk_seg dksX2_readTold_4 24 rfl rfl
theorem dksX2_readTold_6 : cX2_readTold.data.toList.drop 157 = dktX2_readTold_6 := dk_seg dksX2_readTold_5 24 rfl rfl
theorem dksX2_readTold_7 : cX2_readTold.data.toList.drop 181 = dktX2_readTold_7 := dk_seg dksX2_readTold_6 24 rfl rfl
theorem dksX2_readTold_8 : cX2_readTold.data.toList.drop 204 = dktX2_readTold_8 := dk_seg dksX2_readTold_7 23 rfl rfl
theorem dksX2_readTold_9 : cX2_readTold.data.toList.drop 226 = dktX2_readTold_9 := dk_seg dksX2_readTold_8 22 rfl rfl
theorem dksX2_readTold_10 : cX2_readTold.data.toList.drop 250 = dktX2_readTold_10 := dk_seg dksX2_readTold_9 24 rfl rfl
theorem dX2_readTold_0 : decode cX2_readTold 0 = .ok (.aload_n 0, 1) := dk_42 (dk_at dksX2_readTold_0 0 rfl rfl)
theorem dX2_readTold_1 : decode cX2_readTold 1 = .ok (.getfield 41, 3) := dk_180 0 41 (dk_at dksX2_readTold_0 1 rfl rfl)
theorem dX2_readTold_4 : decode cX2_readTold 4 = .ok (.iload_n 1, 1) := dk_27 (dk_at dksX2_readTold_0 4 rfl rfl)
theorem dX2_readTold_5 : decode cX2_readTold 5 = .ok (.iconst 1, 1) := dk_4 (dk_at dksX2_readTold_0 5 rfl rfl)
theorem dX2_readTold_6 : decode cX2_readTold 6 = .ok (.bastore, 1) := dk_84 (dk_at dksX2_readTold_0 6 rfl rfl)
theorem dX2_readTold_7 : decode cX2_readTold 7 = .ok (.aload_n 0, 1) := dk_42 (dk_at dksX2_readTold_0 7 rfl rfl)
theorem dX2_readTold_8 : decode cX2_readTold 8 = .ok (.invokevirtual 289, 3) := dk_182 1 33 (dk_at dksX2_readTold_0 8 rfl rfl)
theorem dX2_readTold_11 : decode cX2_readTold 11 = .ok (.iload_n 1, 1) := dk_27 (dk_at dksX2_readTold_0 11 rfl rfl)
theorem dX2_readTold_12 : decode cX2_readTold 12 = .ok (.tableswitch 221 0 8 #[52, 221, 221, 104, 120, 135, 152, 221, 188], 52) := by decide +kernel
theorem dX2_readTold_64 : decode cX2_readTold 64 = .ok (.aload_n 0, 1) := dk_42 (dk_at dksX2_readTold_2 0 rfl rfl)
theorem dX2_readTold_65 : decode cX2_readTold 65 = .ok (.getfield 17, 3) := dk_180 0 17 (dk_at dksX2_readTold_2 1 rfl rfl)
theorem dX2_readTold_68 : decode cX2_readTold 68 = .ok (.iconst 0, 1) := dk_3 (dk_at dksX2_readTold_2 4 rfl rfl)
theorem dX2_readTold_69 : decode cX2_readTold 69 = .ok (.aload_n 0, 1) := dk_42 (dk_at dksX2_readTold_2 5 rfl rfl)
theorem dX2_readTold_70 : decode cX2_readTold 70 = .ok (.ldc2_w 236, 3) := dk_20 0 236 (dk_at dksX2_readTold_2 6 rfl rfl)
theorem dX2_readTold_73 : decode cX2_readTold 73 = .ok (.iconst 4, 1) := dk_7 (dk_at dksX2_readTold_2 9 rfl rfl)
theorem dX2_readTold_74 : decode cX2_readTold 74 = .ok (.bipush 16, 2) := dk_16 16 (dk_at dksX2_readTold_2 10 rfl rfl)
theorem dX2_readTold_76 : decode cX2_readTold 76 = .ok (.invokevirtual 310, 3) := dk_182 1 54 (dk_at dksX2_readTold_2 12 rfl rfl)
theorem dX2_readTold_79 : decode cX2_readTold 79 = .ok (.iastore, 1) := dk_79 (dk_at dksX2_readTold_2 15 rfl rfl)
theorem dX2_readTold_80 : decode cX2_readTold 80 = .ok (.aload_n 0, 1) := dk_42 (dk_at dksX2_readTold_2 16 rfl rfl)
theorem dX2_readTold_81 : decode cX2_readTold 81 = .ok (.getfield 17, 3) := dk_180 0 17 (dk_at dksX2_readTold_2 17 rfl rfl)
theorem dX2_readTold_84 : decode cX2_readTold 84 = .ok (.iconst 1, 1) := dk_4 (dk_at dksX2_readTold_2 20 rfl rfl)
theorem dX2_readTold_85 : decode cX2_readTold 85 = .ok (.aload_n 0, 1) := dk_42 (dk_at dksX2_readTold_2 21 rfl rfl)
theorem dX2_readTold_86 : decode cX2_readTold 86 = .ok (.ldc2_w 238, 3) := dk_20 0 238 (dk_at dksX2_readTold_3 0 rfl rfl)
theorem dX2_readTold_89 : decode cX2_readTold 89 = .ok (.iconst 1, 1) := dk_4 (dk_at dksX2_readTold_3 3 rfl rfl)
theorem dX2_readTold_90 : decode cX2_readTold 90 = .ok (.bipush 9, 2) := dk_16 9 (dk_at dksX2_readTold_3 4 rfl rfl)
theorem dX2_readTold_92 : decode cX2_readTold 92 = .ok (.invokevirtual 310, 3) := dk_182 1 54 (dk_at dksX2_readTold_3 6 rfl rfl)
theorem dX2_readTold_95 : decode cX2_readTold 95 = .ok (.iastore, 1) := dk_79 (dk_at dksX2_readTold_3 9 rfl rfl)
theorem dX2_readTold_96 : decode cX2_readTold 96 = .ok (.aload_n 0, 1) := dk_42 (dk_at dksX2_readTold_3 10 rfl rfl)
theorem dX2_readTold_97 : decode cX2_readTold 97 = .ok (.getfield 17, 3) := dk_180 0 17 (dk_at dksX2_readTold_3 11 rfl rfl)
theorem dX2_readTold_100 : decode cX2_readTold 100 = .ok (.iconst 2, 1) := dk_5 (dk_at dksX2_readTold_3 14 rfl rfl)
theorem dX2_readTold_101 : decode cX2_readTold 101 = .ok (.aload_n 0, 1) := dk_42 (dk_at dksX2_readTold_3 15 rfl rfl)
theorem dX2_readTold_102 : decode cX2_readTold 102 = .ok (.ldc2_w 240, 3) := dk_20 0 240 (dk_at dksX2_readTold_3 16 rfl rfl)
theorem dX2_readTold_105 : decode cX2_readTold 105 = .ok (.iconst 1, 1) := dk_4 (dk_at dksX2_readTold_3 19 rfl rfl)
theorem dX2_readTold_106 : decode cX2_readTold 106 = .ok (.sipush 999, 3) := dk_17 3 231 (dk_at dksX2_readTold_3 20 rfl rfl)
theorem dX2_readTold_109 : decode cX2_readTold 109 = .ok (.invokevirtual 310, 3) := dk_182 1 54 (dk_at dksX2_readTold_4 0 rfl rfl)
theorem dX2_readTold_112 : decode cX2_readTold 112 = .ok (.iastore, 1) := dk_79 (dk_at dksX2_readTold_4 3 rfl rfl)
theorem dX2_readTold_113 : decode cX2_readTold 113 = .ok (.goto 154, 3) := dk_167 0 154 (dk_at dksX2_readTold_4 4 rfl rfl)
theorem dX2_readTold_116 : decode cX2_readTold 116 = .ok (.aload_n 0, 1) := dk_42 (dk_at dksX2_readTold_4 7 rfl rfl)
theorem dX2_readTold_117 : decode cX2_readTold 117 = .ok (.getfield 17, 3) := dk_180 0 17 (dk_at dksX2_readTold_4 8 rfl rfl)
theorem dX2_readTold_120 : decode cX2_readTold 120 = .ok (.iconst 3, 1) := dk_6 (dk_at dksX2_readTold_4 11 rfl rfl)
theorem dX2_readTold_121 : decode cX2_readTold 121 = .ok (.aload_n 0, 1) := dk_42 (dk_at dksX2_readTold_4 12 rfl rfl)
theorem dX2_readTold_122 : decode cX2_readTold 122 = .ok (.iconst 0, 1) := dk_3 (dk_at dksX2_readTold_4 13 rfl rfl)
theorem dX2_readTold_123 : decode cX2_readTold 123 = .ok (.bipush 9, 2) := dk_16 9 (dk_at dksX2_readTold_4 14 rfl rfl)
theorem dX2_readTold_125 : decode cX2_readTold 125 = .ok (.invokevirtual 306, 3) := dk_182 1 50 (dk_at dksX2_readTold_4 16 rfl rfl)
theorem dX2_readTold_128 : decode cX2_readTold 128 = .ok (.iastore, 1) := dk_79 (dk_at dksX2_readTold_4 19 rfl rfl)
theorem dX2_readTold_129 : decode cX2_readTold 129 = .ok (.goto 138, 3) := dk_167 0 138 (dk_at dksX2_readTold_4 20 rfl rfl)
theorem dX2_readTold_132 : decode cX2_readTold 132 = .ok (.aload_n 0, 1) := dk_42 (dk_at dksX2_readTold_4 23 rfl rfl)
theorem dX2_readTold_133 : decode cX2_readTold 133 = .ok (.getfield 17, 3) := dk_180 0 17 (dk_at dksX2_readTold_5 0 rfl rfl)
theorem dX2_readTold_136 : decode cX2_readTold 136 = .ok (.iconst 4, 1) := dk_7 (dk_at dksX2_readTold_5 3 rfl rfl)
theorem dX2_readTold_137 : decode cX2_readTold 137 = .ok (.aload_n 0, 1) := dk_42 (dk_at dksX2_readTold_5 4 rfl rfl)
theorem dX2_readTold_138 : decode cX2_readTold 138 = .ok (.iconst 0, 1) := dk_3 (dk_at dksX2_readTold_5 5 rfl rfl)
theorem dX2_readTold_139 : decode cX2_readTold 139 = .ok (.iconst 5, 1) := dk_8 (dk_at dksX2_readTold_5 6 rfl rfl)
theorem dX2_readTold_140 : decode cX2_readTold 140 = .ok (.invokevirtual 306, 3) := dk_182 1 50 (dk_at dksX2_readTold_5 7 rfl rfl)
theorem dX2_readTold_143 : decode cX2_readTold 143 = .ok (.iastore, 1) := dk_79 (dk_at dksX2_readTold_5 10 rfl rfl)
theorem dX2_readTold_144 : decode cX2_readTold 144 = .ok (.goto 123, 3) := dk_167 0 123 (dk_at dksX2_readTold_5 11 rfl rfl)
theorem dX2_readTold_147 : decode cX2_readTold 147 = .ok (.aload_n 0, 1) := dk_42 (dk_at dksX2_readTold_5 14 rfl rfl)
theorem dX2_readTold_148 : decode cX2_readTold 148 = .ok (.getfield 17, 3) := dk_180 0 17 (dk_at dksX2_readTold_5 15 rfl rfl)
theorem dX2_readTold_151 : decode cX2_readTold 151 = .ok (.iconst 5, 1) := dk_8 (dk_at dksX2_readTold_5 18 rfl rfl)
theorem dX2_readTold_152 : decode cX2_readTold 152 = .ok (.aload_n 0, 1) := dk_42 (dk_at dksX2_readTold_5 19 rfl rfl)
theorem dX2_readTold_153 : decode cX2_readTold 153 = .ok (.iconst 1, 1) := dk_4 (dk_at dksX2_readTold_5 20 rfl rfl)
theorem dX2_readTold_154 : decode cX2_readTold 154 = .ok (.sipush 9999, 3) := dk_17 39 15 (dk_at dksX2_readTold_5 21 rfl rfl)
theorem dX2_readTold_157 : decode cX2_readTold 157 = .ok (.invokevirtual 306, 3) := dk_182 1 50 (dk_at dksX2_readTold_6 0 rfl rfl)
theorem dX2_readTold_160 : decode cX2_readTold 160 = .ok (.iastore, 1) := dk_79 (dk_at dksX2_readTold_6 3 rfl rfl)
theorem dX2_readTold_161 : decode cX2_readTold 161 = .ok (.goto 106, 3) := dk_167 0 106 (dk_at dksX2_readTold_6 4 rfl rfl)
theorem dX2_readTold_164 : decode cX2_readTold 164 = .ok (.aload_n 0, 1) := dk_42 (dk_at dksX2_readTold_6 7 rfl rfl)
theorem dX2_readTold_165 : decode cX2_readTold 165 = .ok (.getfield 17, 3) := dk_180 0 17 (dk_at dksX2_readTold_6 8 rfl rfl)
theorem dX2_readTold_168 : decode cX2_readTold 168 = .ok (.bipush 6, 2) := dk_16 6 (dk_at dksX2_readTold_6 11 rfl rfl)
theorem dX2_readTold_170 : decode cX2_readTold 170 = .ok (.aload_n 0, 1) := dk_42 (dk_at dksX2_readTold_6 13 rfl rfl)
theorem dX2_readTold_171 : decode cX2_readTold 171 = .ok (.bipush 100, 2) := dk_16 100 (dk_at dksX2_readTold_6 14 rfl rfl)
theorem dX2_readTold_173 : decode cX2_readTold 173 = .ok (.sipush 999, 3) := dk_17 3 231 (dk_at dksX2_readTold_6 16 rfl rfl)
theorem dX2_readTold_176 : decode cX2_readTold 176 = .ok (.invokevirtual 306, 3) := dk_182 1 50 (dk_at dksX2_readTold_6 19 rfl rfl)
theorem dX2_readTold_179 : decode cX2_readTold 179 = .ok (.iastore, 1) := dk_79 (dk_at dksX2_readTold_6 22 rfl rfl)
theorem dX2_readTold_180 : decode cX2_readTold 180 = .ok (.aload_n 0, 1) := dk_42 (dk_at dksX2_readTold_6 23 rfl rfl)
theorem dX2_readTold_181 : decode cX2_readTold 181 = .ok (.getfield 17, 3) := dk_180 0 17 (dk_at dksX2_readTold_7 0 rfl rfl)
theorem dX2_readTold_184 : decode cX2_readTold 184 = .ok (.bipush 7, 2) := dk_16 7 (dk_at dksX2_readTold_7 3 rfl rfl)
theorem dX2_readTold_186 : decode cX2_readTold 186 = .ok (.aload_n 0, 1) := dk_42 (dk_at dksX2_readTold_7 5 rfl rfl)
theorem dX2_readTold_187 : decode cX2_readTold 187 = .ok (.ldc2_w 250, 3) := dk_20 0 250 (dk_at dksX2_readTold_7 6 rfl rfl)
theorem dX2_readTold_190 : decode cX2_readTold 190 = .ok (.iconst 1, 1) := dk_4 (dk_at dksX2_readTold_7 9 rfl rfl)
theorem dX2_readTold_191 : decode cX2_readTold 191 = .ok (.bipush 6, 2) := dk_16 6 (dk_at dksX2_readTold_7 10 rfl rfl)
theorem dX2_readTold_193 : decode cX2_readTold 193 = .ok (.invokevirtual 310, 3) := dk_182 1 54 (dk_at dksX2_readTold_7 12 rfl rfl)
theorem dX2_readTold_196 : decode cX2_readTold 196 = .ok (.iastore, 1) := dk_79 (dk_at dksX2_readTold_7 15 rfl rfl)
theorem dX2_readTold_197 : decode cX2_readTold 197 = .ok (.goto 70, 3) := dk_167 0 70 (dk_at dksX2_readTold_7 16 rfl rfl)
theorem dX2_readTold_200 : decode cX2_readTold 200 = .ok (.aload_n 0, 1) := dk_42 (dk_at dksX2_readTold_7 19 rfl rfl)
theorem dX2_readTold_201 : decode cX2_readTold 201 = .ok (.getfield 17, 3) := dk_180 0 17 (dk_at dksX2_readTold_7 20 rfl rfl)
theorem dX2_readTold_204 : decode cX2_readTold 204 = .ok (.bipush 8, 2) := dk_16 8 (dk_at dksX2_readTold_8 0 rfl rfl)
theorem dX2_readTold_206 : decode cX2_readTold 206 = .ok (.aload_n 0, 1) := dk_42 (dk_at dksX2_readTold_8 2 rfl rfl)
theorem dX2_readTold_207 : decode cX2_readTold 207 = .ok (.bipush (-99), 2) := dk_16 157 (dk_at dksX2_readTold_8 3 rfl rfl)
theorem dX2_readTold_209 : decode cX2_readTold 209 = .ok (.bipush 99, 2) := dk_16 99 (dk_at dksX2_readTold_8 5 rfl rfl)
theorem dX2_readTold_211 : decode cX2_readTold 211 = .ok (.invokevirtual 314, 3) := dk_182 1 58 (dk_at dksX2_readTold_8 7 rfl rfl)
theorem dX2_readTold_214 : decode cX2_readTold 214 = .ok (.iastore, 1) := dk_79 (dk_at dksX2_readTold_8 10 rfl rfl)
theorem dX2_readTold_215 : decode cX2_readTold 215 = .ok (.aload_n 0, 1) := dk_42 (dk_at dksX2_readTold_8 11 rfl rfl)
theorem dX2_readTold_216 : decode cX2_readTold 216 = .ok (.getfield 17, 3) := dk_180 0 17 (dk_at dksX2_readTold_8 12 rfl rfl)
theorem dX2_readTold_219 : decode cX2_readTold 219 = .ok (.bipush 9, 2) := dk_16 9 (dk_at dksX2_readTold_8 15 rfl rfl)
theorem dX2_readTold_221 : decode cX2_readTold 221 = .ok (.aload_n 0, 1) := dk_42 (dk_at dksX2_readTold_8 17 rfl rfl)
theorem dX2_readTold_222 : decode cX2_readTold 222 = .ok (.bipush (-99), 2) := dk_16 157 (dk_at dksX2_readTold_8 18 rfl rfl)
theorem dX2_readTold_224 : decode cX2_readTold 224 = .ok (.bipush 99, 2) := dk_16 99 (dk_at dksX2_readTold_8 20 rfl rfl)
theorem dX2_readTold_226 : decode cX2_readTold 226 = .ok (.invokevirtual 314, 3) := dk_182 1 58 (dk_at dksX2_readTold_9 0 rfl rfl)
theorem dX2_readTold_229 : decode cX2_readTold 229 = .ok (.iastore, 1) := dk_79 (dk_at dksX2_readTold_9 3 rfl rfl)
theorem dX2_readTold_230 : decode cX2_readTold 230 = .ok (.goto 37, 3) := dk_167 0 37 (dk_at dksX2_readTold_9 4 rfl rfl)
theorem dX2_readTold_233 : decode cX2_readTold 233 = .ok (.aload_n 0, 1) := dk_42 (dk_at dksX2_readTold_9 7 rfl rfl)
theorem dX2_readTold_234 : decode cX2_readTold 234 = .ok (.getfield 17, 3) := dk_180 0 17 (dk_at dksX2_readTold_9 8 rfl rfl)
theorem dX2_readTold_237 : decode cX2_readTold 237 = .ok (.bipush 10, 2) := dk_16 10 (dk_at dksX2_readTold_9 11 rfl rfl)
theorem dX2_readTold_239 : decode cX2_readTold 239 = .ok (.aload_n 0, 1) := dk_42 (dk_at dksX2_readTold_9 13 rfl rfl)
theorem dX2_readTold_240 : decode cX2_readTold 240 = .ok (.ldc2_w 228, 3) := dk_20 0 228 (dk_at dksX2_readTold_9 14 rfl rfl)
theorem dX2_readTold_243 : decode cX2_readTold 243 = .ok (.iconst 1, 1) := dk_4 (dk_at dksX2_readTold_9 17 rfl rfl)
theorem dX2_readTold_244 : decode cX2_readTold 244 = .ok (.bipush 99, 2) := dk_16 99 (dk_at dksX2_readTold_9 18 rfl rfl)
theorem dX2_readTold_246 : decode cX2_readTold 246 = .ok (.invokevirtual 310, 3) := dk_182 1 54 (dk_at dksX2_readTold_9 20 rfl rfl)
theorem dX2_readTold_249 : decode cX2_readTold 249 = .ok (.iastore, 1) := dk_79 (dk_at dksX2_readTold_9 23 rfl rfl)
theorem dX2_readTold_250 : decode cX2_readTold 250 = .ok (.aload_n 0, 1) := dk_42 (dk_at dksX2_readTold_10 0 rfl rfl)
theorem dX2_readTold_251 : decode cX2_readTold 251 = .ok (.getfield 17, 3) := dk_180 0 17 (dk_at dksX2_readTold_10 1 rfl rfl)
theorem dX2_readTold_254 : decode cX2_readTold 254 = .ok (.bipush 11, 2) := dk_16 11 (dk_at dksX2_readTold_10 4 rfl rfl)
theorem dX2_readTold_256 : decode cX2_readTold 256 = .ok (.aload_n 0, 1) := dk_42 (dk_at dksX2_readTold_10 6 rfl rfl)
theorem dX2_readTold_257 : decode cX2_readTold 257 = .ok (.ldc2_w 256, 3) := dk_20 1 0 (dk_at dksX2_readTold_10 7 rfl rfl)
theorem dX2_readTold_260 : decode cX2_readTold 260 = .ok (.iconst 1, 1) := dk_4 (dk_at dksX2_readTold_10 10 rfl rfl)
theorem dX2_readTold_261 : decode cX2_readTold 261 = .ok (.bipush 99, 2) := dk_16 99 (dk_at dksX2_readTold_10 11 rfl rfl)
theorem dX2_readTold_263 : decode cX2_readTold 263 = .ok (.invokevirtual 310, 3) := dk_182 1 54 (dk_at dksX2_readTold_10 13 rfl rfl)
theorem dX2_readTold_266 : decode cX2_readTold 266 = .ok (.iastore, 1) := dk_79 (dk_at dksX2_readTold_10 16 rfl rfl)
theorem dX2_readTold_267 : decode cX2_readTold 267 = .ok (.return_, 1) := dk_177 (dk_at dksX2_readTold_10 17 rfl rfl)
abbrev cX2_toldBy : ByteArray := prog_28_method_21_code
def yX2_toldBy : MethodName := ⟨RX2, "toldBy", "(JII)I"⟩
def dkwX2_toldBy_0 : List UInt8 := [42, 31, 182, 1, 46, 42, 29, 21, 4, 182, 1, 50, 172]
abbrev dktX2_toldBy_0 : List UInt8 := dkwX2_toldBy_0 ++ []
theorem dksX2_toldBy_0 : cX2_toldBy.data.toList.drop 0 = dktX2_toldBy_0 := by decide +kernel
theorem dX2_toldBy_0 : decode cX2_toldBy 0 = .ok (.aload_n 0, 1) := dk_42 (dk_at dksX2_toldBy_0 0 rfl rfl)
theorem dX2_toldBy_1 : decode cX2_toldBy 1 = .ok (.lload_n 1, 1) := dk_31 (dk_at dksX2_toldBy_0 1 rfl rfl)
theorem dX2_toldBy_2 : decode cX2_toldBy 2 = .ok (.invokevirtual 302, 3) := dk_182 1 46 (dk_at dksX2_toldBy_0 2 rfl rfl)
theorem dX2_toldBy_5 : decode cX2_toldBy 5 = .ok (.aload_n 0, 1) := dk_42 (dk_at dksX2_toldBy_0 5 rfl rfl)
theorem dX2_toldBy_6 : decode cX2_toldBy 6 = .ok (.iload_n 3, 1) := dk_29 (dk_at dksX2_toldBy_0 6 rfl rfl)
theorem dX2_toldBy_7 : decode cX2_toldBy 7 = .ok (.iload 4, 2) := dk_21 4 (dk_at dksX2_toldBy_0 7 rfl rfl)
theorem dX2_toldBy_9 : decode cX2_toldBy 9 = .ok (.invokevirtual 306, 3) := dk_182 1 50 (dk_at dksX2_toldBy_0 9 rfl rfl)
theorem dX2_toldBy_12 : decode cX2_toldBy 12 = .ok (.ireturn, 1) := dk_172 (dk_at dksX2_toldBy_0 12 rfl rfl)
abbrev cX2_signed : ByteArray := prog_28_method_16_code
def yX2_signed : MethodName := ⟨RX2, "signed", "(II)I"⟩
def dkwX2_signed_4 : List UInt8 := [167, 0, 7, 42, 182, 1, 33, 21, 5, 172]
abbrev dktX2_signed_4 : List UInt8 := dkwX2_signed_4 ++ []
def dkwX2_signed_3 : List UInt8 := [54, 5, 21, 5, 27, 161, 0, 9, 21, 5, 28, 164, 0, 16, 42, 7, 181, 0, 225, 42, 29, 181, 0, 13]
abbrev dktX2_signed_3 : List UInt8 := dkwX2_signed_3 ++ dktX2_signed_4
def dkwX2_signed_2 : List UInt8 := [5, 182, 1, 30, 3, 172, 21, 4, 153, 0, 11, 42, 180, 0, 209, 116, 167, 0, 7, 42, 180, 0, 209]
abbrev dktX2_signed_2 : List UInt8 := dkwX2_signed_2 ++ dktX2_signed_3
def dkwX2_signed_1 : List UInt8 := [167, 0, 4, 3, 54, 4, 21, 4, 153, 0, 7, 42, 182, 1, 33, 42, 180, 0, 212, 5, 159, 0, 10, 42]
abbrev dktX2_signed_1 : List UInt8 := dkwX2_signed_1 ++ dktX2_signed_2
def dkwX2_signed_0 : List UInt8 := [42, 180, 0, 225, 158, 0, 5, 3, 172, 42, 180, 0, 202, 62, 42, 180, 0, 212, 16, 45, 160, 0, 7, 4]
abbrev dktX2_signed_0 : List UInt8 := dkwX2_signed_0 ++ dktX2_signed_1
theorem dksX2_signed_0 : cX2_signed.data.toList.drop 0 = dktX2_signed_0 := by decide +kernel
theorem dksX2_signed_1 : cX2_signed.data.toList.drop 24 = dktX2_signed_1 := dk_seg dksX2_signed_0 24 rfl rfl
theorem dksX2_signed_2 : cX2_signed.data.toList.drop 48 = dktX2_signed_2 := dk_seg dksX2_signed_1 24 rfl rfl
theorem dksX2_signed_3 : cX2_signed.data.toList.drop 71 = dktX2_signed_3 := dk_seg dksX2_signed_2 23 rfl rfl
theorem dksX2_signed_4 : cX2_signed.data.toList.drop 95 = dktX2_signed_4 := dk_seg dksX2_signed_3 24 rfl rfl
theorem dX2_signed_0 : decode cX2_signed 0 = .ok (.aload_n 0, 1) := dk_42 (dk_at dksX2_signed_0 0 rfl rfl)
theorem dX2_signed_1 : decode cX2_signed 1 = .ok (.getfield 225, 3) := dk_180 0 225 (dk_at dksX2_signed_0 1 rfl rfl)
theorem dX2_signed_4 : decode cX2_signed 4 = .ok (.ifCond .le 5, 3) := dk_158 0 5 (dk_at dksX2_signed_0 4 rfl rfl)
theorem dX2_signed_7 : decode cX2_signed 7 = .ok (.iconst 0, 1) := dk_3 (dk_at dksX2_signed_0 7 rfl rfl)
theorem dX2_signed_8 : decode cX2_signed 8 = .ok (.ireturn, 1) := dk_172 (dk_at dksX2_signed_0 8 rfl rfl)
theorem dX2_signed_9 : decode cX2_signed 9 = .ok (.aload_n 0, 1) := dk_42 (dk_at dksX2_signed_0 9 rfl rfl)
theorem dX2_signed_10 : decode cX2_signed 10 = .ok (.getfield 202, 3) := dk_180 0 202 (dk_at dksX2_signed_0 10 rfl rfl)
theorem dX2_signed_13 : decode cX2_signed 13 = .ok (.istore_n 3, 1) := dk_62 (dk_at dksX2_signed_0 13 rfl rfl)
theorem dX2_signed_14 : decode cX2_signed 14 = .ok (.aload_n 0, 1) := dk_42 (dk_at dksX2_signed_0 14 rfl rfl)
theorem dX2_signed_15 : decode cX2_signed 15 = .ok (.getfield 212, 3) := dk_180 0 212 (dk_at dksX2_signed_0 15 rfl rfl)
theorem dX2_signed_18 : decode cX2_signed 18 = .ok (.bipush 45, 2) := dk_16 45 (dk_at dksX2_signed_0 18 rfl rfl)
theorem dX2_signed_20 : decode cX2_signed 20 = .ok (.if_icmp .ne 7, 3) := dk_160 0 7 (dk_at dksX2_signed_0 20 rfl rfl)
theorem dX2_signed_23 : decode cX2_signed 23 = .ok (.iconst 1, 1) := dk_4 (dk_at dksX2_signed_0 23 rfl rfl)
theorem dX2_signed_24 : decode cX2_signed 24 = .ok (.goto 4, 3) := dk_167 0 4 (dk_at dksX2_signed_1 0 rfl rfl)
theorem dX2_signed_27 : decode cX2_signed 27 = .ok (.iconst 0, 1) := dk_3 (dk_at dksX2_signed_1 3 rfl rfl)
theorem dX2_signed_28 : decode cX2_signed 28 = .ok (.istore 4, 2) := dk_54 4 (dk_at dksX2_signed_1 4 rfl rfl)
theorem dX2_signed_30 : decode cX2_signed 30 = .ok (.iload 4, 2) := dk_21 4 (dk_at dksX2_signed_1 6 rfl rfl)
theorem dX2_signed_32 : decode cX2_signed 32 = .ok (.ifCond .eq 7, 3) := dk_153 0 7 (dk_at dksX2_signed_1 8 rfl rfl)
theorem dX2_signed_35 : decode cX2_signed 35 = .ok (.aload_n 0, 1) := dk_42 (dk_at dksX2_signed_1 11 rfl rfl)
theorem dX2_signed_36 : decode cX2_signed 36 = .ok (.invokevirtual 289, 3) := dk_182 1 33 (dk_at dksX2_signed_1 12 rfl rfl)
theorem dX2_signed_39 : decode cX2_signed 39 = .ok (.aload_n 0, 1) := dk_42 (dk_at dksX2_signed_1 15 rfl rfl)
theorem dX2_signed_40 : decode cX2_signed 40 = .ok (.getfield 212, 3) := dk_180 0 212 (dk_at dksX2_signed_1 16 rfl rfl)
theorem dX2_signed_43 : decode cX2_signed 43 = .ok (.iconst 2, 1) := dk_5 (dk_at dksX2_signed_1 19 rfl rfl)
theorem dX2_signed_44 : decode cX2_signed 44 = .ok (.if_icmp .eq 10, 3) := dk_159 0 10 (dk_at dksX2_signed_1 20 rfl rfl)
theorem dX2_signed_47 : decode cX2_signed 47 = .ok (.aload_n 0, 1) := dk_42 (dk_at dksX2_signed_1 23 rfl rfl)
theorem dX2_signed_48 : decode cX2_signed 48 = .ok (.iconst 2, 1) := dk_5 (dk_at dksX2_signed_2 0 rfl rfl)
theorem dX2_signed_49 : decode cX2_signed 49 = .ok (.invokevirtual 286, 3) := dk_182 1 30 (dk_at dksX2_signed_2 1 rfl rfl)
theorem dX2_signed_52 : decode cX2_signed 52 = .ok (.iconst 0, 1) := dk_3 (dk_at dksX2_signed_2 4 rfl rfl)
theorem dX2_signed_53 : decode cX2_signed 53 = .ok (.ireturn, 1) := dk_172 (dk_at dksX2_signed_2 5 rfl rfl)
theorem dX2_signed_54 : decode cX2_signed 54 = .ok (.iload 4, 2) := dk_21 4 (dk_at dksX2_signed_2 6 rfl rfl)
theorem dX2_signed_56 : decode cX2_signed 56 = .ok (.ifCond .eq 11, 3) := dk_153 0 11 (dk_at dksX2_signed_2 8 rfl rfl)
theorem dX2_signed_59 : decode cX2_signed 59 = .ok (.aload_n 0, 1) := dk_42 (dk_at dksX2_signed_2 11 rfl rfl)
theorem dX2_signed_60 : decode cX2_signed 60 = .ok (.getfield 209, 3) := dk_180 0 209 (dk_at dksX2_signed_2 12 rfl rfl)
theorem dX2_signed_63 : decode cX2_signed 63 = .ok (.ineg, 1) := dk_116 (dk_at dksX2_signed_2 15 rfl rfl)
theorem dX2_signed_64 : decode cX2_signed 64 = .ok (.goto 7, 3) := dk_167 0 7 (dk_at dksX2_signed_2 16 rfl rfl)
theorem dX2_signed_67 : decode cX2_signed 67 = .ok (.aload_n 0, 1) := dk_42 (dk_at dksX2_signed_2 19 rfl rfl)
theorem dX2_signed_68 : decode cX2_signed 68 = .ok (.getfield 209, 3) := dk_180 0 209 (dk_at dksX2_signed_2 20 rfl rfl)
theorem dX2_signed_71 : decode cX2_signed 71 = .ok (.istore 5, 2) := dk_54 5 (dk_at dksX2_signed_3 0 rfl rfl)
theorem dX2_signed_73 : decode cX2_signed 73 = .ok (.iload 5, 2) := dk_21 5 (dk_at dksX2_signed_3 2 rfl rfl)
theorem dX2_signed_75 : decode cX2_signed 75 = .ok (.iload_n 1, 1) := dk_27 (dk_at dksX2_signed_3 4 rfl rfl)
theorem dX2_signed_76 : decode cX2_signed 76 = .ok (.if_icmp .lt 9, 3) := dk_161 0 9 (dk_at dksX2_signed_3 5 rfl rfl)
theorem dX2_signed_79 : decode cX2_signed 79 = .ok (.iload 5, 2) := dk_21 5 (dk_at dksX2_signed_3 8 rfl rfl)
theorem dX2_signed_81 : decode cX2_signed 81 = .ok (.iload_n 2, 1) := dk_28 (dk_at dksX2_signed_3 10 rfl rfl)
theorem dX2_signed_82 : decode cX2_signed 82 = .ok (.if_icmp .le 16, 3) := dk_164 0 16 (dk_at dksX2_signed_3 11 rfl rfl)
theorem dX2_signed_85 : decode cX2_signed 85 = .ok (.aload_n 0, 1) := dk_42 (dk_at dksX2_signed_3 14 rfl rfl)
theorem dX2_signed_86 : decode cX2_signed 86 = .ok (.iconst 4, 1) := dk_7 (dk_at dksX2_signed_3 15 rfl rfl)
theorem dX2_signed_87 : decode cX2_signed 87 = .ok (.putfield 225, 3) := dk_181 0 225 (dk_at dksX2_signed_3 16 rfl rfl)
theorem dX2_signed_90 : decode cX2_signed 90 = .ok (.aload_n 0, 1) := dk_42 (dk_at dksX2_signed_3 19 rfl rfl)
theorem dX2_signed_91 : decode cX2_signed 91 = .ok (.iload_n 3, 1) := dk_29 (dk_at dksX2_signed_3 20 rfl rfl)
theorem dX2_signed_92 : decode cX2_signed 92 = .ok (.putfield 13, 3) := dk_181 0 13 (dk_at dksX2_signed_3 21 rfl rfl)
theorem dX2_signed_95 : decode cX2_signed 95 = .ok (.goto 7, 3) := dk_167 0 7 (dk_at dksX2_signed_4 0 rfl rfl)
theorem dX2_signed_98 : decode cX2_signed 98 = .ok (.aload_n 0, 1) := dk_42 (dk_at dksX2_signed_4 3 rfl rfl)
theorem dX2_signed_99 : decode cX2_signed 99 = .ok (.invokevirtual 289, 3) := dk_182 1 33 (dk_at dksX2_signed_4 4 rfl rfl)
theorem dX2_signed_102 : decode cX2_signed 102 = .ok (.iload 5, 2) := dk_21 5 (dk_at dksX2_signed_4 7 rfl rfl)
theorem dX2_signed_104 : decode cX2_signed 104 = .ok (.ireturn, 1) := dk_172 (dk_at dksX2_signed_4 9 rfl rfl)
abbrev cX2_fault : ByteArray := prog_28_method_24_code
def yX2_fault : MethodName := ⟨RX2, "fault", "(I)I"⟩
def dkwX2_fault_1 : List UInt8 := [172]
abbrev dktX2_fault_1 : List UInt8 := dkwX2_fault_1 ++ []
def dkwX2_fault_0 : List UInt8 := [27, 154, 0, 10, 42, 180, 0, 225, 167, 0, 16, 27, 4, 160, 0, 10, 42, 180, 0, 13, 167, 0, 4, 2]
abbrev dktX2_fault_0 : List UInt8 := dkwX2_fault_0 ++ dktX2_fault_1
theorem dksX2_fault_0 : cX2_fault.data.toList.drop 0 = dktX2_fault_0 := by decide +kernel
theorem dksX2_fault_1 : cX2_fault.data.toList.drop 24 = dktX2_fault_1 := dk_seg dksX2_fault_0 24 rfl rfl
theorem dX2_fault_0 : decode cX2_fault 0 = .ok (.iload_n 1, 1) := dk_27 (dk_at dksX2_fault_0 0 rfl rfl)
theorem dX2_fault_1 : decode cX2_fault 1 = .ok (.ifCond .ne 10, 3) := dk_154 0 10 (dk_at dksX2_fault_0 1 rfl rfl)
theorem dX2_fault_4 : decode cX2_fault 4 = .ok (.aload_n 0, 1) := dk_42 (dk_at dksX2_fault_0 4 rfl rfl)
theorem dX2_fault_5 : decode cX2_fault 5 = .ok (.getfield 225, 3) := dk_180 0 225 (dk_at dksX2_fault_0 5 rfl rfl)
theorem dX2_fault_8 : decode cX2_fault 8 = .ok (.goto 16, 3) := dk_167 0 16 (dk_at dksX2_fault_0 8 rfl rfl)
theorem dX2_fault_11 : decode cX2_fault 11 = .ok (.iload_n 1, 1) := dk_27 (dk_at dksX2_fault_0 11 rfl rfl)
theorem dX2_fault_12 : decode cX2_fault 12 = .ok (.iconst 1, 1) := dk_4 (dk_at dksX2_fault_0 12 rfl rfl)
theorem dX2_fault_13 : decode cX2_fault 13 = .ok (.if_icmp .ne 10, 3) := dk_160 0 10 (dk_at dksX2_fault_0 13 rfl rfl)
theorem dX2_fault_16 : decode cX2_fault 16 = .ok (.aload_n 0, 1) := dk_42 (dk_at dksX2_fault_0 16 rfl rfl)
theorem dX2_fault_17 : decode cX2_fault 17 = .ok (.getfield 13, 3) := dk_180 0 13 (dk_at dksX2_fault_0 17 rfl rfl)
theorem dX2_fault_20 : decode cX2_fault 20 = .ok (.goto 4, 3) := dk_167 0 4 (dk_at dksX2_fault_0 20 rfl rfl)
theorem dX2_fault_23 : decode cX2_fault 23 = .ok (.iconst (-1), 1) := dk_2 (dk_at dksX2_fault_0 23 rfl rfl)
theorem dX2_fault_24 : decode cX2_fault 24 = .ok (.ireturn, 1) := dk_172 (dk_at dksX2_fault_1 0 rfl rfl)
abbrev cX2_picture : ByteArray := prog_28_method_26_code
def yX2_picture : MethodName := ⟨RX2, "picture", "()I"⟩
def dkwX2_picture_5 : List UInt8 := [180, 1, 77, 4, 100, 172]
abbrev dktX2_picture_5 : List UInt8 := dkwX2_picture_5 ++ []
def dkwX2_picture_4 : List UInt8 := [79, 42, 180, 0, 58, 42, 180, 1, 77, 2, 79, 42, 89, 180, 1, 77, 4, 96, 181, 1, 77, 42]
abbrev dktX2_picture_4 : List UInt8 := dkwX2_picture_4 ++ dktX2_picture_5
def dkwX2_picture_3 : List UInt8 := [180, 0, 52, 27, 46, 79, 132, 1, 1, 167, 255, 225, 42, 180, 0, 55, 42, 180, 1, 77, 42, 180, 1, 89]
abbrev dktX2_picture_3 : List UInt8 := dkwX2_picture_3 ++ dktX2_picture_4
def dkwX2_picture_2 : List UInt8 := [60, 27, 17, 1, 0, 162, 0, 30, 42, 180, 0, 49, 17, 1, 0, 42, 180, 1, 77, 104, 27, 96, 42]
abbrev dktX2_picture_2 : List UInt8 := dkwX2_picture_2 ++ dktX2_picture_3
def dkwX2_picture_1 : List UInt8 := [181, 0, 181, 16, 253, 172, 42, 182, 1, 61, 42, 182, 1, 86, 42, 180, 0, 225, 158, 0, 5, 2, 172, 3]
abbrev dktX2_picture_1 : List UInt8 := dkwX2_picture_1 ++ dktX2_picture_2
def dkwX2_picture_0 : List UInt8 := [42, 180, 0, 181, 17, 1, 144, 164, 0, 6, 16, 254, 172, 42, 180, 1, 77, 16, 12, 160, 0, 11, 42, 3]
abbrev dktX2_picture_0 : List UInt8 := dkwX2_picture_0 ++ dktX2_picture_1
theorem dksX2_picture_0 : cX2_picture.data.toList.drop 0 = dktX2_picture_0 := by decide +kernel
theorem dksX2_picture_1 : cX2_picture.data.toList.drop 24 = dktX2_picture_1 := dk_seg dksX2_picture_0 24 rfl rfl
theorem dksX2_picture_2 : cX2_picture.data.toList.drop 48 = dktX2_picture_2 := dk_seg dksX2_picture_1 24 rfl rfl
theorem dksX2_picture_3 : cX2_picture.data.toList.drop 71 = dktX2_picture_3 := dk_seg dksX2_picture_2 23 rfl rfl
theorem dksX2_picture_4 : cX2_picture.data.toList.drop 95 = dktX2_picture_4 := dk_seg dksX2_picture_3 24 rfl rfl
theorem dksX2_picture_5 : cX2_picture.data.toList.drop 117 = dktX2_picture_5 := dk_seg dksX2_picture_4 22 rfl rfl
theorem dX2_picture_0 : decode cX2_picture 0 = .ok (.aload_n 0, 1) := dk_42 (dk_at dksX2_picture_0 0 rfl rfl)
theorem dX2_picture_1 : decode cX2_picture 1 = .ok (.getfield 181, 3) := dk_180 0 181 (dk_at dksX2_picture_0 1 rfl rfl)
theorem dX2_picture_4 : decode cX2_picture 4 = .ok (.sipush 400, 3) := dk_17 1 144 (dk_at dksX2_picture_0 4 rfl rfl)
theorem dX2_picture_7 : decode cX2_picture 7 = .ok (.if_icmp .le 6, 3) := dk_164 0 6 (dk_at dksX2_picture_0 7 rfl rfl)
theorem dX2_picture_10 : decode cX2_picture 10 = .ok (.bipush (-2), 2) := dk_16 254 (dk_at dksX2_picture_0 10 rfl rfl)
theorem dX2_picture_12 : decode cX2_picture 12 = .ok (.ireturn, 1) := dk_172 (dk_at dksX2_picture_0 12 rfl rfl)
theorem dX2_picture_13 : decode cX2_picture 13 = .ok (.aload_n 0, 1) := dk_42 (dk_at dksX2_picture_0 13 rfl rfl)
theorem dX2_picture_14 : decode cX2_picture 14 = .ok (.getfield 333, 3) := dk_180 1 77 (dk_at dksX2_picture_0 14 rfl rfl)
theorem dX2_picture_17 : decode cX2_picture 17 = .ok (.bipush 12, 2) := dk_16 12 (dk_at dksX2_picture_0 17 rfl rfl)
theorem dX2_picture_19 : decode cX2_picture 19 = .ok (.if_icmp .ne 11, 3) := dk_160 0 11 (dk_at dksX2_picture_0 19 rfl rfl)
theorem dX2_picture_22 : decode cX2_picture 22 = .ok (.aload_n 0, 1) := dk_42 (dk_at dksX2_picture_0 22 rfl rfl)
theorem dX2_picture_23 : decode cX2_picture 23 = .ok (.iconst 0, 1) := dk_3 (dk_at dksX2_picture_0 23 rfl rfl)
theorem dX2_picture_24 : decode cX2_picture 24 = .ok (.putfield 181, 3) := dk_181 0 181 (dk_at dksX2_picture_1 0 rfl rfl)
theorem dX2_picture_27 : decode cX2_picture 27 = .ok (.bipush (-3), 2) := dk_16 253 (dk_at dksX2_picture_1 3 rfl rfl)
theorem dX2_picture_29 : decode cX2_picture 29 = .ok (.ireturn, 1) := dk_172 (dk_at dksX2_picture_1 5 rfl rfl)
theorem dX2_picture_30 : decode cX2_picture 30 = .ok (.aload_n 0, 1) := dk_42 (dk_at dksX2_picture_1 6 rfl rfl)
theorem dX2_picture_31 : decode cX2_picture 31 = .ok (.invokevirtual 317, 3) := dk_182 1 61 (dk_at dksX2_picture_1 7 rfl rfl)
theorem dX2_picture_34 : decode cX2_picture 34 = .ok (.aload_n 0, 1) := dk_42 (dk_at dksX2_picture_1 10 rfl rfl)
theorem dX2_picture_35 : decode cX2_picture 35 = .ok (.invokevirtual 342, 3) := dk_182 1 86 (dk_at dksX2_picture_1 11 rfl rfl)
theorem dX2_picture_38 : decode cX2_picture 38 = .ok (.aload_n 0, 1) := dk_42 (dk_at dksX2_picture_1 14 rfl rfl)
theorem dX2_picture_39 : decode cX2_picture 39 = .ok (.getfield 225, 3) := dk_180 0 225 (dk_at dksX2_picture_1 15 rfl rfl)
theorem dX2_picture_42 : decode cX2_picture 42 = .ok (.ifCond .le 5, 3) := dk_158 0 5 (dk_at dksX2_picture_1 18 rfl rfl)
theorem dX2_picture_45 : decode cX2_picture 45 = .ok (.iconst (-1), 1) := dk_2 (dk_at dksX2_picture_1 21 rfl rfl)
theorem dX2_picture_46 : decode cX2_picture 46 = .ok (.ireturn, 1) := dk_172 (dk_at dksX2_picture_1 22 rfl rfl)
theorem dX2_picture_47 : decode cX2_picture 47 = .ok (.iconst 0, 1) := dk_3 (dk_at dksX2_picture_1 23 rfl rfl)
theorem dX2_picture_48 : decode cX2_picture 48 = .ok (.istore_n 1, 1) := dk_60 (dk_at dksX2_picture_2 0 rfl rfl)
theorem dX2_picture_49 : decode cX2_picture 49 = .ok (.iload_n 1, 1) := dk_27 (dk_at dksX2_picture_2 1 rfl rfl)
theorem dX2_picture_50 : decode cX2_picture 50 = .ok (.sipush 256, 3) := dk_17 1 0 (dk_at dksX2_picture_2 2 rfl rfl)
theorem dX2_picture_53 : decode cX2_picture 53 = .ok (.if_icmp .ge 30, 3) := dk_162 0 30 (dk_at dksX2_picture_2 5 rfl rfl)
theorem dX2_picture_56 : decode cX2_picture 56 = .ok (.aload_n 0, 1) := dk_42 (dk_at dksX2_picture_2 8 rfl rfl)
theorem dX2_picture_57 : decode cX2_picture 57 = .ok (.getfield 49, 3) := dk_180 0 49 (dk_at dksX2_picture_2 9 rfl rfl)
theorem dX2_picture_60 : decode cX2_picture 60 = .ok (.sipush 256, 3) := dk_17 1 0 (dk_at dksX2_picture_2 12 rfl rfl)
theorem dX2_picture_63 : decode cX2_picture 63 = .ok (.aload_n 0, 1) := dk_42 (dk_at dksX2_picture_2 15 rfl rfl)
theorem dX2_picture_64 : decode cX2_picture 64 = .ok (.getfield 333, 3) := dk_180 1 77 (dk_at dksX2_picture_2 16 rfl rfl)
theorem dX2_picture_67 : decode cX2_picture 67 = .ok (.imul, 1) := dk_104 (dk_at dksX2_picture_2 19 rfl rfl)
theorem dX2_picture_68 : decode cX2_picture 68 = .ok (.iload_n 1, 1) := dk_27 (dk_at dksX2_picture_2 20 rfl rfl)
theorem dX2_picture_69 : decode cX2_picture 69 = .ok (.iadd, 1) := dk_96 (dk_at dksX2_picture_2 21 rfl rfl)
theorem dX2_picture_70 : decode cX2_picture 70 = .ok (.aload_n 0, 1) := dk_42 (dk_at dksX2_picture_2 22 rfl rfl)
theorem dX2_picture_71 : decode cX2_picture 71 = .ok (.getfield 52, 3) := dk_180 0 52 (dk_at dksX2_picture_3 0 rfl rfl)
theorem dX2_picture_74 : decode cX2_picture 74 = .ok (.iload_n 1, 1) := dk_27 (dk_at dksX2_picture_3 3 rfl rfl)
theorem dX2_picture_75 : decode cX2_picture 75 = .ok (.iaload, 1) := dk_46 (dk_at dksX2_picture_3 4 rfl rfl)
theorem dX2_picture_76 : decode cX2_picture 76 = .ok (.iastore, 1) := dk_79 (dk_at dksX2_picture_3 5 rfl rfl)
theorem dX2_picture_77 : decode cX2_picture 77 = .ok (.iinc 1 1, 3) := dk_132 1 1 (dk_at dksX2_picture_3 6 rfl rfl)
theorem dX2_picture_80 : decode cX2_picture 80 = .ok (.goto (-31), 3) := dk_167 255 225 (dk_at dksX2_picture_3 9 rfl rfl)
theorem dX2_picture_83 : decode cX2_picture 83 = .ok (.aload_n 0, 1) := dk_42 (dk_at dksX2_picture_3 12 rfl rfl)
theorem dX2_picture_84 : decode cX2_picture 84 = .ok (.getfield 55, 3) := dk_180 0 55 (dk_at dksX2_picture_3 13 rfl rfl)
theorem dX2_picture_87 : decode cX2_picture 87 = .ok (.aload_n 0, 1) := dk_42 (dk_at dksX2_picture_3 16 rfl rfl)
theorem dX2_picture_88 : decode cX2_picture 88 = .ok (.getfield 333, 3) := dk_180 1 77 (dk_at dksX2_picture_3 17 rfl rfl)
theorem dX2_picture_91 : decode cX2_picture 91 = .ok (.aload_n 0, 1) := dk_42 (dk_at dksX2_picture_3 20 rfl rfl)
theorem dX2_picture_92 : decode cX2_picture 92 = .ok (.getfield 345, 3) := dk_180 1 89 (dk_at dksX2_picture_3 21 rfl rfl)
theorem dX2_picture_95 : decode cX2_picture 95 = .ok (.iastore, 1) := dk_79 (dk_at dksX2_picture_4 0 rfl rfl)
theorem dX2_picture_96 : decode cX2_picture 96 = .ok (.aload_n 0, 1) := dk_42 (dk_at dksX2_picture_4 1 rfl rfl)
theorem dX2_picture_97 : decode cX2_picture 97 = .ok (.getfield 58, 3) := dk_180 0 58 (dk_at dksX2_picture_4 2 rfl rfl)
theorem dX2_picture_100 : decode cX2_picture 100 = .ok (.aload_n 0, 1) := dk_42 (dk_at dksX2_picture_4 5 rfl rfl)
theorem dX2_picture_101 : decode cX2_picture 101 = .ok (.getfield 333, 3) := dk_180 1 77 (dk_at dksX2_picture_4 6 rfl rfl)
theorem dX2_picture_104 : decode cX2_picture 104 = .ok (.iconst (-1), 1) := dk_2 (dk_at dksX2_picture_4 9 rfl rfl)
theorem dX2_picture_105 : decode cX2_picture 105 = .ok (.iastore, 1) := dk_79 (dk_at dksX2_picture_4 10 rfl rfl)
theorem dX2_picture_106 : decode cX2_picture 106 = .ok (.aload_n 0, 1) := dk_42 (dk_at dksX2_picture_4 11 rfl rfl)
theorem dX2_picture_107 : decode cX2_picture 107 = .ok (.dup, 1) := dk_89 (dk_at dksX2_picture_4 12 rfl rfl)
theorem dX2_picture_108 : decode cX2_picture 108 = .ok (.getfield 333, 3) := dk_180 1 77 (dk_at dksX2_picture_4 13 rfl rfl)
theorem dX2_picture_111 : decode cX2_picture 111 = .ok (.iconst 1, 1) := dk_4 (dk_at dksX2_picture_4 16 rfl rfl)
theorem dX2_picture_112 : decode cX2_picture 112 = .ok (.iadd, 1) := dk_96 (dk_at dksX2_picture_4 17 rfl rfl)
theorem dX2_picture_113 : decode cX2_picture 113 = .ok (.putfield 333, 3) := dk_181 1 77 (dk_at dksX2_picture_4 18 rfl rfl)
theorem dX2_picture_116 : decode cX2_picture 116 = .ok (.aload_n 0, 1) := dk_42 (dk_at dksX2_picture_4 21 rfl rfl)
theorem dX2_picture_117 : decode cX2_picture 117 = .ok (.getfield 333, 3) := dk_180 1 77 (dk_at dksX2_picture_5 0 rfl rfl)
theorem dX2_picture_120 : decode cX2_picture 120 = .ok (.iconst 1, 1) := dk_4 (dk_at dksX2_picture_5 3 rfl rfl)
theorem dX2_picture_121 : decode cX2_picture 121 = .ok (.isub, 1) := dk_100 (dk_at dksX2_picture_5 4 rfl rfl)
theorem dX2_picture_122 : decode cX2_picture 122 = .ok (.ireturn, 1) := dk_172 (dk_at dksX2_picture_5 5 rfl rfl)
abbrev cX2_readPicture : ByteArray := prog_28_method_25_code
def yX2_readPicture : MethodName := ⟨RX2, "readPicture", "()V"⟩
def dkwX2_readPicture_8 : List UInt8 := [42, 42, 180, 0, 191, 181, 0, 13, 177]
abbrev dktX2_readPicture_8 : List UInt8 := dkwX2_readPicture_8 ++ []
def dkwX2_readPicture_7 : List UInt8 := [132, 4, 1, 167, 255, 101, 42, 180, 0, 225, 157, 0, 8, 28, 27, 160, 0, 4, 177, 42, 5, 181, 0, 225]
abbrev dktX2_readPicture_7 : List UInt8 := dkwX2_readPicture_7 ++ dktX2_readPicture_8
def dkwX2_readPicture_6 : List UInt8 := [167, 0, 22, 42, 180, 0, 52, 16, 16, 28, 104, 29, 96, 21, 5, 16, 48, 100, 79, 132, 3, 1]
abbrev dktX2_readPicture_6 : List UInt8 := dkwX2_readPicture_6 ++ dktX2_readPicture_7
def dkwX2_readPicture_5 : List UInt8 := [27, 160, 0, 11, 42, 5, 182, 1, 30, 167, 0, 37, 21, 5, 16, 59, 160, 0, 11, 132, 2, 1, 3, 62]
abbrev dktX2_readPicture_5 : List UInt8 := dkwX2_readPicture_5 ++ dktX2_readPicture_6
def dkwX2_readPicture_4 : List UInt8 := [27, 159, 0, 27, 21, 5, 16, 59, 160, 0, 8, 29, 27, 161, 0, 15, 21, 5, 16, 59, 159, 0, 16, 29]
abbrev dktX2_readPicture_4 : List UInt8 := dkwX2_readPicture_4 ++ dktX2_readPicture_5
def dkwX2_readPicture_3 : List UInt8 := [16, 32, 159, 0, 92, 21, 5, 16, 10, 160, 0, 6, 167, 0, 82, 42, 180, 0, 212, 6, 159, 0, 32, 28]
abbrev dktX2_readPicture_3 : List UInt8 := dkwX2_readPicture_3 ++ dktX2_readPicture_4
def dkwX2_readPicture_2 : List UInt8 := [16, 59, 159, 0, 11, 21, 5, 184, 0, 219, 153, 0, 8, 21, 5, 167, 0, 4, 6, 181, 0, 212, 21, 5]
abbrev dktX2_readPicture_2 : List UInt8 := dkwX2_readPicture_2 ++ dktX2_readPicture_3
def dkwX2_readPicture_1 : List UInt8 := [180, 0, 225, 154, 0, 145, 42, 180, 0, 7, 21, 4, 46, 54, 5, 42, 21, 4, 181, 0, 202, 42, 21, 5]
abbrev dktX2_readPicture_1 : List UInt8 := dkwX2_readPicture_1 ++ dktX2_readPicture_2
def dkwX2_readPicture_0 : List UInt8 := [42, 180, 0, 20, 3, 46, 60, 3, 61, 3, 62, 3, 54, 4, 21, 4, 42, 180, 0, 191, 162, 0, 152, 42]
abbrev dktX2_readPicture_0 : List UInt8 := dkwX2_readPicture_0 ++ dktX2_readPicture_1
theorem dksX2_readPicture_0 : cX2_readPicture.data.toList.drop 0 = dktX2_readPicture_0 := by decide +kernel
theorem dksX2_readPicture_1 : cX2_readPicture.data.toList.drop 24 = dktX2_readPicture_1 := dk_seg dksX2_readPicture_0 24 rfl rfl
theorem dksX2_readPicture_2 : cX2_readPicture.data.toList.drop 48 = dktX2_readPicture_2 := dk_seg dksX2_readPicture_1 24 rfl rfl
theorem dksX2_readPicture_3 : cX2_readPicture.data.toList.drop 72 = dktX2_readPicture_3 := dk_seg dksX2_readPicture_2 24 rfl rfl
theorem dksX2_readPicture_4 : cX2_readPicture.data.toList.drop 96 = dktX2_readPicture_4 := dk_seg dksX2_readPicture_3 24 rfl rfl
theorem dksX2_readPicture_5 : cX2_readPicture.data.toList.drop 120 = dktX2_readPicture_5 := dk_seg dksX2_readPicture_4 24 rfl rfl
theorem dksX2_readPicture_6 : cX2_readPicture.data.toList.drop 144 = dktX2_readPicture_6 := dk_seg dksX2_readPicture_5 24 rfl rfl
theorem dksX2_readPicture_7 : cX2_readPicture.data.toList.drop 166 = dktX2_readPicture_7 := dk_seg dksX2_readPicture_6 22 rfl rfl
theorem dksX2_readPicture_8 : cX2_readPicture.data.toList.drop 190 = dktX2_readPicture_8 := dk_seg dksX2_readPicture_7 24 rfl rfl
theorem dX2_readPicture_0 : decode cX2_readPicture 0 = .ok (.aload_n 0, 1) := dk_42 (dk_at dksX2_readPicture_0 0 rfl rfl)
theorem dX2_readPicture_1 : decode cX2_readPicture 1 = .ok (.getfield 20, 3) := dk_180 0 20 (dk_at dksX2_readPicture_0 1 rfl rfl)
theorem dX2_readPicture_4 : decode cX2_readPicture 4 = .ok (.iconst 0, 1) := dk_3 (dk_at dksX2_readPicture_0 4 rfl rfl)
theorem dX2_readPicture_5 : decode cX2_readPicture 5 = .ok (.iaload, 1) := dk_46 (dk_at dksX2_readPicture_0 5 rfl rfl)
theorem dX2_readPicture_6 : decode cX2_readPicture 6 = .ok (.istore_n 1, 1) := dk_60 (dk_at dksX2_readPicture_0 6 rfl rfl)
theorem dX2_readPicture_7 : decode cX2_readPicture 7 = .ok (.iconst 0, 1) := dk_3 (dk_at dksX2_readPicture_0 7 rfl rfl)
theorem dX2_readPicture_8 : decode cX2_readPicture 8 = .ok (.istore_n 2, 1) := dk_61 (dk_at dksX2_readPicture_0 8 rfl rfl)
theorem dX2_readPicture_9 : decode cX2_readPicture 9 = .ok (.iconst 0, 1) := dk_3 (dk_at dksX2_readPicture_0 9 rfl rfl)
theorem dX2_readPicture_10 : decode cX2_readPicture 10 = .ok (.istore_n 3, 1) := dk_62 (dk_at dksX2_readPicture_0 10 rfl rfl)
theorem dX2_readPicture_11 : decode cX2_readPicture 11 = .ok (.iconst 0, 1) := dk_3 (dk_at dksX2_readPicture_0 11 rfl rfl)
theorem dX2_readPicture_12 : decode cX2_readPicture 12 = .ok (.istore 4, 2) := dk_54 4 (dk_at dksX2_readPicture_0 12 rfl rfl)
theorem dX2_readPicture_14 : decode cX2_readPicture 14 = .ok (.iload 4, 2) := dk_21 4 (dk_at dksX2_readPicture_0 14 rfl rfl)
theorem dX2_readPicture_16 : decode cX2_readPicture 16 = .ok (.aload_n 0, 1) := dk_42 (dk_at dksX2_readPicture_0 16 rfl rfl)
theorem dX2_readPicture_17 : decode cX2_readPicture 17 = .ok (.getfield 191, 3) := dk_180 0 191 (dk_at dksX2_readPicture_0 17 rfl rfl)
theorem dX2_readPicture_20 : decode cX2_readPicture 20 = .ok (.if_icmp .ge 152, 3) := dk_162 0 152 (dk_at dksX2_readPicture_0 20 rfl rfl)
theorem dX2_readPicture_23 : decode cX2_readPicture 23 = .ok (.aload_n 0, 1) := dk_42 (dk_at dksX2_readPicture_0 23 rfl rfl)
theorem dX2_readPicture_24 : decode cX2_readPicture 24 = .ok (.getfield 225, 3) := dk_180 0 225 (dk_at dksX2_readPicture_1 0 rfl rfl)
theorem dX2_readPicture_27 : decode cX2_readPicture 27 = .ok (.ifCond .ne 145, 3) := dk_154 0 145 (dk_at dksX2_readPicture_1 3 rfl rfl)
theorem dX2_readPicture_30 : decode cX2_readPicture 30 = .ok (.aload_n 0, 1) := dk_42 (dk_at dksX2_readPicture_1 6 rfl rfl)
theorem dX2_readPicture_31 : decode cX2_readPicture 31 = .ok (.getfield 7, 3) := dk_180 0 7 (dk_at dksX2_readPicture_1 7 rfl rfl)
theorem dX2_readPicture_34 : decode cX2_readPicture 34 = .ok (.iload 4, 2) := dk_21 4 (dk_at dksX2_readPicture_1 10 rfl rfl)
theorem dX2_readPicture_36 : decode cX2_readPicture 36 = .ok (.iaload, 1) := dk_46 (dk_at dksX2_readPicture_1 12 rfl rfl)
theorem dX2_readPicture_37 : decode cX2_readPicture 37 = .ok (.istore 5, 2) := dk_54 5 (dk_at dksX2_readPicture_1 13 rfl rfl)
theorem dX2_readPicture_39 : decode cX2_readPicture 39 = .ok (.aload_n 0, 1) := dk_42 (dk_at dksX2_readPicture_1 15 rfl rfl)
theorem dX2_readPicture_40 : decode cX2_readPicture 40 = .ok (.iload 4, 2) := dk_21 4 (dk_at dksX2_readPicture_1 16 rfl rfl)
theorem dX2_readPicture_42 : decode cX2_readPicture 42 = .ok (.putfield 202, 3) := dk_181 0 202 (dk_at dksX2_readPicture_1 18 rfl rfl)
theorem dX2_readPicture_45 : decode cX2_readPicture 45 = .ok (.aload_n 0, 1) := dk_42 (dk_at dksX2_readPicture_1 21 rfl rfl)
theorem dX2_readPicture_46 : decode cX2_readPicture 46 = .ok (.iload 5, 2) := dk_21 5 (dk_at dksX2_readPicture_1 22 rfl rfl)
theorem dX2_readPicture_48 : decode cX2_readPicture 48 = .ok (.bipush 59, 2) := dk_16 59 (dk_at dksX2_readPicture_2 0 rfl rfl)
theorem dX2_readPicture_50 : decode cX2_readPicture 50 = .ok (.if_icmp .eq 11, 3) := dk_159 0 11 (dk_at dksX2_readPicture_2 2 rfl rfl)
theorem dX2_readPicture_53 : decode cX2_readPicture 53 = .ok (.iload 5, 2) := dk_21 5 (dk_at dksX2_readPicture_2 5 rfl rfl)
theorem dX2_readPicture_55 : decode cX2_readPicture 55 = .ok (.invokestatic 219, 3) := dk_184 0 219 (dk_at dksX2_readPicture_2 7 rfl rfl)
theorem dX2_readPicture_58 : decode cX2_readPicture 58 = .ok (.ifCond .eq 8, 3) := dk_153 0 8 (dk_at dksX2_readPicture_2 10 rfl rfl)
theorem dX2_readPicture_61 : decode cX2_readPicture 61 = .ok (.iload 5, 2) := dk_21 5 (dk_at dksX2_readPicture_2 13 rfl rfl)
theorem dX2_readPicture_63 : decode cX2_readPicture 63 = .ok (.goto 4, 3) := dk_167 0 4 (dk_at dksX2_readPicture_2 15 rfl rfl)
theorem dX2_readPicture_66 : decode cX2_readPicture 66 = .ok (.iconst 3, 1) := dk_6 (dk_at dksX2_readPicture_2 18 rfl rfl)
theorem dX2_readPicture_67 : decode cX2_readPicture 67 = .ok (.putfield 212, 3) := dk_181 0 212 (dk_at dksX2_readPicture_2 19 rfl rfl)
theorem dX2_readPicture_70 : decode cX2_readPicture 70 = .ok (.iload 5, 2) := dk_21 5 (dk_at dksX2_readPicture_2 22 rfl rfl)
theorem dX2_readPicture_72 : decode cX2_readPicture 72 = .ok (.bipush 32, 2) := dk_16 32 (dk_at dksX2_readPicture_3 0 rfl rfl)
theorem dX2_readPicture_74 : decode cX2_readPicture 74 = .ok (.if_icmp .eq 92, 3) := dk_159 0 92 (dk_at dksX2_readPicture_3 2 rfl rfl)
theorem dX2_readPicture_77 : decode cX2_readPicture 77 = .ok (.iload 5, 2) := dk_21 5 (dk_at dksX2_readPicture_3 5 rfl rfl)
theorem dX2_readPicture_79 : decode cX2_readPicture 79 = .ok (.bipush 10, 2) := dk_16 10 (dk_at dksX2_readPicture_3 7 rfl rfl)
theorem dX2_readPicture_81 : decode cX2_readPicture 81 = .ok (.if_icmp .ne 6, 3) := dk_160 0 6 (dk_at dksX2_readPicture_3 9 rfl rfl)
theorem dX2_readPicture_84 : decode cX2_readPicture 84 = .ok (.goto 82, 3) := dk_167 0 82 (dk_at dksX2_readPicture_3 12 rfl rfl)
theorem dX2_readPicture_87 : decode cX2_readPicture 87 = .ok (.aload_n 0, 1) := dk_42 (dk_at dksX2_readPicture_3 15 rfl rfl)
theorem dX2_readPicture_88 : decode cX2_readPicture 88 = .ok (.getfield 212, 3) := dk_180 0 212 (dk_at dksX2_readPicture_3 16 rfl rfl)
theorem dX2_readPicture_91 : decode cX2_readPicture 91 = .ok (.iconst 3, 1) := dk_6 (dk_at dksX2_readPicture_3 19 rfl rfl)
theorem dX2_readPicture_92 : decode cX2_readPicture 92 = .ok (.if_icmp .eq 32, 3) := dk_159 0 32 (dk_at dksX2_readPicture_3 20 rfl rfl)
theorem dX2_readPicture_95 : decode cX2_readPicture 95 = .ok (.iload_n 2, 1) := dk_28 (dk_at dksX2_readPicture_3 23 rfl rfl)
theorem dX2_readPicture_96 : decode cX2_readPicture 96 = .ok (.iload_n 1, 1) := dk_27 (dk_at dksX2_readPicture_4 0 rfl rfl)
theorem dX2_readPicture_97 : decode cX2_readPicture 97 = .ok (.if_icmp .eq 27, 3) := dk_159 0 27 (dk_at dksX2_readPicture_4 1 rfl rfl)
theorem dX2_readPicture_100 : decode cX2_readPicture 100 = .ok (.iload 5, 2) := dk_21 5 (dk_at dksX2_readPicture_4 4 rfl rfl)
theorem dX2_readPicture_102 : decode cX2_readPicture 102 = .ok (.bipush 59, 2) := dk_16 59 (dk_at dksX2_readPicture_4 6 rfl rfl)
theorem dX2_readPicture_104 : decode cX2_readPicture 104 = .ok (.if_icmp .ne 8, 3) := dk_160 0 8 (dk_at dksX2_readPicture_4 8 rfl rfl)
theorem dX2_readPicture_107 : decode cX2_readPicture 107 = .ok (.iload_n 3, 1) := dk_29 (dk_at dksX2_readPicture_4 11 rfl rfl)
theorem dX2_readPicture_108 : decode cX2_readPicture 108 = .ok (.iload_n 1, 1) := dk_27 (dk_at dksX2_readPicture_4 12 rfl rfl)
theorem dX2_readPicture_109 : decode cX2_readPicture 109 = .ok (.if_icmp .lt 15, 3) := dk_161 0 15 (dk_at dksX2_readPicture_4 13 rfl rfl)
theorem dX2_readPicture_112 : decode cX2_readPicture 112 = .ok (.iload 5, 2) := dk_21 5 (dk_at dksX2_readPicture_4 16 rfl rfl)
theorem dX2_readPicture_114 : decode cX2_readPicture 114 = .ok (.bipush 59, 2) := dk_16 59 (dk_at dksX2_readPicture_4 18 rfl rfl)
theorem dX2_readPicture_116 : decode cX2_readPicture 116 = .ok (.if_icmp .eq 16, 3) := dk_159 0 16 (dk_at dksX2_readPicture_4 20 rfl rfl)
theorem dX2_readPicture_119 : decode cX2_readPicture 119 = .ok (.iload_n 3, 1) := dk_29 (dk_at dksX2_readPicture_4 23 rfl rfl)
theorem dX2_readPicture_120 : decode cX2_readPicture 120 = .ok (.iload_n 1, 1) := dk_27 (dk_at dksX2_readPicture_5 0 rfl rfl)
theorem dX2_readPicture_121 : decode cX2_readPicture 121 = .ok (.if_icmp .ne 11, 3) := dk_160 0 11 (dk_at dksX2_readPicture_5 1 rfl rfl)
theorem dX2_readPicture_124 : decode cX2_readPicture 124 = .ok (.aload_n 0, 1) := dk_42 (dk_at dksX2_readPicture_5 4 rfl rfl)
theorem dX2_readPicture_125 : decode cX2_readPicture 125 = .ok (.iconst 2, 1) := dk_5 (dk_at dksX2_readPicture_5 5 rfl rfl)
theorem dX2_readPicture_126 : decode cX2_readPicture 126 = .ok (.invokevirtual 286, 3) := dk_182 1 30 (dk_at dksX2_readPicture_5 6 rfl rfl)
theorem dX2_readPicture_129 : decode cX2_readPicture 129 = .ok (.goto 37, 3) := dk_167 0 37 (dk_at dksX2_readPicture_5 9 rfl rfl)
theorem dX2_readPicture_132 : decode cX2_readPicture 132 = .ok (.iload 5, 2) := dk_21 5 (dk_at dksX2_readPicture_5 12 rfl rfl)
theorem dX2_readPicture_134 : decode cX2_readPicture 134 = .ok (.bipush 59, 2) := dk_16 59 (dk_at dksX2_readPicture_5 14 rfl rfl)
theorem dX2_readPicture_136 : decode cX2_readPicture 136 = .ok (.if_icmp .ne 11, 3) := dk_160 0 11 (dk_at dksX2_readPicture_5 16 rfl rfl)
theorem dX2_readPicture_139 : decode cX2_readPicture 139 = .ok (.iinc 2 1, 3) := dk_132 2 1 (dk_at dksX2_readPicture_5 19 rfl rfl)
theorem dX2_readPicture_142 : decode cX2_readPicture 142 = .ok (.iconst 0, 1) := dk_3 (dk_at dksX2_readPicture_5 22 rfl rfl)
theorem dX2_readPicture_143 : decode cX2_readPicture 143 = .ok (.istore_n 3, 1) := dk_62 (dk_at dksX2_readPicture_5 23 rfl rfl)
theorem dX2_readPicture_144 : decode cX2_readPicture 144 = .ok (.goto 22, 3) := dk_167 0 22 (dk_at dksX2_readPicture_6 0 rfl rfl)
theorem dX2_readPicture_147 : decode cX2_readPicture 147 = .ok (.aload_n 0, 1) := dk_42 (dk_at dksX2_readPicture_6 3 rfl rfl)
theorem dX2_readPicture_148 : decode cX2_readPicture 148 = .ok (.getfield 52, 3) := dk_180 0 52 (dk_at dksX2_readPicture_6 4 rfl rfl)
theorem dX2_readPicture_151 : decode cX2_readPicture 151 = .ok (.bipush 16, 2) := dk_16 16 (dk_at dksX2_readPicture_6 7 rfl rfl)
theorem dX2_readPicture_153 : decode cX2_readPicture 153 = .ok (.iload_n 2, 1) := dk_28 (dk_at dksX2_readPicture_6 9 rfl rfl)
theorem dX2_readPicture_154 : decode cX2_readPicture 154 = .ok (.imul, 1) := dk_104 (dk_at dksX2_readPicture_6 10 rfl rfl)
theorem dX2_readPicture_155 : decode cX2_readPicture 155 = .ok (.iload_n 3, 1) := dk_29 (dk_at dksX2_readPicture_6 11 rfl rfl)
theorem dX2_readPicture_156 : decode cX2_readPicture 156 = .ok (.iadd, 1) := dk_96 (dk_at dksX2_readPicture_6 12 rfl rfl)
theorem dX2_readPicture_157 : decode cX2_readPicture 157 = .ok (.iload 5, 2) := dk_21 5 (dk_at dksX2_readPicture_6 13 rfl rfl)
theorem dX2_readPicture_159 : decode cX2_readPicture 159 = .ok (.bipush 48, 2) := dk_16 48 (dk_at dksX2_readPicture_6 15 rfl rfl)
theorem dX2_readPicture_161 : decode cX2_readPicture 161 = .ok (.isub, 1) := dk_100 (dk_at dksX2_readPicture_6 17 rfl rfl)
theorem dX2_readPicture_162 : decode cX2_readPicture 162 = .ok (.iastore, 1) := dk_79 (dk_at dksX2_readPicture_6 18 rfl rfl)
theorem dX2_readPicture_163 : decode cX2_readPicture 163 = .ok (.iinc 3 1, 3) := dk_132 3 1 (dk_at dksX2_readPicture_6 19 rfl rfl)
theorem dX2_readPicture_166 : decode cX2_readPicture 166 = .ok (.iinc 4 1, 3) := dk_132 4 1 (dk_at dksX2_readPicture_7 0 rfl rfl)
theorem dX2_readPicture_169 : decode cX2_readPicture 169 = .ok (.goto (-155), 3) := dk_167 255 101 (dk_at dksX2_readPicture_7 3 rfl rfl)
theorem dX2_readPicture_172 : decode cX2_readPicture 172 = .ok (.aload_n 0, 1) := dk_42 (dk_at dksX2_readPicture_7 6 rfl rfl)
theorem dX2_readPicture_173 : decode cX2_readPicture 173 = .ok (.getfield 225, 3) := dk_180 0 225 (dk_at dksX2_readPicture_7 7 rfl rfl)
theorem dX2_readPicture_176 : decode cX2_readPicture 176 = .ok (.ifCond .gt 8, 3) := dk_157 0 8 (dk_at dksX2_readPicture_7 10 rfl rfl)
theorem dX2_readPicture_179 : decode cX2_readPicture 179 = .ok (.iload_n 2, 1) := dk_28 (dk_at dksX2_readPicture_7 13 rfl rfl)
theorem dX2_readPicture_180 : decode cX2_readPicture 180 = .ok (.iload_n 1, 1) := dk_27 (dk_at dksX2_readPicture_7 14 rfl rfl)
theorem dX2_readPicture_181 : decode cX2_readPicture 181 = .ok (.if_icmp .ne 4, 3) := dk_160 0 4 (dk_at dksX2_readPicture_7 15 rfl rfl)
theorem dX2_readPicture_184 : decode cX2_readPicture 184 = .ok (.return_, 1) := dk_177 (dk_at dksX2_readPicture_7 18 rfl rfl)
theorem dX2_readPicture_185 : decode cX2_readPicture 185 = .ok (.aload_n 0, 1) := dk_42 (dk_at dksX2_readPicture_7 19 rfl rfl)
theorem dX2_readPicture_186 : decode cX2_readPicture 186 = .ok (.iconst 2, 1) := dk_5 (dk_at dksX2_readPicture_7 20 rfl rfl)
theorem dX2_readPicture_187 : decode cX2_readPicture 187 = .ok (.putfield 225, 3) := dk_181 0 225 (dk_at dksX2_readPicture_7 21 rfl rfl)
theorem dX2_readPicture_190 : decode cX2_readPicture 190 = .ok (.aload_n 0, 1) := dk_42 (dk_at dksX2_readPicture_8 0 rfl rfl)
theorem dX2_readPicture_191 : decode cX2_readPicture 191 = .ok (.aload_n 0, 1) := dk_42 (dk_at dksX2_readPicture_8 1 rfl rfl)
theorem dX2_readPicture_192 : decode cX2_readPicture 192 = .ok (.getfield 191, 3) := dk_180 0 191 (dk_at dksX2_readPicture_8 2 rfl rfl)
theorem dX2_readPicture_195 : decode cX2_readPicture 195 = .ok (.putfield 13, 3) := dk_181 0 13 (dk_at dksX2_readPicture_8 5 rfl rfl)
theorem dX2_readPicture_198 : decode cX2_readPicture 198 = .ok (.return_, 1) := dk_177 (dk_at dksX2_readPicture_8 8 rfl rfl)
abbrev cX2_untell : ByteArray := prog_28_method_27_code
def yX2_untell : MethodName := ⟨RX2, "untell", "(I)Z"⟩
def dkwX2_untell_1 : List UInt8 := [180, 0, 58, 27, 42, 180, 1, 89, 79, 4, 172]
abbrev dktX2_untell_1 : List UInt8 := dkwX2_untell_1 ++ []
def dkwX2_untell_0 : List UInt8 := [27, 155, 0, 20, 27, 42, 180, 1, 77, 162, 0, 12, 42, 180, 0, 58, 27, 46, 155, 0, 5, 3, 172, 42]
abbrev dktX2_untell_0 : List UInt8 := dkwX2_untell_0 ++ dktX2_untell_1
theorem dksX2_untell_0 : cX2_untell.data.toList.drop 0 = dktX2_untell_0 := by decide +kernel
theorem dksX2_untell_1 : cX2_untell.data.toList.drop 24 = dktX2_untell_1 := dk_seg dksX2_untell_0 24 rfl rfl
theorem dX2_untell_0 : decode cX2_untell 0 = .ok (.iload_n 1, 1) := dk_27 (dk_at dksX2_untell_0 0 rfl rfl)
theorem dX2_untell_1 : decode cX2_untell 1 = .ok (.ifCond .lt 20, 3) := dk_155 0 20 (dk_at dksX2_untell_0 1 rfl rfl)
theorem dX2_untell_4 : decode cX2_untell 4 = .ok (.iload_n 1, 1) := dk_27 (dk_at dksX2_untell_0 4 rfl rfl)
theorem dX2_untell_5 : decode cX2_untell 5 = .ok (.aload_n 0, 1) := dk_42 (dk_at dksX2_untell_0 5 rfl rfl)
theorem dX2_untell_6 : decode cX2_untell 6 = .ok (.getfield 333, 3) := dk_180 1 77 (dk_at dksX2_untell_0 6 rfl rfl)
theorem dX2_untell_9 : decode cX2_untell 9 = .ok (.if_icmp .ge 12, 3) := dk_162 0 12 (dk_at dksX2_untell_0 9 rfl rfl)
theorem dX2_untell_12 : decode cX2_untell 12 = .ok (.aload_n 0, 1) := dk_42 (dk_at dksX2_untell_0 12 rfl rfl)
theorem dX2_untell_13 : decode cX2_untell 13 = .ok (.getfield 58, 3) := dk_180 0 58 (dk_at dksX2_untell_0 13 rfl rfl)
theorem dX2_untell_16 : decode cX2_untell 16 = .ok (.iload_n 1, 1) := dk_27 (dk_at dksX2_untell_0 16 rfl rfl)
theorem dX2_untell_17 : decode cX2_untell 17 = .ok (.iaload, 1) := dk_46 (dk_at dksX2_untell_0 17 rfl rfl)
theorem dX2_untell_18 : decode cX2_untell 18 = .ok (.ifCond .lt 5, 3) := dk_155 0 5 (dk_at dksX2_untell_0 18 rfl rfl)
theorem dX2_untell_21 : decode cX2_untell 21 = .ok (.iconst 0, 1) := dk_3 (dk_at dksX2_untell_0 21 rfl rfl)
theorem dX2_untell_22 : decode cX2_untell 22 = .ok (.ireturn, 1) := dk_172 (dk_at dksX2_untell_0 22 rfl rfl)
theorem dX2_untell_23 : decode cX2_untell 23 = .ok (.aload_n 0, 1) := dk_42 (dk_at dksX2_untell_0 23 rfl rfl)
theorem dX2_untell_24 : decode cX2_untell 24 = .ok (.getfield 58, 3) := dk_180 0 58 (dk_at dksX2_untell_1 0 rfl rfl)
theorem dX2_untell_27 : decode cX2_untell 27 = .ok (.iload_n 1, 1) := dk_27 (dk_at dksX2_untell_1 3 rfl rfl)
theorem dX2_untell_28 : decode cX2_untell 28 = .ok (.aload_n 0, 1) := dk_42 (dk_at dksX2_untell_1 4 rfl rfl)
theorem dX2_untell_29 : decode cX2_untell 29 = .ok (.getfield 345, 3) := dk_180 1 89 (dk_at dksX2_untell_1 5 rfl rfl)
theorem dX2_untell_32 : decode cX2_untell 32 = .ok (.iastore, 1) := dk_79 (dk_at dksX2_untell_1 8 rfl rfl)
theorem dX2_untell_33 : decode cX2_untell 33 = .ok (.iconst 1, 1) := dk_4 (dk_at dksX2_untell_1 9 rfl rfl)
theorem dX2_untell_34 : decode cX2_untell 34 = .ok (.ireturn, 1) := dk_172 (dk_at dksX2_untell_1 10 rfl rfl)
abbrev cX2_later : ByteArray := prog_28_method_28_code
def yX2_later : MethodName := ⟨RX2, "later", "(I)I"⟩
def dkwX2_later_1 : List UInt8 := [172, 42, 89, 180, 1, 89, 27, 96, 181, 1, 89, 42, 180, 1, 89, 172]
abbrev dktX2_later_1 : List UInt8 := dkwX2_later_1 ++ []
def dkwX2_later_0 : List UInt8 := [27, 155, 0, 22, 27, 17, 3, 232, 163, 0, 15, 42, 180, 1, 89, 27, 96, 19, 1, 92, 164, 0, 5, 2]
abbrev dktX2_later_0 : List UInt8 := dkwX2_later_0 ++ dktX2_later_1
theorem dksX2_later_0 : cX2_later.data.toList.drop 0 = dktX2_later_0 := by decide +kernel
theorem dksX2_later_1 : cX2_later.data.toList.drop 24 = dktX2_later_1 := dk_seg dksX2_later_0 24 rfl rfl
theorem dX2_later_0 : decode cX2_later 0 = .ok (.iload_n 1, 1) := dk_27 (dk_at dksX2_later_0 0 rfl rfl)
theorem dX2_later_1 : decode cX2_later 1 = .ok (.ifCond .lt 22, 3) := dk_155 0 22 (dk_at dksX2_later_0 1 rfl rfl)
theorem dX2_later_4 : decode cX2_later 4 = .ok (.iload_n 1, 1) := dk_27 (dk_at dksX2_later_0 4 rfl rfl)
theorem dX2_later_5 : decode cX2_later 5 = .ok (.sipush 1000, 3) := dk_17 3 232 (dk_at dksX2_later_0 5 rfl rfl)
theorem dX2_later_8 : decode cX2_later 8 = .ok (.if_icmp .gt 15, 3) := dk_163 0 15 (dk_at dksX2_later_0 8 rfl rfl)
theorem dX2_later_11 : decode cX2_later 11 = .ok (.aload_n 0, 1) := dk_42 (dk_at dksX2_later_0 11 rfl rfl)
theorem dX2_later_12 : decode cX2_later 12 = .ok (.getfield 345, 3) := dk_180 1 89 (dk_at dksX2_later_0 12 rfl rfl)
theorem dX2_later_15 : decode cX2_later 15 = .ok (.iload_n 1, 1) := dk_27 (dk_at dksX2_later_0 15 rfl rfl)
theorem dX2_later_16 : decode cX2_later 16 = .ok (.iadd, 1) := dk_96 (dk_at dksX2_later_0 16 rfl rfl)
theorem dX2_later_17 : decode cX2_later 17 = .ok (.ldc_w 348, 3) := dk_19 1 92 (dk_at dksX2_later_0 17 rfl rfl)
theorem dX2_later_20 : decode cX2_later 20 = .ok (.if_icmp .le 5, 3) := dk_164 0 5 (dk_at dksX2_later_0 20 rfl rfl)
theorem dX2_later_23 : decode cX2_later 23 = .ok (.iconst (-1), 1) := dk_2 (dk_at dksX2_later_0 23 rfl rfl)
theorem dX2_later_24 : decode cX2_later 24 = .ok (.ireturn, 1) := dk_172 (dk_at dksX2_later_1 0 rfl rfl)
theorem dX2_later_25 : decode cX2_later 25 = .ok (.aload_n 0, 1) := dk_42 (dk_at dksX2_later_1 1 rfl rfl)
theorem dX2_later_26 : decode cX2_later 26 = .ok (.dup, 1) := dk_89 (dk_at dksX2_later_1 2 rfl rfl)
theorem dX2_later_27 : decode cX2_later 27 = .ok (.getfield 345, 3) := dk_180 1 89 (dk_at dksX2_later_1 3 rfl rfl)
theorem dX2_later_30 : decode cX2_later 30 = .ok (.iload_n 1, 1) := dk_27 (dk_at dksX2_later_1 6 rfl rfl)
theorem dX2_later_31 : decode cX2_later 31 = .ok (.iadd, 1) := dk_96 (dk_at dksX2_later_1 7 rfl rfl)
theorem dX2_later_32 : decode cX2_later 32 = .ok (.putfield 345, 3) := dk_181 1 89 (dk_at dksX2_later_1 8 rfl rfl)
theorem dX2_later_35 : decode cX2_later 35 = .ok (.aload_n 0, 1) := dk_42 (dk_at dksX2_later_1 11 rfl rfl)
theorem dX2_later_36 : decode cX2_later 36 = .ok (.getfield 345, 3) := dk_180 1 89 (dk_at dksX2_later_1 12 rfl rfl)
theorem dX2_later_39 : decode cX2_later 39 = .ok (.ireturn, 1) := dk_172 (dk_at dksX2_later_1 15 rfl rfl)
abbrev cX2_speckless : ByteArray := prog_28_method_31_code
def yX2_speckless : MethodName := ⟨RX2, "speckless", "(IIZ)Z"⟩
def dkwX2_speckless_2 : List UInt8 := [16, 16, 28, 104, 27, 96, 29, 84, 4, 172]
abbrev dktX2_speckless_2 : List UInt8 := dkwX2_speckless_2 ++ []
def dkwX2_speckless_1 : List UInt8 := [153, 0, 18, 42, 180, 0, 61, 16, 16, 28, 104, 27, 96, 51, 29, 160, 0, 5, 3, 172, 42, 180, 0, 61]
abbrev dktX2_speckless_1 : List UInt8 := dkwX2_speckless_1 ++ dktX2_speckless_2
def dkwX2_speckless_0 : List UInt8 := [27, 42, 180, 0, 20, 3, 46, 184, 1, 93, 153, 0, 31, 28, 42, 180, 0, 20, 3, 46, 184, 1, 93]
abbrev dktX2_speckless_0 : List UInt8 := dkwX2_speckless_0 ++ dktX2_speckless_1
theorem dksX2_speckless_0 : cX2_speckless.data.toList.drop 0 = dktX2_speckless_0 := by decide +kernel
theorem dksX2_speckless_1 : cX2_speckless.data.toList.drop 23 = dktX2_speckless_1 := dk_seg dksX2_speckless_0 23 rfl rfl
theorem dksX2_speckless_2 : cX2_speckless.data.toList.drop 47 = dktX2_speckless_2 := dk_seg dksX2_speckless_1 24 rfl rfl
theorem dX2_speckless_0 : decode cX2_speckless 0 = .ok (.iload_n 1, 1) := dk_27 (dk_at dksX2_speckless_0 0 rfl rfl)
theorem dX2_speckless_1 : decode cX2_speckless 1 = .ok (.aload_n 0, 1) := dk_42 (dk_at dksX2_speckless_0 1 rfl rfl)
theorem dX2_speckless_2 : decode cX2_speckless 2 = .ok (.getfield 20, 3) := dk_180 0 20 (dk_at dksX2_speckless_0 2 rfl rfl)
theorem dX2_speckless_5 : decode cX2_speckless 5 = .ok (.iconst 0, 1) := dk_3 (dk_at dksX2_speckless_0 5 rfl rfl)
theorem dX2_speckless_6 : decode cX2_speckless 6 = .ok (.iaload, 1) := dk_46 (dk_at dksX2_speckless_0 6 rfl rfl)
theorem dX2_speckless_7 : decode cX2_speckless 7 = .ok (.invokestatic 349, 3) := dk_184 1 93 (dk_at dksX2_speckless_0 7 rfl rfl)
theorem dX2_speckless_10 : decode cX2_speckless 10 = .ok (.ifCond .eq 31, 3) := dk_153 0 31 (dk_at dksX2_speckless_0 10 rfl rfl)
theorem dX2_speckless_13 : decode cX2_speckless 13 = .ok (.iload_n 2, 1) := dk_28 (dk_at dksX2_speckless_0 13 rfl rfl)
theorem dX2_speckless_14 : decode cX2_speckless 14 = .ok (.aload_n 0, 1) := dk_42 (dk_at dksX2_speckless_0 14 rfl rfl)
theorem dX2_speckless_15 : decode cX2_speckless 15 = .ok (.getfield 20, 3) := dk_180 0 20 (dk_at dksX2_speckless_0 15 rfl rfl)
theorem dX2_speckless_18 : decode cX2_speckless 18 = .ok (.iconst 0, 1) := dk_3 (dk_at dksX2_speckless_0 18 rfl rfl)
theorem dX2_speckless_19 : decode cX2_speckless 19 = .ok (.iaload, 1) := dk_46 (dk_at dksX2_speckless_0 19 rfl rfl)
theorem dX2_speckless_20 : decode cX2_speckless 20 = .ok (.invokestatic 349, 3) := dk_184 1 93 (dk_at dksX2_speckless_0 20 rfl rfl)
theorem dX2_speckless_23 : decode cX2_speckless 23 = .ok (.ifCond .eq 18, 3) := dk_153 0 18 (dk_at dksX2_speckless_1 0 rfl rfl)
theorem dX2_speckless_26 : decode cX2_speckless 26 = .ok (.aload_n 0, 1) := dk_42 (dk_at dksX2_speckless_1 3 rfl rfl)
theorem dX2_speckless_27 : decode cX2_speckless 27 = .ok (.getfield 61, 3) := dk_180 0 61 (dk_at dksX2_speckless_1 4 rfl rfl)
theorem dX2_speckless_30 : decode cX2_speckless 30 = .ok (.bipush 16, 2) := dk_16 16 (dk_at dksX2_speckless_1 7 rfl rfl)
theorem dX2_speckless_32 : decode cX2_speckless 32 = .ok (.iload_n 2, 1) := dk_28 (dk_at dksX2_speckless_1 9 rfl rfl)
theorem dX2_speckless_33 : decode cX2_speckless 33 = .ok (.imul, 1) := dk_104 (dk_at dksX2_speckless_1 10 rfl rfl)
theorem dX2_speckless_34 : decode cX2_speckless 34 = .ok (.iload_n 1, 1) := dk_27 (dk_at dksX2_speckless_1 11 rfl rfl)
theorem dX2_speckless_35 : decode cX2_speckless 35 = .ok (.iadd, 1) := dk_96 (dk_at dksX2_speckless_1 12 rfl rfl)
theorem dX2_speckless_36 : decode cX2_speckless 36 = .ok (.baload, 1) := dk_51 (dk_at dksX2_speckless_1 13 rfl rfl)
theorem dX2_speckless_37 : decode cX2_speckless 37 = .ok (.iload_n 3, 1) := dk_29 (dk_at dksX2_speckless_1 14 rfl rfl)
theorem dX2_speckless_38 : decode cX2_speckless 38 = .ok (.if_icmp .ne 5, 3) := dk_160 0 5 (dk_at dksX2_speckless_1 15 rfl rfl)
theorem dX2_speckless_41 : decode cX2_speckless 41 = .ok (.iconst 0, 1) := dk_3 (dk_at dksX2_speckless_1 18 rfl rfl)
theorem dX2_speckless_42 : decode cX2_speckless 42 = .ok (.ireturn, 1) := dk_172 (dk_at dksX2_speckless_1 19 rfl rfl)
theorem dX2_speckless_43 : decode cX2_speckless 43 = .ok (.aload_n 0, 1) := dk_42 (dk_at dksX2_speckless_1 20 rfl rfl)
theorem dX2_speckless_44 : decode cX2_speckless 44 = .ok (.getfield 61, 3) := dk_180 0 61 (dk_at dksX2_speckless_1 21 rfl rfl)
theorem dX2_speckless_47 : decode cX2_speckless 47 = .ok (.bipush 16, 2) := dk_16 16 (dk_at dksX2_speckless_2 0 rfl rfl)
theorem dX2_speckless_49 : decode cX2_speckless 49 = .ok (.iload_n 2, 1) := dk_28 (dk_at dksX2_speckless_2 2 rfl rfl)
theorem dX2_speckless_50 : decode cX2_speckless 50 = .ok (.imul, 1) := dk_104 (dk_at dksX2_speckless_2 3 rfl rfl)
theorem dX2_speckless_51 : decode cX2_speckless 51 = .ok (.iload_n 1, 1) := dk_27 (dk_at dksX2_speckless_2 4 rfl rfl)
theorem dX2_speckless_52 : decode cX2_speckless 52 = .ok (.iadd, 1) := dk_96 (dk_at dksX2_speckless_2 5 rfl rfl)
theorem dX2_speckless_53 : decode cX2_speckless 53 = .ok (.iload_n 3, 1) := dk_29 (dk_at dksX2_speckless_2 6 rfl rfl)
theorem dX2_speckless_54 : decode cX2_speckless 54 = .ok (.bastore, 1) := dk_84 (dk_at dksX2_speckless_2 7 rfl rfl)
theorem dX2_speckless_55 : decode cX2_speckless 55 = .ok (.iconst 1, 1) := dk_4 (dk_at dksX2_speckless_2 8 rfl rfl)
theorem dX2_speckless_56 : decode cX2_speckless 56 = .ok (.ireturn, 1) := dk_172 (dk_at dksX2_speckless_2 9 rfl rfl)
abbrev cX2_isIn : ByteArray := prog_28_method_30_code
def yX2_isIn : MethodName := ⟨RX2, "isIn", "(II)Z"⟩
def dkwX2_isIn_0 : List UInt8 := [26, 155, 0, 12, 26, 27, 162, 0, 7, 4, 167, 0, 4, 3, 172]
abbrev dktX2_isIn_0 : List UInt8 := dkwX2_isIn_0 ++ []
theorem dksX2_isIn_0 : cX2_isIn.data.toList.drop 0 = dktX2_isIn_0 := by decide +kernel
theorem dX2_isIn_0 : decode cX2_isIn 0 = .ok (.iload_n 0, 1) := dk_26 (dk_at dksX2_isIn_0 0 rfl rfl)
theorem dX2_isIn_1 : decode cX2_isIn 1 = .ok (.ifCond .lt 12, 3) := dk_155 0 12 (dk_at dksX2_isIn_0 1 rfl rfl)
theorem dX2_isIn_4 : decode cX2_isIn 4 = .ok (.iload_n 0, 1) := dk_26 (dk_at dksX2_isIn_0 4 rfl rfl)
theorem dX2_isIn_5 : decode cX2_isIn 5 = .ok (.iload_n 1, 1) := dk_27 (dk_at dksX2_isIn_0 5 rfl rfl)
theorem dX2_isIn_6 : decode cX2_isIn 6 = .ok (.if_icmp .ge 7, 3) := dk_162 0 7 (dk_at dksX2_isIn_0 6 rfl rfl)
theorem dX2_isIn_9 : decode cX2_isIn 9 = .ok (.iconst 1, 1) := dk_4 (dk_at dksX2_isIn_0 9 rfl rfl)
theorem dX2_isIn_10 : decode cX2_isIn 10 = .ok (.goto 4, 3) := dk_167 0 4 (dk_at dksX2_isIn_0 10 rfl rfl)
theorem dX2_isIn_13 : decode cX2_isIn 13 = .ok (.iconst 0, 1) := dk_3 (dk_at dksX2_isIn_0 13 rfl rfl)
theorem dX2_isIn_14 : decode cX2_isIn 14 = .ok (.ireturn, 1) := dk_172 (dk_at dksX2_isIn_0 14 rfl rfl)
abbrev cX2_dots : ByteArray := prog_28_method_40_code
def yX2_dots : MethodName := ⟨RX2, "dots", "(III)I"⟩
def dkwX2_dots_2 : List UInt8 := [42, 5, 182, 1, 132, 167, 0, 16, 28, 6, 160, 0, 10, 42, 180, 1, 126, 167, 0, 4, 2, 172]
abbrev dktX2_dots_2 : List UInt8 := dkwX2_dots_2 ++ []
def dkwX2_dots_1 : List UInt8 := [180, 1, 114, 167, 0, 42, 28, 4, 160, 0, 11, 42, 4, 182, 1, 132, 167, 0, 29, 28, 5, 160, 0, 11]
abbrev dktX2_dots_1 : List UInt8 := dkwX2_dots_1 ++ dktX2_dots_2
def dkwX2_dots_0 : List UInt8 := [42, 27, 29, 182, 1, 117, 154, 0, 5, 2, 172, 42, 27, 29, 182, 1, 129, 28, 154, 0, 10, 42]
abbrev dktX2_dots_0 : List UInt8 := dkwX2_dots_0 ++ dktX2_dots_1
theorem dksX2_dots_0 : cX2_dots.data.toList.drop 0 = dktX2_dots_0 := by decide +kernel
theorem dksX2_dots_1 : cX2_dots.data.toList.drop 22 = dktX2_dots_1 := dk_seg dksX2_dots_0 22 rfl rfl
theorem dksX2_dots_2 : cX2_dots.data.toList.drop 46 = dktX2_dots_2 := dk_seg dksX2_dots_1 24 rfl rfl
theorem dX2_dots_0 : decode cX2_dots 0 = .ok (.aload_n 0, 1) := dk_42 (dk_at dksX2_dots_0 0 rfl rfl)
theorem dX2_dots_1 : decode cX2_dots 1 = .ok (.iload_n 1, 1) := dk_27 (dk_at dksX2_dots_0 1 rfl rfl)
theorem dX2_dots_2 : decode cX2_dots 2 = .ok (.iload_n 3, 1) := dk_29 (dk_at dksX2_dots_0 2 rfl rfl)
theorem dX2_dots_3 : decode cX2_dots 3 = .ok (.invokevirtual 373, 3) := dk_182 1 117 (dk_at dksX2_dots_0 3 rfl rfl)
theorem dX2_dots_6 : decode cX2_dots 6 = .ok (.ifCond .ne 5, 3) := dk_154 0 5 (dk_at dksX2_dots_0 6 rfl rfl)
theorem dX2_dots_9 : decode cX2_dots 9 = .ok (.iconst (-1), 1) := dk_2 (dk_at dksX2_dots_0 9 rfl rfl)
theorem dX2_dots_10 : decode cX2_dots 10 = .ok (.ireturn, 1) := dk_172 (dk_at dksX2_dots_0 10 rfl rfl)
theorem dX2_dots_11 : decode cX2_dots 11 = .ok (.aload_n 0, 1) := dk_42 (dk_at dksX2_dots_0 11 rfl rfl)
theorem dX2_dots_12 : decode cX2_dots 12 = .ok (.iload_n 1, 1) := dk_27 (dk_at dksX2_dots_0 12 rfl rfl)
theorem dX2_dots_13 : decode cX2_dots 13 = .ok (.iload_n 3, 1) := dk_29 (dk_at dksX2_dots_0 13 rfl rfl)
theorem dX2_dots_14 : decode cX2_dots 14 = .ok (.invokevirtual 385, 3) := dk_182 1 129 (dk_at dksX2_dots_0 14 rfl rfl)
theorem dX2_dots_17 : decode cX2_dots 17 = .ok (.iload_n 2, 1) := dk_28 (dk_at dksX2_dots_0 17 rfl rfl)
theorem dX2_dots_18 : decode cX2_dots 18 = .ok (.ifCond .ne 10, 3) := dk_154 0 10 (dk_at dksX2_dots_0 18 rfl rfl)
theorem dX2_dots_21 : decode cX2_dots 21 = .ok (.aload_n 0, 1) := dk_42 (dk_at dksX2_dots_0 21 rfl rfl)
theorem dX2_dots_22 : decode cX2_dots 22 = .ok (.getfield 370, 3) := dk_180 1 114 (dk_at dksX2_dots_1 0 rfl rfl)
theorem dX2_dots_25 : decode cX2_dots 25 = .ok (.goto 42, 3) := dk_167 0 42 (dk_at dksX2_dots_1 3 rfl rfl)
theorem dX2_dots_28 : decode cX2_dots 28 = .ok (.iload_n 2, 1) := dk_28 (dk_at dksX2_dots_1 6 rfl rfl)
theorem dX2_dots_29 : decode cX2_dots 29 = .ok (.iconst 1, 1) := dk_4 (dk_at dksX2_dots_1 7 rfl rfl)
theorem dX2_dots_30 : decode cX2_dots 30 = .ok (.if_icmp .ne 11, 3) := dk_160 0 11 (dk_at dksX2_dots_1 8 rfl rfl)
theorem dX2_dots_33 : decode cX2_dots 33 = .ok (.aload_n 0, 1) := dk_42 (dk_at dksX2_dots_1 11 rfl rfl)
theorem dX2_dots_34 : decode cX2_dots 34 = .ok (.iconst 1, 1) := dk_4 (dk_at dksX2_dots_1 12 rfl rfl)
theorem dX2_dots_35 : decode cX2_dots 35 = .ok (.invokevirtual 388, 3) := dk_182 1 132 (dk_at dksX2_dots_1 13 rfl rfl)
theorem dX2_dots_38 : decode cX2_dots 38 = .ok (.goto 29, 3) := dk_167 0 29 (dk_at dksX2_dots_1 16 rfl rfl)
theorem dX2_dots_41 : decode cX2_dots 41 = .ok (.iload_n 2, 1) := dk_28 (dk_at dksX2_dots_1 19 rfl rfl)
theorem dX2_dots_42 : decode cX2_dots 42 = .ok (.iconst 2, 1) := dk_5 (dk_at dksX2_dots_1 20 rfl rfl)
theorem dX2_dots_43 : decode cX2_dots 43 = .ok (.if_icmp .ne 11, 3) := dk_160 0 11 (dk_at dksX2_dots_1 21 rfl rfl)
theorem dX2_dots_46 : decode cX2_dots 46 = .ok (.aload_n 0, 1) := dk_42 (dk_at dksX2_dots_2 0 rfl rfl)
theorem dX2_dots_47 : decode cX2_dots 47 = .ok (.iconst 2, 1) := dk_5 (dk_at dksX2_dots_2 1 rfl rfl)
theorem dX2_dots_48 : decode cX2_dots 48 = .ok (.invokevirtual 388, 3) := dk_182 1 132 (dk_at dksX2_dots_2 2 rfl rfl)
theorem dX2_dots_51 : decode cX2_dots 51 = .ok (.goto 16, 3) := dk_167 0 16 (dk_at dksX2_dots_2 5 rfl rfl)
theorem dX2_dots_54 : decode cX2_dots 54 = .ok (.iload_n 2, 1) := dk_28 (dk_at dksX2_dots_2 8 rfl rfl)
theorem dX2_dots_55 : decode cX2_dots 55 = .ok (.iconst 3, 1) := dk_6 (dk_at dksX2_dots_2 9 rfl rfl)
theorem dX2_dots_56 : decode cX2_dots 56 = .ok (.if_icmp .ne 10, 3) := dk_160 0 10 (dk_at dksX2_dots_2 10 rfl rfl)
theorem dX2_dots_59 : decode cX2_dots 59 = .ok (.aload_n 0, 1) := dk_42 (dk_at dksX2_dots_2 13 rfl rfl)
theorem dX2_dots_60 : decode cX2_dots 60 = .ok (.getfield 382, 3) := dk_180 1 126 (dk_at dksX2_dots_2 14 rfl rfl)
theorem dX2_dots_63 : decode cX2_dots 63 = .ok (.goto 4, 3) := dk_167 0 4 (dk_at dksX2_dots_2 17 rfl rfl)
theorem dX2_dots_66 : decode cX2_dots 66 = .ok (.iconst (-1), 1) := dk_2 (dk_at dksX2_dots_2 20 rfl rfl)
theorem dX2_dots_67 : decode cX2_dots 67 = .ok (.ireturn, 1) := dk_172 (dk_at dksX2_dots_2 21 rfl rfl)
abbrev cX2_counts : ByteArray := prog_28_method_29_code
def yX2_counts : MethodName := ⟨RX2, "counts", "(II)Z"⟩
def dkwX2_counts_1 : List UInt8 := [180, 0, 58, 27, 46, 155, 0, 13, 42, 180, 0, 58, 27, 46, 28, 164, 0, 7, 4, 167, 0, 4, 3, 172]
abbrev dktX2_counts_1 : List UInt8 := dkwX2_counts_1 ++ []
def dkwX2_counts_0 : List UInt8 := [27, 155, 0, 44, 27, 42, 180, 1, 77, 162, 0, 36, 42, 180, 0, 55, 27, 46, 28, 163, 0, 26, 42]
abbrev dktX2_counts_0 : List UInt8 := dkwX2_counts_0 ++ dktX2_counts_1
theorem dksX2_counts_0 : cX2_counts.data.toList.drop 0 = dktX2_counts_0 := by decide +kernel
theorem dksX2_counts_1 : cX2_counts.data.toList.drop 23 = dktX2_counts_1 := dk_seg dksX2_counts_0 23 rfl rfl
theorem dX2_counts_0 : decode cX2_counts 0 = .ok (.iload_n 1, 1) := dk_27 (dk_at dksX2_counts_0 0 rfl rfl)
theorem dX2_counts_1 : decode cX2_counts 1 = .ok (.ifCond .lt 44, 3) := dk_155 0 44 (dk_at dksX2_counts_0 1 rfl rfl)
theorem dX2_counts_4 : decode cX2_counts 4 = .ok (.iload_n 1, 1) := dk_27 (dk_at dksX2_counts_0 4 rfl rfl)
theorem dX2_counts_5 : decode cX2_counts 5 = .ok (.aload_n 0, 1) := dk_42 (dk_at dksX2_counts_0 5 rfl rfl)
theorem dX2_counts_6 : decode cX2_counts 6 = .ok (.getfield 333, 3) := dk_180 1 77 (dk_at dksX2_counts_0 6 rfl rfl)
theorem dX2_counts_9 : decode cX2_counts 9 = .ok (.if_icmp .ge 36, 3) := dk_162 0 36 (dk_at dksX2_counts_0 9 rfl rfl)
theorem dX2_counts_12 : decode cX2_counts 12 = .ok (.aload_n 0, 1) := dk_42 (dk_at dksX2_counts_0 12 rfl rfl)
theorem dX2_counts_13 : decode cX2_counts 13 = .ok (.getfield 55, 3) := dk_180 0 55 (dk_at dksX2_counts_0 13 rfl rfl)
theorem dX2_counts_16 : decode cX2_counts 16 = .ok (.iload_n 1, 1) := dk_27 (dk_at dksX2_counts_0 16 rfl rfl)
theorem dX2_counts_17 : decode cX2_counts 17 = .ok (.iaload, 1) := dk_46 (dk_at dksX2_counts_0 17 rfl rfl)
theorem dX2_counts_18 : decode cX2_counts 18 = .ok (.iload_n 2, 1) := dk_28 (dk_at dksX2_counts_0 18 rfl rfl)
theorem dX2_counts_19 : decode cX2_counts 19 = .ok (.if_icmp .gt 26, 3) := dk_163 0 26 (dk_at dksX2_counts_0 19 rfl rfl)
theorem dX2_counts_22 : decode cX2_counts 22 = .ok (.aload_n 0, 1) := dk_42 (dk_at dksX2_counts_0 22 rfl rfl)
theorem dX2_counts_23 : decode cX2_counts 23 = .ok (.getfield 58, 3) := dk_180 0 58 (dk_at dksX2_counts_1 0 rfl rfl)
theorem dX2_counts_26 : decode cX2_counts 26 = .ok (.iload_n 1, 1) := dk_27 (dk_at dksX2_counts_1 3 rfl rfl)
theorem dX2_counts_27 : decode cX2_counts 27 = .ok (.iaload, 1) := dk_46 (dk_at dksX2_counts_1 4 rfl rfl)
theorem dX2_counts_28 : decode cX2_counts 28 = .ok (.ifCond .lt 13, 3) := dk_155 0 13 (dk_at dksX2_counts_1 5 rfl rfl)
theorem dX2_counts_31 : decode cX2_counts 31 = .ok (.aload_n 0, 1) := dk_42 (dk_at dksX2_counts_1 8 rfl rfl)
theorem dX2_counts_32 : decode cX2_counts 32 = .ok (.getfield 58, 3) := dk_180 0 58 (dk_at dksX2_counts_1 9 rfl rfl)
theorem dX2_counts_35 : decode cX2_counts 35 = .ok (.iload_n 1, 1) := dk_27 (dk_at dksX2_counts_1 12 rfl rfl)
theorem dX2_counts_36 : decode cX2_counts 36 = .ok (.iaload, 1) := dk_46 (dk_at dksX2_counts_1 13 rfl rfl)
theorem dX2_counts_37 : decode cX2_counts 37 = .ok (.iload_n 2, 1) := dk_28 (dk_at dksX2_counts_1 14 rfl rfl)
theorem dX2_counts_38 : decode cX2_counts 38 = .ok (.if_icmp .le 7, 3) := dk_164 0 7 (dk_at dksX2_counts_1 15 rfl rfl)
theorem dX2_counts_41 : decode cX2_counts 41 = .ok (.iconst 1, 1) := dk_4 (dk_at dksX2_counts_1 18 rfl rfl)
theorem dX2_counts_42 : decode cX2_counts 42 = .ok (.goto 4, 3) := dk_167 0 4 (dk_at dksX2_counts_1 19 rfl rfl)
theorem dX2_counts_45 : decode cX2_counts 45 = .ok (.iconst 0, 1) := dk_3 (dk_at dksX2_counts_1 22 rfl rfl)
theorem dX2_counts_46 : decode cX2_counts 46 = .ok (.ireturn, 1) := dk_172 (dk_at dksX2_counts_1 23 rfl rfl)
abbrev cX2_lookAt : ByteArray := prog_28_method_38_code
def yX2_lookAt : MethodName := ⟨RX2, "lookAt", "(II)V"⟩
def dkwX2_lookAt_12 : List UInt8 := [89, 180, 1, 126, 4, 96, 181, 1, 126, 132, 4, 1, 167, 255, 145, 177]
abbrev dktX2_lookAt_12 : List UInt8 := dkwX2_lookAt_12 ++ []
def dkwX2_lookAt_11 : List UInt8 := [180, 0, 76, 21, 4, 46, 158, 0, 6, 167, 0, 24, 42, 180, 0, 94, 42, 180, 1, 126, 21, 4, 79, 42]
abbrev dktX2_lookAt_11 : List UInt8 := dkwX2_lookAt_11 ++ dktX2_lookAt_12
def dkwX2_lookAt_10 : List UInt8 := [21, 5, 46, 29, 160, 0, 17, 42, 180, 0, 61, 21, 5, 51, 154, 0, 7, 5, 167, 0, 4, 3, 79, 42]
abbrev dktX2_lookAt_10 : List UInt8 := dkwX2_lookAt_10 ++ dktX2_lookAt_11
def dkwX2_lookAt_9 : List UInt8 := [180, 0, 79, 21, 4, 46, 51, 153, 0, 7, 4, 167, 0, 34, 29, 6, 161, 0, 28, 42, 180, 0, 88]
abbrev dktX2_lookAt_9 : List UInt8 := dkwX2_lookAt_9 ++ dktX2_lookAt_10
def dkwX2_lookAt_8 : List UInt8 := [162, 0, 108, 42, 21, 4, 182, 1, 123, 54, 5, 42, 180, 0, 76, 21, 4, 42, 180, 0, 85, 42]
abbrev dktX2_lookAt_8 : List UInt8 := dkwX2_lookAt_8 ++ dktX2_lookAt_9
def dkwX2_lookAt_7 : List UInt8 := [167, 255, 125, 42, 27, 182, 1, 120, 42, 3, 181, 1, 126, 3, 54, 4, 21, 4, 42, 180, 1, 114]
abbrev dktX2_lookAt_7 : List UInt8 := dkwX2_lookAt_7 ++ dktX2_lookAt_8
def dkwX2_lookAt_6 : List UInt8 := [21, 5, 51, 153, 0, 7, 4, 167, 0, 4, 3, 96, 79, 132, 5, 1, 167, 255, 220, 132, 4, 1]
abbrev dktX2_lookAt_6 : List UInt8 := dkwX2_lookAt_6 ++ dktX2_lookAt_7
def dkwX2_lookAt_5 : List UInt8 := [3, 54, 5, 21, 5, 17, 1, 0, 162, 0, 34, 42, 180, 0, 88, 21, 5, 92, 46, 42, 180, 0, 91]
abbrev dktX2_lookAt_5 : List UInt8 := dkwX2_lookAt_5 ++ dktX2_lookAt_6
def dkwX2_lookAt_4 : List UInt8 := [180, 1, 114, 162, 0, 21, 42, 180, 0, 91, 42, 21, 5, 182, 1, 123, 4, 84, 132, 5, 1, 167, 255, 232]
abbrev dktX2_lookAt_4 : List UInt8 := dkwX2_lookAt_4 ++ dktX2_lookAt_5
def dkwX2_lookAt_3 : List UInt8 := [162, 0, 17, 42, 180, 0, 91, 21, 5, 3, 84, 132, 5, 1, 167, 255, 237, 3, 54, 5, 21, 5, 42]
abbrev dktX2_lookAt_3 : List UInt8 := dkwX2_lookAt_3 ++ dktX2_lookAt_4
def dkwX2_lookAt_2 : List UInt8 := [154, 0, 6, 167, 0, 109, 132, 3, 1, 42, 21, 4, 182, 1, 120, 3, 54, 5, 21, 5, 17, 1, 0]
abbrev dktX2_lookAt_2 : List UInt8 := dkwX2_lookAt_2 ++ dktX2_lookAt_3
def dkwX2_lookAt_1 : List UInt8 := [167, 255, 237, 3, 54, 4, 21, 4, 42, 180, 1, 77, 162, 0, 128, 42, 21, 4, 28, 182, 1, 117]
abbrev dktX2_lookAt_1 : List UInt8 := dkwX2_lookAt_1 ++ dktX2_lookAt_2
def dkwX2_lookAt_0 : List UInt8 := [3, 62, 3, 54, 4, 21, 4, 17, 1, 0, 162, 0, 17, 42, 180, 0, 88, 21, 4, 3, 79, 132, 4, 1]
abbrev dktX2_lookAt_0 : List UInt8 := dkwX2_lookAt_0 ++ dktX2_lookAt_1
theorem dksX2_lookAt_0 : cX2_lookAt.data.toList.drop 0 = dktX2_lookAt_0 := by decide +kernel
theorem dksX2_lookAt_1 : cX2_lookAt.data.toList.drop 24 = dktX2_lookAt_1 := dk_seg dksX2_lookAt_0 24 rfl rfl
theorem dksX2_lookAt_2 : cX2_lookAt.data.toList.drop 46 = dktX2_lookAt_2 := dk_seg dksX2_lookAt_1 22 rfl rfl
theorem dksX2_lookAt_3 : cX2_lookAt.data.toList.drop 69 = dktX2_lookAt_3 := dk_seg dksX2_lookAt_2 23 rfl rfl
theorem dksX2_lookAt_4 : cX2_lookAt.data.toList.drop 92 = dktX2_lookAt_4 := dk_seg dksX2_lookAt_3 23 rfl rfl
theorem dksX2_lookAt_5 : cX2_lookAt.data.toList.drop 116 = dktX2_lookAt_5 := dk_seg dksX2_lookAt_4 24 rfl rfl
theorem dksX2_lookAt_6 : cX2_lookAt.data.toList.drop 139 = dktX2_lookAt_6 := dk_seg dksX2_lookAt_5 23 rfl rfl
theorem dksX2_lookAt_7 : cX2_lookAt.data.toList.drop 161 = dktX2_lookAt_7 := dk_seg dksX2_lookAt_6 22 rfl rfl
theorem dksX2_lookAt_8 : cX2_lookAt.data.toList.drop 183 = dktX2_lookAt_8 := dk_seg dksX2_lookAt_7 22 rfl rfl
theorem dksX2_lookAt_9 : cX2_lookAt.data.toList.drop 205 = dktX2_lookAt_9 := dk_seg dksX2_lookAt_8 22 rfl rfl
theorem dksX2_lookAt_10 : cX2_lookAt.data.toList.drop 228 = dktX2_lookAt_10 := dk_seg dksX2_lookAt_9 23 rfl rfl
theorem dksX2_lookAt_11 : cX2_lookAt.data.toList.drop 252 = dktX2_lookAt_11 := dk_seg dksX2_lookAt_10 24 rfl rfl
theorem dksX2_lookAt_12 : cX2_lookAt.data.toList.drop 276 = dktX2_lookAt_12 := dk_seg dksX2_lookAt_11 24 rfl rfl
theorem dX2_lookAt_0 : decode cX2_lookAt 0 = .ok (.iconst 0, 1) := dk_3 (dk_at dksX2_lookAt_0 0 rfl rfl)
theorem dX2_lookAt_1 : decode cX2_lookAt 1 = .ok (.istore_n 3, 1) := dk_62 (dk_at dksX2_lookAt_0 1 rfl rfl)
theorem dX2_lookAt_2 : decode cX2_lookAt 2 = .ok (.iconst 0, 1) := dk_3 (dk_at dksX2_lookAt_0 2 rfl rfl)
theorem dX2_lookAt_3 : decode cX2_lookAt 3 = .ok (.istore 4, 2) := dk_54 4 (dk_at dksX2_lookAt_0 3 rfl rfl)
theorem dX2_lookAt_5 : decode cX2_lookAt 5 = .ok (.iload 4, 2) := dk_21 4 (dk_at dksX2_lookAt_0 5 rfl rfl)
theorem dX2_lookAt_7 : decode cX2_lookAt 7 = .ok (.sipush 256, 3) := dk_17 1 0 (dk_at dksX2_lookAt_0 7 rfl rfl)
theorem dX2_lookAt_10 : decode cX2_lookAt 10 = .ok (.if_icmp .ge 17, 3) := dk_162 0 17 (dk_at dksX2_lookAt_0 10 rfl rfl)
theorem dX2_lookAt_13 : decode cX2_lookAt 13 = .ok (.aload_n 0, 1) := dk_42 (dk_at dksX2_lookAt_0 13 rfl rfl)
theorem dX2_lookAt_14 : decode cX2_lookAt 14 = .ok (.getfield 88, 3) := dk_180 0 88 (dk_at dksX2_lookAt_0 14 rfl rfl)
theorem dX2_lookAt_17 : decode cX2_lookAt 17 = .ok (.iload 4, 2) := dk_21 4 (dk_at dksX2_lookAt_0 17 rfl rfl)
theorem dX2_lookAt_19 : decode cX2_lookAt 19 = .ok (.iconst 0, 1) := dk_3 (dk_at dksX2_lookAt_0 19 rfl rfl)
theorem dX2_lookAt_20 : decode cX2_lookAt 20 = .ok (.iastore, 1) := dk_79 (dk_at dksX2_lookAt_0 20 rfl rfl)
theorem dX2_lookAt_21 : decode cX2_lookAt 21 = .ok (.iinc 4 1, 3) := dk_132 4 1 (dk_at dksX2_lookAt_0 21 rfl rfl)
theorem dX2_lookAt_24 : decode cX2_lookAt 24 = .ok (.goto (-19), 3) := dk_167 255 237 (dk_at dksX2_lookAt_1 0 rfl rfl)
theorem dX2_lookAt_27 : decode cX2_lookAt 27 = .ok (.iconst 0, 1) := dk_3 (dk_at dksX2_lookAt_1 3 rfl rfl)
theorem dX2_lookAt_28 : decode cX2_lookAt 28 = .ok (.istore 4, 2) := dk_54 4 (dk_at dksX2_lookAt_1 4 rfl rfl)
theorem dX2_lookAt_30 : decode cX2_lookAt 30 = .ok (.iload 4, 2) := dk_21 4 (dk_at dksX2_lookAt_1 6 rfl rfl)
theorem dX2_lookAt_32 : decode cX2_lookAt 32 = .ok (.aload_n 0, 1) := dk_42 (dk_at dksX2_lookAt_1 8 rfl rfl)
theorem dX2_lookAt_33 : decode cX2_lookAt 33 = .ok (.getfield 333, 3) := dk_180 1 77 (dk_at dksX2_lookAt_1 9 rfl rfl)
theorem dX2_lookAt_36 : decode cX2_lookAt 36 = .ok (.if_icmp .ge 128, 3) := dk_162 0 128 (dk_at dksX2_lookAt_1 12 rfl rfl)
theorem dX2_lookAt_39 : decode cX2_lookAt 39 = .ok (.aload_n 0, 1) := dk_42 (dk_at dksX2_lookAt_1 15 rfl rfl)
theorem dX2_lookAt_40 : decode cX2_lookAt 40 = .ok (.iload 4, 2) := dk_21 4 (dk_at dksX2_lookAt_1 16 rfl rfl)
theorem dX2_lookAt_42 : decode cX2_lookAt 42 = .ok (.iload_n 2, 1) := dk_28 (dk_at dksX2_lookAt_1 18 rfl rfl)
theorem dX2_lookAt_43 : decode cX2_lookAt 43 = .ok (.invokevirtual 373, 3) := dk_182 1 117 (dk_at dksX2_lookAt_1 19 rfl rfl)
theorem dX2_lookAt_46 : decode cX2_lookAt 46 = .ok (.ifCond .ne 6, 3) := dk_154 0 6 (dk_at dksX2_lookAt_2 0 rfl rfl)
theorem dX2_lookAt_49 : decode cX2_lookAt 49 = .ok (.goto 109, 3) := dk_167 0 109 (dk_at dksX2_lookAt_2 3 rfl rfl)
theorem dX2_lookAt_52 : decode cX2_lookAt 52 = .ok (.iinc 3 1, 3) := dk_132 3 1 (dk_at dksX2_lookAt_2 6 rfl rfl)
theorem dX2_lookAt_55 : decode cX2_lookAt 55 = .ok (.aload_n 0, 1) := dk_42 (dk_at dksX2_lookAt_2 9 rfl rfl)
theorem dX2_lookAt_56 : decode cX2_lookAt 56 = .ok (.iload 4, 2) := dk_21 4 (dk_at dksX2_lookAt_2 10 rfl rfl)
theorem dX2_lookAt_58 : decode cX2_lookAt 58 = .ok (.invokevirtual 376, 3) := dk_182 1 120 (dk_at dksX2_lookAt_2 12 rfl rfl)
theorem dX2_lookAt_61 : decode cX2_lookAt 61 = .ok (.iconst 0, 1) := dk_3 (dk_at dksX2_lookAt_2 15 rfl rfl)
theorem dX2_lookAt_62 : decode cX2_lookAt 62 = .ok (.istore 5, 2) := dk_54 5 (dk_at dksX2_lookAt_2 16 rfl rfl)
theorem dX2_lookAt_64 : decode cX2_lookAt 64 = .ok (.iload 5, 2) := dk_21 5 (dk_at dksX2_lookAt_2 18 rfl rfl)
theorem dX2_lookAt_66 : decode cX2_lookAt 66 = .ok (.sipush 256, 3) := dk_17 1 0 (dk_at dksX2_lookAt_2 20 rfl rfl)
theorem dX2_lookAt_69 : decode cX2_lookAt 69 = .ok (.if_icmp .ge 17, 3) := dk_162 0 17 (dk_at dksX2_lookAt_3 0 rfl rfl)
theorem dX2_lookAt_72 : decode cX2_lookAt 72 = .ok (.aload_n 0, 1) := dk_42 (dk_at dksX2_lookAt_3 3 rfl rfl)
theorem dX2_lookAt_73 : decode cX2_lookAt 73 = .ok (.getfield 91, 3) := dk_180 0 91 (dk_at dksX2_lookAt_3 4 rfl rfl)
theorem dX2_lookAt_76 : decode cX2_lookAt 76 = .ok (.iload 5, 2) := dk_21 5 (dk_at dksX2_lookAt_3 7 rfl rfl)
theorem dX2_lookAt_78 : decode cX2_lookAt 78 = .ok (.iconst 0, 1) := dk_3 (dk_at dksX2_lookAt_3 9 rfl rfl)
theorem dX2_lookAt_79 : decode cX2_lookAt 79 = .ok (.bastore, 1) := dk_84 (dk_at dksX2_lookAt_3 10 rfl rfl)
theorem dX2_lookAt_80 : decode cX2_lookAt 80 = .ok (.iinc 5 1, 3) := dk_132 5 1 (dk_at dksX2_lookAt_3 11 rfl rfl)
theorem dX2_lookAt_83 : decode cX2_lookAt 83 = .ok (.goto (-19), 3) := dk_167 255 237 (dk_at dksX2_lookAt_3 14 rfl rfl)
theorem dX2_lookAt_86 : decode cX2_lookAt 86 = .ok (.iconst 0, 1) := dk_3 (dk_at dksX2_lookAt_3 17 rfl rfl)
theorem dX2_lookAt_87 : decode cX2_lookAt 87 = .ok (.istore 5, 2) := dk_54 5 (dk_at dksX2_lookAt_3 18 rfl rfl)
theorem dX2_lookAt_89 : decode cX2_lookAt 89 = .ok (.iload 5, 2) := dk_21 5 (dk_at dksX2_lookAt_3 20 rfl rfl)
theorem dX2_lookAt_91 : decode cX2_lookAt 91 = .ok (.aload_n 0, 1) := dk_42 (dk_at dksX2_lookAt_3 22 rfl rfl)
theorem dX2_lookAt_92 : decode cX2_lookAt 92 = .ok (.getfield 370, 3) := dk_180 1 114 (dk_at dksX2_lookAt_4 0 rfl rfl)
theorem dX2_lookAt_95 : decode cX2_lookAt 95 = .ok (.if_icmp .ge 21, 3) := dk_162 0 21 (dk_at dksX2_lookAt_4 3 rfl rfl)
theorem dX2_lookAt_98 : decode cX2_lookAt 98 = .ok (.aload_n 0, 1) := dk_42 (dk_at dksX2_lookAt_4 6 rfl rfl)
theorem dX2_lookAt_99 : decode cX2_lookAt 99 = .ok (.getfield 91, 3) := dk_180 0 91 (dk_at dksX2_lookAt_4 7 rfl rfl)
theorem dX2_lookAt_102 : decode cX2_lookAt 102 = .ok (.aload_n 0, 1) := dk_42 (dk_at dksX2_lookAt_4 10 rfl rfl)
theorem dX2_lookAt_103 : decode cX2_lookAt 103 = .ok (.iload 5, 2) := dk_21 5 (dk_at dksX2_lookAt_4 11 rfl rfl)
theorem dX2_lookAt_105 : decode cX2_lookAt 105 = .ok (.invokevirtual 379, 3) := dk_182 1 123 (dk_at dksX2_lookAt_4 13 rfl rfl)
theorem dX2_lookAt_108 : decode cX2_lookAt 108 = .ok (.iconst 1, 1) := dk_4 (dk_at dksX2_lookAt_4 16 rfl rfl)
theorem dX2_lookAt_109 : decode cX2_lookAt 109 = .ok (.bastore, 1) := dk_84 (dk_at dksX2_lookAt_4 17 rfl rfl)
theorem dX2_lookAt_110 : decode cX2_lookAt 110 = .ok (.iinc 5 1, 3) := dk_132 5 1 (dk_at dksX2_lookAt_4 18 rfl rfl)
theorem dX2_lookAt_113 : decode cX2_lookAt 113 = .ok (.goto (-24), 3) := dk_167 255 232 (dk_at dksX2_lookAt_4 21 rfl rfl)
theorem dX2_lookAt_116 : decode cX2_lookAt 116 = .ok (.iconst 0, 1) := dk_3 (dk_at dksX2_lookAt_5 0 rfl rfl)
theorem dX2_lookAt_117 : decode cX2_lookAt 117 = .ok (.istore 5, 2) := dk_54 5 (dk_at dksX2_lookAt_5 1 rfl rfl)
theorem dX2_lookAt_119 : decode cX2_lookAt 119 = .ok (.iload 5, 2) := dk_21 5 (dk_at dksX2_lookAt_5 3 rfl rfl)
theorem dX2_lookAt_121 : decode cX2_lookAt 121 = .ok (.sipush 256, 3) := dk_17 1 0 (dk_at dksX2_lookAt_5 5 rfl rfl)
theorem dX2_lookAt_124 : decode cX2_lookAt 124 = .ok (.if_icmp .ge 34, 3) := dk_162 0 34 (dk_at dksX2_lookAt_5 8 rfl rfl)
theorem dX2_lookAt_127 : decode cX2_lookAt 127 = .ok (.aload_n 0, 1) := dk_42 (dk_at dksX2_lookAt_5 11 rfl rfl)
theorem dX2_lookAt_128 : decode cX2_lookAt 128 = .ok (.getfield 88, 3) := dk_180 0 88 (dk_at dksX2_lookAt_5 12 rfl rfl)
theorem dX2_lookAt_131 : decode cX2_lookAt 131 = .ok (.iload 5, 2) := dk_21 5 (dk_at dksX2_lookAt_5 15 rfl rfl)
theorem dX2_lookAt_133 : decode cX2_lookAt 133 = .ok (.dup2, 1) := dk_92 (dk_at dksX2_lookAt_5 17 rfl rfl)
theorem dX2_lookAt_134 : decode cX2_lookAt 134 = .ok (.iaload, 1) := dk_46 (dk_at dksX2_lookAt_5 18 rfl rfl)
theorem dX2_lookAt_135 : decode cX2_lookAt 135 = .ok (.aload_n 0, 1) := dk_42 (dk_at dksX2_lookAt_5 19 rfl rfl)
theorem dX2_lookAt_136 : decode cX2_lookAt 136 = .ok (.getfield 91, 3) := dk_180 0 91 (dk_at dksX2_lookAt_5 20 rfl rfl)
theorem dX2_lookAt_139 : decode cX2_lookAt 139 = .ok (.iload 5, 2) := dk_21 5 (dk_at dksX2_lookAt_6 0 rfl rfl)
theorem dX2_lookAt_141 : decode cX2_lookAt 141 = .ok (.baload, 1) := dk_51 (dk_at dksX2_lookAt_6 2 rfl rfl)
theorem dX2_lookAt_142 : decode cX2_lookAt 142 = .ok (.ifCond .eq 7, 3) := dk_153 0 7 (dk_at dksX2_lookAt_6 3 rfl rfl)
theorem dX2_lookAt_145 : decode cX2_lookAt 145 = .ok (.iconst 1, 1) := dk_4 (dk_at dksX2_lookAt_6 6 rfl rfl)
theorem dX2_lookAt_146 : decode cX2_lookAt 146 = .ok (.goto 4, 3) := dk_167 0 4 (dk_at dksX2_lookAt_6 7 rfl rfl)
theorem dX2_lookAt_149 : decode cX2_lookAt 149 = .ok (.iconst 0, 1) := dk_3 (dk_at dksX2_lookAt_6 10 rfl rfl)
theorem dX2_lookAt_150 : decode cX2_lookAt 150 = .ok (.iadd, 1) := dk_96 (dk_at dksX2_lookAt_6 11 rfl rfl)
theorem dX2_lookAt_151 : decode cX2_lookAt 151 = .ok (.iastore, 1) := dk_79 (dk_at dksX2_lookAt_6 12 rfl rfl)
theorem dX2_lookAt_152 : decode cX2_lookAt 152 = .ok (.iinc 5 1, 3) := dk_132 5 1 (dk_at dksX2_lookAt_6 13 rfl rfl)
theorem dX2_lookAt_155 : decode cX2_lookAt 155 = .ok (.goto (-36), 3) := dk_167 255 220 (dk_at dksX2_lookAt_6 16 rfl rfl)
theorem dX2_lookAt_158 : decode cX2_lookAt 158 = .ok (.iinc 4 1, 3) := dk_132 4 1 (dk_at dksX2_lookAt_6 19 rfl rfl)
theorem dX2_lookAt_161 : decode cX2_lookAt 161 = .ok (.goto (-131), 3) := dk_167 255 125 (dk_at dksX2_lookAt_7 0 rfl rfl)
theorem dX2_lookAt_164 : decode cX2_lookAt 164 = .ok (.aload_n 0, 1) := dk_42 (dk_at dksX2_lookAt_7 3 rfl rfl)
theorem dX2_lookAt_165 : decode cX2_lookAt 165 = .ok (.iload_n 1, 1) := dk_27 (dk_at dksX2_lookAt_7 4 rfl rfl)
theorem dX2_lookAt_166 : decode cX2_lookAt 166 = .ok (.invokevirtual 376, 3) := dk_182 1 120 (dk_at dksX2_lookAt_7 5 rfl rfl)
theorem dX2_lookAt_169 : decode cX2_lookAt 169 = .ok (.aload_n 0, 1) := dk_42 (dk_at dksX2_lookAt_7 8 rfl rfl)
theorem dX2_lookAt_170 : decode cX2_lookAt 170 = .ok (.iconst 0, 1) := dk_3 (dk_at dksX2_lookAt_7 9 rfl rfl)
theorem dX2_lookAt_171 : decode cX2_lookAt 171 = .ok (.putfield 382, 3) := dk_181 1 126 (dk_at dksX2_lookAt_7 10 rfl rfl)
theorem dX2_lookAt_174 : decode cX2_lookAt 174 = .ok (.iconst 0, 1) := dk_3 (dk_at dksX2_lookAt_7 13 rfl rfl)
theorem dX2_lookAt_175 : decode cX2_lookAt 175 = .ok (.istore 4, 2) := dk_54 4 (dk_at dksX2_lookAt_7 14 rfl rfl)
theorem dX2_lookAt_177 : decode cX2_lookAt 177 = .ok (.iload 4, 2) := dk_21 4 (dk_at dksX2_lookAt_7 16 rfl rfl)
theorem dX2_lookAt_179 : decode cX2_lookAt 179 = .ok (.aload_n 0, 1) := dk_42 (dk_at dksX2_lookAt_7 18 rfl rfl)
theorem dX2_lookAt_180 : decode cX2_lookAt 180 = .ok (.getfield 370, 3) := dk_180 1 114 (dk_at dksX2_lookAt_7 19 rfl rfl)
theorem dX2_lookAt_183 : decode cX2_lookAt 183 = .ok (.if_icmp .ge 108, 3) := dk_162 0 108 (dk_at dksX2_lookAt_8 0 rfl rfl)
theorem dX2_lookAt_186 : decode cX2_lookAt 186 = .ok (.aload_n 0, 1) := dk_42 (dk_at dksX2_lookAt_8 3 rfl rfl)
theorem dX2_lookAt_187 : decode cX2_lookAt 187 = .ok (.iload 4, 2) := dk_21 4 (dk_at dksX2_lookAt_8 4 rfl rfl)
theorem dX2_lookAt_189 : decode cX2_lookAt 189 = .ok (.invokevirtual 379, 3) := dk_182 1 123 (dk_at dksX2_lookAt_8 6 rfl rfl)
theorem dX2_lookAt_192 : decode cX2_lookAt 192 = .ok (.istore 5, 2) := dk_54 5 (dk_at dksX2_lookAt_8 9 rfl rfl)
theorem dX2_lookAt_194 : decode cX2_lookAt 194 = .ok (.aload_n 0, 1) := dk_42 (dk_at dksX2_lookAt_8 11 rfl rfl)
theorem dX2_lookAt_195 : decode cX2_lookAt 195 = .ok (.getfield 76, 3) := dk_180 0 76 (dk_at dksX2_lookAt_8 12 rfl rfl)
theorem dX2_lookAt_198 : decode cX2_lookAt 198 = .ok (.iload 4, 2) := dk_21 4 (dk_at dksX2_lookAt_8 15 rfl rfl)
theorem dX2_lookAt_200 : decode cX2_lookAt 200 = .ok (.aload_n 0, 1) := dk_42 (dk_at dksX2_lookAt_8 17 rfl rfl)
theorem dX2_lookAt_201 : decode cX2_lookAt 201 = .ok (.getfield 85, 3) := dk_180 0 85 (dk_at dksX2_lookAt_8 18 rfl rfl)
theorem dX2_lookAt_204 : decode cX2_lookAt 204 = .ok (.aload_n 0, 1) := dk_42 (dk_at dksX2_lookAt_8 21 rfl rfl)
theorem dX2_lookAt_205 : decode cX2_lookAt 205 = .ok (.getfield 79, 3) := dk_180 0 79 (dk_at dksX2_lookAt_9 0 rfl rfl)
theorem dX2_lookAt_208 : decode cX2_lookAt 208 = .ok (.iload 4, 2) := dk_21 4 (dk_at dksX2_lookAt_9 3 rfl rfl)
theorem dX2_lookAt_210 : decode cX2_lookAt 210 = .ok (.iaload, 1) := dk_46 (dk_at dksX2_lookAt_9 5 rfl rfl)
theorem dX2_lookAt_211 : decode cX2_lookAt 211 = .ok (.baload, 1) := dk_51 (dk_at dksX2_lookAt_9 6 rfl rfl)
theorem dX2_lookAt_212 : decode cX2_lookAt 212 = .ok (.ifCond .eq 7, 3) := dk_153 0 7 (dk_at dksX2_lookAt_9 7 rfl rfl)
theorem dX2_lookAt_215 : decode cX2_lookAt 215 = .ok (.iconst 1, 1) := dk_4 (dk_at dksX2_lookAt_9 10 rfl rfl)
theorem dX2_lookAt_216 : decode cX2_lookAt 216 = .ok (.goto 34, 3) := dk_167 0 34 (dk_at dksX2_lookAt_9 11 rfl rfl)
theorem dX2_lookAt_219 : decode cX2_lookAt 219 = .ok (.iload_n 3, 1) := dk_29 (dk_at dksX2_lookAt_9 14 rfl rfl)
theorem dX2_lookAt_220 : decode cX2_lookAt 220 = .ok (.iconst 3, 1) := dk_6 (dk_at dksX2_lookAt_9 15 rfl rfl)
theorem dX2_lookAt_221 : decode cX2_lookAt 221 = .ok (.if_icmp .lt 28, 3) := dk_161 0 28 (dk_at dksX2_lookAt_9 16 rfl rfl)
theorem dX2_lookAt_224 : decode cX2_lookAt 224 = .ok (.aload_n 0, 1) := dk_42 (dk_at dksX2_lookAt_9 19 rfl rfl)
theorem dX2_lookAt_225 : decode cX2_lookAt 225 = .ok (.getfield 88, 3) := dk_180 0 88 (dk_at dksX2_lookAt_9 20 rfl rfl)
theorem dX2_lookAt_228 : decode cX2_lookAt 228 = .ok (.iload 5, 2) := dk_21 5 (dk_at dksX2_lookAt_10 0 rfl rfl)
theorem dX2_lookAt_230 : decode cX2_lookAt 230 = .ok (.iaload, 1) := dk_46 (dk_at dksX2_lookAt_10 2 rfl rfl)
theorem dX2_lookAt_231 : decode cX2_lookAt 231 = .ok (.iload_n 3, 1) := dk_29 (dk_at dksX2_lookAt_10 3 rfl rfl)
theorem dX2_lookAt_232 : decode cX2_lookAt 232 = .ok (.if_icmp .ne 17, 3) := dk_160 0 17 (dk_at dksX2_lookAt_10 4 rfl rfl)
theorem dX2_lookAt_235 : decode cX2_lookAt 235 = .ok (.aload_n 0, 1) := dk_42 (dk_at dksX2_lookAt_10 7 rfl rfl)
theorem dX2_lookAt_236 : decode cX2_lookAt 236 = .ok (.getfield 61, 3) := dk_180 0 61 (dk_at dksX2_lookAt_10 8 rfl rfl)
theorem dX2_lookAt_239 : decode cX2_lookAt 239 = .ok (.iload 5, 2) := dk_21 5 (dk_at dksX2_lookAt_10 11 rfl rfl)
theorem dX2_lookAt_241 : decode cX2_lookAt 241 = .ok (.baload, 1) := dk_51 (dk_at dksX2_lookAt_10 13 rfl rfl)
theorem dX2_lookAt_242 : decode cX2_lookAt 242 = .ok (.ifCond .ne 7, 3) := dk_154 0 7 (dk_at dksX2_lookAt_10 14 rfl rfl)
theorem dX2_lookAt_245 : decode cX2_lookAt 245 = .ok (.iconst 2, 1) := dk_5 (dk_at dksX2_lookAt_10 17 rfl rfl)
theorem dX2_lookAt_246 : decode cX2_lookAt 246 = .ok (.goto 4, 3) := dk_167 0 4 (dk_at dksX2_lookAt_10 18 rfl rfl)
theorem dX2_lookAt_249 : decode cX2_lookAt 249 = .ok (.iconst 0, 1) := dk_3 (dk_at dksX2_lookAt_10 21 rfl rfl)
theorem dX2_lookAt_250 : decode cX2_lookAt 250 = .ok (.iastore, 1) := dk_79 (dk_at dksX2_lookAt_10 22 rfl rfl)
theorem dX2_lookAt_251 : decode cX2_lookAt 251 = .ok (.aload_n 0, 1) := dk_42 (dk_at dksX2_lookAt_10 23 rfl rfl)
theorem dX2_lookAt_252 : decode cX2_lookAt 252 = .ok (.getfield 76, 3) := dk_180 0 76 (dk_at dksX2_lookAt_11 0 rfl rfl)
theorem dX2_lookAt_255 : decode cX2_lookAt 255 = .ok (.iload 4, 2) := dk_21 4 (dk_at dksX2_lookAt_11 3 rfl rfl)
theorem dX2_lookAt_257 : decode cX2_lookAt 257 = .ok (.iaload, 1) := dk_46 (dk_at dksX2_lookAt_11 5 rfl rfl)
theorem dX2_lookAt_258 : decode cX2_lookAt 258 = .ok (.ifCond .le 6, 3) := dk_158 0 6 (dk_at dksX2_lookAt_11 6 rfl rfl)
theorem dX2_lookAt_261 : decode cX2_lookAt 261 = .ok (.goto 24, 3) := dk_167 0 24 (dk_at dksX2_lookAt_11 9 rfl rfl)
theorem dX2_lookAt_264 : decode cX2_lookAt 264 = .ok (.aload_n 0, 1) := dk_42 (dk_at dksX2_lookAt_11 12 rfl rfl)
theorem dX2_lookAt_265 : decode cX2_lookAt 265 = .ok (.getfield 94, 3) := dk_180 0 94 (dk_at dksX2_lookAt_11 13 rfl rfl)
theorem dX2_lookAt_268 : decode cX2_lookAt 268 = .ok (.aload_n 0, 1) := dk_42 (dk_at dksX2_lookAt_11 16 rfl rfl)
theorem dX2_lookAt_269 : decode cX2_lookAt 269 = .ok (.getfield 382, 3) := dk_180 1 126 (dk_at dksX2_lookAt_11 17 rfl rfl)
theorem dX2_lookAt_272 : decode cX2_lookAt 272 = .ok (.iload 4, 2) := dk_21 4 (dk_at dksX2_lookAt_11 20 rfl rfl)
theorem dX2_lookAt_274 : decode cX2_lookAt 274 = .ok (.iastore, 1) := dk_79 (dk_at dksX2_lookAt_11 22 rfl rfl)
theorem dX2_lookAt_275 : decode cX2_lookAt 275 = .ok (.aload_n 0, 1) := dk_42 (dk_at dksX2_lookAt_11 23 rfl rfl)
theorem dX2_lookAt_276 : decode cX2_lookAt 276 = .ok (.dup, 1) := dk_89 (dk_at dksX2_lookAt_12 0 rfl rfl)
theorem dX2_lookAt_277 : decode cX2_lookAt 277 = .ok (.getfield 382, 3) := dk_180 1 126 (dk_at dksX2_lookAt_12 1 rfl rfl)
theorem dX2_lookAt_280 : decode cX2_lookAt 280 = .ok (.iconst 1, 1) := dk_4 (dk_at dksX2_lookAt_12 4 rfl rfl)
theorem dX2_lookAt_281 : decode cX2_lookAt 281 = .ok (.iadd, 1) := dk_96 (dk_at dksX2_lookAt_12 5 rfl rfl)
theorem dX2_lookAt_282 : decode cX2_lookAt 282 = .ok (.putfield 382, 3) := dk_181 1 126 (dk_at dksX2_lookAt_12 6 rfl rfl)
theorem dX2_lookAt_285 : decode cX2_lookAt 285 = .ok (.iinc 4 1, 3) := dk_132 4 1 (dk_at dksX2_lookAt_12 9 rfl rfl)
theorem dX2_lookAt_288 : decode cX2_lookAt 288 = .ok (.goto (-111), 3) := dk_167 255 145 (dk_at dksX2_lookAt_12 12 rfl rfl)
theorem dX2_lookAt_291 : decode cX2_lookAt 291 = .ok (.return_, 1) := dk_177 (dk_at dksX2_lookAt_12 15 rfl rfl)
abbrev cX2_findDots : ByteArray := prog_28_method_36_code
def yX2_findDots : MethodName := ⟨RX2, "findDots", "(I)V"⟩
def dkwX2_findDots_8 : List UInt8 := [180, 1, 100, 16, 12, 164, 0, 8, 16, 12, 167, 0, 7, 42, 180, 1, 100, 181, 1, 114, 177]
abbrev dktX2_findDots_8 : List UInt8 := dkwX2_findDots_8 ++ []
def dkwX2_findDots_7 : List UInt8 := [100, 46, 79, 132, 3, 255, 167, 255, 219, 42, 180, 0, 79, 29, 28, 79, 132, 2, 1, 167, 255, 190, 42, 42]
abbrev dktX2_findDots_7 : List UInt8 := dkwX2_findDots_7 ++ dktX2_findDots_8
def dkwX2_findDots_6 : List UInt8 := [180, 0, 79, 29, 4, 100, 46, 182, 1, 111, 153, 0, 23, 42, 180, 0, 79, 29, 42, 180, 0, 79, 29, 4]
abbrev dktX2_findDots_6 : List UInt8 := dkwX2_findDots_6 ++ dktX2_findDots_7
def dkwX2_findDots_5 : List UInt8 := [42, 180, 1, 100, 162, 0, 64, 42, 27, 28, 182, 1, 107, 28, 62, 29, 158, 0, 39, 42, 28, 42]
abbrev dktX2_findDots_5 : List UInt8 := dkwX2_findDots_5 ++ dktX2_findDots_6
def dkwX2_findDots_4 : List UInt8 := [21, 4, 42, 180, 1, 100, 182, 1, 103, 132, 3, 1, 167, 255, 191, 132, 2, 1, 167, 255, 173, 3, 61, 28]
abbrev dktX2_findDots_4 : List UInt8 := dkwX2_findDots_4 ++ dktX2_findDots_5
def dkwX2_findDots_3 : List UInt8 := [21, 4, 182, 1, 97, 154, 0, 6, 167, 0, 24, 42, 89, 180, 1, 100, 4, 96, 181, 1, 100, 42, 27]
abbrev dktX2_findDots_3 : List UInt8 := dkwX2_findDots_3 ++ dktX2_findDots_4
def dkwX2_findDots_2 : List UInt8 := [162, 0, 61, 16, 16, 28, 104, 29, 96, 54, 4, 42, 180, 0, 82, 21, 4, 46, 154, 0, 37, 42, 27]
abbrev dktX2_findDots_2 : List UInt8 := dkwX2_findDots_2 ++ dktX2_findDots_3
def dkwX2_findDots_1 : List UInt8 := [167, 255, 239, 3, 61, 28, 42, 180, 0, 20, 3, 46, 162, 0, 79, 3, 62, 29, 42, 180, 0, 20, 3, 46]
abbrev dktX2_findDots_1 : List UInt8 := dkwX2_findDots_1 ++ dktX2_findDots_2
def dkwX2_findDots_0 : List UInt8 := [42, 3, 181, 1, 100, 3, 61, 28, 17, 1, 0, 162, 0, 16, 42, 180, 0, 82, 28, 3, 79, 132, 2, 1]
abbrev dktX2_findDots_0 : List UInt8 := dkwX2_findDots_0 ++ dktX2_findDots_1
theorem dksX2_findDots_0 : cX2_findDots.data.toList.drop 0 = dktX2_findDots_0 := by decide +kernel
theorem dksX2_findDots_1 : cX2_findDots.data.toList.drop 24 = dktX2_findDots_1 := dk_seg dksX2_findDots_0 24 rfl rfl
theorem dksX2_findDots_2 : cX2_findDots.data.toList.drop 48 = dktX2_findDots_2 := dk_seg dksX2_findDots_1 24 rfl rfl
theorem dksX2_findDots_3 : cX2_findDots.data.toList.drop 71 = dktX2_findDots_3 := dk_seg dksX2_findDots_2 23 rfl rfl
theorem dksX2_findDots_4 : cX2_findDots.data.toList.drop 94 = dktX2_findDots_4 := dk_seg dksX2_findDots_3 23 rfl rfl
theorem dksX2_findDots_5 : cX2_findDots.data.toList.drop 118 = dktX2_findDots_5 := dk_seg dksX2_findDots_4 24 rfl rfl
theorem dksX2_findDots_6 : cX2_findDots.data.toList.drop 140 = dktX2_findDots_6 := dk_seg dksX2_findDots_5 22 rfl rfl
theorem dksX2_findDots_7 : cX2_findDots.data.toList.drop 164 = dktX2_findDots_7 := dk_seg dksX2_findDots_6 24 rfl rfl
theorem dksX2_findDots_8 : cX2_findDots.data.toList.drop 188 = dktX2_findDots_8 := dk_seg dksX2_findDots_7 24 rfl rfl
theorem dX2_findDots_0 : decode cX2_findDots 0 = .ok (.aload_n 0, 1) := dk_42 (dk_at dksX2_findDots_0 0 rfl rfl)
theorem dX2_findDots_1 : decode cX2_findDots 1 = .ok (.iconst 0, 1) := dk_3 (dk_at dksX2_findDots_0 1 rfl rfl)
theorem dX2_findDots_2 : decode cX2_findDots 2 = .ok (.putfield 356, 3) := dk_181 1 100 (dk_at dksX2_findDots_0 2 rfl rfl)
theorem dX2_findDots_5 : decode cX2_findDots 5 = .ok (.iconst 0, 1) := dk_3 (dk_at dksX2_findDots_0 5 rfl rfl)
theorem dX2_findDots_6 : decode cX2_findDots 6 = .ok (.istore_n 2, 1) := dk_61 (dk_at dksX2_findDots_0 6 rfl rfl)
theorem dX2_findDots_7 : decode cX2_findDots 7 = .ok (.iload_n 2, 1) := dk_28 (dk_at dksX2_findDots_0 7 rfl rfl)
theorem dX2_findDots_8 : decode cX2_findDots 8 = .ok (.sipush 256, 3) := dk_17 1 0 (dk_at dksX2_findDots_0 8 rfl rfl)
theorem dX2_findDots_11 : decode cX2_findDots 11 = .ok (.if_icmp .ge 16, 3) := dk_162 0 16 (dk_at dksX2_findDots_0 11 rfl rfl)
theorem dX2_findDots_14 : decode cX2_findDots 14 = .ok (.aload_n 0, 1) := dk_42 (dk_at dksX2_findDots_0 14 rfl rfl)
theorem dX2_findDots_15 : decode cX2_findDots 15 = .ok (.getfield 82, 3) := dk_180 0 82 (dk_at dksX2_findDots_0 15 rfl rfl)
theorem dX2_findDots_18 : decode cX2_findDots 18 = .ok (.iload_n 2, 1) := dk_28 (dk_at dksX2_findDots_0 18 rfl rfl)
theorem dX2_findDots_19 : decode cX2_findDots 19 = .ok (.iconst 0, 1) := dk_3 (dk_at dksX2_findDots_0 19 rfl rfl)
theorem dX2_findDots_20 : decode cX2_findDots 20 = .ok (.iastore, 1) := dk_79 (dk_at dksX2_findDots_0 20 rfl rfl)
theorem dX2_findDots_21 : decode cX2_findDots 21 = .ok (.iinc 2 1, 3) := dk_132 2 1 (dk_at dksX2_findDots_0 21 rfl rfl)
theorem dX2_findDots_24 : decode cX2_findDots 24 = .ok (.goto (-17), 3) := dk_167 255 239 (dk_at dksX2_findDots_1 0 rfl rfl)
theorem dX2_findDots_27 : decode cX2_findDots 27 = .ok (.iconst 0, 1) := dk_3 (dk_at dksX2_findDots_1 3 rfl rfl)
theorem dX2_findDots_28 : decode cX2_findDots 28 = .ok (.istore_n 2, 1) := dk_61 (dk_at dksX2_findDots_1 4 rfl rfl)
theorem dX2_findDots_29 : decode cX2_findDots 29 = .ok (.iload_n 2, 1) := dk_28 (dk_at dksX2_findDots_1 5 rfl rfl)
theorem dX2_findDots_30 : decode cX2_findDots 30 = .ok (.aload_n 0, 1) := dk_42 (dk_at dksX2_findDots_1 6 rfl rfl)
theorem dX2_findDots_31 : decode cX2_findDots 31 = .ok (.getfield 20, 3) := dk_180 0 20 (dk_at dksX2_findDots_1 7 rfl rfl)
theorem dX2_findDots_34 : decode cX2_findDots 34 = .ok (.iconst 0, 1) := dk_3 (dk_at dksX2_findDots_1 10 rfl rfl)
theorem dX2_findDots_35 : decode cX2_findDots 35 = .ok (.iaload, 1) := dk_46 (dk_at dksX2_findDots_1 11 rfl rfl)
theorem dX2_findDots_36 : decode cX2_findDots 36 = .ok (.if_icmp .ge 79, 3) := dk_162 0 79 (dk_at dksX2_findDots_1 12 rfl rfl)
theorem dX2_findDots_39 : decode cX2_findDots 39 = .ok (.iconst 0, 1) := dk_3 (dk_at dksX2_findDots_1 15 rfl rfl)
theorem dX2_findDots_40 : decode cX2_findDots 40 = .ok (.istore_n 3, 1) := dk_62 (dk_at dksX2_findDots_1 16 rfl rfl)
theorem dX2_findDots_41 : decode cX2_findDots 41 = .ok (.iload_n 3, 1) := dk_29 (dk_at dksX2_findDots_1 17 rfl rfl)
theorem dX2_findDots_42 : decode cX2_findDots 42 = .ok (.aload_n 0, 1) := dk_42 (dk_at dksX2_findDots_1 18 rfl rfl)
theorem dX2_findDots_43 : decode cX2_findDots 43 = .ok (.getfield 20, 3) := dk_180 0 20 (dk_at dksX2_findDots_1 19 rfl rfl)
theorem dX2_findDots_46 : decode cX2_findDots 46 = .ok (.iconst 0, 1) := dk_3 (dk_at dksX2_findDots_1 22 rfl rfl)
theorem dX2_findDots_47 : decode cX2_findDots 47 = .ok (.iaload, 1) := dk_46 (dk_at dksX2_findDots_1 23 rfl rfl)
theorem dX2_findDots_48 : decode cX2_findDots 48 = .ok (.if_icmp .ge 61, 3) := dk_162 0 61 (dk_at dksX2_findDots_2 0 rfl rfl)
theorem dX2_findDots_51 : decode cX2_findDots 51 = .ok (.bipush 16, 2) := dk_16 16 (dk_at dksX2_findDots_2 3 rfl rfl)
theorem dX2_findDots_53 : decode cX2_findDots 53 = .ok (.iload_n 2, 1) := dk_28 (dk_at dksX2_findDots_2 5 rfl rfl)
theorem dX2_findDots_54 : decode cX2_findDots 54 = .ok (.imul, 1) := dk_104 (dk_at dksX2_findDots_2 6 rfl rfl)
theorem dX2_findDots_55 : decode cX2_findDots 55 = .ok (.iload_n 3, 1) := dk_29 (dk_at dksX2_findDots_2 7 rfl rfl)
theorem dX2_findDots_56 : decode cX2_findDots 56 = .ok (.iadd, 1) := dk_96 (dk_at dksX2_findDots_2 8 rfl rfl)
theorem dX2_findDots_57 : decode cX2_findDots 57 = .ok (.istore 4, 2) := dk_54 4 (dk_at dksX2_findDots_2 9 rfl rfl)
theorem dX2_findDots_59 : decode cX2_findDots 59 = .ok (.aload_n 0, 1) := dk_42 (dk_at dksX2_findDots_2 11 rfl rfl)
theorem dX2_findDots_60 : decode cX2_findDots 60 = .ok (.getfield 82, 3) := dk_180 0 82 (dk_at dksX2_findDots_2 12 rfl rfl)
theorem dX2_findDots_63 : decode cX2_findDots 63 = .ok (.iload 4, 2) := dk_21 4 (dk_at dksX2_findDots_2 15 rfl rfl)
theorem dX2_findDots_65 : decode cX2_findDots 65 = .ok (.iaload, 1) := dk_46 (dk_at dksX2_findDots_2 17 rfl rfl)
theorem dX2_findDots_66 : decode cX2_findDots 66 = .ok (.ifCond .ne 37, 3) := dk_154 0 37 (dk_at dksX2_findDots_2 18 rfl rfl)
theorem dX2_findDots_69 : decode cX2_findDots 69 = .ok (.aload_n 0, 1) := dk_42 (dk_at dksX2_findDots_2 21 rfl rfl)
theorem dX2_findDots_70 : decode cX2_findDots 70 = .ok (.iload_n 1, 1) := dk_27 (dk_at dksX2_findDots_2 22 rfl rfl)
theorem dX2_findDots_71 : decode cX2_findDots 71 = .ok (.iload 4, 2) := dk_21 4 (dk_at dksX2_findDots_3 0 rfl rfl)
theorem dX2_findDots_73 : decode cX2_findDots 73 = .ok (.invokevirtual 353, 3) := dk_182 1 97 (dk_at dksX2_findDots_3 2 rfl rfl)
theorem dX2_findDots_76 : decode cX2_findDots 76 = .ok (.ifCond .ne 6, 3) := dk_154 0 6 (dk_at dksX2_findDots_3 5 rfl rfl)
theorem dX2_findDots_79 : decode cX2_findDots 79 = .ok (.goto 24, 3) := dk_167 0 24 (dk_at dksX2_findDots_3 8 rfl rfl)
theorem dX2_findDots_82 : decode cX2_findDots 82 = .ok (.aload_n 0, 1) := dk_42 (dk_at dksX2_findDots_3 11 rfl rfl)
theorem dX2_findDots_83 : decode cX2_findDots 83 = .ok (.dup, 1) := dk_89 (dk_at dksX2_findDots_3 12 rfl rfl)
theorem dX2_findDots_84 : decode cX2_findDots 84 = .ok (.getfield 356, 3) := dk_180 1 100 (dk_at dksX2_findDots_3 13 rfl rfl)
theorem dX2_findDots_87 : decode cX2_findDots 87 = .ok (.iconst 1, 1) := dk_4 (dk_at dksX2_findDots_3 16 rfl rfl)
theorem dX2_findDots_88 : decode cX2_findDots 88 = .ok (.iadd, 1) := dk_96 (dk_at dksX2_findDots_3 17 rfl rfl)
theorem dX2_findDots_89 : decode cX2_findDots 89 = .ok (.putfield 356, 3) := dk_181 1 100 (dk_at dksX2_findDots_3 18 rfl rfl)
theorem dX2_findDots_92 : decode cX2_findDots 92 = .ok (.aload_n 0, 1) := dk_42 (dk_at dksX2_findDots_3 21 rfl rfl)
theorem dX2_findDots_93 : decode cX2_findDots 93 = .ok (.iload_n 1, 1) := dk_27 (dk_at dksX2_findDots_3 22 rfl rfl)
theorem dX2_findDots_94 : decode cX2_findDots 94 = .ok (.iload 4, 2) := dk_21 4 (dk_at dksX2_findDots_4 0 rfl rfl)
theorem dX2_findDots_96 : decode cX2_findDots 96 = .ok (.aload_n 0, 1) := dk_42 (dk_at dksX2_findDots_4 2 rfl rfl)
theorem dX2_findDots_97 : decode cX2_findDots 97 = .ok (.getfield 356, 3) := dk_180 1 100 (dk_at dksX2_findDots_4 3 rfl rfl)
theorem dX2_findDots_100 : decode cX2_findDots 100 = .ok (.invokevirtual 359, 3) := dk_182 1 103 (dk_at dksX2_findDots_4 6 rfl rfl)
theorem dX2_findDots_103 : decode cX2_findDots 103 = .ok (.iinc 3 1, 3) := dk_132 3 1 (dk_at dksX2_findDots_4 9 rfl rfl)
theorem dX2_findDots_106 : decode cX2_findDots 106 = .ok (.goto (-65), 3) := dk_167 255 191 (dk_at dksX2_findDots_4 12 rfl rfl)
theorem dX2_findDots_109 : decode cX2_findDots 109 = .ok (.iinc 2 1, 3) := dk_132 2 1 (dk_at dksX2_findDots_4 15 rfl rfl)
theorem dX2_findDots_112 : decode cX2_findDots 112 = .ok (.goto (-83), 3) := dk_167 255 173 (dk_at dksX2_findDots_4 18 rfl rfl)
theorem dX2_findDots_115 : decode cX2_findDots 115 = .ok (.iconst 0, 1) := dk_3 (dk_at dksX2_findDots_4 21 rfl rfl)
theorem dX2_findDots_116 : decode cX2_findDots 116 = .ok (.istore_n 2, 1) := dk_61 (dk_at dksX2_findDots_4 22 rfl rfl)
theorem dX2_findDots_117 : decode cX2_findDots 117 = .ok (.iload_n 2, 1) := dk_28 (dk_at dksX2_findDots_4 23 rfl rfl)
theorem dX2_findDots_118 : decode cX2_findDots 118 = .ok (.aload_n 0, 1) := dk_42 (dk_at dksX2_findDots_5 0 rfl rfl)
theorem dX2_findDots_119 : decode cX2_findDots 119 = .ok (.getfield 356, 3) := dk_180 1 100 (dk_at dksX2_findDots_5 1 rfl rfl)
theorem dX2_findDots_122 : decode cX2_findDots 122 = .ok (.if_icmp .ge 64, 3) := dk_162 0 64 (dk_at dksX2_findDots_5 4 rfl rfl)
theorem dX2_findDots_125 : decode cX2_findDots 125 = .ok (.aload_n 0, 1) := dk_42 (dk_at dksX2_findDots_5 7 rfl rfl)
theorem dX2_findDots_126 : decode cX2_findDots 126 = .ok (.iload_n 1, 1) := dk_27 (dk_at dksX2_findDots_5 8 rfl rfl)
theorem dX2_findDots_127 : decode cX2_findDots 127 = .ok (.iload_n 2, 1) := dk_28 (dk_at dksX2_findDots_5 9 rfl rfl)
theorem dX2_findDots_128 : decode cX2_findDots 128 = .ok (.invokevirtual 363, 3) := dk_182 1 107 (dk_at dksX2_findDots_5 10 rfl rfl)
theorem dX2_findDots_131 : decode cX2_findDots 131 = .ok (.iload_n 2, 1) := dk_28 (dk_at dksX2_findDots_5 13 rfl rfl)
theorem dX2_findDots_132 : decode cX2_findDots 132 = .ok (.istore_n 3, 1) := dk_62 (dk_at dksX2_findDots_5 14 rfl rfl)
theorem dX2_findDots_133 : decode cX2_findDots 133 = .ok (.iload_n 3, 1) := dk_29 (dk_at dksX2_findDots_5 15 rfl rfl)
theorem dX2_findDots_134 : decode cX2_findDots 134 = .ok (.ifCond .le 39, 3) := dk_158 0 39 (dk_at dksX2_findDots_5 16 rfl rfl)
theorem dX2_findDots_137 : decode cX2_findDots 137 = .ok (.aload_n 0, 1) := dk_42 (dk_at dksX2_findDots_5 19 rfl rfl)
theorem dX2_findDots_138 : decode cX2_findDots 138 = .ok (.iload_n 2, 1) := dk_28 (dk_at dksX2_findDots_5 20 rfl rfl)
theorem dX2_findDots_139 : decode cX2_findDots 139 = .ok (.aload_n 0, 1) := dk_42 (dk_at dksX2_findDots_5 21 rfl rfl)
theorem dX2_findDots_140 : decode cX2_findDots 140 = .ok (.getfield 79, 3) := dk_180 0 79 (dk_at dksX2_findDots_6 0 rfl rfl)
theorem dX2_findDots_143 : decode cX2_findDots 143 = .ok (.iload_n 3, 1) := dk_29 (dk_at dksX2_findDots_6 3 rfl rfl)
theorem dX2_findDots_144 : decode cX2_findDots 144 = .ok (.iconst 1, 1) := dk_4 (dk_at dksX2_findDots_6 4 rfl rfl)
theorem dX2_findDots_145 : decode cX2_findDots 145 = .ok (.isub, 1) := dk_100 (dk_at dksX2_findDots_6 5 rfl rfl)
theorem dX2_findDots_146 : decode cX2_findDots 146 = .ok (.iaload, 1) := dk_46 (dk_at dksX2_findDots_6 6 rfl rfl)
theorem dX2_findDots_147 : decode cX2_findDots 147 = .ok (.invokevirtual 367, 3) := dk_182 1 111 (dk_at dksX2_findDots_6 7 rfl rfl)
theorem dX2_findDots_150 : decode cX2_findDots 150 = .ok (.ifCond .eq 23, 3) := dk_153 0 23 (dk_at dksX2_findDots_6 10 rfl rfl)
theorem dX2_findDots_153 : decode cX2_findDots 153 = .ok (.aload_n 0, 1) := dk_42 (dk_at dksX2_findDots_6 13 rfl rfl)
theorem dX2_findDots_154 : decode cX2_findDots 154 = .ok (.getfield 79, 3) := dk_180 0 79 (dk_at dksX2_findDots_6 14 rfl rfl)
theorem dX2_findDots_157 : decode cX2_findDots 157 = .ok (.iload_n 3, 1) := dk_29 (dk_at dksX2_findDots_6 17 rfl rfl)
theorem dX2_findDots_158 : decode cX2_findDots 158 = .ok (.aload_n 0, 1) := dk_42 (dk_at dksX2_findDots_6 18 rfl rfl)
theorem dX2_findDots_159 : decode cX2_findDots 159 = .ok (.getfield 79, 3) := dk_180 0 79 (dk_at dksX2_findDots_6 19 rfl rfl)
theorem dX2_findDots_162 : decode cX2_findDots 162 = .ok (.iload_n 3, 1) := dk_29 (dk_at dksX2_findDots_6 22 rfl rfl)
theorem dX2_findDots_163 : decode cX2_findDots 163 = .ok (.iconst 1, 1) := dk_4 (dk_at dksX2_findDots_6 23 rfl rfl)
theorem dX2_findDots_164 : decode cX2_findDots 164 = .ok (.isub, 1) := dk_100 (dk_at dksX2_findDots_7 0 rfl rfl)
theorem dX2_findDots_165 : decode cX2_findDots 165 = .ok (.iaload, 1) := dk_46 (dk_at dksX2_findDots_7 1 rfl rfl)
theorem dX2_findDots_166 : decode cX2_findDots 166 = .ok (.iastore, 1) := dk_79 (dk_at dksX2_findDots_7 2 rfl rfl)
theorem dX2_findDots_167 : decode cX2_findDots 167 = .ok (.iinc 3 (-1), 3) := dk_132 3 255 (dk_at dksX2_findDots_7 3 rfl rfl)
theorem dX2_findDots_170 : decode cX2_findDots 170 = .ok (.goto (-37), 3) := dk_167 255 219 (dk_at dksX2_findDots_7 6 rfl rfl)
theorem dX2_findDots_173 : decode cX2_findDots 173 = .ok (.aload_n 0, 1) := dk_42 (dk_at dksX2_findDots_7 9 rfl rfl)
theorem dX2_findDots_174 : decode cX2_findDots 174 = .ok (.getfield 79, 3) := dk_180 0 79 (dk_at dksX2_findDots_7 10 rfl rfl)
theorem dX2_findDots_177 : decode cX2_findDots 177 = .ok (.iload_n 3, 1) := dk_29 (dk_at dksX2_findDots_7 13 rfl rfl)
theorem dX2_findDots_178 : decode cX2_findDots 178 = .ok (.iload_n 2, 1) := dk_28 (dk_at dksX2_findDots_7 14 rfl rfl)
theorem dX2_findDots_179 : decode cX2_findDots 179 = .ok (.iastore, 1) := dk_79 (dk_at dksX2_findDots_7 15 rfl rfl)
theorem dX2_findDots_180 : decode cX2_findDots 180 = .ok (.iinc 2 1, 3) := dk_132 2 1 (dk_at dksX2_findDots_7 16 rfl rfl)
theorem dX2_findDots_183 : decode cX2_findDots 183 = .ok (.goto (-66), 3) := dk_167 255 190 (dk_at dksX2_findDots_7 19 rfl rfl)
theorem dX2_findDots_186 : decode cX2_findDots 186 = .ok (.aload_n 0, 1) := dk_42 (dk_at dksX2_findDots_7 22 rfl rfl)
theorem dX2_findDots_187 : decode cX2_findDots 187 = .ok (.aload_n 0, 1) := dk_42 (dk_at dksX2_findDots_7 23 rfl rfl)
theorem dX2_findDots_188 : decode cX2_findDots 188 = .ok (.getfield 356, 3) := dk_180 1 100 (dk_at dksX2_findDots_8 0 rfl rfl)
theorem dX2_findDots_191 : decode cX2_findDots 191 = .ok (.bipush 12, 2) := dk_16 12 (dk_at dksX2_findDots_8 3 rfl rfl)
theorem dX2_findDots_193 : decode cX2_findDots 193 = .ok (.if_icmp .le 8, 3) := dk_164 0 8 (dk_at dksX2_findDots_8 5 rfl rfl)
theorem dX2_findDots_196 : decode cX2_findDots 196 = .ok (.bipush 12, 2) := dk_16 12 (dk_at dksX2_findDots_8 8 rfl rfl)
theorem dX2_findDots_198 : decode cX2_findDots 198 = .ok (.goto 7, 3) := dk_167 0 7 (dk_at dksX2_findDots_8 10 rfl rfl)
theorem dX2_findDots_201 : decode cX2_findDots 201 = .ok (.aload_n 0, 1) := dk_42 (dk_at dksX2_findDots_8 13 rfl rfl)
theorem dX2_findDots_202 : decode cX2_findDots 202 = .ok (.getfield 356, 3) := dk_180 1 100 (dk_at dksX2_findDots_8 14 rfl rfl)
theorem dX2_findDots_205 : decode cX2_findDots 205 = .ok (.putfield 370, 3) := dk_181 1 114 (dk_at dksX2_findDots_8 17 rfl rfl)
theorem dX2_findDots_208 : decode cX2_findDots 208 = .ok (.return_, 1) := dk_177 (dk_at dksX2_findDots_8 20 rfl rfl)
abbrev cX2_isBright : ByteArray := prog_28_method_32_code
def yX2_isBright : MethodName := ⟨RX2, "isBright", "(II)Z"⟩
def dkwX2_isBright_1 : List UInt8 := [167, 0, 4, 3, 172]
abbrev dktX2_isBright_1 : List UInt8 := dkwX2_isBright_1 ++ []
def dkwX2_isBright_0 : List UInt8 := [42, 180, 0, 49, 17, 1, 0, 27, 104, 28, 96, 46, 42, 180, 0, 20, 6, 46, 164, 0, 7, 4]
abbrev dktX2_isBright_0 : List UInt8 := dkwX2_isBright_0 ++ dktX2_isBright_1
theorem dksX2_isBright_0 : cX2_isBright.data.toList.drop 0 = dktX2_isBright_0 := by decide +kernel
theorem dksX2_isBright_1 : cX2_isBright.data.toList.drop 22 = dktX2_isBright_1 := dk_seg dksX2_isBright_0 22 rfl rfl
theorem dX2_isBright_0 : decode cX2_isBright 0 = .ok (.aload_n 0, 1) := dk_42 (dk_at dksX2_isBright_0 0 rfl rfl)
theorem dX2_isBright_1 : decode cX2_isBright 1 = .ok (.getfield 49, 3) := dk_180 0 49 (dk_at dksX2_isBright_0 1 rfl rfl)
theorem dX2_isBright_4 : decode cX2_isBright 4 = .ok (.sipush 256, 3) := dk_17 1 0 (dk_at dksX2_isBright_0 4 rfl rfl)
theorem dX2_isBright_7 : decode cX2_isBright 7 = .ok (.iload_n 1, 1) := dk_27 (dk_at dksX2_isBright_0 7 rfl rfl)
theorem dX2_isBright_8 : decode cX2_isBright 8 = .ok (.imul, 1) := dk_104 (dk_at dksX2_isBright_0 8 rfl rfl)
theorem dX2_isBright_9 : decode cX2_isBright 9 = .ok (.iload_n 2, 1) := dk_28 (dk_at dksX2_isBright_0 9 rfl rfl)
theorem dX2_isBright_10 : decode cX2_isBright 10 = .ok (.iadd, 1) := dk_96 (dk_at dksX2_isBright_0 10 rfl rfl)
theorem dX2_isBright_11 : decode cX2_isBright 11 = .ok (.iaload, 1) := dk_46 (dk_at dksX2_isBright_0 11 rfl rfl)
theorem dX2_isBright_12 : decode cX2_isBright 12 = .ok (.aload_n 0, 1) := dk_42 (dk_at dksX2_isBright_0 12 rfl rfl)
theorem dX2_isBright_13 : decode cX2_isBright 13 = .ok (.getfield 20, 3) := dk_180 0 20 (dk_at dksX2_isBright_0 13 rfl rfl)
theorem dX2_isBright_16 : decode cX2_isBright 16 = .ok (.iconst 3, 1) := dk_6 (dk_at dksX2_isBright_0 16 rfl rfl)
theorem dX2_isBright_17 : decode cX2_isBright 17 = .ok (.iaload, 1) := dk_46 (dk_at dksX2_isBright_0 17 rfl rfl)
theorem dX2_isBright_18 : decode cX2_isBright 18 = .ok (.if_icmp .le 7, 3) := dk_164 0 7 (dk_at dksX2_isBright_0 18 rfl rfl)
theorem dX2_isBright_21 : decode cX2_isBright 21 = .ok (.iconst 1, 1) := dk_4 (dk_at dksX2_isBright_0 21 rfl rfl)
theorem dX2_isBright_22 : decode cX2_isBright 22 = .ok (.goto 4, 3) := dk_167 0 4 (dk_at dksX2_isBright_1 0 rfl rfl)
theorem dX2_isBright_25 : decode cX2_isBright 25 = .ok (.iconst 0, 1) := dk_3 (dk_at dksX2_isBright_1 3 rfl rfl)
theorem dX2_isBright_26 : decode cX2_isBright 26 = .ok (.ireturn, 1) := dk_172 (dk_at dksX2_isBright_1 4 rfl rfl)
abbrev cX2_spread : ByteArray := prog_28_method_33_code
def yX2_spread : MethodName := ⟨RX2, "spread", "(III)V"⟩
def dkwX2_spread_8 : List UInt8 := [29, 79, 4, 54, 4, 132, 6, 1, 167, 255, 93, 132, 5, 1, 167, 255, 73, 167, 255, 59, 177]
abbrev dktX2_spread_8 : List UInt8 := dkwX2_spread_8 ++ []
def dkwX2_spread_7 : List UInt8 := [160, 0, 7, 4, 167, 0, 4, 3, 54, 8, 21, 8, 154, 0, 6, 167, 0, 14, 42, 180, 0, 82, 21, 7]
abbrev dktX2_spread_7 : List UInt8 := dkwX2_spread_7 ++ dktX2_spread_8
def dkwX2_spread_6 : List UInt8 := [21, 5, 42, 180, 0, 20, 3, 46, 4, 100, 162, 0, 21, 42, 180, 0, 82, 21, 7, 16, 16, 96, 46, 29]
abbrev dktX2_spread_6 : List UInt8 := dkwX2_spread_6 ++ dktX2_spread_7
def dkwX2_spread_5 : List UInt8 := [46, 29, 159, 0, 49, 21, 5, 158, 0, 17, 42, 180, 0, 82, 21, 7, 16, 16, 100, 46, 29, 159, 0, 30]
abbrev dktX2_spread_5 : List UInt8 := dkwX2_spread_5 ++ dktX2_spread_6
def dkwX2_spread_4 : List UInt8 := [159, 0, 75, 21, 6, 42, 180, 0, 20, 3, 46, 4, 100, 162, 0, 16, 42, 180, 0, 82, 21, 7, 4, 96]
abbrev dktX2_spread_4 : List UInt8 := dkwX2_spread_4 ++ dktX2_spread_5
def dkwX2_spread_3 : List UInt8 := [182, 1, 97, 154, 0, 6, 167, 0, 119, 21, 6, 158, 0, 16, 42, 180, 0, 82, 21, 7, 4, 100, 46, 29]
abbrev dktX2_spread_3 : List UInt8 := dkwX2_spread_3 ++ dktX2_spread_4
def dkwX2_spread_2 : List UInt8 := [21, 5, 104, 21, 6, 96, 54, 7, 42, 180, 0, 82, 21, 7, 46, 154, 0, 132, 42, 27, 21, 7]
abbrev dktX2_spread_2 : List UInt8 := dkwX2_spread_2 ++ dktX2_spread_3
def dkwX2_spread_1 : List UInt8 := [180, 0, 20, 3, 46, 162, 0, 178, 3, 54, 6, 21, 6, 42, 180, 0, 20, 3, 46, 162, 0, 158, 16, 16]
abbrev dktX2_spread_1 : List UInt8 := dkwX2_spread_1 ++ dktX2_spread_2
def dkwX2_spread_0 : List UInt8 := [42, 180, 0, 82, 28, 29, 79, 4, 54, 4, 21, 4, 153, 0, 198, 3, 54, 4, 3, 54, 5, 21, 5, 42]
abbrev dktX2_spread_0 : List UInt8 := dkwX2_spread_0 ++ dktX2_spread_1
theorem dksX2_spread_0 : cX2_spread.data.toList.drop 0 = dktX2_spread_0 := by decide +kernel
theorem dksX2_spread_1 : cX2_spread.data.toList.drop 24 = dktX2_spread_1 := dk_seg dksX2_spread_0 24 rfl rfl
theorem dksX2_spread_2 : cX2_spread.data.toList.drop 48 = dktX2_spread_2 := dk_seg dksX2_spread_1 24 rfl rfl
theorem dksX2_spread_3 : cX2_spread.data.toList.drop 70 = dktX2_spread_3 := dk_seg dksX2_spread_2 22 rfl rfl
theorem dksX2_spread_4 : cX2_spread.data.toList.drop 94 = dktX2_spread_4 := dk_seg dksX2_spread_3 24 rfl rfl
theorem dksX2_spread_5 : cX2_spread.data.toList.drop 118 = dktX2_spread_5 := dk_seg dksX2_spread_4 24 rfl rfl
theorem dksX2_spread_6 : cX2_spread.data.toList.drop 142 = dktX2_spread_6 := dk_seg dksX2_spread_5 24 rfl rfl
theorem dksX2_spread_7 : cX2_spread.data.toList.drop 166 = dktX2_spread_7 := dk_seg dksX2_spread_6 24 rfl rfl
theorem dksX2_spread_8 : cX2_spread.data.toList.drop 190 = dktX2_spread_8 := dk_seg dksX2_spread_7 24 rfl rfl
theorem dX2_spread_0 : decode cX2_spread 0 = .ok (.aload_n 0, 1) := dk_42 (dk_at dksX2_spread_0 0 rfl rfl)
theorem dX2_spread_1 : decode cX2_spread 1 = .ok (.getfield 82, 3) := dk_180 0 82 (dk_at dksX2_spread_0 1 rfl rfl)
theorem dX2_spread_4 : decode cX2_spread 4 = .ok (.iload_n 2, 1) := dk_28 (dk_at dksX2_spread_0 4 rfl rfl)
theorem dX2_spread_5 : decode cX2_spread 5 = .ok (.iload_n 3, 1) := dk_29 (dk_at dksX2_spread_0 5 rfl rfl)
theorem dX2_spread_6 : decode cX2_spread 6 = .ok (.iastore, 1) := dk_79 (dk_at dksX2_spread_0 6 rfl rfl)
theorem dX2_spread_7 : decode cX2_spread 7 = .ok (.iconst 1, 1) := dk_4 (dk_at dksX2_spread_0 7 rfl rfl)
theorem dX2_spread_8 : decode cX2_spread 8 = .ok (.istore 4, 2) := dk_54 4 (dk_at dksX2_spread_0 8 rfl rfl)
theorem dX2_spread_10 : decode cX2_spread 10 = .ok (.iload 4, 2) := dk_21 4 (dk_at dksX2_spread_0 10 rfl rfl)
theorem dX2_spread_12 : decode cX2_spread 12 = .ok (.ifCond .eq 198, 3) := dk_153 0 198 (dk_at dksX2_spread_0 12 rfl rfl)
theorem dX2_spread_15 : decode cX2_spread 15 = .ok (.iconst 0, 1) := dk_3 (dk_at dksX2_spread_0 15 rfl rfl)
theorem dX2_spread_16 : decode cX2_spread 16 = .ok (.istore 4, 2) := dk_54 4 (dk_at dksX2_spread_0 16 rfl rfl)
theorem dX2_spread_18 : decode cX2_spread 18 = .ok (.iconst 0, 1) := dk_3 (dk_at dksX2_spread_0 18 rfl rfl)
theorem dX2_spread_19 : decode cX2_spread 19 = .ok (.istore 5, 2) := dk_54 5 (dk_at dksX2_spread_0 19 rfl rfl)
theorem dX2_spread_21 : decode cX2_spread 21 = .ok (.iload 5, 2) := dk_21 5 (dk_at dksX2_spread_0 21 rfl rfl)
theorem dX2_spread_23 : decode cX2_spread 23 = .ok (.aload_n 0, 1) := dk_42 (dk_at dksX2_spread_0 23 rfl rfl)
theorem dX2_spread_24 : decode cX2_spread 24 = .ok (.getfield 20, 3) := dk_180 0 20 (dk_at dksX2_spread_1 0 rfl rfl)
theorem dX2_spread_27 : decode cX2_spread 27 = .ok (.iconst 0, 1) := dk_3 (dk_at dksX2_spread_1 3 rfl rfl)
theorem dX2_spread_28 : decode cX2_spread 28 = .ok (.iaload, 1) := dk_46 (dk_at dksX2_spread_1 4 rfl rfl)
theorem dX2_spread_29 : decode cX2_spread 29 = .ok (.if_icmp .ge 178, 3) := dk_162 0 178 (dk_at dksX2_spread_1 5 rfl rfl)
theorem dX2_spread_32 : decode cX2_spread 32 = .ok (.iconst 0, 1) := dk_3 (dk_at dksX2_spread_1 8 rfl rfl)
theorem dX2_spread_33 : decode cX2_spread 33 = .ok (.istore 6, 2) := dk_54 6 (dk_at dksX2_spread_1 9 rfl rfl)
theorem dX2_spread_35 : decode cX2_spread 35 = .ok (.iload 6, 2) := dk_21 6 (dk_at dksX2_spread_1 11 rfl rfl)
theorem dX2_spread_37 : decode cX2_spread 37 = .ok (.aload_n 0, 1) := dk_42 (dk_at dksX2_spread_1 13 rfl rfl)
theorem dX2_spread_38 : decode cX2_spread 38 = .ok (.getfield 20, 3) := dk_180 0 20 (dk_at dksX2_spread_1 14 rfl rfl)
theorem dX2_spread_41 : decode cX2_spread 41 = .ok (.iconst 0, 1) := dk_3 (dk_at dksX2_spread_1 17 rfl rfl)
theorem dX2_spread_42 : decode cX2_spread 42 = .ok (.iaload, 1) := dk_46 (dk_at dksX2_spread_1 18 rfl rfl)
theorem dX2_spread_43 : decode cX2_spread 43 = .ok (.if_icmp .ge 158, 3) := dk_162 0 158 (dk_at dksX2_spread_1 19 rfl rfl)
theorem dX2_spread_46 : decode cX2_spread 46 = .ok (.bipush 16, 2) := dk_16 16 (dk_at dksX2_spread_1 22 rfl rfl)
theorem dX2_spread_48 : decode cX2_spread 48 = .ok (.iload 5, 2) := dk_21 5 (dk_at dksX2_spread_2 0 rfl rfl)
theorem dX2_spread_50 : decode cX2_spread 50 = .ok (.imul, 1) := dk_104 (dk_at dksX2_spread_2 2 rfl rfl)
theorem dX2_spread_51 : decode cX2_spread 51 = .ok (.iload 6, 2) := dk_21 6 (dk_at dksX2_spread_2 3 rfl rfl)
theorem dX2_spread_53 : decode cX2_spread 53 = .ok (.iadd, 1) := dk_96 (dk_at dksX2_spread_2 5 rfl rfl)
theorem dX2_spread_54 : decode cX2_spread 54 = .ok (.istore 7, 2) := dk_54 7 (dk_at dksX2_spread_2 6 rfl rfl)
theorem dX2_spread_56 : decode cX2_spread 56 = .ok (.aload_n 0, 1) := dk_42 (dk_at dksX2_spread_2 8 rfl rfl)
theorem dX2_spread_57 : decode cX2_spread 57 = .ok (.getfield 82, 3) := dk_180 0 82 (dk_at dksX2_spread_2 9 rfl rfl)
theorem dX2_spread_60 : decode cX2_spread 60 = .ok (.iload 7, 2) := dk_21 7 (dk_at dksX2_spread_2 12 rfl rfl)
theorem dX2_spread_62 : decode cX2_spread 62 = .ok (.iaload, 1) := dk_46 (dk_at dksX2_spread_2 14 rfl rfl)
theorem dX2_spread_63 : decode cX2_spread 63 = .ok (.ifCond .ne 132, 3) := dk_154 0 132 (dk_at dksX2_spread_2 15 rfl rfl)
theorem dX2_spread_66 : decode cX2_spread 66 = .ok (.aload_n 0, 1) := dk_42 (dk_at dksX2_spread_2 18 rfl rfl)
theorem dX2_spread_67 : decode cX2_spread 67 = .ok (.iload_n 1, 1) := dk_27 (dk_at dksX2_spread_2 19 rfl rfl)
theorem dX2_spread_68 : decode cX2_spread 68 = .ok (.iload 7, 2) := dk_21 7 (dk_at dksX2_spread_2 20 rfl rfl)
theorem dX2_spread_70 : decode cX2_spread 70 = .ok (.invokevirtual 353, 3) := dk_182 1 97 (dk_at dksX2_spread_3 0 rfl rfl)
theorem dX2_spread_73 : decode cX2_spread 73 = .ok (.ifCond .ne 6, 3) := dk_154 0 6 (dk_at dksX2_spread_3 3 rfl rfl)
theorem dX2_spread_76 : decode cX2_spread 76 = .ok (.goto 119, 3) := dk_167 0 119 (dk_at dksX2_spread_3 6 rfl rfl)
theorem dX2_spread_79 : decode cX2_spread 79 = .ok (.iload 6, 2) := dk_21 6 (dk_at dksX2_spread_3 9 rfl rfl)
theorem dX2_spread_81 : decode cX2_spread 81 = .ok (.ifCond .le 16, 3) := dk_158 0 16 (dk_at dksX2_spread_3 11 rfl rfl)
theorem dX2_spread_84 : decode cX2_spread 84 = .ok (.aload_n 0, 1) := dk_42 (dk_at dksX2_spread_3 14 rfl rfl)
theorem dX2_spread_85 : decode cX2_spread 85 = .ok (.getfield 82, 3) := dk_180 0 82 (dk_at dksX2_spread_3 15 rfl rfl)
theorem dX2_spread_88 : decode cX2_spread 88 = .ok (.iload 7, 2) := dk_21 7 (dk_at dksX2_spread_3 18 rfl rfl)
theorem dX2_spread_90 : decode cX2_spread 90 = .ok (.iconst 1, 1) := dk_4 (dk_at dksX2_spread_3 20 rfl rfl)
theorem dX2_spread_91 : decode cX2_spread 91 = .ok (.isub, 1) := dk_100 (dk_at dksX2_spread_3 21 rfl rfl)
theorem dX2_spread_92 : decode cX2_spread 92 = .ok (.iaload, 1) := dk_46 (dk_at dksX2_spread_3 22 rfl rfl)
theorem dX2_spread_93 : decode cX2_spread 93 = .ok (.iload_n 3, 1) := dk_29 (dk_at dksX2_spread_3 23 rfl rfl)
theorem dX2_spread_94 : decode cX2_spread 94 = .ok (.if_icmp .eq 75, 3) := dk_159 0 75 (dk_at dksX2_spread_4 0 rfl rfl)
theorem dX2_spread_97 : decode cX2_spread 97 = .ok (.iload 6, 2) := dk_21 6 (dk_at dksX2_spread_4 3 rfl rfl)
theorem dX2_spread_99 : decode cX2_spread 99 = .ok (.aload_n 0, 1) := dk_42 (dk_at dksX2_spread_4 5 rfl rfl)
theorem dX2_spread_100 : decode cX2_spread 100 = .ok (.getfield 20, 3) := dk_180 0 20 (dk_at dksX2_spread_4 6 rfl rfl)
theorem dX2_spread_103 : decode cX2_spread 103 = .ok (.iconst 0, 1) := dk_3 (dk_at dksX2_spread_4 9 rfl rfl)
theorem dX2_spread_104 : decode cX2_spread 104 = .ok (.iaload, 1) := dk_46 (dk_at dksX2_spread_4 10 rfl rfl)
theorem dX2_spread_105 : decode cX2_spread 105 = .ok (.iconst 1, 1) := dk_4 (dk_at dksX2_spread_4 11 rfl rfl)
theorem dX2_spread_106 : decode cX2_spread 106 = .ok (.isub, 1) := dk_100 (dk_at dksX2_spread_4 12 rfl rfl)
theorem dX2_spread_107 : decode cX2_spread 107 = .ok (.if_icmp .ge 16, 3) := dk_162 0 16 (dk_at dksX2_spread_4 13 rfl rfl)
theorem dX2_spread_110 : decode cX2_spread 110 = .ok (.aload_n 0, 1) := dk_42 (dk_at dksX2_spread_4 16 rfl rfl)
theorem dX2_spread_111 : decode cX2_spread 111 = .ok (.getfield 82, 3) := dk_180 0 82 (dk_at dksX2_spread_4 17 rfl rfl)
theorem dX2_spread_114 : decode cX2_spread 114 = .ok (.iload 7, 2) := dk_21 7 (dk_at dksX2_spread_4 20 rfl rfl)
theorem dX2_spread_116 : decode cX2_spread 116 = .ok (.iconst 1, 1) := dk_4 (dk_at dksX2_spread_4 22 rfl rfl)
theorem dX2_spread_117 : decode cX2_spread 117 = .ok (.iadd, 1) := dk_96 (dk_at dksX2_spread_4 23 rfl rfl)
theorem dX2_spread_118 : decode cX2_spread 118 = .ok (.iaload, 1) := dk_46 (dk_at dksX2_spread_5 0 rfl rfl)
theorem dX2_spread_119 : decode cX2_spread 119 = .ok (.iload_n 3, 1) := dk_29 (dk_at dksX2_spread_5 1 rfl rfl)
theorem dX2_spread_120 : decode cX2_spread 120 = .ok (.if_icmp .eq 49, 3) := dk_159 0 49 (dk_at dksX2_spread_5 2 rfl rfl)
theorem dX2_spread_123 : decode cX2_spread 123 = .ok (.iload 5, 2) := dk_21 5 (dk_at dksX2_spread_5 5 rfl rfl)
theorem dX2_spread_125 : decode cX2_spread 125 = .ok (.ifCond .le 17, 3) := dk_158 0 17 (dk_at dksX2_spread_5 7 rfl rfl)
theorem dX2_spread_128 : decode cX2_spread 128 = .ok (.aload_n 0, 1) := dk_42 (dk_at dksX2_spread_5 10 rfl rfl)
theorem dX2_spread_129 : decode cX2_spread 129 = .ok (.getfield 82, 3) := dk_180 0 82 (dk_at dksX2_spread_5 11 rfl rfl)
theorem dX2_spread_132 : decode cX2_spread 132 = .ok (.iload 7, 2) := dk_21 7 (dk_at dksX2_spread_5 14 rfl rfl)
theorem dX2_spread_134 : decode cX2_spread 134 = .ok (.bipush 16, 2) := dk_16 16 (dk_at dksX2_spread_5 16 rfl rfl)
theorem dX2_spread_136 : decode cX2_spread 136 = .ok (.isub, 1) := dk_100 (dk_at dksX2_spread_5 18 rfl rfl)
theorem dX2_spread_137 : decode cX2_spread 137 = .ok (.iaload, 1) := dk_46 (dk_at dksX2_spread_5 19 rfl rfl)
theorem dX2_spread_138 : decode cX2_spread 138 = .ok (.iload_n 3, 1) := dk_29 (dk_at dksX2_spread_5 20 rfl rfl)
theorem dX2_spread_139 : decode cX2_spread 139 = .ok (.if_icmp .eq 30, 3) := dk_159 0 30 (dk_at dksX2_spread_5 21 rfl rfl)
theorem dX2_spread_142 : decode cX2_spread 142 = .ok (.iload 5, 2) := dk_21 5 (dk_at dksX2_spread_6 0 rfl rfl)
theorem dX2_spread_144 : decode cX2_spread 144 = .ok (.aload_n 0, 1) := dk_42 (dk_at dksX2_spread_6 2 rfl rfl)
theorem dX2_spread_145 : decode cX2_spread 145 = .ok (.getfield 20, 3) := dk_180 0 20 (dk_at dksX2_spread_6 3 rfl rfl)
theorem dX2_spread_148 : decode cX2_spread 148 = .ok (.iconst 0, 1) := dk_3 (dk_at dksX2_spread_6 6 rfl rfl)
theorem dX2_spread_149 : decode cX2_spread 149 = .ok (.iaload, 1) := dk_46 (dk_at dksX2_spread_6 7 rfl rfl)
theorem dX2_spread_150 : decode cX2_spread 150 = .ok (.iconst 1, 1) := dk_4 (dk_at dksX2_spread_6 8 rfl rfl)
theorem dX2_spread_151 : decode cX2_spread 151 = .ok (.isub, 1) := dk_100 (dk_at dksX2_spread_6 9 rfl rfl)
theorem dX2_spread_152 : decode cX2_spread 152 = .ok (.if_icmp .ge 21, 3) := dk_162 0 21 (dk_at dksX2_spread_6 10 rfl rfl)
theorem dX2_spread_155 : decode cX2_spread 155 = .ok (.aload_n 0, 1) := dk_42 (dk_at dksX2_spread_6 13 rfl rfl)
theorem dX2_spread_156 : decode cX2_spread 156 = .ok (.getfield 82, 3) := dk_180 0 82 (dk_at dksX2_spread_6 14 rfl rfl)
theorem dX2_spread_159 : decode cX2_spread 159 = .ok (.iload 7, 2) := dk_21 7 (dk_at dksX2_spread_6 17 rfl rfl)
theorem dX2_spread_161 : decode cX2_spread 161 = .ok (.bipush 16, 2) := dk_16 16 (dk_at dksX2_spread_6 19 rfl rfl)
theorem dX2_spread_163 : decode cX2_spread 163 = .ok (.iadd, 1) := dk_96 (dk_at dksX2_spread_6 21 rfl rfl)
theorem dX2_spread_164 : decode cX2_spread 164 = .ok (.iaload, 1) := dk_46 (dk_at dksX2_spread_6 22 rfl rfl)
theorem dX2_spread_165 : decode cX2_spread 165 = .ok (.iload_n 3, 1) := dk_29 (dk_at dksX2_spread_6 23 rfl rfl)
theorem dX2_spread_166 : decode cX2_spread 166 = .ok (.if_icmp .ne 7, 3) := dk_160 0 7 (dk_at dksX2_spread_7 0 rfl rfl)
theorem dX2_spread_169 : decode cX2_spread 169 = .ok (.iconst 1, 1) := dk_4 (dk_at dksX2_spread_7 3 rfl rfl)
theorem dX2_spread_170 : decode cX2_spread 170 = .ok (.goto 4, 3) := dk_167 0 4 (dk_at dksX2_spread_7 4 rfl rfl)
theorem dX2_spread_173 : decode cX2_spread 173 = .ok (.iconst 0, 1) := dk_3 (dk_at dksX2_spread_7 7 rfl rfl)
theorem dX2_spread_174 : decode cX2_spread 174 = .ok (.istore 8, 2) := dk_54 8 (dk_at dksX2_spread_7 8 rfl rfl)
theorem dX2_spread_176 : decode cX2_spread 176 = .ok (.iload 8, 2) := dk_21 8 (dk_at dksX2_spread_7 10 rfl rfl)
theorem dX2_spread_178 : decode cX2_spread 178 = .ok (.ifCond .ne 6, 3) := dk_154 0 6 (dk_at dksX2_spread_7 12 rfl rfl)
theorem dX2_spread_181 : decode cX2_spread 181 = .ok (.goto 14, 3) := dk_167 0 14 (dk_at dksX2_spread_7 15 rfl rfl)
theorem dX2_spread_184 : decode cX2_spread 184 = .ok (.aload_n 0, 1) := dk_42 (dk_at dksX2_spread_7 18 rfl rfl)
theorem dX2_spread_185 : decode cX2_spread 185 = .ok (.getfield 82, 3) := dk_180 0 82 (dk_at dksX2_spread_7 19 rfl rfl)
theorem dX2_spread_188 : decode cX2_spread 188 = .ok (.iload 7, 2) := dk_21 7 (dk_at dksX2_spread_7 22 rfl rfl)
theorem dX2_spread_190 : decode cX2_spread 190 = .ok (.iload_n 3, 1) := dk_29 (dk_at dksX2_spread_8 0 rfl rfl)
theorem dX2_spread_191 : decode cX2_spread 191 = .ok (.iastore, 1) := dk_79 (dk_at dksX2_spread_8 1 rfl rfl)
theorem dX2_spread_192 : decode cX2_spread 192 = .ok (.iconst 1, 1) := dk_4 (dk_at dksX2_spread_8 2 rfl rfl)
theorem dX2_spread_193 : decode cX2_spread 193 = .ok (.istore 4, 2) := dk_54 4 (dk_at dksX2_spread_8 3 rfl rfl)
theorem dX2_spread_195 : decode cX2_spread 195 = .ok (.iinc 6 1, 3) := dk_132 6 1 (dk_at dksX2_spread_8 5 rfl rfl)
theorem dX2_spread_198 : decode cX2_spread 198 = .ok (.goto (-163), 3) := dk_167 255 93 (dk_at dksX2_spread_8 8 rfl rfl)
theorem dX2_spread_201 : decode cX2_spread 201 = .ok (.iinc 5 1, 3) := dk_132 5 1 (dk_at dksX2_spread_8 11 rfl rfl)
theorem dX2_spread_204 : decode cX2_spread 204 = .ok (.goto (-183), 3) := dk_167 255 73 (dk_at dksX2_spread_8 14 rfl rfl)
theorem dX2_spread_207 : decode cX2_spread 207 = .ok (.goto (-197), 3) := dk_167 255 59 (dk_at dksX2_spread_8 17 rfl rfl)
theorem dX2_spread_210 : decode cX2_spread 210 = .ok (.return_, 1) := dk_177 (dk_at dksX2_spread_8 20 rfl rfl)
abbrev cX2_measure : ByteArray := prog_28_method_34_code
def yX2_measure : MethodName := ⟨RX2, "measure", "(II)V"⟩
def dkwX2_measure_10 : List UInt8 := [5, 163, 0, 12, 21, 10, 21, 9, 100, 5, 164, 0, 7, 4, 167, 0, 4, 3, 84, 177]
abbrev dktX2_measure_10 : List UInt8 := dkwX2_measure_10 ++ []
def dkwX2_measure_9 : List UInt8 := [28, 21, 5, 29, 108, 79, 42, 180, 0, 73, 28, 21, 6, 79, 42, 180, 0, 85, 28, 21, 8, 21, 7, 100]
abbrev dktX2_measure_9 : List UInt8 := dkwX2_measure_9 ++ dktX2_measure_10
def dkwX2_measure_8 : List UInt8 := [167, 255, 98, 42, 180, 0, 64, 28, 29, 79, 42, 180, 0, 67, 28, 21, 4, 29, 108, 79, 42, 180, 0, 70]
abbrev dktX2_measure_8 : List UInt8 := dkwX2_measure_8 ++ dktX2_measure_9
def dkwX2_measure_7 : List UInt8 := [21, 9, 54, 9, 21, 14, 21, 10, 164, 0, 8, 21, 14, 167, 0, 5, 21, 10, 54, 10, 132, 11, 1]
abbrev dktX2_measure_7 : List UInt8 := dkwX2_measure_7 ++ dktX2_measure_8
def dkwX2_measure_6 : List UInt8 := [164, 0, 8, 21, 13, 167, 0, 5, 21, 8, 54, 8, 21, 14, 21, 9, 162, 0, 8, 21, 14, 167, 0, 5]
abbrev dktX2_measure_6 : List UInt8 := dkwX2_measure_6 ++ dktX2_measure_7
def dkwX2_measure_5 : List UInt8 := [132, 6, 1, 21, 13, 21, 7, 162, 0, 8, 21, 13, 167, 0, 5, 21, 7, 54, 7, 21, 13, 21, 8]
abbrev dktX2_measure_5 : List UInt8 := dkwX2_measure_5 ++ dktX2_measure_6
def dkwX2_measure_4 : List UInt8 := [8, 96, 21, 12, 104, 96, 54, 4, 21, 5, 16, 10, 21, 14, 104, 8, 96, 21, 12, 104, 96, 54, 5]
abbrev dktX2_measure_4 : List UInt8 := dkwX2_measure_4 ++ dktX2_measure_5
def dkwX2_measure_3 : List UInt8 := [16, 16, 112, 54, 13, 21, 11, 16, 16, 108, 54, 14, 29, 21, 12, 96, 62, 21, 4, 16, 10, 21, 13, 104]
abbrev dktX2_measure_3 : List UInt8 := dkwX2_measure_3 ++ dktX2_measure_4
def dkwX2_measure_2 : List UInt8 := [159, 0, 6, 167, 0, 134, 42, 180, 0, 49, 17, 1, 0, 27, 104, 21, 11, 96, 46, 54, 12, 21, 11]
abbrev dktX2_measure_2 : List UInt8 := dkwX2_measure_2 ++ dktX2_measure_3
def dkwX2_measure_1 : List UInt8 := [54, 10, 3, 54, 11, 21, 11, 17, 1, 0, 162, 0, 156, 42, 180, 0, 82, 21, 11, 46, 28, 4, 96]
abbrev dktX2_measure_1 : List UInt8 := dkwX2_measure_1 ++ dktX2_measure_2
def dkwX2_measure_0 : List UInt8 := [3, 62, 3, 54, 4, 3, 54, 5, 3, 54, 6, 16, 16, 54, 7, 3, 54, 8, 16, 16, 54, 9, 3]
abbrev dktX2_measure_0 : List UInt8 := dkwX2_measure_0 ++ dktX2_measure_1
theorem dksX2_measure_0 : cX2_measure.data.toList.drop 0 = dktX2_measure_0 := by decide +kernel
theorem dksX2_measure_1 : cX2_measure.data.toList.drop 23 = dktX2_measure_1 := dk_seg dksX2_measure_0 23 rfl rfl
theorem dksX2_measure_2 : cX2_measure.data.toList.drop 46 = dktX2_measure_2 := dk_seg dksX2_measure_1 23 rfl rfl
theorem dksX2_measure_3 : cX2_measure.data.toList.drop 69 = dktX2_measure_3 := dk_seg dksX2_measure_2 23 rfl rfl
theorem dksX2_measure_4 : cX2_measure.data.toList.drop 93 = dktX2_measure_4 := dk_seg dksX2_measure_3 24 rfl rfl
theorem dksX2_measure_5 : cX2_measure.data.toList.drop 116 = dktX2_measure_5 := dk_seg dksX2_measure_4 23 rfl rfl
theorem dksX2_measure_6 : cX2_measure.data.toList.drop 139 = dktX2_measure_6 := dk_seg dksX2_measure_5 23 rfl rfl
theorem dksX2_measure_7 : cX2_measure.data.toList.drop 163 = dktX2_measure_7 := dk_seg dksX2_measure_6 24 rfl rfl
theorem dksX2_measure_8 : cX2_measure.data.toList.drop 186 = dktX2_measure_8 := dk_seg dksX2_measure_7 23 rfl rfl
theorem dksX2_measure_9 : cX2_measure.data.toList.drop 210 = dktX2_measure_9 := dk_seg dksX2_measure_8 24 rfl rfl
theorem dksX2_measure_10 : cX2_measure.data.toList.drop 234 = dktX2_measure_10 := dk_seg dksX2_measure_9 24 rfl rfl
theorem dX2_measure_0 : decode cX2_measure 0 = .ok (.iconst 0, 1) := dk_3 (dk_at dksX2_measure_0 0 rfl rfl)
theorem dX2_measure_1 : decode cX2_measure 1 = .ok (.istore_n 3, 1) := dk_62 (dk_at dksX2_measure_0 1 rfl rfl)
theorem dX2_measure_2 : decode cX2_measure 2 = .ok (.iconst 0, 1) := dk_3 (dk_at dksX2_measure_0 2 rfl rfl)
theorem dX2_measure_3 : decode cX2_measure 3 = .ok (.istore 4, 2) := dk_54 4 (dk_at dksX2_measure_0 3 rfl rfl)
theorem dX2_measure_5 : decode cX2_measure 5 = .ok (.iconst 0, 1) := dk_3 (dk_at dksX2_measure_0 5 rfl rfl)
theorem dX2_measure_6 : decode cX2_measure 6 = .ok (.istore 5, 2) := dk_54 5 (dk_at dksX2_measure_0 6 rfl rfl)
theorem dX2_measure_8 : decode cX2_measure 8 = .ok (.iconst 0, 1) := dk_3 (dk_at dksX2_measure_0 8 rfl rfl)
theorem dX2_measure_9 : decode cX2_measure 9 = .ok (.istore 6, 2) := dk_54 6 (dk_at dksX2_measure_0 9 rfl rfl)
theorem dX2_measure_11 : decode cX2_measure 11 = .ok (.bipush 16, 2) := dk_16 16 (dk_at dksX2_measure_0 11 rfl rfl)
theorem dX2_measure_13 : decode cX2_measure 13 = .ok (.istore 7, 2) := dk_54 7 (dk_at dksX2_measure_0 13 rfl rfl)
theorem dX2_measure_15 : decode cX2_measure 15 = .ok (.iconst 0, 1) := dk_3 (dk_at dksX2_measure_0 15 rfl rfl)
theorem dX2_measure_16 : decode cX2_measure 16 = .ok (.istore 8, 2) := dk_54 8 (dk_at dksX2_measure_0 16 rfl rfl)
theorem dX2_measure_18 : decode cX2_measure 18 = .ok (.bipush 16, 2) := dk_16 16 (dk_at dksX2_measure_0 18 rfl rfl)
theorem dX2_measure_20 : decode cX2_measure 20 = .ok (.istore 9, 2) := dk_54 9 (dk_at dksX2_measure_0 20 rfl rfl)
theorem dX2_measure_22 : decode cX2_measure 22 = .ok (.iconst 0, 1) := dk_3 (dk_at dksX2_measure_0 22 rfl rfl)
theorem dX2_measure_23 : decode cX2_measure 23 = .ok (.istore 10, 2) := dk_54 10 (dk_at dksX2_measure_1 0 rfl rfl)
theorem dX2_measure_25 : decode cX2_measure 25 = .ok (.iconst 0, 1) := dk_3 (dk_at dksX2_measure_1 2 rfl rfl)
theorem dX2_measure_26 : decode cX2_measure 26 = .ok (.istore 11, 2) := dk_54 11 (dk_at dksX2_measure_1 3 rfl rfl)
theorem dX2_measure_28 : decode cX2_measure 28 = .ok (.iload 11, 2) := dk_21 11 (dk_at dksX2_measure_1 5 rfl rfl)
theorem dX2_measure_30 : decode cX2_measure 30 = .ok (.sipush 256, 3) := dk_17 1 0 (dk_at dksX2_measure_1 7 rfl rfl)
theorem dX2_measure_33 : decode cX2_measure 33 = .ok (.if_icmp .ge 156, 3) := dk_162 0 156 (dk_at dksX2_measure_1 10 rfl rfl)
theorem dX2_measure_36 : decode cX2_measure 36 = .ok (.aload_n 0, 1) := dk_42 (dk_at dksX2_measure_1 13 rfl rfl)
theorem dX2_measure_37 : decode cX2_measure 37 = .ok (.getfield 82, 3) := dk_180 0 82 (dk_at dksX2_measure_1 14 rfl rfl)
theorem dX2_measure_40 : decode cX2_measure 40 = .ok (.iload 11, 2) := dk_21 11 (dk_at dksX2_measure_1 17 rfl rfl)
theorem dX2_measure_42 : decode cX2_measure 42 = .ok (.iaload, 1) := dk_46 (dk_at dksX2_measure_1 19 rfl rfl)
theorem dX2_measure_43 : decode cX2_measure 43 = .ok (.iload_n 2, 1) := dk_28 (dk_at dksX2_measure_1 20 rfl rfl)
theorem dX2_measure_44 : decode cX2_measure 44 = .ok (.iconst 1, 1) := dk_4 (dk_at dksX2_measure_1 21 rfl rfl)
theorem dX2_measure_45 : decode cX2_measure 45 = .ok (.iadd, 1) := dk_96 (dk_at dksX2_measure_1 22 rfl rfl)
theorem dX2_measure_46 : decode cX2_measure 46 = .ok (.if_icmp .eq 6, 3) := dk_159 0 6 (dk_at dksX2_measure_2 0 rfl rfl)
theorem dX2_measure_49 : decode cX2_measure 49 = .ok (.goto 134, 3) := dk_167 0 134 (dk_at dksX2_measure_2 3 rfl rfl)
theorem dX2_measure_52 : decode cX2_measure 52 = .ok (.aload_n 0, 1) := dk_42 (dk_at dksX2_measure_2 6 rfl rfl)
theorem dX2_measure_53 : decode cX2_measure 53 = .ok (.getfield 49, 3) := dk_180 0 49 (dk_at dksX2_measure_2 7 rfl rfl)
theorem dX2_measure_56 : decode cX2_measure 56 = .ok (.sipush 256, 3) := dk_17 1 0 (dk_at dksX2_measure_2 10 rfl rfl)
theorem dX2_measure_59 : decode cX2_measure 59 = .ok (.iload_n 1, 1) := dk_27 (dk_at dksX2_measure_2 13 rfl rfl)
theorem dX2_measure_60 : decode cX2_measure 60 = .ok (.imul, 1) := dk_104 (dk_at dksX2_measure_2 14 rfl rfl)
theorem dX2_measure_61 : decode cX2_measure 61 = .ok (.iload 11, 2) := dk_21 11 (dk_at dksX2_measure_2 15 rfl rfl)
theorem dX2_measure_63 : decode cX2_measure 63 = .ok (.iadd, 1) := dk_96 (dk_at dksX2_measure_2 17 rfl rfl)
theorem dX2_measure_64 : decode cX2_measure 64 = .ok (.iaload, 1) := dk_46 (dk_at dksX2_measure_2 18 rfl rfl)
theorem dX2_measure_65 : decode cX2_measure 65 = .ok (.istore 12, 2) := dk_54 12 (dk_at dksX2_measure_2 19 rfl rfl)
theorem dX2_measure_67 : decode cX2_measure 67 = .ok (.iload 11, 2) := dk_21 11 (dk_at dksX2_measure_2 21 rfl rfl)
theorem dX2_measure_69 : decode cX2_measure 69 = .ok (.bipush 16, 2) := dk_16 16 (dk_at dksX2_measure_3 0 rfl rfl)
theorem dX2_measure_71 : decode cX2_measure 71 = .ok (.irem, 1) := dk_112 (dk_at dksX2_measure_3 2 rfl rfl)
theorem dX2_measure_72 : decode cX2_measure 72 = .ok (.istore 13, 2) := dk_54 13 (dk_at dksX2_measure_3 3 rfl rfl)
theorem dX2_measure_74 : decode cX2_measure 74 = .ok (.iload 11, 2) := dk_21 11 (dk_at dksX2_measure_3 5 rfl rfl)
theorem dX2_measure_76 : decode cX2_measure 76 = .ok (.bipush 16, 2) := dk_16 16 (dk_at dksX2_measure_3 7 rfl rfl)
theorem dX2_measure_78 : decode cX2_measure 78 = .ok (.idiv, 1) := dk_108 (dk_at dksX2_measure_3 9 rfl rfl)
theorem dX2_measure_79 : decode cX2_measure 79 = .ok (.istore 14, 2) := dk_54 14 (dk_at dksX2_measure_3 10 rfl rfl)
theorem dX2_measure_81 : decode cX2_measure 81 = .ok (.iload_n 3, 1) := dk_29 (dk_at dksX2_measure_3 12 rfl rfl)
theorem dX2_measure_82 : decode cX2_measure 82 = .ok (.iload 12, 2) := dk_21 12 (dk_at dksX2_measure_3 13 rfl rfl)
theorem dX2_measure_84 : decode cX2_measure 84 = .ok (.iadd, 1) := dk_96 (dk_at dksX2_measure_3 15 rfl rfl)
theorem dX2_measure_85 : decode cX2_measure 85 = .ok (.istore_n 3, 1) := dk_62 (dk_at dksX2_measure_3 16 rfl rfl)
theorem dX2_measure_86 : decode cX2_measure 86 = .ok (.iload 4, 2) := dk_21 4 (dk_at dksX2_measure_3 17 rfl rfl)
theorem dX2_measure_88 : decode cX2_measure 88 = .ok (.bipush 10, 2) := dk_16 10 (dk_at dksX2_measure_3 19 rfl rfl)
theorem dX2_measure_90 : decode cX2_measure 90 = .ok (.iload 13, 2) := dk_21 13 (dk_at dksX2_measure_3 21 rfl rfl)
theorem dX2_measure_92 : decode cX2_measure 92 = .ok (.imul, 1) := dk_104 (dk_at dksX2_measure_3 23 rfl rfl)
theorem dX2_measure_93 : decode cX2_measure 93 = .ok (.iconst 5, 1) := dk_8 (dk_at dksX2_measure_4 0 rfl rfl)
theorem dX2_measure_94 : decode cX2_measure 94 = .ok (.iadd, 1) := dk_96 (dk_at dksX2_measure_4 1 rfl rfl)
theorem dX2_measure_95 : decode cX2_measure 95 = .ok (.iload 12, 2) := dk_21 12 (dk_at dksX2_measure_4 2 rfl rfl)
theorem dX2_measure_97 : decode cX2_measure 97 = .ok (.imul, 1) := dk_104 (dk_at dksX2_measure_4 4 rfl rfl)
theorem dX2_measure_98 : decode cX2_measure 98 = .ok (.iadd, 1) := dk_96 (dk_at dksX2_measure_4 5 rfl rfl)
theorem dX2_measure_99 : decode cX2_measure 99 = .ok (.istore 4, 2) := dk_54 4 (dk_at dksX2_measure_4 6 rfl rfl)
theorem dX2_measure_101 : decode cX2_measure 101 = .ok (.iload 5, 2) := dk_21 5 (dk_at dksX2_measure_4 8 rfl rfl)
theorem dX2_measure_103 : decode cX2_measure 103 = .ok (.bipush 10, 2) := dk_16 10 (dk_at dksX2_measure_4 10 rfl rfl)
theorem dX2_measure_105 : decode cX2_measure 105 = .ok (.iload 14, 2) := dk_21 14 (dk_at dksX2_measure_4 12 rfl rfl)
theorem dX2_measure_107 : decode cX2_measure 107 = .ok (.imul, 1) := dk_104 (dk_at dksX2_measure_4 14 rfl rfl)
theorem dX2_measure_108 : decode cX2_measure 108 = .ok (.iconst 5, 1) := dk_8 (dk_at dksX2_measure_4 15 rfl rfl)
theorem dX2_measure_109 : decode cX2_measure 109 = .ok (.iadd, 1) := dk_96 (dk_at dksX2_measure_4 16 rfl rfl)
theorem dX2_measure_110 : decode cX2_measure 110 = .ok (.iload 12, 2) := dk_21 12 (dk_at dksX2_measure_4 17 rfl rfl)
theorem dX2_measure_112 : decode cX2_measure 112 = .ok (.imul, 1) := dk_104 (dk_at dksX2_measure_4 19 rfl rfl)
theorem dX2_measure_113 : decode cX2_measure 113 = .ok (.iadd, 1) := dk_96 (dk_at dksX2_measure_4 20 rfl rfl)
theorem dX2_measure_114 : decode cX2_measure 114 = .ok (.istore 5, 2) := dk_54 5 (dk_at dksX2_measure_4 21 rfl rfl)
theorem dX2_measure_116 : decode cX2_measure 116 = .ok (.iinc 6 1, 3) := dk_132 6 1 (dk_at dksX2_measure_5 0 rfl rfl)
theorem dX2_measure_119 : decode cX2_measure 119 = .ok (.iload 13, 2) := dk_21 13 (dk_at dksX2_measure_5 3 rfl rfl)
theorem dX2_measure_121 : decode cX2_measure 121 = .ok (.iload 7, 2) := dk_21 7 (dk_at dksX2_measure_5 5 rfl rfl)
theorem dX2_measure_123 : decode cX2_measure 123 = .ok (.if_icmp .ge 8, 3) := dk_162 0 8 (dk_at dksX2_measure_5 7 rfl rfl)
theorem dX2_measure_126 : decode cX2_measure 126 = .ok (.iload 13, 2) := dk_21 13 (dk_at dksX2_measure_5 10 rfl rfl)
theorem dX2_measure_128 : decode cX2_measure 128 = .ok (.goto 5, 3) := dk_167 0 5 (dk_at dksX2_measure_5 12 rfl rfl)
theorem dX2_measure_131 : decode cX2_measure 131 = .ok (.iload 7, 2) := dk_21 7 (dk_at dksX2_measure_5 15 rfl rfl)
theorem dX2_measure_133 : decode cX2_measure 133 = .ok (.istore 7, 2) := dk_54 7 (dk_at dksX2_measure_5 17 rfl rfl)
theorem dX2_measure_135 : decode cX2_measure 135 = .ok (.iload 13, 2) := dk_21 13 (dk_at dksX2_measure_5 19 rfl rfl)
theorem dX2_measure_137 : decode cX2_measure 137 = .ok (.iload 8, 2) := dk_21 8 (dk_at dksX2_measure_5 21 rfl rfl)
theorem dX2_measure_139 : decode cX2_measure 139 = .ok (.if_icmp .le 8, 3) := dk_164 0 8 (dk_at dksX2_measure_6 0 rfl rfl)
theorem dX2_measure_142 : decode cX2_measure 142 = .ok (.iload 13, 2) := dk_21 13 (dk_at dksX2_measure_6 3 rfl rfl)
theorem dX2_measure_144 : decode cX2_measure 144 = .ok (.goto 5, 3) := dk_167 0 5 (dk_at dksX2_measure_6 5 rfl rfl)
theorem dX2_measure_147 : decode cX2_measure 147 = .ok (.iload 8, 2) := dk_21 8 (dk_at dksX2_measure_6 8 rfl rfl)
theorem dX2_measure_149 : decode cX2_measure 149 = .ok (.istore 8, 2) := dk_54 8 (dk_at dksX2_measure_6 10 rfl rfl)
theorem dX2_measure_151 : decode cX2_measure 151 = .ok (.iload 14, 2) := dk_21 14 (dk_at dksX2_measure_6 12 rfl rfl)
theorem dX2_measure_153 : decode cX2_measure 153 = .ok (.iload 9, 2) := dk_21 9 (dk_at dksX2_measure_6 14 rfl rfl)
theorem dX2_measure_155 : decode cX2_measure 155 = .ok (.if_icmp .ge 8, 3) := dk_162 0 8 (dk_at dksX2_measure_6 16 rfl rfl)
theorem dX2_measure_158 : decode cX2_measure 158 = .ok (.iload 14, 2) := dk_21 14 (dk_at dksX2_measure_6 19 rfl rfl)
theorem dX2_measure_160 : decode cX2_measure 160 = .ok (.goto 5, 3) := dk_167 0 5 (dk_at dksX2_measure_6 21 rfl rfl)
theorem dX2_measure_163 : decode cX2_measure 163 = .ok (.iload 9, 2) := dk_21 9 (dk_at dksX2_measure_7 0 rfl rfl)
theorem dX2_measure_165 : decode cX2_measure 165 = .ok (.istore 9, 2) := dk_54 9 (dk_at dksX2_measure_7 2 rfl rfl)
theorem dX2_measure_167 : decode cX2_measure 167 = .ok (.iload 14, 2) := dk_21 14 (dk_at dksX2_measure_7 4 rfl rfl)
theorem dX2_measure_169 : decode cX2_measure 169 = .ok (.iload 10, 2) := dk_21 10 (dk_at dksX2_measure_7 6 rfl rfl)
theorem dX2_measure_171 : decode cX2_measure 171 = .ok (.if_icmp .le 8, 3) := dk_164 0 8 (dk_at dksX2_measure_7 8 rfl rfl)
theorem dX2_measure_174 : decode cX2_measure 174 = .ok (.iload 14, 2) := dk_21 14 (dk_at dksX2_measure_7 11 rfl rfl)
theorem dX2_measure_176 : decode cX2_measure 176 = .ok (.goto 5, 3) := dk_167 0 5 (dk_at dksX2_measure_7 13 rfl rfl)
theorem dX2_measure_179 : decode cX2_measure 179 = .ok (.iload 10, 2) := dk_21 10 (dk_at dksX2_measure_7 16 rfl rfl)
theorem dX2_measure_181 : decode cX2_measure 181 = .ok (.istore 10, 2) := dk_54 10 (dk_at dksX2_measure_7 18 rfl rfl)
theorem dX2_measure_183 : decode cX2_measure 183 = .ok (.iinc 11 1, 3) := dk_132 11 1 (dk_at dksX2_measure_7 20 rfl rfl)
theorem dX2_measure_186 : decode cX2_measure 186 = .ok (.goto (-158), 3) := dk_167 255 98 (dk_at dksX2_measure_8 0 rfl rfl)
theorem dX2_measure_189 : decode cX2_measure 189 = .ok (.aload_n 0, 1) := dk_42 (dk_at dksX2_measure_8 3 rfl rfl)
theorem dX2_measure_190 : decode cX2_measure 190 = .ok (.getfield 64, 3) := dk_180 0 64 (dk_at dksX2_measure_8 4 rfl rfl)
theorem dX2_measure_193 : decode cX2_measure 193 = .ok (.iload_n 2, 1) := dk_28 (dk_at dksX2_measure_8 7 rfl rfl)
theorem dX2_measure_194 : decode cX2_measure 194 = .ok (.iload_n 3, 1) := dk_29 (dk_at dksX2_measure_8 8 rfl rfl)
theorem dX2_measure_195 : decode cX2_measure 195 = .ok (.iastore, 1) := dk_79 (dk_at dksX2_measure_8 9 rfl rfl)
theorem dX2_measure_196 : decode cX2_measure 196 = .ok (.aload_n 0, 1) := dk_42 (dk_at dksX2_measure_8 10 rfl rfl)
theorem dX2_measure_197 : decode cX2_measure 197 = .ok (.getfield 67, 3) := dk_180 0 67 (dk_at dksX2_measure_8 11 rfl rfl)
theorem dX2_measure_200 : decode cX2_measure 200 = .ok (.iload_n 2, 1) := dk_28 (dk_at dksX2_measure_8 14 rfl rfl)
theorem dX2_measure_201 : decode cX2_measure 201 = .ok (.iload 4, 2) := dk_21 4 (dk_at dksX2_measure_8 15 rfl rfl)
theorem dX2_measure_203 : decode cX2_measure 203 = .ok (.iload_n 3, 1) := dk_29 (dk_at dksX2_measure_8 17 rfl rfl)
theorem dX2_measure_204 : decode cX2_measure 204 = .ok (.idiv, 1) := dk_108 (dk_at dksX2_measure_8 18 rfl rfl)
theorem dX2_measure_205 : decode cX2_measure 205 = .ok (.iastore, 1) := dk_79 (dk_at dksX2_measure_8 19 rfl rfl)
theorem dX2_measure_206 : decode cX2_measure 206 = .ok (.aload_n 0, 1) := dk_42 (dk_at dksX2_measure_8 20 rfl rfl)
theorem dX2_measure_207 : decode cX2_measure 207 = .ok (.getfield 70, 3) := dk_180 0 70 (dk_at dksX2_measure_8 21 rfl rfl)
theorem dX2_measure_210 : decode cX2_measure 210 = .ok (.iload_n 2, 1) := dk_28 (dk_at dksX2_measure_9 0 rfl rfl)
theorem dX2_measure_211 : decode cX2_measure 211 = .ok (.iload 5, 2) := dk_21 5 (dk_at dksX2_measure_9 1 rfl rfl)
theorem dX2_measure_213 : decode cX2_measure 213 = .ok (.iload_n 3, 1) := dk_29 (dk_at dksX2_measure_9 3 rfl rfl)
theorem dX2_measure_214 : decode cX2_measure 214 = .ok (.idiv, 1) := dk_108 (dk_at dksX2_measure_9 4 rfl rfl)
theorem dX2_measure_215 : decode cX2_measure 215 = .ok (.iastore, 1) := dk_79 (dk_at dksX2_measure_9 5 rfl rfl)
theorem dX2_measure_216 : decode cX2_measure 216 = .ok (.aload_n 0, 1) := dk_42 (dk_at dksX2_measure_9 6 rfl rfl)
theorem dX2_measure_217 : decode cX2_measure 217 = .ok (.getfield 73, 3) := dk_180 0 73 (dk_at dksX2_measure_9 7 rfl rfl)
theorem dX2_measure_220 : decode cX2_measure 220 = .ok (.iload_n 2, 1) := dk_28 (dk_at dksX2_measure_9 10 rfl rfl)
theorem dX2_measure_221 : decode cX2_measure 221 = .ok (.iload 6, 2) := dk_21 6 (dk_at dksX2_measure_9 11 rfl rfl)
theorem dX2_measure_223 : decode cX2_measure 223 = .ok (.iastore, 1) := dk_79 (dk_at dksX2_measure_9 13 rfl rfl)
theorem dX2_measure_224 : decode cX2_measure 224 = .ok (.aload_n 0, 1) := dk_42 (dk_at dksX2_measure_9 14 rfl rfl)
theorem dX2_measure_225 : decode cX2_measure 225 = .ok (.getfield 85, 3) := dk_180 0 85 (dk_at dksX2_measure_9 15 rfl rfl)
theorem dX2_measure_228 : decode cX2_measure 228 = .ok (.iload_n 2, 1) := dk_28 (dk_at dksX2_measure_9 18 rfl rfl)
theorem dX2_measure_229 : decode cX2_measure 229 = .ok (.iload 8, 2) := dk_21 8 (dk_at dksX2_measure_9 19 rfl rfl)
theorem dX2_measure_231 : decode cX2_measure 231 = .ok (.iload 7, 2) := dk_21 7 (dk_at dksX2_measure_9 21 rfl rfl)
theorem dX2_measure_233 : decode cX2_measure 233 = .ok (.isub, 1) := dk_100 (dk_at dksX2_measure_9 23 rfl rfl)
theorem dX2_measure_234 : decode cX2_measure 234 = .ok (.iconst 2, 1) := dk_5 (dk_at dksX2_measure_10 0 rfl rfl)
theorem dX2_measure_235 : decode cX2_measure 235 = .ok (.if_icmp .gt 12, 3) := dk_163 0 12 (dk_at dksX2_measure_10 1 rfl rfl)
theorem dX2_measure_238 : decode cX2_measure 238 = .ok (.iload 10, 2) := dk_21 10 (dk_at dksX2_measure_10 4 rfl rfl)
theorem dX2_measure_240 : decode cX2_measure 240 = .ok (.iload 9, 2) := dk_21 9 (dk_at dksX2_measure_10 6 rfl rfl)
theorem dX2_measure_242 : decode cX2_measure 242 = .ok (.isub, 1) := dk_100 (dk_at dksX2_measure_10 8 rfl rfl)
theorem dX2_measure_243 : decode cX2_measure 243 = .ok (.iconst 2, 1) := dk_5 (dk_at dksX2_measure_10 9 rfl rfl)
theorem dX2_measure_244 : decode cX2_measure 244 = .ok (.if_icmp .le 7, 3) := dk_164 0 7 (dk_at dksX2_measure_10 10 rfl rfl)
theorem dX2_measure_247 : decode cX2_measure 247 = .ok (.iconst 1, 1) := dk_4 (dk_at dksX2_measure_10 13 rfl rfl)
theorem dX2_measure_248 : decode cX2_measure 248 = .ok (.goto 4, 3) := dk_167 0 4 (dk_at dksX2_measure_10 14 rfl rfl)
theorem dX2_measure_251 : decode cX2_measure 251 = .ok (.iconst 0, 1) := dk_3 (dk_at dksX2_measure_10 17 rfl rfl)
theorem dX2_measure_252 : decode cX2_measure 252 = .ok (.bastore, 1) := dk_84 (dk_at dksX2_measure_10 18 rfl rfl)
theorem dX2_measure_253 : decode cX2_measure 253 = .ok (.return_, 1) := dk_177 (dk_at dksX2_measure_10 19 rfl rfl)
abbrev cX2_isAhead : ByteArray := prog_28_method_35_code
def yX2_isAhead : MethodName := ⟨RX2, "isAhead", "(II)Z"⟩
def dkwX2_isAhead_4 : List UInt8 := [167, 0, 4, 3, 172]
abbrev dktX2_isAhead_4 : List UInt8 := dkwX2_isAhead_4 ++ []
def dkwX2_isAhead_3 : List UInt8 := [167, 0, 27, 3, 167, 0, 23, 42, 180, 0, 67, 27, 46, 42, 180, 0, 67, 28, 46, 162, 0, 7, 4]
abbrev dktX2_isAhead_3 : List UInt8 := dkwX2_isAhead_3 ++ dktX2_isAhead_4
def dkwX2_isAhead_2 : List UInt8 := [180, 0, 70, 28, 46, 159, 0, 26, 42, 180, 0, 70, 27, 46, 42, 180, 0, 70, 28, 46, 162, 0, 7, 4]
abbrev dktX2_isAhead_2 : List UInt8 := dkwX2_isAhead_2 ++ dktX2_isAhead_3
def dkwX2_isAhead_1 : List UInt8 := [180, 0, 64, 28, 46, 164, 0, 7, 4, 167, 0, 65, 3, 167, 0, 61, 42, 180, 0, 70, 27, 46, 42]
abbrev dktX2_isAhead_1 : List UInt8 := dkwX2_isAhead_1 ++ dktX2_isAhead_2
def dkwX2_isAhead_0 : List UInt8 := [42, 180, 0, 64, 27, 46, 42, 180, 0, 64, 28, 46, 159, 0, 26, 42, 180, 0, 64, 27, 46, 42]
abbrev dktX2_isAhead_0 : List UInt8 := dkwX2_isAhead_0 ++ dktX2_isAhead_1
theorem dksX2_isAhead_0 : cX2_isAhead.data.toList.drop 0 = dktX2_isAhead_0 := by decide +kernel
theorem dksX2_isAhead_1 : cX2_isAhead.data.toList.drop 22 = dktX2_isAhead_1 := dk_seg dksX2_isAhead_0 22 rfl rfl
theorem dksX2_isAhead_2 : cX2_isAhead.data.toList.drop 45 = dktX2_isAhead_2 := dk_seg dksX2_isAhead_1 23 rfl rfl
theorem dksX2_isAhead_3 : cX2_isAhead.data.toList.drop 69 = dktX2_isAhead_3 := dk_seg dksX2_isAhead_2 24 rfl rfl
theorem dksX2_isAhead_4 : cX2_isAhead.data.toList.drop 92 = dktX2_isAhead_4 := dk_seg dksX2_isAhead_3 23 rfl rfl
theorem dX2_isAhead_0 : decode cX2_isAhead 0 = .ok (.aload_n 0, 1) := dk_42 (dk_at dksX2_isAhead_0 0 rfl rfl)
theorem dX2_isAhead_1 : decode cX2_isAhead 1 = .ok (.getfield 64, 3) := dk_180 0 64 (dk_at dksX2_isAhead_0 1 rfl rfl)
theorem dX2_isAhead_4 : decode cX2_isAhead 4 = .ok (.iload_n 1, 1) := dk_27 (dk_at dksX2_isAhead_0 4 rfl rfl)
theorem dX2_isAhead_5 : decode cX2_isAhead 5 = .ok (.iaload, 1) := dk_46 (dk_at dksX2_isAhead_0 5 rfl rfl)
theorem dX2_isAhead_6 : decode cX2_isAhead 6 = .ok (.aload_n 0, 1) := dk_42 (dk_at dksX2_isAhead_0 6 rfl rfl)
theorem dX2_isAhead_7 : decode cX2_isAhead 7 = .ok (.getfield 64, 3) := dk_180 0 64 (dk_at dksX2_isAhead_0 7 rfl rfl)
theorem dX2_isAhead_10 : decode cX2_isAhead 10 = .ok (.iload_n 2, 1) := dk_28 (dk_at dksX2_isAhead_0 10 rfl rfl)
theorem dX2_isAhead_11 : decode cX2_isAhead 11 = .ok (.iaload, 1) := dk_46 (dk_at dksX2_isAhead_0 11 rfl rfl)
theorem dX2_isAhead_12 : decode cX2_isAhead 12 = .ok (.if_icmp .eq 26, 3) := dk_159 0 26 (dk_at dksX2_isAhead_0 12 rfl rfl)
theorem dX2_isAhead_15 : decode cX2_isAhead 15 = .ok (.aload_n 0, 1) := dk_42 (dk_at dksX2_isAhead_0 15 rfl rfl)
theorem dX2_isAhead_16 : decode cX2_isAhead 16 = .ok (.getfield 64, 3) := dk_180 0 64 (dk_at dksX2_isAhead_0 16 rfl rfl)
theorem dX2_isAhead_19 : decode cX2_isAhead 19 = .ok (.iload_n 1, 1) := dk_27 (dk_at dksX2_isAhead_0 19 rfl rfl)
theorem dX2_isAhead_20 : decode cX2_isAhead 20 = .ok (.iaload, 1) := dk_46 (dk_at dksX2_isAhead_0 20 rfl rfl)
theorem dX2_isAhead_21 : decode cX2_isAhead 21 = .ok (.aload_n 0, 1) := dk_42 (dk_at dksX2_isAhead_0 21 rfl rfl)
theorem dX2_isAhead_22 : decode cX2_isAhead 22 = .ok (.getfield 64, 3) := dk_180 0 64 (dk_at dksX2_isAhead_1 0 rfl rfl)
theorem dX2_isAhead_25 : decode cX2_isAhead 25 = .ok (.iload_n 2, 1) := dk_28 (dk_at dksX2_isAhead_1 3 rfl rfl)
theorem dX2_isAhead_26 : decode cX2_isAhead 26 = .ok (.iaload, 1) := dk_46 (dk_at dksX2_isAhead_1 4 rfl rfl)
theorem dX2_isAhead_27 : decode cX2_isAhead 27 = .ok (.if_icmp .le 7, 3) := dk_164 0 7 (dk_at dksX2_isAhead_1 5 rfl rfl)
theorem dX2_isAhead_30 : decode cX2_isAhead 30 = .ok (.iconst 1, 1) := dk_4 (dk_at dksX2_isAhead_1 8 rfl rfl)
theorem dX2_isAhead_31 : decode cX2_isAhead 31 = .ok (.goto 65, 3) := dk_167 0 65 (dk_at dksX2_isAhead_1 9 rfl rfl)
theorem dX2_isAhead_34 : decode cX2_isAhead 34 = .ok (.iconst 0, 1) := dk_3 (dk_at dksX2_isAhead_1 12 rfl rfl)
theorem dX2_isAhead_35 : decode cX2_isAhead 35 = .ok (.goto 61, 3) := dk_167 0 61 (dk_at dksX2_isAhead_1 13 rfl rfl)
theorem dX2_isAhead_38 : decode cX2_isAhead 38 = .ok (.aload_n 0, 1) := dk_42 (dk_at dksX2_isAhead_1 16 rfl rfl)
theorem dX2_isAhead_39 : decode cX2_isAhead 39 = .ok (.getfield 70, 3) := dk_180 0 70 (dk_at dksX2_isAhead_1 17 rfl rfl)
theorem dX2_isAhead_42 : decode cX2_isAhead 42 = .ok (.iload_n 1, 1) := dk_27 (dk_at dksX2_isAhead_1 20 rfl rfl)
theorem dX2_isAhead_43 : decode cX2_isAhead 43 = .ok (.iaload, 1) := dk_46 (dk_at dksX2_isAhead_1 21 rfl rfl)
theorem dX2_isAhead_44 : decode cX2_isAhead 44 = .ok (.aload_n 0, 1) := dk_42 (dk_at dksX2_isAhead_1 22 rfl rfl)
theorem dX2_isAhead_45 : decode cX2_isAhead 45 = .ok (.getfield 70, 3) := dk_180 0 70 (dk_at dksX2_isAhead_2 0 rfl rfl)
theorem dX2_isAhead_48 : decode cX2_isAhead 48 = .ok (.iload_n 2, 1) := dk_28 (dk_at dksX2_isAhead_2 3 rfl rfl)
theorem dX2_isAhead_49 : decode cX2_isAhead 49 = .ok (.iaload, 1) := dk_46 (dk_at dksX2_isAhead_2 4 rfl rfl)
theorem dX2_isAhead_50 : decode cX2_isAhead 50 = .ok (.if_icmp .eq 26, 3) := dk_159 0 26 (dk_at dksX2_isAhead_2 5 rfl rfl)
theorem dX2_isAhead_53 : decode cX2_isAhead 53 = .ok (.aload_n 0, 1) := dk_42 (dk_at dksX2_isAhead_2 8 rfl rfl)
theorem dX2_isAhead_54 : decode cX2_isAhead 54 = .ok (.getfield 70, 3) := dk_180 0 70 (dk_at dksX2_isAhead_2 9 rfl rfl)
theorem dX2_isAhead_57 : decode cX2_isAhead 57 = .ok (.iload_n 1, 1) := dk_27 (dk_at dksX2_isAhead_2 12 rfl rfl)
theorem dX2_isAhead_58 : decode cX2_isAhead 58 = .ok (.iaload, 1) := dk_46 (dk_at dksX2_isAhead_2 13 rfl rfl)
theorem dX2_isAhead_59 : decode cX2_isAhead 59 = .ok (.aload_n 0, 1) := dk_42 (dk_at dksX2_isAhead_2 14 rfl rfl)
theorem dX2_isAhead_60 : decode cX2_isAhead 60 = .ok (.getfield 70, 3) := dk_180 0 70 (dk_at dksX2_isAhead_2 15 rfl rfl)
theorem dX2_isAhead_63 : decode cX2_isAhead 63 = .ok (.iload_n 2, 1) := dk_28 (dk_at dksX2_isAhead_2 18 rfl rfl)
theorem dX2_isAhead_64 : decode cX2_isAhead 64 = .ok (.iaload, 1) := dk_46 (dk_at dksX2_isAhead_2 19 rfl rfl)
theorem dX2_isAhead_65 : decode cX2_isAhead 65 = .ok (.if_icmp .ge 7, 3) := dk_162 0 7 (dk_at dksX2_isAhead_2 20 rfl rfl)
theorem dX2_isAhead_68 : decode cX2_isAhead 68 = .ok (.iconst 1, 1) := dk_4 (dk_at dksX2_isAhead_2 23 rfl rfl)
theorem dX2_isAhead_69 : decode cX2_isAhead 69 = .ok (.goto 27, 3) := dk_167 0 27 (dk_at dksX2_isAhead_3 0 rfl rfl)
theorem dX2_isAhead_72 : decode cX2_isAhead 72 = .ok (.iconst 0, 1) := dk_3 (dk_at dksX2_isAhead_3 3 rfl rfl)
theorem dX2_isAhead_73 : decode cX2_isAhead 73 = .ok (.goto 23, 3) := dk_167 0 23 (dk_at dksX2_isAhead_3 4 rfl rfl)
theorem dX2_isAhead_76 : decode cX2_isAhead 76 = .ok (.aload_n 0, 1) := dk_42 (dk_at dksX2_isAhead_3 7 rfl rfl)
theorem dX2_isAhead_77 : decode cX2_isAhead 77 = .ok (.getfield 67, 3) := dk_180 0 67 (dk_at dksX2_isAhead_3 8 rfl rfl)
theorem dX2_isAhead_80 : decode cX2_isAhead 80 = .ok (.iload_n 1, 1) := dk_27 (dk_at dksX2_isAhead_3 11 rfl rfl)
theorem dX2_isAhead_81 : decode cX2_isAhead 81 = .ok (.iaload, 1) := dk_46 (dk_at dksX2_isAhead_3 12 rfl rfl)
theorem dX2_isAhead_82 : decode cX2_isAhead 82 = .ok (.aload_n 0, 1) := dk_42 (dk_at dksX2_isAhead_3 13 rfl rfl)
theorem dX2_isAhead_83 : decode cX2_isAhead 83 = .ok (.getfield 67, 3) := dk_180 0 67 (dk_at dksX2_isAhead_3 14 rfl rfl)
theorem dX2_isAhead_86 : decode cX2_isAhead 86 = .ok (.iload_n 2, 1) := dk_28 (dk_at dksX2_isAhead_3 17 rfl rfl)
theorem dX2_isAhead_87 : decode cX2_isAhead 87 = .ok (.iaload, 1) := dk_46 (dk_at dksX2_isAhead_3 18 rfl rfl)
theorem dX2_isAhead_88 : decode cX2_isAhead 88 = .ok (.if_icmp .ge 7, 3) := dk_162 0 7 (dk_at dksX2_isAhead_3 19 rfl rfl)
theorem dX2_isAhead_91 : decode cX2_isAhead 91 = .ok (.iconst 1, 1) := dk_4 (dk_at dksX2_isAhead_3 22 rfl rfl)
theorem dX2_isAhead_92 : decode cX2_isAhead 92 = .ok (.goto 4, 3) := dk_167 0 4 (dk_at dksX2_isAhead_4 0 rfl rfl)
theorem dX2_isAhead_95 : decode cX2_isAhead 95 = .ok (.iconst 0, 1) := dk_3 (dk_at dksX2_isAhead_4 3 rfl rfl)
theorem dX2_isAhead_96 : decode cX2_isAhead 96 = .ok (.ireturn, 1) := dk_172 (dk_at dksX2_isAhead_4 4 rfl rfl)
abbrev cX2_pixelOf : ByteArray := prog_28_method_37_code
def yX2_pixelOf : MethodName := ⟨RX2, "pixelOf", "(I)I"⟩
def dkwX2_pixelOf_1 : List UInt8 := [180, 0, 79, 27, 46, 46, 16, 10, 108, 96, 172]
abbrev dktX2_pixelOf_1 : List UInt8 := dkwX2_pixelOf_1 ++ []
def dkwX2_pixelOf_0 : List UInt8 := [16, 16, 42, 180, 0, 70, 42, 180, 0, 79, 27, 46, 46, 16, 10, 108, 104, 42, 180, 0, 67, 42]
abbrev dktX2_pixelOf_0 : List UInt8 := dkwX2_pixelOf_0 ++ dktX2_pixelOf_1
theorem dksX2_pixelOf_0 : cX2_pixelOf.data.toList.drop 0 = dktX2_pixelOf_0 := by decide +kernel
theorem dksX2_pixelOf_1 : cX2_pixelOf.data.toList.drop 22 = dktX2_pixelOf_1 := dk_seg dksX2_pixelOf_0 22 rfl rfl
theorem dX2_pixelOf_0 : decode cX2_pixelOf 0 = .ok (.bipush 16, 2) := dk_16 16 (dk_at dksX2_pixelOf_0 0 rfl rfl)
theorem dX2_pixelOf_2 : decode cX2_pixelOf 2 = .ok (.aload_n 0, 1) := dk_42 (dk_at dksX2_pixelOf_0 2 rfl rfl)
theorem dX2_pixelOf_3 : decode cX2_pixelOf 3 = .ok (.getfield 70, 3) := dk_180 0 70 (dk_at dksX2_pixelOf_0 3 rfl rfl)
theorem dX2_pixelOf_6 : decode cX2_pixelOf 6 = .ok (.aload_n 0, 1) := dk_42 (dk_at dksX2_pixelOf_0 6 rfl rfl)
theorem dX2_pixelOf_7 : decode cX2_pixelOf 7 = .ok (.getfield 79, 3) := dk_180 0 79 (dk_at dksX2_pixelOf_0 7 rfl rfl)
theorem dX2_pixelOf_10 : decode cX2_pixelOf 10 = .ok (.iload_n 1, 1) := dk_27 (dk_at dksX2_pixelOf_0 10 rfl rfl)
theorem dX2_pixelOf_11 : decode cX2_pixelOf 11 = .ok (.iaload, 1) := dk_46 (dk_at dksX2_pixelOf_0 11 rfl rfl)
theorem dX2_pixelOf_12 : decode cX2_pixelOf 12 = .ok (.iaload, 1) := dk_46 (dk_at dksX2_pixelOf_0 12 rfl rfl)
theorem dX2_pixelOf_13 : decode cX2_pixelOf 13 = .ok (.bipush 10, 2) := dk_16 10 (dk_at dksX2_pixelOf_0 13 rfl rfl)
theorem dX2_pixelOf_15 : decode cX2_pixelOf 15 = .ok (.idiv, 1) := dk_108 (dk_at dksX2_pixelOf_0 15 rfl rfl)
theorem dX2_pixelOf_16 : decode cX2_pixelOf 16 = .ok (.imul, 1) := dk_104 (dk_at dksX2_pixelOf_0 16 rfl rfl)
theorem dX2_pixelOf_17 : decode cX2_pixelOf 17 = .ok (.aload_n 0, 1) := dk_42 (dk_at dksX2_pixelOf_0 17 rfl rfl)
theorem dX2_pixelOf_18 : decode cX2_pixelOf 18 = .ok (.getfield 67, 3) := dk_180 0 67 (dk_at dksX2_pixelOf_0 18 rfl rfl)
theorem dX2_pixelOf_21 : decode cX2_pixelOf 21 = .ok (.aload_n 0, 1) := dk_42 (dk_at dksX2_pixelOf_0 21 rfl rfl)
theorem dX2_pixelOf_22 : decode cX2_pixelOf 22 = .ok (.getfield 79, 3) := dk_180 0 79 (dk_at dksX2_pixelOf_1 0 rfl rfl)
theorem dX2_pixelOf_25 : decode cX2_pixelOf 25 = .ok (.iload_n 1, 1) := dk_27 (dk_at dksX2_pixelOf_1 3 rfl rfl)
theorem dX2_pixelOf_26 : decode cX2_pixelOf 26 = .ok (.iaload, 1) := dk_46 (dk_at dksX2_pixelOf_1 4 rfl rfl)
theorem dX2_pixelOf_27 : decode cX2_pixelOf 27 = .ok (.iaload, 1) := dk_46 (dk_at dksX2_pixelOf_1 5 rfl rfl)
theorem dX2_pixelOf_28 : decode cX2_pixelOf 28 = .ok (.bipush 10, 2) := dk_16 10 (dk_at dksX2_pixelOf_1 6 rfl rfl)
theorem dX2_pixelOf_30 : decode cX2_pixelOf 30 = .ok (.idiv, 1) := dk_108 (dk_at dksX2_pixelOf_1 8 rfl rfl)
theorem dX2_pixelOf_31 : decode cX2_pixelOf 31 = .ok (.iadd, 1) := dk_96 (dk_at dksX2_pixelOf_1 9 rfl rfl)
theorem dX2_pixelOf_32 : decode cX2_pixelOf 32 = .ok (.ireturn, 1) := dk_172 (dk_at dksX2_pixelOf_1 10 rfl rfl)
abbrev cX2_kinds : ByteArray := prog_28_method_39_code
def yX2_kinds : MethodName := ⟨RX2, "kinds", "(I)I"⟩
def dkwX2_kinds_1 : List UInt8 := [167, 0, 4, 3, 96, 61, 132, 3, 1, 167, 255, 227, 28, 172]
abbrev dktX2_kinds_1 : List UInt8 := dkwX2_kinds_1 ++ []
def dkwX2_kinds_0 : List UInt8 := [3, 61, 3, 62, 29, 42, 180, 1, 114, 162, 0, 27, 28, 42, 180, 0, 76, 29, 46, 27, 160, 0, 7, 4]
abbrev dktX2_kinds_0 : List UInt8 := dkwX2_kinds_0 ++ dktX2_kinds_1
theorem dksX2_kinds_0 : cX2_kinds.data.toList.drop 0 = dktX2_kinds_0 := by decide +kernel
theorem dksX2_kinds_1 : cX2_kinds.data.toList.drop 24 = dktX2_kinds_1 := dk_seg dksX2_kinds_0 24 rfl rfl
theorem dX2_kinds_0 : decode cX2_kinds 0 = .ok (.iconst 0, 1) := dk_3 (dk_at dksX2_kinds_0 0 rfl rfl)
theorem dX2_kinds_1 : decode cX2_kinds 1 = .ok (.istore_n 2, 1) := dk_61 (dk_at dksX2_kinds_0 1 rfl rfl)
theorem dX2_kinds_2 : decode cX2_kinds 2 = .ok (.iconst 0, 1) := dk_3 (dk_at dksX2_kinds_0 2 rfl rfl)
theorem dX2_kinds_3 : decode cX2_kinds 3 = .ok (.istore_n 3, 1) := dk_62 (dk_at dksX2_kinds_0 3 rfl rfl)
theorem dX2_kinds_4 : decode cX2_kinds 4 = .ok (.iload_n 3, 1) := dk_29 (dk_at dksX2_kinds_0 4 rfl rfl)
theorem dX2_kinds_5 : decode cX2_kinds 5 = .ok (.aload_n 0, 1) := dk_42 (dk_at dksX2_kinds_0 5 rfl rfl)
theorem dX2_kinds_6 : decode cX2_kinds 6 = .ok (.getfield 370, 3) := dk_180 1 114 (dk_at dksX2_kinds_0 6 rfl rfl)
theorem dX2_kinds_9 : decode cX2_kinds 9 = .ok (.if_icmp .ge 27, 3) := dk_162 0 27 (dk_at dksX2_kinds_0 9 rfl rfl)
theorem dX2_kinds_12 : decode cX2_kinds 12 = .ok (.iload_n 2, 1) := dk_28 (dk_at dksX2_kinds_0 12 rfl rfl)
theorem dX2_kinds_13 : decode cX2_kinds 13 = .ok (.aload_n 0, 1) := dk_42 (dk_at dksX2_kinds_0 13 rfl rfl)
theorem dX2_kinds_14 : decode cX2_kinds 14 = .ok (.getfield 76, 3) := dk_180 0 76 (dk_at dksX2_kinds_0 14 rfl rfl)
theorem dX2_kinds_17 : decode cX2_kinds 17 = .ok (.iload_n 3, 1) := dk_29 (dk_at dksX2_kinds_0 17 rfl rfl)
theorem dX2_kinds_18 : decode cX2_kinds 18 = .ok (.iaload, 1) := dk_46 (dk_at dksX2_kinds_0 18 rfl rfl)
theorem dX2_kinds_19 : decode cX2_kinds 19 = .ok (.iload_n 1, 1) := dk_27 (dk_at dksX2_kinds_0 19 rfl rfl)
theorem dX2_kinds_20 : decode cX2_kinds 20 = .ok (.if_icmp .ne 7, 3) := dk_160 0 7 (dk_at dksX2_kinds_0 20 rfl rfl)
theorem dX2_kinds_23 : decode cX2_kinds 23 = .ok (.iconst 1, 1) := dk_4 (dk_at dksX2_kinds_0 23 rfl rfl)
theorem dX2_kinds_24 : decode cX2_kinds 24 = .ok (.goto 4, 3) := dk_167 0 4 (dk_at dksX2_kinds_1 0 rfl rfl)
theorem dX2_kinds_27 : decode cX2_kinds 27 = .ok (.iconst 0, 1) := dk_3 (dk_at dksX2_kinds_1 3 rfl rfl)
theorem dX2_kinds_28 : decode cX2_kinds 28 = .ok (.iadd, 1) := dk_96 (dk_at dksX2_kinds_1 4 rfl rfl)
theorem dX2_kinds_29 : decode cX2_kinds 29 = .ok (.istore_n 2, 1) := dk_61 (dk_at dksX2_kinds_1 5 rfl rfl)
theorem dX2_kinds_30 : decode cX2_kinds 30 = .ok (.iinc 3 1, 3) := dk_132 3 1 (dk_at dksX2_kinds_1 6 rfl rfl)
theorem dX2_kinds_33 : decode cX2_kinds 33 = .ok (.goto (-29), 3) := dk_167 255 227 (dk_at dksX2_kinds_1 9 rfl rfl)
theorem dX2_kinds_36 : decode cX2_kinds 36 = .ok (.iload_n 2, 1) := dk_28 (dk_at dksX2_kinds_1 12 rfl rfl)
theorem dX2_kinds_37 : decode cX2_kinds 37 = .ok (.ireturn, 1) := dk_172 (dk_at dksX2_kinds_1 13 rfl rfl)
abbrev cX2_dot : ByteArray := prog_28_method_41_code
def yX2_dot : MethodName := ⟨RX2, "dot", "(IIII)I"⟩
def dkwX2_dot_4 : List UInt8 := [42, 180, 0, 76, 28, 46, 172, 42, 180, 0, 73, 21, 5, 46, 172, 2, 172]
abbrev dktX2_dot_4 : List UInt8 := dkwX2_dot_4 ++ []
def dkwX2_dot_3 : List UInt8 := [42, 180, 0, 67, 21, 5, 46, 172, 42, 180, 0, 70, 21, 5, 46, 172, 42, 180, 0, 64, 21, 5, 46, 172]
abbrev dktX2_dot_3 : List UInt8 := dkwX2_dot_3 ++ dktX2_dot_4
def dkwX2_dot_2 : List UInt8 := [170, 0, 0, 0, 0, 0, 74, 0, 0, 0, 0, 0, 0, 0, 4, 0, 0, 0, 35, 0, 0, 0, 43, 0, 0, 0, 51, 0, 0, 0, 59, 0, 0, 0, 66]
abbrev dktX2_dot_2 : List UInt8 := dkwX2_dot_2 ++ dktX2_dot_3
def dkwX2_dot_1 : List UInt8 := [184, 1, 93, 154, 0, 5, 2, 172, 42, 180, 0, 79, 28, 46, 54, 5, 29]
abbrev dktX2_dot_1 : List UInt8 := dkwX2_dot_1 ++ dktX2_dot_2
def dkwX2_dot_0 : List UInt8 := [42, 27, 21, 4, 182, 1, 117, 154, 0, 5, 2, 172, 42, 27, 21, 4, 182, 1, 129, 28, 42, 180, 1, 114]
abbrev dktX2_dot_0 : List UInt8 := dkwX2_dot_0 ++ dktX2_dot_1
theorem dksX2_dot_0 : cX2_dot.data.toList.drop 0 = dktX2_dot_0 := by decide +kernel
theorem dksX2_dot_1 : cX2_dot.data.toList.drop 24 = dktX2_dot_1 := dk_seg dksX2_dot_0 24 rfl rfl
theorem dksX2_dot_2 : cX2_dot.data.toList.drop 41 = dktX2_dot_2 := dk_seg dksX2_dot_1 17 rfl rfl
theorem dksX2_dot_3 : cX2_dot.data.toList.drop 76 = dktX2_dot_3 := dk_seg dksX2_dot_2 35 rfl rfl
theorem dksX2_dot_4 : cX2_dot.data.toList.drop 100 = dktX2_dot_4 := dk_seg dksX2_dot_3 24 rfl rfl
theorem dX2_dot_0 : decode cX2_dot 0 = .ok (.aload_n 0, 1) := dk_42 (dk_at dksX2_dot_0 0 rfl rfl)
theorem dX2_dot_1 : decode cX2_dot 1 = .ok (.iload_n 1, 1) := dk_27 (dk_at dksX2_dot_0 1 rfl rfl)
theorem dX2_dot_2 : decode cX2_dot 2 = .ok (.iload 4, 2) := dk_21 4 (dk_at dksX2_dot_0 2 rfl rfl)
theorem dX2_dot_4 : decode cX2_dot 4 = .ok (.invokevirtual 373, 3) := dk_182 1 117 (dk_at dksX2_dot_0 4 rfl rfl)
theorem dX2_dot_7 : decode cX2_dot 7 = .ok (.ifCond .ne 5, 3) := dk_154 0 5 (dk_at dksX2_dot_0 7 rfl rfl)
theorem dX2_dot_10 : decode cX2_dot 10 = .ok (.iconst (-1), 1) := dk_2 (dk_at dksX2_dot_0 10 rfl rfl)
theorem dX2_dot_11 : decode cX2_dot 11 = .ok (.ireturn, 1) := dk_172 (dk_at dksX2_dot_0 11 rfl rfl)
theorem dX2_dot_12 : decode cX2_dot 12 = .ok (.aload_n 0, 1) := dk_42 (dk_at dksX2_dot_0 12 rfl rfl)
theorem dX2_dot_13 : decode cX2_dot 13 = .ok (.iload_n 1, 1) := dk_27 (dk_at dksX2_dot_0 13 rfl rfl)
theorem dX2_dot_14 : decode cX2_dot 14 = .ok (.iload 4, 2) := dk_21 4 (dk_at dksX2_dot_0 14 rfl rfl)
theorem dX2_dot_16 : decode cX2_dot 16 = .ok (.invokevirtual 385, 3) := dk_182 1 129 (dk_at dksX2_dot_0 16 rfl rfl)
theorem dX2_dot_19 : decode cX2_dot 19 = .ok (.iload_n 2, 1) := dk_28 (dk_at dksX2_dot_0 19 rfl rfl)
theorem dX2_dot_20 : decode cX2_dot 20 = .ok (.aload_n 0, 1) := dk_42 (dk_at dksX2_dot_0 20 rfl rfl)
theorem dX2_dot_21 : decode cX2_dot 21 = .ok (.getfield 370, 3) := dk_180 1 114 (dk_at dksX2_dot_0 21 rfl rfl)
theorem dX2_dot_24 : decode cX2_dot 24 = .ok (.invokestatic 349, 3) := dk_184 1 93 (dk_at dksX2_dot_1 0 rfl rfl)
theorem dX2_dot_27 : decode cX2_dot 27 = .ok (.ifCond .ne 5, 3) := dk_154 0 5 (dk_at dksX2_dot_1 3 rfl rfl)
theorem dX2_dot_30 : decode cX2_dot 30 = .ok (.iconst (-1), 1) := dk_2 (dk_at dksX2_dot_1 6 rfl rfl)
theorem dX2_dot_31 : decode cX2_dot 31 = .ok (.ireturn, 1) := dk_172 (dk_at dksX2_dot_1 7 rfl rfl)
theorem dX2_dot_32 : decode cX2_dot 32 = .ok (.aload_n 0, 1) := dk_42 (dk_at dksX2_dot_1 8 rfl rfl)
theorem dX2_dot_33 : decode cX2_dot 33 = .ok (.getfield 79, 3) := dk_180 0 79 (dk_at dksX2_dot_1 9 rfl rfl)
theorem dX2_dot_36 : decode cX2_dot 36 = .ok (.iload_n 2, 1) := dk_28 (dk_at dksX2_dot_1 12 rfl rfl)
theorem dX2_dot_37 : decode cX2_dot 37 = .ok (.iaload, 1) := dk_46 (dk_at dksX2_dot_1 13 rfl rfl)
theorem dX2_dot_38 : decode cX2_dot 38 = .ok (.istore 5, 2) := dk_54 5 (dk_at dksX2_dot_1 14 rfl rfl)
theorem dX2_dot_40 : decode cX2_dot 40 = .ok (.iload_n 3, 1) := dk_29 (dk_at dksX2_dot_1 16 rfl rfl)
theorem dX2_dot_41 : decode cX2_dot 41 = .ok (.tableswitch 74 0 4 #[35, 43, 51, 59, 66], 35) := by decide +kernel
theorem dX2_dot_76 : decode cX2_dot 76 = .ok (.aload_n 0, 1) := dk_42 (dk_at dksX2_dot_3 0 rfl rfl)
theorem dX2_dot_77 : decode cX2_dot 77 = .ok (.getfield 67, 3) := dk_180 0 67 (dk_at dksX2_dot_3 1 rfl rfl)
theorem dX2_dot_80 : decode cX2_dot 80 = .ok (.iload 5, 2) := dk_21 5 (dk_at dksX2_dot_3 4 rfl rfl)
theorem dX2_dot_82 : decode cX2_dot 82 = .ok (.iaload, 1) := dk_46 (dk_at dksX2_dot_3 6 rfl rfl)
theorem dX2_dot_83 : decode cX2_dot 83 = .ok (.ireturn, 1) := dk_172 (dk_at dksX2_dot_3 7 rfl rfl)
theorem dX2_dot_84 : decode cX2_dot 84 = .ok (.aload_n 0, 1) := dk_42 (dk_at dksX2_dot_3 8 rfl rfl)
theorem dX2_dot_85 : decode cX2_dot 85 = .ok (.getfield 70, 3) := dk_180 0 70 (dk_at dksX2_dot_3 9 rfl rfl)
theorem dX2_dot_88 : decode cX2_dot 88 = .ok (.iload 5, 2) := dk_21 5 (dk_at dksX2_dot_3 12 rfl rfl)
theorem dX2_dot_90 : decode cX2_dot 90 = .ok (.iaload, 1) := dk_46 (dk_at dksX2_dot_3 14 rfl rfl)
theorem dX2_dot_91 : decode cX2_dot 91 = .ok (.ireturn, 1) := dk_172 (dk_at dksX2_dot_3 15 rfl rfl)
theorem dX2_dot_92 : decode cX2_dot 92 = .ok (.aload_n 0, 1) := dk_42 (dk_at dksX2_dot_3 16 rfl rfl)
theorem dX2_dot_93 : decode cX2_dot 93 = .ok (.getfield 64, 3) := dk_180 0 64 (dk_at dksX2_dot_3 17 rfl rfl)
theorem dX2_dot_96 : decode cX2_dot 96 = .ok (.iload 5, 2) := dk_21 5 (dk_at dksX2_dot_3 20 rfl rfl)
theorem dX2_dot_98 : decode cX2_dot 98 = .ok (.iaload, 1) := dk_46 (dk_at dksX2_dot_3 22 rfl rfl)
theorem dX2_dot_99 : decode cX2_dot 99 = .ok (.ireturn, 1) := dk_172 (dk_at dksX2_dot_3 23 rfl rfl)
theorem dX2_dot_100 : decode cX2_dot 100 = .ok (.aload_n 0, 1) := dk_42 (dk_at dksX2_dot_4 0 rfl rfl)
theorem dX2_dot_101 : decode cX2_dot 101 = .ok (.getfield 76, 3) := dk_180 0 76 (dk_at dksX2_dot_4 1 rfl rfl)
theorem dX2_dot_104 : decode cX2_dot 104 = .ok (.iload_n 2, 1) := dk_28 (dk_at dksX2_dot_4 4 rfl rfl)
theorem dX2_dot_105 : decode cX2_dot 105 = .ok (.iaload, 1) := dk_46 (dk_at dksX2_dot_4 5 rfl rfl)
theorem dX2_dot_106 : decode cX2_dot 106 = .ok (.ireturn, 1) := dk_172 (dk_at dksX2_dot_4 6 rfl rfl)
theorem dX2_dot_107 : decode cX2_dot 107 = .ok (.aload_n 0, 1) := dk_42 (dk_at dksX2_dot_4 7 rfl rfl)
theorem dX2_dot_108 : decode cX2_dot 108 = .ok (.getfield 73, 3) := dk_180 0 73 (dk_at dksX2_dot_4 8 rfl rfl)
theorem dX2_dot_111 : decode cX2_dot 111 = .ok (.iload 5, 2) := dk_21 5 (dk_at dksX2_dot_4 11 rfl rfl)
theorem dX2_dot_113 : decode cX2_dot 113 = .ok (.iaload, 1) := dk_46 (dk_at dksX2_dot_4 13 rfl rfl)
theorem dX2_dot_114 : decode cX2_dot 114 = .ok (.ireturn, 1) := dk_172 (dk_at dksX2_dot_4 14 rfl rfl)
theorem dX2_dot_115 : decode cX2_dot 115 = .ok (.iconst (-1), 1) := dk_2 (dk_at dksX2_dot_4 15 rfl rfl)
theorem dX2_dot_116 : decode cX2_dot 116 = .ok (.ireturn, 1) := dk_172 (dk_at dksX2_dot_4 16 rfl rfl)
abbrev cX2_point : ByteArray := prog_28_method_42_code
def yX2_point : MethodName := ⟨RX2, "point", "(III)I"⟩
def dkwX2_point_1 : List UInt8 := [184, 1, 93, 153, 0, 12, 42, 180, 0, 94, 28, 46, 167, 0, 4, 2, 172]
abbrev dktX2_point_1 : List UInt8 := dkwX2_point_1 ++ []
def dkwX2_point_0 : List UInt8 := [42, 27, 29, 182, 1, 117, 154, 0, 5, 2, 172, 42, 27, 29, 182, 1, 129, 28, 42, 180, 1, 126]
abbrev dktX2_point_0 : List UInt8 := dkwX2_point_0 ++ dktX2_point_1
theorem dksX2_point_0 : cX2_point.data.toList.drop 0 = dktX2_point_0 := by decide +kernel
theorem dksX2_point_1 : cX2_point.data.toList.drop 22 = dktX2_point_1 := dk_seg dksX2_point_0 22 rfl rfl
theorem dX2_point_0 : decode cX2_point 0 = .ok (.aload_n 0, 1) := dk_42 (dk_at dksX2_point_0 0 rfl rfl)
theorem dX2_point_1 : decode cX2_point 1 = .ok (.iload_n 1, 1) := dk_27 (dk_at dksX2_point_0 1 rfl rfl)
theorem dX2_point_2 : decode cX2_point 2 = .ok (.iload_n 3, 1) := dk_29 (dk_at dksX2_point_0 2 rfl rfl)
theorem dX2_point_3 : decode cX2_point 3 = .ok (.invokevirtual 373, 3) := dk_182 1 117 (dk_at dksX2_point_0 3 rfl rfl)
theorem dX2_point_6 : decode cX2_point 6 = .ok (.ifCond .ne 5, 3) := dk_154 0 5 (dk_at dksX2_point_0 6 rfl rfl)
theorem dX2_point_9 : decode cX2_point 9 = .ok (.iconst (-1), 1) := dk_2 (dk_at dksX2_point_0 9 rfl rfl)
theorem dX2_point_10 : decode cX2_point 10 = .ok (.ireturn, 1) := dk_172 (dk_at dksX2_point_0 10 rfl rfl)
theorem dX2_point_11 : decode cX2_point 11 = .ok (.aload_n 0, 1) := dk_42 (dk_at dksX2_point_0 11 rfl rfl)
theorem dX2_point_12 : decode cX2_point 12 = .ok (.iload_n 1, 1) := dk_27 (dk_at dksX2_point_0 12 rfl rfl)
theorem dX2_point_13 : decode cX2_point 13 = .ok (.iload_n 3, 1) := dk_29 (dk_at dksX2_point_0 13 rfl rfl)
theorem dX2_point_14 : decode cX2_point 14 = .ok (.invokevirtual 385, 3) := dk_182 1 129 (dk_at dksX2_point_0 14 rfl rfl)
theorem dX2_point_17 : decode cX2_point 17 = .ok (.iload_n 2, 1) := dk_28 (dk_at dksX2_point_0 17 rfl rfl)
theorem dX2_point_18 : decode cX2_point 18 = .ok (.aload_n 0, 1) := dk_42 (dk_at dksX2_point_0 18 rfl rfl)
theorem dX2_point_19 : decode cX2_point 19 = .ok (.getfield 382, 3) := dk_180 1 126 (dk_at dksX2_point_0 19 rfl rfl)
theorem dX2_point_22 : decode cX2_point 22 = .ok (.invokestatic 349, 3) := dk_184 1 93 (dk_at dksX2_point_1 0 rfl rfl)
theorem dX2_point_25 : decode cX2_point 25 = .ok (.ifCond .eq 12, 3) := dk_153 0 12 (dk_at dksX2_point_1 3 rfl rfl)
theorem dX2_point_28 : decode cX2_point 28 = .ok (.aload_n 0, 1) := dk_42 (dk_at dksX2_point_1 6 rfl rfl)
theorem dX2_point_29 : decode cX2_point 29 = .ok (.getfield 94, 3) := dk_180 0 94 (dk_at dksX2_point_1 7 rfl rfl)
theorem dX2_point_32 : decode cX2_point 32 = .ok (.iload_n 2, 1) := dk_28 (dk_at dksX2_point_1 10 rfl rfl)
theorem dX2_point_33 : decode cX2_point 33 = .ok (.iaload, 1) := dk_46 (dk_at dksX2_point_1 11 rfl rfl)
theorem dX2_point_34 : decode cX2_point 34 = .ok (.goto 4, 3) := dk_167 0 4 (dk_at dksX2_point_1 12 rfl rfl)
theorem dX2_point_37 : decode cX2_point 37 = .ok (.iconst (-1), 1) := dk_2 (dk_at dksX2_point_1 15 rfl rfl)
theorem dX2_point_38 : decode cX2_point 38 = .ok (.ireturn, 1) := dk_172 (dk_at dksX2_point_1 16 rfl rfl)
abbrev cX2_length : ByteArray := prog_28_method_49_code
def yX2_length : MethodName := ⟨RX2, "length", "(II)I"⟩
def dkwX2_length_1 : List UInt8 := [28, 182, 1, 152, 167, 0, 4, 2, 172]
abbrev dktX2_length_1 : List UInt8 := dkwX2_length_1 ++ []
def dkwX2_length_0 : List UInt8 := [27, 42, 180, 1, 74, 184, 1, 93, 153, 0, 23, 28, 42, 180, 1, 74, 184, 1, 93, 153, 0, 12, 42, 27]
abbrev dktX2_length_0 : List UInt8 := dkwX2_length_0 ++ dktX2_length_1
theorem dksX2_length_0 : cX2_length.data.toList.drop 0 = dktX2_length_0 := by decide +kernel
theorem dksX2_length_1 : cX2_length.data.toList.drop 24 = dktX2_length_1 := dk_seg dksX2_length_0 24 rfl rfl
theorem dX2_length_0 : decode cX2_length 0 = .ok (.iload_n 1, 1) := dk_27 (dk_at dksX2_length_0 0 rfl rfl)
theorem dX2_length_1 : decode cX2_length 1 = .ok (.aload_n 0, 1) := dk_42 (dk_at dksX2_length_0 1 rfl rfl)
theorem dX2_length_2 : decode cX2_length 2 = .ok (.getfield 330, 3) := dk_180 1 74 (dk_at dksX2_length_0 2 rfl rfl)
theorem dX2_length_5 : decode cX2_length 5 = .ok (.invokestatic 349, 3) := dk_184 1 93 (dk_at dksX2_length_0 5 rfl rfl)
theorem dX2_length_8 : decode cX2_length 8 = .ok (.ifCond .eq 23, 3) := dk_153 0 23 (dk_at dksX2_length_0 8 rfl rfl)
theorem dX2_length_11 : decode cX2_length 11 = .ok (.iload_n 2, 1) := dk_28 (dk_at dksX2_length_0 11 rfl rfl)
theorem dX2_length_12 : decode cX2_length 12 = .ok (.aload_n 0, 1) := dk_42 (dk_at dksX2_length_0 12 rfl rfl)
theorem dX2_length_13 : decode cX2_length 13 = .ok (.getfield 330, 3) := dk_180 1 74 (dk_at dksX2_length_0 13 rfl rfl)
theorem dX2_length_16 : decode cX2_length 16 = .ok (.invokestatic 349, 3) := dk_184 1 93 (dk_at dksX2_length_0 16 rfl rfl)
theorem dX2_length_19 : decode cX2_length 19 = .ok (.ifCond .eq 12, 3) := dk_153 0 12 (dk_at dksX2_length_0 19 rfl rfl)
theorem dX2_length_22 : decode cX2_length 22 = .ok (.aload_n 0, 1) := dk_42 (dk_at dksX2_length_0 22 rfl rfl)
theorem dX2_length_23 : decode cX2_length 23 = .ok (.iload_n 1, 1) := dk_27 (dk_at dksX2_length_0 23 rfl rfl)
theorem dX2_length_24 : decode cX2_length 24 = .ok (.iload_n 2, 1) := dk_28 (dk_at dksX2_length_1 0 rfl rfl)
theorem dX2_length_25 : decode cX2_length 25 = .ok (.invokevirtual 408, 3) := dk_182 1 152 (dk_at dksX2_length_1 1 rfl rfl)
theorem dX2_length_28 : decode cX2_length 28 = .ok (.goto 4, 3) := dk_167 0 4 (dk_at dksX2_length_1 4 rfl rfl)
theorem dX2_length_31 : decode cX2_length 31 = .ok (.iconst (-1), 1) := dk_2 (dk_at dksX2_length_1 7 rfl rfl)
theorem dX2_length_32 : decode cX2_length 32 = .ok (.ireturn, 1) := dk_172 (dk_at dksX2_length_1 8 rfl rfl)
abbrev cX2_starLength : ByteArray := prog_28_method_45_code
def yX2_starLength : MethodName := ⟨RX2, "starLength", "(II)I"⟩
def dkwX2_starLength_1 : List UInt8 := [42, 180, 0, 35, 28, 46, 100, 104, 184, 1, 143, 172]
abbrev dktX2_starLength_1 : List UInt8 := dkwX2_starLength_1 ++ []
def dkwX2_starLength_0 : List UInt8 := [16, 10, 42, 180, 0, 32, 27, 46, 42, 180, 0, 32, 28, 46, 100, 104, 16, 10, 42, 180, 0, 35, 27, 46]
abbrev dktX2_starLength_0 : List UInt8 := dkwX2_starLength_0 ++ dktX2_starLength_1
theorem dksX2_starLength_0 : cX2_starLength.data.toList.drop 0 = dktX2_starLength_0 := by decide +kernel
theorem dksX2_starLength_1 : cX2_starLength.data.toList.drop 24 = dktX2_starLength_1 := dk_seg dksX2_starLength_0 24 rfl rfl
theorem dX2_starLength_0 : decode cX2_starLength 0 = .ok (.bipush 10, 2) := dk_16 10 (dk_at dksX2_starLength_0 0 rfl rfl)
theorem dX2_starLength_2 : decode cX2_starLength 2 = .ok (.aload_n 0, 1) := dk_42 (dk_at dksX2_starLength_0 2 rfl rfl)
theorem dX2_starLength_3 : decode cX2_starLength 3 = .ok (.getfield 32, 3) := dk_180 0 32 (dk_at dksX2_starLength_0 3 rfl rfl)
theorem dX2_starLength_6 : decode cX2_starLength 6 = .ok (.iload_n 1, 1) := dk_27 (dk_at dksX2_starLength_0 6 rfl rfl)
theorem dX2_starLength_7 : decode cX2_starLength 7 = .ok (.iaload, 1) := dk_46 (dk_at dksX2_starLength_0 7 rfl rfl)
theorem dX2_starLength_8 : decode cX2_starLength 8 = .ok (.aload_n 0, 1) := dk_42 (dk_at dksX2_starLength_0 8 rfl rfl)
theorem dX2_starLength_9 : decode cX2_starLength 9 = .ok (.getfield 32, 3) := dk_180 0 32 (dk_at dksX2_starLength_0 9 rfl rfl)
theorem dX2_starLength_12 : decode cX2_starLength 12 = .ok (.iload_n 2, 1) := dk_28 (dk_at dksX2_starLength_0 12 rfl rfl)
theorem dX2_starLength_13 : decode cX2_starLength 13 = .ok (.iaload, 1) := dk_46 (dk_at dksX2_starLength_0 13 rfl rfl)
theorem dX2_starLength_14 : decode cX2_starLength 14 = .ok (.isub, 1) := dk_100 (dk_at dksX2_starLength_0 14 rfl rfl)
theorem dX2_starLength_15 : decode cX2_starLength 15 = .ok (.imul, 1) := dk_104 (dk_at dksX2_starLength_0 15 rfl rfl)
theorem dX2_starLength_16 : decode cX2_starLength 16 = .ok (.bipush 10, 2) := dk_16 10 (dk_at dksX2_starLength_0 16 rfl rfl)
theorem dX2_starLength_18 : decode cX2_starLength 18 = .ok (.aload_n 0, 1) := dk_42 (dk_at dksX2_starLength_0 18 rfl rfl)
theorem dX2_starLength_19 : decode cX2_starLength 19 = .ok (.getfield 35, 3) := dk_180 0 35 (dk_at dksX2_starLength_0 19 rfl rfl)
theorem dX2_starLength_22 : decode cX2_starLength 22 = .ok (.iload_n 1, 1) := dk_27 (dk_at dksX2_starLength_0 22 rfl rfl)
theorem dX2_starLength_23 : decode cX2_starLength 23 = .ok (.iaload, 1) := dk_46 (dk_at dksX2_starLength_0 23 rfl rfl)
theorem dX2_starLength_24 : decode cX2_starLength 24 = .ok (.aload_n 0, 1) := dk_42 (dk_at dksX2_starLength_1 0 rfl rfl)
theorem dX2_starLength_25 : decode cX2_starLength 25 = .ok (.getfield 35, 3) := dk_180 0 35 (dk_at dksX2_starLength_1 1 rfl rfl)
theorem dX2_starLength_28 : decode cX2_starLength 28 = .ok (.iload_n 2, 1) := dk_28 (dk_at dksX2_starLength_1 4 rfl rfl)
theorem dX2_starLength_29 : decode cX2_starLength 29 = .ok (.iaload, 1) := dk_46 (dk_at dksX2_starLength_1 5 rfl rfl)
theorem dX2_starLength_30 : decode cX2_starLength 30 = .ok (.isub, 1) := dk_100 (dk_at dksX2_starLength_1 6 rfl rfl)
theorem dX2_starLength_31 : decode cX2_starLength 31 = .ok (.imul, 1) := dk_104 (dk_at dksX2_starLength_1 7 rfl rfl)
theorem dX2_starLength_32 : decode cX2_starLength 32 = .ok (.invokestatic 399, 3) := dk_184 1 143 (dk_at dksX2_starLength_1 8 rfl rfl)
theorem dX2_starLength_35 : decode cX2_starLength 35 = .ok (.ireturn, 1) := dk_172 (dk_at dksX2_starLength_1 11 rfl rfl)
abbrev cX2_lengthOf : ByteArray := prog_28_method_44_code
def yX2_lengthOf : MethodName := ⟨RX2, "lengthOf", "(II)I"⟩
def dkwX2_lengthOf_0 : List UInt8 := [26, 133, 26, 133, 105, 27, 133, 27, 133, 105, 97, 184, 1, 139, 136, 172]
abbrev dktX2_lengthOf_0 : List UInt8 := dkwX2_lengthOf_0 ++ []
theorem dksX2_lengthOf_0 : cX2_lengthOf.data.toList.drop 0 = dktX2_lengthOf_0 := by decide +kernel
theorem dX2_lengthOf_0 : decode cX2_lengthOf 0 = .ok (.iload_n 0, 1) := dk_26 (dk_at dksX2_lengthOf_0 0 rfl rfl)
theorem dX2_lengthOf_1 : decode cX2_lengthOf 1 = .ok (.i2l, 1) := dk_133 (dk_at dksX2_lengthOf_0 1 rfl rfl)
theorem dX2_lengthOf_2 : decode cX2_lengthOf 2 = .ok (.iload_n 0, 1) := dk_26 (dk_at dksX2_lengthOf_0 2 rfl rfl)
theorem dX2_lengthOf_3 : decode cX2_lengthOf 3 = .ok (.i2l, 1) := dk_133 (dk_at dksX2_lengthOf_0 3 rfl rfl)
theorem dX2_lengthOf_4 : decode cX2_lengthOf 4 = .ok (.lmul, 1) := dk_105 (dk_at dksX2_lengthOf_0 4 rfl rfl)
theorem dX2_lengthOf_5 : decode cX2_lengthOf 5 = .ok (.iload_n 1, 1) := dk_27 (dk_at dksX2_lengthOf_0 5 rfl rfl)
theorem dX2_lengthOf_6 : decode cX2_lengthOf 6 = .ok (.i2l, 1) := dk_133 (dk_at dksX2_lengthOf_0 6 rfl rfl)
theorem dX2_lengthOf_7 : decode cX2_lengthOf 7 = .ok (.iload_n 1, 1) := dk_27 (dk_at dksX2_lengthOf_0 7 rfl rfl)
theorem dX2_lengthOf_8 : decode cX2_lengthOf 8 = .ok (.i2l, 1) := dk_133 (dk_at dksX2_lengthOf_0 8 rfl rfl)
theorem dX2_lengthOf_9 : decode cX2_lengthOf 9 = .ok (.lmul, 1) := dk_105 (dk_at dksX2_lengthOf_0 9 rfl rfl)
theorem dX2_lengthOf_10 : decode cX2_lengthOf 10 = .ok (.ladd, 1) := dk_97 (dk_at dksX2_lengthOf_0 10 rfl rfl)
theorem dX2_lengthOf_11 : decode cX2_lengthOf 11 = .ok (.invokestatic 395, 3) := dk_184 1 139 (dk_at dksX2_lengthOf_0 11 rfl rfl)
theorem dX2_lengthOf_14 : decode cX2_lengthOf 14 = .ok (.l2i, 1) := dk_136 (dk_at dksX2_lengthOf_0 14 rfl rfl)
theorem dX2_lengthOf_15 : decode cX2_lengthOf 15 = .ok (.ireturn, 1) := dk_172 (dk_at dksX2_lengthOf_0 15 rfl rfl)
abbrev cX2_root : ByteArray := prog_28_method_43_code
def yX2_root : MethodName := ⟨RX2, "root", "(J)J"⟩
def dkwX2_root_2 : List UInt8 := [167, 255, 215, 32, 173]
abbrev dktX2_root_2 : List UInt8 := dkwX2_root_2 ++ []
def dkwX2_root_1 : List UInt8 := [55, 6, 22, 6, 22, 6, 105, 30, 148, 157, 0, 9, 22, 6, 65, 167, 0, 9, 22, 6, 10, 101, 55, 4]
abbrev dktX2_root_1 : List UInt8 := dkwX2_root_1 ++ dktX2_root_2
def dkwX2_root_0 : List UInt8 := [9, 65, 20, 1, 135, 55, 4, 32, 22, 4, 148, 156, 0, 40, 32, 22, 4, 97, 10, 97, 20, 1, 137, 109]
abbrev dktX2_root_0 : List UInt8 := dkwX2_root_0 ++ dktX2_root_1
theorem dksX2_root_0 : cX2_root.data.toList.drop 0 = dktX2_root_0 := by decide +kernel
theorem dksX2_root_1 : cX2_root.data.toList.drop 24 = dktX2_root_1 := dk_seg dksX2_root_0 24 rfl rfl
theorem dksX2_root_2 : cX2_root.data.toList.drop 48 = dktX2_root_2 := dk_seg dksX2_root_1 24 rfl rfl
theorem dX2_root_0 : decode cX2_root 0 = .ok (.lconst 0, 1) := dk_9 (dk_at dksX2_root_0 0 rfl rfl)
theorem dX2_root_1 : decode cX2_root 1 = .ok (.lstore_n 2, 1) := dk_65 (dk_at dksX2_root_0 1 rfl rfl)
theorem dX2_root_2 : decode cX2_root 2 = .ok (.ldc2_w 391, 3) := dk_20 1 135 (dk_at dksX2_root_0 2 rfl rfl)
theorem dX2_root_5 : decode cX2_root 5 = .ok (.lstore 4, 2) := dk_55 4 (dk_at dksX2_root_0 5 rfl rfl)
theorem dX2_root_7 : decode cX2_root 7 = .ok (.lload_n 2, 1) := dk_32 (dk_at dksX2_root_0 7 rfl rfl)
theorem dX2_root_8 : decode cX2_root 8 = .ok (.lload 4, 2) := dk_22 4 (dk_at dksX2_root_0 8 rfl rfl)
theorem dX2_root_10 : decode cX2_root 10 = .ok (.lcmp, 1) := dk_148 (dk_at dksX2_root_0 10 rfl rfl)
theorem dX2_root_11 : decode cX2_root 11 = .ok (.ifCond .ge 40, 3) := dk_156 0 40 (dk_at dksX2_root_0 11 rfl rfl)
theorem dX2_root_14 : decode cX2_root 14 = .ok (.lload_n 2, 1) := dk_32 (dk_at dksX2_root_0 14 rfl rfl)
theorem dX2_root_15 : decode cX2_root 15 = .ok (.lload 4, 2) := dk_22 4 (dk_at dksX2_root_0 15 rfl rfl)
theorem dX2_root_17 : decode cX2_root 17 = .ok (.ladd, 1) := dk_97 (dk_at dksX2_root_0 17 rfl rfl)
theorem dX2_root_18 : decode cX2_root 18 = .ok (.lconst 1, 1) := dk_10 (dk_at dksX2_root_0 18 rfl rfl)
theorem dX2_root_19 : decode cX2_root 19 = .ok (.ladd, 1) := dk_97 (dk_at dksX2_root_0 19 rfl rfl)
theorem dX2_root_20 : decode cX2_root 20 = .ok (.ldc2_w 393, 3) := dk_20 1 137 (dk_at dksX2_root_0 20 rfl rfl)
theorem dX2_root_23 : decode cX2_root 23 = .ok (.ldiv, 1) := dk_109 (dk_at dksX2_root_0 23 rfl rfl)
theorem dX2_root_24 : decode cX2_root 24 = .ok (.lstore 6, 2) := dk_55 6 (dk_at dksX2_root_1 0 rfl rfl)
theorem dX2_root_26 : decode cX2_root 26 = .ok (.lload 6, 2) := dk_22 6 (dk_at dksX2_root_1 2 rfl rfl)
theorem dX2_root_28 : decode cX2_root 28 = .ok (.lload 6, 2) := dk_22 6 (dk_at dksX2_root_1 4 rfl rfl)
theorem dX2_root_30 : decode cX2_root 30 = .ok (.lmul, 1) := dk_105 (dk_at dksX2_root_1 6 rfl rfl)
theorem dX2_root_31 : decode cX2_root 31 = .ok (.lload_n 0, 1) := dk_30 (dk_at dksX2_root_1 7 rfl rfl)
theorem dX2_root_32 : decode cX2_root 32 = .ok (.lcmp, 1) := dk_148 (dk_at dksX2_root_1 8 rfl rfl)
theorem dX2_root_33 : decode cX2_root 33 = .ok (.ifCond .gt 9, 3) := dk_157 0 9 (dk_at dksX2_root_1 9 rfl rfl)
theorem dX2_root_36 : decode cX2_root 36 = .ok (.lload 6, 2) := dk_22 6 (dk_at dksX2_root_1 12 rfl rfl)
theorem dX2_root_38 : decode cX2_root 38 = .ok (.lstore_n 2, 1) := dk_65 (dk_at dksX2_root_1 14 rfl rfl)
theorem dX2_root_39 : decode cX2_root 39 = .ok (.goto 9, 3) := dk_167 0 9 (dk_at dksX2_root_1 15 rfl rfl)
theorem dX2_root_42 : decode cX2_root 42 = .ok (.lload 6, 2) := dk_22 6 (dk_at dksX2_root_1 18 rfl rfl)
theorem dX2_root_44 : decode cX2_root 44 = .ok (.lconst 1, 1) := dk_10 (dk_at dksX2_root_1 20 rfl rfl)
theorem dX2_root_45 : decode cX2_root 45 = .ok (.lsub, 1) := dk_101 (dk_at dksX2_root_1 21 rfl rfl)
theorem dX2_root_46 : decode cX2_root 46 = .ok (.lstore 4, 2) := dk_55 4 (dk_at dksX2_root_1 22 rfl rfl)
theorem dX2_root_48 : decode cX2_root 48 = .ok (.goto (-41), 3) := dk_167 255 215 (dk_at dksX2_root_2 0 rfl rfl)
theorem dX2_root_51 : decode cX2_root 51 = .ok (.lload_n 2, 1) := dk_32 (dk_at dksX2_root_2 3 rfl rfl)
theorem dX2_root_52 : decode cX2_root 52 = .ok (.lreturn, 1) := dk_173 (dk_at dksX2_root_2 4 rfl rfl)
abbrev cX2_namings : ByteArray := prog_28_method_62_code
def yX2_namings : MethodName := ⟨RX2, "namings", "(III)I"⟩
def dkwX2_namings_1 : List UInt8 := [182, 1, 198, 28, 154, 0, 10, 42, 180, 1, 177, 167, 0, 7, 42, 180, 1, 192, 172]
abbrev dktX2_namings_1 : List UInt8 := dkwX2_namings_1 ++ []
def dkwX2_namings_0 : List UInt8 := [42, 27, 29, 182, 1, 117, 153, 0, 12, 28, 155, 0, 8, 28, 4, 164, 0, 5, 2, 172, 42, 27, 29]
abbrev dktX2_namings_0 : List UInt8 := dkwX2_namings_0 ++ dktX2_namings_1
theorem dksX2_namings_0 : cX2_namings.data.toList.drop 0 = dktX2_namings_0 := by decide +kernel
theorem dksX2_namings_1 : cX2_namings.data.toList.drop 23 = dktX2_namings_1 := dk_seg dksX2_namings_0 23 rfl rfl
theorem dX2_namings_0 : decode cX2_namings 0 = .ok (.aload_n 0, 1) := dk_42 (dk_at dksX2_namings_0 0 rfl rfl)
theorem dX2_namings_1 : decode cX2_namings 1 = .ok (.iload_n 1, 1) := dk_27 (dk_at dksX2_namings_0 1 rfl rfl)
theorem dX2_namings_2 : decode cX2_namings 2 = .ok (.iload_n 3, 1) := dk_29 (dk_at dksX2_namings_0 2 rfl rfl)
theorem dX2_namings_3 : decode cX2_namings 3 = .ok (.invokevirtual 373, 3) := dk_182 1 117 (dk_at dksX2_namings_0 3 rfl rfl)
theorem dX2_namings_6 : decode cX2_namings 6 = .ok (.ifCond .eq 12, 3) := dk_153 0 12 (dk_at dksX2_namings_0 6 rfl rfl)
theorem dX2_namings_9 : decode cX2_namings 9 = .ok (.iload_n 2, 1) := dk_28 (dk_at dksX2_namings_0 9 rfl rfl)
theorem dX2_namings_10 : decode cX2_namings 10 = .ok (.ifCond .lt 8, 3) := dk_155 0 8 (dk_at dksX2_namings_0 10 rfl rfl)
theorem dX2_namings_13 : decode cX2_namings 13 = .ok (.iload_n 2, 1) := dk_28 (dk_at dksX2_namings_0 13 rfl rfl)
theorem dX2_namings_14 : decode cX2_namings 14 = .ok (.iconst 1, 1) := dk_4 (dk_at dksX2_namings_0 14 rfl rfl)
theorem dX2_namings_15 : decode cX2_namings 15 = .ok (.if_icmp .le 5, 3) := dk_164 0 5 (dk_at dksX2_namings_0 15 rfl rfl)
theorem dX2_namings_18 : decode cX2_namings 18 = .ok (.iconst (-1), 1) := dk_2 (dk_at dksX2_namings_0 18 rfl rfl)
theorem dX2_namings_19 : decode cX2_namings 19 = .ok (.ireturn, 1) := dk_172 (dk_at dksX2_namings_0 19 rfl rfl)
theorem dX2_namings_20 : decode cX2_namings 20 = .ok (.aload_n 0, 1) := dk_42 (dk_at dksX2_namings_0 20 rfl rfl)
theorem dX2_namings_21 : decode cX2_namings 21 = .ok (.iload_n 1, 1) := dk_27 (dk_at dksX2_namings_0 21 rfl rfl)
theorem dX2_namings_22 : decode cX2_namings 22 = .ok (.iload_n 3, 1) := dk_29 (dk_at dksX2_namings_0 22 rfl rfl)
theorem dX2_namings_23 : decode cX2_namings 23 = .ok (.invokevirtual 454, 3) := dk_182 1 198 (dk_at dksX2_namings_1 0 rfl rfl)
theorem dX2_namings_26 : decode cX2_namings 26 = .ok (.iload_n 2, 1) := dk_28 (dk_at dksX2_namings_1 3 rfl rfl)
theorem dX2_namings_27 : decode cX2_namings 27 = .ok (.ifCond .ne 10, 3) := dk_154 0 10 (dk_at dksX2_namings_1 4 rfl rfl)
theorem dX2_namings_30 : decode cX2_namings 30 = .ok (.aload_n 0, 1) := dk_42 (dk_at dksX2_namings_1 7 rfl rfl)
theorem dX2_namings_31 : decode cX2_namings 31 = .ok (.getfield 433, 3) := dk_180 1 177 (dk_at dksX2_namings_1 8 rfl rfl)
theorem dX2_namings_34 : decode cX2_namings 34 = .ok (.goto 7, 3) := dk_167 0 7 (dk_at dksX2_namings_1 11 rfl rfl)
theorem dX2_namings_37 : decode cX2_namings 37 = .ok (.aload_n 0, 1) := dk_42 (dk_at dksX2_namings_1 14 rfl rfl)
theorem dX2_namings_38 : decode cX2_namings 38 = .ok (.getfield 448, 3) := dk_180 1 192 (dk_at dksX2_namings_1 15 rfl rfl)
theorem dX2_namings_41 : decode cX2_namings 41 = .ok (.ireturn, 1) := dk_172 (dk_at dksX2_namings_1 18 rfl rfl)
abbrev cX2_seekNamings : ByteArray := prog_28_method_61_code
def yX2_seekNamings : MethodName := ⟨RX2, "seekNamings", "(II)V"⟩
def dkwX2_seekNamings_3 : List UInt8 := [158, 0, 8, 21, 4, 167, 0, 4, 3, 181, 1, 192, 132, 4, 255, 167, 255, 216, 177]
abbrev dktX2_seekNamings_3 : List UInt8 := dkwX2_seekNamings_3 ++ []
def dkwX2_seekNamings_2 : List UInt8 := [161, 0, 40, 42, 180, 1, 177, 154, 0, 33, 42, 29, 21, 4, 182, 1, 195, 42, 42, 180, 1, 177]
abbrev dktX2_seekNamings_2 : List UInt8 := dkwX2_seekNamings_2 ++ dktX2_seekNamings_3
def dkwX2_seekNamings_1 : List UInt8 := [167, 0, 5, 16, 6, 62, 42, 3, 181, 1, 177, 42, 3, 181, 1, 192, 29, 54, 4, 21, 4, 6]
abbrev dktX2_seekNamings_1 : List UInt8 := dkwX2_seekNamings_1 ++ dktX2_seekNamings_2
def dkwX2_seekNamings_0 : List UInt8 := [42, 27, 28, 182, 1, 129, 42, 182, 1, 189, 42, 180, 1, 126, 16, 6, 162, 0, 10, 42, 180, 1, 126]
abbrev dktX2_seekNamings_0 : List UInt8 := dkwX2_seekNamings_0 ++ dktX2_seekNamings_1
theorem dksX2_seekNamings_0 : cX2_seekNamings.data.toList.drop 0 = dktX2_seekNamings_0 := by decide +kernel
theorem dksX2_seekNamings_1 : cX2_seekNamings.data.toList.drop 23 = dktX2_seekNamings_1 := dk_seg dksX2_seekNamings_0 23 rfl rfl
theorem dksX2_seekNamings_2 : cX2_seekNamings.data.toList.drop 45 = dktX2_seekNamings_2 := dk_seg dksX2_seekNamings_1 22 rfl rfl
theorem dksX2_seekNamings_3 : cX2_seekNamings.data.toList.drop 67 = dktX2_seekNamings_3 := dk_seg dksX2_seekNamings_2 22 rfl rfl
theorem dX2_seekNamings_0 : decode cX2_seekNamings 0 = .ok (.aload_n 0, 1) := dk_42 (dk_at dksX2_seekNamings_0 0 rfl rfl)
theorem dX2_seekNamings_1 : decode cX2_seekNamings 1 = .ok (.iload_n 1, 1) := dk_27 (dk_at dksX2_seekNamings_0 1 rfl rfl)
theorem dX2_seekNamings_2 : decode cX2_seekNamings 2 = .ok (.iload_n 2, 1) := dk_28 (dk_at dksX2_seekNamings_0 2 rfl rfl)
theorem dX2_seekNamings_3 : decode cX2_seekNamings 3 = .ok (.invokevirtual 385, 3) := dk_182 1 129 (dk_at dksX2_seekNamings_0 3 rfl rfl)
theorem dX2_seekNamings_6 : decode cX2_seekNamings 6 = .ok (.aload_n 0, 1) := dk_42 (dk_at dksX2_seekNamings_0 6 rfl rfl)
theorem dX2_seekNamings_7 : decode cX2_seekNamings 7 = .ok (.invokevirtual 445, 3) := dk_182 1 189 (dk_at dksX2_seekNamings_0 7 rfl rfl)
theorem dX2_seekNamings_10 : decode cX2_seekNamings 10 = .ok (.aload_n 0, 1) := dk_42 (dk_at dksX2_seekNamings_0 10 rfl rfl)
theorem dX2_seekNamings_11 : decode cX2_seekNamings 11 = .ok (.getfield 382, 3) := dk_180 1 126 (dk_at dksX2_seekNamings_0 11 rfl rfl)
theorem dX2_seekNamings_14 : decode cX2_seekNamings 14 = .ok (.bipush 6, 2) := dk_16 6 (dk_at dksX2_seekNamings_0 14 rfl rfl)
theorem dX2_seekNamings_16 : decode cX2_seekNamings 16 = .ok (.if_icmp .ge 10, 3) := dk_162 0 10 (dk_at dksX2_seekNamings_0 16 rfl rfl)
theorem dX2_seekNamings_19 : decode cX2_seekNamings 19 = .ok (.aload_n 0, 1) := dk_42 (dk_at dksX2_seekNamings_0 19 rfl rfl)
theorem dX2_seekNamings_20 : decode cX2_seekNamings 20 = .ok (.getfield 382, 3) := dk_180 1 126 (dk_at dksX2_seekNamings_0 20 rfl rfl)
theorem dX2_seekNamings_23 : decode cX2_seekNamings 23 = .ok (.goto 5, 3) := dk_167 0 5 (dk_at dksX2_seekNamings_1 0 rfl rfl)
theorem dX2_seekNamings_26 : decode cX2_seekNamings 26 = .ok (.bipush 6, 2) := dk_16 6 (dk_at dksX2_seekNamings_1 3 rfl rfl)
theorem dX2_seekNamings_28 : decode cX2_seekNamings 28 = .ok (.istore_n 3, 1) := dk_62 (dk_at dksX2_seekNamings_1 5 rfl rfl)
theorem dX2_seekNamings_29 : decode cX2_seekNamings 29 = .ok (.aload_n 0, 1) := dk_42 (dk_at dksX2_seekNamings_1 6 rfl rfl)
theorem dX2_seekNamings_30 : decode cX2_seekNamings 30 = .ok (.iconst 0, 1) := dk_3 (dk_at dksX2_seekNamings_1 7 rfl rfl)
theorem dX2_seekNamings_31 : decode cX2_seekNamings 31 = .ok (.putfield 433, 3) := dk_181 1 177 (dk_at dksX2_seekNamings_1 8 rfl rfl)
theorem dX2_seekNamings_34 : decode cX2_seekNamings 34 = .ok (.aload_n 0, 1) := dk_42 (dk_at dksX2_seekNamings_1 11 rfl rfl)
theorem dX2_seekNamings_35 : decode cX2_seekNamings 35 = .ok (.iconst 0, 1) := dk_3 (dk_at dksX2_seekNamings_1 12 rfl rfl)
theorem dX2_seekNamings_36 : decode cX2_seekNamings 36 = .ok (.putfield 448, 3) := dk_181 1 192 (dk_at dksX2_seekNamings_1 13 rfl rfl)
theorem dX2_seekNamings_39 : decode cX2_seekNamings 39 = .ok (.iload_n 3, 1) := dk_29 (dk_at dksX2_seekNamings_1 16 rfl rfl)
theorem dX2_seekNamings_40 : decode cX2_seekNamings 40 = .ok (.istore 4, 2) := dk_54 4 (dk_at dksX2_seekNamings_1 17 rfl rfl)
theorem dX2_seekNamings_42 : decode cX2_seekNamings 42 = .ok (.iload 4, 2) := dk_21 4 (dk_at dksX2_seekNamings_1 19 rfl rfl)
theorem dX2_seekNamings_44 : decode cX2_seekNamings 44 = .ok (.iconst 3, 1) := dk_6 (dk_at dksX2_seekNamings_1 21 rfl rfl)
theorem dX2_seekNamings_45 : decode cX2_seekNamings 45 = .ok (.if_icmp .lt 40, 3) := dk_161 0 40 (dk_at dksX2_seekNamings_2 0 rfl rfl)
theorem dX2_seekNamings_48 : decode cX2_seekNamings 48 = .ok (.aload_n 0, 1) := dk_42 (dk_at dksX2_seekNamings_2 3 rfl rfl)
theorem dX2_seekNamings_49 : decode cX2_seekNamings 49 = .ok (.getfield 433, 3) := dk_180 1 177 (dk_at dksX2_seekNamings_2 4 rfl rfl)
theorem dX2_seekNamings_52 : decode cX2_seekNamings 52 = .ok (.ifCond .ne 33, 3) := dk_154 0 33 (dk_at dksX2_seekNamings_2 7 rfl rfl)
theorem dX2_seekNamings_55 : decode cX2_seekNamings 55 = .ok (.aload_n 0, 1) := dk_42 (dk_at dksX2_seekNamings_2 10 rfl rfl)
theorem dX2_seekNamings_56 : decode cX2_seekNamings 56 = .ok (.iload_n 3, 1) := dk_29 (dk_at dksX2_seekNamings_2 11 rfl rfl)
theorem dX2_seekNamings_57 : decode cX2_seekNamings 57 = .ok (.iload 4, 2) := dk_21 4 (dk_at dksX2_seekNamings_2 12 rfl rfl)
theorem dX2_seekNamings_59 : decode cX2_seekNamings 59 = .ok (.invokevirtual 451, 3) := dk_182 1 195 (dk_at dksX2_seekNamings_2 14 rfl rfl)
theorem dX2_seekNamings_62 : decode cX2_seekNamings 62 = .ok (.aload_n 0, 1) := dk_42 (dk_at dksX2_seekNamings_2 17 rfl rfl)
theorem dX2_seekNamings_63 : decode cX2_seekNamings 63 = .ok (.aload_n 0, 1) := dk_42 (dk_at dksX2_seekNamings_2 18 rfl rfl)
theorem dX2_seekNamings_64 : decode cX2_seekNamings 64 = .ok (.getfield 433, 3) := dk_180 1 177 (dk_at dksX2_seekNamings_2 19 rfl rfl)
theorem dX2_seekNamings_67 : decode cX2_seekNamings 67 = .ok (.ifCond .le 8, 3) := dk_158 0 8 (dk_at dksX2_seekNamings_3 0 rfl rfl)
theorem dX2_seekNamings_70 : decode cX2_seekNamings 70 = .ok (.iload 4, 2) := dk_21 4 (dk_at dksX2_seekNamings_3 3 rfl rfl)
theorem dX2_seekNamings_72 : decode cX2_seekNamings 72 = .ok (.goto 4, 3) := dk_167 0 4 (dk_at dksX2_seekNamings_3 5 rfl rfl)
theorem dX2_seekNamings_75 : decode cX2_seekNamings 75 = .ok (.iconst 0, 1) := dk_3 (dk_at dksX2_seekNamings_3 8 rfl rfl)
theorem dX2_seekNamings_76 : decode cX2_seekNamings 76 = .ok (.putfield 448, 3) := dk_181 1 192 (dk_at dksX2_seekNamings_3 9 rfl rfl)
theorem dX2_seekNamings_79 : decode cX2_seekNamings 79 = .ok (.iinc 4 (-1), 3) := dk_132 4 255 (dk_at dksX2_seekNamings_3 12 rfl rfl)
theorem dX2_seekNamings_82 : decode cX2_seekNamings 82 = .ok (.goto (-40), 3) := dk_167 255 216 (dk_at dksX2_seekNamings_3 15 rfl rfl)
theorem dX2_seekNamings_85 : decode cX2_seekNamings 85 = .ok (.return_, 1) := dk_177 (dk_at dksX2_seekNamings_3 18 rfl rfl)
abbrev cX2_layLengths : ByteArray := prog_28_method_52_code
def yX2_layLengths : MethodName := ⟨RX2, "layLengths", "()V"⟩
def dkwX2_layLengths_4 : List UInt8 := [28, 182, 1, 155, 79, 132, 2, 1, 167, 255, 222, 132, 1, 1, 167, 255, 200, 177]
abbrev dktX2_layLengths_4 : List UInt8 := dkwX2_layLengths_4 ++ []
def dkwX2_layLengths_3 : List UInt8 := [180, 1, 126, 162, 0, 32, 28, 16, 6, 162, 0, 26, 42, 180, 0, 100, 16, 6, 27, 104, 28, 96, 42, 27]
abbrev dktX2_layLengths_3 : List UInt8 := dkwX2_layLengths_3 ++ dktX2_layLengths_4
def dkwX2_layLengths_2 : List UInt8 := [167, 255, 212, 3, 60, 27, 42, 180, 1, 126, 162, 0, 54, 27, 16, 6, 162, 0, 48, 3, 61, 28, 42]
abbrev dktX2_layLengths_2 : List UInt8 := dkwX2_layLengths_2 ++ dktX2_layLengths_3
def dkwX2_layLengths_1 : List UInt8 := [16, 32, 27, 104, 28, 96, 42, 27, 28, 182, 1, 152, 79, 132, 2, 1, 167, 255, 228, 132, 1, 1]
abbrev dktX2_layLengths_1 : List UInt8 := dkwX2_layLengths_1 ++ dktX2_layLengths_2
def dkwX2_layLengths_0 : List UInt8 := [3, 60, 27, 42, 180, 1, 74, 162, 0, 42, 3, 61, 28, 42, 180, 1, 74, 162, 0, 26, 42, 180, 0, 97]
abbrev dktX2_layLengths_0 : List UInt8 := dkwX2_layLengths_0 ++ dktX2_layLengths_1
theorem dksX2_layLengths_0 : cX2_layLengths.data.toList.drop 0 = dktX2_layLengths_0 := by decide +kernel
theorem dksX2_layLengths_1 : cX2_layLengths.data.toList.drop 24 = dktX2_layLengths_1 := dk_seg dksX2_layLengths_0 24 rfl rfl
theorem dksX2_layLengths_2 : cX2_layLengths.data.toList.drop 46 = dktX2_layLengths_2 := dk_seg dksX2_layLengths_1 22 rfl rfl
theorem dksX2_layLengths_3 : cX2_layLengths.data.toList.drop 69 = dktX2_layLengths_3 := dk_seg dksX2_layLengths_2 23 rfl rfl
theorem dksX2_layLengths_4 : cX2_layLengths.data.toList.drop 93 = dktX2_layLengths_4 := dk_seg dksX2_layLengths_3 24 rfl rfl
theorem dX2_layLengths_0 : decode cX2_layLengths 0 = .ok (.iconst 0, 1) := dk_3 (dk_at dksX2_layLengths_0 0 rfl rfl)
theorem dX2_layLengths_1 : decode cX2_layLengths 1 = .ok (.istore_n 1, 1) := dk_60 (dk_at dksX2_layLengths_0 1 rfl rfl)
theorem dX2_layLengths_2 : decode cX2_layLengths 2 = .ok (.iload_n 1, 1) := dk_27 (dk_at dksX2_layLengths_0 2 rfl rfl)
theorem dX2_layLengths_3 : decode cX2_layLengths 3 = .ok (.aload_n 0, 1) := dk_42 (dk_at dksX2_layLengths_0 3 rfl rfl)
theorem dX2_layLengths_4 : decode cX2_layLengths 4 = .ok (.getfield 330, 3) := dk_180 1 74 (dk_at dksX2_layLengths_0 4 rfl rfl)
theorem dX2_layLengths_7 : decode cX2_layLengths 7 = .ok (.if_icmp .ge 42, 3) := dk_162 0 42 (dk_at dksX2_layLengths_0 7 rfl rfl)
theorem dX2_layLengths_10 : decode cX2_layLengths 10 = .ok (.iconst 0, 1) := dk_3 (dk_at dksX2_layLengths_0 10 rfl rfl)
theorem dX2_layLengths_11 : decode cX2_layLengths 11 = .ok (.istore_n 2, 1) := dk_61 (dk_at dksX2_layLengths_0 11 rfl rfl)
theorem dX2_layLengths_12 : decode cX2_layLengths 12 = .ok (.iload_n 2, 1) := dk_28 (dk_at dksX2_layLengths_0 12 rfl rfl)
theorem dX2_layLengths_13 : decode cX2_layLengths 13 = .ok (.aload_n 0, 1) := dk_42 (dk_at dksX2_layLengths_0 13 rfl rfl)
theorem dX2_layLengths_14 : decode cX2_layLengths 14 = .ok (.getfield 330, 3) := dk_180 1 74 (dk_at dksX2_layLengths_0 14 rfl rfl)
theorem dX2_layLengths_17 : decode cX2_layLengths 17 = .ok (.if_icmp .ge 26, 3) := dk_162 0 26 (dk_at dksX2_layLengths_0 17 rfl rfl)
theorem dX2_layLengths_20 : decode cX2_layLengths 20 = .ok (.aload_n 0, 1) := dk_42 (dk_at dksX2_layLengths_0 20 rfl rfl)
theorem dX2_layLengths_21 : decode cX2_layLengths 21 = .ok (.getfield 97, 3) := dk_180 0 97 (dk_at dksX2_layLengths_0 21 rfl rfl)
theorem dX2_layLengths_24 : decode cX2_layLengths 24 = .ok (.bipush 32, 2) := dk_16 32 (dk_at dksX2_layLengths_1 0 rfl rfl)
theorem dX2_layLengths_26 : decode cX2_layLengths 26 = .ok (.iload_n 1, 1) := dk_27 (dk_at dksX2_layLengths_1 2 rfl rfl)
theorem dX2_layLengths_27 : decode cX2_layLengths 27 = .ok (.imul, 1) := dk_104 (dk_at dksX2_layLengths_1 3 rfl rfl)
theorem dX2_layLengths_28 : decode cX2_layLengths 28 = .ok (.iload_n 2, 1) := dk_28 (dk_at dksX2_layLengths_1 4 rfl rfl)
theorem dX2_layLengths_29 : decode cX2_layLengths 29 = .ok (.iadd, 1) := dk_96 (dk_at dksX2_layLengths_1 5 rfl rfl)
theorem dX2_layLengths_30 : decode cX2_layLengths 30 = .ok (.aload_n 0, 1) := dk_42 (dk_at dksX2_layLengths_1 6 rfl rfl)
theorem dX2_layLengths_31 : decode cX2_layLengths 31 = .ok (.iload_n 1, 1) := dk_27 (dk_at dksX2_layLengths_1 7 rfl rfl)
theorem dX2_layLengths_32 : decode cX2_layLengths 32 = .ok (.iload_n 2, 1) := dk_28 (dk_at dksX2_layLengths_1 8 rfl rfl)
theorem dX2_layLengths_33 : decode cX2_layLengths 33 = .ok (.invokevirtual 408, 3) := dk_182 1 152 (dk_at dksX2_layLengths_1 9 rfl rfl)
theorem dX2_layLengths_36 : decode cX2_layLengths 36 = .ok (.iastore, 1) := dk_79 (dk_at dksX2_layLengths_1 12 rfl rfl)
theorem dX2_layLengths_37 : decode cX2_layLengths 37 = .ok (.iinc 2 1, 3) := dk_132 2 1 (dk_at dksX2_layLengths_1 13 rfl rfl)
theorem dX2_layLengths_40 : decode cX2_layLengths 40 = .ok (.goto (-28), 3) := dk_167 255 228 (dk_at dksX2_layLengths_1 16 rfl rfl)
theorem dX2_layLengths_43 : decode cX2_layLengths 43 = .ok (.iinc 1 1, 3) := dk_132 1 1 (dk_at dksX2_layLengths_1 19 rfl rfl)
theorem dX2_layLengths_46 : decode cX2_layLengths 46 = .ok (.goto (-44), 3) := dk_167 255 212 (dk_at dksX2_layLengths_2 0 rfl rfl)
theorem dX2_layLengths_49 : decode cX2_layLengths 49 = .ok (.iconst 0, 1) := dk_3 (dk_at dksX2_layLengths_2 3 rfl rfl)
theorem dX2_layLengths_50 : decode cX2_layLengths 50 = .ok (.istore_n 1, 1) := dk_60 (dk_at dksX2_layLengths_2 4 rfl rfl)
theorem dX2_layLengths_51 : decode cX2_layLengths 51 = .ok (.iload_n 1, 1) := dk_27 (dk_at dksX2_layLengths_2 5 rfl rfl)
theorem dX2_layLengths_52 : decode cX2_layLengths 52 = .ok (.aload_n 0, 1) := dk_42 (dk_at dksX2_layLengths_2 6 rfl rfl)
theorem dX2_layLengths_53 : decode cX2_layLengths 53 = .ok (.getfield 382, 3) := dk_180 1 126 (dk_at dksX2_layLengths_2 7 rfl rfl)
theorem dX2_layLengths_56 : decode cX2_layLengths 56 = .ok (.if_icmp .ge 54, 3) := dk_162 0 54 (dk_at dksX2_layLengths_2 10 rfl rfl)
theorem dX2_layLengths_59 : decode cX2_layLengths 59 = .ok (.iload_n 1, 1) := dk_27 (dk_at dksX2_layLengths_2 13 rfl rfl)
theorem dX2_layLengths_60 : decode cX2_layLengths 60 = .ok (.bipush 6, 2) := dk_16 6 (dk_at dksX2_layLengths_2 14 rfl rfl)
theorem dX2_layLengths_62 : decode cX2_layLengths 62 = .ok (.if_icmp .ge 48, 3) := dk_162 0 48 (dk_at dksX2_layLengths_2 16 rfl rfl)
theorem dX2_layLengths_65 : decode cX2_layLengths 65 = .ok (.iconst 0, 1) := dk_3 (dk_at dksX2_layLengths_2 19 rfl rfl)
theorem dX2_layLengths_66 : decode cX2_layLengths 66 = .ok (.istore_n 2, 1) := dk_61 (dk_at dksX2_layLengths_2 20 rfl rfl)
theorem dX2_layLengths_67 : decode cX2_layLengths 67 = .ok (.iload_n 2, 1) := dk_28 (dk_at dksX2_layLengths_2 21 rfl rfl)
theorem dX2_layLengths_68 : decode cX2_layLengths 68 = .ok (.aload_n 0, 1) := dk_42 (dk_at dksX2_layLengths_2 22 rfl rfl)
theorem dX2_layLengths_69 : decode cX2_layLengths 69 = .ok (.getfield 382, 3) := dk_180 1 126 (dk_at dksX2_layLengths_3 0 rfl rfl)
theorem dX2_layLengths_72 : decode cX2_layLengths 72 = .ok (.if_icmp .ge 32, 3) := dk_162 0 32 (dk_at dksX2_layLengths_3 3 rfl rfl)
theorem dX2_layLengths_75 : decode cX2_layLengths 75 = .ok (.iload_n 2, 1) := dk_28 (dk_at dksX2_layLengths_3 6 rfl rfl)
theorem dX2_layLengths_76 : decode cX2_layLengths 76 = .ok (.bipush 6, 2) := dk_16 6 (dk_at dksX2_layLengths_3 7 rfl rfl)
theorem dX2_layLengths_78 : decode cX2_layLengths 78 = .ok (.if_icmp .ge 26, 3) := dk_162 0 26 (dk_at dksX2_layLengths_3 9 rfl rfl)
theorem dX2_layLengths_81 : decode cX2_layLengths 81 = .ok (.aload_n 0, 1) := dk_42 (dk_at dksX2_layLengths_3 12 rfl rfl)
theorem dX2_layLengths_82 : decode cX2_layLengths 82 = .ok (.getfield 100, 3) := dk_180 0 100 (dk_at dksX2_layLengths_3 13 rfl rfl)
theorem dX2_layLengths_85 : decode cX2_layLengths 85 = .ok (.bipush 6, 2) := dk_16 6 (dk_at dksX2_layLengths_3 16 rfl rfl)
theorem dX2_layLengths_87 : decode cX2_layLengths 87 = .ok (.iload_n 1, 1) := dk_27 (dk_at dksX2_layLengths_3 18 rfl rfl)
theorem dX2_layLengths_88 : decode cX2_layLengths 88 = .ok (.imul, 1) := dk_104 (dk_at dksX2_layLengths_3 19 rfl rfl)
theorem dX2_layLengths_89 : decode cX2_layLengths 89 = .ok (.iload_n 2, 1) := dk_28 (dk_at dksX2_layLengths_3 20 rfl rfl)
theorem dX2_layLengths_90 : decode cX2_layLengths 90 = .ok (.iadd, 1) := dk_96 (dk_at dksX2_layLengths_3 21 rfl rfl)
theorem dX2_layLengths_91 : decode cX2_layLengths 91 = .ok (.aload_n 0, 1) := dk_42 (dk_at dksX2_layLengths_3 22 rfl rfl)
theorem dX2_layLengths_92 : decode cX2_layLengths 92 = .ok (.iload_n 1, 1) := dk_27 (dk_at dksX2_layLengths_3 23 rfl rfl)
theorem dX2_layLengths_93 : decode cX2_layLengths 93 = .ok (.iload_n 2, 1) := dk_28 (dk_at dksX2_layLengths_4 0 rfl rfl)
theorem dX2_layLengths_94 : decode cX2_layLengths 94 = .ok (.invokevirtual 411, 3) := dk_182 1 155 (dk_at dksX2_layLengths_4 1 rfl rfl)
theorem dX2_layLengths_97 : decode cX2_layLengths 97 = .ok (.iastore, 1) := dk_79 (dk_at dksX2_layLengths_4 4 rfl rfl)
theorem dX2_layLengths_98 : decode cX2_layLengths 98 = .ok (.iinc 2 1, 3) := dk_132 2 1 (dk_at dksX2_layLengths_4 5 rfl rfl)
theorem dX2_layLengths_101 : decode cX2_layLengths 101 = .ok (.goto (-34), 3) := dk_167 255 222 (dk_at dksX2_layLengths_4 8 rfl rfl)
theorem dX2_layLengths_104 : decode cX2_layLengths 104 = .ok (.iinc 1 1, 3) := dk_132 1 1 (dk_at dksX2_layLengths_4 11 rfl rfl)
theorem dX2_layLengths_107 : decode cX2_layLengths 107 = .ok (.goto (-56), 3) := dk_167 255 200 (dk_at dksX2_layLengths_4 14 rfl rfl)
theorem dX2_layLengths_110 : decode cX2_layLengths 110 = .ok (.return_, 1) := dk_177 (dk_at dksX2_layLengths_4 17 rfl rfl)
abbrev cX2_pointLength : ByteArray := prog_28_method_48_code
def yX2_pointLength : MethodName := ⟨RX2, "pointLength", "(II)I"⟩
def dkwX2_pointLength_1 : List UInt8 := [184, 1, 143, 172]
abbrev dktX2_pointLength_1 : List UInt8 := dkwX2_pointLength_1 ++ []
def dkwX2_pointLength_0 : List UInt8 := [42, 27, 182, 1, 146, 42, 28, 182, 1, 146, 100, 42, 27, 182, 1, 149, 42, 28, 182, 1, 149, 100]
abbrev dktX2_pointLength_0 : List UInt8 := dkwX2_pointLength_0 ++ dktX2_pointLength_1
theorem dksX2_pointLength_0 : cX2_pointLength.data.toList.drop 0 = dktX2_pointLength_0 := by decide +kernel
theorem dksX2_pointLength_1 : cX2_pointLength.data.toList.drop 22 = dktX2_pointLength_1 := dk_seg dksX2_pointLength_0 22 rfl rfl
theorem dX2_pointLength_0 : decode cX2_pointLength 0 = .ok (.aload_n 0, 1) := dk_42 (dk_at dksX2_pointLength_0 0 rfl rfl)
theorem dX2_pointLength_1 : decode cX2_pointLength 1 = .ok (.iload_n 1, 1) := dk_27 (dk_at dksX2_pointLength_0 1 rfl rfl)
theorem dX2_pointLength_2 : decode cX2_pointLength 2 = .ok (.invokevirtual 402, 3) := dk_182 1 146 (dk_at dksX2_pointLength_0 2 rfl rfl)
theorem dX2_pointLength_5 : decode cX2_pointLength 5 = .ok (.aload_n 0, 1) := dk_42 (dk_at dksX2_pointLength_0 5 rfl rfl)
theorem dX2_pointLength_6 : decode cX2_pointLength 6 = .ok (.iload_n 2, 1) := dk_28 (dk_at dksX2_pointLength_0 6 rfl rfl)
theorem dX2_pointLength_7 : decode cX2_pointLength 7 = .ok (.invokevirtual 402, 3) := dk_182 1 146 (dk_at dksX2_pointLength_0 7 rfl rfl)
theorem dX2_pointLength_10 : decode cX2_pointLength 10 = .ok (.isub, 1) := dk_100 (dk_at dksX2_pointLength_0 10 rfl rfl)
theorem dX2_pointLength_11 : decode cX2_pointLength 11 = .ok (.aload_n 0, 1) := dk_42 (dk_at dksX2_pointLength_0 11 rfl rfl)
theorem dX2_pointLength_12 : decode cX2_pointLength 12 = .ok (.iload_n 1, 1) := dk_27 (dk_at dksX2_pointLength_0 12 rfl rfl)
theorem dX2_pointLength_13 : decode cX2_pointLength 13 = .ok (.invokevirtual 405, 3) := dk_182 1 149 (dk_at dksX2_pointLength_0 13 rfl rfl)
theorem dX2_pointLength_16 : decode cX2_pointLength 16 = .ok (.aload_n 0, 1) := dk_42 (dk_at dksX2_pointLength_0 16 rfl rfl)
theorem dX2_pointLength_17 : decode cX2_pointLength 17 = .ok (.iload_n 2, 1) := dk_28 (dk_at dksX2_pointLength_0 17 rfl rfl)
theorem dX2_pointLength_18 : decode cX2_pointLength 18 = .ok (.invokevirtual 405, 3) := dk_182 1 149 (dk_at dksX2_pointLength_0 18 rfl rfl)
theorem dX2_pointLength_21 : decode cX2_pointLength 21 = .ok (.isub, 1) := dk_100 (dk_at dksX2_pointLength_0 21 rfl rfl)
theorem dX2_pointLength_22 : decode cX2_pointLength 22 = .ok (.invokestatic 399, 3) := dk_184 1 143 (dk_at dksX2_pointLength_1 0 rfl rfl)
theorem dX2_pointLength_25 : decode cX2_pointLength 25 = .ok (.ireturn, 1) := dk_172 (dk_at dksX2_pointLength_1 3 rfl rfl)
abbrev cX2_pointX : ByteArray := prog_28_method_46_code
def yX2_pointX : MethodName := ⟨RX2, "pointX", "(I)I"⟩
def dkwX2_pointX_0 : List UInt8 := [42, 180, 0, 67, 42, 180, 0, 79, 42, 180, 0, 94, 27, 46, 46, 46, 42, 180, 0, 20, 4, 46, 104, 172]
abbrev dktX2_pointX_0 : List UInt8 := dkwX2_pointX_0 ++ []
theorem dksX2_pointX_0 : cX2_pointX.data.toList.drop 0 = dktX2_pointX_0 := by decide +kernel
theorem dX2_pointX_0 : decode cX2_pointX 0 = .ok (.aload_n 0, 1) := dk_42 (dk_at dksX2_pointX_0 0 rfl rfl)
theorem dX2_pointX_1 : decode cX2_pointX 1 = .ok (.getfield 67, 3) := dk_180 0 67 (dk_at dksX2_pointX_0 1 rfl rfl)
theorem dX2_pointX_4 : decode cX2_pointX 4 = .ok (.aload_n 0, 1) := dk_42 (dk_at dksX2_pointX_0 4 rfl rfl)
theorem dX2_pointX_5 : decode cX2_pointX 5 = .ok (.getfield 79, 3) := dk_180 0 79 (dk_at dksX2_pointX_0 5 rfl rfl)
theorem dX2_pointX_8 : decode cX2_pointX 8 = .ok (.aload_n 0, 1) := dk_42 (dk_at dksX2_pointX_0 8 rfl rfl)
theorem dX2_pointX_9 : decode cX2_pointX 9 = .ok (.getfield 94, 3) := dk_180 0 94 (dk_at dksX2_pointX_0 9 rfl rfl)
theorem dX2_pointX_12 : decode cX2_pointX 12 = .ok (.iload_n 1, 1) := dk_27 (dk_at dksX2_pointX_0 12 rfl rfl)
theorem dX2_pointX_13 : decode cX2_pointX 13 = .ok (.iaload, 1) := dk_46 (dk_at dksX2_pointX_0 13 rfl rfl)
theorem dX2_pointX_14 : decode cX2_pointX 14 = .ok (.iaload, 1) := dk_46 (dk_at dksX2_pointX_0 14 rfl rfl)
theorem dX2_pointX_15 : decode cX2_pointX 15 = .ok (.iaload, 1) := dk_46 (dk_at dksX2_pointX_0 15 rfl rfl)
theorem dX2_pointX_16 : decode cX2_pointX 16 = .ok (.aload_n 0, 1) := dk_42 (dk_at dksX2_pointX_0 16 rfl rfl)
theorem dX2_pointX_17 : decode cX2_pointX 17 = .ok (.getfield 20, 3) := dk_180 0 20 (dk_at dksX2_pointX_0 17 rfl rfl)
theorem dX2_pointX_20 : decode cX2_pointX 20 = .ok (.iconst 1, 1) := dk_4 (dk_at dksX2_pointX_0 20 rfl rfl)
theorem dX2_pointX_21 : decode cX2_pointX 21 = .ok (.iaload, 1) := dk_46 (dk_at dksX2_pointX_0 21 rfl rfl)
theorem dX2_pointX_22 : decode cX2_pointX 22 = .ok (.imul, 1) := dk_104 (dk_at dksX2_pointX_0 22 rfl rfl)
theorem dX2_pointX_23 : decode cX2_pointX 23 = .ok (.ireturn, 1) := dk_172 (dk_at dksX2_pointX_0 23 rfl rfl)
abbrev cX2_pointY : ByteArray := prog_28_method_47_code
def yX2_pointY : MethodName := ⟨RX2, "pointY", "(I)I"⟩
def dkwX2_pointY_0 : List UInt8 := [42, 180, 0, 70, 42, 180, 0, 79, 42, 180, 0, 94, 27, 46, 46, 46, 42, 180, 0, 20, 4, 46, 104, 172]
abbrev dktX2_pointY_0 : List UInt8 := dkwX2_pointY_0 ++ []
theorem dksX2_pointY_0 : cX2_pointY.data.toList.drop 0 = dktX2_pointY_0 := by decide +kernel
theorem dX2_pointY_0 : decode cX2_pointY 0 = .ok (.aload_n 0, 1) := dk_42 (dk_at dksX2_pointY_0 0 rfl rfl)
theorem dX2_pointY_1 : decode cX2_pointY 1 = .ok (.getfield 70, 3) := dk_180 0 70 (dk_at dksX2_pointY_0 1 rfl rfl)
theorem dX2_pointY_4 : decode cX2_pointY 4 = .ok (.aload_n 0, 1) := dk_42 (dk_at dksX2_pointY_0 4 rfl rfl)
theorem dX2_pointY_5 : decode cX2_pointY 5 = .ok (.getfield 79, 3) := dk_180 0 79 (dk_at dksX2_pointY_0 5 rfl rfl)
theorem dX2_pointY_8 : decode cX2_pointY 8 = .ok (.aload_n 0, 1) := dk_42 (dk_at dksX2_pointY_0 8 rfl rfl)
theorem dX2_pointY_9 : decode cX2_pointY 9 = .ok (.getfield 94, 3) := dk_180 0 94 (dk_at dksX2_pointY_0 9 rfl rfl)
theorem dX2_pointY_12 : decode cX2_pointY 12 = .ok (.iload_n 1, 1) := dk_27 (dk_at dksX2_pointY_0 12 rfl rfl)
theorem dX2_pointY_13 : decode cX2_pointY 13 = .ok (.iaload, 1) := dk_46 (dk_at dksX2_pointY_0 13 rfl rfl)
theorem dX2_pointY_14 : decode cX2_pointY 14 = .ok (.iaload, 1) := dk_46 (dk_at dksX2_pointY_0 14 rfl rfl)
theorem dX2_pointY_15 : decode cX2_pointY 15 = .ok (.iaload, 1) := dk_46 (dk_at dksX2_pointY_0 15 rfl rfl)
theorem dX2_pointY_16 : decode cX2_pointY 16 = .ok (.aload_n 0, 1) := dk_42 (dk_at dksX2_pointY_0 16 rfl rfl)
theorem dX2_pointY_17 : decode cX2_pointY 17 = .ok (.getfield 20, 3) := dk_180 0 20 (dk_at dksX2_pointY_0 17 rfl rfl)
theorem dX2_pointY_20 : decode cX2_pointY 20 = .ok (.iconst 1, 1) := dk_4 (dk_at dksX2_pointY_0 20 rfl rfl)
theorem dX2_pointY_21 : decode cX2_pointY 21 = .ok (.iaload, 1) := dk_46 (dk_at dksX2_pointY_0 21 rfl rfl)
theorem dX2_pointY_22 : decode cX2_pointY 22 = .ok (.imul, 1) := dk_104 (dk_at dksX2_pointY_0 22 rfl rfl)
theorem dX2_pointY_23 : decode cX2_pointY 23 = .ok (.ireturn, 1) := dk_172 (dk_at dksX2_pointY_0 23 rfl rfl)
abbrev cX2_seekNaming : ByteArray := prog_28_method_60_code
def yX2_seekNaming : MethodName := ⟨RX2, "seekNaming", "(II)V"⟩
def dkwX2_seekNaming_7 : List UInt8 := [132, 4, 1, 167, 255, 213, 42, 89, 180, 1, 177, 4, 96, 181, 1, 177, 167, 255, 91, 177]
abbrev dktX2_seekNaming_7 : List UInt8 := dkwX2_seekNaming_7 ++ []
def dkwX2_seekNaming_6 : List UInt8 := [21, 4, 96, 21, 4, 27, 162, 0, 13, 42, 180, 0, 103, 21, 4, 46, 167, 0, 5, 16, 32, 79]
abbrev dktX2_seekNaming_6 : List UInt8 := dkwX2_seekNaming_6 ++ dktX2_seekNaming_7
def dkwX2_seekNaming_5 : List UInt8 := [167, 255, 153, 3, 54, 4, 21, 4, 16, 6, 162, 0, 42, 42, 180, 0, 106, 16, 6, 42, 180, 1, 177, 104]
abbrev dktX2_seekNaming_5 : List UInt8 := dkwX2_seekNaming_5 ++ dktX2_seekNaming_6
def dkwX2_seekNaming_4 : List UInt8 := [132, 3, 1, 42, 180, 0, 103, 29, 2, 79, 167, 255, 167, 42, 29, 182, 1, 183, 27, 28, 100, 159, 0, 6]
abbrev dktX2_seekNaming_4 : List UInt8 := dkwX2_seekNaming_4 ++ dktX2_seekNaming_5
def dkwX2_seekNaming_3 : List UInt8 := [28, 100, 163, 255, 198, 42, 29, 182, 1, 186, 154, 0, 6, 167, 255, 187, 29, 4, 96, 27, 162, 0, 16]
abbrev dktX2_seekNaming_3 : List UInt8 := dkwX2_seekNaming_3 ++ dktX2_seekNaming_4
def dkwX2_seekNaming_2 : List UInt8 := [79, 42, 180, 0, 103, 29, 46, 16, 32, 164, 0, 9, 132, 3, 255, 167, 255, 209, 42, 29, 182, 1, 183, 27]
abbrev dktX2_seekNaming_2 : List UInt8 := dkwX2_seekNaming_2 ++ dktX2_seekNaming_3
def dkwX2_seekNaming_1 : List UInt8 := [17, 0, 200, 162, 0, 157, 42, 180, 0, 103, 29, 42, 180, 0, 103, 29, 46, 42, 180, 1, 74, 184, 1, 180]
abbrev dktX2_seekNaming_1 : List UInt8 := dkwX2_seekNaming_1 ++ dktX2_seekNaming_2
def dkwX2_seekNaming_0 : List UInt8 := [42, 3, 181, 1, 177, 3, 62, 42, 180, 0, 103, 3, 2, 79, 29, 155, 0, 167, 42, 180, 1, 177]
abbrev dktX2_seekNaming_0 : List UInt8 := dkwX2_seekNaming_0 ++ dktX2_seekNaming_1
theorem dksX2_seekNaming_0 : cX2_seekNaming.data.toList.drop 0 = dktX2_seekNaming_0 := by decide +kernel
theorem dksX2_seekNaming_1 : cX2_seekNaming.data.toList.drop 22 = dktX2_seekNaming_1 := dk_seg dksX2_seekNaming_0 22 rfl rfl
theorem dksX2_seekNaming_2 : cX2_seekNaming.data.toList.drop 46 = dktX2_seekNaming_2 := dk_seg dksX2_seekNaming_1 24 rfl rfl
theorem dksX2_seekNaming_3 : cX2_seekNaming.data.toList.drop 70 = dktX2_seekNaming_3 := dk_seg dksX2_seekNaming_2 24 rfl rfl
theorem dksX2_seekNaming_4 : cX2_seekNaming.data.toList.drop 93 = dktX2_seekNaming_4 := dk_seg dksX2_seekNaming_3 23 rfl rfl
theorem dksX2_seekNaming_5 : cX2_seekNaming.data.toList.drop 117 = dktX2_seekNaming_5 := dk_seg dksX2_seekNaming_4 24 rfl rfl
theorem dksX2_seekNaming_6 : cX2_seekNaming.data.toList.drop 141 = dktX2_seekNaming_6 := dk_seg dksX2_seekNaming_5 24 rfl rfl
theorem dksX2_seekNaming_7 : cX2_seekNaming.data.toList.drop 163 = dktX2_seekNaming_7 := dk_seg dksX2_seekNaming_6 22 rfl rfl
theorem dX2_seekNaming_0 : decode cX2_seekNaming 0 = .ok (.aload_n 0, 1) := dk_42 (dk_at dksX2_seekNaming_0 0 rfl rfl)
theorem dX2_seekNaming_1 : decode cX2_seekNaming 1 = .ok (.iconst 0, 1) := dk_3 (dk_at dksX2_seekNaming_0 1 rfl rfl)
theorem dX2_seekNaming_2 : decode cX2_seekNaming 2 = .ok (.putfield 433, 3) := dk_181 1 177 (dk_at dksX2_seekNaming_0 2 rfl rfl)
theorem dX2_seekNaming_5 : decode cX2_seekNaming 5 = .ok (.iconst 0, 1) := dk_3 (dk_at dksX2_seekNaming_0 5 rfl rfl)
theorem dX2_seekNaming_6 : decode cX2_seekNaming 6 = .ok (.istore_n 3, 1) := dk_62 (dk_at dksX2_seekNaming_0 6 rfl rfl)
theorem dX2_seekNaming_7 : decode cX2_seekNaming 7 = .ok (.aload_n 0, 1) := dk_42 (dk_at dksX2_seekNaming_0 7 rfl rfl)
theorem dX2_seekNaming_8 : decode cX2_seekNaming 8 = .ok (.getfield 103, 3) := dk_180 0 103 (dk_at dksX2_seekNaming_0 8 rfl rfl)
theorem dX2_seekNaming_11 : decode cX2_seekNaming 11 = .ok (.iconst 0, 1) := dk_3 (dk_at dksX2_seekNaming_0 11 rfl rfl)
theorem dX2_seekNaming_12 : decode cX2_seekNaming 12 = .ok (.iconst (-1), 1) := dk_2 (dk_at dksX2_seekNaming_0 12 rfl rfl)
theorem dX2_seekNaming_13 : decode cX2_seekNaming 13 = .ok (.iastore, 1) := dk_79 (dk_at dksX2_seekNaming_0 13 rfl rfl)
theorem dX2_seekNaming_14 : decode cX2_seekNaming 14 = .ok (.iload_n 3, 1) := dk_29 (dk_at dksX2_seekNaming_0 14 rfl rfl)
theorem dX2_seekNaming_15 : decode cX2_seekNaming 15 = .ok (.ifCond .lt 167, 3) := dk_155 0 167 (dk_at dksX2_seekNaming_0 15 rfl rfl)
theorem dX2_seekNaming_18 : decode cX2_seekNaming 18 = .ok (.aload_n 0, 1) := dk_42 (dk_at dksX2_seekNaming_0 18 rfl rfl)
theorem dX2_seekNaming_19 : decode cX2_seekNaming 19 = .ok (.getfield 433, 3) := dk_180 1 177 (dk_at dksX2_seekNaming_0 19 rfl rfl)
theorem dX2_seekNaming_22 : decode cX2_seekNaming 22 = .ok (.sipush 200, 3) := dk_17 0 200 (dk_at dksX2_seekNaming_1 0 rfl rfl)
theorem dX2_seekNaming_25 : decode cX2_seekNaming 25 = .ok (.if_icmp .ge 157, 3) := dk_162 0 157 (dk_at dksX2_seekNaming_1 3 rfl rfl)
theorem dX2_seekNaming_28 : decode cX2_seekNaming 28 = .ok (.aload_n 0, 1) := dk_42 (dk_at dksX2_seekNaming_1 6 rfl rfl)
theorem dX2_seekNaming_29 : decode cX2_seekNaming 29 = .ok (.getfield 103, 3) := dk_180 0 103 (dk_at dksX2_seekNaming_1 7 rfl rfl)
theorem dX2_seekNaming_32 : decode cX2_seekNaming 32 = .ok (.iload_n 3, 1) := dk_29 (dk_at dksX2_seekNaming_1 10 rfl rfl)
theorem dX2_seekNaming_33 : decode cX2_seekNaming 33 = .ok (.aload_n 0, 1) := dk_42 (dk_at dksX2_seekNaming_1 11 rfl rfl)
theorem dX2_seekNaming_34 : decode cX2_seekNaming 34 = .ok (.getfield 103, 3) := dk_180 0 103 (dk_at dksX2_seekNaming_1 12 rfl rfl)
theorem dX2_seekNaming_37 : decode cX2_seekNaming 37 = .ok (.iload_n 3, 1) := dk_29 (dk_at dksX2_seekNaming_1 15 rfl rfl)
theorem dX2_seekNaming_38 : decode cX2_seekNaming 38 = .ok (.iaload, 1) := dk_46 (dk_at dksX2_seekNaming_1 16 rfl rfl)
theorem dX2_seekNaming_39 : decode cX2_seekNaming 39 = .ok (.aload_n 0, 1) := dk_42 (dk_at dksX2_seekNaming_1 17 rfl rfl)
theorem dX2_seekNaming_40 : decode cX2_seekNaming 40 = .ok (.getfield 330, 3) := dk_180 1 74 (dk_at dksX2_seekNaming_1 18 rfl rfl)
theorem dX2_seekNaming_43 : decode cX2_seekNaming 43 = .ok (.invokestatic 436, 3) := dk_184 1 180 (dk_at dksX2_seekNaming_1 21 rfl rfl)
theorem dX2_seekNaming_46 : decode cX2_seekNaming 46 = .ok (.iastore, 1) := dk_79 (dk_at dksX2_seekNaming_2 0 rfl rfl)
theorem dX2_seekNaming_47 : decode cX2_seekNaming 47 = .ok (.aload_n 0, 1) := dk_42 (dk_at dksX2_seekNaming_2 1 rfl rfl)
theorem dX2_seekNaming_48 : decode cX2_seekNaming 48 = .ok (.getfield 103, 3) := dk_180 0 103 (dk_at dksX2_seekNaming_2 2 rfl rfl)
theorem dX2_seekNaming_51 : decode cX2_seekNaming 51 = .ok (.iload_n 3, 1) := dk_29 (dk_at dksX2_seekNaming_2 5 rfl rfl)
theorem dX2_seekNaming_52 : decode cX2_seekNaming 52 = .ok (.iaload, 1) := dk_46 (dk_at dksX2_seekNaming_2 6 rfl rfl)
theorem dX2_seekNaming_53 : decode cX2_seekNaming 53 = .ok (.bipush 32, 2) := dk_16 32 (dk_at dksX2_seekNaming_2 7 rfl rfl)
theorem dX2_seekNaming_55 : decode cX2_seekNaming 55 = .ok (.if_icmp .le 9, 3) := dk_164 0 9 (dk_at dksX2_seekNaming_2 9 rfl rfl)
theorem dX2_seekNaming_58 : decode cX2_seekNaming 58 = .ok (.iinc 3 (-1), 3) := dk_132 3 255 (dk_at dksX2_seekNaming_2 12 rfl rfl)
theorem dX2_seekNaming_61 : decode cX2_seekNaming 61 = .ok (.goto (-47), 3) := dk_167 255 209 (dk_at dksX2_seekNaming_2 15 rfl rfl)
theorem dX2_seekNaming_64 : decode cX2_seekNaming 64 = .ok (.aload_n 0, 1) := dk_42 (dk_at dksX2_seekNaming_2 18 rfl rfl)
theorem dX2_seekNaming_65 : decode cX2_seekNaming 65 = .ok (.iload_n 3, 1) := dk_29 (dk_at dksX2_seekNaming_2 19 rfl rfl)
theorem dX2_seekNaming_66 : decode cX2_seekNaming 66 = .ok (.invokevirtual 439, 3) := dk_182 1 183 (dk_at dksX2_seekNaming_2 20 rfl rfl)
theorem dX2_seekNaming_69 : decode cX2_seekNaming 69 = .ok (.iload_n 1, 1) := dk_27 (dk_at dksX2_seekNaming_2 23 rfl rfl)
theorem dX2_seekNaming_70 : decode cX2_seekNaming 70 = .ok (.iload_n 2, 1) := dk_28 (dk_at dksX2_seekNaming_3 0 rfl rfl)
theorem dX2_seekNaming_71 : decode cX2_seekNaming 71 = .ok (.isub, 1) := dk_100 (dk_at dksX2_seekNaming_3 1 rfl rfl)
theorem dX2_seekNaming_72 : decode cX2_seekNaming 72 = .ok (.if_icmp .gt (-58), 3) := dk_163 255 198 (dk_at dksX2_seekNaming_3 2 rfl rfl)
theorem dX2_seekNaming_75 : decode cX2_seekNaming 75 = .ok (.aload_n 0, 1) := dk_42 (dk_at dksX2_seekNaming_3 5 rfl rfl)
theorem dX2_seekNaming_76 : decode cX2_seekNaming 76 = .ok (.iload_n 3, 1) := dk_29 (dk_at dksX2_seekNaming_3 6 rfl rfl)
theorem dX2_seekNaming_77 : decode cX2_seekNaming 77 = .ok (.invokevirtual 442, 3) := dk_182 1 186 (dk_at dksX2_seekNaming_3 7 rfl rfl)
theorem dX2_seekNaming_80 : decode cX2_seekNaming 80 = .ok (.ifCond .ne 6, 3) := dk_154 0 6 (dk_at dksX2_seekNaming_3 10 rfl rfl)
theorem dX2_seekNaming_83 : decode cX2_seekNaming 83 = .ok (.goto (-69), 3) := dk_167 255 187 (dk_at dksX2_seekNaming_3 13 rfl rfl)
theorem dX2_seekNaming_86 : decode cX2_seekNaming 86 = .ok (.iload_n 3, 1) := dk_29 (dk_at dksX2_seekNaming_3 16 rfl rfl)
theorem dX2_seekNaming_87 : decode cX2_seekNaming 87 = .ok (.iconst 1, 1) := dk_4 (dk_at dksX2_seekNaming_3 17 rfl rfl)
theorem dX2_seekNaming_88 : decode cX2_seekNaming 88 = .ok (.iadd, 1) := dk_96 (dk_at dksX2_seekNaming_3 18 rfl rfl)
theorem dX2_seekNaming_89 : decode cX2_seekNaming 89 = .ok (.iload_n 1, 1) := dk_27 (dk_at dksX2_seekNaming_3 19 rfl rfl)
theorem dX2_seekNaming_90 : decode cX2_seekNaming 90 = .ok (.if_icmp .ge 16, 3) := dk_162 0 16 (dk_at dksX2_seekNaming_3 20 rfl rfl)
theorem dX2_seekNaming_93 : decode cX2_seekNaming 93 = .ok (.iinc 3 1, 3) := dk_132 3 1 (dk_at dksX2_seekNaming_4 0 rfl rfl)
theorem dX2_seekNaming_96 : decode cX2_seekNaming 96 = .ok (.aload_n 0, 1) := dk_42 (dk_at dksX2_seekNaming_4 3 rfl rfl)
theorem dX2_seekNaming_97 : decode cX2_seekNaming 97 = .ok (.getfield 103, 3) := dk_180 0 103 (dk_at dksX2_seekNaming_4 4 rfl rfl)
theorem dX2_seekNaming_100 : decode cX2_seekNaming 100 = .ok (.iload_n 3, 1) := dk_29 (dk_at dksX2_seekNaming_4 7 rfl rfl)
theorem dX2_seekNaming_101 : decode cX2_seekNaming 101 = .ok (.iconst (-1), 1) := dk_2 (dk_at dksX2_seekNaming_4 8 rfl rfl)
theorem dX2_seekNaming_102 : decode cX2_seekNaming 102 = .ok (.iastore, 1) := dk_79 (dk_at dksX2_seekNaming_4 9 rfl rfl)
theorem dX2_seekNaming_103 : decode cX2_seekNaming 103 = .ok (.goto (-89), 3) := dk_167 255 167 (dk_at dksX2_seekNaming_4 10 rfl rfl)
theorem dX2_seekNaming_106 : decode cX2_seekNaming 106 = .ok (.aload_n 0, 1) := dk_42 (dk_at dksX2_seekNaming_4 13 rfl rfl)
theorem dX2_seekNaming_107 : decode cX2_seekNaming 107 = .ok (.iload_n 3, 1) := dk_29 (dk_at dksX2_seekNaming_4 14 rfl rfl)
theorem dX2_seekNaming_108 : decode cX2_seekNaming 108 = .ok (.invokevirtual 439, 3) := dk_182 1 183 (dk_at dksX2_seekNaming_4 15 rfl rfl)
theorem dX2_seekNaming_111 : decode cX2_seekNaming 111 = .ok (.iload_n 1, 1) := dk_27 (dk_at dksX2_seekNaming_4 18 rfl rfl)
theorem dX2_seekNaming_112 : decode cX2_seekNaming 112 = .ok (.iload_n 2, 1) := dk_28 (dk_at dksX2_seekNaming_4 19 rfl rfl)
theorem dX2_seekNaming_113 : decode cX2_seekNaming 113 = .ok (.isub, 1) := dk_100 (dk_at dksX2_seekNaming_4 20 rfl rfl)
theorem dX2_seekNaming_114 : decode cX2_seekNaming 114 = .ok (.if_icmp .eq 6, 3) := dk_159 0 6 (dk_at dksX2_seekNaming_4 21 rfl rfl)
theorem dX2_seekNaming_117 : decode cX2_seekNaming 117 = .ok (.goto (-103), 3) := dk_167 255 153 (dk_at dksX2_seekNaming_5 0 rfl rfl)
theorem dX2_seekNaming_120 : decode cX2_seekNaming 120 = .ok (.iconst 0, 1) := dk_3 (dk_at dksX2_seekNaming_5 3 rfl rfl)
theorem dX2_seekNaming_121 : decode cX2_seekNaming 121 = .ok (.istore 4, 2) := dk_54 4 (dk_at dksX2_seekNaming_5 4 rfl rfl)
theorem dX2_seekNaming_123 : decode cX2_seekNaming 123 = .ok (.iload 4, 2) := dk_21 4 (dk_at dksX2_seekNaming_5 6 rfl rfl)
theorem dX2_seekNaming_125 : decode cX2_seekNaming 125 = .ok (.bipush 6, 2) := dk_16 6 (dk_at dksX2_seekNaming_5 8 rfl rfl)
theorem dX2_seekNaming_127 : decode cX2_seekNaming 127 = .ok (.if_icmp .ge 42, 3) := dk_162 0 42 (dk_at dksX2_seekNaming_5 10 rfl rfl)
theorem dX2_seekNaming_130 : decode cX2_seekNaming 130 = .ok (.aload_n 0, 1) := dk_42 (dk_at dksX2_seekNaming_5 13 rfl rfl)
theorem dX2_seekNaming_131 : decode cX2_seekNaming 131 = .ok (.getfield 106, 3) := dk_180 0 106 (dk_at dksX2_seekNaming_5 14 rfl rfl)
theorem dX2_seekNaming_134 : decode cX2_seekNaming 134 = .ok (.bipush 6, 2) := dk_16 6 (dk_at dksX2_seekNaming_5 17 rfl rfl)
theorem dX2_seekNaming_136 : decode cX2_seekNaming 136 = .ok (.aload_n 0, 1) := dk_42 (dk_at dksX2_seekNaming_5 19 rfl rfl)
theorem dX2_seekNaming_137 : decode cX2_seekNaming 137 = .ok (.getfield 433, 3) := dk_180 1 177 (dk_at dksX2_seekNaming_5 20 rfl rfl)
theorem dX2_seekNaming_140 : decode cX2_seekNaming 140 = .ok (.imul, 1) := dk_104 (dk_at dksX2_seekNaming_5 23 rfl rfl)
theorem dX2_seekNaming_141 : decode cX2_seekNaming 141 = .ok (.iload 4, 2) := dk_21 4 (dk_at dksX2_seekNaming_6 0 rfl rfl)
theorem dX2_seekNaming_143 : decode cX2_seekNaming 143 = .ok (.iadd, 1) := dk_96 (dk_at dksX2_seekNaming_6 2 rfl rfl)
theorem dX2_seekNaming_144 : decode cX2_seekNaming 144 = .ok (.iload 4, 2) := dk_21 4 (dk_at dksX2_seekNaming_6 3 rfl rfl)
theorem dX2_seekNaming_146 : decode cX2_seekNaming 146 = .ok (.iload_n 1, 1) := dk_27 (dk_at dksX2_seekNaming_6 5 rfl rfl)
theorem dX2_seekNaming_147 : decode cX2_seekNaming 147 = .ok (.if_icmp .ge 13, 3) := dk_162 0 13 (dk_at dksX2_seekNaming_6 6 rfl rfl)
theorem dX2_seekNaming_150 : decode cX2_seekNaming 150 = .ok (.aload_n 0, 1) := dk_42 (dk_at dksX2_seekNaming_6 9 rfl rfl)
theorem dX2_seekNaming_151 : decode cX2_seekNaming 151 = .ok (.getfield 103, 3) := dk_180 0 103 (dk_at dksX2_seekNaming_6 10 rfl rfl)
theorem dX2_seekNaming_154 : decode cX2_seekNaming 154 = .ok (.iload 4, 2) := dk_21 4 (dk_at dksX2_seekNaming_6 13 rfl rfl)
theorem dX2_seekNaming_156 : decode cX2_seekNaming 156 = .ok (.iaload, 1) := dk_46 (dk_at dksX2_seekNaming_6 15 rfl rfl)
theorem dX2_seekNaming_157 : decode cX2_seekNaming 157 = .ok (.goto 5, 3) := dk_167 0 5 (dk_at dksX2_seekNaming_6 16 rfl rfl)
theorem dX2_seekNaming_160 : decode cX2_seekNaming 160 = .ok (.bipush 32, 2) := dk_16 32 (dk_at dksX2_seekNaming_6 19 rfl rfl)
theorem dX2_seekNaming_162 : decode cX2_seekNaming 162 = .ok (.iastore, 1) := dk_79 (dk_at dksX2_seekNaming_6 21 rfl rfl)
theorem dX2_seekNaming_163 : decode cX2_seekNaming 163 = .ok (.iinc 4 1, 3) := dk_132 4 1 (dk_at dksX2_seekNaming_7 0 rfl rfl)
theorem dX2_seekNaming_166 : decode cX2_seekNaming 166 = .ok (.goto (-43), 3) := dk_167 255 213 (dk_at dksX2_seekNaming_7 3 rfl rfl)
theorem dX2_seekNaming_169 : decode cX2_seekNaming 169 = .ok (.aload_n 0, 1) := dk_42 (dk_at dksX2_seekNaming_7 6 rfl rfl)
theorem dX2_seekNaming_170 : decode cX2_seekNaming 170 = .ok (.dup, 1) := dk_89 (dk_at dksX2_seekNaming_7 7 rfl rfl)
theorem dX2_seekNaming_171 : decode cX2_seekNaming 171 = .ok (.getfield 433, 3) := dk_180 1 177 (dk_at dksX2_seekNaming_7 8 rfl rfl)
theorem dX2_seekNaming_174 : decode cX2_seekNaming 174 = .ok (.iconst 1, 1) := dk_4 (dk_at dksX2_seekNaming_7 11 rfl rfl)
theorem dX2_seekNaming_175 : decode cX2_seekNaming 175 = .ok (.iadd, 1) := dk_96 (dk_at dksX2_seekNaming_7 12 rfl rfl)
theorem dX2_seekNaming_176 : decode cX2_seekNaming 176 = .ok (.putfield 433, 3) := dk_181 1 177 (dk_at dksX2_seekNaming_7 13 rfl rfl)
theorem dX2_seekNaming_179 : decode cX2_seekNaming 179 = .ok (.goto (-165), 3) := dk_167 255 91 (dk_at dksX2_seekNaming_7 16 rfl rfl)
theorem dX2_seekNaming_182 : decode cX2_seekNaming 182 = .ok (.return_, 1) := dk_177 (dk_at dksX2_seekNaming_7 19 rfl rfl)
abbrev cX2_following : ByteArray := prog_28_method_59_code
def yX2_following : MethodName := ⟨RX2, "following", "(II)I"⟩
def dkwX2_following_1 : List UInt8 := [16, 33, 172]
abbrev dktX2_following_1 : List UInt8 := dkwX2_following_1 ++ []
def dkwX2_following_0 : List UInt8 := [26, 4, 96, 27, 162, 0, 9, 26, 4, 96, 167, 0, 16, 26, 16, 32, 162, 0, 8, 16, 32, 167, 0, 5]
abbrev dktX2_following_0 : List UInt8 := dkwX2_following_0 ++ dktX2_following_1
theorem dksX2_following_0 : cX2_following.data.toList.drop 0 = dktX2_following_0 := by decide +kernel
theorem dksX2_following_1 : cX2_following.data.toList.drop 24 = dktX2_following_1 := dk_seg dksX2_following_0 24 rfl rfl
theorem dX2_following_0 : decode cX2_following 0 = .ok (.iload_n 0, 1) := dk_26 (dk_at dksX2_following_0 0 rfl rfl)
theorem dX2_following_1 : decode cX2_following 1 = .ok (.iconst 1, 1) := dk_4 (dk_at dksX2_following_0 1 rfl rfl)
theorem dX2_following_2 : decode cX2_following 2 = .ok (.iadd, 1) := dk_96 (dk_at dksX2_following_0 2 rfl rfl)
theorem dX2_following_3 : decode cX2_following 3 = .ok (.iload_n 1, 1) := dk_27 (dk_at dksX2_following_0 3 rfl rfl)
theorem dX2_following_4 : decode cX2_following 4 = .ok (.if_icmp .ge 9, 3) := dk_162 0 9 (dk_at dksX2_following_0 4 rfl rfl)
theorem dX2_following_7 : decode cX2_following 7 = .ok (.iload_n 0, 1) := dk_26 (dk_at dksX2_following_0 7 rfl rfl)
theorem dX2_following_8 : decode cX2_following 8 = .ok (.iconst 1, 1) := dk_4 (dk_at dksX2_following_0 8 rfl rfl)
theorem dX2_following_9 : decode cX2_following 9 = .ok (.iadd, 1) := dk_96 (dk_at dksX2_following_0 9 rfl rfl)
theorem dX2_following_10 : decode cX2_following 10 = .ok (.goto 16, 3) := dk_167 0 16 (dk_at dksX2_following_0 10 rfl rfl)
theorem dX2_following_13 : decode cX2_following 13 = .ok (.iload_n 0, 1) := dk_26 (dk_at dksX2_following_0 13 rfl rfl)
theorem dX2_following_14 : decode cX2_following 14 = .ok (.bipush 32, 2) := dk_16 32 (dk_at dksX2_following_0 14 rfl rfl)
theorem dX2_following_16 : decode cX2_following 16 = .ok (.if_icmp .ge 8, 3) := dk_162 0 8 (dk_at dksX2_following_0 16 rfl rfl)
theorem dX2_following_19 : decode cX2_following 19 = .ok (.bipush 32, 2) := dk_16 32 (dk_at dksX2_following_0 19 rfl rfl)
theorem dX2_following_21 : decode cX2_following 21 = .ok (.goto 5, 3) := dk_167 0 5 (dk_at dksX2_following_0 21 rfl rfl)
theorem dX2_following_24 : decode cX2_following 24 = .ok (.bipush 33, 2) := dk_16 33 (dk_at dksX2_following_1 0 rfl rfl)
theorem dX2_following_26 : decode cX2_following 26 = .ok (.ireturn, 1) := dk_172 (dk_at dksX2_following_1 2 rfl rfl)
abbrev cX2_unnamed : ByteArray := prog_28_method_58_code
def yX2_unnamed : MethodName := ⟨RX2, "unnamed", "(I)I"⟩
def dkwX2_unnamed_1 : List UInt8 := [167, 0, 4, 3, 96, 61, 132, 3, 1, 167, 255, 229, 28, 172]
abbrev dktX2_unnamed_1 : List UInt8 := dkwX2_unnamed_1 ++ []
def dkwX2_unnamed_0 : List UInt8 := [3, 61, 3, 62, 29, 27, 163, 0, 28, 28, 42, 180, 0, 103, 29, 46, 16, 32, 160, 0, 7, 4]
abbrev dktX2_unnamed_0 : List UInt8 := dkwX2_unnamed_0 ++ dktX2_unnamed_1
theorem dksX2_unnamed_0 : cX2_unnamed.data.toList.drop 0 = dktX2_unnamed_0 := by decide +kernel
theorem dksX2_unnamed_1 : cX2_unnamed.data.toList.drop 22 = dktX2_unnamed_1 := dk_seg dksX2_unnamed_0 22 rfl rfl
theorem dX2_unnamed_0 : decode cX2_unnamed 0 = .ok (.iconst 0, 1) := dk_3 (dk_at dksX2_unnamed_0 0 rfl rfl)
theorem dX2_unnamed_1 : decode cX2_unnamed 1 = .ok (.istore_n 2, 1) := dk_61 (dk_at dksX2_unnamed_0 1 rfl rfl)
theorem dX2_unnamed_2 : decode cX2_unnamed 2 = .ok (.iconst 0, 1) := dk_3 (dk_at dksX2_unnamed_0 2 rfl rfl)
theorem dX2_unnamed_3 : decode cX2_unnamed 3 = .ok (.istore_n 3, 1) := dk_62 (dk_at dksX2_unnamed_0 3 rfl rfl)
theorem dX2_unnamed_4 : decode cX2_unnamed 4 = .ok (.iload_n 3, 1) := dk_29 (dk_at dksX2_unnamed_0 4 rfl rfl)
theorem dX2_unnamed_5 : decode cX2_unnamed 5 = .ok (.iload_n 1, 1) := dk_27 (dk_at dksX2_unnamed_0 5 rfl rfl)
theorem dX2_unnamed_6 : decode cX2_unnamed 6 = .ok (.if_icmp .gt 28, 3) := dk_163 0 28 (dk_at dksX2_unnamed_0 6 rfl rfl)
theorem dX2_unnamed_9 : decode cX2_unnamed 9 = .ok (.iload_n 2, 1) := dk_28 (dk_at dksX2_unnamed_0 9 rfl rfl)
theorem dX2_unnamed_10 : decode cX2_unnamed 10 = .ok (.aload_n 0, 1) := dk_42 (dk_at dksX2_unnamed_0 10 rfl rfl)
theorem dX2_unnamed_11 : decode cX2_unnamed 11 = .ok (.getfield 103, 3) := dk_180 0 103 (dk_at dksX2_unnamed_0 11 rfl rfl)
theorem dX2_unnamed_14 : decode cX2_unnamed 14 = .ok (.iload_n 3, 1) := dk_29 (dk_at dksX2_unnamed_0 14 rfl rfl)
theorem dX2_unnamed_15 : decode cX2_unnamed 15 = .ok (.iaload, 1) := dk_46 (dk_at dksX2_unnamed_0 15 rfl rfl)
theorem dX2_unnamed_16 : decode cX2_unnamed 16 = .ok (.bipush 32, 2) := dk_16 32 (dk_at dksX2_unnamed_0 16 rfl rfl)
theorem dX2_unnamed_18 : decode cX2_unnamed 18 = .ok (.if_icmp .ne 7, 3) := dk_160 0 7 (dk_at dksX2_unnamed_0 18 rfl rfl)
theorem dX2_unnamed_21 : decode cX2_unnamed 21 = .ok (.iconst 1, 1) := dk_4 (dk_at dksX2_unnamed_0 21 rfl rfl)
theorem dX2_unnamed_22 : decode cX2_unnamed 22 = .ok (.goto 4, 3) := dk_167 0 4 (dk_at dksX2_unnamed_1 0 rfl rfl)
theorem dX2_unnamed_25 : decode cX2_unnamed 25 = .ok (.iconst 0, 1) := dk_3 (dk_at dksX2_unnamed_1 3 rfl rfl)
theorem dX2_unnamed_26 : decode cX2_unnamed 26 = .ok (.iadd, 1) := dk_96 (dk_at dksX2_unnamed_1 4 rfl rfl)
theorem dX2_unnamed_27 : decode cX2_unnamed 27 = .ok (.istore_n 2, 1) := dk_61 (dk_at dksX2_unnamed_1 5 rfl rfl)
theorem dX2_unnamed_28 : decode cX2_unnamed 28 = .ok (.iinc 3 1, 3) := dk_132 3 1 (dk_at dksX2_unnamed_1 6 rfl rfl)
theorem dX2_unnamed_31 : decode cX2_unnamed 31 = .ok (.goto (-27), 3) := dk_167 255 229 (dk_at dksX2_unnamed_1 9 rfl rfl)
theorem dX2_unnamed_34 : decode cX2_unnamed 34 = .ok (.iload_n 2, 1) := dk_28 (dk_at dksX2_unnamed_1 12 rfl rfl)
theorem dX2_unnamed_35 : decode cX2_unnamed 35 = .ok (.ireturn, 1) := dk_172 (dk_at dksX2_unnamed_1 13 rfl rfl)
abbrev cX2_goes : ByteArray := prog_28_method_57_code
def yX2_goes : MethodName := ⟨RX2, "goes", "(I)Z"⟩
def dkwX2_goes_5 : List UInt8 := [167, 255, 208, 132, 3, 1, 167, 255, 150, 4, 172]
abbrev dktX2_goes_5 : List UInt8 := dkwX2_goes_5 ++ []
def dkwX2_goes_4 : List UInt8 := [180, 0, 103, 29, 46, 42, 180, 0, 103, 21, 4, 46, 28, 182, 1, 173, 154, 0, 5, 3, 172, 132, 4, 1]
abbrev dktX2_goes_4 : List UInt8 := dkwX2_goes_4 ++ dktX2_goes_5
def dkwX2_goes_3 : List UInt8 := [27, 162, 0, 48, 42, 180, 0, 103, 21, 4, 46, 16, 32, 159, 0, 30, 42, 29, 21, 4, 27, 42]
abbrev dktX2_goes_3 : List UInt8 := dkwX2_goes_3 ++ dktX2_goes_4
def dkwX2_goes_2 : List UInt8 := [29, 27, 42, 180, 0, 103, 29, 46, 28, 182, 1, 169, 154, 0, 5, 3, 172, 29, 4, 96, 54, 4, 21, 4]
abbrev dktX2_goes_2 : List UInt8 := dkwX2_goes_2 ++ dktX2_goes_3
def dkwX2_goes_1 : List UInt8 := [180, 0, 103, 29, 46, 16, 32, 160, 0, 6, 167, 0, 87, 42, 180, 0, 103, 29, 46, 28, 159, 0, 19, 42]
abbrev dktX2_goes_1 : List UInt8 := dkwX2_goes_1 ++ dktX2_goes_2
def dkwX2_goes_0 : List UInt8 := [42, 180, 0, 103, 27, 46, 61, 28, 16, 32, 160, 0, 5, 4, 172, 3, 62, 29, 27, 162, 0, 107, 42]
abbrev dktX2_goes_0 : List UInt8 := dkwX2_goes_0 ++ dktX2_goes_1
theorem dksX2_goes_0 : cX2_goes.data.toList.drop 0 = dktX2_goes_0 := by decide +kernel
theorem dksX2_goes_1 : cX2_goes.data.toList.drop 23 = dktX2_goes_1 := dk_seg dksX2_goes_0 23 rfl rfl
theorem dksX2_goes_2 : cX2_goes.data.toList.drop 47 = dktX2_goes_2 := dk_seg dksX2_goes_1 24 rfl rfl
theorem dksX2_goes_3 : cX2_goes.data.toList.drop 71 = dktX2_goes_3 := dk_seg dksX2_goes_2 24 rfl rfl
theorem dksX2_goes_4 : cX2_goes.data.toList.drop 93 = dktX2_goes_4 := dk_seg dksX2_goes_3 22 rfl rfl
theorem dksX2_goes_5 : cX2_goes.data.toList.drop 117 = dktX2_goes_5 := dk_seg dksX2_goes_4 24 rfl rfl
theorem dX2_goes_0 : decode cX2_goes 0 = .ok (.aload_n 0, 1) := dk_42 (dk_at dksX2_goes_0 0 rfl rfl)
theorem dX2_goes_1 : decode cX2_goes 1 = .ok (.getfield 103, 3) := dk_180 0 103 (dk_at dksX2_goes_0 1 rfl rfl)
theorem dX2_goes_4 : decode cX2_goes 4 = .ok (.iload_n 1, 1) := dk_27 (dk_at dksX2_goes_0 4 rfl rfl)
theorem dX2_goes_5 : decode cX2_goes 5 = .ok (.iaload, 1) := dk_46 (dk_at dksX2_goes_0 5 rfl rfl)
theorem dX2_goes_6 : decode cX2_goes 6 = .ok (.istore_n 2, 1) := dk_61 (dk_at dksX2_goes_0 6 rfl rfl)
theorem dX2_goes_7 : decode cX2_goes 7 = .ok (.iload_n 2, 1) := dk_28 (dk_at dksX2_goes_0 7 rfl rfl)
theorem dX2_goes_8 : decode cX2_goes 8 = .ok (.bipush 32, 2) := dk_16 32 (dk_at dksX2_goes_0 8 rfl rfl)
theorem dX2_goes_10 : decode cX2_goes 10 = .ok (.if_icmp .ne 5, 3) := dk_160 0 5 (dk_at dksX2_goes_0 10 rfl rfl)
theorem dX2_goes_13 : decode cX2_goes 13 = .ok (.iconst 1, 1) := dk_4 (dk_at dksX2_goes_0 13 rfl rfl)
theorem dX2_goes_14 : decode cX2_goes 14 = .ok (.ireturn, 1) := dk_172 (dk_at dksX2_goes_0 14 rfl rfl)
theorem dX2_goes_15 : decode cX2_goes 15 = .ok (.iconst 0, 1) := dk_3 (dk_at dksX2_goes_0 15 rfl rfl)
theorem dX2_goes_16 : decode cX2_goes 16 = .ok (.istore_n 3, 1) := dk_62 (dk_at dksX2_goes_0 16 rfl rfl)
theorem dX2_goes_17 : decode cX2_goes 17 = .ok (.iload_n 3, 1) := dk_29 (dk_at dksX2_goes_0 17 rfl rfl)
theorem dX2_goes_18 : decode cX2_goes 18 = .ok (.iload_n 1, 1) := dk_27 (dk_at dksX2_goes_0 18 rfl rfl)
theorem dX2_goes_19 : decode cX2_goes 19 = .ok (.if_icmp .ge 107, 3) := dk_162 0 107 (dk_at dksX2_goes_0 19 rfl rfl)
theorem dX2_goes_22 : decode cX2_goes 22 = .ok (.aload_n 0, 1) := dk_42 (dk_at dksX2_goes_0 22 rfl rfl)
theorem dX2_goes_23 : decode cX2_goes 23 = .ok (.getfield 103, 3) := dk_180 0 103 (dk_at dksX2_goes_1 0 rfl rfl)
theorem dX2_goes_26 : decode cX2_goes 26 = .ok (.iload_n 3, 1) := dk_29 (dk_at dksX2_goes_1 3 rfl rfl)
theorem dX2_goes_27 : decode cX2_goes 27 = .ok (.iaload, 1) := dk_46 (dk_at dksX2_goes_1 4 rfl rfl)
theorem dX2_goes_28 : decode cX2_goes 28 = .ok (.bipush 32, 2) := dk_16 32 (dk_at dksX2_goes_1 5 rfl rfl)
theorem dX2_goes_30 : decode cX2_goes 30 = .ok (.if_icmp .ne 6, 3) := dk_160 0 6 (dk_at dksX2_goes_1 7 rfl rfl)
theorem dX2_goes_33 : decode cX2_goes 33 = .ok (.goto 87, 3) := dk_167 0 87 (dk_at dksX2_goes_1 10 rfl rfl)
theorem dX2_goes_36 : decode cX2_goes 36 = .ok (.aload_n 0, 1) := dk_42 (dk_at dksX2_goes_1 13 rfl rfl)
theorem dX2_goes_37 : decode cX2_goes 37 = .ok (.getfield 103, 3) := dk_180 0 103 (dk_at dksX2_goes_1 14 rfl rfl)
theorem dX2_goes_40 : decode cX2_goes 40 = .ok (.iload_n 3, 1) := dk_29 (dk_at dksX2_goes_1 17 rfl rfl)
theorem dX2_goes_41 : decode cX2_goes 41 = .ok (.iaload, 1) := dk_46 (dk_at dksX2_goes_1 18 rfl rfl)
theorem dX2_goes_42 : decode cX2_goes 42 = .ok (.iload_n 2, 1) := dk_28 (dk_at dksX2_goes_1 19 rfl rfl)
theorem dX2_goes_43 : decode cX2_goes 43 = .ok (.if_icmp .eq 19, 3) := dk_159 0 19 (dk_at dksX2_goes_1 20 rfl rfl)
theorem dX2_goes_46 : decode cX2_goes 46 = .ok (.aload_n 0, 1) := dk_42 (dk_at dksX2_goes_1 23 rfl rfl)
theorem dX2_goes_47 : decode cX2_goes 47 = .ok (.iload_n 3, 1) := dk_29 (dk_at dksX2_goes_2 0 rfl rfl)
theorem dX2_goes_48 : decode cX2_goes 48 = .ok (.iload_n 1, 1) := dk_27 (dk_at dksX2_goes_2 1 rfl rfl)
theorem dX2_goes_49 : decode cX2_goes 49 = .ok (.aload_n 0, 1) := dk_42 (dk_at dksX2_goes_2 2 rfl rfl)
theorem dX2_goes_50 : decode cX2_goes 50 = .ok (.getfield 103, 3) := dk_180 0 103 (dk_at dksX2_goes_2 3 rfl rfl)
theorem dX2_goes_53 : decode cX2_goes 53 = .ok (.iload_n 3, 1) := dk_29 (dk_at dksX2_goes_2 6 rfl rfl)
theorem dX2_goes_54 : decode cX2_goes 54 = .ok (.iaload, 1) := dk_46 (dk_at dksX2_goes_2 7 rfl rfl)
theorem dX2_goes_55 : decode cX2_goes 55 = .ok (.iload_n 2, 1) := dk_28 (dk_at dksX2_goes_2 8 rfl rfl)
theorem dX2_goes_56 : decode cX2_goes 56 = .ok (.invokevirtual 425, 3) := dk_182 1 169 (dk_at dksX2_goes_2 9 rfl rfl)
theorem dX2_goes_59 : decode cX2_goes 59 = .ok (.ifCond .ne 5, 3) := dk_154 0 5 (dk_at dksX2_goes_2 12 rfl rfl)
theorem dX2_goes_62 : decode cX2_goes 62 = .ok (.iconst 0, 1) := dk_3 (dk_at dksX2_goes_2 15 rfl rfl)
theorem dX2_goes_63 : decode cX2_goes 63 = .ok (.ireturn, 1) := dk_172 (dk_at dksX2_goes_2 16 rfl rfl)
theorem dX2_goes_64 : decode cX2_goes 64 = .ok (.iload_n 3, 1) := dk_29 (dk_at dksX2_goes_2 17 rfl rfl)
theorem dX2_goes_65 : decode cX2_goes 65 = .ok (.iconst 1, 1) := dk_4 (dk_at dksX2_goes_2 18 rfl rfl)
theorem dX2_goes_66 : decode cX2_goes 66 = .ok (.iadd, 1) := dk_96 (dk_at dksX2_goes_2 19 rfl rfl)
theorem dX2_goes_67 : decode cX2_goes 67 = .ok (.istore 4, 2) := dk_54 4 (dk_at dksX2_goes_2 20 rfl rfl)
theorem dX2_goes_69 : decode cX2_goes 69 = .ok (.iload 4, 2) := dk_21 4 (dk_at dksX2_goes_2 22 rfl rfl)
theorem dX2_goes_71 : decode cX2_goes 71 = .ok (.iload_n 1, 1) := dk_27 (dk_at dksX2_goes_3 0 rfl rfl)
theorem dX2_goes_72 : decode cX2_goes 72 = .ok (.if_icmp .ge 48, 3) := dk_162 0 48 (dk_at dksX2_goes_3 1 rfl rfl)
theorem dX2_goes_75 : decode cX2_goes 75 = .ok (.aload_n 0, 1) := dk_42 (dk_at dksX2_goes_3 4 rfl rfl)
theorem dX2_goes_76 : decode cX2_goes 76 = .ok (.getfield 103, 3) := dk_180 0 103 (dk_at dksX2_goes_3 5 rfl rfl)
theorem dX2_goes_79 : decode cX2_goes 79 = .ok (.iload 4, 2) := dk_21 4 (dk_at dksX2_goes_3 8 rfl rfl)
theorem dX2_goes_81 : decode cX2_goes 81 = .ok (.iaload, 1) := dk_46 (dk_at dksX2_goes_3 10 rfl rfl)
theorem dX2_goes_82 : decode cX2_goes 82 = .ok (.bipush 32, 2) := dk_16 32 (dk_at dksX2_goes_3 11 rfl rfl)
theorem dX2_goes_84 : decode cX2_goes 84 = .ok (.if_icmp .eq 30, 3) := dk_159 0 30 (dk_at dksX2_goes_3 13 rfl rfl)
theorem dX2_goes_87 : decode cX2_goes 87 = .ok (.aload_n 0, 1) := dk_42 (dk_at dksX2_goes_3 16 rfl rfl)
theorem dX2_goes_88 : decode cX2_goes 88 = .ok (.iload_n 3, 1) := dk_29 (dk_at dksX2_goes_3 17 rfl rfl)
theorem dX2_goes_89 : decode cX2_goes 89 = .ok (.iload 4, 2) := dk_21 4 (dk_at dksX2_goes_3 18 rfl rfl)
theorem dX2_goes_91 : decode cX2_goes 91 = .ok (.iload_n 1, 1) := dk_27 (dk_at dksX2_goes_3 20 rfl rfl)
theorem dX2_goes_92 : decode cX2_goes 92 = .ok (.aload_n 0, 1) := dk_42 (dk_at dksX2_goes_3 21 rfl rfl)
theorem dX2_goes_93 : decode cX2_goes 93 = .ok (.getfield 103, 3) := dk_180 0 103 (dk_at dksX2_goes_4 0 rfl rfl)
theorem dX2_goes_96 : decode cX2_goes 96 = .ok (.iload_n 3, 1) := dk_29 (dk_at dksX2_goes_4 3 rfl rfl)
theorem dX2_goes_97 : decode cX2_goes 97 = .ok (.iaload, 1) := dk_46 (dk_at dksX2_goes_4 4 rfl rfl)
theorem dX2_goes_98 : decode cX2_goes 98 = .ok (.aload_n 0, 1) := dk_42 (dk_at dksX2_goes_4 5 rfl rfl)
theorem dX2_goes_99 : decode cX2_goes 99 = .ok (.getfield 103, 3) := dk_180 0 103 (dk_at dksX2_goes_4 6 rfl rfl)
theorem dX2_goes_102 : decode cX2_goes 102 = .ok (.iload 4, 2) := dk_21 4 (dk_at dksX2_goes_4 9 rfl rfl)
theorem dX2_goes_104 : decode cX2_goes 104 = .ok (.iaload, 1) := dk_46 (dk_at dksX2_goes_4 11 rfl rfl)
theorem dX2_goes_105 : decode cX2_goes 105 = .ok (.iload_n 2, 1) := dk_28 (dk_at dksX2_goes_4 12 rfl rfl)
theorem dX2_goes_106 : decode cX2_goes 106 = .ok (.invokevirtual 429, 3) := dk_182 1 173 (dk_at dksX2_goes_4 13 rfl rfl)
theorem dX2_goes_109 : decode cX2_goes 109 = .ok (.ifCond .ne 5, 3) := dk_154 0 5 (dk_at dksX2_goes_4 16 rfl rfl)
theorem dX2_goes_112 : decode cX2_goes 112 = .ok (.iconst 0, 1) := dk_3 (dk_at dksX2_goes_4 19 rfl rfl)
theorem dX2_goes_113 : decode cX2_goes 113 = .ok (.ireturn, 1) := dk_172 (dk_at dksX2_goes_4 20 rfl rfl)
theorem dX2_goes_114 : decode cX2_goes 114 = .ok (.iinc 4 1, 3) := dk_132 4 1 (dk_at dksX2_goes_4 21 rfl rfl)
theorem dX2_goes_117 : decode cX2_goes 117 = .ok (.goto (-48), 3) := dk_167 255 208 (dk_at dksX2_goes_5 0 rfl rfl)
theorem dX2_goes_120 : decode cX2_goes 120 = .ok (.iinc 3 1, 3) := dk_132 3 1 (dk_at dksX2_goes_5 3 rfl rfl)
theorem dX2_goes_123 : decode cX2_goes 123 = .ok (.goto (-106), 3) := dk_167 255 150 (dk_at dksX2_goes_5 6 rfl rfl)
theorem dX2_goes_126 : decode cX2_goes 126 = .ok (.iconst 1, 1) := dk_4 (dk_at dksX2_goes_5 9 rfl rfl)
theorem dX2_goes_127 : decode cX2_goes 127 = .ok (.ireturn, 1) := dk_172 (dk_at dksX2_goes_5 10 rfl rfl)
abbrev cX2_fit : ByteArray := prog_28_method_53_code
def yX2_fit : MethodName := ⟨RX2, "fit", "(IIII)Z"⟩
def dkwX2_fit_1 : List UInt8 := [184, 1, 158, 16, 10, 42, 180, 0, 20, 7, 46, 104, 163, 0, 7, 4, 167, 0, 4, 3, 172]
abbrev dktX2_fit_1 : List UInt8 := dkwX2_fit_1 ++ []
def dkwX2_fit_0 : List UInt8 := [42, 180, 0, 100, 16, 6, 27, 104, 28, 96, 46, 42, 180, 0, 97, 16, 32, 29, 104, 21, 4, 96, 46, 100]
abbrev dktX2_fit_0 : List UInt8 := dkwX2_fit_0 ++ dktX2_fit_1
theorem dksX2_fit_0 : cX2_fit.data.toList.drop 0 = dktX2_fit_0 := by decide +kernel
theorem dksX2_fit_1 : cX2_fit.data.toList.drop 24 = dktX2_fit_1 := dk_seg dksX2_fit_0 24 rfl rfl
theorem dX2_fit_0 : decode cX2_fit 0 = .ok (.aload_n 0, 1) := dk_42 (dk_at dksX2_fit_0 0 rfl rfl)
theorem dX2_fit_1 : decode cX2_fit 1 = .ok (.getfield 100, 3) := dk_180 0 100 (dk_at dksX2_fit_0 1 rfl rfl)
theorem dX2_fit_4 : decode cX2_fit 4 = .ok (.bipush 6, 2) := dk_16 6 (dk_at dksX2_fit_0 4 rfl rfl)
theorem dX2_fit_6 : decode cX2_fit 6 = .ok (.iload_n 1, 1) := dk_27 (dk_at dksX2_fit_0 6 rfl rfl)
theorem dX2_fit_7 : decode cX2_fit 7 = .ok (.imul, 1) := dk_104 (dk_at dksX2_fit_0 7 rfl rfl)
theorem dX2_fit_8 : decode cX2_fit 8 = .ok (.iload_n 2, 1) := dk_28 (dk_at dksX2_fit_0 8 rfl rfl)
theorem dX2_fit_9 : decode cX2_fit 9 = .ok (.iadd, 1) := dk_96 (dk_at dksX2_fit_0 9 rfl rfl)
theorem dX2_fit_10 : decode cX2_fit 10 = .ok (.iaload, 1) := dk_46 (dk_at dksX2_fit_0 10 rfl rfl)
theorem dX2_fit_11 : decode cX2_fit 11 = .ok (.aload_n 0, 1) := dk_42 (dk_at dksX2_fit_0 11 rfl rfl)
theorem dX2_fit_12 : decode cX2_fit 12 = .ok (.getfield 97, 3) := dk_180 0 97 (dk_at dksX2_fit_0 12 rfl rfl)
theorem dX2_fit_15 : decode cX2_fit 15 = .ok (.bipush 32, 2) := dk_16 32 (dk_at dksX2_fit_0 15 rfl rfl)
theorem dX2_fit_17 : decode cX2_fit 17 = .ok (.iload_n 3, 1) := dk_29 (dk_at dksX2_fit_0 17 rfl rfl)
theorem dX2_fit_18 : decode cX2_fit 18 = .ok (.imul, 1) := dk_104 (dk_at dksX2_fit_0 18 rfl rfl)
theorem dX2_fit_19 : decode cX2_fit 19 = .ok (.iload 4, 2) := dk_21 4 (dk_at dksX2_fit_0 19 rfl rfl)
theorem dX2_fit_21 : decode cX2_fit 21 = .ok (.iadd, 1) := dk_96 (dk_at dksX2_fit_0 21 rfl rfl)
theorem dX2_fit_22 : decode cX2_fit 22 = .ok (.iaload, 1) := dk_46 (dk_at dksX2_fit_0 22 rfl rfl)
theorem dX2_fit_23 : decode cX2_fit 23 = .ok (.isub, 1) := dk_100 (dk_at dksX2_fit_0 23 rfl rfl)
theorem dX2_fit_24 : decode cX2_fit 24 = .ok (.invokestatic 414, 3) := dk_184 1 158 (dk_at dksX2_fit_1 0 rfl rfl)
theorem dX2_fit_27 : decode cX2_fit 27 = .ok (.bipush 10, 2) := dk_16 10 (dk_at dksX2_fit_1 3 rfl rfl)
theorem dX2_fit_29 : decode cX2_fit 29 = .ok (.aload_n 0, 1) := dk_42 (dk_at dksX2_fit_1 5 rfl rfl)
theorem dX2_fit_30 : decode cX2_fit 30 = .ok (.getfield 20, 3) := dk_180 0 20 (dk_at dksX2_fit_1 6 rfl rfl)
theorem dX2_fit_33 : decode cX2_fit 33 = .ok (.iconst 4, 1) := dk_7 (dk_at dksX2_fit_1 9 rfl rfl)
theorem dX2_fit_34 : decode cX2_fit 34 = .ok (.iaload, 1) := dk_46 (dk_at dksX2_fit_1 10 rfl rfl)
theorem dX2_fit_35 : decode cX2_fit 35 = .ok (.imul, 1) := dk_104 (dk_at dksX2_fit_1 11 rfl rfl)
theorem dX2_fit_36 : decode cX2_fit 36 = .ok (.if_icmp .gt 7, 3) := dk_163 0 7 (dk_at dksX2_fit_1 12 rfl rfl)
theorem dX2_fit_39 : decode cX2_fit 39 = .ok (.iconst 1, 1) := dk_4 (dk_at dksX2_fit_1 15 rfl rfl)
theorem dX2_fit_40 : decode cX2_fit 40 = .ok (.goto 4, 3) := dk_167 0 4 (dk_at dksX2_fit_1 16 rfl rfl)
theorem dX2_fit_43 : decode cX2_fit 43 = .ok (.iconst 0, 1) := dk_3 (dk_at dksX2_fit_1 19 rfl rfl)
theorem dX2_fit_44 : decode cX2_fit 44 = .ok (.ireturn, 1) := dk_172 (dk_at dksX2_fit_1 20 rfl rfl)
abbrev cX2_much : ByteArray := prog_28_method_50_code
def yX2_much : MethodName := ⟨RX2, "much", "(I)I"⟩
def dkwX2_much_0 : List UInt8 := [26, 156, 0, 8, 26, 116, 167, 0, 4, 26, 172]
abbrev dktX2_much_0 : List UInt8 := dkwX2_much_0 ++ []
theorem dksX2_much_0 : cX2_much.data.toList.drop 0 = dktX2_much_0 := by decide +kernel
theorem dX2_much_0 : decode cX2_much 0 = .ok (.iload_n 0, 1) := dk_26 (dk_at dksX2_much_0 0 rfl rfl)
theorem dX2_much_1 : decode cX2_much 1 = .ok (.ifCond .ge 8, 3) := dk_156 0 8 (dk_at dksX2_much_0 1 rfl rfl)
theorem dX2_much_4 : decode cX2_much 4 = .ok (.iload_n 0, 1) := dk_26 (dk_at dksX2_much_0 4 rfl rfl)
theorem dX2_much_5 : decode cX2_much 5 = .ok (.ineg, 1) := dk_116 (dk_at dksX2_much_0 5 rfl rfl)
theorem dX2_much_6 : decode cX2_much 6 = .ok (.goto 4, 3) := dk_167 0 4 (dk_at dksX2_much_0 6 rfl rfl)
theorem dX2_much_9 : decode cX2_much 9 = .ok (.iload_n 0, 1) := dk_26 (dk_at dksX2_much_0 9 rfl rfl)
theorem dX2_much_10 : decode cX2_much 10 = .ok (.ireturn, 1) := dk_172 (dk_at dksX2_much_0 10 rfl rfl)
abbrev cX2_lieAlike : ByteArray := prog_28_method_56_code
def yX2_lieAlike : MethodName := ⟨RX2, "lieAlike", "(IIIIII)Z"⟩
def dkwX2_lieAlike_5 : List UInt8 := [184, 1, 161, 55, 9, 22, 7, 184, 1, 165, 22, 9, 184, 1, 165, 160, 0, 7, 4, 167, 0, 4, 3, 172]
abbrev dktX2_lieAlike_5 : List UInt8 := dkwX2_lieAlike_5 ++ []
def dkwX2_lieAlike_4 : List UInt8 := [180, 0, 32, 21, 4, 46, 100, 133, 42, 180, 0, 35, 21, 6, 46, 42, 180, 0, 35, 21, 4, 46, 100, 133]
abbrev dktX2_lieAlike_4 : List UInt8 := dkwX2_lieAlike_4 ++ dktX2_lieAlike_5
def dkwX2_lieAlike_3 : List UInt8 := [180, 0, 35, 21, 5, 46, 42, 180, 0, 35, 21, 4, 46, 100, 133, 42, 180, 0, 32, 21, 6, 46, 42]
abbrev dktX2_lieAlike_3 : List UInt8 := dkwX2_lieAlike_3 ++ dktX2_lieAlike_4
def dkwX2_lieAlike_2 : List UInt8 := [184, 1, 161, 55, 7, 42, 180, 0, 32, 21, 5, 46, 42, 180, 0, 32, 21, 4, 46, 100, 133, 42]
abbrev dktX2_lieAlike_2 : List UInt8 := dkwX2_lieAlike_2 ++ dktX2_lieAlike_3
def dkwX2_lieAlike_1 : List UInt8 := [42, 29, 182, 1, 146, 42, 27, 182, 1, 146, 100, 133, 42, 29, 182, 1, 149, 42, 27, 182, 1, 149, 100, 133]
abbrev dktX2_lieAlike_1 : List UInt8 := dkwX2_lieAlike_1 ++ dktX2_lieAlike_2
def dkwX2_lieAlike_0 : List UInt8 := [42, 28, 182, 1, 146, 42, 27, 182, 1, 146, 100, 133, 42, 28, 182, 1, 149, 42, 27, 182, 1, 149, 100, 133]
abbrev dktX2_lieAlike_0 : List UInt8 := dkwX2_lieAlike_0 ++ dktX2_lieAlike_1
theorem dksX2_lieAlike_0 : cX2_lieAlike.data.toList.drop 0 = dktX2_lieAlike_0 := by decide +kernel
theorem dksX2_lieAlike_1 : cX2_lieAlike.data.toList.drop 24 = dktX2_lieAlike_1 := dk_seg dksX2_lieAlike_0 24 rfl rfl
theorem dksX2_lieAlike_2 : cX2_lieAlike.data.toList.drop 48 = dktX2_lieAlike_2 := dk_seg dksX2_lieAlike_1 24 rfl rfl
theorem dksX2_lieAlike_3 : cX2_lieAlike.data.toList.drop 70 = dktX2_lieAlike_3 := dk_seg dksX2_lieAlike_2 22 rfl rfl
theorem dksX2_lieAlike_4 : cX2_lieAlike.data.toList.drop 93 = dktX2_lieAlike_4 := dk_seg dksX2_lieAlike_3 23 rfl rfl
theorem dksX2_lieAlike_5 : cX2_lieAlike.data.toList.drop 117 = dktX2_lieAlike_5 := dk_seg dksX2_lieAlike_4 24 rfl rfl
theorem dX2_lieAlike_0 : decode cX2_lieAlike 0 = .ok (.aload_n 0, 1) := dk_42 (dk_at dksX2_lieAlike_0 0 rfl rfl)
theorem dX2_lieAlike_1 : decode cX2_lieAlike 1 = .ok (.iload_n 2, 1) := dk_28 (dk_at dksX2_lieAlike_0 1 rfl rfl)
theorem dX2_lieAlike_2 : decode cX2_lieAlike 2 = .ok (.invokevirtual 402, 3) := dk_182 1 146 (dk_at dksX2_lieAlike_0 2 rfl rfl)
theorem dX2_lieAlike_5 : decode cX2_lieAlike 5 = .ok (.aload_n 0, 1) := dk_42 (dk_at dksX2_lieAlike_0 5 rfl rfl)
theorem dX2_lieAlike_6 : decode cX2_lieAlike 6 = .ok (.iload_n 1, 1) := dk_27 (dk_at dksX2_lieAlike_0 6 rfl rfl)
theorem dX2_lieAlike_7 : decode cX2_lieAlike 7 = .ok (.invokevirtual 402, 3) := dk_182 1 146 (dk_at dksX2_lieAlike_0 7 rfl rfl)
theorem dX2_lieAlike_10 : decode cX2_lieAlike 10 = .ok (.isub, 1) := dk_100 (dk_at dksX2_lieAlike_0 10 rfl rfl)
theorem dX2_lieAlike_11 : decode cX2_lieAlike 11 = .ok (.i2l, 1) := dk_133 (dk_at dksX2_lieAlike_0 11 rfl rfl)
theorem dX2_lieAlike_12 : decode cX2_lieAlike 12 = .ok (.aload_n 0, 1) := dk_42 (dk_at dksX2_lieAlike_0 12 rfl rfl)
theorem dX2_lieAlike_13 : decode cX2_lieAlike 13 = .ok (.iload_n 2, 1) := dk_28 (dk_at dksX2_lieAlike_0 13 rfl rfl)
theorem dX2_lieAlike_14 : decode cX2_lieAlike 14 = .ok (.invokevirtual 405, 3) := dk_182 1 149 (dk_at dksX2_lieAlike_0 14 rfl rfl)
theorem dX2_lieAlike_17 : decode cX2_lieAlike 17 = .ok (.aload_n 0, 1) := dk_42 (dk_at dksX2_lieAlike_0 17 rfl rfl)
theorem dX2_lieAlike_18 : decode cX2_lieAlike 18 = .ok (.iload_n 1, 1) := dk_27 (dk_at dksX2_lieAlike_0 18 rfl rfl)
theorem dX2_lieAlike_19 : decode cX2_lieAlike 19 = .ok (.invokevirtual 405, 3) := dk_182 1 149 (dk_at dksX2_lieAlike_0 19 rfl rfl)
theorem dX2_lieAlike_22 : decode cX2_lieAlike 22 = .ok (.isub, 1) := dk_100 (dk_at dksX2_lieAlike_0 22 rfl rfl)
theorem dX2_lieAlike_23 : decode cX2_lieAlike 23 = .ok (.i2l, 1) := dk_133 (dk_at dksX2_lieAlike_0 23 rfl rfl)
theorem dX2_lieAlike_24 : decode cX2_lieAlike 24 = .ok (.aload_n 0, 1) := dk_42 (dk_at dksX2_lieAlike_1 0 rfl rfl)
theorem dX2_lieAlike_25 : decode cX2_lieAlike 25 = .ok (.iload_n 3, 1) := dk_29 (dk_at dksX2_lieAlike_1 1 rfl rfl)
theorem dX2_lieAlike_26 : decode cX2_lieAlike 26 = .ok (.invokevirtual 402, 3) := dk_182 1 146 (dk_at dksX2_lieAlike_1 2 rfl rfl)
theorem dX2_lieAlike_29 : decode cX2_lieAlike 29 = .ok (.aload_n 0, 1) := dk_42 (dk_at dksX2_lieAlike_1 5 rfl rfl)
theorem dX2_lieAlike_30 : decode cX2_lieAlike 30 = .ok (.iload_n 1, 1) := dk_27 (dk_at dksX2_lieAlike_1 6 rfl rfl)
theorem dX2_lieAlike_31 : decode cX2_lieAlike 31 = .ok (.invokevirtual 402, 3) := dk_182 1 146 (dk_at dksX2_lieAlike_1 7 rfl rfl)
theorem dX2_lieAlike_34 : decode cX2_lieAlike 34 = .ok (.isub, 1) := dk_100 (dk_at dksX2_lieAlike_1 10 rfl rfl)
theorem dX2_lieAlike_35 : decode cX2_lieAlike 35 = .ok (.i2l, 1) := dk_133 (dk_at dksX2_lieAlike_1 11 rfl rfl)
theorem dX2_lieAlike_36 : decode cX2_lieAlike 36 = .ok (.aload_n 0, 1) := dk_42 (dk_at dksX2_lieAlike_1 12 rfl rfl)
theorem dX2_lieAlike_37 : decode cX2_lieAlike 37 = .ok (.iload_n 3, 1) := dk_29 (dk_at dksX2_lieAlike_1 13 rfl rfl)
theorem dX2_lieAlike_38 : decode cX2_lieAlike 38 = .ok (.invokevirtual 405, 3) := dk_182 1 149 (dk_at dksX2_lieAlike_1 14 rfl rfl)
theorem dX2_lieAlike_41 : decode cX2_lieAlike 41 = .ok (.aload_n 0, 1) := dk_42 (dk_at dksX2_lieAlike_1 17 rfl rfl)
theorem dX2_lieAlike_42 : decode cX2_lieAlike 42 = .ok (.iload_n 1, 1) := dk_27 (dk_at dksX2_lieAlike_1 18 rfl rfl)
theorem dX2_lieAlike_43 : decode cX2_lieAlike 43 = .ok (.invokevirtual 405, 3) := dk_182 1 149 (dk_at dksX2_lieAlike_1 19 rfl rfl)
theorem dX2_lieAlike_46 : decode cX2_lieAlike 46 = .ok (.isub, 1) := dk_100 (dk_at dksX2_lieAlike_1 22 rfl rfl)
theorem dX2_lieAlike_47 : decode cX2_lieAlike 47 = .ok (.i2l, 1) := dk_133 (dk_at dksX2_lieAlike_1 23 rfl rfl)
theorem dX2_lieAlike_48 : decode cX2_lieAlike 48 = .ok (.invokestatic 417, 3) := dk_184 1 161 (dk_at dksX2_lieAlike_2 0 rfl rfl)
theorem dX2_lieAlike_51 : decode cX2_lieAlike 51 = .ok (.lstore 7, 2) := dk_55 7 (dk_at dksX2_lieAlike_2 3 rfl rfl)
theorem dX2_lieAlike_53 : decode cX2_lieAlike 53 = .ok (.aload_n 0, 1) := dk_42 (dk_at dksX2_lieAlike_2 5 rfl rfl)
theorem dX2_lieAlike_54 : decode cX2_lieAlike 54 = .ok (.getfield 32, 3) := dk_180 0 32 (dk_at dksX2_lieAlike_2 6 rfl rfl)
theorem dX2_lieAlike_57 : decode cX2_lieAlike 57 = .ok (.iload 5, 2) := dk_21 5 (dk_at dksX2_lieAlike_2 9 rfl rfl)
theorem dX2_lieAlike_59 : decode cX2_lieAlike 59 = .ok (.iaload, 1) := dk_46 (dk_at dksX2_lieAlike_2 11 rfl rfl)
theorem dX2_lieAlike_60 : decode cX2_lieAlike 60 = .ok (.aload_n 0, 1) := dk_42 (dk_at dksX2_lieAlike_2 12 rfl rfl)
theorem dX2_lieAlike_61 : decode cX2_lieAlike 61 = .ok (.getfield 32, 3) := dk_180 0 32 (dk_at dksX2_lieAlike_2 13 rfl rfl)
theorem dX2_lieAlike_64 : decode cX2_lieAlike 64 = .ok (.iload 4, 2) := dk_21 4 (dk_at dksX2_lieAlike_2 16 rfl rfl)
theorem dX2_lieAlike_66 : decode cX2_lieAlike 66 = .ok (.iaload, 1) := dk_46 (dk_at dksX2_lieAlike_2 18 rfl rfl)
theorem dX2_lieAlike_67 : decode cX2_lieAlike 67 = .ok (.isub, 1) := dk_100 (dk_at dksX2_lieAlike_2 19 rfl rfl)
theorem dX2_lieAlike_68 : decode cX2_lieAlike 68 = .ok (.i2l, 1) := dk_133 (dk_at dksX2_lieAlike_2 20 rfl rfl)
theorem dX2_lieAlike_69 : decode cX2_lieAlike 69 = .ok (.aload_n 0, 1) := dk_42 (dk_at dksX2_lieAlike_2 21 rfl rfl)
theorem dX2_lieAlike_70 : decode cX2_lieAlike 70 = .ok (.getfield 35, 3) := dk_180 0 35 (dk_at dksX2_lieAlike_3 0 rfl rfl)
theorem dX2_lieAlike_73 : decode cX2_lieAlike 73 = .ok (.iload 5, 2) := dk_21 5 (dk_at dksX2_lieAlike_3 3 rfl rfl)
theorem dX2_lieAlike_75 : decode cX2_lieAlike 75 = .ok (.iaload, 1) := dk_46 (dk_at dksX2_lieAlike_3 5 rfl rfl)
theorem dX2_lieAlike_76 : decode cX2_lieAlike 76 = .ok (.aload_n 0, 1) := dk_42 (dk_at dksX2_lieAlike_3 6 rfl rfl)
theorem dX2_lieAlike_77 : decode cX2_lieAlike 77 = .ok (.getfield 35, 3) := dk_180 0 35 (dk_at dksX2_lieAlike_3 7 rfl rfl)
theorem dX2_lieAlike_80 : decode cX2_lieAlike 80 = .ok (.iload 4, 2) := dk_21 4 (dk_at dksX2_lieAlike_3 10 rfl rfl)
theorem dX2_lieAlike_82 : decode cX2_lieAlike 82 = .ok (.iaload, 1) := dk_46 (dk_at dksX2_lieAlike_3 12 rfl rfl)
theorem dX2_lieAlike_83 : decode cX2_lieAlike 83 = .ok (.isub, 1) := dk_100 (dk_at dksX2_lieAlike_3 13 rfl rfl)
theorem dX2_lieAlike_84 : decode cX2_lieAlike 84 = .ok (.i2l, 1) := dk_133 (dk_at dksX2_lieAlike_3 14 rfl rfl)
theorem dX2_lieAlike_85 : decode cX2_lieAlike 85 = .ok (.aload_n 0, 1) := dk_42 (dk_at dksX2_lieAlike_3 15 rfl rfl)
theorem dX2_lieAlike_86 : decode cX2_lieAlike 86 = .ok (.getfield 32, 3) := dk_180 0 32 (dk_at dksX2_lieAlike_3 16 rfl rfl)
theorem dX2_lieAlike_89 : decode cX2_lieAlike 89 = .ok (.iload 6, 2) := dk_21 6 (dk_at dksX2_lieAlike_3 19 rfl rfl)
theorem dX2_lieAlike_91 : decode cX2_lieAlike 91 = .ok (.iaload, 1) := dk_46 (dk_at dksX2_lieAlike_3 21 rfl rfl)
theorem dX2_lieAlike_92 : decode cX2_lieAlike 92 = .ok (.aload_n 0, 1) := dk_42 (dk_at dksX2_lieAlike_3 22 rfl rfl)
theorem dX2_lieAlike_93 : decode cX2_lieAlike 93 = .ok (.getfield 32, 3) := dk_180 0 32 (dk_at dksX2_lieAlike_4 0 rfl rfl)
theorem dX2_lieAlike_96 : decode cX2_lieAlike 96 = .ok (.iload 4, 2) := dk_21 4 (dk_at dksX2_lieAlike_4 3 rfl rfl)
theorem dX2_lieAlike_98 : decode cX2_lieAlike 98 = .ok (.iaload, 1) := dk_46 (dk_at dksX2_lieAlike_4 5 rfl rfl)
theorem dX2_lieAlike_99 : decode cX2_lieAlike 99 = .ok (.isub, 1) := dk_100 (dk_at dksX2_lieAlike_4 6 rfl rfl)
theorem dX2_lieAlike_100 : decode cX2_lieAlike 100 = .ok (.i2l, 1) := dk_133 (dk_at dksX2_lieAlike_4 7 rfl rfl)
theorem dX2_lieAlike_101 : decode cX2_lieAlike 101 = .ok (.aload_n 0, 1) := dk_42 (dk_at dksX2_lieAlike_4 8 rfl rfl)
theorem dX2_lieAlike_102 : decode cX2_lieAlike 102 = .ok (.getfield 35, 3) := dk_180 0 35 (dk_at dksX2_lieAlike_4 9 rfl rfl)
theorem dX2_lieAlike_105 : decode cX2_lieAlike 105 = .ok (.iload 6, 2) := dk_21 6 (dk_at dksX2_lieAlike_4 12 rfl rfl)
theorem dX2_lieAlike_107 : decode cX2_lieAlike 107 = .ok (.iaload, 1) := dk_46 (dk_at dksX2_lieAlike_4 14 rfl rfl)
theorem dX2_lieAlike_108 : decode cX2_lieAlike 108 = .ok (.aload_n 0, 1) := dk_42 (dk_at dksX2_lieAlike_4 15 rfl rfl)
theorem dX2_lieAlike_109 : decode cX2_lieAlike 109 = .ok (.getfield 35, 3) := dk_180 0 35 (dk_at dksX2_lieAlike_4 16 rfl rfl)
theorem dX2_lieAlike_112 : decode cX2_lieAlike 112 = .ok (.iload 4, 2) := dk_21 4 (dk_at dksX2_lieAlike_4 19 rfl rfl)
theorem dX2_lieAlike_114 : decode cX2_lieAlike 114 = .ok (.iaload, 1) := dk_46 (dk_at dksX2_lieAlike_4 21 rfl rfl)
theorem dX2_lieAlike_115 : decode cX2_lieAlike 115 = .ok (.isub, 1) := dk_100 (dk_at dksX2_lieAlike_4 22 rfl rfl)
theorem dX2_lieAlike_116 : decode cX2_lieAlike 116 = .ok (.i2l, 1) := dk_133 (dk_at dksX2_lieAlike_4 23 rfl rfl)
theorem dX2_lieAlike_117 : decode cX2_lieAlike 117 = .ok (.invokestatic 417, 3) := dk_184 1 161 (dk_at dksX2_lieAlike_5 0 rfl rfl)
theorem dX2_lieAlike_120 : decode cX2_lieAlike 120 = .ok (.lstore 9, 2) := dk_55 9 (dk_at dksX2_lieAlike_5 3 rfl rfl)
theorem dX2_lieAlike_122 : decode cX2_lieAlike 122 = .ok (.lload 7, 2) := dk_22 7 (dk_at dksX2_lieAlike_5 5 rfl rfl)
theorem dX2_lieAlike_124 : decode cX2_lieAlike 124 = .ok (.invokestatic 421, 3) := dk_184 1 165 (dk_at dksX2_lieAlike_5 7 rfl rfl)
theorem dX2_lieAlike_127 : decode cX2_lieAlike 127 = .ok (.lload 9, 2) := dk_22 9 (dk_at dksX2_lieAlike_5 10 rfl rfl)
theorem dX2_lieAlike_129 : decode cX2_lieAlike 129 = .ok (.invokestatic 421, 3) := dk_184 1 165 (dk_at dksX2_lieAlike_5 12 rfl rfl)
theorem dX2_lieAlike_132 : decode cX2_lieAlike 132 = .ok (.if_icmp .ne 7, 3) := dk_160 0 7 (dk_at dksX2_lieAlike_5 15 rfl rfl)
theorem dX2_lieAlike_135 : decode cX2_lieAlike 135 = .ok (.iconst 1, 1) := dk_4 (dk_at dksX2_lieAlike_5 18 rfl rfl)
theorem dX2_lieAlike_136 : decode cX2_lieAlike 136 = .ok (.goto 4, 3) := dk_167 0 4 (dk_at dksX2_lieAlike_5 19 rfl rfl)
theorem dX2_lieAlike_139 : decode cX2_lieAlike 139 = .ok (.iconst 0, 1) := dk_3 (dk_at dksX2_lieAlike_5 22 rfl rfl)
theorem dX2_lieAlike_140 : decode cX2_lieAlike 140 = .ok (.ireturn, 1) := dk_172 (dk_at dksX2_lieAlike_5 23 rfl rfl)
abbrev cX2_cross : ByteArray := prog_28_method_55_code
def yX2_cross : MethodName := ⟨RX2, "cross", "(JJJJ)J"⟩
def dkwX2_cross_0 : List UInt8 := [30, 22, 6, 105, 32, 22, 4, 105, 101, 173]
abbrev dktX2_cross_0 : List UInt8 := dkwX2_cross_0 ++ []
theorem dksX2_cross_0 : cX2_cross.data.toList.drop 0 = dktX2_cross_0 := by decide +kernel
theorem dX2_cross_0 : decode cX2_cross 0 = .ok (.lload_n 0, 1) := dk_30 (dk_at dksX2_cross_0 0 rfl rfl)
theorem dX2_cross_1 : decode cX2_cross 1 = .ok (.lload 6, 2) := dk_22 6 (dk_at dksX2_cross_0 1 rfl rfl)
theorem dX2_cross_3 : decode cX2_cross 3 = .ok (.lmul, 1) := dk_105 (dk_at dksX2_cross_0 3 rfl rfl)
theorem dX2_cross_4 : decode cX2_cross 4 = .ok (.lload_n 2, 1) := dk_32 (dk_at dksX2_cross_0 4 rfl rfl)
theorem dX2_cross_5 : decode cX2_cross 5 = .ok (.lload 4, 2) := dk_22 4 (dk_at dksX2_cross_0 5 rfl rfl)
theorem dX2_cross_7 : decode cX2_cross 7 = .ok (.lmul, 1) := dk_105 (dk_at dksX2_cross_0 7 rfl rfl)
theorem dX2_cross_8 : decode cX2_cross 8 = .ok (.lsub, 1) := dk_101 (dk_at dksX2_cross_0 8 rfl rfl)
theorem dX2_cross_9 : decode cX2_cross 9 = .ok (.lreturn, 1) := dk_173 (dk_at dksX2_cross_0 9 rfl rfl)
abbrev cX2_sign : ByteArray := prog_28_method_54_code
def yX2_sign : MethodName := ⟨RX2, "sign", "(J)I"⟩
def dkwX2_sign_0 : List UInt8 := [30, 9, 148, 158, 0, 7, 4, 167, 0, 14, 30, 9, 148, 156, 0, 7, 2, 167, 0, 4, 3, 172]
abbrev dktX2_sign_0 : List UInt8 := dkwX2_sign_0 ++ []
theorem dksX2_sign_0 : cX2_sign.data.toList.drop 0 = dktX2_sign_0 := by decide +kernel
theorem dX2_sign_0 : decode cX2_sign 0 = .ok (.lload_n 0, 1) := dk_30 (dk_at dksX2_sign_0 0 rfl rfl)
theorem dX2_sign_1 : decode cX2_sign 1 = .ok (.lconst 0, 1) := dk_9 (dk_at dksX2_sign_0 1 rfl rfl)
theorem dX2_sign_2 : decode cX2_sign 2 = .ok (.lcmp, 1) := dk_148 (dk_at dksX2_sign_0 2 rfl rfl)
theorem dX2_sign_3 : decode cX2_sign 3 = .ok (.ifCond .le 7, 3) := dk_158 0 7 (dk_at dksX2_sign_0 3 rfl rfl)
theorem dX2_sign_6 : decode cX2_sign 6 = .ok (.iconst 1, 1) := dk_4 (dk_at dksX2_sign_0 6 rfl rfl)
theorem dX2_sign_7 : decode cX2_sign 7 = .ok (.goto 14, 3) := dk_167 0 14 (dk_at dksX2_sign_0 7 rfl rfl)
theorem dX2_sign_10 : decode cX2_sign 10 = .ok (.lload_n 0, 1) := dk_30 (dk_at dksX2_sign_0 10 rfl rfl)
theorem dX2_sign_11 : decode cX2_sign 11 = .ok (.lconst 0, 1) := dk_9 (dk_at dksX2_sign_0 11 rfl rfl)
theorem dX2_sign_12 : decode cX2_sign 12 = .ok (.lcmp, 1) := dk_148 (dk_at dksX2_sign_0 12 rfl rfl)
theorem dX2_sign_13 : decode cX2_sign 13 = .ok (.ifCond .ge 7, 3) := dk_156 0 7 (dk_at dksX2_sign_0 13 rfl rfl)
theorem dX2_sign_16 : decode cX2_sign 16 = .ok (.iconst (-1), 1) := dk_2 (dk_at dksX2_sign_0 16 rfl rfl)
theorem dX2_sign_17 : decode cX2_sign 17 = .ok (.goto 4, 3) := dk_167 0 4 (dk_at dksX2_sign_0 17 rfl rfl)
theorem dX2_sign_20 : decode cX2_sign 20 = .ok (.iconst 0, 1) := dk_3 (dk_at dksX2_sign_0 20 rfl rfl)
theorem dX2_sign_21 : decode cX2_sign 21 = .ok (.ireturn, 1) := dk_172 (dk_at dksX2_sign_0 21 rfl rfl)
abbrev cX2_named : ByteArray := prog_28_method_65_code
def yX2_named : MethodName := ⟨RX2, "named", "(IIII)I"⟩
def dkwX2_named_1 : List UInt8 := [182, 1, 205, 154, 0, 5, 2, 172, 42, 180, 0, 106, 16, 6, 28, 104, 29, 96, 46, 172]
abbrev dktX2_named_1 : List UInt8 := dkwX2_named_1 ++ []
def dkwX2_named_0 : List UInt8 := [29, 16, 6, 184, 1, 93, 153, 0, 23, 42, 27, 28, 21, 4, 182, 1, 201, 153, 0, 12, 42, 28, 29]
abbrev dktX2_named_0 : List UInt8 := dkwX2_named_0 ++ dktX2_named_1
theorem dksX2_named_0 : cX2_named.data.toList.drop 0 = dktX2_named_0 := by decide +kernel
theorem dksX2_named_1 : cX2_named.data.toList.drop 23 = dktX2_named_1 := dk_seg dksX2_named_0 23 rfl rfl
theorem dX2_named_0 : decode cX2_named 0 = .ok (.iload_n 3, 1) := dk_29 (dk_at dksX2_named_0 0 rfl rfl)
theorem dX2_named_1 : decode cX2_named 1 = .ok (.bipush 6, 2) := dk_16 6 (dk_at dksX2_named_0 1 rfl rfl)
theorem dX2_named_3 : decode cX2_named 3 = .ok (.invokestatic 349, 3) := dk_184 1 93 (dk_at dksX2_named_0 3 rfl rfl)
theorem dX2_named_6 : decode cX2_named 6 = .ok (.ifCond .eq 23, 3) := dk_153 0 23 (dk_at dksX2_named_0 6 rfl rfl)
theorem dX2_named_9 : decode cX2_named 9 = .ok (.aload_n 0, 1) := dk_42 (dk_at dksX2_named_0 9 rfl rfl)
theorem dX2_named_10 : decode cX2_named 10 = .ok (.iload_n 1, 1) := dk_27 (dk_at dksX2_named_0 10 rfl rfl)
theorem dX2_named_11 : decode cX2_named 11 = .ok (.iload_n 2, 1) := dk_28 (dk_at dksX2_named_0 11 rfl rfl)
theorem dX2_named_12 : decode cX2_named 12 = .ok (.iload 4, 2) := dk_21 4 (dk_at dksX2_named_0 12 rfl rfl)
theorem dX2_named_14 : decode cX2_named 14 = .ok (.invokevirtual 457, 3) := dk_182 1 201 (dk_at dksX2_named_0 14 rfl rfl)
theorem dX2_named_17 : decode cX2_named 17 = .ok (.ifCond .eq 12, 3) := dk_153 0 12 (dk_at dksX2_named_0 17 rfl rfl)
theorem dX2_named_20 : decode cX2_named 20 = .ok (.aload_n 0, 1) := dk_42 (dk_at dksX2_named_0 20 rfl rfl)
theorem dX2_named_21 : decode cX2_named 21 = .ok (.iload_n 2, 1) := dk_28 (dk_at dksX2_named_0 21 rfl rfl)
theorem dX2_named_22 : decode cX2_named 22 = .ok (.iload_n 3, 1) := dk_29 (dk_at dksX2_named_0 22 rfl rfl)
theorem dX2_named_23 : decode cX2_named 23 = .ok (.invokevirtual 461, 3) := dk_182 1 205 (dk_at dksX2_named_1 0 rfl rfl)
theorem dX2_named_26 : decode cX2_named 26 = .ok (.ifCond .ne 5, 3) := dk_154 0 5 (dk_at dksX2_named_1 3 rfl rfl)
theorem dX2_named_29 : decode cX2_named 29 = .ok (.iconst (-1), 1) := dk_2 (dk_at dksX2_named_1 6 rfl rfl)
theorem dX2_named_30 : decode cX2_named 30 = .ok (.ireturn, 1) := dk_172 (dk_at dksX2_named_1 7 rfl rfl)
theorem dX2_named_31 : decode cX2_named 31 = .ok (.aload_n 0, 1) := dk_42 (dk_at dksX2_named_1 8 rfl rfl)
theorem dX2_named_32 : decode cX2_named 32 = .ok (.getfield 106, 3) := dk_180 0 106 (dk_at dksX2_named_1 9 rfl rfl)
theorem dX2_named_35 : decode cX2_named 35 = .ok (.bipush 6, 2) := dk_16 6 (dk_at dksX2_named_1 12 rfl rfl)
theorem dX2_named_37 : decode cX2_named 37 = .ok (.iload_n 2, 1) := dk_28 (dk_at dksX2_named_1 14 rfl rfl)
theorem dX2_named_38 : decode cX2_named 38 = .ok (.imul, 1) := dk_104 (dk_at dksX2_named_1 15 rfl rfl)
theorem dX2_named_39 : decode cX2_named 39 = .ok (.iload_n 3, 1) := dk_29 (dk_at dksX2_named_1 16 rfl rfl)
theorem dX2_named_40 : decode cX2_named 40 = .ok (.iadd, 1) := dk_96 (dk_at dksX2_named_1 17 rfl rfl)
theorem dX2_named_41 : decode cX2_named 41 = .ok (.iaload, 1) := dk_46 (dk_at dksX2_named_1 18 rfl rfl)
theorem dX2_named_42 : decode cX2_named 42 = .ok (.ireturn, 1) := dk_172 (dk_at dksX2_named_1 19 rfl rfl)
abbrev cX2_hasNaming : ByteArray := prog_28_method_63_code
def yX2_hasNaming : MethodName := ⟨RX2, "hasNaming", "(III)Z"⟩
def dkwX2_hasNaming_1 : List UInt8 := [180, 1, 177, 162, 0, 7, 4, 167, 0, 4, 3, 172]
abbrev dktX2_hasNaming_1 : List UInt8 := dkwX2_hasNaming_1 ++ []
def dkwX2_hasNaming_0 : List UInt8 := [42, 27, 29, 182, 1, 117, 153, 0, 7, 28, 156, 0, 5, 3, 172, 42, 27, 29, 182, 1, 198, 28, 42]
abbrev dktX2_hasNaming_0 : List UInt8 := dkwX2_hasNaming_0 ++ dktX2_hasNaming_1
theorem dksX2_hasNaming_0 : cX2_hasNaming.data.toList.drop 0 = dktX2_hasNaming_0 := by decide +kernel
theorem dksX2_hasNaming_1 : cX2_hasNaming.data.toList.drop 23 = dktX2_hasNaming_1 := dk_seg dksX2_hasNaming_0 23 rfl rfl
theorem dX2_hasNaming_0 : decode cX2_hasNaming 0 = .ok (.aload_n 0, 1) := dk_42 (dk_at dksX2_hasNaming_0 0 rfl rfl)
theorem dX2_hasNaming_1 : decode cX2_hasNaming 1 = .ok (.iload_n 1, 1) := dk_27 (dk_at dksX2_hasNaming_0 1 rfl rfl)
theorem dX2_hasNaming_2 : decode cX2_hasNaming 2 = .ok (.iload_n 3, 1) := dk_29 (dk_at dksX2_hasNaming_0 2 rfl rfl)
theorem dX2_hasNaming_3 : decode cX2_hasNaming 3 = .ok (.invokevirtual 373, 3) := dk_182 1 117 (dk_at dksX2_hasNaming_0 3 rfl rfl)
theorem dX2_hasNaming_6 : decode cX2_hasNaming 6 = .ok (.ifCond .eq 7, 3) := dk_153 0 7 (dk_at dksX2_hasNaming_0 6 rfl rfl)
theorem dX2_hasNaming_9 : decode cX2_hasNaming 9 = .ok (.iload_n 2, 1) := dk_28 (dk_at dksX2_hasNaming_0 9 rfl rfl)
theorem dX2_hasNaming_10 : decode cX2_hasNaming 10 = .ok (.ifCond .ge 5, 3) := dk_156 0 5 (dk_at dksX2_hasNaming_0 10 rfl rfl)
theorem dX2_hasNaming_13 : decode cX2_hasNaming 13 = .ok (.iconst 0, 1) := dk_3 (dk_at dksX2_hasNaming_0 13 rfl rfl)
theorem dX2_hasNaming_14 : decode cX2_hasNaming 14 = .ok (.ireturn, 1) := dk_172 (dk_at dksX2_hasNaming_0 14 rfl rfl)
theorem dX2_hasNaming_15 : decode cX2_hasNaming 15 = .ok (.aload_n 0, 1) := dk_42 (dk_at dksX2_hasNaming_0 15 rfl rfl)
theorem dX2_hasNaming_16 : decode cX2_hasNaming 16 = .ok (.iload_n 1, 1) := dk_27 (dk_at dksX2_hasNaming_0 16 rfl rfl)
theorem dX2_hasNaming_17 : decode cX2_hasNaming 17 = .ok (.iload_n 3, 1) := dk_29 (dk_at dksX2_hasNaming_0 17 rfl rfl)
theorem dX2_hasNaming_18 : decode cX2_hasNaming 18 = .ok (.invokevirtual 454, 3) := dk_182 1 198 (dk_at dksX2_hasNaming_0 18 rfl rfl)
theorem dX2_hasNaming_21 : decode cX2_hasNaming 21 = .ok (.iload_n 2, 1) := dk_28 (dk_at dksX2_hasNaming_0 21 rfl rfl)
theorem dX2_hasNaming_22 : decode cX2_hasNaming 22 = .ok (.aload_n 0, 1) := dk_42 (dk_at dksX2_hasNaming_0 22 rfl rfl)
theorem dX2_hasNaming_23 : decode cX2_hasNaming 23 = .ok (.getfield 433, 3) := dk_180 1 177 (dk_at dksX2_hasNaming_1 0 rfl rfl)
theorem dX2_hasNaming_26 : decode cX2_hasNaming 26 = .ok (.if_icmp .ge 7, 3) := dk_162 0 7 (dk_at dksX2_hasNaming_1 3 rfl rfl)
theorem dX2_hasNaming_29 : decode cX2_hasNaming 29 = .ok (.iconst 1, 1) := dk_4 (dk_at dksX2_hasNaming_1 6 rfl rfl)
theorem dX2_hasNaming_30 : decode cX2_hasNaming 30 = .ok (.goto 4, 3) := dk_167 0 4 (dk_at dksX2_hasNaming_1 7 rfl rfl)
theorem dX2_hasNaming_33 : decode cX2_hasNaming 33 = .ok (.iconst 0, 1) := dk_3 (dk_at dksX2_hasNaming_1 10 rfl rfl)
theorem dX2_hasNaming_34 : decode cX2_hasNaming 34 = .ok (.ireturn, 1) := dk_172 (dk_at dksX2_hasNaming_1 11 rfl rfl)
abbrev cX2_isNamed : ByteArray := prog_28_method_64_code
def yX2_isNamed : MethodName := ⟨RX2, "isNamed", "(II)Z"⟩
def dkwX2_isNamed_0 : List UInt8 := [42, 180, 0, 106, 16, 6, 27, 104, 28, 96, 46, 16, 32, 159, 0, 7, 4, 167, 0, 4, 3, 172]
abbrev dktX2_isNamed_0 : List UInt8 := dkwX2_isNamed_0 ++ []
theorem dksX2_isNamed_0 : cX2_isNamed.data.toList.drop 0 = dktX2_isNamed_0 := by decide +kernel
theorem dX2_isNamed_0 : decode cX2_isNamed 0 = .ok (.aload_n 0, 1) := dk_42 (dk_at dksX2_isNamed_0 0 rfl rfl)
theorem dX2_isNamed_1 : decode cX2_isNamed 1 = .ok (.getfield 106, 3) := dk_180 0 106 (dk_at dksX2_isNamed_0 1 rfl rfl)
theorem dX2_isNamed_4 : decode cX2_isNamed 4 = .ok (.bipush 6, 2) := dk_16 6 (dk_at dksX2_isNamed_0 4 rfl rfl)
theorem dX2_isNamed_6 : decode cX2_isNamed 6 = .ok (.iload_n 1, 1) := dk_27 (dk_at dksX2_isNamed_0 6 rfl rfl)
theorem dX2_isNamed_7 : decode cX2_isNamed 7 = .ok (.imul, 1) := dk_104 (dk_at dksX2_isNamed_0 7 rfl rfl)
theorem dX2_isNamed_8 : decode cX2_isNamed 8 = .ok (.iload_n 2, 1) := dk_28 (dk_at dksX2_isNamed_0 8 rfl rfl)
theorem dX2_isNamed_9 : decode cX2_isNamed 9 = .ok (.iadd, 1) := dk_96 (dk_at dksX2_isNamed_0 9 rfl rfl)
theorem dX2_isNamed_10 : decode cX2_isNamed 10 = .ok (.iaload, 1) := dk_46 (dk_at dksX2_isNamed_0 10 rfl rfl)
theorem dX2_isNamed_11 : decode cX2_isNamed 11 = .ok (.bipush 32, 2) := dk_16 32 (dk_at dksX2_isNamed_0 11 rfl rfl)
theorem dX2_isNamed_13 : decode cX2_isNamed 13 = .ok (.if_icmp .eq 7, 3) := dk_159 0 7 (dk_at dksX2_isNamed_0 13 rfl rfl)
theorem dX2_isNamed_16 : decode cX2_isNamed 16 = .ok (.iconst 1, 1) := dk_4 (dk_at dksX2_isNamed_0 16 rfl rfl)
theorem dX2_isNamed_17 : decode cX2_isNamed 17 = .ok (.goto 4, 3) := dk_167 0 4 (dk_at dksX2_isNamed_0 17 rfl rfl)
theorem dX2_isNamed_20 : decode cX2_isNamed 20 = .ok (.iconst 0, 1) := dk_3 (dk_at dksX2_isNamed_0 20 rfl rfl)
theorem dX2_isNamed_21 : decode cX2_isNamed 21 = .ok (.ireturn, 1) := dk_172 (dk_at dksX2_isNamed_0 21 rfl rfl)
abbrev cX2_odds : ByteArray := prog_28_method_70_code
def yX2_odds : MethodName := ⟨RX2, "odds", "(IIII)J"⟩
def dkwX2_odds_1 : List UInt8 := [42, 28, 182, 1, 227, 29, 154, 0, 10, 42, 180, 1, 212, 167, 0, 7, 42, 180, 1, 215, 173]
abbrev dktX2_odds_1 : List UInt8 := dkwX2_odds_1 ++ []
def dkwX2_odds_0 : List UInt8 := [29, 155, 0, 19, 29, 4, 163, 0, 14, 42, 27, 28, 21, 4, 182, 1, 201, 154, 0, 7, 20, 1, 225, 173]
abbrev dktX2_odds_0 : List UInt8 := dkwX2_odds_0 ++ dktX2_odds_1
theorem dksX2_odds_0 : cX2_odds.data.toList.drop 0 = dktX2_odds_0 := by decide +kernel
theorem dksX2_odds_1 : cX2_odds.data.toList.drop 24 = dktX2_odds_1 := dk_seg dksX2_odds_0 24 rfl rfl
theorem dX2_odds_0 : decode cX2_odds 0 = .ok (.iload_n 3, 1) := dk_29 (dk_at dksX2_odds_0 0 rfl rfl)
theorem dX2_odds_1 : decode cX2_odds 1 = .ok (.ifCond .lt 19, 3) := dk_155 0 19 (dk_at dksX2_odds_0 1 rfl rfl)
theorem dX2_odds_4 : decode cX2_odds 4 = .ok (.iload_n 3, 1) := dk_29 (dk_at dksX2_odds_0 4 rfl rfl)
theorem dX2_odds_5 : decode cX2_odds 5 = .ok (.iconst 1, 1) := dk_4 (dk_at dksX2_odds_0 5 rfl rfl)
theorem dX2_odds_6 : decode cX2_odds 6 = .ok (.if_icmp .gt 14, 3) := dk_163 0 14 (dk_at dksX2_odds_0 6 rfl rfl)
theorem dX2_odds_9 : decode cX2_odds 9 = .ok (.aload_n 0, 1) := dk_42 (dk_at dksX2_odds_0 9 rfl rfl)
theorem dX2_odds_10 : decode cX2_odds 10 = .ok (.iload_n 1, 1) := dk_27 (dk_at dksX2_odds_0 10 rfl rfl)
theorem dX2_odds_11 : decode cX2_odds 11 = .ok (.iload_n 2, 1) := dk_28 (dk_at dksX2_odds_0 11 rfl rfl)
theorem dX2_odds_12 : decode cX2_odds 12 = .ok (.iload 4, 2) := dk_21 4 (dk_at dksX2_odds_0 12 rfl rfl)
theorem dX2_odds_14 : decode cX2_odds 14 = .ok (.invokevirtual 457, 3) := dk_182 1 201 (dk_at dksX2_odds_0 14 rfl rfl)
theorem dX2_odds_17 : decode cX2_odds 17 = .ok (.ifCond .ne 7, 3) := dk_154 0 7 (dk_at dksX2_odds_0 17 rfl rfl)
theorem dX2_odds_20 : decode cX2_odds 20 = .ok (.ldc2_w 481, 3) := dk_20 1 225 (dk_at dksX2_odds_0 20 rfl rfl)
theorem dX2_odds_23 : decode cX2_odds 23 = .ok (.lreturn, 1) := dk_173 (dk_at dksX2_odds_0 23 rfl rfl)
theorem dX2_odds_24 : decode cX2_odds 24 = .ok (.aload_n 0, 1) := dk_42 (dk_at dksX2_odds_1 0 rfl rfl)
theorem dX2_odds_25 : decode cX2_odds 25 = .ok (.iload_n 2, 1) := dk_28 (dk_at dksX2_odds_1 1 rfl rfl)
theorem dX2_odds_26 : decode cX2_odds 26 = .ok (.invokevirtual 483, 3) := dk_182 1 227 (dk_at dksX2_odds_1 2 rfl rfl)
theorem dX2_odds_29 : decode cX2_odds 29 = .ok (.iload_n 3, 1) := dk_29 (dk_at dksX2_odds_1 5 rfl rfl)
theorem dX2_odds_30 : decode cX2_odds 30 = .ok (.ifCond .ne 10, 3) := dk_154 0 10 (dk_at dksX2_odds_1 6 rfl rfl)
theorem dX2_odds_33 : decode cX2_odds 33 = .ok (.aload_n 0, 1) := dk_42 (dk_at dksX2_odds_1 9 rfl rfl)
theorem dX2_odds_34 : decode cX2_odds 34 = .ok (.getfield 468, 3) := dk_180 1 212 (dk_at dksX2_odds_1 10 rfl rfl)
theorem dX2_odds_37 : decode cX2_odds 37 = .ok (.goto 7, 3) := dk_167 0 7 (dk_at dksX2_odds_1 13 rfl rfl)
theorem dX2_odds_40 : decode cX2_odds 40 = .ok (.aload_n 0, 1) := dk_42 (dk_at dksX2_odds_1 16 rfl rfl)
theorem dX2_odds_41 : decode cX2_odds 41 = .ok (.getfield 471, 3) := dk_180 1 215 (dk_at dksX2_odds_1 17 rfl rfl)
theorem dX2_odds_44 : decode cX2_odds 44 = .ok (.lreturn, 1) := dk_173 (dk_at dksX2_odds_1 20 rfl rfl)
abbrev cX2_seekOdds : ByteArray := prog_28_method_69_code
def yX2_seekOdds : MethodName := ⟨RX2, "seekOdds", "(I)V"⟩
def dkwX2_seekOdds_3 : List UInt8 := [29, 61, 132, 3, 1, 167, 255, 194, 177]
abbrev dktX2_seekOdds_3 : List UInt8 := dkwX2_seekOdds_3 ++ []
def dkwX2_seekOdds_2 : List UInt8 := [133, 105, 42, 180, 1, 215, 42, 180, 1, 74, 42, 180, 1, 74, 4, 100, 104, 5, 108, 133, 105, 182, 1, 221]
abbrev dktX2_seekOdds_2 : List UInt8 := dkwX2_seekOdds_2 ++ dktX2_seekOdds_3
def dkwX2_seekOdds_1 : List UInt8 := [182, 1, 205, 154, 0, 6, 167, 0, 44, 28, 155, 0, 38, 42, 42, 180, 1, 212, 42, 28, 29, 182, 1, 218]
abbrev dktX2_seekOdds_1 : List UInt8 := dkwX2_seekOdds_1 ++ dktX2_seekOdds_2
def dkwX2_seekOdds_0 : List UInt8 := [42, 10, 181, 1, 212, 42, 10, 181, 1, 215, 2, 61, 3, 62, 29, 16, 6, 162, 0, 62, 42, 27, 29]
abbrev dktX2_seekOdds_0 : List UInt8 := dkwX2_seekOdds_0 ++ dktX2_seekOdds_1
theorem dksX2_seekOdds_0 : cX2_seekOdds.data.toList.drop 0 = dktX2_seekOdds_0 := by decide +kernel
theorem dksX2_seekOdds_1 : cX2_seekOdds.data.toList.drop 23 = dktX2_seekOdds_1 := dk_seg dksX2_seekOdds_0 23 rfl rfl
theorem dksX2_seekOdds_2 : cX2_seekOdds.data.toList.drop 47 = dktX2_seekOdds_2 := dk_seg dksX2_seekOdds_1 24 rfl rfl
theorem dksX2_seekOdds_3 : cX2_seekOdds.data.toList.drop 71 = dktX2_seekOdds_3 := dk_seg dksX2_seekOdds_2 24 rfl rfl
theorem dX2_seekOdds_0 : decode cX2_seekOdds 0 = .ok (.aload_n 0, 1) := dk_42 (dk_at dksX2_seekOdds_0 0 rfl rfl)
theorem dX2_seekOdds_1 : decode cX2_seekOdds 1 = .ok (.lconst 1, 1) := dk_10 (dk_at dksX2_seekOdds_0 1 rfl rfl)
theorem dX2_seekOdds_2 : decode cX2_seekOdds 2 = .ok (.putfield 468, 3) := dk_181 1 212 (dk_at dksX2_seekOdds_0 2 rfl rfl)
theorem dX2_seekOdds_5 : decode cX2_seekOdds 5 = .ok (.aload_n 0, 1) := dk_42 (dk_at dksX2_seekOdds_0 5 rfl rfl)
theorem dX2_seekOdds_6 : decode cX2_seekOdds 6 = .ok (.lconst 1, 1) := dk_10 (dk_at dksX2_seekOdds_0 6 rfl rfl)
theorem dX2_seekOdds_7 : decode cX2_seekOdds 7 = .ok (.putfield 471, 3) := dk_181 1 215 (dk_at dksX2_seekOdds_0 7 rfl rfl)
theorem dX2_seekOdds_10 : decode cX2_seekOdds 10 = .ok (.iconst (-1), 1) := dk_2 (dk_at dksX2_seekOdds_0 10 rfl rfl)
theorem dX2_seekOdds_11 : decode cX2_seekOdds 11 = .ok (.istore_n 2, 1) := dk_61 (dk_at dksX2_seekOdds_0 11 rfl rfl)
theorem dX2_seekOdds_12 : decode cX2_seekOdds 12 = .ok (.iconst 0, 1) := dk_3 (dk_at dksX2_seekOdds_0 12 rfl rfl)
theorem dX2_seekOdds_13 : decode cX2_seekOdds 13 = .ok (.istore_n 3, 1) := dk_62 (dk_at dksX2_seekOdds_0 13 rfl rfl)
theorem dX2_seekOdds_14 : decode cX2_seekOdds 14 = .ok (.iload_n 3, 1) := dk_29 (dk_at dksX2_seekOdds_0 14 rfl rfl)
theorem dX2_seekOdds_15 : decode cX2_seekOdds 15 = .ok (.bipush 6, 2) := dk_16 6 (dk_at dksX2_seekOdds_0 15 rfl rfl)
theorem dX2_seekOdds_17 : decode cX2_seekOdds 17 = .ok (.if_icmp .ge 62, 3) := dk_162 0 62 (dk_at dksX2_seekOdds_0 17 rfl rfl)
theorem dX2_seekOdds_20 : decode cX2_seekOdds 20 = .ok (.aload_n 0, 1) := dk_42 (dk_at dksX2_seekOdds_0 20 rfl rfl)
theorem dX2_seekOdds_21 : decode cX2_seekOdds 21 = .ok (.iload_n 1, 1) := dk_27 (dk_at dksX2_seekOdds_0 21 rfl rfl)
theorem dX2_seekOdds_22 : decode cX2_seekOdds 22 = .ok (.iload_n 3, 1) := dk_29 (dk_at dksX2_seekOdds_0 22 rfl rfl)
theorem dX2_seekOdds_23 : decode cX2_seekOdds 23 = .ok (.invokevirtual 461, 3) := dk_182 1 205 (dk_at dksX2_seekOdds_1 0 rfl rfl)
theorem dX2_seekOdds_26 : decode cX2_seekOdds 26 = .ok (.ifCond .ne 6, 3) := dk_154 0 6 (dk_at dksX2_seekOdds_1 3 rfl rfl)
theorem dX2_seekOdds_29 : decode cX2_seekOdds 29 = .ok (.goto 44, 3) := dk_167 0 44 (dk_at dksX2_seekOdds_1 6 rfl rfl)
theorem dX2_seekOdds_32 : decode cX2_seekOdds 32 = .ok (.iload_n 2, 1) := dk_28 (dk_at dksX2_seekOdds_1 9 rfl rfl)
theorem dX2_seekOdds_33 : decode cX2_seekOdds 33 = .ok (.ifCond .lt 38, 3) := dk_155 0 38 (dk_at dksX2_seekOdds_1 10 rfl rfl)
theorem dX2_seekOdds_36 : decode cX2_seekOdds 36 = .ok (.aload_n 0, 1) := dk_42 (dk_at dksX2_seekOdds_1 13 rfl rfl)
theorem dX2_seekOdds_37 : decode cX2_seekOdds 37 = .ok (.aload_n 0, 1) := dk_42 (dk_at dksX2_seekOdds_1 14 rfl rfl)
theorem dX2_seekOdds_38 : decode cX2_seekOdds 38 = .ok (.getfield 468, 3) := dk_180 1 212 (dk_at dksX2_seekOdds_1 15 rfl rfl)
theorem dX2_seekOdds_41 : decode cX2_seekOdds 41 = .ok (.aload_n 0, 1) := dk_42 (dk_at dksX2_seekOdds_1 18 rfl rfl)
theorem dX2_seekOdds_42 : decode cX2_seekOdds 42 = .ok (.iload_n 2, 1) := dk_28 (dk_at dksX2_seekOdds_1 19 rfl rfl)
theorem dX2_seekOdds_43 : decode cX2_seekOdds 43 = .ok (.iload_n 3, 1) := dk_29 (dk_at dksX2_seekOdds_1 20 rfl rfl)
theorem dX2_seekOdds_44 : decode cX2_seekOdds 44 = .ok (.invokevirtual 474, 3) := dk_182 1 218 (dk_at dksX2_seekOdds_1 21 rfl rfl)
theorem dX2_seekOdds_47 : decode cX2_seekOdds 47 = .ok (.i2l, 1) := dk_133 (dk_at dksX2_seekOdds_2 0 rfl rfl)
theorem dX2_seekOdds_48 : decode cX2_seekOdds 48 = .ok (.lmul, 1) := dk_105 (dk_at dksX2_seekOdds_2 1 rfl rfl)
theorem dX2_seekOdds_49 : decode cX2_seekOdds 49 = .ok (.aload_n 0, 1) := dk_42 (dk_at dksX2_seekOdds_2 2 rfl rfl)
theorem dX2_seekOdds_50 : decode cX2_seekOdds 50 = .ok (.getfield 471, 3) := dk_180 1 215 (dk_at dksX2_seekOdds_2 3 rfl rfl)
theorem dX2_seekOdds_53 : decode cX2_seekOdds 53 = .ok (.aload_n 0, 1) := dk_42 (dk_at dksX2_seekOdds_2 6 rfl rfl)
theorem dX2_seekOdds_54 : decode cX2_seekOdds 54 = .ok (.getfield 330, 3) := dk_180 1 74 (dk_at dksX2_seekOdds_2 7 rfl rfl)
theorem dX2_seekOdds_57 : decode cX2_seekOdds 57 = .ok (.aload_n 0, 1) := dk_42 (dk_at dksX2_seekOdds_2 10 rfl rfl)
theorem dX2_seekOdds_58 : decode cX2_seekOdds 58 = .ok (.getfield 330, 3) := dk_180 1 74 (dk_at dksX2_seekOdds_2 11 rfl rfl)
theorem dX2_seekOdds_61 : decode cX2_seekOdds 61 = .ok (.iconst 1, 1) := dk_4 (dk_at dksX2_seekOdds_2 14 rfl rfl)
theorem dX2_seekOdds_62 : decode cX2_seekOdds 62 = .ok (.isub, 1) := dk_100 (dk_at dksX2_seekOdds_2 15 rfl rfl)
theorem dX2_seekOdds_63 : decode cX2_seekOdds 63 = .ok (.imul, 1) := dk_104 (dk_at dksX2_seekOdds_2 16 rfl rfl)
theorem dX2_seekOdds_64 : decode cX2_seekOdds 64 = .ok (.iconst 2, 1) := dk_5 (dk_at dksX2_seekOdds_2 17 rfl rfl)
theorem dX2_seekOdds_65 : decode cX2_seekOdds 65 = .ok (.idiv, 1) := dk_108 (dk_at dksX2_seekOdds_2 18 rfl rfl)
theorem dX2_seekOdds_66 : decode cX2_seekOdds 66 = .ok (.i2l, 1) := dk_133 (dk_at dksX2_seekOdds_2 19 rfl rfl)
theorem dX2_seekOdds_67 : decode cX2_seekOdds 67 = .ok (.lmul, 1) := dk_105 (dk_at dksX2_seekOdds_2 20 rfl rfl)
theorem dX2_seekOdds_68 : decode cX2_seekOdds 68 = .ok (.invokevirtual 477, 3) := dk_182 1 221 (dk_at dksX2_seekOdds_2 21 rfl rfl)
theorem dX2_seekOdds_71 : decode cX2_seekOdds 71 = .ok (.iload_n 3, 1) := dk_29 (dk_at dksX2_seekOdds_3 0 rfl rfl)
theorem dX2_seekOdds_72 : decode cX2_seekOdds 72 = .ok (.istore_n 2, 1) := dk_61 (dk_at dksX2_seekOdds_3 1 rfl rfl)
theorem dX2_seekOdds_73 : decode cX2_seekOdds 73 = .ok (.iinc 3 1, 3) := dk_132 3 1 (dk_at dksX2_seekOdds_3 2 rfl rfl)
theorem dX2_seekOdds_76 : decode cX2_seekOdds 76 = .ok (.goto (-62), 3) := dk_167 255 194 (dk_at dksX2_seekOdds_3 5 rfl rfl)
theorem dX2_seekOdds_79 : decode cX2_seekOdds 79 = .ok (.return_, 1) := dk_177 (dk_at dksX2_seekOdds_3 8 rfl rfl)
abbrev cX2_fitting : ByteArray := prog_28_method_68_code
def yX2_fitting : MethodName := ⟨RX2, "fitting", "(II)I"⟩
def dkwX2_fitting_2 : List UInt8 := [3, 96, 62, 132, 5, 1, 167, 255, 223, 132, 4, 1, 167, 255, 202, 29, 172]
abbrev dktX2_fitting_2 : List UInt8 := dkwX2_fitting_2 ++ []
def dkwX2_fitting_1 : List UInt8 := [180, 1, 74, 162, 0, 30, 29, 42, 27, 28, 21, 4, 21, 5, 182, 1, 169, 153, 0, 7, 4, 167, 0, 4]
abbrev dktX2_fitting_1 : List UInt8 := dkwX2_fitting_1 ++ dktX2_fitting_2
def dkwX2_fitting_0 : List UInt8 := [3, 62, 3, 54, 4, 21, 4, 42, 180, 1, 74, 162, 0, 51, 21, 4, 4, 96, 54, 5, 21, 5, 42]
abbrev dktX2_fitting_0 : List UInt8 := dkwX2_fitting_0 ++ dktX2_fitting_1
theorem dksX2_fitting_0 : cX2_fitting.data.toList.drop 0 = dktX2_fitting_0 := by decide +kernel
theorem dksX2_fitting_1 : cX2_fitting.data.toList.drop 23 = dktX2_fitting_1 := dk_seg dksX2_fitting_0 23 rfl rfl
theorem dksX2_fitting_2 : cX2_fitting.data.toList.drop 47 = dktX2_fitting_2 := dk_seg dksX2_fitting_1 24 rfl rfl
theorem dX2_fitting_0 : decode cX2_fitting 0 = .ok (.iconst 0, 1) := dk_3 (dk_at dksX2_fitting_0 0 rfl rfl)
theorem dX2_fitting_1 : decode cX2_fitting 1 = .ok (.istore_n 3, 1) := dk_62 (dk_at dksX2_fitting_0 1 rfl rfl)
theorem dX2_fitting_2 : decode cX2_fitting 2 = .ok (.iconst 0, 1) := dk_3 (dk_at dksX2_fitting_0 2 rfl rfl)
theorem dX2_fitting_3 : decode cX2_fitting 3 = .ok (.istore 4, 2) := dk_54 4 (dk_at dksX2_fitting_0 3 rfl rfl)
theorem dX2_fitting_5 : decode cX2_fitting 5 = .ok (.iload 4, 2) := dk_21 4 (dk_at dksX2_fitting_0 5 rfl rfl)
theorem dX2_fitting_7 : decode cX2_fitting 7 = .ok (.aload_n 0, 1) := dk_42 (dk_at dksX2_fitting_0 7 rfl rfl)
theorem dX2_fitting_8 : decode cX2_fitting 8 = .ok (.getfield 330, 3) := dk_180 1 74 (dk_at dksX2_fitting_0 8 rfl rfl)
theorem dX2_fitting_11 : decode cX2_fitting 11 = .ok (.if_icmp .ge 51, 3) := dk_162 0 51 (dk_at dksX2_fitting_0 11 rfl rfl)
theorem dX2_fitting_14 : decode cX2_fitting 14 = .ok (.iload 4, 2) := dk_21 4 (dk_at dksX2_fitting_0 14 rfl rfl)
theorem dX2_fitting_16 : decode cX2_fitting 16 = .ok (.iconst 1, 1) := dk_4 (dk_at dksX2_fitting_0 16 rfl rfl)
theorem dX2_fitting_17 : decode cX2_fitting 17 = .ok (.iadd, 1) := dk_96 (dk_at dksX2_fitting_0 17 rfl rfl)
theorem dX2_fitting_18 : decode cX2_fitting 18 = .ok (.istore 5, 2) := dk_54 5 (dk_at dksX2_fitting_0 18 rfl rfl)
theorem dX2_fitting_20 : decode cX2_fitting 20 = .ok (.iload 5, 2) := dk_21 5 (dk_at dksX2_fitting_0 20 rfl rfl)
theorem dX2_fitting_22 : decode cX2_fitting 22 = .ok (.aload_n 0, 1) := dk_42 (dk_at dksX2_fitting_0 22 rfl rfl)
theorem dX2_fitting_23 : decode cX2_fitting 23 = .ok (.getfield 330, 3) := dk_180 1 74 (dk_at dksX2_fitting_1 0 rfl rfl)
theorem dX2_fitting_26 : decode cX2_fitting 26 = .ok (.if_icmp .ge 30, 3) := dk_162 0 30 (dk_at dksX2_fitting_1 3 rfl rfl)
theorem dX2_fitting_29 : decode cX2_fitting 29 = .ok (.iload_n 3, 1) := dk_29 (dk_at dksX2_fitting_1 6 rfl rfl)
theorem dX2_fitting_30 : decode cX2_fitting 30 = .ok (.aload_n 0, 1) := dk_42 (dk_at dksX2_fitting_1 7 rfl rfl)
theorem dX2_fitting_31 : decode cX2_fitting 31 = .ok (.iload_n 1, 1) := dk_27 (dk_at dksX2_fitting_1 8 rfl rfl)
theorem dX2_fitting_32 : decode cX2_fitting 32 = .ok (.iload_n 2, 1) := dk_28 (dk_at dksX2_fitting_1 9 rfl rfl)
theorem dX2_fitting_33 : decode cX2_fitting 33 = .ok (.iload 4, 2) := dk_21 4 (dk_at dksX2_fitting_1 10 rfl rfl)
theorem dX2_fitting_35 : decode cX2_fitting 35 = .ok (.iload 5, 2) := dk_21 5 (dk_at dksX2_fitting_1 12 rfl rfl)
theorem dX2_fitting_37 : decode cX2_fitting 37 = .ok (.invokevirtual 425, 3) := dk_182 1 169 (dk_at dksX2_fitting_1 14 rfl rfl)
theorem dX2_fitting_40 : decode cX2_fitting 40 = .ok (.ifCond .eq 7, 3) := dk_153 0 7 (dk_at dksX2_fitting_1 17 rfl rfl)
theorem dX2_fitting_43 : decode cX2_fitting 43 = .ok (.iconst 1, 1) := dk_4 (dk_at dksX2_fitting_1 20 rfl rfl)
theorem dX2_fitting_44 : decode cX2_fitting 44 = .ok (.goto 4, 3) := dk_167 0 4 (dk_at dksX2_fitting_1 21 rfl rfl)
theorem dX2_fitting_47 : decode cX2_fitting 47 = .ok (.iconst 0, 1) := dk_3 (dk_at dksX2_fitting_2 0 rfl rfl)
theorem dX2_fitting_48 : decode cX2_fitting 48 = .ok (.iadd, 1) := dk_96 (dk_at dksX2_fitting_2 1 rfl rfl)
theorem dX2_fitting_49 : decode cX2_fitting 49 = .ok (.istore_n 3, 1) := dk_62 (dk_at dksX2_fitting_2 2 rfl rfl)
theorem dX2_fitting_50 : decode cX2_fitting 50 = .ok (.iinc 5 1, 3) := dk_132 5 1 (dk_at dksX2_fitting_2 3 rfl rfl)
theorem dX2_fitting_53 : decode cX2_fitting 53 = .ok (.goto (-33), 3) := dk_167 255 223 (dk_at dksX2_fitting_2 6 rfl rfl)
theorem dX2_fitting_56 : decode cX2_fitting 56 = .ok (.iinc 4 1, 3) := dk_132 4 1 (dk_at dksX2_fitting_2 9 rfl rfl)
theorem dX2_fitting_59 : decode cX2_fitting 59 = .ok (.goto (-54), 3) := dk_167 255 202 (dk_at dksX2_fitting_2 12 rfl rfl)
theorem dX2_fitting_62 : decode cX2_fitting 62 = .ok (.iload_n 3, 1) := dk_29 (dk_at dksX2_fitting_2 15 rfl rfl)
theorem dX2_fitting_63 : decode cX2_fitting 63 = .ok (.ireturn, 1) := dk_172 (dk_at dksX2_fitting_2 16 rfl rfl)
abbrev cX2_reduce : ByteArray := prog_28_method_67_code
def yX2_reduce : MethodName := ⟨RX2, "reduce", "(JJ)V"⟩
def dkwX2_reduce_0 : List UInt8 := [31, 33, 184, 1, 208, 55, 5, 42, 31, 22, 5, 109, 181, 1, 212, 42, 33, 22, 5, 109, 181, 1, 215, 177]
abbrev dktX2_reduce_0 : List UInt8 := dkwX2_reduce_0 ++ []
theorem dksX2_reduce_0 : cX2_reduce.data.toList.drop 0 = dktX2_reduce_0 := by decide +kernel
theorem dX2_reduce_0 : decode cX2_reduce 0 = .ok (.lload_n 1, 1) := dk_31 (dk_at dksX2_reduce_0 0 rfl rfl)
theorem dX2_reduce_1 : decode cX2_reduce 1 = .ok (.lload_n 3, 1) := dk_33 (dk_at dksX2_reduce_0 1 rfl rfl)
theorem dX2_reduce_2 : decode cX2_reduce 2 = .ok (.invokestatic 464, 3) := dk_184 1 208 (dk_at dksX2_reduce_0 2 rfl rfl)
theorem dX2_reduce_5 : decode cX2_reduce 5 = .ok (.lstore 5, 2) := dk_55 5 (dk_at dksX2_reduce_0 5 rfl rfl)
theorem dX2_reduce_7 : decode cX2_reduce 7 = .ok (.aload_n 0, 1) := dk_42 (dk_at dksX2_reduce_0 7 rfl rfl)
theorem dX2_reduce_8 : decode cX2_reduce 8 = .ok (.lload_n 1, 1) := dk_31 (dk_at dksX2_reduce_0 8 rfl rfl)
theorem dX2_reduce_9 : decode cX2_reduce 9 = .ok (.lload 5, 2) := dk_22 5 (dk_at dksX2_reduce_0 9 rfl rfl)
theorem dX2_reduce_11 : decode cX2_reduce 11 = .ok (.ldiv, 1) := dk_109 (dk_at dksX2_reduce_0 11 rfl rfl)
theorem dX2_reduce_12 : decode cX2_reduce 12 = .ok (.putfield 468, 3) := dk_181 1 212 (dk_at dksX2_reduce_0 12 rfl rfl)
theorem dX2_reduce_15 : decode cX2_reduce 15 = .ok (.aload_n 0, 1) := dk_42 (dk_at dksX2_reduce_0 15 rfl rfl)
theorem dX2_reduce_16 : decode cX2_reduce 16 = .ok (.lload_n 3, 1) := dk_33 (dk_at dksX2_reduce_0 16 rfl rfl)
theorem dX2_reduce_17 : decode cX2_reduce 17 = .ok (.lload 5, 2) := dk_22 5 (dk_at dksX2_reduce_0 17 rfl rfl)
theorem dX2_reduce_19 : decode cX2_reduce 19 = .ok (.ldiv, 1) := dk_109 (dk_at dksX2_reduce_0 19 rfl rfl)
theorem dX2_reduce_20 : decode cX2_reduce 20 = .ok (.putfield 471, 3) := dk_181 1 215 (dk_at dksX2_reduce_0 20 rfl rfl)
theorem dX2_reduce_23 : decode cX2_reduce 23 = .ok (.return_, 1) := dk_177 (dk_at dksX2_reduce_0 23 rfl rfl)
abbrev cX2_common : ByteArray := prog_28_method_66_code
def yX2_common : MethodName := ⟨RX2, "common", "(JJ)J"⟩
def dkwX2_common_2 : List UInt8 := [22, 8, 55, 6, 167, 255, 234, 22, 4, 173]
abbrev dktX2_common_2 : List UInt8 := dkwX2_common_2 ++ []
def dkwX2_common_1 : List UInt8 := [167, 0, 4, 32, 55, 6, 22, 6, 9, 148, 158, 0, 21, 22, 4, 22, 6, 113, 55, 8, 22, 6, 55, 4]
abbrev dktX2_common_1 : List UInt8 := dkwX2_common_1 ++ dktX2_common_2
def dkwX2_common_0 : List UInt8 := [30, 9, 148, 156, 0, 8, 30, 117, 167, 0, 4, 30, 55, 4, 32, 9, 148, 156, 0, 8, 32, 117]
abbrev dktX2_common_0 : List UInt8 := dkwX2_common_0 ++ dktX2_common_1
theorem dksX2_common_0 : cX2_common.data.toList.drop 0 = dktX2_common_0 := by decide +kernel
theorem dksX2_common_1 : cX2_common.data.toList.drop 22 = dktX2_common_1 := dk_seg dksX2_common_0 22 rfl rfl
theorem dksX2_common_2 : cX2_common.data.toList.drop 46 = dktX2_common_2 := dk_seg dksX2_common_1 24 rfl rfl
theorem dX2_common_0 : decode cX2_common 0 = .ok (.lload_n 0, 1) := dk_30 (dk_at dksX2_common_0 0 rfl rfl)
theorem dX2_common_1 : decode cX2_common 1 = .ok (.lconst 0, 1) := dk_9 (dk_at dksX2_common_0 1 rfl rfl)
theorem dX2_common_2 : decode cX2_common 2 = .ok (.lcmp, 1) := dk_148 (dk_at dksX2_common_0 2 rfl rfl)
theorem dX2_common_3 : decode cX2_common 3 = .ok (.ifCond .ge 8, 3) := dk_156 0 8 (dk_at dksX2_common_0 3 rfl rfl)
theorem dX2_common_6 : decode cX2_common 6 = .ok (.lload_n 0, 1) := dk_30 (dk_at dksX2_common_0 6 rfl rfl)
theorem dX2_common_7 : decode cX2_common 7 = .ok (.lneg, 1) := dk_117 (dk_at dksX2_common_0 7 rfl rfl)
theorem dX2_common_8 : decode cX2_common 8 = .ok (.goto 4, 3) := dk_167 0 4 (dk_at dksX2_common_0 8 rfl rfl)
theorem dX2_common_11 : decode cX2_common 11 = .ok (.lload_n 0, 1) := dk_30 (dk_at dksX2_common_0 11 rfl rfl)
theorem dX2_common_12 : decode cX2_common 12 = .ok (.lstore 4, 2) := dk_55 4 (dk_at dksX2_common_0 12 rfl rfl)
theorem dX2_common_14 : decode cX2_common 14 = .ok (.lload_n 2, 1) := dk_32 (dk_at dksX2_common_0 14 rfl rfl)
theorem dX2_common_15 : decode cX2_common 15 = .ok (.lconst 0, 1) := dk_9 (dk_at dksX2_common_0 15 rfl rfl)
theorem dX2_common_16 : decode cX2_common 16 = .ok (.lcmp, 1) := dk_148 (dk_at dksX2_common_0 16 rfl rfl)
theorem dX2_common_17 : decode cX2_common 17 = .ok (.ifCond .ge 8, 3) := dk_156 0 8 (dk_at dksX2_common_0 17 rfl rfl)
theorem dX2_common_20 : decode cX2_common 20 = .ok (.lload_n 2, 1) := dk_32 (dk_at dksX2_common_0 20 rfl rfl)
theorem dX2_common_21 : decode cX2_common 21 = .ok (.lneg, 1) := dk_117 (dk_at dksX2_common_0 21 rfl rfl)
theorem dX2_common_22 : decode cX2_common 22 = .ok (.goto 4, 3) := dk_167 0 4 (dk_at dksX2_common_1 0 rfl rfl)
theorem dX2_common_25 : decode cX2_common 25 = .ok (.lload_n 2, 1) := dk_32 (dk_at dksX2_common_1 3 rfl rfl)
theorem dX2_common_26 : decode cX2_common 26 = .ok (.lstore 6, 2) := dk_55 6 (dk_at dksX2_common_1 4 rfl rfl)
theorem dX2_common_28 : decode cX2_common 28 = .ok (.lload 6, 2) := dk_22 6 (dk_at dksX2_common_1 6 rfl rfl)
theorem dX2_common_30 : decode cX2_common 30 = .ok (.lconst 0, 1) := dk_9 (dk_at dksX2_common_1 8 rfl rfl)
theorem dX2_common_31 : decode cX2_common 31 = .ok (.lcmp, 1) := dk_148 (dk_at dksX2_common_1 9 rfl rfl)
theorem dX2_common_32 : decode cX2_common 32 = .ok (.ifCond .le 21, 3) := dk_158 0 21 (dk_at dksX2_common_1 10 rfl rfl)
theorem dX2_common_35 : decode cX2_common 35 = .ok (.lload 4, 2) := dk_22 4 (dk_at dksX2_common_1 13 rfl rfl)
theorem dX2_common_37 : decode cX2_common 37 = .ok (.lload 6, 2) := dk_22 6 (dk_at dksX2_common_1 15 rfl rfl)
theorem dX2_common_39 : decode cX2_common 39 = .ok (.lrem, 1) := dk_113 (dk_at dksX2_common_1 17 rfl rfl)
theorem dX2_common_40 : decode cX2_common 40 = .ok (.lstore 8, 2) := dk_55 8 (dk_at dksX2_common_1 18 rfl rfl)
theorem dX2_common_42 : decode cX2_common 42 = .ok (.lload 6, 2) := dk_22 6 (dk_at dksX2_common_1 20 rfl rfl)
theorem dX2_common_44 : decode cX2_common 44 = .ok (.lstore 4, 2) := dk_55 4 (dk_at dksX2_common_1 22 rfl rfl)
theorem dX2_common_46 : decode cX2_common 46 = .ok (.lload 8, 2) := dk_22 8 (dk_at dksX2_common_2 0 rfl rfl)
theorem dX2_common_48 : decode cX2_common 48 = .ok (.lstore 6, 2) := dk_55 6 (dk_at dksX2_common_2 2 rfl rfl)
theorem dX2_common_50 : decode cX2_common 50 = .ok (.goto (-22), 3) := dk_167 255 234 (dk_at dksX2_common_2 4 rfl rfl)
theorem dX2_common_53 : decode cX2_common 53 = .ok (.lload 4, 2) := dk_22 4 (dk_at dksX2_common_2 7 rfl rfl)
theorem dX2_common_55 : decode cX2_common 55 = .ok (.lreturn, 1) := dk_173 (dk_at dksX2_common_2 9 rfl rfl)
abbrev cX2_told : ByteArray := prog_28_method_72_code
def yX2_told : MethodName := ⟨RX2, "told", "(II)I"⟩
def dkwX2_told_1 : List UInt8 := [4, 167, 0, 4, 3, 172]
abbrev dktX2_told_1 : List UInt8 := dkwX2_told_1 ++ []
def dkwX2_told_0 : List UInt8 := [42, 27, 28, 182, 1, 117, 154, 0, 5, 2, 172, 42, 27, 28, 182, 1, 198, 42, 182, 1, 230, 153, 0, 7]
abbrev dktX2_told_0 : List UInt8 := dkwX2_told_0 ++ dktX2_told_1
theorem dksX2_told_0 : cX2_told.data.toList.drop 0 = dktX2_told_0 := by decide +kernel
theorem dksX2_told_1 : cX2_told.data.toList.drop 24 = dktX2_told_1 := dk_seg dksX2_told_0 24 rfl rfl
theorem dX2_told_0 : decode cX2_told 0 = .ok (.aload_n 0, 1) := dk_42 (dk_at dksX2_told_0 0 rfl rfl)
theorem dX2_told_1 : decode cX2_told 1 = .ok (.iload_n 1, 1) := dk_27 (dk_at dksX2_told_0 1 rfl rfl)
theorem dX2_told_2 : decode cX2_told 2 = .ok (.iload_n 2, 1) := dk_28 (dk_at dksX2_told_0 2 rfl rfl)
theorem dX2_told_3 : decode cX2_told 3 = .ok (.invokevirtual 373, 3) := dk_182 1 117 (dk_at dksX2_told_0 3 rfl rfl)
theorem dX2_told_6 : decode cX2_told 6 = .ok (.ifCond .ne 5, 3) := dk_154 0 5 (dk_at dksX2_told_0 6 rfl rfl)
theorem dX2_told_9 : decode cX2_told 9 = .ok (.iconst (-1), 1) := dk_2 (dk_at dksX2_told_0 9 rfl rfl)
theorem dX2_told_10 : decode cX2_told 10 = .ok (.ireturn, 1) := dk_172 (dk_at dksX2_told_0 10 rfl rfl)
theorem dX2_told_11 : decode cX2_told 11 = .ok (.aload_n 0, 1) := dk_42 (dk_at dksX2_told_0 11 rfl rfl)
theorem dX2_told_12 : decode cX2_told 12 = .ok (.iload_n 1, 1) := dk_27 (dk_at dksX2_told_0 12 rfl rfl)
theorem dX2_told_13 : decode cX2_told 13 = .ok (.iload_n 2, 1) := dk_28 (dk_at dksX2_told_0 13 rfl rfl)
theorem dX2_told_14 : decode cX2_told 14 = .ok (.invokevirtual 454, 3) := dk_182 1 198 (dk_at dksX2_told_0 14 rfl rfl)
theorem dX2_told_17 : decode cX2_told 17 = .ok (.aload_n 0, 1) := dk_42 (dk_at dksX2_told_0 17 rfl rfl)
theorem dX2_told_18 : decode cX2_told 18 = .ok (.invokevirtual 486, 3) := dk_182 1 230 (dk_at dksX2_told_0 18 rfl rfl)
theorem dX2_told_21 : decode cX2_told 21 = .ok (.ifCond .eq 7, 3) := dk_153 0 7 (dk_at dksX2_told_0 21 rfl rfl)
theorem dX2_told_24 : decode cX2_told 24 = .ok (.iconst 1, 1) := dk_4 (dk_at dksX2_told_1 0 rfl rfl)
theorem dX2_told_25 : decode cX2_told 25 = .ok (.goto 4, 3) := dk_167 0 4 (dk_at dksX2_told_1 1 rfl rfl)
theorem dX2_told_28 : decode cX2_told 28 = .ok (.iconst 0, 1) := dk_3 (dk_at dksX2_told_1 4 rfl rfl)
theorem dX2_told_29 : decode cX2_told 29 = .ok (.ireturn, 1) := dk_172 (dk_at dksX2_told_1 5 rfl rfl)
abbrev cX2_tells : ByteArray := prog_28_method_71_code
def yX2_tells : MethodName := ⟨RX2, "tells", "()Z"⟩
def dkwX2_tells_1 : List UInt8 := [46, 133, 105, 42, 180, 1, 215, 148, 157, 0, 7, 4, 167, 0, 4, 3, 172]
abbrev dktX2_tells_1 : List UInt8 := dkwX2_tells_1 ++ []
def dkwX2_tells_0 : List UInt8 := [42, 180, 1, 177, 4, 159, 0, 5, 3, 172, 42, 3, 182, 1, 227, 42, 180, 1, 212, 42, 180, 0, 20, 8]
abbrev dktX2_tells_0 : List UInt8 := dkwX2_tells_0 ++ dktX2_tells_1
theorem dksX2_tells_0 : cX2_tells.data.toList.drop 0 = dktX2_tells_0 := by decide +kernel
theorem dksX2_tells_1 : cX2_tells.data.toList.drop 24 = dktX2_tells_1 := dk_seg dksX2_tells_0 24 rfl rfl
theorem dX2_tells_0 : decode cX2_tells 0 = .ok (.aload_n 0, 1) := dk_42 (dk_at dksX2_tells_0 0 rfl rfl)
theorem dX2_tells_1 : decode cX2_tells 1 = .ok (.getfield 433, 3) := dk_180 1 177 (dk_at dksX2_tells_0 1 rfl rfl)
theorem dX2_tells_4 : decode cX2_tells 4 = .ok (.iconst 1, 1) := dk_4 (dk_at dksX2_tells_0 4 rfl rfl)
theorem dX2_tells_5 : decode cX2_tells 5 = .ok (.if_icmp .eq 5, 3) := dk_159 0 5 (dk_at dksX2_tells_0 5 rfl rfl)
theorem dX2_tells_8 : decode cX2_tells 8 = .ok (.iconst 0, 1) := dk_3 (dk_at dksX2_tells_0 8 rfl rfl)
theorem dX2_tells_9 : decode cX2_tells 9 = .ok (.ireturn, 1) := dk_172 (dk_at dksX2_tells_0 9 rfl rfl)
theorem dX2_tells_10 : decode cX2_tells 10 = .ok (.aload_n 0, 1) := dk_42 (dk_at dksX2_tells_0 10 rfl rfl)
theorem dX2_tells_11 : decode cX2_tells 11 = .ok (.iconst 0, 1) := dk_3 (dk_at dksX2_tells_0 11 rfl rfl)
theorem dX2_tells_12 : decode cX2_tells 12 = .ok (.invokevirtual 483, 3) := dk_182 1 227 (dk_at dksX2_tells_0 12 rfl rfl)
theorem dX2_tells_15 : decode cX2_tells 15 = .ok (.aload_n 0, 1) := dk_42 (dk_at dksX2_tells_0 15 rfl rfl)
theorem dX2_tells_16 : decode cX2_tells 16 = .ok (.getfield 468, 3) := dk_180 1 212 (dk_at dksX2_tells_0 16 rfl rfl)
theorem dX2_tells_19 : decode cX2_tells 19 = .ok (.aload_n 0, 1) := dk_42 (dk_at dksX2_tells_0 19 rfl rfl)
theorem dX2_tells_20 : decode cX2_tells 20 = .ok (.getfield 20, 3) := dk_180 0 20 (dk_at dksX2_tells_0 20 rfl rfl)
theorem dX2_tells_23 : decode cX2_tells 23 = .ok (.iconst 5, 1) := dk_8 (dk_at dksX2_tells_0 23 rfl rfl)
theorem dX2_tells_24 : decode cX2_tells 24 = .ok (.iaload, 1) := dk_46 (dk_at dksX2_tells_1 0 rfl rfl)
theorem dX2_tells_25 : decode cX2_tells 25 = .ok (.i2l, 1) := dk_133 (dk_at dksX2_tells_1 1 rfl rfl)
theorem dX2_tells_26 : decode cX2_tells 26 = .ok (.lmul, 1) := dk_105 (dk_at dksX2_tells_1 2 rfl rfl)
theorem dX2_tells_27 : decode cX2_tells 27 = .ok (.aload_n 0, 1) := dk_42 (dk_at dksX2_tells_1 3 rfl rfl)
theorem dX2_tells_28 : decode cX2_tells 28 = .ok (.getfield 471, 3) := dk_180 1 215 (dk_at dksX2_tells_1 4 rfl rfl)
theorem dX2_tells_31 : decode cX2_tells 31 = .ok (.lcmp, 1) := dk_148 (dk_at dksX2_tells_1 7 rfl rfl)
theorem dX2_tells_32 : decode cX2_tells 32 = .ok (.ifCond .gt 7, 3) := dk_157 0 7 (dk_at dksX2_tells_1 8 rfl rfl)
theorem dX2_tells_35 : decode cX2_tells 35 = .ok (.iconst 1, 1) := dk_4 (dk_at dksX2_tells_1 11 rfl rfl)
theorem dX2_tells_36 : decode cX2_tells 36 = .ok (.goto 4, 3) := dk_167 0 4 (dk_at dksX2_tells_1 12 rfl rfl)
theorem dX2_tells_39 : decode cX2_tells 39 = .ok (.iconst 0, 1) := dk_3 (dk_at dksX2_tells_1 15 rfl rfl)
theorem dX2_tells_40 : decode cX2_tells 40 = .ok (.ireturn, 1) := dk_172 (dk_at dksX2_tells_1 16 rfl rfl)
abbrev cX2_turn : ByteArray := prog_28_method_76_code
def yX2_turn : MethodName := ⟨RX2, "turn", "(IIII)J"⟩
def dkwX2_turn_3 : List UInt8 := [22, 5, 109, 173]
abbrev dktX2_turn_3 : List UInt8 := dkwX2_turn_3 ++ []
def dkwX2_turn_2 : List UInt8 := [154, 0, 5, 9, 173, 29, 154, 0, 13, 42, 180, 1, 253, 22, 5, 109, 167, 0, 10, 42, 180, 2, 0]
abbrev dktX2_turn_2 : List UInt8 := dkwX2_turn_2 ++ dktX2_turn_3
def dkwX2_turn_1 : List UInt8 := [42, 28, 182, 2, 10, 42, 180, 1, 253, 42, 180, 2, 0, 184, 1, 208, 55, 5, 22, 5, 9, 148]
abbrev dktX2_turn_1 : List UInt8 := dkwX2_turn_1 ++ dktX2_turn_2
def dkwX2_turn_0 : List UInt8 := [29, 155, 0, 19, 29, 4, 163, 0, 14, 42, 27, 28, 21, 4, 182, 1, 201, 154, 0, 7, 20, 1, 225, 173]
abbrev dktX2_turn_0 : List UInt8 := dkwX2_turn_0 ++ dktX2_turn_1
theorem dksX2_turn_0 : cX2_turn.data.toList.drop 0 = dktX2_turn_0 := by decide +kernel
theorem dksX2_turn_1 : cX2_turn.data.toList.drop 24 = dktX2_turn_1 := dk_seg dksX2_turn_0 24 rfl rfl
theorem dksX2_turn_2 : cX2_turn.data.toList.drop 46 = dktX2_turn_2 := dk_seg dksX2_turn_1 22 rfl rfl
theorem dksX2_turn_3 : cX2_turn.data.toList.drop 69 = dktX2_turn_3 := dk_seg dksX2_turn_2 23 rfl rfl
theorem dX2_turn_0 : decode cX2_turn 0 = .ok (.iload_n 3, 1) := dk_29 (dk_at dksX2_turn_0 0 rfl rfl)
theorem dX2_turn_1 : decode cX2_turn 1 = .ok (.ifCond .lt 19, 3) := dk_155 0 19 (dk_at dksX2_turn_0 1 rfl rfl)
theorem dX2_turn_4 : decode cX2_turn 4 = .ok (.iload_n 3, 1) := dk_29 (dk_at dksX2_turn_0 4 rfl rfl)
theorem dX2_turn_5 : decode cX2_turn 5 = .ok (.iconst 1, 1) := dk_4 (dk_at dksX2_turn_0 5 rfl rfl)
theorem dX2_turn_6 : decode cX2_turn 6 = .ok (.if_icmp .gt 14, 3) := dk_163 0 14 (dk_at dksX2_turn_0 6 rfl rfl)
theorem dX2_turn_9 : decode cX2_turn 9 = .ok (.aload_n 0, 1) := dk_42 (dk_at dksX2_turn_0 9 rfl rfl)
theorem dX2_turn_10 : decode cX2_turn 10 = .ok (.iload_n 1, 1) := dk_27 (dk_at dksX2_turn_0 10 rfl rfl)
theorem dX2_turn_11 : decode cX2_turn 11 = .ok (.iload_n 2, 1) := dk_28 (dk_at dksX2_turn_0 11 rfl rfl)
theorem dX2_turn_12 : decode cX2_turn 12 = .ok (.iload 4, 2) := dk_21 4 (dk_at dksX2_turn_0 12 rfl rfl)
theorem dX2_turn_14 : decode cX2_turn 14 = .ok (.invokevirtual 457, 3) := dk_182 1 201 (dk_at dksX2_turn_0 14 rfl rfl)
theorem dX2_turn_17 : decode cX2_turn 17 = .ok (.ifCond .ne 7, 3) := dk_154 0 7 (dk_at dksX2_turn_0 17 rfl rfl)
theorem dX2_turn_20 : decode cX2_turn 20 = .ok (.ldc2_w 481, 3) := dk_20 1 225 (dk_at dksX2_turn_0 20 rfl rfl)
theorem dX2_turn_23 : decode cX2_turn 23 = .ok (.lreturn, 1) := dk_173 (dk_at dksX2_turn_0 23 rfl rfl)
theorem dX2_turn_24 : decode cX2_turn 24 = .ok (.aload_n 0, 1) := dk_42 (dk_at dksX2_turn_1 0 rfl rfl)
theorem dX2_turn_25 : decode cX2_turn 25 = .ok (.iload_n 2, 1) := dk_28 (dk_at dksX2_turn_1 1 rfl rfl)
theorem dX2_turn_26 : decode cX2_turn 26 = .ok (.invokevirtual 522, 3) := dk_182 2 10 (dk_at dksX2_turn_1 2 rfl rfl)
theorem dX2_turn_29 : decode cX2_turn 29 = .ok (.aload_n 0, 1) := dk_42 (dk_at dksX2_turn_1 5 rfl rfl)
theorem dX2_turn_30 : decode cX2_turn 30 = .ok (.getfield 509, 3) := dk_180 1 253 (dk_at dksX2_turn_1 6 rfl rfl)
theorem dX2_turn_33 : decode cX2_turn 33 = .ok (.aload_n 0, 1) := dk_42 (dk_at dksX2_turn_1 9 rfl rfl)
theorem dX2_turn_34 : decode cX2_turn 34 = .ok (.getfield 512, 3) := dk_180 2 0 (dk_at dksX2_turn_1 10 rfl rfl)
theorem dX2_turn_37 : decode cX2_turn 37 = .ok (.invokestatic 464, 3) := dk_184 1 208 (dk_at dksX2_turn_1 13 rfl rfl)
theorem dX2_turn_40 : decode cX2_turn 40 = .ok (.lstore 5, 2) := dk_55 5 (dk_at dksX2_turn_1 16 rfl rfl)
theorem dX2_turn_42 : decode cX2_turn 42 = .ok (.lload 5, 2) := dk_22 5 (dk_at dksX2_turn_1 18 rfl rfl)
theorem dX2_turn_44 : decode cX2_turn 44 = .ok (.lconst 0, 1) := dk_9 (dk_at dksX2_turn_1 20 rfl rfl)
theorem dX2_turn_45 : decode cX2_turn 45 = .ok (.lcmp, 1) := dk_148 (dk_at dksX2_turn_1 21 rfl rfl)
theorem dX2_turn_46 : decode cX2_turn 46 = .ok (.ifCond .ne 5, 3) := dk_154 0 5 (dk_at dksX2_turn_2 0 rfl rfl)
theorem dX2_turn_49 : decode cX2_turn 49 = .ok (.lconst 0, 1) := dk_9 (dk_at dksX2_turn_2 3 rfl rfl)
theorem dX2_turn_50 : decode cX2_turn 50 = .ok (.lreturn, 1) := dk_173 (dk_at dksX2_turn_2 4 rfl rfl)
theorem dX2_turn_51 : decode cX2_turn 51 = .ok (.iload_n 3, 1) := dk_29 (dk_at dksX2_turn_2 5 rfl rfl)
theorem dX2_turn_52 : decode cX2_turn 52 = .ok (.ifCond .ne 13, 3) := dk_154 0 13 (dk_at dksX2_turn_2 6 rfl rfl)
theorem dX2_turn_55 : decode cX2_turn 55 = .ok (.aload_n 0, 1) := dk_42 (dk_at dksX2_turn_2 9 rfl rfl)
theorem dX2_turn_56 : decode cX2_turn 56 = .ok (.getfield 509, 3) := dk_180 1 253 (dk_at dksX2_turn_2 10 rfl rfl)
theorem dX2_turn_59 : decode cX2_turn 59 = .ok (.lload 5, 2) := dk_22 5 (dk_at dksX2_turn_2 13 rfl rfl)
theorem dX2_turn_61 : decode cX2_turn 61 = .ok (.ldiv, 1) := dk_109 (dk_at dksX2_turn_2 15 rfl rfl)
theorem dX2_turn_62 : decode cX2_turn 62 = .ok (.goto 10, 3) := dk_167 0 10 (dk_at dksX2_turn_2 16 rfl rfl)
theorem dX2_turn_65 : decode cX2_turn 65 = .ok (.aload_n 0, 1) := dk_42 (dk_at dksX2_turn_2 19 rfl rfl)
theorem dX2_turn_66 : decode cX2_turn 66 = .ok (.getfield 512, 3) := dk_180 2 0 (dk_at dksX2_turn_2 20 rfl rfl)
theorem dX2_turn_69 : decode cX2_turn 69 = .ok (.lload 5, 2) := dk_22 5 (dk_at dksX2_turn_3 0 rfl rfl)
theorem dX2_turn_71 : decode cX2_turn 71 = .ok (.ldiv, 1) := dk_109 (dk_at dksX2_turn_3 2 rfl rfl)
theorem dX2_turn_72 : decode cX2_turn 72 = .ok (.lreturn, 1) := dk_173 (dk_at dksX2_turn_3 3 rfl rfl)
abbrev cX2_seekTurn : ByteArray := prog_28_method_75_code
def yX2_seekTurn : MethodName := ⟨RX2, "seekTurn", "(I)V"⟩
def dkwX2_seekTurn_12 : List UInt8 := [181, 2, 0, 132, 2, 1, 167, 255, 108, 177]
abbrev dktX2_seekTurn_12 : List UInt8 := dkwX2_seekTurn_12 ++ []
def dkwX2_seekTurn_11 : List UInt8 := [22, 9, 105, 97, 97, 181, 1, 253, 42, 89, 180, 2, 0, 33, 22, 5, 22, 7, 22, 9, 184, 1, 161, 97]
abbrev dktX2_seekTurn_11 : List UInt8 := dkwX2_seekTurn_11 ++ dktX2_seekTurn_12
def dkwX2_seekTurn_10 : List UInt8 := [33, 105, 22, 5, 22, 5, 105, 97, 97, 181, 1, 250, 42, 89, 180, 1, 253, 33, 22, 7, 105, 22, 5]
abbrev dktX2_seekTurn_10 : List UInt8 := dkwX2_seekTurn_10 ++ dktX2_seekTurn_11
def dkwX2_seekTurn_9 : List UInt8 := [42, 180, 1, 247, 42, 27, 28, 182, 2, 7, 105, 42, 180, 1, 244, 101, 55, 9, 42, 89, 180, 1, 250, 33]
abbrev dktX2_seekTurn_9 : List UInt8 := dkwX2_seekTurn_9 ++ dktX2_seekTurn_10
def dkwX2_seekTurn_8 : List UInt8 := [180, 1, 238, 101, 55, 5, 42, 180, 1, 247, 42, 27, 28, 182, 2, 3, 105, 42, 180, 1, 241, 101, 55, 7]
abbrev dktX2_seekTurn_8 : List UInt8 := dkwX2_seekTurn_8 ++ dktX2_seekTurn_9
def dkwX2_seekTurn_7 : List UInt8 := [28, 182, 1, 146, 133, 105, 42, 180, 1, 235, 101, 66, 42, 180, 1, 247, 42, 28, 182, 1, 149, 133, 105, 42]
abbrev dktX2_seekTurn_7 : List UInt8 := dkwX2_seekTurn_7 ++ dktX2_seekTurn_8
def dkwX2_seekTurn_6 : List UInt8 := [61, 28, 16, 6, 162, 0, 148, 42, 27, 28, 182, 1, 205, 154, 0, 6, 167, 0, 130, 42, 180, 1, 247, 42]
abbrev dktX2_seekTurn_6 : List UInt8 := dkwX2_seekTurn_6 ++ dktX2_seekTurn_7
def dkwX2_seekTurn_5 : List UInt8 := [182, 2, 7, 97, 181, 1, 244, 42, 89, 180, 1, 247, 10, 97, 181, 1, 247, 132, 2, 1, 167, 255, 165, 3]
abbrev dktX2_seekTurn_5 : List UInt8 := dkwX2_seekTurn_5 ++ dktX2_seekTurn_6
def dkwX2_seekTurn_4 : List UInt8 := [89, 180, 1, 241, 42, 27, 28, 182, 2, 3, 97, 181, 1, 241, 42, 89, 180, 1, 244, 42, 27, 28]
abbrev dktX2_seekTurn_4 : List UInt8 := dkwX2_seekTurn_4 ++ dktX2_seekTurn_5
def dkwX2_seekTurn_3 : List UInt8 := [182, 1, 146, 133, 97, 181, 1, 235, 42, 89, 180, 1, 238, 42, 28, 182, 1, 149, 133, 97, 181, 1, 238, 42]
abbrev dktX2_seekTurn_3 : List UInt8 := dkwX2_seekTurn_3 ++ dktX2_seekTurn_4
def dkwX2_seekTurn_2 : List UInt8 := [162, 0, 91, 42, 27, 28, 182, 1, 205, 154, 0, 6, 167, 0, 73, 42, 89, 180, 1, 235, 42, 28]
abbrev dktX2_seekTurn_2 : List UInt8 := dkwX2_seekTurn_2 ++ dktX2_seekTurn_3
def dkwX2_seekTurn_1 : List UInt8 := [181, 1, 247, 42, 9, 181, 1, 250, 42, 9, 181, 1, 253, 42, 9, 181, 2, 0, 3, 61, 28, 16, 6]
abbrev dktX2_seekTurn_1 : List UInt8 := dkwX2_seekTurn_1 ++ dktX2_seekTurn_2
def dkwX2_seekTurn_0 : List UInt8 := [42, 9, 181, 1, 235, 42, 9, 181, 1, 238, 42, 9, 181, 1, 241, 42, 9, 181, 1, 244, 42, 9]
abbrev dktX2_seekTurn_0 : List UInt8 := dkwX2_seekTurn_0 ++ dktX2_seekTurn_1
theorem dksX2_seekTurn_0 : cX2_seekTurn.data.toList.drop 0 = dktX2_seekTurn_0 := by decide +kernel
theorem dksX2_seekTurn_1 : cX2_seekTurn.data.toList.drop 22 = dktX2_seekTurn_1 := dk_seg dksX2_seekTurn_0 22 rfl rfl
theorem dksX2_seekTurn_2 : cX2_seekTurn.data.toList.drop 45 = dktX2_seekTurn_2 := dk_seg dksX2_seekTurn_1 23 rfl rfl
theorem dksX2_seekTurn_3 : cX2_seekTurn.data.toList.drop 67 = dktX2_seekTurn_3 := dk_seg dksX2_seekTurn_2 22 rfl rfl
theorem dksX2_seekTurn_4 : cX2_seekTurn.data.toList.drop 91 = dktX2_seekTurn_4 := dk_seg dksX2_seekTurn_3 24 rfl rfl
theorem dksX2_seekTurn_5 : cX2_seekTurn.data.toList.drop 113 = dktX2_seekTurn_5 := dk_seg dksX2_seekTurn_4 22 rfl rfl
theorem dksX2_seekTurn_6 : cX2_seekTurn.data.toList.drop 137 = dktX2_seekTurn_6 := dk_seg dksX2_seekTurn_5 24 rfl rfl
theorem dksX2_seekTurn_7 : cX2_seekTurn.data.toList.drop 161 = dktX2_seekTurn_7 := dk_seg dksX2_seekTurn_6 24 rfl rfl
theorem dksX2_seekTurn_8 : cX2_seekTurn.data.toList.drop 185 = dktX2_seekTurn_8 := dk_seg dksX2_seekTurn_7 24 rfl rfl
theorem dksX2_seekTurn_9 : cX2_seekTurn.data.toList.drop 209 = dktX2_seekTurn_9 := dk_seg dksX2_seekTurn_8 24 rfl rfl
theorem dksX2_seekTurn_10 : cX2_seekTurn.data.toList.drop 233 = dktX2_seekTurn_10 := dk_seg dksX2_seekTurn_9 24 rfl rfl
theorem dksX2_seekTurn_11 : cX2_seekTurn.data.toList.drop 256 = dktX2_seekTurn_11 := dk_seg dksX2_seekTurn_10 23 rfl rfl
theorem dksX2_seekTurn_12 : cX2_seekTurn.data.toList.drop 280 = dktX2_seekTurn_12 := dk_seg dksX2_seekTurn_11 24 rfl rfl
theorem dX2_seekTurn_0 : decode cX2_seekTurn 0 = .ok (.aload_n 0, 1) := dk_42 (dk_at dksX2_seekTurn_0 0 rfl rfl)
theorem dX2_seekTurn_1 : decode cX2_seekTurn 1 = .ok (.lconst 0, 1) := dk_9 (dk_at dksX2_seekTurn_0 1 rfl rfl)
theorem dX2_seekTurn_2 : decode cX2_seekTurn 2 = .ok (.putfield 491, 3) := dk_181 1 235 (dk_at dksX2_seekTurn_0 2 rfl rfl)
theorem dX2_seekTurn_5 : decode cX2_seekTurn 5 = .ok (.aload_n 0, 1) := dk_42 (dk_at dksX2_seekTurn_0 5 rfl rfl)
theorem dX2_seekTurn_6 : decode cX2_seekTurn 6 = .ok (.lconst 0, 1) := dk_9 (dk_at dksX2_seekTurn_0 6 rfl rfl)
theorem dX2_seekTurn_7 : decode cX2_seekTurn 7 = .ok (.putfield 494, 3) := dk_181 1 238 (dk_at dksX2_seekTurn_0 7 rfl rfl)
theorem dX2_seekTurn_10 : decode cX2_seekTurn 10 = .ok (.aload_n 0, 1) := dk_42 (dk_at dksX2_seekTurn_0 10 rfl rfl)
theorem dX2_seekTurn_11 : decode cX2_seekTurn 11 = .ok (.lconst 0, 1) := dk_9 (dk_at dksX2_seekTurn_0 11 rfl rfl)
theorem dX2_seekTurn_12 : decode cX2_seekTurn 12 = .ok (.putfield 497, 3) := dk_181 1 241 (dk_at dksX2_seekTurn_0 12 rfl rfl)
theorem dX2_seekTurn_15 : decode cX2_seekTurn 15 = .ok (.aload_n 0, 1) := dk_42 (dk_at dksX2_seekTurn_0 15 rfl rfl)
theorem dX2_seekTurn_16 : decode cX2_seekTurn 16 = .ok (.lconst 0, 1) := dk_9 (dk_at dksX2_seekTurn_0 16 rfl rfl)
theorem dX2_seekTurn_17 : decode cX2_seekTurn 17 = .ok (.putfield 500, 3) := dk_181 1 244 (dk_at dksX2_seekTurn_0 17 rfl rfl)
theorem dX2_seekTurn_20 : decode cX2_seekTurn 20 = .ok (.aload_n 0, 1) := dk_42 (dk_at dksX2_seekTurn_0 20 rfl rfl)
theorem dX2_seekTurn_21 : decode cX2_seekTurn 21 = .ok (.lconst 0, 1) := dk_9 (dk_at dksX2_seekTurn_0 21 rfl rfl)
theorem dX2_seekTurn_22 : decode cX2_seekTurn 22 = .ok (.putfield 503, 3) := dk_181 1 247 (dk_at dksX2_seekTurn_1 0 rfl rfl)
theorem dX2_seekTurn_25 : decode cX2_seekTurn 25 = .ok (.aload_n 0, 1) := dk_42 (dk_at dksX2_seekTurn_1 3 rfl rfl)
theorem dX2_seekTurn_26 : decode cX2_seekTurn 26 = .ok (.lconst 0, 1) := dk_9 (dk_at dksX2_seekTurn_1 4 rfl rfl)
theorem dX2_seekTurn_27 : decode cX2_seekTurn 27 = .ok (.putfield 506, 3) := dk_181 1 250 (dk_at dksX2_seekTurn_1 5 rfl rfl)
theorem dX2_seekTurn_30 : decode cX2_seekTurn 30 = .ok (.aload_n 0, 1) := dk_42 (dk_at dksX2_seekTurn_1 8 rfl rfl)
theorem dX2_seekTurn_31 : decode cX2_seekTurn 31 = .ok (.lconst 0, 1) := dk_9 (dk_at dksX2_seekTurn_1 9 rfl rfl)
theorem dX2_seekTurn_32 : decode cX2_seekTurn 32 = .ok (.putfield 509, 3) := dk_181 1 253 (dk_at dksX2_seekTurn_1 10 rfl rfl)
theorem dX2_seekTurn_35 : decode cX2_seekTurn 35 = .ok (.aload_n 0, 1) := dk_42 (dk_at dksX2_seekTurn_1 13 rfl rfl)
theorem dX2_seekTurn_36 : decode cX2_seekTurn 36 = .ok (.lconst 0, 1) := dk_9 (dk_at dksX2_seekTurn_1 14 rfl rfl)
theorem dX2_seekTurn_37 : decode cX2_seekTurn 37 = .ok (.putfield 512, 3) := dk_181 2 0 (dk_at dksX2_seekTurn_1 15 rfl rfl)
theorem dX2_seekTurn_40 : decode cX2_seekTurn 40 = .ok (.iconst 0, 1) := dk_3 (dk_at dksX2_seekTurn_1 18 rfl rfl)
theorem dX2_seekTurn_41 : decode cX2_seekTurn 41 = .ok (.istore_n 2, 1) := dk_61 (dk_at dksX2_seekTurn_1 19 rfl rfl)
theorem dX2_seekTurn_42 : decode cX2_seekTurn 42 = .ok (.iload_n 2, 1) := dk_28 (dk_at dksX2_seekTurn_1 20 rfl rfl)
theorem dX2_seekTurn_43 : decode cX2_seekTurn 43 = .ok (.bipush 6, 2) := dk_16 6 (dk_at dksX2_seekTurn_1 21 rfl rfl)
theorem dX2_seekTurn_45 : decode cX2_seekTurn 45 = .ok (.if_icmp .ge 91, 3) := dk_162 0 91 (dk_at dksX2_seekTurn_2 0 rfl rfl)
theorem dX2_seekTurn_48 : decode cX2_seekTurn 48 = .ok (.aload_n 0, 1) := dk_42 (dk_at dksX2_seekTurn_2 3 rfl rfl)
theorem dX2_seekTurn_49 : decode cX2_seekTurn 49 = .ok (.iload_n 1, 1) := dk_27 (dk_at dksX2_seekTurn_2 4 rfl rfl)
theorem dX2_seekTurn_50 : decode cX2_seekTurn 50 = .ok (.iload_n 2, 1) := dk_28 (dk_at dksX2_seekTurn_2 5 rfl rfl)
theorem dX2_seekTurn_51 : decode cX2_seekTurn 51 = .ok (.invokevirtual 461, 3) := dk_182 1 205 (dk_at dksX2_seekTurn_2 6 rfl rfl)
theorem dX2_seekTurn_54 : decode cX2_seekTurn 54 = .ok (.ifCond .ne 6, 3) := dk_154 0 6 (dk_at dksX2_seekTurn_2 9 rfl rfl)
theorem dX2_seekTurn_57 : decode cX2_seekTurn 57 = .ok (.goto 73, 3) := dk_167 0 73 (dk_at dksX2_seekTurn_2 12 rfl rfl)
theorem dX2_seekTurn_60 : decode cX2_seekTurn 60 = .ok (.aload_n 0, 1) := dk_42 (dk_at dksX2_seekTurn_2 15 rfl rfl)
theorem dX2_seekTurn_61 : decode cX2_seekTurn 61 = .ok (.dup, 1) := dk_89 (dk_at dksX2_seekTurn_2 16 rfl rfl)
theorem dX2_seekTurn_62 : decode cX2_seekTurn 62 = .ok (.getfield 491, 3) := dk_180 1 235 (dk_at dksX2_seekTurn_2 17 rfl rfl)
theorem dX2_seekTurn_65 : decode cX2_seekTurn 65 = .ok (.aload_n 0, 1) := dk_42 (dk_at dksX2_seekTurn_2 20 rfl rfl)
theorem dX2_seekTurn_66 : decode cX2_seekTurn 66 = .ok (.iload_n 2, 1) := dk_28 (dk_at dksX2_seekTurn_2 21 rfl rfl)
theorem dX2_seekTurn_67 : decode cX2_seekTurn 67 = .ok (.invokevirtual 402, 3) := dk_182 1 146 (dk_at dksX2_seekTurn_3 0 rfl rfl)
theorem dX2_seekTurn_70 : decode cX2_seekTurn 70 = .ok (.i2l, 1) := dk_133 (dk_at dksX2_seekTurn_3 3 rfl rfl)
theorem dX2_seekTurn_71 : decode cX2_seekTurn 71 = .ok (.ladd, 1) := dk_97 (dk_at dksX2_seekTurn_3 4 rfl rfl)
theorem dX2_seekTurn_72 : decode cX2_seekTurn 72 = .ok (.putfield 491, 3) := dk_181 1 235 (dk_at dksX2_seekTurn_3 5 rfl rfl)
theorem dX2_seekTurn_75 : decode cX2_seekTurn 75 = .ok (.aload_n 0, 1) := dk_42 (dk_at dksX2_seekTurn_3 8 rfl rfl)
theorem dX2_seekTurn_76 : decode cX2_seekTurn 76 = .ok (.dup, 1) := dk_89 (dk_at dksX2_seekTurn_3 9 rfl rfl)
theorem dX2_seekTurn_77 : decode cX2_seekTurn 77 = .ok (.getfield 494, 3) := dk_180 1 238 (dk_at dksX2_seekTurn_3 10 rfl rfl)
theorem dX2_seekTurn_80 : decode cX2_seekTurn 80 = .ok (.aload_n 0, 1) := dk_42 (dk_at dksX2_seekTurn_3 13 rfl rfl)
theorem dX2_seekTurn_81 : decode cX2_seekTurn 81 = .ok (.iload_n 2, 1) := dk_28 (dk_at dksX2_seekTurn_3 14 rfl rfl)
theorem dX2_seekTurn_82 : decode cX2_seekTurn 82 = .ok (.invokevirtual 405, 3) := dk_182 1 149 (dk_at dksX2_seekTurn_3 15 rfl rfl)
theorem dX2_seekTurn_85 : decode cX2_seekTurn 85 = .ok (.i2l, 1) := dk_133 (dk_at dksX2_seekTurn_3 18 rfl rfl)
theorem dX2_seekTurn_86 : decode cX2_seekTurn 86 = .ok (.ladd, 1) := dk_97 (dk_at dksX2_seekTurn_3 19 rfl rfl)
theorem dX2_seekTurn_87 : decode cX2_seekTurn 87 = .ok (.putfield 494, 3) := dk_181 1 238 (dk_at dksX2_seekTurn_3 20 rfl rfl)
theorem dX2_seekTurn_90 : decode cX2_seekTurn 90 = .ok (.aload_n 0, 1) := dk_42 (dk_at dksX2_seekTurn_3 23 rfl rfl)
theorem dX2_seekTurn_91 : decode cX2_seekTurn 91 = .ok (.dup, 1) := dk_89 (dk_at dksX2_seekTurn_4 0 rfl rfl)
theorem dX2_seekTurn_92 : decode cX2_seekTurn 92 = .ok (.getfield 497, 3) := dk_180 1 241 (dk_at dksX2_seekTurn_4 1 rfl rfl)
theorem dX2_seekTurn_95 : decode cX2_seekTurn 95 = .ok (.aload_n 0, 1) := dk_42 (dk_at dksX2_seekTurn_4 4 rfl rfl)
theorem dX2_seekTurn_96 : decode cX2_seekTurn 96 = .ok (.iload_n 1, 1) := dk_27 (dk_at dksX2_seekTurn_4 5 rfl rfl)
theorem dX2_seekTurn_97 : decode cX2_seekTurn 97 = .ok (.iload_n 2, 1) := dk_28 (dk_at dksX2_seekTurn_4 6 rfl rfl)
theorem dX2_seekTurn_98 : decode cX2_seekTurn 98 = .ok (.invokevirtual 515, 3) := dk_182 2 3 (dk_at dksX2_seekTurn_4 7 rfl rfl)
theorem dX2_seekTurn_101 : decode cX2_seekTurn 101 = .ok (.ladd, 1) := dk_97 (dk_at dksX2_seekTurn_4 10 rfl rfl)
theorem dX2_seekTurn_102 : decode cX2_seekTurn 102 = .ok (.putfield 497, 3) := dk_181 1 241 (dk_at dksX2_seekTurn_4 11 rfl rfl)
theorem dX2_seekTurn_105 : decode cX2_seekTurn 105 = .ok (.aload_n 0, 1) := dk_42 (dk_at dksX2_seekTurn_4 14 rfl rfl)
theorem dX2_seekTurn_106 : decode cX2_seekTurn 106 = .ok (.dup, 1) := dk_89 (dk_at dksX2_seekTurn_4 15 rfl rfl)
theorem dX2_seekTurn_107 : decode cX2_seekTurn 107 = .ok (.getfield 500, 3) := dk_180 1 244 (dk_at dksX2_seekTurn_4 16 rfl rfl)
theorem dX2_seekTurn_110 : decode cX2_seekTurn 110 = .ok (.aload_n 0, 1) := dk_42 (dk_at dksX2_seekTurn_4 19 rfl rfl)
theorem dX2_seekTurn_111 : decode cX2_seekTurn 111 = .ok (.iload_n 1, 1) := dk_27 (dk_at dksX2_seekTurn_4 20 rfl rfl)
theorem dX2_seekTurn_112 : decode cX2_seekTurn 112 = .ok (.iload_n 2, 1) := dk_28 (dk_at dksX2_seekTurn_4 21 rfl rfl)
theorem dX2_seekTurn_113 : decode cX2_seekTurn 113 = .ok (.invokevirtual 519, 3) := dk_182 2 7 (dk_at dksX2_seekTurn_5 0 rfl rfl)
theorem dX2_seekTurn_116 : decode cX2_seekTurn 116 = .ok (.ladd, 1) := dk_97 (dk_at dksX2_seekTurn_5 3 rfl rfl)
theorem dX2_seekTurn_117 : decode cX2_seekTurn 117 = .ok (.putfield 500, 3) := dk_181 1 244 (dk_at dksX2_seekTurn_5 4 rfl rfl)
theorem dX2_seekTurn_120 : decode cX2_seekTurn 120 = .ok (.aload_n 0, 1) := dk_42 (dk_at dksX2_seekTurn_5 7 rfl rfl)
theorem dX2_seekTurn_121 : decode cX2_seekTurn 121 = .ok (.dup, 1) := dk_89 (dk_at dksX2_seekTurn_5 8 rfl rfl)
theorem dX2_seekTurn_122 : decode cX2_seekTurn 122 = .ok (.getfield 503, 3) := dk_180 1 247 (dk_at dksX2_seekTurn_5 9 rfl rfl)
theorem dX2_seekTurn_125 : decode cX2_seekTurn 125 = .ok (.lconst 1, 1) := dk_10 (dk_at dksX2_seekTurn_5 12 rfl rfl)
theorem dX2_seekTurn_126 : decode cX2_seekTurn 126 = .ok (.ladd, 1) := dk_97 (dk_at dksX2_seekTurn_5 13 rfl rfl)
theorem dX2_seekTurn_127 : decode cX2_seekTurn 127 = .ok (.putfield 503, 3) := dk_181 1 247 (dk_at dksX2_seekTurn_5 14 rfl rfl)
theorem dX2_seekTurn_130 : decode cX2_seekTurn 130 = .ok (.iinc 2 1, 3) := dk_132 2 1 (dk_at dksX2_seekTurn_5 17 rfl rfl)
theorem dX2_seekTurn_133 : decode cX2_seekTurn 133 = .ok (.goto (-91), 3) := dk_167 255 165 (dk_at dksX2_seekTurn_5 20 rfl rfl)
theorem dX2_seekTurn_136 : decode cX2_seekTurn 136 = .ok (.iconst 0, 1) := dk_3 (dk_at dksX2_seekTurn_5 23 rfl rfl)
theorem dX2_seekTurn_137 : decode cX2_seekTurn 137 = .ok (.istore_n 2, 1) := dk_61 (dk_at dksX2_seekTurn_6 0 rfl rfl)
theorem dX2_seekTurn_138 : decode cX2_seekTurn 138 = .ok (.iload_n 2, 1) := dk_28 (dk_at dksX2_seekTurn_6 1 rfl rfl)
theorem dX2_seekTurn_139 : decode cX2_seekTurn 139 = .ok (.bipush 6, 2) := dk_16 6 (dk_at dksX2_seekTurn_6 2 rfl rfl)
theorem dX2_seekTurn_141 : decode cX2_seekTurn 141 = .ok (.if_icmp .ge 148, 3) := dk_162 0 148 (dk_at dksX2_seekTurn_6 4 rfl rfl)
theorem dX2_seekTurn_144 : decode cX2_seekTurn 144 = .ok (.aload_n 0, 1) := dk_42 (dk_at dksX2_seekTurn_6 7 rfl rfl)
theorem dX2_seekTurn_145 : decode cX2_seekTurn 145 = .ok (.iload_n 1, 1) := dk_27 (dk_at dksX2_seekTurn_6 8 rfl rfl)
theorem dX2_seekTurn_146 : decode cX2_seekTurn 146 = .ok (.iload_n 2, 1) := dk_28 (dk_at dksX2_seekTurn_6 9 rfl rfl)
theorem dX2_seekTurn_147 : decode cX2_seekTurn 147 = .ok (.invokevirtual 461, 3) := dk_182 1 205 (dk_at dksX2_seekTurn_6 10 rfl rfl)
theorem dX2_seekTurn_150 : decode cX2_seekTurn 150 = .ok (.ifCond .ne 6, 3) := dk_154 0 6 (dk_at dksX2_seekTurn_6 13 rfl rfl)
theorem dX2_seekTurn_153 : decode cX2_seekTurn 153 = .ok (.goto 130, 3) := dk_167 0 130 (dk_at dksX2_seekTurn_6 16 rfl rfl)
theorem dX2_seekTurn_156 : decode cX2_seekTurn 156 = .ok (.aload_n 0, 1) := dk_42 (dk_at dksX2_seekTurn_6 19 rfl rfl)
theorem dX2_seekTurn_157 : decode cX2_seekTurn 157 = .ok (.getfield 503, 3) := dk_180 1 247 (dk_at dksX2_seekTurn_6 20 rfl rfl)
theorem dX2_seekTurn_160 : decode cX2_seekTurn 160 = .ok (.aload_n 0, 1) := dk_42 (dk_at dksX2_seekTurn_6 23 rfl rfl)
theorem dX2_seekTurn_161 : decode cX2_seekTurn 161 = .ok (.iload_n 2, 1) := dk_28 (dk_at dksX2_seekTurn_7 0 rfl rfl)
theorem dX2_seekTurn_162 : decode cX2_seekTurn 162 = .ok (.invokevirtual 402, 3) := dk_182 1 146 (dk_at dksX2_seekTurn_7 1 rfl rfl)
theorem dX2_seekTurn_165 : decode cX2_seekTurn 165 = .ok (.i2l, 1) := dk_133 (dk_at dksX2_seekTurn_7 4 rfl rfl)
theorem dX2_seekTurn_166 : decode cX2_seekTurn 166 = .ok (.lmul, 1) := dk_105 (dk_at dksX2_seekTurn_7 5 rfl rfl)
theorem dX2_seekTurn_167 : decode cX2_seekTurn 167 = .ok (.aload_n 0, 1) := dk_42 (dk_at dksX2_seekTurn_7 6 rfl rfl)
theorem dX2_seekTurn_168 : decode cX2_seekTurn 168 = .ok (.getfield 491, 3) := dk_180 1 235 (dk_at dksX2_seekTurn_7 7 rfl rfl)
theorem dX2_seekTurn_171 : decode cX2_seekTurn 171 = .ok (.lsub, 1) := dk_101 (dk_at dksX2_seekTurn_7 10 rfl rfl)
theorem dX2_seekTurn_172 : decode cX2_seekTurn 172 = .ok (.lstore_n 3, 1) := dk_66 (dk_at dksX2_seekTurn_7 11 rfl rfl)
theorem dX2_seekTurn_173 : decode cX2_seekTurn 173 = .ok (.aload_n 0, 1) := dk_42 (dk_at dksX2_seekTurn_7 12 rfl rfl)
theorem dX2_seekTurn_174 : decode cX2_seekTurn 174 = .ok (.getfield 503, 3) := dk_180 1 247 (dk_at dksX2_seekTurn_7 13 rfl rfl)
theorem dX2_seekTurn_177 : decode cX2_seekTurn 177 = .ok (.aload_n 0, 1) := dk_42 (dk_at dksX2_seekTurn_7 16 rfl rfl)
theorem dX2_seekTurn_178 : decode cX2_seekTurn 178 = .ok (.iload_n 2, 1) := dk_28 (dk_at dksX2_seekTurn_7 17 rfl rfl)
theorem dX2_seekTurn_179 : decode cX2_seekTurn 179 = .ok (.invokevirtual 405, 3) := dk_182 1 149 (dk_at dksX2_seekTurn_7 18 rfl rfl)
theorem dX2_seekTurn_182 : decode cX2_seekTurn 182 = .ok (.i2l, 1) := dk_133 (dk_at dksX2_seekTurn_7 21 rfl rfl)
theorem dX2_seekTurn_183 : decode cX2_seekTurn 183 = .ok (.lmul, 1) := dk_105 (dk_at dksX2_seekTurn_7 22 rfl rfl)
theorem dX2_seekTurn_184 : decode cX2_seekTurn 184 = .ok (.aload_n 0, 1) := dk_42 (dk_at dksX2_seekTurn_7 23 rfl rfl)
theorem dX2_seekTurn_185 : decode cX2_seekTurn 185 = .ok (.getfield 494, 3) := dk_180 1 238 (dk_at dksX2_seekTurn_8 0 rfl rfl)
theorem dX2_seekTurn_188 : decode cX2_seekTurn 188 = .ok (.lsub, 1) := dk_101 (dk_at dksX2_seekTurn_8 3 rfl rfl)
theorem dX2_seekTurn_189 : decode cX2_seekTurn 189 = .ok (.lstore 5, 2) := dk_55 5 (dk_at dksX2_seekTurn_8 4 rfl rfl)
theorem dX2_seekTurn_191 : decode cX2_seekTurn 191 = .ok (.aload_n 0, 1) := dk_42 (dk_at dksX2_seekTurn_8 6 rfl rfl)
theorem dX2_seekTurn_192 : decode cX2_seekTurn 192 = .ok (.getfield 503, 3) := dk_180 1 247 (dk_at dksX2_seekTurn_8 7 rfl rfl)
theorem dX2_seekTurn_195 : decode cX2_seekTurn 195 = .ok (.aload_n 0, 1) := dk_42 (dk_at dksX2_seekTurn_8 10 rfl rfl)
theorem dX2_seekTurn_196 : decode cX2_seekTurn 196 = .ok (.iload_n 1, 1) := dk_27 (dk_at dksX2_seekTurn_8 11 rfl rfl)
theorem dX2_seekTurn_197 : decode cX2_seekTurn 197 = .ok (.iload_n 2, 1) := dk_28 (dk_at dksX2_seekTurn_8 12 rfl rfl)
theorem dX2_seekTurn_198 : decode cX2_seekTurn 198 = .ok (.invokevirtual 515, 3) := dk_182 2 3 (dk_at dksX2_seekTurn_8 13 rfl rfl)
theorem dX2_seekTurn_201 : decode cX2_seekTurn 201 = .ok (.lmul, 1) := dk_105 (dk_at dksX2_seekTurn_8 16 rfl rfl)
theorem dX2_seekTurn_202 : decode cX2_seekTurn 202 = .ok (.aload_n 0, 1) := dk_42 (dk_at dksX2_seekTurn_8 17 rfl rfl)
theorem dX2_seekTurn_203 : decode cX2_seekTurn 203 = .ok (.getfield 497, 3) := dk_180 1 241 (dk_at dksX2_seekTurn_8 18 rfl rfl)
theorem dX2_seekTurn_206 : decode cX2_seekTurn 206 = .ok (.lsub, 1) := dk_101 (dk_at dksX2_seekTurn_8 21 rfl rfl)
theorem dX2_seekTurn_207 : decode cX2_seekTurn 207 = .ok (.lstore 7, 2) := dk_55 7 (dk_at dksX2_seekTurn_8 22 rfl rfl)
theorem dX2_seekTurn_209 : decode cX2_seekTurn 209 = .ok (.aload_n 0, 1) := dk_42 (dk_at dksX2_seekTurn_9 0 rfl rfl)
theorem dX2_seekTurn_210 : decode cX2_seekTurn 210 = .ok (.getfield 503, 3) := dk_180 1 247 (dk_at dksX2_seekTurn_9 1 rfl rfl)
theorem dX2_seekTurn_213 : decode cX2_seekTurn 213 = .ok (.aload_n 0, 1) := dk_42 (dk_at dksX2_seekTurn_9 4 rfl rfl)
theorem dX2_seekTurn_214 : decode cX2_seekTurn 214 = .ok (.iload_n 1, 1) := dk_27 (dk_at dksX2_seekTurn_9 5 rfl rfl)
theorem dX2_seekTurn_215 : decode cX2_seekTurn 215 = .ok (.iload_n 2, 1) := dk_28 (dk_at dksX2_seekTurn_9 6 rfl rfl)
theorem dX2_seekTurn_216 : decode cX2_seekTurn 216 = .ok (.invokevirtual 519, 3) := dk_182 2 7 (dk_at dksX2_seekTurn_9 7 rfl rfl)
theorem dX2_seekTurn_219 : decode cX2_seekTurn 219 = .ok (.lmul, 1) := dk_105 (dk_at dksX2_seekTurn_9 10 rfl rfl)
theorem dX2_seekTurn_220 : decode cX2_seekTurn 220 = .ok (.aload_n 0, 1) := dk_42 (dk_at dksX2_seekTurn_9 11 rfl rfl)
theorem dX2_seekTurn_221 : decode cX2_seekTurn 221 = .ok (.getfield 500, 3) := dk_180 1 244 (dk_at dksX2_seekTurn_9 12 rfl rfl)
theorem dX2_seekTurn_224 : decode cX2_seekTurn 224 = .ok (.lsub, 1) := dk_101 (dk_at dksX2_seekTurn_9 15 rfl rfl)
theorem dX2_seekTurn_225 : decode cX2_seekTurn 225 = .ok (.lstore 9, 2) := dk_55 9 (dk_at dksX2_seekTurn_9 16 rfl rfl)
theorem dX2_seekTurn_227 : decode cX2_seekTurn 227 = .ok (.aload_n 0, 1) := dk_42 (dk_at dksX2_seekTurn_9 18 rfl rfl)
theorem dX2_seekTurn_228 : decode cX2_seekTurn 228 = .ok (.dup, 1) := dk_89 (dk_at dksX2_seekTurn_9 19 rfl rfl)
theorem dX2_seekTurn_229 : decode cX2_seekTurn 229 = .ok (.getfield 506, 3) := dk_180 1 250 (dk_at dksX2_seekTurn_9 20 rfl rfl)
theorem dX2_seekTurn_232 : decode cX2_seekTurn 232 = .ok (.lload_n 3, 1) := dk_33 (dk_at dksX2_seekTurn_9 23 rfl rfl)
theorem dX2_seekTurn_233 : decode cX2_seekTurn 233 = .ok (.lload_n 3, 1) := dk_33 (dk_at dksX2_seekTurn_10 0 rfl rfl)
theorem dX2_seekTurn_234 : decode cX2_seekTurn 234 = .ok (.lmul, 1) := dk_105 (dk_at dksX2_seekTurn_10 1 rfl rfl)
theorem dX2_seekTurn_235 : decode cX2_seekTurn 235 = .ok (.lload 5, 2) := dk_22 5 (dk_at dksX2_seekTurn_10 2 rfl rfl)
theorem dX2_seekTurn_237 : decode cX2_seekTurn 237 = .ok (.lload 5, 2) := dk_22 5 (dk_at dksX2_seekTurn_10 4 rfl rfl)
theorem dX2_seekTurn_239 : decode cX2_seekTurn 239 = .ok (.lmul, 1) := dk_105 (dk_at dksX2_seekTurn_10 6 rfl rfl)
theorem dX2_seekTurn_240 : decode cX2_seekTurn 240 = .ok (.ladd, 1) := dk_97 (dk_at dksX2_seekTurn_10 7 rfl rfl)
theorem dX2_seekTurn_241 : decode cX2_seekTurn 241 = .ok (.ladd, 1) := dk_97 (dk_at dksX2_seekTurn_10 8 rfl rfl)
theorem dX2_seekTurn_242 : decode cX2_seekTurn 242 = .ok (.putfield 506, 3) := dk_181 1 250 (dk_at dksX2_seekTurn_10 9 rfl rfl)
theorem dX2_seekTurn_245 : decode cX2_seekTurn 245 = .ok (.aload_n 0, 1) := dk_42 (dk_at dksX2_seekTurn_10 12 rfl rfl)
theorem dX2_seekTurn_246 : decode cX2_seekTurn 246 = .ok (.dup, 1) := dk_89 (dk_at dksX2_seekTurn_10 13 rfl rfl)
theorem dX2_seekTurn_247 : decode cX2_seekTurn 247 = .ok (.getfield 509, 3) := dk_180 1 253 (dk_at dksX2_seekTurn_10 14 rfl rfl)
theorem dX2_seekTurn_250 : decode cX2_seekTurn 250 = .ok (.lload_n 3, 1) := dk_33 (dk_at dksX2_seekTurn_10 17 rfl rfl)
theorem dX2_seekTurn_251 : decode cX2_seekTurn 251 = .ok (.lload 7, 2) := dk_22 7 (dk_at dksX2_seekTurn_10 18 rfl rfl)
theorem dX2_seekTurn_253 : decode cX2_seekTurn 253 = .ok (.lmul, 1) := dk_105 (dk_at dksX2_seekTurn_10 20 rfl rfl)
theorem dX2_seekTurn_254 : decode cX2_seekTurn 254 = .ok (.lload 5, 2) := dk_22 5 (dk_at dksX2_seekTurn_10 21 rfl rfl)
theorem dX2_seekTurn_256 : decode cX2_seekTurn 256 = .ok (.lload 9, 2) := dk_22 9 (dk_at dksX2_seekTurn_11 0 rfl rfl)
theorem dX2_seekTurn_258 : decode cX2_seekTurn 258 = .ok (.lmul, 1) := dk_105 (dk_at dksX2_seekTurn_11 2 rfl rfl)
theorem dX2_seekTurn_259 : decode cX2_seekTurn 259 = .ok (.ladd, 1) := dk_97 (dk_at dksX2_seekTurn_11 3 rfl rfl)
theorem dX2_seekTurn_260 : decode cX2_seekTurn 260 = .ok (.ladd, 1) := dk_97 (dk_at dksX2_seekTurn_11 4 rfl rfl)
theorem dX2_seekTurn_261 : decode cX2_seekTurn 261 = .ok (.putfield 509, 3) := dk_181 1 253 (dk_at dksX2_seekTurn_11 5 rfl rfl)
theorem dX2_seekTurn_264 : decode cX2_seekTurn 264 = .ok (.aload_n 0, 1) := dk_42 (dk_at dksX2_seekTurn_11 8 rfl rfl)
theorem dX2_seekTurn_265 : decode cX2_seekTurn 265 = .ok (.dup, 1) := dk_89 (dk_at dksX2_seekTurn_11 9 rfl rfl)
theorem dX2_seekTurn_266 : decode cX2_seekTurn 266 = .ok (.getfield 512, 3) := dk_180 2 0 (dk_at dksX2_seekTurn_11 10 rfl rfl)
theorem dX2_seekTurn_269 : decode cX2_seekTurn 269 = .ok (.lload_n 3, 1) := dk_33 (dk_at dksX2_seekTurn_11 13 rfl rfl)
theorem dX2_seekTurn_270 : decode cX2_seekTurn 270 = .ok (.lload 5, 2) := dk_22 5 (dk_at dksX2_seekTurn_11 14 rfl rfl)
theorem dX2_seekTurn_272 : decode cX2_seekTurn 272 = .ok (.lload 7, 2) := dk_22 7 (dk_at dksX2_seekTurn_11 16 rfl rfl)
theorem dX2_seekTurn_274 : decode cX2_seekTurn 274 = .ok (.lload 9, 2) := dk_22 9 (dk_at dksX2_seekTurn_11 18 rfl rfl)
theorem dX2_seekTurn_276 : decode cX2_seekTurn 276 = .ok (.invokestatic 417, 3) := dk_184 1 161 (dk_at dksX2_seekTurn_11 20 rfl rfl)
theorem dX2_seekTurn_279 : decode cX2_seekTurn 279 = .ok (.ladd, 1) := dk_97 (dk_at dksX2_seekTurn_11 23 rfl rfl)
theorem dX2_seekTurn_280 : decode cX2_seekTurn 280 = .ok (.putfield 512, 3) := dk_181 2 0 (dk_at dksX2_seekTurn_12 0 rfl rfl)
theorem dX2_seekTurn_283 : decode cX2_seekTurn 283 = .ok (.iinc 2 1, 3) := dk_132 2 1 (dk_at dksX2_seekTurn_12 3 rfl rfl)
theorem dX2_seekTurn_286 : decode cX2_seekTurn 286 = .ok (.goto (-148), 3) := dk_167 255 108 (dk_at dksX2_seekTurn_12 6 rfl rfl)
theorem dX2_seekTurn_289 : decode cX2_seekTurn 289 = .ok (.return_, 1) := dk_177 (dk_at dksX2_seekTurn_12 9 rfl rfl)
abbrev cX2_ownX : ByteArray := prog_28_method_73_code
def yX2_ownX : MethodName := ⟨RX2, "ownX", "(II)J"⟩
def dkwX2_ownX_1 : List UInt8 := [16, 8, 46, 96, 133, 105, 173]
abbrev dktX2_ownX_1 : List UInt8 := dkwX2_ownX_1 ++ []
def dkwX2_ownX_0 : List UInt8 := [20, 1, 233, 42, 180, 0, 32, 42, 180, 0, 106, 16, 6, 27, 104, 28, 96, 46, 46, 42, 180, 0, 20]
abbrev dktX2_ownX_0 : List UInt8 := dkwX2_ownX_0 ++ dktX2_ownX_1
theorem dksX2_ownX_0 : cX2_ownX.data.toList.drop 0 = dktX2_ownX_0 := by decide +kernel
theorem dksX2_ownX_1 : cX2_ownX.data.toList.drop 23 = dktX2_ownX_1 := dk_seg dksX2_ownX_0 23 rfl rfl
theorem dX2_ownX_0 : decode cX2_ownX 0 = .ok (.ldc2_w 489, 3) := dk_20 1 233 (dk_at dksX2_ownX_0 0 rfl rfl)
theorem dX2_ownX_3 : decode cX2_ownX 3 = .ok (.aload_n 0, 1) := dk_42 (dk_at dksX2_ownX_0 3 rfl rfl)
theorem dX2_ownX_4 : decode cX2_ownX 4 = .ok (.getfield 32, 3) := dk_180 0 32 (dk_at dksX2_ownX_0 4 rfl rfl)
theorem dX2_ownX_7 : decode cX2_ownX 7 = .ok (.aload_n 0, 1) := dk_42 (dk_at dksX2_ownX_0 7 rfl rfl)
theorem dX2_ownX_8 : decode cX2_ownX 8 = .ok (.getfield 106, 3) := dk_180 0 106 (dk_at dksX2_ownX_0 8 rfl rfl)
theorem dX2_ownX_11 : decode cX2_ownX 11 = .ok (.bipush 6, 2) := dk_16 6 (dk_at dksX2_ownX_0 11 rfl rfl)
theorem dX2_ownX_13 : decode cX2_ownX 13 = .ok (.iload_n 1, 1) := dk_27 (dk_at dksX2_ownX_0 13 rfl rfl)
theorem dX2_ownX_14 : decode cX2_ownX 14 = .ok (.imul, 1) := dk_104 (dk_at dksX2_ownX_0 14 rfl rfl)
theorem dX2_ownX_15 : decode cX2_ownX 15 = .ok (.iload_n 2, 1) := dk_28 (dk_at dksX2_ownX_0 15 rfl rfl)
theorem dX2_ownX_16 : decode cX2_ownX 16 = .ok (.iadd, 1) := dk_96 (dk_at dksX2_ownX_0 16 rfl rfl)
theorem dX2_ownX_17 : decode cX2_ownX 17 = .ok (.iaload, 1) := dk_46 (dk_at dksX2_ownX_0 17 rfl rfl)
theorem dX2_ownX_18 : decode cX2_ownX 18 = .ok (.iaload, 1) := dk_46 (dk_at dksX2_ownX_0 18 rfl rfl)
theorem dX2_ownX_19 : decode cX2_ownX 19 = .ok (.aload_n 0, 1) := dk_42 (dk_at dksX2_ownX_0 19 rfl rfl)
theorem dX2_ownX_20 : decode cX2_ownX 20 = .ok (.getfield 20, 3) := dk_180 0 20 (dk_at dksX2_ownX_0 20 rfl rfl)
theorem dX2_ownX_23 : decode cX2_ownX 23 = .ok (.bipush 8, 2) := dk_16 8 (dk_at dksX2_ownX_1 0 rfl rfl)
theorem dX2_ownX_25 : decode cX2_ownX 25 = .ok (.iaload, 1) := dk_46 (dk_at dksX2_ownX_1 2 rfl rfl)
theorem dX2_ownX_26 : decode cX2_ownX 26 = .ok (.iadd, 1) := dk_96 (dk_at dksX2_ownX_1 3 rfl rfl)
theorem dX2_ownX_27 : decode cX2_ownX 27 = .ok (.i2l, 1) := dk_133 (dk_at dksX2_ownX_1 4 rfl rfl)
theorem dX2_ownX_28 : decode cX2_ownX 28 = .ok (.lmul, 1) := dk_105 (dk_at dksX2_ownX_1 5 rfl rfl)
theorem dX2_ownX_29 : decode cX2_ownX 29 = .ok (.lreturn, 1) := dk_173 (dk_at dksX2_ownX_1 6 rfl rfl)
abbrev cX2_ownY : ByteArray := prog_28_method_74_code
def yX2_ownY : MethodName := ⟨RX2, "ownY", "(II)J"⟩
def dkwX2_ownY_1 : List UInt8 := [16, 9, 46, 96, 133, 105, 173]
abbrev dktX2_ownY_1 : List UInt8 := dkwX2_ownY_1 ++ []
def dkwX2_ownY_0 : List UInt8 := [20, 1, 233, 42, 180, 0, 35, 42, 180, 0, 106, 16, 6, 27, 104, 28, 96, 46, 46, 42, 180, 0, 20]
abbrev dktX2_ownY_0 : List UInt8 := dkwX2_ownY_0 ++ dktX2_ownY_1
theorem dksX2_ownY_0 : cX2_ownY.data.toList.drop 0 = dktX2_ownY_0 := by decide +kernel
theorem dksX2_ownY_1 : cX2_ownY.data.toList.drop 23 = dktX2_ownY_1 := dk_seg dksX2_ownY_0 23 rfl rfl
theorem dX2_ownY_0 : decode cX2_ownY 0 = .ok (.ldc2_w 489, 3) := dk_20 1 233 (dk_at dksX2_ownY_0 0 rfl rfl)
theorem dX2_ownY_3 : decode cX2_ownY 3 = .ok (.aload_n 0, 1) := dk_42 (dk_at dksX2_ownY_0 3 rfl rfl)
theorem dX2_ownY_4 : decode cX2_ownY 4 = .ok (.getfield 35, 3) := dk_180 0 35 (dk_at dksX2_ownY_0 4 rfl rfl)
theorem dX2_ownY_7 : decode cX2_ownY 7 = .ok (.aload_n 0, 1) := dk_42 (dk_at dksX2_ownY_0 7 rfl rfl)
theorem dX2_ownY_8 : decode cX2_ownY 8 = .ok (.getfield 106, 3) := dk_180 0 106 (dk_at dksX2_ownY_0 8 rfl rfl)
theorem dX2_ownY_11 : decode cX2_ownY 11 = .ok (.bipush 6, 2) := dk_16 6 (dk_at dksX2_ownY_0 11 rfl rfl)
theorem dX2_ownY_13 : decode cX2_ownY 13 = .ok (.iload_n 1, 1) := dk_27 (dk_at dksX2_ownY_0 13 rfl rfl)
theorem dX2_ownY_14 : decode cX2_ownY 14 = .ok (.imul, 1) := dk_104 (dk_at dksX2_ownY_0 14 rfl rfl)
theorem dX2_ownY_15 : decode cX2_ownY 15 = .ok (.iload_n 2, 1) := dk_28 (dk_at dksX2_ownY_0 15 rfl rfl)
theorem dX2_ownY_16 : decode cX2_ownY 16 = .ok (.iadd, 1) := dk_96 (dk_at dksX2_ownY_0 16 rfl rfl)
theorem dX2_ownY_17 : decode cX2_ownY 17 = .ok (.iaload, 1) := dk_46 (dk_at dksX2_ownY_0 17 rfl rfl)
theorem dX2_ownY_18 : decode cX2_ownY 18 = .ok (.iaload, 1) := dk_46 (dk_at dksX2_ownY_0 18 rfl rfl)
theorem dX2_ownY_19 : decode cX2_ownY 19 = .ok (.aload_n 0, 1) := dk_42 (dk_at dksX2_ownY_0 19 rfl rfl)
theorem dX2_ownY_20 : decode cX2_ownY 20 = .ok (.getfield 20, 3) := dk_180 0 20 (dk_at dksX2_ownY_0 20 rfl rfl)
theorem dX2_ownY_23 : decode cX2_ownY 23 = .ok (.bipush 9, 2) := dk_16 9 (dk_at dksX2_ownY_1 0 rfl rfl)
theorem dX2_ownY_25 : decode cX2_ownY 25 = .ok (.iaload, 1) := dk_46 (dk_at dksX2_ownY_1 2 rfl rfl)
theorem dX2_ownY_26 : decode cX2_ownY 26 = .ok (.iadd, 1) := dk_96 (dk_at dksX2_ownY_1 3 rfl rfl)
theorem dX2_ownY_27 : decode cX2_ownY 27 = .ok (.i2l, 1) := dk_133 (dk_at dksX2_ownY_1 4 rfl rfl)
theorem dX2_ownY_28 : decode cX2_ownY 28 = .ok (.lmul, 1) := dk_105 (dk_at dksX2_ownY_1 5 rfl rfl)
theorem dX2_ownY_29 : decode cX2_ownY 29 = .ok (.lreturn, 1) := dk_173 (dk_at dksX2_ownY_1 6 rfl rfl)
abbrev cX2_look : ByteArray := prog_28_method_77_code
def yX2_look : MethodName := ⟨RX2, "look", "(IIIII)J"⟩
def dkwX2_look_8 : List UInt8 := [167, 0, 7, 42, 180, 1, 215, 173]
abbrev dktX2_look_8 : List UInt8 := dkwX2_look_8 ++ []
def dkwX2_look_7 : List UInt8 := [105, 97, 42, 180, 1, 250, 42, 180, 1, 247, 105, 182, 1, 221, 21, 4, 154, 0, 10, 42, 180, 1, 212]
abbrev dktX2_look_7 : List UInt8 := dkwX2_look_7 ++ dktX2_look_8
def dkwX2_look_6 : List UInt8 := [42, 42, 180, 1, 244, 42, 180, 1, 250, 105, 42, 180, 2, 0, 22, 8, 105, 97, 42, 180, 1, 253, 22, 10]
abbrev dktX2_look_6 : List UInt8 := dkwX2_look_6 ++ dktX2_look_7
def dkwX2_look_5 : List UInt8 := [97, 42, 180, 2, 0, 22, 10, 105, 101, 42, 180, 1, 250, 42, 180, 1, 247, 105, 182, 1, 221, 167, 0, 41]
abbrev dktX2_look_5 : List UInt8 := dkwX2_look_5 ++ dktX2_look_6
def dkwX2_look_4 : List UInt8 := [101, 55, 10, 29, 154, 0, 44, 42, 42, 180, 1, 241, 42, 180, 1, 250, 105, 42, 180, 1, 253, 22, 8, 105]
abbrev dktX2_look_4 : List UInt8 := dkwX2_look_4 ++ dktX2_look_5
def dkwX2_look_3 : List UInt8 := [133, 105, 42, 180, 1, 247, 105, 55, 6, 22, 6, 42, 180, 1, 235, 101, 55, 8, 22, 6, 42, 180, 1, 238]
abbrev dktX2_look_3 : List UInt8 := dkwX2_look_3 ++ dktX2_look_4
def dkwX2_look_2 : List UInt8 := [154, 0, 7, 20, 1, 225, 173, 20, 2, 13, 42, 180, 0, 20, 3, 46, 133, 105, 42, 180, 0, 20, 4, 46]
abbrev dktX2_look_2 : List UInt8 := dkwX2_look_2 ++ dktX2_look_3
def dkwX2_look_1 : List UInt8 := [21, 5, 182, 1, 201, 154, 0, 7, 20, 1, 225, 173, 42, 28, 182, 2, 10, 42, 180, 1, 250, 9, 148]
abbrev dktX2_look_1 : List UInt8 := dkwX2_look_1 ++ dktX2_look_2
def dkwX2_look_0 : List UInt8 := [29, 155, 0, 30, 29, 4, 163, 0, 25, 21, 4, 155, 0, 20, 21, 4, 4, 163, 0, 14, 42, 27, 28]
abbrev dktX2_look_0 : List UInt8 := dkwX2_look_0 ++ dktX2_look_1
theorem dksX2_look_0 : cX2_look.data.toList.drop 0 = dktX2_look_0 := by decide +kernel
theorem dksX2_look_1 : cX2_look.data.toList.drop 23 = dktX2_look_1 := dk_seg dksX2_look_0 23 rfl rfl
theorem dksX2_look_2 : cX2_look.data.toList.drop 46 = dktX2_look_2 := dk_seg dksX2_look_1 23 rfl rfl
theorem dksX2_look_3 : cX2_look.data.toList.drop 70 = dktX2_look_3 := dk_seg dksX2_look_2 24 rfl rfl
theorem dksX2_look_4 : cX2_look.data.toList.drop 94 = dktX2_look_4 := dk_seg dksX2_look_3 24 rfl rfl
theorem dksX2_look_5 : cX2_look.data.toList.drop 118 = dktX2_look_5 := dk_seg dksX2_look_4 24 rfl rfl
theorem dksX2_look_6 : cX2_look.data.toList.drop 142 = dktX2_look_6 := dk_seg dksX2_look_5 24 rfl rfl
theorem dksX2_look_7 : cX2_look.data.toList.drop 166 = dktX2_look_7 := dk_seg dksX2_look_6 24 rfl rfl
theorem dksX2_look_8 : cX2_look.data.toList.drop 189 = dktX2_look_8 := dk_seg dksX2_look_7 23 rfl rfl
theorem dX2_look_0 : decode cX2_look 0 = .ok (.iload_n 3, 1) := dk_29 (dk_at dksX2_look_0 0 rfl rfl)
theorem dX2_look_1 : decode cX2_look 1 = .ok (.ifCond .lt 30, 3) := dk_155 0 30 (dk_at dksX2_look_0 1 rfl rfl)
theorem dX2_look_4 : decode cX2_look 4 = .ok (.iload_n 3, 1) := dk_29 (dk_at dksX2_look_0 4 rfl rfl)
theorem dX2_look_5 : decode cX2_look 5 = .ok (.iconst 1, 1) := dk_4 (dk_at dksX2_look_0 5 rfl rfl)
theorem dX2_look_6 : decode cX2_look 6 = .ok (.if_icmp .gt 25, 3) := dk_163 0 25 (dk_at dksX2_look_0 6 rfl rfl)
theorem dX2_look_9 : decode cX2_look 9 = .ok (.iload 4, 2) := dk_21 4 (dk_at dksX2_look_0 9 rfl rfl)
theorem dX2_look_11 : decode cX2_look 11 = .ok (.ifCond .lt 20, 3) := dk_155 0 20 (dk_at dksX2_look_0 11 rfl rfl)
theorem dX2_look_14 : decode cX2_look 14 = .ok (.iload 4, 2) := dk_21 4 (dk_at dksX2_look_0 14 rfl rfl)
theorem dX2_look_16 : decode cX2_look 16 = .ok (.iconst 1, 1) := dk_4 (dk_at dksX2_look_0 16 rfl rfl)
theorem dX2_look_17 : decode cX2_look 17 = .ok (.if_icmp .gt 14, 3) := dk_163 0 14 (dk_at dksX2_look_0 17 rfl rfl)
theorem dX2_look_20 : decode cX2_look 20 = .ok (.aload_n 0, 1) := dk_42 (dk_at dksX2_look_0 20 rfl rfl)
theorem dX2_look_21 : decode cX2_look 21 = .ok (.iload_n 1, 1) := dk_27 (dk_at dksX2_look_0 21 rfl rfl)
theorem dX2_look_22 : decode cX2_look 22 = .ok (.iload_n 2, 1) := dk_28 (dk_at dksX2_look_0 22 rfl rfl)
theorem dX2_look_23 : decode cX2_look 23 = .ok (.iload 5, 2) := dk_21 5 (dk_at dksX2_look_1 0 rfl rfl)
theorem dX2_look_25 : decode cX2_look 25 = .ok (.invokevirtual 457, 3) := dk_182 1 201 (dk_at dksX2_look_1 2 rfl rfl)
theorem dX2_look_28 : decode cX2_look 28 = .ok (.ifCond .ne 7, 3) := dk_154 0 7 (dk_at dksX2_look_1 5 rfl rfl)
theorem dX2_look_31 : decode cX2_look 31 = .ok (.ldc2_w 481, 3) := dk_20 1 225 (dk_at dksX2_look_1 8 rfl rfl)
theorem dX2_look_34 : decode cX2_look 34 = .ok (.lreturn, 1) := dk_173 (dk_at dksX2_look_1 11 rfl rfl)
theorem dX2_look_35 : decode cX2_look 35 = .ok (.aload_n 0, 1) := dk_42 (dk_at dksX2_look_1 12 rfl rfl)
theorem dX2_look_36 : decode cX2_look 36 = .ok (.iload_n 2, 1) := dk_28 (dk_at dksX2_look_1 13 rfl rfl)
theorem dX2_look_37 : decode cX2_look 37 = .ok (.invokevirtual 522, 3) := dk_182 2 10 (dk_at dksX2_look_1 14 rfl rfl)
theorem dX2_look_40 : decode cX2_look 40 = .ok (.aload_n 0, 1) := dk_42 (dk_at dksX2_look_1 17 rfl rfl)
theorem dX2_look_41 : decode cX2_look 41 = .ok (.getfield 506, 3) := dk_180 1 250 (dk_at dksX2_look_1 18 rfl rfl)
theorem dX2_look_44 : decode cX2_look 44 = .ok (.lconst 0, 1) := dk_9 (dk_at dksX2_look_1 21 rfl rfl)
theorem dX2_look_45 : decode cX2_look 45 = .ok (.lcmp, 1) := dk_148 (dk_at dksX2_look_1 22 rfl rfl)
theorem dX2_look_46 : decode cX2_look 46 = .ok (.ifCond .ne 7, 3) := dk_154 0 7 (dk_at dksX2_look_2 0 rfl rfl)
theorem dX2_look_49 : decode cX2_look 49 = .ok (.ldc2_w 481, 3) := dk_20 1 225 (dk_at dksX2_look_2 3 rfl rfl)
theorem dX2_look_52 : decode cX2_look 52 = .ok (.lreturn, 1) := dk_173 (dk_at dksX2_look_2 6 rfl rfl)
theorem dX2_look_53 : decode cX2_look 53 = .ok (.ldc2_w 525, 3) := dk_20 2 13 (dk_at dksX2_look_2 7 rfl rfl)
theorem dX2_look_56 : decode cX2_look 56 = .ok (.aload_n 0, 1) := dk_42 (dk_at dksX2_look_2 10 rfl rfl)
theorem dX2_look_57 : decode cX2_look 57 = .ok (.getfield 20, 3) := dk_180 0 20 (dk_at dksX2_look_2 11 rfl rfl)
theorem dX2_look_60 : decode cX2_look 60 = .ok (.iconst 0, 1) := dk_3 (dk_at dksX2_look_2 14 rfl rfl)
theorem dX2_look_61 : decode cX2_look 61 = .ok (.iaload, 1) := dk_46 (dk_at dksX2_look_2 15 rfl rfl)
theorem dX2_look_62 : decode cX2_look 62 = .ok (.i2l, 1) := dk_133 (dk_at dksX2_look_2 16 rfl rfl)
theorem dX2_look_63 : decode cX2_look 63 = .ok (.lmul, 1) := dk_105 (dk_at dksX2_look_2 17 rfl rfl)
theorem dX2_look_64 : decode cX2_look 64 = .ok (.aload_n 0, 1) := dk_42 (dk_at dksX2_look_2 18 rfl rfl)
theorem dX2_look_65 : decode cX2_look 65 = .ok (.getfield 20, 3) := dk_180 0 20 (dk_at dksX2_look_2 19 rfl rfl)
theorem dX2_look_68 : decode cX2_look 68 = .ok (.iconst 1, 1) := dk_4 (dk_at dksX2_look_2 22 rfl rfl)
theorem dX2_look_69 : decode cX2_look 69 = .ok (.iaload, 1) := dk_46 (dk_at dksX2_look_2 23 rfl rfl)
theorem dX2_look_70 : decode cX2_look 70 = .ok (.i2l, 1) := dk_133 (dk_at dksX2_look_3 0 rfl rfl)
theorem dX2_look_71 : decode cX2_look 71 = .ok (.lmul, 1) := dk_105 (dk_at dksX2_look_3 1 rfl rfl)
theorem dX2_look_72 : decode cX2_look 72 = .ok (.aload_n 0, 1) := dk_42 (dk_at dksX2_look_3 2 rfl rfl)
theorem dX2_look_73 : decode cX2_look 73 = .ok (.getfield 503, 3) := dk_180 1 247 (dk_at dksX2_look_3 3 rfl rfl)
theorem dX2_look_76 : decode cX2_look 76 = .ok (.lmul, 1) := dk_105 (dk_at dksX2_look_3 6 rfl rfl)
theorem dX2_look_77 : decode cX2_look 77 = .ok (.lstore 6, 2) := dk_55 6 (dk_at dksX2_look_3 7 rfl rfl)
theorem dX2_look_79 : decode cX2_look 79 = .ok (.lload 6, 2) := dk_22 6 (dk_at dksX2_look_3 9 rfl rfl)
theorem dX2_look_81 : decode cX2_look 81 = .ok (.aload_n 0, 1) := dk_42 (dk_at dksX2_look_3 11 rfl rfl)
theorem dX2_look_82 : decode cX2_look 82 = .ok (.getfield 491, 3) := dk_180 1 235 (dk_at dksX2_look_3 12 rfl rfl)
theorem dX2_look_85 : decode cX2_look 85 = .ok (.lsub, 1) := dk_101 (dk_at dksX2_look_3 15 rfl rfl)
theorem dX2_look_86 : decode cX2_look 86 = .ok (.lstore 8, 2) := dk_55 8 (dk_at dksX2_look_3 16 rfl rfl)
theorem dX2_look_88 : decode cX2_look 88 = .ok (.lload 6, 2) := dk_22 6 (dk_at dksX2_look_3 18 rfl rfl)
theorem dX2_look_90 : decode cX2_look 90 = .ok (.aload_n 0, 1) := dk_42 (dk_at dksX2_look_3 20 rfl rfl)
theorem dX2_look_91 : decode cX2_look 91 = .ok (.getfield 494, 3) := dk_180 1 238 (dk_at dksX2_look_3 21 rfl rfl)
theorem dX2_look_94 : decode cX2_look 94 = .ok (.lsub, 1) := dk_101 (dk_at dksX2_look_4 0 rfl rfl)
theorem dX2_look_95 : decode cX2_look 95 = .ok (.lstore 10, 2) := dk_55 10 (dk_at dksX2_look_4 1 rfl rfl)
theorem dX2_look_97 : decode cX2_look 97 = .ok (.iload_n 3, 1) := dk_29 (dk_at dksX2_look_4 3 rfl rfl)
theorem dX2_look_98 : decode cX2_look 98 = .ok (.ifCond .ne 44, 3) := dk_154 0 44 (dk_at dksX2_look_4 4 rfl rfl)
theorem dX2_look_101 : decode cX2_look 101 = .ok (.aload_n 0, 1) := dk_42 (dk_at dksX2_look_4 7 rfl rfl)
theorem dX2_look_102 : decode cX2_look 102 = .ok (.aload_n 0, 1) := dk_42 (dk_at dksX2_look_4 8 rfl rfl)
theorem dX2_look_103 : decode cX2_look 103 = .ok (.getfield 497, 3) := dk_180 1 241 (dk_at dksX2_look_4 9 rfl rfl)
theorem dX2_look_106 : decode cX2_look 106 = .ok (.aload_n 0, 1) := dk_42 (dk_at dksX2_look_4 12 rfl rfl)
theorem dX2_look_107 : decode cX2_look 107 = .ok (.getfield 506, 3) := dk_180 1 250 (dk_at dksX2_look_4 13 rfl rfl)
theorem dX2_look_110 : decode cX2_look 110 = .ok (.lmul, 1) := dk_105 (dk_at dksX2_look_4 16 rfl rfl)
theorem dX2_look_111 : decode cX2_look 111 = .ok (.aload_n 0, 1) := dk_42 (dk_at dksX2_look_4 17 rfl rfl)
theorem dX2_look_112 : decode cX2_look 112 = .ok (.getfield 509, 3) := dk_180 1 253 (dk_at dksX2_look_4 18 rfl rfl)
theorem dX2_look_115 : decode cX2_look 115 = .ok (.lload 8, 2) := dk_22 8 (dk_at dksX2_look_4 21 rfl rfl)
theorem dX2_look_117 : decode cX2_look 117 = .ok (.lmul, 1) := dk_105 (dk_at dksX2_look_4 23 rfl rfl)
theorem dX2_look_118 : decode cX2_look 118 = .ok (.ladd, 1) := dk_97 (dk_at dksX2_look_5 0 rfl rfl)
theorem dX2_look_119 : decode cX2_look 119 = .ok (.aload_n 0, 1) := dk_42 (dk_at dksX2_look_5 1 rfl rfl)
theorem dX2_look_120 : decode cX2_look 120 = .ok (.getfield 512, 3) := dk_180 2 0 (dk_at dksX2_look_5 2 rfl rfl)
theorem dX2_look_123 : decode cX2_look 123 = .ok (.lload 10, 2) := dk_22 10 (dk_at dksX2_look_5 5 rfl rfl)
theorem dX2_look_125 : decode cX2_look 125 = .ok (.lmul, 1) := dk_105 (dk_at dksX2_look_5 7 rfl rfl)
theorem dX2_look_126 : decode cX2_look 126 = .ok (.lsub, 1) := dk_101 (dk_at dksX2_look_5 8 rfl rfl)
theorem dX2_look_127 : decode cX2_look 127 = .ok (.aload_n 0, 1) := dk_42 (dk_at dksX2_look_5 9 rfl rfl)
theorem dX2_look_128 : decode cX2_look 128 = .ok (.getfield 506, 3) := dk_180 1 250 (dk_at dksX2_look_5 10 rfl rfl)
theorem dX2_look_131 : decode cX2_look 131 = .ok (.aload_n 0, 1) := dk_42 (dk_at dksX2_look_5 13 rfl rfl)
theorem dX2_look_132 : decode cX2_look 132 = .ok (.getfield 503, 3) := dk_180 1 247 (dk_at dksX2_look_5 14 rfl rfl)
theorem dX2_look_135 : decode cX2_look 135 = .ok (.lmul, 1) := dk_105 (dk_at dksX2_look_5 17 rfl rfl)
theorem dX2_look_136 : decode cX2_look 136 = .ok (.invokevirtual 477, 3) := dk_182 1 221 (dk_at dksX2_look_5 18 rfl rfl)
theorem dX2_look_139 : decode cX2_look 139 = .ok (.goto 41, 3) := dk_167 0 41 (dk_at dksX2_look_5 21 rfl rfl)
theorem dX2_look_142 : decode cX2_look 142 = .ok (.aload_n 0, 1) := dk_42 (dk_at dksX2_look_6 0 rfl rfl)
theorem dX2_look_143 : decode cX2_look 143 = .ok (.aload_n 0, 1) := dk_42 (dk_at dksX2_look_6 1 rfl rfl)
theorem dX2_look_144 : decode cX2_look 144 = .ok (.getfield 500, 3) := dk_180 1 244 (dk_at dksX2_look_6 2 rfl rfl)
theorem dX2_look_147 : decode cX2_look 147 = .ok (.aload_n 0, 1) := dk_42 (dk_at dksX2_look_6 5 rfl rfl)
theorem dX2_look_148 : decode cX2_look 148 = .ok (.getfield 506, 3) := dk_180 1 250 (dk_at dksX2_look_6 6 rfl rfl)
theorem dX2_look_151 : decode cX2_look 151 = .ok (.lmul, 1) := dk_105 (dk_at dksX2_look_6 9 rfl rfl)
theorem dX2_look_152 : decode cX2_look 152 = .ok (.aload_n 0, 1) := dk_42 (dk_at dksX2_look_6 10 rfl rfl)
theorem dX2_look_153 : decode cX2_look 153 = .ok (.getfield 512, 3) := dk_180 2 0 (dk_at dksX2_look_6 11 rfl rfl)
theorem dX2_look_156 : decode cX2_look 156 = .ok (.lload 8, 2) := dk_22 8 (dk_at dksX2_look_6 14 rfl rfl)
theorem dX2_look_158 : decode cX2_look 158 = .ok (.lmul, 1) := dk_105 (dk_at dksX2_look_6 16 rfl rfl)
theorem dX2_look_159 : decode cX2_look 159 = .ok (.ladd, 1) := dk_97 (dk_at dksX2_look_6 17 rfl rfl)
theorem dX2_look_160 : decode cX2_look 160 = .ok (.aload_n 0, 1) := dk_42 (dk_at dksX2_look_6 18 rfl rfl)
theorem dX2_look_161 : decode cX2_look 161 = .ok (.getfield 509, 3) := dk_180 1 253 (dk_at dksX2_look_6 19 rfl rfl)
theorem dX2_look_164 : decode cX2_look 164 = .ok (.lload 10, 2) := dk_22 10 (dk_at dksX2_look_6 22 rfl rfl)
theorem dX2_look_166 : decode cX2_look 166 = .ok (.lmul, 1) := dk_105 (dk_at dksX2_look_7 0 rfl rfl)
theorem dX2_look_167 : decode cX2_look 167 = .ok (.ladd, 1) := dk_97 (dk_at dksX2_look_7 1 rfl rfl)
theorem dX2_look_168 : decode cX2_look 168 = .ok (.aload_n 0, 1) := dk_42 (dk_at dksX2_look_7 2 rfl rfl)
theorem dX2_look_169 : decode cX2_look 169 = .ok (.getfield 506, 3) := dk_180 1 250 (dk_at dksX2_look_7 3 rfl rfl)
theorem dX2_look_172 : decode cX2_look 172 = .ok (.aload_n 0, 1) := dk_42 (dk_at dksX2_look_7 6 rfl rfl)
theorem dX2_look_173 : decode cX2_look 173 = .ok (.getfield 503, 3) := dk_180 1 247 (dk_at dksX2_look_7 7 rfl rfl)
theorem dX2_look_176 : decode cX2_look 176 = .ok (.lmul, 1) := dk_105 (dk_at dksX2_look_7 10 rfl rfl)
theorem dX2_look_177 : decode cX2_look 177 = .ok (.invokevirtual 477, 3) := dk_182 1 221 (dk_at dksX2_look_7 11 rfl rfl)
theorem dX2_look_180 : decode cX2_look 180 = .ok (.iload 4, 2) := dk_21 4 (dk_at dksX2_look_7 14 rfl rfl)
theorem dX2_look_182 : decode cX2_look 182 = .ok (.ifCond .ne 10, 3) := dk_154 0 10 (dk_at dksX2_look_7 16 rfl rfl)
theorem dX2_look_185 : decode cX2_look 185 = .ok (.aload_n 0, 1) := dk_42 (dk_at dksX2_look_7 19 rfl rfl)
theorem dX2_look_186 : decode cX2_look 186 = .ok (.getfield 468, 3) := dk_180 1 212 (dk_at dksX2_look_7 20 rfl rfl)
theorem dX2_look_189 : decode cX2_look 189 = .ok (.goto 7, 3) := dk_167 0 7 (dk_at dksX2_look_8 0 rfl rfl)
theorem dX2_look_192 : decode cX2_look 192 = .ok (.aload_n 0, 1) := dk_42 (dk_at dksX2_look_8 3 rfl rfl)
theorem dX2_look_193 : decode cX2_look 193 = .ok (.getfield 471, 3) := dk_180 1 215 (dk_at dksX2_look_8 4 rfl rfl)
theorem dX2_look_196 : decode cX2_look 196 = .ok (.lreturn, 1) := dk_173 (dk_at dksX2_look_8 7 rfl rfl)
abbrev cX2_stretch : ByteArray := prog_28_method_79_code
def yX2_stretch : MethodName := ⟨RX2, "stretch", "(III)J"⟩
def dkwX2_stretch_0 : List UInt8 := [42, 27, 28, 29, 182, 1, 201, 153, 0, 11, 42, 28, 182, 2, 17, 167, 0, 6, 20, 1, 225, 173]
abbrev dktX2_stretch_0 : List UInt8 := dkwX2_stretch_0 ++ []
theorem dksX2_stretch_0 : cX2_stretch.data.toList.drop 0 = dktX2_stretch_0 := by decide +kernel
theorem dX2_stretch_0 : decode cX2_stretch 0 = .ok (.aload_n 0, 1) := dk_42 (dk_at dksX2_stretch_0 0 rfl rfl)
theorem dX2_stretch_1 : decode cX2_stretch 1 = .ok (.iload_n 1, 1) := dk_27 (dk_at dksX2_stretch_0 1 rfl rfl)
theorem dX2_stretch_2 : decode cX2_stretch 2 = .ok (.iload_n 2, 1) := dk_28 (dk_at dksX2_stretch_0 2 rfl rfl)
theorem dX2_stretch_3 : decode cX2_stretch 3 = .ok (.iload_n 3, 1) := dk_29 (dk_at dksX2_stretch_0 3 rfl rfl)
theorem dX2_stretch_4 : decode cX2_stretch 4 = .ok (.invokevirtual 457, 3) := dk_182 1 201 (dk_at dksX2_stretch_0 4 rfl rfl)
theorem dX2_stretch_7 : decode cX2_stretch 7 = .ok (.ifCond .eq 11, 3) := dk_153 0 11 (dk_at dksX2_stretch_0 7 rfl rfl)
theorem dX2_stretch_10 : decode cX2_stretch 10 = .ok (.aload_n 0, 1) := dk_42 (dk_at dksX2_stretch_0 10 rfl rfl)
theorem dX2_stretch_11 : decode cX2_stretch 11 = .ok (.iload_n 2, 1) := dk_28 (dk_at dksX2_stretch_0 11 rfl rfl)
theorem dX2_stretch_12 : decode cX2_stretch 12 = .ok (.invokevirtual 529, 3) := dk_182 2 17 (dk_at dksX2_stretch_0 12 rfl rfl)
theorem dX2_stretch_15 : decode cX2_stretch 15 = .ok (.goto 6, 3) := dk_167 0 6 (dk_at dksX2_stretch_0 15 rfl rfl)
theorem dX2_stretch_18 : decode cX2_stretch 18 = .ok (.ldc2_w 481, 3) := dk_20 1 225 (dk_at dksX2_stretch_0 18 rfl rfl)
theorem dX2_stretch_21 : decode cX2_stretch 21 = .ok (.lreturn, 1) := dk_173 (dk_at dksX2_stretch_0 21 rfl rfl)
abbrev cX2_stretchOf : ByteArray := prog_28_method_78_code
def yX2_stretchOf : MethodName := ⟨RX2, "stretchOf", "(I)J"⟩
def dkwX2_stretchOf_2 : List UInt8 := [180, 1, 250, 109, 173]
abbrev dktX2_stretchOf_2 : List UInt8 := dkwX2_stretchOf_2 ++ []
def dkwX2_stretchOf_1 : List UInt8 := [42, 180, 1, 253, 105, 42, 180, 2, 0, 42, 180, 2, 0, 105, 97, 184, 1, 139, 20, 2, 15, 105, 42]
abbrev dktX2_stretchOf_1 : List UInt8 := dkwX2_stretchOf_1 ++ dktX2_stretchOf_2
def dkwX2_stretchOf_0 : List UInt8 := [42, 27, 182, 2, 10, 42, 180, 1, 250, 9, 148, 154, 0, 9, 20, 1, 225, 167, 0, 34, 42, 180, 1, 253]
abbrev dktX2_stretchOf_0 : List UInt8 := dkwX2_stretchOf_0 ++ dktX2_stretchOf_1
theorem dksX2_stretchOf_0 : cX2_stretchOf.data.toList.drop 0 = dktX2_stretchOf_0 := by decide +kernel
theorem dksX2_stretchOf_1 : cX2_stretchOf.data.toList.drop 24 = dktX2_stretchOf_1 := dk_seg dksX2_stretchOf_0 24 rfl rfl
theorem dksX2_stretchOf_2 : cX2_stretchOf.data.toList.drop 47 = dktX2_stretchOf_2 := dk_seg dksX2_stretchOf_1 23 rfl rfl
theorem dX2_stretchOf_0 : decode cX2_stretchOf 0 = .ok (.aload_n 0, 1) := dk_42 (dk_at dksX2_stretchOf_0 0 rfl rfl)
theorem dX2_stretchOf_1 : decode cX2_stretchOf 1 = .ok (.iload_n 1, 1) := dk_27 (dk_at dksX2_stretchOf_0 1 rfl rfl)
theorem dX2_stretchOf_2 : decode cX2_stretchOf 2 = .ok (.invokevirtual 522, 3) := dk_182 2 10 (dk_at dksX2_stretchOf_0 2 rfl rfl)
theorem dX2_stretchOf_5 : decode cX2_stretchOf 5 = .ok (.aload_n 0, 1) := dk_42 (dk_at dksX2_stretchOf_0 5 rfl rfl)
theorem dX2_stretchOf_6 : decode cX2_stretchOf 6 = .ok (.getfield 506, 3) := dk_180 1 250 (dk_at dksX2_stretchOf_0 6 rfl rfl)
theorem dX2_stretchOf_9 : decode cX2_stretchOf 9 = .ok (.lconst 0, 1) := dk_9 (dk_at dksX2_stretchOf_0 9 rfl rfl)
theorem dX2_stretchOf_10 : decode cX2_stretchOf 10 = .ok (.lcmp, 1) := dk_148 (dk_at dksX2_stretchOf_0 10 rfl rfl)
theorem dX2_stretchOf_11 : decode cX2_stretchOf 11 = .ok (.ifCond .ne 9, 3) := dk_154 0 9 (dk_at dksX2_stretchOf_0 11 rfl rfl)
theorem dX2_stretchOf_14 : decode cX2_stretchOf 14 = .ok (.ldc2_w 481, 3) := dk_20 1 225 (dk_at dksX2_stretchOf_0 14 rfl rfl)
theorem dX2_stretchOf_17 : decode cX2_stretchOf 17 = .ok (.goto 34, 3) := dk_167 0 34 (dk_at dksX2_stretchOf_0 17 rfl rfl)
theorem dX2_stretchOf_20 : decode cX2_stretchOf 20 = .ok (.aload_n 0, 1) := dk_42 (dk_at dksX2_stretchOf_0 20 rfl rfl)
theorem dX2_stretchOf_21 : decode cX2_stretchOf 21 = .ok (.getfield 509, 3) := dk_180 1 253 (dk_at dksX2_stretchOf_0 21 rfl rfl)
theorem dX2_stretchOf_24 : decode cX2_stretchOf 24 = .ok (.aload_n 0, 1) := dk_42 (dk_at dksX2_stretchOf_1 0 rfl rfl)
theorem dX2_stretchOf_25 : decode cX2_stretchOf 25 = .ok (.getfield 509, 3) := dk_180 1 253 (dk_at dksX2_stretchOf_1 1 rfl rfl)
theorem dX2_stretchOf_28 : decode cX2_stretchOf 28 = .ok (.lmul, 1) := dk_105 (dk_at dksX2_stretchOf_1 4 rfl rfl)
theorem dX2_stretchOf_29 : decode cX2_stretchOf 29 = .ok (.aload_n 0, 1) := dk_42 (dk_at dksX2_stretchOf_1 5 rfl rfl)
theorem dX2_stretchOf_30 : decode cX2_stretchOf 30 = .ok (.getfield 512, 3) := dk_180 2 0 (dk_at dksX2_stretchOf_1 6 rfl rfl)
theorem dX2_stretchOf_33 : decode cX2_stretchOf 33 = .ok (.aload_n 0, 1) := dk_42 (dk_at dksX2_stretchOf_1 9 rfl rfl)
theorem dX2_stretchOf_34 : decode cX2_stretchOf 34 = .ok (.getfield 512, 3) := dk_180 2 0 (dk_at dksX2_stretchOf_1 10 rfl rfl)
theorem dX2_stretchOf_37 : decode cX2_stretchOf 37 = .ok (.lmul, 1) := dk_105 (dk_at dksX2_stretchOf_1 13 rfl rfl)
theorem dX2_stretchOf_38 : decode cX2_stretchOf 38 = .ok (.ladd, 1) := dk_97 (dk_at dksX2_stretchOf_1 14 rfl rfl)
theorem dX2_stretchOf_39 : decode cX2_stretchOf 39 = .ok (.invokestatic 395, 3) := dk_184 1 139 (dk_at dksX2_stretchOf_1 15 rfl rfl)
theorem dX2_stretchOf_42 : decode cX2_stretchOf 42 = .ok (.ldc2_w 527, 3) := dk_20 2 15 (dk_at dksX2_stretchOf_1 18 rfl rfl)
theorem dX2_stretchOf_45 : decode cX2_stretchOf 45 = .ok (.lmul, 1) := dk_105 (dk_at dksX2_stretchOf_1 21 rfl rfl)
theorem dX2_stretchOf_46 : decode cX2_stretchOf 46 = .ok (.aload_n 0, 1) := dk_42 (dk_at dksX2_stretchOf_1 22 rfl rfl)
theorem dX2_stretchOf_47 : decode cX2_stretchOf 47 = .ok (.getfield 506, 3) := dk_180 1 250 (dk_at dksX2_stretchOf_2 0 rfl rfl)
theorem dX2_stretchOf_50 : decode cX2_stretchOf 50 = .ok (.ldiv, 1) := dk_109 (dk_at dksX2_stretchOf_2 3 rfl rfl)
theorem dX2_stretchOf_51 : decode cX2_stretchOf 51 = .ok (.lreturn, 1) := dk_173 (dk_at dksX2_stretchOf_2 4 rfl rfl)
abbrev cX2_followed : ByteArray := prog_28_method_81_code
def yX2_followed : MethodName := ⟨RX2, "followed", "(IIIIII)I"⟩
def dkwX2_followed_2 : List UInt8 := [180, 2, 21, 42, 180, 2, 24, 100, 167, 0, 12, 42, 180, 1, 126, 42, 180, 2, 24, 100, 172]
abbrev dktX2_followed_2 : List UInt8 := dkwX2_followed_2 ++ []
def dkwX2_followed_1 : List UInt8 := [154, 0, 5, 2, 172, 21, 5, 154, 0, 10, 42, 180, 2, 24, 167, 0, 30, 21, 5, 4, 160, 0, 15, 42]
abbrev dktX2_followed_1 : List UInt8 := dkwX2_followed_1 ++ dktX2_followed_2
def dkwX2_followed_0 : List UInt8 := [21, 5, 155, 0, 23, 21, 5, 5, 163, 0, 17, 42, 27, 28, 29, 21, 4, 21, 6, 182, 2, 27]
abbrev dktX2_followed_0 : List UInt8 := dkwX2_followed_0 ++ dktX2_followed_1
theorem dksX2_followed_0 : cX2_followed.data.toList.drop 0 = dktX2_followed_0 := by decide +kernel
theorem dksX2_followed_1 : cX2_followed.data.toList.drop 22 = dktX2_followed_1 := dk_seg dksX2_followed_0 22 rfl rfl
theorem dksX2_followed_2 : cX2_followed.data.toList.drop 46 = dktX2_followed_2 := dk_seg dksX2_followed_1 24 rfl rfl
theorem dX2_followed_0 : decode cX2_followed 0 = .ok (.iload 5, 2) := dk_21 5 (dk_at dksX2_followed_0 0 rfl rfl)
theorem dX2_followed_2 : decode cX2_followed 2 = .ok (.ifCond .lt 23, 3) := dk_155 0 23 (dk_at dksX2_followed_0 2 rfl rfl)
theorem dX2_followed_5 : decode cX2_followed 5 = .ok (.iload 5, 2) := dk_21 5 (dk_at dksX2_followed_0 5 rfl rfl)
theorem dX2_followed_7 : decode cX2_followed 7 = .ok (.iconst 2, 1) := dk_5 (dk_at dksX2_followed_0 7 rfl rfl)
theorem dX2_followed_8 : decode cX2_followed 8 = .ok (.if_icmp .gt 17, 3) := dk_163 0 17 (dk_at dksX2_followed_0 8 rfl rfl)
theorem dX2_followed_11 : decode cX2_followed 11 = .ok (.aload_n 0, 1) := dk_42 (dk_at dksX2_followed_0 11 rfl rfl)
theorem dX2_followed_12 : decode cX2_followed 12 = .ok (.iload_n 1, 1) := dk_27 (dk_at dksX2_followed_0 12 rfl rfl)
theorem dX2_followed_13 : decode cX2_followed 13 = .ok (.iload_n 2, 1) := dk_28 (dk_at dksX2_followed_0 13 rfl rfl)
theorem dX2_followed_14 : decode cX2_followed 14 = .ok (.iload_n 3, 1) := dk_29 (dk_at dksX2_followed_0 14 rfl rfl)
theorem dX2_followed_15 : decode cX2_followed 15 = .ok (.iload 4, 2) := dk_21 4 (dk_at dksX2_followed_0 15 rfl rfl)
theorem dX2_followed_17 : decode cX2_followed 17 = .ok (.iload 6, 2) := dk_21 6 (dk_at dksX2_followed_0 17 rfl rfl)
theorem dX2_followed_19 : decode cX2_followed 19 = .ok (.invokevirtual 539, 3) := dk_182 2 27 (dk_at dksX2_followed_0 19 rfl rfl)
theorem dX2_followed_22 : decode cX2_followed 22 = .ok (.ifCond .ne 5, 3) := dk_154 0 5 (dk_at dksX2_followed_1 0 rfl rfl)
theorem dX2_followed_25 : decode cX2_followed 25 = .ok (.iconst (-1), 1) := dk_2 (dk_at dksX2_followed_1 3 rfl rfl)
theorem dX2_followed_26 : decode cX2_followed 26 = .ok (.ireturn, 1) := dk_172 (dk_at dksX2_followed_1 4 rfl rfl)
theorem dX2_followed_27 : decode cX2_followed 27 = .ok (.iload 5, 2) := dk_21 5 (dk_at dksX2_followed_1 5 rfl rfl)
theorem dX2_followed_29 : decode cX2_followed 29 = .ok (.ifCond .ne 10, 3) := dk_154 0 10 (dk_at dksX2_followed_1 7 rfl rfl)
theorem dX2_followed_32 : decode cX2_followed 32 = .ok (.aload_n 0, 1) := dk_42 (dk_at dksX2_followed_1 10 rfl rfl)
theorem dX2_followed_33 : decode cX2_followed 33 = .ok (.getfield 536, 3) := dk_180 2 24 (dk_at dksX2_followed_1 11 rfl rfl)
theorem dX2_followed_36 : decode cX2_followed 36 = .ok (.goto 30, 3) := dk_167 0 30 (dk_at dksX2_followed_1 14 rfl rfl)
theorem dX2_followed_39 : decode cX2_followed 39 = .ok (.iload 5, 2) := dk_21 5 (dk_at dksX2_followed_1 17 rfl rfl)
theorem dX2_followed_41 : decode cX2_followed 41 = .ok (.iconst 1, 1) := dk_4 (dk_at dksX2_followed_1 19 rfl rfl)
theorem dX2_followed_42 : decode cX2_followed 42 = .ok (.if_icmp .ne 15, 3) := dk_160 0 15 (dk_at dksX2_followed_1 20 rfl rfl)
theorem dX2_followed_45 : decode cX2_followed 45 = .ok (.aload_n 0, 1) := dk_42 (dk_at dksX2_followed_1 23 rfl rfl)
theorem dX2_followed_46 : decode cX2_followed 46 = .ok (.getfield 533, 3) := dk_180 2 21 (dk_at dksX2_followed_2 0 rfl rfl)
theorem dX2_followed_49 : decode cX2_followed 49 = .ok (.aload_n 0, 1) := dk_42 (dk_at dksX2_followed_2 3 rfl rfl)
theorem dX2_followed_50 : decode cX2_followed 50 = .ok (.getfield 536, 3) := dk_180 2 24 (dk_at dksX2_followed_2 4 rfl rfl)
theorem dX2_followed_53 : decode cX2_followed 53 = .ok (.isub, 1) := dk_100 (dk_at dksX2_followed_2 7 rfl rfl)
theorem dX2_followed_54 : decode cX2_followed 54 = .ok (.goto 12, 3) := dk_167 0 12 (dk_at dksX2_followed_2 8 rfl rfl)
theorem dX2_followed_57 : decode cX2_followed 57 = .ok (.aload_n 0, 1) := dk_42 (dk_at dksX2_followed_2 11 rfl rfl)
theorem dX2_followed_58 : decode cX2_followed 58 = .ok (.getfield 382, 3) := dk_180 1 126 (dk_at dksX2_followed_2 12 rfl rfl)
theorem dX2_followed_61 : decode cX2_followed 61 = .ok (.aload_n 0, 1) := dk_42 (dk_at dksX2_followed_2 15 rfl rfl)
theorem dX2_followed_62 : decode cX2_followed 62 = .ok (.getfield 536, 3) := dk_180 2 24 (dk_at dksX2_followed_2 16 rfl rfl)
theorem dX2_followed_65 : decode cX2_followed 65 = .ok (.isub, 1) := dk_100 (dk_at dksX2_followed_2 19 rfl rfl)
theorem dX2_followed_66 : decode cX2_followed 66 = .ok (.ireturn, 1) := dk_172 (dk_at dksX2_followed_2 20 rfl rfl)
abbrev cX2_seekFollowed : ByteArray := prog_28_method_80_code
def yX2_seekFollowed : MethodName := ⟨RX2, "seekFollowed", "(IIIII)Z"⟩
def dkwX2_seekFollowed_15 : List UInt8 := [21, 7, 4, 84, 42, 89, 180, 2, 24, 4, 96, 181, 2, 24, 132, 6, 1, 167, 255, 65, 4, 172]
abbrev dktX2_seekFollowed_15 : List UInt8 := dkwX2_seekFollowed_15 ++ []
def dkwX2_seekFollowed_14 : List UInt8 := [21, 7, 167, 0, 4, 2, 79, 42, 180, 0, 115, 21, 6, 46, 156, 0, 6, 167, 0, 21, 42, 180, 0, 118]
abbrev dktX2_seekFollowed_14 : List UInt8 := dkwX2_seekFollowed_14 ++ dktX2_seekFollowed_15
def dkwX2_seekFollowed_13 : List UInt8 := [180, 0, 115, 21, 6, 21, 7, 155, 0, 22, 21, 8, 16, 10, 42, 180, 0, 20, 7, 46, 104, 163, 0, 8]
abbrev dktX2_seekFollowed_13 : List UInt8 := dkwX2_seekFollowed_13 ++ dktX2_seekFollowed_14
def dkwX2_seekFollowed_12 : List UInt8 := [21, 8, 161, 0, 6, 167, 0, 11, 21, 9, 54, 7, 21, 10, 54, 8, 132, 9, 1, 167, 255, 152, 42]
abbrev dktX2_seekFollowed_12 : List UInt8 := dkwX2_seekFollowed_12 ++ dktX2_seekFollowed_13
def dkwX2_seekFollowed_11 : List UInt8 := [184, 1, 158, 96, 54, 10, 42, 180, 0, 118, 21, 9, 51, 154, 0, 26, 21, 7, 155, 0, 13, 21, 10]
abbrev dktX2_seekFollowed_11 : List UInt8 := dkwX2_seekFollowed_11 ++ dktX2_seekFollowed_12
def dkwX2_seekFollowed_10 : List UInt8 := [180, 0, 70, 42, 180, 0, 79, 42, 180, 0, 94, 21, 9, 46, 46, 46, 42, 180, 0, 112, 21, 6, 46, 100]
abbrev dktX2_seekFollowed_10 : List UInt8 := dkwX2_seekFollowed_10 ++ dktX2_seekFollowed_11
def dkwX2_seekFollowed_9 : List UInt8 := [180, 0, 79, 42, 180, 0, 94, 21, 9, 46, 46, 46, 42, 180, 0, 109, 21, 6, 46, 100, 184, 1, 158, 42]
abbrev dktX2_seekFollowed_9 : List UInt8 := dkwX2_seekFollowed_9 ++ dktX2_seekFollowed_10
def dkwX2_seekFollowed_8 : List UInt8 := [54, 7, 3, 54, 8, 3, 54, 9, 21, 9, 42, 180, 1, 126, 162, 0, 101, 42, 180, 0, 67, 42]
abbrev dktX2_seekFollowed_8 : List UInt8 := dkwX2_seekFollowed_8 ++ dktX2_seekFollowed_9
def dkwX2_seekFollowed_7 : List UInt8 := [21, 6, 3, 84, 132, 6, 1, 167, 255, 238, 3, 54, 6, 21, 6, 42, 180, 2, 21, 162, 0, 188, 2]
abbrev dktX2_seekFollowed_7 : List UInt8 := dkwX2_seekFollowed_7 ++ dktX2_seekFollowed_8
def dkwX2_seekFollowed_6 : List UInt8 := [21, 5, 182, 1, 129, 42, 3, 181, 2, 24, 3, 54, 6, 21, 6, 16, 12, 162, 0, 17, 42, 180, 0, 118]
abbrev dktX2_seekFollowed_6 : List UInt8 := dkwX2_seekFollowed_6 ++ dktX2_seekFollowed_7
def dkwX2_seekFollowed_5 : List UInt8 := [180, 0, 79, 42, 180, 0, 94, 21, 6, 46, 46, 46, 21, 4, 96, 79, 132, 6, 1, 167, 255, 191, 42, 28]
abbrev dktX2_seekFollowed_5 : List UInt8 := dkwX2_seekFollowed_5 ++ dktX2_seekFollowed_6
def dkwX2_seekFollowed_4 : List UInt8 := [180, 0, 94, 21, 6, 46, 46, 46, 29, 96, 79, 42, 180, 0, 112, 21, 6, 42, 180, 0, 70, 42]
abbrev dktX2_seekFollowed_4 : List UInt8 := dkwX2_seekFollowed_4 ++ dktX2_seekFollowed_5
def dkwX2_seekFollowed_3 : List UInt8 := [21, 6, 42, 180, 2, 21, 162, 0, 62, 42, 180, 0, 109, 21, 6, 42, 180, 0, 67, 42, 180, 0, 79, 42]
abbrev dktX2_seekFollowed_3 : List UInt8 := dkwX2_seekFollowed_3 ++ dktX2_seekFollowed_4
def dkwX2_seekFollowed_2 : List UInt8 := [164, 0, 5, 3, 172, 42, 27, 21, 5, 182, 1, 129, 42, 42, 180, 1, 126, 181, 2, 21, 3, 54, 6]
abbrev dktX2_seekFollowed_2 : List UInt8 := dkwX2_seekFollowed_2 ++ dktX2_seekFollowed_3
def dkwX2_seekFollowed_1 : List UInt8 := [161, 0, 26, 29, 17, 3, 231, 163, 0, 19, 21, 4, 17, 252, 25, 161, 0, 11, 21, 4, 17, 3, 231]
abbrev dktX2_seekFollowed_1 : List UInt8 := dkwX2_seekFollowed_1 ++ dktX2_seekFollowed_2
def dkwX2_seekFollowed_0 : List UInt8 := [42, 27, 21, 5, 182, 1, 117, 153, 0, 43, 42, 28, 21, 5, 182, 1, 117, 153, 0, 33, 29, 17, 252, 25]
abbrev dktX2_seekFollowed_0 : List UInt8 := dkwX2_seekFollowed_0 ++ dktX2_seekFollowed_1
theorem dksX2_seekFollowed_0 : cX2_seekFollowed.data.toList.drop 0 = dktX2_seekFollowed_0 := by decide +kernel
theorem dksX2_seekFollowed_1 : cX2_seekFollowed.data.toList.drop 24 = dktX2_seekFollowed_1 := dk_seg dksX2_seekFollowed_0 24 rfl rfl
theorem dksX2_seekFollowed_2 : cX2_seekFollowed.data.toList.drop 47 = dktX2_seekFollowed_2 := dk_seg dksX2_seekFollowed_1 23 rfl rfl
theorem dksX2_seekFollowed_3 : cX2_seekFollowed.data.toList.drop 70 = dktX2_seekFollowed_3 := dk_seg dksX2_seekFollowed_2 23 rfl rfl
theorem dksX2_seekFollowed_4 : cX2_seekFollowed.data.toList.drop 94 = dktX2_seekFollowed_4 := dk_seg dksX2_seekFollowed_3 24 rfl rfl
theorem dksX2_seekFollowed_5 : cX2_seekFollowed.data.toList.drop 116 = dktX2_seekFollowed_5 := dk_seg dksX2_seekFollowed_4 22 rfl rfl
theorem dksX2_seekFollowed_6 : cX2_seekFollowed.data.toList.drop 140 = dktX2_seekFollowed_6 := dk_seg dksX2_seekFollowed_5 24 rfl rfl
theorem dksX2_seekFollowed_7 : cX2_seekFollowed.data.toList.drop 164 = dktX2_seekFollowed_7 := dk_seg dksX2_seekFollowed_6 24 rfl rfl
theorem dksX2_seekFollowed_8 : cX2_seekFollowed.data.toList.drop 187 = dktX2_seekFollowed_8 := dk_seg dksX2_seekFollowed_7 23 rfl rfl
theorem dksX2_seekFollowed_9 : cX2_seekFollowed.data.toList.drop 209 = dktX2_seekFollowed_9 := dk_seg dksX2_seekFollowed_8 22 rfl rfl
theorem dksX2_seekFollowed_10 : cX2_seekFollowed.data.toList.drop 233 = dktX2_seekFollowed_10 := dk_seg dksX2_seekFollowed_9 24 rfl rfl
theorem dksX2_seekFollowed_11 : cX2_seekFollowed.data.toList.drop 257 = dktX2_seekFollowed_11 := dk_seg dksX2_seekFollowed_10 24 rfl rfl
theorem dksX2_seekFollowed_12 : cX2_seekFollowed.data.toList.drop 280 = dktX2_seekFollowed_12 := dk_seg dksX2_seekFollowed_11 23 rfl rfl
theorem dksX2_seekFollowed_13 : cX2_seekFollowed.data.toList.drop 303 = dktX2_seekFollowed_13 := dk_seg dksX2_seekFollowed_12 23 rfl rfl
theorem dksX2_seekFollowed_14 : cX2_seekFollowed.data.toList.drop 327 = dktX2_seekFollowed_14 := dk_seg dksX2_seekFollowed_13 24 rfl rfl
theorem dksX2_seekFollowed_15 : cX2_seekFollowed.data.toList.drop 351 = dktX2_seekFollowed_15 := dk_seg dksX2_seekFollowed_14 24 rfl rfl
theorem dX2_seekFollowed_0 : decode cX2_seekFollowed 0 = .ok (.aload_n 0, 1) := dk_42 (dk_at dksX2_seekFollowed_0 0 rfl rfl)
theorem dX2_seekFollowed_1 : decode cX2_seekFollowed 1 = .ok (.iload_n 1, 1) := dk_27 (dk_at dksX2_seekFollowed_0 1 rfl rfl)
theorem dX2_seekFollowed_2 : decode cX2_seekFollowed 2 = .ok (.iload 5, 2) := dk_21 5 (dk_at dksX2_seekFollowed_0 2 rfl rfl)
theorem dX2_seekFollowed_4 : decode cX2_seekFollowed 4 = .ok (.invokevirtual 373, 3) := dk_182 1 117 (dk_at dksX2_seekFollowed_0 4 rfl rfl)
theorem dX2_seekFollowed_7 : decode cX2_seekFollowed 7 = .ok (.ifCond .eq 43, 3) := dk_153 0 43 (dk_at dksX2_seekFollowed_0 7 rfl rfl)
theorem dX2_seekFollowed_10 : decode cX2_seekFollowed 10 = .ok (.aload_n 0, 1) := dk_42 (dk_at dksX2_seekFollowed_0 10 rfl rfl)
theorem dX2_seekFollowed_11 : decode cX2_seekFollowed 11 = .ok (.iload_n 2, 1) := dk_28 (dk_at dksX2_seekFollowed_0 11 rfl rfl)
theorem dX2_seekFollowed_12 : decode cX2_seekFollowed 12 = .ok (.iload 5, 2) := dk_21 5 (dk_at dksX2_seekFollowed_0 12 rfl rfl)
theorem dX2_seekFollowed_14 : decode cX2_seekFollowed 14 = .ok (.invokevirtual 373, 3) := dk_182 1 117 (dk_at dksX2_seekFollowed_0 14 rfl rfl)
theorem dX2_seekFollowed_17 : decode cX2_seekFollowed 17 = .ok (.ifCond .eq 33, 3) := dk_153 0 33 (dk_at dksX2_seekFollowed_0 17 rfl rfl)
theorem dX2_seekFollowed_20 : decode cX2_seekFollowed 20 = .ok (.iload_n 3, 1) := dk_29 (dk_at dksX2_seekFollowed_0 20 rfl rfl)
theorem dX2_seekFollowed_21 : decode cX2_seekFollowed 21 = .ok (.sipush (-999), 3) := dk_17 252 25 (dk_at dksX2_seekFollowed_0 21 rfl rfl)
theorem dX2_seekFollowed_24 : decode cX2_seekFollowed 24 = .ok (.if_icmp .lt 26, 3) := dk_161 0 26 (dk_at dksX2_seekFollowed_1 0 rfl rfl)
theorem dX2_seekFollowed_27 : decode cX2_seekFollowed 27 = .ok (.iload_n 3, 1) := dk_29 (dk_at dksX2_seekFollowed_1 3 rfl rfl)
theorem dX2_seekFollowed_28 : decode cX2_seekFollowed 28 = .ok (.sipush 999, 3) := dk_17 3 231 (dk_at dksX2_seekFollowed_1 4 rfl rfl)
theorem dX2_seekFollowed_31 : decode cX2_seekFollowed 31 = .ok (.if_icmp .gt 19, 3) := dk_163 0 19 (dk_at dksX2_seekFollowed_1 7 rfl rfl)
theorem dX2_seekFollowed_34 : decode cX2_seekFollowed 34 = .ok (.iload 4, 2) := dk_21 4 (dk_at dksX2_seekFollowed_1 10 rfl rfl)
theorem dX2_seekFollowed_36 : decode cX2_seekFollowed 36 = .ok (.sipush (-999), 3) := dk_17 252 25 (dk_at dksX2_seekFollowed_1 12 rfl rfl)
theorem dX2_seekFollowed_39 : decode cX2_seekFollowed 39 = .ok (.if_icmp .lt 11, 3) := dk_161 0 11 (dk_at dksX2_seekFollowed_1 15 rfl rfl)
theorem dX2_seekFollowed_42 : decode cX2_seekFollowed 42 = .ok (.iload 4, 2) := dk_21 4 (dk_at dksX2_seekFollowed_1 18 rfl rfl)
theorem dX2_seekFollowed_44 : decode cX2_seekFollowed 44 = .ok (.sipush 999, 3) := dk_17 3 231 (dk_at dksX2_seekFollowed_1 20 rfl rfl)
theorem dX2_seekFollowed_47 : decode cX2_seekFollowed 47 = .ok (.if_icmp .le 5, 3) := dk_164 0 5 (dk_at dksX2_seekFollowed_2 0 rfl rfl)
theorem dX2_seekFollowed_50 : decode cX2_seekFollowed 50 = .ok (.iconst 0, 1) := dk_3 (dk_at dksX2_seekFollowed_2 3 rfl rfl)
theorem dX2_seekFollowed_51 : decode cX2_seekFollowed 51 = .ok (.ireturn, 1) := dk_172 (dk_at dksX2_seekFollowed_2 4 rfl rfl)
theorem dX2_seekFollowed_52 : decode cX2_seekFollowed 52 = .ok (.aload_n 0, 1) := dk_42 (dk_at dksX2_seekFollowed_2 5 rfl rfl)
theorem dX2_seekFollowed_53 : decode cX2_seekFollowed 53 = .ok (.iload_n 1, 1) := dk_27 (dk_at dksX2_seekFollowed_2 6 rfl rfl)
theorem dX2_seekFollowed_54 : decode cX2_seekFollowed 54 = .ok (.iload 5, 2) := dk_21 5 (dk_at dksX2_seekFollowed_2 7 rfl rfl)
theorem dX2_seekFollowed_56 : decode cX2_seekFollowed 56 = .ok (.invokevirtual 385, 3) := dk_182 1 129 (dk_at dksX2_seekFollowed_2 9 rfl rfl)
theorem dX2_seekFollowed_59 : decode cX2_seekFollowed 59 = .ok (.aload_n 0, 1) := dk_42 (dk_at dksX2_seekFollowed_2 12 rfl rfl)
theorem dX2_seekFollowed_60 : decode cX2_seekFollowed 60 = .ok (.aload_n 0, 1) := dk_42 (dk_at dksX2_seekFollowed_2 13 rfl rfl)
theorem dX2_seekFollowed_61 : decode cX2_seekFollowed 61 = .ok (.getfield 382, 3) := dk_180 1 126 (dk_at dksX2_seekFollowed_2 14 rfl rfl)
theorem dX2_seekFollowed_64 : decode cX2_seekFollowed 64 = .ok (.putfield 533, 3) := dk_181 2 21 (dk_at dksX2_seekFollowed_2 17 rfl rfl)
theorem dX2_seekFollowed_67 : decode cX2_seekFollowed 67 = .ok (.iconst 0, 1) := dk_3 (dk_at dksX2_seekFollowed_2 20 rfl rfl)
theorem dX2_seekFollowed_68 : decode cX2_seekFollowed 68 = .ok (.istore 6, 2) := dk_54 6 (dk_at dksX2_seekFollowed_2 21 rfl rfl)
theorem dX2_seekFollowed_70 : decode cX2_seekFollowed 70 = .ok (.iload 6, 2) := dk_21 6 (dk_at dksX2_seekFollowed_3 0 rfl rfl)
theorem dX2_seekFollowed_72 : decode cX2_seekFollowed 72 = .ok (.aload_n 0, 1) := dk_42 (dk_at dksX2_seekFollowed_3 2 rfl rfl)
theorem dX2_seekFollowed_73 : decode cX2_seekFollowed 73 = .ok (.getfield 533, 3) := dk_180 2 21 (dk_at dksX2_seekFollowed_3 3 rfl rfl)
theorem dX2_seekFollowed_76 : decode cX2_seekFollowed 76 = .ok (.if_icmp .ge 62, 3) := dk_162 0 62 (dk_at dksX2_seekFollowed_3 6 rfl rfl)
theorem dX2_seekFollowed_79 : decode cX2_seekFollowed 79 = .ok (.aload_n 0, 1) := dk_42 (dk_at dksX2_seekFollowed_3 9 rfl rfl)
theorem dX2_seekFollowed_80 : decode cX2_seekFollowed 80 = .ok (.getfield 109, 3) := dk_180 0 109 (dk_at dksX2_seekFollowed_3 10 rfl rfl)
theorem dX2_seekFollowed_83 : decode cX2_seekFollowed 83 = .ok (.iload 6, 2) := dk_21 6 (dk_at dksX2_seekFollowed_3 13 rfl rfl)
theorem dX2_seekFollowed_85 : decode cX2_seekFollowed 85 = .ok (.aload_n 0, 1) := dk_42 (dk_at dksX2_seekFollowed_3 15 rfl rfl)
theorem dX2_seekFollowed_86 : decode cX2_seekFollowed 86 = .ok (.getfield 67, 3) := dk_180 0 67 (dk_at dksX2_seekFollowed_3 16 rfl rfl)
theorem dX2_seekFollowed_89 : decode cX2_seekFollowed 89 = .ok (.aload_n 0, 1) := dk_42 (dk_at dksX2_seekFollowed_3 19 rfl rfl)
theorem dX2_seekFollowed_90 : decode cX2_seekFollowed 90 = .ok (.getfield 79, 3) := dk_180 0 79 (dk_at dksX2_seekFollowed_3 20 rfl rfl)
theorem dX2_seekFollowed_93 : decode cX2_seekFollowed 93 = .ok (.aload_n 0, 1) := dk_42 (dk_at dksX2_seekFollowed_3 23 rfl rfl)
theorem dX2_seekFollowed_94 : decode cX2_seekFollowed 94 = .ok (.getfield 94, 3) := dk_180 0 94 (dk_at dksX2_seekFollowed_4 0 rfl rfl)
theorem dX2_seekFollowed_97 : decode cX2_seekFollowed 97 = .ok (.iload 6, 2) := dk_21 6 (dk_at dksX2_seekFollowed_4 3 rfl rfl)
theorem dX2_seekFollowed_99 : decode cX2_seekFollowed 99 = .ok (.iaload, 1) := dk_46 (dk_at dksX2_seekFollowed_4 5 rfl rfl)
theorem dX2_seekFollowed_100 : decode cX2_seekFollowed 100 = .ok (.iaload, 1) := dk_46 (dk_at dksX2_seekFollowed_4 6 rfl rfl)
theorem dX2_seekFollowed_101 : decode cX2_seekFollowed 101 = .ok (.iaload, 1) := dk_46 (dk_at dksX2_seekFollowed_4 7 rfl rfl)
theorem dX2_seekFollowed_102 : decode cX2_seekFollowed 102 = .ok (.iload_n 3, 1) := dk_29 (dk_at dksX2_seekFollowed_4 8 rfl rfl)
theorem dX2_seekFollowed_103 : decode cX2_seekFollowed 103 = .ok (.iadd, 1) := dk_96 (dk_at dksX2_seekFollowed_4 9 rfl rfl)
theorem dX2_seekFollowed_104 : decode cX2_seekFollowed 104 = .ok (.iastore, 1) := dk_79 (dk_at dksX2_seekFollowed_4 10 rfl rfl)
theorem dX2_seekFollowed_105 : decode cX2_seekFollowed 105 = .ok (.aload_n 0, 1) := dk_42 (dk_at dksX2_seekFollowed_4 11 rfl rfl)
theorem dX2_seekFollowed_106 : decode cX2_seekFollowed 106 = .ok (.getfield 112, 3) := dk_180 0 112 (dk_at dksX2_seekFollowed_4 12 rfl rfl)
theorem dX2_seekFollowed_109 : decode cX2_seekFollowed 109 = .ok (.iload 6, 2) := dk_21 6 (dk_at dksX2_seekFollowed_4 15 rfl rfl)
theorem dX2_seekFollowed_111 : decode cX2_seekFollowed 111 = .ok (.aload_n 0, 1) := dk_42 (dk_at dksX2_seekFollowed_4 17 rfl rfl)
theorem dX2_seekFollowed_112 : decode cX2_seekFollowed 112 = .ok (.getfield 70, 3) := dk_180 0 70 (dk_at dksX2_seekFollowed_4 18 rfl rfl)
theorem dX2_seekFollowed_115 : decode cX2_seekFollowed 115 = .ok (.aload_n 0, 1) := dk_42 (dk_at dksX2_seekFollowed_4 21 rfl rfl)
theorem dX2_seekFollowed_116 : decode cX2_seekFollowed 116 = .ok (.getfield 79, 3) := dk_180 0 79 (dk_at dksX2_seekFollowed_5 0 rfl rfl)
theorem dX2_seekFollowed_119 : decode cX2_seekFollowed 119 = .ok (.aload_n 0, 1) := dk_42 (dk_at dksX2_seekFollowed_5 3 rfl rfl)
theorem dX2_seekFollowed_120 : decode cX2_seekFollowed 120 = .ok (.getfield 94, 3) := dk_180 0 94 (dk_at dksX2_seekFollowed_5 4 rfl rfl)
theorem dX2_seekFollowed_123 : decode cX2_seekFollowed 123 = .ok (.iload 6, 2) := dk_21 6 (dk_at dksX2_seekFollowed_5 7 rfl rfl)
theorem dX2_seekFollowed_125 : decode cX2_seekFollowed 125 = .ok (.iaload, 1) := dk_46 (dk_at dksX2_seekFollowed_5 9 rfl rfl)
theorem dX2_seekFollowed_126 : decode cX2_seekFollowed 126 = .ok (.iaload, 1) := dk_46 (dk_at dksX2_seekFollowed_5 10 rfl rfl)
theorem dX2_seekFollowed_127 : decode cX2_seekFollowed 127 = .ok (.iaload, 1) := dk_46 (dk_at dksX2_seekFollowed_5 11 rfl rfl)
theorem dX2_seekFollowed_128 : decode cX2_seekFollowed 128 = .ok (.iload 4, 2) := dk_21 4 (dk_at dksX2_seekFollowed_5 12 rfl rfl)
theorem dX2_seekFollowed_130 : decode cX2_seekFollowed 130 = .ok (.iadd, 1) := dk_96 (dk_at dksX2_seekFollowed_5 14 rfl rfl)
theorem dX2_seekFollowed_131 : decode cX2_seekFollowed 131 = .ok (.iastore, 1) := dk_79 (dk_at dksX2_seekFollowed_5 15 rfl rfl)
theorem dX2_seekFollowed_132 : decode cX2_seekFollowed 132 = .ok (.iinc 6 1, 3) := dk_132 6 1 (dk_at dksX2_seekFollowed_5 16 rfl rfl)
theorem dX2_seekFollowed_135 : decode cX2_seekFollowed 135 = .ok (.goto (-65), 3) := dk_167 255 191 (dk_at dksX2_seekFollowed_5 19 rfl rfl)
theorem dX2_seekFollowed_138 : decode cX2_seekFollowed 138 = .ok (.aload_n 0, 1) := dk_42 (dk_at dksX2_seekFollowed_5 22 rfl rfl)
theorem dX2_seekFollowed_139 : decode cX2_seekFollowed 139 = .ok (.iload_n 2, 1) := dk_28 (dk_at dksX2_seekFollowed_5 23 rfl rfl)
theorem dX2_seekFollowed_140 : decode cX2_seekFollowed 140 = .ok (.iload 5, 2) := dk_21 5 (dk_at dksX2_seekFollowed_6 0 rfl rfl)
theorem dX2_seekFollowed_142 : decode cX2_seekFollowed 142 = .ok (.invokevirtual 385, 3) := dk_182 1 129 (dk_at dksX2_seekFollowed_6 2 rfl rfl)
theorem dX2_seekFollowed_145 : decode cX2_seekFollowed 145 = .ok (.aload_n 0, 1) := dk_42 (dk_at dksX2_seekFollowed_6 5 rfl rfl)
theorem dX2_seekFollowed_146 : decode cX2_seekFollowed 146 = .ok (.iconst 0, 1) := dk_3 (dk_at dksX2_seekFollowed_6 6 rfl rfl)
theorem dX2_seekFollowed_147 : decode cX2_seekFollowed 147 = .ok (.putfield 536, 3) := dk_181 2 24 (dk_at dksX2_seekFollowed_6 7 rfl rfl)
theorem dX2_seekFollowed_150 : decode cX2_seekFollowed 150 = .ok (.iconst 0, 1) := dk_3 (dk_at dksX2_seekFollowed_6 10 rfl rfl)
theorem dX2_seekFollowed_151 : decode cX2_seekFollowed 151 = .ok (.istore 6, 2) := dk_54 6 (dk_at dksX2_seekFollowed_6 11 rfl rfl)
theorem dX2_seekFollowed_153 : decode cX2_seekFollowed 153 = .ok (.iload 6, 2) := dk_21 6 (dk_at dksX2_seekFollowed_6 13 rfl rfl)
theorem dX2_seekFollowed_155 : decode cX2_seekFollowed 155 = .ok (.bipush 12, 2) := dk_16 12 (dk_at dksX2_seekFollowed_6 15 rfl rfl)
theorem dX2_seekFollowed_157 : decode cX2_seekFollowed 157 = .ok (.if_icmp .ge 17, 3) := dk_162 0 17 (dk_at dksX2_seekFollowed_6 17 rfl rfl)
theorem dX2_seekFollowed_160 : decode cX2_seekFollowed 160 = .ok (.aload_n 0, 1) := dk_42 (dk_at dksX2_seekFollowed_6 20 rfl rfl)
theorem dX2_seekFollowed_161 : decode cX2_seekFollowed 161 = .ok (.getfield 118, 3) := dk_180 0 118 (dk_at dksX2_seekFollowed_6 21 rfl rfl)
theorem dX2_seekFollowed_164 : decode cX2_seekFollowed 164 = .ok (.iload 6, 2) := dk_21 6 (dk_at dksX2_seekFollowed_7 0 rfl rfl)
theorem dX2_seekFollowed_166 : decode cX2_seekFollowed 166 = .ok (.iconst 0, 1) := dk_3 (dk_at dksX2_seekFollowed_7 2 rfl rfl)
theorem dX2_seekFollowed_167 : decode cX2_seekFollowed 167 = .ok (.bastore, 1) := dk_84 (dk_at dksX2_seekFollowed_7 3 rfl rfl)
theorem dX2_seekFollowed_168 : decode cX2_seekFollowed 168 = .ok (.iinc 6 1, 3) := dk_132 6 1 (dk_at dksX2_seekFollowed_7 4 rfl rfl)
theorem dX2_seekFollowed_171 : decode cX2_seekFollowed 171 = .ok (.goto (-18), 3) := dk_167 255 238 (dk_at dksX2_seekFollowed_7 7 rfl rfl)
theorem dX2_seekFollowed_174 : decode cX2_seekFollowed 174 = .ok (.iconst 0, 1) := dk_3 (dk_at dksX2_seekFollowed_7 10 rfl rfl)
theorem dX2_seekFollowed_175 : decode cX2_seekFollowed 175 = .ok (.istore 6, 2) := dk_54 6 (dk_at dksX2_seekFollowed_7 11 rfl rfl)
theorem dX2_seekFollowed_177 : decode cX2_seekFollowed 177 = .ok (.iload 6, 2) := dk_21 6 (dk_at dksX2_seekFollowed_7 13 rfl rfl)
theorem dX2_seekFollowed_179 : decode cX2_seekFollowed 179 = .ok (.aload_n 0, 1) := dk_42 (dk_at dksX2_seekFollowed_7 15 rfl rfl)
theorem dX2_seekFollowed_180 : decode cX2_seekFollowed 180 = .ok (.getfield 533, 3) := dk_180 2 21 (dk_at dksX2_seekFollowed_7 16 rfl rfl)
theorem dX2_seekFollowed_183 : decode cX2_seekFollowed 183 = .ok (.if_icmp .ge 188, 3) := dk_162 0 188 (dk_at dksX2_seekFollowed_7 19 rfl rfl)
theorem dX2_seekFollowed_186 : decode cX2_seekFollowed 186 = .ok (.iconst (-1), 1) := dk_2 (dk_at dksX2_seekFollowed_7 22 rfl rfl)
theorem dX2_seekFollowed_187 : decode cX2_seekFollowed 187 = .ok (.istore 7, 2) := dk_54 7 (dk_at dksX2_seekFollowed_8 0 rfl rfl)
theorem dX2_seekFollowed_189 : decode cX2_seekFollowed 189 = .ok (.iconst 0, 1) := dk_3 (dk_at dksX2_seekFollowed_8 2 rfl rfl)
theorem dX2_seekFollowed_190 : decode cX2_seekFollowed 190 = .ok (.istore 8, 2) := dk_54 8 (dk_at dksX2_seekFollowed_8 3 rfl rfl)
theorem dX2_seekFollowed_192 : decode cX2_seekFollowed 192 = .ok (.iconst 0, 1) := dk_3 (dk_at dksX2_seekFollowed_8 5 rfl rfl)
theorem dX2_seekFollowed_193 : decode cX2_seekFollowed 193 = .ok (.istore 9, 2) := dk_54 9 (dk_at dksX2_seekFollowed_8 6 rfl rfl)
theorem dX2_seekFollowed_195 : decode cX2_seekFollowed 195 = .ok (.iload 9, 2) := dk_21 9 (dk_at dksX2_seekFollowed_8 8 rfl rfl)
theorem dX2_seekFollowed_197 : decode cX2_seekFollowed 197 = .ok (.aload_n 0, 1) := dk_42 (dk_at dksX2_seekFollowed_8 10 rfl rfl)
theorem dX2_seekFollowed_198 : decode cX2_seekFollowed 198 = .ok (.getfield 382, 3) := dk_180 1 126 (dk_at dksX2_seekFollowed_8 11 rfl rfl)
theorem dX2_seekFollowed_201 : decode cX2_seekFollowed 201 = .ok (.if_icmp .ge 101, 3) := dk_162 0 101 (dk_at dksX2_seekFollowed_8 14 rfl rfl)
theorem dX2_seekFollowed_204 : decode cX2_seekFollowed 204 = .ok (.aload_n 0, 1) := dk_42 (dk_at dksX2_seekFollowed_8 17 rfl rfl)
theorem dX2_seekFollowed_205 : decode cX2_seekFollowed 205 = .ok (.getfield 67, 3) := dk_180 0 67 (dk_at dksX2_seekFollowed_8 18 rfl rfl)
theorem dX2_seekFollowed_208 : decode cX2_seekFollowed 208 = .ok (.aload_n 0, 1) := dk_42 (dk_at dksX2_seekFollowed_8 21 rfl rfl)
theorem dX2_seekFollowed_209 : decode cX2_seekFollowed 209 = .ok (.getfield 79, 3) := dk_180 0 79 (dk_at dksX2_seekFollowed_9 0 rfl rfl)
theorem dX2_seekFollowed_212 : decode cX2_seekFollowed 212 = .ok (.aload_n 0, 1) := dk_42 (dk_at dksX2_seekFollowed_9 3 rfl rfl)
theorem dX2_seekFollowed_213 : decode cX2_seekFollowed 213 = .ok (.getfield 94, 3) := dk_180 0 94 (dk_at dksX2_seekFollowed_9 4 rfl rfl)
theorem dX2_seekFollowed_216 : decode cX2_seekFollowed 216 = .ok (.iload 9, 2) := dk_21 9 (dk_at dksX2_seekFollowed_9 7 rfl rfl)
theorem dX2_seekFollowed_218 : decode cX2_seekFollowed 218 = .ok (.iaload, 1) := dk_46 (dk_at dksX2_seekFollowed_9 9 rfl rfl)
theorem dX2_seekFollowed_219 : decode cX2_seekFollowed 219 = .ok (.iaload, 1) := dk_46 (dk_at dksX2_seekFollowed_9 10 rfl rfl)
theorem dX2_seekFollowed_220 : decode cX2_seekFollowed 220 = .ok (.iaload, 1) := dk_46 (dk_at dksX2_seekFollowed_9 11 rfl rfl)
theorem dX2_seekFollowed_221 : decode cX2_seekFollowed 221 = .ok (.aload_n 0, 1) := dk_42 (dk_at dksX2_seekFollowed_9 12 rfl rfl)
theorem dX2_seekFollowed_222 : decode cX2_seekFollowed 222 = .ok (.getfield 109, 3) := dk_180 0 109 (dk_at dksX2_seekFollowed_9 13 rfl rfl)
theorem dX2_seekFollowed_225 : decode cX2_seekFollowed 225 = .ok (.iload 6, 2) := dk_21 6 (dk_at dksX2_seekFollowed_9 16 rfl rfl)
theorem dX2_seekFollowed_227 : decode cX2_seekFollowed 227 = .ok (.iaload, 1) := dk_46 (dk_at dksX2_seekFollowed_9 18 rfl rfl)
theorem dX2_seekFollowed_228 : decode cX2_seekFollowed 228 = .ok (.isub, 1) := dk_100 (dk_at dksX2_seekFollowed_9 19 rfl rfl)
theorem dX2_seekFollowed_229 : decode cX2_seekFollowed 229 = .ok (.invokestatic 414, 3) := dk_184 1 158 (dk_at dksX2_seekFollowed_9 20 rfl rfl)
theorem dX2_seekFollowed_232 : decode cX2_seekFollowed 232 = .ok (.aload_n 0, 1) := dk_42 (dk_at dksX2_seekFollowed_9 23 rfl rfl)
theorem dX2_seekFollowed_233 : decode cX2_seekFollowed 233 = .ok (.getfield 70, 3) := dk_180 0 70 (dk_at dksX2_seekFollowed_10 0 rfl rfl)
theorem dX2_seekFollowed_236 : decode cX2_seekFollowed 236 = .ok (.aload_n 0, 1) := dk_42 (dk_at dksX2_seekFollowed_10 3 rfl rfl)
theorem dX2_seekFollowed_237 : decode cX2_seekFollowed 237 = .ok (.getfield 79, 3) := dk_180 0 79 (dk_at dksX2_seekFollowed_10 4 rfl rfl)
theorem dX2_seekFollowed_240 : decode cX2_seekFollowed 240 = .ok (.aload_n 0, 1) := dk_42 (dk_at dksX2_seekFollowed_10 7 rfl rfl)
theorem dX2_seekFollowed_241 : decode cX2_seekFollowed 241 = .ok (.getfield 94, 3) := dk_180 0 94 (dk_at dksX2_seekFollowed_10 8 rfl rfl)
theorem dX2_seekFollowed_244 : decode cX2_seekFollowed 244 = .ok (.iload 9, 2) := dk_21 9 (dk_at dksX2_seekFollowed_10 11 rfl rfl)
theorem dX2_seekFollowed_246 : decode cX2_seekFollowed 246 = .ok (.iaload, 1) := dk_46 (dk_at dksX2_seekFollowed_10 13 rfl rfl)
theorem dX2_seekFollowed_247 : decode cX2_seekFollowed 247 = .ok (.iaload, 1) := dk_46 (dk_at dksX2_seekFollowed_10 14 rfl rfl)
theorem dX2_seekFollowed_248 : decode cX2_seekFollowed 248 = .ok (.iaload, 1) := dk_46 (dk_at dksX2_seekFollowed_10 15 rfl rfl)
theorem dX2_seekFollowed_249 : decode cX2_seekFollowed 249 = .ok (.aload_n 0, 1) := dk_42 (dk_at dksX2_seekFollowed_10 16 rfl rfl)
theorem dX2_seekFollowed_250 : decode cX2_seekFollowed 250 = .ok (.getfield 112, 3) := dk_180 0 112 (dk_at dksX2_seekFollowed_10 17 rfl rfl)
theorem dX2_seekFollowed_253 : decode cX2_seekFollowed 253 = .ok (.iload 6, 2) := dk_21 6 (dk_at dksX2_seekFollowed_10 20 rfl rfl)
theorem dX2_seekFollowed_255 : decode cX2_seekFollowed 255 = .ok (.iaload, 1) := dk_46 (dk_at dksX2_seekFollowed_10 22 rfl rfl)
theorem dX2_seekFollowed_256 : decode cX2_seekFollowed 256 = .ok (.isub, 1) := dk_100 (dk_at dksX2_seekFollowed_10 23 rfl rfl)
theorem dX2_seekFollowed_257 : decode cX2_seekFollowed 257 = .ok (.invokestatic 414, 3) := dk_184 1 158 (dk_at dksX2_seekFollowed_11 0 rfl rfl)
theorem dX2_seekFollowed_260 : decode cX2_seekFollowed 260 = .ok (.iadd, 1) := dk_96 (dk_at dksX2_seekFollowed_11 3 rfl rfl)
theorem dX2_seekFollowed_261 : decode cX2_seekFollowed 261 = .ok (.istore 10, 2) := dk_54 10 (dk_at dksX2_seekFollowed_11 4 rfl rfl)
theorem dX2_seekFollowed_263 : decode cX2_seekFollowed 263 = .ok (.aload_n 0, 1) := dk_42 (dk_at dksX2_seekFollowed_11 6 rfl rfl)
theorem dX2_seekFollowed_264 : decode cX2_seekFollowed 264 = .ok (.getfield 118, 3) := dk_180 0 118 (dk_at dksX2_seekFollowed_11 7 rfl rfl)
theorem dX2_seekFollowed_267 : decode cX2_seekFollowed 267 = .ok (.iload 9, 2) := dk_21 9 (dk_at dksX2_seekFollowed_11 10 rfl rfl)
theorem dX2_seekFollowed_269 : decode cX2_seekFollowed 269 = .ok (.baload, 1) := dk_51 (dk_at dksX2_seekFollowed_11 12 rfl rfl)
theorem dX2_seekFollowed_270 : decode cX2_seekFollowed 270 = .ok (.ifCond .ne 26, 3) := dk_154 0 26 (dk_at dksX2_seekFollowed_11 13 rfl rfl)
theorem dX2_seekFollowed_273 : decode cX2_seekFollowed 273 = .ok (.iload 7, 2) := dk_21 7 (dk_at dksX2_seekFollowed_11 16 rfl rfl)
theorem dX2_seekFollowed_275 : decode cX2_seekFollowed 275 = .ok (.ifCond .lt 13, 3) := dk_155 0 13 (dk_at dksX2_seekFollowed_11 18 rfl rfl)
theorem dX2_seekFollowed_278 : decode cX2_seekFollowed 278 = .ok (.iload 10, 2) := dk_21 10 (dk_at dksX2_seekFollowed_11 21 rfl rfl)
theorem dX2_seekFollowed_280 : decode cX2_seekFollowed 280 = .ok (.iload 8, 2) := dk_21 8 (dk_at dksX2_seekFollowed_12 0 rfl rfl)
theorem dX2_seekFollowed_282 : decode cX2_seekFollowed 282 = .ok (.if_icmp .lt 6, 3) := dk_161 0 6 (dk_at dksX2_seekFollowed_12 2 rfl rfl)
theorem dX2_seekFollowed_285 : decode cX2_seekFollowed 285 = .ok (.goto 11, 3) := dk_167 0 11 (dk_at dksX2_seekFollowed_12 5 rfl rfl)
theorem dX2_seekFollowed_288 : decode cX2_seekFollowed 288 = .ok (.iload 9, 2) := dk_21 9 (dk_at dksX2_seekFollowed_12 8 rfl rfl)
theorem dX2_seekFollowed_290 : decode cX2_seekFollowed 290 = .ok (.istore 7, 2) := dk_54 7 (dk_at dksX2_seekFollowed_12 10 rfl rfl)
theorem dX2_seekFollowed_292 : decode cX2_seekFollowed 292 = .ok (.iload 10, 2) := dk_21 10 (dk_at dksX2_seekFollowed_12 12 rfl rfl)
theorem dX2_seekFollowed_294 : decode cX2_seekFollowed 294 = .ok (.istore 8, 2) := dk_54 8 (dk_at dksX2_seekFollowed_12 14 rfl rfl)
theorem dX2_seekFollowed_296 : decode cX2_seekFollowed 296 = .ok (.iinc 9 1, 3) := dk_132 9 1 (dk_at dksX2_seekFollowed_12 16 rfl rfl)
theorem dX2_seekFollowed_299 : decode cX2_seekFollowed 299 = .ok (.goto (-104), 3) := dk_167 255 152 (dk_at dksX2_seekFollowed_12 19 rfl rfl)
theorem dX2_seekFollowed_302 : decode cX2_seekFollowed 302 = .ok (.aload_n 0, 1) := dk_42 (dk_at dksX2_seekFollowed_12 22 rfl rfl)
theorem dX2_seekFollowed_303 : decode cX2_seekFollowed 303 = .ok (.getfield 115, 3) := dk_180 0 115 (dk_at dksX2_seekFollowed_13 0 rfl rfl)
theorem dX2_seekFollowed_306 : decode cX2_seekFollowed 306 = .ok (.iload 6, 2) := dk_21 6 (dk_at dksX2_seekFollowed_13 3 rfl rfl)
theorem dX2_seekFollowed_308 : decode cX2_seekFollowed 308 = .ok (.iload 7, 2) := dk_21 7 (dk_at dksX2_seekFollowed_13 5 rfl rfl)
theorem dX2_seekFollowed_310 : decode cX2_seekFollowed 310 = .ok (.ifCond .lt 22, 3) := dk_155 0 22 (dk_at dksX2_seekFollowed_13 7 rfl rfl)
theorem dX2_seekFollowed_313 : decode cX2_seekFollowed 313 = .ok (.iload 8, 2) := dk_21 8 (dk_at dksX2_seekFollowed_13 10 rfl rfl)
theorem dX2_seekFollowed_315 : decode cX2_seekFollowed 315 = .ok (.bipush 10, 2) := dk_16 10 (dk_at dksX2_seekFollowed_13 12 rfl rfl)
theorem dX2_seekFollowed_317 : decode cX2_seekFollowed 317 = .ok (.aload_n 0, 1) := dk_42 (dk_at dksX2_seekFollowed_13 14 rfl rfl)
theorem dX2_seekFollowed_318 : decode cX2_seekFollowed 318 = .ok (.getfield 20, 3) := dk_180 0 20 (dk_at dksX2_seekFollowed_13 15 rfl rfl)
theorem dX2_seekFollowed_321 : decode cX2_seekFollowed 321 = .ok (.iconst 4, 1) := dk_7 (dk_at dksX2_seekFollowed_13 18 rfl rfl)
theorem dX2_seekFollowed_322 : decode cX2_seekFollowed 322 = .ok (.iaload, 1) := dk_46 (dk_at dksX2_seekFollowed_13 19 rfl rfl)
theorem dX2_seekFollowed_323 : decode cX2_seekFollowed 323 = .ok (.imul, 1) := dk_104 (dk_at dksX2_seekFollowed_13 20 rfl rfl)
theorem dX2_seekFollowed_324 : decode cX2_seekFollowed 324 = .ok (.if_icmp .gt 8, 3) := dk_163 0 8 (dk_at dksX2_seekFollowed_13 21 rfl rfl)
theorem dX2_seekFollowed_327 : decode cX2_seekFollowed 327 = .ok (.iload 7, 2) := dk_21 7 (dk_at dksX2_seekFollowed_14 0 rfl rfl)
theorem dX2_seekFollowed_329 : decode cX2_seekFollowed 329 = .ok (.goto 4, 3) := dk_167 0 4 (dk_at dksX2_seekFollowed_14 2 rfl rfl)
theorem dX2_seekFollowed_332 : decode cX2_seekFollowed 332 = .ok (.iconst (-1), 1) := dk_2 (dk_at dksX2_seekFollowed_14 5 rfl rfl)
theorem dX2_seekFollowed_333 : decode cX2_seekFollowed 333 = .ok (.iastore, 1) := dk_79 (dk_at dksX2_seekFollowed_14 6 rfl rfl)
theorem dX2_seekFollowed_334 : decode cX2_seekFollowed 334 = .ok (.aload_n 0, 1) := dk_42 (dk_at dksX2_seekFollowed_14 7 rfl rfl)
theorem dX2_seekFollowed_335 : decode cX2_seekFollowed 335 = .ok (.getfield 115, 3) := dk_180 0 115 (dk_at dksX2_seekFollowed_14 8 rfl rfl)
theorem dX2_seekFollowed_338 : decode cX2_seekFollowed 338 = .ok (.iload 6, 2) := dk_21 6 (dk_at dksX2_seekFollowed_14 11 rfl rfl)
theorem dX2_seekFollowed_340 : decode cX2_seekFollowed 340 = .ok (.iaload, 1) := dk_46 (dk_at dksX2_seekFollowed_14 13 rfl rfl)
theorem dX2_seekFollowed_341 : decode cX2_seekFollowed 341 = .ok (.ifCond .ge 6, 3) := dk_156 0 6 (dk_at dksX2_seekFollowed_14 14 rfl rfl)
theorem dX2_seekFollowed_344 : decode cX2_seekFollowed 344 = .ok (.goto 21, 3) := dk_167 0 21 (dk_at dksX2_seekFollowed_14 17 rfl rfl)
theorem dX2_seekFollowed_347 : decode cX2_seekFollowed 347 = .ok (.aload_n 0, 1) := dk_42 (dk_at dksX2_seekFollowed_14 20 rfl rfl)
theorem dX2_seekFollowed_348 : decode cX2_seekFollowed 348 = .ok (.getfield 118, 3) := dk_180 0 118 (dk_at dksX2_seekFollowed_14 21 rfl rfl)
theorem dX2_seekFollowed_351 : decode cX2_seekFollowed 351 = .ok (.iload 7, 2) := dk_21 7 (dk_at dksX2_seekFollowed_15 0 rfl rfl)
theorem dX2_seekFollowed_353 : decode cX2_seekFollowed 353 = .ok (.iconst 1, 1) := dk_4 (dk_at dksX2_seekFollowed_15 2 rfl rfl)
theorem dX2_seekFollowed_354 : decode cX2_seekFollowed 354 = .ok (.bastore, 1) := dk_84 (dk_at dksX2_seekFollowed_15 3 rfl rfl)
theorem dX2_seekFollowed_355 : decode cX2_seekFollowed 355 = .ok (.aload_n 0, 1) := dk_42 (dk_at dksX2_seekFollowed_15 4 rfl rfl)
theorem dX2_seekFollowed_356 : decode cX2_seekFollowed 356 = .ok (.dup, 1) := dk_89 (dk_at dksX2_seekFollowed_15 5 rfl rfl)
theorem dX2_seekFollowed_357 : decode cX2_seekFollowed 357 = .ok (.getfield 536, 3) := dk_180 2 24 (dk_at dksX2_seekFollowed_15 6 rfl rfl)
theorem dX2_seekFollowed_360 : decode cX2_seekFollowed 360 = .ok (.iconst 1, 1) := dk_4 (dk_at dksX2_seekFollowed_15 9 rfl rfl)
theorem dX2_seekFollowed_361 : decode cX2_seekFollowed 361 = .ok (.iadd, 1) := dk_96 (dk_at dksX2_seekFollowed_15 10 rfl rfl)
theorem dX2_seekFollowed_362 : decode cX2_seekFollowed 362 = .ok (.putfield 536, 3) := dk_181 2 24 (dk_at dksX2_seekFollowed_15 11 rfl rfl)
theorem dX2_seekFollowed_365 : decode cX2_seekFollowed 365 = .ok (.iinc 6 1, 3) := dk_132 6 1 (dk_at dksX2_seekFollowed_15 14 rfl rfl)
theorem dX2_seekFollowed_368 : decode cX2_seekFollowed 368 = .ok (.goto (-191), 3) := dk_167 255 65 (dk_at dksX2_seekFollowed_15 17 rfl rfl)
theorem dX2_seekFollowed_371 : decode cX2_seekFollowed 371 = .ok (.iconst 1, 1) := dk_4 (dk_at dksX2_seekFollowed_15 20 rfl rfl)
theorem dX2_seekFollowed_372 : decode cX2_seekFollowed 372 = .ok (.ireturn, 1) := dk_172 (dk_at dksX2_seekFollowed_15 21 rfl rfl)
abbrev cX2_follow : ByteArray := prog_28_method_82_code
def yX2_follow : MethodName := ⟨RX2, "follow", "(IIIIII)I"⟩
def dkwX2_follow_1 : List UInt8 := [153, 0, 13, 42, 180, 0, 115, 21, 5, 46, 167, 0, 4, 2, 172]
abbrev dktX2_follow_1 : List UInt8 := dkwX2_follow_1 ++ []
def dkwX2_follow_0 : List UInt8 := [42, 27, 28, 29, 21, 4, 21, 6, 182, 2, 27, 153, 0, 25, 21, 5, 42, 180, 2, 21, 184, 1, 93]
abbrev dktX2_follow_0 : List UInt8 := dkwX2_follow_0 ++ dktX2_follow_1
theorem dksX2_follow_0 : cX2_follow.data.toList.drop 0 = dktX2_follow_0 := by decide +kernel
theorem dksX2_follow_1 : cX2_follow.data.toList.drop 23 = dktX2_follow_1 := dk_seg dksX2_follow_0 23 rfl rfl
theorem dX2_follow_0 : decode cX2_follow 0 = .ok (.aload_n 0, 1) := dk_42 (dk_at dksX2_follow_0 0 rfl rfl)
theorem dX2_follow_1 : decode cX2_follow 1 = .ok (.iload_n 1, 1) := dk_27 (dk_at dksX2_follow_0 1 rfl rfl)
theorem dX2_follow_2 : decode cX2_follow 2 = .ok (.iload_n 2, 1) := dk_28 (dk_at dksX2_follow_0 2 rfl rfl)
theorem dX2_follow_3 : decode cX2_follow 3 = .ok (.iload_n 3, 1) := dk_29 (dk_at dksX2_follow_0 3 rfl rfl)
theorem dX2_follow_4 : decode cX2_follow 4 = .ok (.iload 4, 2) := dk_21 4 (dk_at dksX2_follow_0 4 rfl rfl)
theorem dX2_follow_6 : decode cX2_follow 6 = .ok (.iload 6, 2) := dk_21 6 (dk_at dksX2_follow_0 6 rfl rfl)
theorem dX2_follow_8 : decode cX2_follow 8 = .ok (.invokevirtual 539, 3) := dk_182 2 27 (dk_at dksX2_follow_0 8 rfl rfl)
theorem dX2_follow_11 : decode cX2_follow 11 = .ok (.ifCond .eq 25, 3) := dk_153 0 25 (dk_at dksX2_follow_0 11 rfl rfl)
theorem dX2_follow_14 : decode cX2_follow 14 = .ok (.iload 5, 2) := dk_21 5 (dk_at dksX2_follow_0 14 rfl rfl)
theorem dX2_follow_16 : decode cX2_follow 16 = .ok (.aload_n 0, 1) := dk_42 (dk_at dksX2_follow_0 16 rfl rfl)
theorem dX2_follow_17 : decode cX2_follow 17 = .ok (.getfield 533, 3) := dk_180 2 21 (dk_at dksX2_follow_0 17 rfl rfl)
theorem dX2_follow_20 : decode cX2_follow 20 = .ok (.invokestatic 349, 3) := dk_184 1 93 (dk_at dksX2_follow_0 20 rfl rfl)
theorem dX2_follow_23 : decode cX2_follow 23 = .ok (.ifCond .eq 13, 3) := dk_153 0 13 (dk_at dksX2_follow_1 0 rfl rfl)
theorem dX2_follow_26 : decode cX2_follow 26 = .ok (.aload_n 0, 1) := dk_42 (dk_at dksX2_follow_1 3 rfl rfl)
theorem dX2_follow_27 : decode cX2_follow 27 = .ok (.getfield 115, 3) := dk_180 0 115 (dk_at dksX2_follow_1 4 rfl rfl)
theorem dX2_follow_30 : decode cX2_follow 30 = .ok (.iload 5, 2) := dk_21 5 (dk_at dksX2_follow_1 7 rfl rfl)
theorem dX2_follow_32 : decode cX2_follow 32 = .ok (.iaload, 1) := dk_46 (dk_at dksX2_follow_1 9 rfl rfl)
theorem dX2_follow_33 : decode cX2_follow 33 = .ok (.goto 4, 3) := dk_167 0 4 (dk_at dksX2_follow_1 10 rfl rfl)
theorem dX2_follow_36 : decode cX2_follow 36 = .ok (.iconst (-1), 1) := dk_2 (dk_at dksX2_follow_1 13 rfl rfl)
theorem dX2_follow_37 : decode cX2_follow 37 = .ok (.ireturn, 1) := dk_172 (dk_at dksX2_follow_1 14 rfl rfl)
abbrev cX2_wanderers : ByteArray := prog_28_method_83_code
def yX2_wanderers : MethodName := ⟨RX2, "wanderers", "(II)I"⟩
def dkwX2_wanderers_2 : List UInt8 := [4, 21, 4, 120, 128, 62, 132, 4, 1, 167, 255, 216, 29, 172]
abbrev dktX2_wanderers_2 : List UInt8 := dkwX2_wanderers_2 ++ []
def dkwX2_wanderers_1 : List UInt8 := [21, 4, 42, 180, 1, 126, 162, 0, 30, 29, 42, 3, 21, 4, 182, 1, 205, 153, 0, 7, 3, 167, 0, 7]
abbrev dktX2_wanderers_1 : List UInt8 := dkwX2_wanderers_1 ++ dktX2_wanderers_2
def dkwX2_wanderers_0 : List UInt8 := [42, 27, 3, 28, 182, 1, 201, 154, 0, 5, 2, 172, 3, 62, 3, 54, 4, 21, 4, 16, 6, 162, 0, 39]
abbrev dktX2_wanderers_0 : List UInt8 := dkwX2_wanderers_0 ++ dktX2_wanderers_1
theorem dksX2_wanderers_0 : cX2_wanderers.data.toList.drop 0 = dktX2_wanderers_0 := by decide +kernel
theorem dksX2_wanderers_1 : cX2_wanderers.data.toList.drop 24 = dktX2_wanderers_1 := dk_seg dksX2_wanderers_0 24 rfl rfl
theorem dksX2_wanderers_2 : cX2_wanderers.data.toList.drop 48 = dktX2_wanderers_2 := dk_seg dksX2_wanderers_1 24 rfl rfl
theorem dX2_wanderers_0 : decode cX2_wanderers 0 = .ok (.aload_n 0, 1) := dk_42 (dk_at dksX2_wanderers_0 0 rfl rfl)
theorem dX2_wanderers_1 : decode cX2_wanderers 1 = .ok (.iload_n 1, 1) := dk_27 (dk_at dksX2_wanderers_0 1 rfl rfl)
theorem dX2_wanderers_2 : decode cX2_wanderers 2 = .ok (.iconst 0, 1) := dk_3 (dk_at dksX2_wanderers_0 2 rfl rfl)
theorem dX2_wanderers_3 : decode cX2_wanderers 3 = .ok (.iload_n 2, 1) := dk_28 (dk_at dksX2_wanderers_0 3 rfl rfl)
theorem dX2_wanderers_4 : decode cX2_wanderers 4 = .ok (.invokevirtual 457, 3) := dk_182 1 201 (dk_at dksX2_wanderers_0 4 rfl rfl)
theorem dX2_wanderers_7 : decode cX2_wanderers 7 = .ok (.ifCond .ne 5, 3) := dk_154 0 5 (dk_at dksX2_wanderers_0 7 rfl rfl)
theorem dX2_wanderers_10 : decode cX2_wanderers 10 = .ok (.iconst (-1), 1) := dk_2 (dk_at dksX2_wanderers_0 10 rfl rfl)
theorem dX2_wanderers_11 : decode cX2_wanderers 11 = .ok (.ireturn, 1) := dk_172 (dk_at dksX2_wanderers_0 11 rfl rfl)
theorem dX2_wanderers_12 : decode cX2_wanderers 12 = .ok (.iconst 0, 1) := dk_3 (dk_at dksX2_wanderers_0 12 rfl rfl)
theorem dX2_wanderers_13 : decode cX2_wanderers 13 = .ok (.istore_n 3, 1) := dk_62 (dk_at dksX2_wanderers_0 13 rfl rfl)
theorem dX2_wanderers_14 : decode cX2_wanderers 14 = .ok (.iconst 0, 1) := dk_3 (dk_at dksX2_wanderers_0 14 rfl rfl)
theorem dX2_wanderers_15 : decode cX2_wanderers 15 = .ok (.istore 4, 2) := dk_54 4 (dk_at dksX2_wanderers_0 15 rfl rfl)
theorem dX2_wanderers_17 : decode cX2_wanderers 17 = .ok (.iload 4, 2) := dk_21 4 (dk_at dksX2_wanderers_0 17 rfl rfl)
theorem dX2_wanderers_19 : decode cX2_wanderers 19 = .ok (.bipush 6, 2) := dk_16 6 (dk_at dksX2_wanderers_0 19 rfl rfl)
theorem dX2_wanderers_21 : decode cX2_wanderers 21 = .ok (.if_icmp .ge 39, 3) := dk_162 0 39 (dk_at dksX2_wanderers_0 21 rfl rfl)
theorem dX2_wanderers_24 : decode cX2_wanderers 24 = .ok (.iload 4, 2) := dk_21 4 (dk_at dksX2_wanderers_1 0 rfl rfl)
theorem dX2_wanderers_26 : decode cX2_wanderers 26 = .ok (.aload_n 0, 1) := dk_42 (dk_at dksX2_wanderers_1 2 rfl rfl)
theorem dX2_wanderers_27 : decode cX2_wanderers 27 = .ok (.getfield 382, 3) := dk_180 1 126 (dk_at dksX2_wanderers_1 3 rfl rfl)
theorem dX2_wanderers_30 : decode cX2_wanderers 30 = .ok (.if_icmp .ge 30, 3) := dk_162 0 30 (dk_at dksX2_wanderers_1 6 rfl rfl)
theorem dX2_wanderers_33 : decode cX2_wanderers 33 = .ok (.iload_n 3, 1) := dk_29 (dk_at dksX2_wanderers_1 9 rfl rfl)
theorem dX2_wanderers_34 : decode cX2_wanderers 34 = .ok (.aload_n 0, 1) := dk_42 (dk_at dksX2_wanderers_1 10 rfl rfl)
theorem dX2_wanderers_35 : decode cX2_wanderers 35 = .ok (.iconst 0, 1) := dk_3 (dk_at dksX2_wanderers_1 11 rfl rfl)
theorem dX2_wanderers_36 : decode cX2_wanderers 36 = .ok (.iload 4, 2) := dk_21 4 (dk_at dksX2_wanderers_1 12 rfl rfl)
theorem dX2_wanderers_38 : decode cX2_wanderers 38 = .ok (.invokevirtual 461, 3) := dk_182 1 205 (dk_at dksX2_wanderers_1 14 rfl rfl)
theorem dX2_wanderers_41 : decode cX2_wanderers 41 = .ok (.ifCond .eq 7, 3) := dk_153 0 7 (dk_at dksX2_wanderers_1 17 rfl rfl)
theorem dX2_wanderers_44 : decode cX2_wanderers 44 = .ok (.iconst 0, 1) := dk_3 (dk_at dksX2_wanderers_1 20 rfl rfl)
theorem dX2_wanderers_45 : decode cX2_wanderers 45 = .ok (.goto 7, 3) := dk_167 0 7 (dk_at dksX2_wanderers_1 21 rfl rfl)
theorem dX2_wanderers_48 : decode cX2_wanderers 48 = .ok (.iconst 1, 1) := dk_4 (dk_at dksX2_wanderers_2 0 rfl rfl)
theorem dX2_wanderers_49 : decode cX2_wanderers 49 = .ok (.iload 4, 2) := dk_21 4 (dk_at dksX2_wanderers_2 1 rfl rfl)
theorem dX2_wanderers_51 : decode cX2_wanderers 51 = .ok (.ishl, 1) := dk_120 (dk_at dksX2_wanderers_2 3 rfl rfl)
theorem dX2_wanderers_52 : decode cX2_wanderers 52 = .ok (.ior, 1) := dk_128 (dk_at dksX2_wanderers_2 4 rfl rfl)
theorem dX2_wanderers_53 : decode cX2_wanderers 53 = .ok (.istore_n 3, 1) := dk_62 (dk_at dksX2_wanderers_2 5 rfl rfl)
theorem dX2_wanderers_54 : decode cX2_wanderers 54 = .ok (.iinc 4 1, 3) := dk_132 4 1 (dk_at dksX2_wanderers_2 6 rfl rfl)
theorem dX2_wanderers_57 : decode cX2_wanderers 57 = .ok (.goto (-40), 3) := dk_167 255 216 (dk_at dksX2_wanderers_2 9 rfl rfl)
theorem dX2_wanderers_60 : decode cX2_wanderers 60 = .ok (.iload_n 3, 1) := dk_29 (dk_at dksX2_wanderers_2 12 rfl rfl)
theorem dX2_wanderers_61 : decode cX2_wanderers 61 = .ok (.ireturn, 1) := dk_172 (dk_at dksX2_wanderers_2 13 rfl rfl)
abbrev cX2_shift : ByteArray := prog_28_method_85_code
def yX2_shift : MethodName := ⟨RX2, "shift", "(IIIII)J"⟩
def dkwX2_shift_3 : List UInt8 := [180, 2, 31, 21, 6, 100, 133, 167, 0, 11, 42, 180, 2, 34, 21, 7, 100, 133, 173]
abbrev dktX2_shift_3 : List UInt8 := dkwX2_shift_3 ++ []
def dkwX2_shift_2 : List UInt8 := [54, 7, 42, 28, 29, 21, 5, 182, 2, 37, 154, 0, 7, 20, 1, 225, 173, 21, 4, 154, 0, 14, 42]
abbrev dktX2_shift_2 : List UInt8 := dkwX2_shift_2 ++ dktX2_shift_3
def dkwX2_shift_1 : List UInt8 := [29, 21, 5, 182, 2, 37, 154, 0, 7, 20, 1, 225, 173, 42, 180, 2, 31, 54, 6, 42, 180, 2, 34]
abbrev dktX2_shift_1 : List UInt8 := dkwX2_shift_1 ++ dktX2_shift_2
def dkwX2_shift_0 : List UInt8 := [29, 42, 180, 1, 74, 184, 1, 93, 153, 0, 25, 21, 4, 155, 0, 20, 21, 4, 4, 163, 0, 14, 42, 27]
abbrev dktX2_shift_0 : List UInt8 := dkwX2_shift_0 ++ dktX2_shift_1
theorem dksX2_shift_0 : cX2_shift.data.toList.drop 0 = dktX2_shift_0 := by decide +kernel
theorem dksX2_shift_1 : cX2_shift.data.toList.drop 24 = dktX2_shift_1 := dk_seg dksX2_shift_0 24 rfl rfl
theorem dksX2_shift_2 : cX2_shift.data.toList.drop 47 = dktX2_shift_2 := dk_seg dksX2_shift_1 23 rfl rfl
theorem dksX2_shift_3 : cX2_shift.data.toList.drop 70 = dktX2_shift_3 := dk_seg dksX2_shift_2 23 rfl rfl
theorem dX2_shift_0 : decode cX2_shift 0 = .ok (.iload_n 3, 1) := dk_29 (dk_at dksX2_shift_0 0 rfl rfl)
theorem dX2_shift_1 : decode cX2_shift 1 = .ok (.aload_n 0, 1) := dk_42 (dk_at dksX2_shift_0 1 rfl rfl)
theorem dX2_shift_2 : decode cX2_shift 2 = .ok (.getfield 330, 3) := dk_180 1 74 (dk_at dksX2_shift_0 2 rfl rfl)
theorem dX2_shift_5 : decode cX2_shift 5 = .ok (.invokestatic 349, 3) := dk_184 1 93 (dk_at dksX2_shift_0 5 rfl rfl)
theorem dX2_shift_8 : decode cX2_shift 8 = .ok (.ifCond .eq 25, 3) := dk_153 0 25 (dk_at dksX2_shift_0 8 rfl rfl)
theorem dX2_shift_11 : decode cX2_shift 11 = .ok (.iload 4, 2) := dk_21 4 (dk_at dksX2_shift_0 11 rfl rfl)
theorem dX2_shift_13 : decode cX2_shift 13 = .ok (.ifCond .lt 20, 3) := dk_155 0 20 (dk_at dksX2_shift_0 13 rfl rfl)
theorem dX2_shift_16 : decode cX2_shift 16 = .ok (.iload 4, 2) := dk_21 4 (dk_at dksX2_shift_0 16 rfl rfl)
theorem dX2_shift_18 : decode cX2_shift 18 = .ok (.iconst 1, 1) := dk_4 (dk_at dksX2_shift_0 18 rfl rfl)
theorem dX2_shift_19 : decode cX2_shift 19 = .ok (.if_icmp .gt 14, 3) := dk_163 0 14 (dk_at dksX2_shift_0 19 rfl rfl)
theorem dX2_shift_22 : decode cX2_shift 22 = .ok (.aload_n 0, 1) := dk_42 (dk_at dksX2_shift_0 22 rfl rfl)
theorem dX2_shift_23 : decode cX2_shift 23 = .ok (.iload_n 1, 1) := dk_27 (dk_at dksX2_shift_0 23 rfl rfl)
theorem dX2_shift_24 : decode cX2_shift 24 = .ok (.iload_n 3, 1) := dk_29 (dk_at dksX2_shift_1 0 rfl rfl)
theorem dX2_shift_25 : decode cX2_shift 25 = .ok (.iload 5, 2) := dk_21 5 (dk_at dksX2_shift_1 1 rfl rfl)
theorem dX2_shift_27 : decode cX2_shift 27 = .ok (.invokevirtual 549, 3) := dk_182 2 37 (dk_at dksX2_shift_1 3 rfl rfl)
theorem dX2_shift_30 : decode cX2_shift 30 = .ok (.ifCond .ne 7, 3) := dk_154 0 7 (dk_at dksX2_shift_1 6 rfl rfl)
theorem dX2_shift_33 : decode cX2_shift 33 = .ok (.ldc2_w 481, 3) := dk_20 1 225 (dk_at dksX2_shift_1 9 rfl rfl)
theorem dX2_shift_36 : decode cX2_shift 36 = .ok (.lreturn, 1) := dk_173 (dk_at dksX2_shift_1 12 rfl rfl)
theorem dX2_shift_37 : decode cX2_shift 37 = .ok (.aload_n 0, 1) := dk_42 (dk_at dksX2_shift_1 13 rfl rfl)
theorem dX2_shift_38 : decode cX2_shift 38 = .ok (.getfield 543, 3) := dk_180 2 31 (dk_at dksX2_shift_1 14 rfl rfl)
theorem dX2_shift_41 : decode cX2_shift 41 = .ok (.istore 6, 2) := dk_54 6 (dk_at dksX2_shift_1 17 rfl rfl)
theorem dX2_shift_43 : decode cX2_shift 43 = .ok (.aload_n 0, 1) := dk_42 (dk_at dksX2_shift_1 19 rfl rfl)
theorem dX2_shift_44 : decode cX2_shift 44 = .ok (.getfield 546, 3) := dk_180 2 34 (dk_at dksX2_shift_1 20 rfl rfl)
theorem dX2_shift_47 : decode cX2_shift 47 = .ok (.istore 7, 2) := dk_54 7 (dk_at dksX2_shift_2 0 rfl rfl)
theorem dX2_shift_49 : decode cX2_shift 49 = .ok (.aload_n 0, 1) := dk_42 (dk_at dksX2_shift_2 2 rfl rfl)
theorem dX2_shift_50 : decode cX2_shift 50 = .ok (.iload_n 2, 1) := dk_28 (dk_at dksX2_shift_2 3 rfl rfl)
theorem dX2_shift_51 : decode cX2_shift 51 = .ok (.iload_n 3, 1) := dk_29 (dk_at dksX2_shift_2 4 rfl rfl)
theorem dX2_shift_52 : decode cX2_shift 52 = .ok (.iload 5, 2) := dk_21 5 (dk_at dksX2_shift_2 5 rfl rfl)
theorem dX2_shift_54 : decode cX2_shift 54 = .ok (.invokevirtual 549, 3) := dk_182 2 37 (dk_at dksX2_shift_2 7 rfl rfl)
theorem dX2_shift_57 : decode cX2_shift 57 = .ok (.ifCond .ne 7, 3) := dk_154 0 7 (dk_at dksX2_shift_2 10 rfl rfl)
theorem dX2_shift_60 : decode cX2_shift 60 = .ok (.ldc2_w 481, 3) := dk_20 1 225 (dk_at dksX2_shift_2 13 rfl rfl)
theorem dX2_shift_63 : decode cX2_shift 63 = .ok (.lreturn, 1) := dk_173 (dk_at dksX2_shift_2 16 rfl rfl)
theorem dX2_shift_64 : decode cX2_shift 64 = .ok (.iload 4, 2) := dk_21 4 (dk_at dksX2_shift_2 17 rfl rfl)
theorem dX2_shift_66 : decode cX2_shift 66 = .ok (.ifCond .ne 14, 3) := dk_154 0 14 (dk_at dksX2_shift_2 19 rfl rfl)
theorem dX2_shift_69 : decode cX2_shift 69 = .ok (.aload_n 0, 1) := dk_42 (dk_at dksX2_shift_2 22 rfl rfl)
theorem dX2_shift_70 : decode cX2_shift 70 = .ok (.getfield 543, 3) := dk_180 2 31 (dk_at dksX2_shift_3 0 rfl rfl)
theorem dX2_shift_73 : decode cX2_shift 73 = .ok (.iload 6, 2) := dk_21 6 (dk_at dksX2_shift_3 3 rfl rfl)
theorem dX2_shift_75 : decode cX2_shift 75 = .ok (.isub, 1) := dk_100 (dk_at dksX2_shift_3 5 rfl rfl)
theorem dX2_shift_76 : decode cX2_shift 76 = .ok (.i2l, 1) := dk_133 (dk_at dksX2_shift_3 6 rfl rfl)
theorem dX2_shift_77 : decode cX2_shift 77 = .ok (.goto 11, 3) := dk_167 0 11 (dk_at dksX2_shift_3 7 rfl rfl)
theorem dX2_shift_80 : decode cX2_shift 80 = .ok (.aload_n 0, 1) := dk_42 (dk_at dksX2_shift_3 10 rfl rfl)
theorem dX2_shift_81 : decode cX2_shift 81 = .ok (.getfield 546, 3) := dk_180 2 34 (dk_at dksX2_shift_3 11 rfl rfl)
theorem dX2_shift_84 : decode cX2_shift 84 = .ok (.iload 7, 2) := dk_21 7 (dk_at dksX2_shift_3 14 rfl rfl)
theorem dX2_shift_86 : decode cX2_shift 86 = .ok (.isub, 1) := dk_100 (dk_at dksX2_shift_3 16 rfl rfl)
theorem dX2_shift_87 : decode cX2_shift 87 = .ok (.i2l, 1) := dk_133 (dk_at dksX2_shift_3 17 rfl rfl)
theorem dX2_shift_88 : decode cX2_shift 88 = .ok (.lreturn, 1) := dk_173 (dk_at dksX2_shift_3 18 rfl rfl)
abbrev cX2_seekStar : ByteArray := prog_28_method_84_code
def yX2_seekStar : MethodName := ⟨RX2, "seekStar", "(III)Z"⟩
def dkwX2_seekStar_3 : List UInt8 := [21, 4, 46, 46, 46, 181, 2, 34, 4, 172, 132, 4, 1, 167, 255, 188, 3, 172]
abbrev dktX2_seekStar_3 : List UInt8 := dkwX2_seekStar_3 ++ []
def dkwX2_seekStar_2 : List UInt8 := [180, 0, 94, 21, 4, 46, 46, 46, 181, 2, 31, 42, 42, 180, 0, 70, 42, 180, 0, 79, 42, 180, 0, 94]
abbrev dktX2_seekStar_2 : List UInt8 := dkwX2_seekStar_2 ++ dktX2_seekStar_3
def dkwX2_seekStar_1 : List UInt8 := [180, 0, 106, 21, 4, 46, 28, 159, 0, 6, 167, 0, 47, 42, 42, 180, 0, 67, 42, 180, 0, 79, 42]
abbrev dktX2_seekStar_1 : List UInt8 := dkwX2_seekStar_1 ++ dktX2_seekStar_2
def dkwX2_seekStar_0 : List UInt8 := [42, 27, 3, 29, 182, 1, 201, 154, 0, 5, 3, 172, 3, 54, 4, 21, 4, 16, 6, 162, 0, 67, 42]
abbrev dktX2_seekStar_0 : List UInt8 := dkwX2_seekStar_0 ++ dktX2_seekStar_1
theorem dksX2_seekStar_0 : cX2_seekStar.data.toList.drop 0 = dktX2_seekStar_0 := by decide +kernel
theorem dksX2_seekStar_1 : cX2_seekStar.data.toList.drop 23 = dktX2_seekStar_1 := dk_seg dksX2_seekStar_0 23 rfl rfl
theorem dksX2_seekStar_2 : cX2_seekStar.data.toList.drop 46 = dktX2_seekStar_2 := dk_seg dksX2_seekStar_1 23 rfl rfl
theorem dksX2_seekStar_3 : cX2_seekStar.data.toList.drop 70 = dktX2_seekStar_3 := dk_seg dksX2_seekStar_2 24 rfl rfl
theorem dX2_seekStar_0 : decode cX2_seekStar 0 = .ok (.aload_n 0, 1) := dk_42 (dk_at dksX2_seekStar_0 0 rfl rfl)
theorem dX2_seekStar_1 : decode cX2_seekStar 1 = .ok (.iload_n 1, 1) := dk_27 (dk_at dksX2_seekStar_0 1 rfl rfl)
theorem dX2_seekStar_2 : decode cX2_seekStar 2 = .ok (.iconst 0, 1) := dk_3 (dk_at dksX2_seekStar_0 2 rfl rfl)
theorem dX2_seekStar_3 : decode cX2_seekStar 3 = .ok (.iload_n 3, 1) := dk_29 (dk_at dksX2_seekStar_0 3 rfl rfl)
theorem dX2_seekStar_4 : decode cX2_seekStar 4 = .ok (.invokevirtual 457, 3) := dk_182 1 201 (dk_at dksX2_seekStar_0 4 rfl rfl)
theorem dX2_seekStar_7 : decode cX2_seekStar 7 = .ok (.ifCond .ne 5, 3) := dk_154 0 5 (dk_at dksX2_seekStar_0 7 rfl rfl)
theorem dX2_seekStar_10 : decode cX2_seekStar 10 = .ok (.iconst 0, 1) := dk_3 (dk_at dksX2_seekStar_0 10 rfl rfl)
theorem dX2_seekStar_11 : decode cX2_seekStar 11 = .ok (.ireturn, 1) := dk_172 (dk_at dksX2_seekStar_0 11 rfl rfl)
theorem dX2_seekStar_12 : decode cX2_seekStar 12 = .ok (.iconst 0, 1) := dk_3 (dk_at dksX2_seekStar_0 12 rfl rfl)
theorem dX2_seekStar_13 : decode cX2_seekStar 13 = .ok (.istore 4, 2) := dk_54 4 (dk_at dksX2_seekStar_0 13 rfl rfl)
theorem dX2_seekStar_15 : decode cX2_seekStar 15 = .ok (.iload 4, 2) := dk_21 4 (dk_at dksX2_seekStar_0 15 rfl rfl)
theorem dX2_seekStar_17 : decode cX2_seekStar 17 = .ok (.bipush 6, 2) := dk_16 6 (dk_at dksX2_seekStar_0 17 rfl rfl)
theorem dX2_seekStar_19 : decode cX2_seekStar 19 = .ok (.if_icmp .ge 67, 3) := dk_162 0 67 (dk_at dksX2_seekStar_0 19 rfl rfl)
theorem dX2_seekStar_22 : decode cX2_seekStar 22 = .ok (.aload_n 0, 1) := dk_42 (dk_at dksX2_seekStar_0 22 rfl rfl)
theorem dX2_seekStar_23 : decode cX2_seekStar 23 = .ok (.getfield 106, 3) := dk_180 0 106 (dk_at dksX2_seekStar_1 0 rfl rfl)
theorem dX2_seekStar_26 : decode cX2_seekStar 26 = .ok (.iload 4, 2) := dk_21 4 (dk_at dksX2_seekStar_1 3 rfl rfl)
theorem dX2_seekStar_28 : decode cX2_seekStar 28 = .ok (.iaload, 1) := dk_46 (dk_at dksX2_seekStar_1 5 rfl rfl)
theorem dX2_seekStar_29 : decode cX2_seekStar 29 = .ok (.iload_n 2, 1) := dk_28 (dk_at dksX2_seekStar_1 6 rfl rfl)
theorem dX2_seekStar_30 : decode cX2_seekStar 30 = .ok (.if_icmp .eq 6, 3) := dk_159 0 6 (dk_at dksX2_seekStar_1 7 rfl rfl)
theorem dX2_seekStar_33 : decode cX2_seekStar 33 = .ok (.goto 47, 3) := dk_167 0 47 (dk_at dksX2_seekStar_1 10 rfl rfl)
theorem dX2_seekStar_36 : decode cX2_seekStar 36 = .ok (.aload_n 0, 1) := dk_42 (dk_at dksX2_seekStar_1 13 rfl rfl)
theorem dX2_seekStar_37 : decode cX2_seekStar 37 = .ok (.aload_n 0, 1) := dk_42 (dk_at dksX2_seekStar_1 14 rfl rfl)
theorem dX2_seekStar_38 : decode cX2_seekStar 38 = .ok (.getfield 67, 3) := dk_180 0 67 (dk_at dksX2_seekStar_1 15 rfl rfl)
theorem dX2_seekStar_41 : decode cX2_seekStar 41 = .ok (.aload_n 0, 1) := dk_42 (dk_at dksX2_seekStar_1 18 rfl rfl)
theorem dX2_seekStar_42 : decode cX2_seekStar 42 = .ok (.getfield 79, 3) := dk_180 0 79 (dk_at dksX2_seekStar_1 19 rfl rfl)
theorem dX2_seekStar_45 : decode cX2_seekStar 45 = .ok (.aload_n 0, 1) := dk_42 (dk_at dksX2_seekStar_1 22 rfl rfl)
theorem dX2_seekStar_46 : decode cX2_seekStar 46 = .ok (.getfield 94, 3) := dk_180 0 94 (dk_at dksX2_seekStar_2 0 rfl rfl)
theorem dX2_seekStar_49 : decode cX2_seekStar 49 = .ok (.iload 4, 2) := dk_21 4 (dk_at dksX2_seekStar_2 3 rfl rfl)
theorem dX2_seekStar_51 : decode cX2_seekStar 51 = .ok (.iaload, 1) := dk_46 (dk_at dksX2_seekStar_2 5 rfl rfl)
theorem dX2_seekStar_52 : decode cX2_seekStar 52 = .ok (.iaload, 1) := dk_46 (dk_at dksX2_seekStar_2 6 rfl rfl)
theorem dX2_seekStar_53 : decode cX2_seekStar 53 = .ok (.iaload, 1) := dk_46 (dk_at dksX2_seekStar_2 7 rfl rfl)
theorem dX2_seekStar_54 : decode cX2_seekStar 54 = .ok (.putfield 543, 3) := dk_181 2 31 (dk_at dksX2_seekStar_2 8 rfl rfl)
theorem dX2_seekStar_57 : decode cX2_seekStar 57 = .ok (.aload_n 0, 1) := dk_42 (dk_at dksX2_seekStar_2 11 rfl rfl)
theorem dX2_seekStar_58 : decode cX2_seekStar 58 = .ok (.aload_n 0, 1) := dk_42 (dk_at dksX2_seekStar_2 12 rfl rfl)
theorem dX2_seekStar_59 : decode cX2_seekStar 59 = .ok (.getfield 70, 3) := dk_180 0 70 (dk_at dksX2_seekStar_2 13 rfl rfl)
theorem dX2_seekStar_62 : decode cX2_seekStar 62 = .ok (.aload_n 0, 1) := dk_42 (dk_at dksX2_seekStar_2 16 rfl rfl)
theorem dX2_seekStar_63 : decode cX2_seekStar 63 = .ok (.getfield 79, 3) := dk_180 0 79 (dk_at dksX2_seekStar_2 17 rfl rfl)
theorem dX2_seekStar_66 : decode cX2_seekStar 66 = .ok (.aload_n 0, 1) := dk_42 (dk_at dksX2_seekStar_2 20 rfl rfl)
theorem dX2_seekStar_67 : decode cX2_seekStar 67 = .ok (.getfield 94, 3) := dk_180 0 94 (dk_at dksX2_seekStar_2 21 rfl rfl)
theorem dX2_seekStar_70 : decode cX2_seekStar 70 = .ok (.iload 4, 2) := dk_21 4 (dk_at dksX2_seekStar_3 0 rfl rfl)
theorem dX2_seekStar_72 : decode cX2_seekStar 72 = .ok (.iaload, 1) := dk_46 (dk_at dksX2_seekStar_3 2 rfl rfl)
theorem dX2_seekStar_73 : decode cX2_seekStar 73 = .ok (.iaload, 1) := dk_46 (dk_at dksX2_seekStar_3 3 rfl rfl)
theorem dX2_seekStar_74 : decode cX2_seekStar 74 = .ok (.iaload, 1) := dk_46 (dk_at dksX2_seekStar_3 4 rfl rfl)
theorem dX2_seekStar_75 : decode cX2_seekStar 75 = .ok (.putfield 546, 3) := dk_181 2 34 (dk_at dksX2_seekStar_3 5 rfl rfl)
theorem dX2_seekStar_78 : decode cX2_seekStar 78 = .ok (.iconst 1, 1) := dk_4 (dk_at dksX2_seekStar_3 8 rfl rfl)
theorem dX2_seekStar_79 : decode cX2_seekStar 79 = .ok (.ireturn, 1) := dk_172 (dk_at dksX2_seekStar_3 9 rfl rfl)
theorem dX2_seekStar_80 : decode cX2_seekStar 80 = .ok (.iinc 4 1, 3) := dk_132 4 1 (dk_at dksX2_seekStar_3 10 rfl rfl)
theorem dX2_seekStar_83 : decode cX2_seekStar 83 = .ok (.goto (-68), 3) := dk_167 255 188 (dk_at dksX2_seekStar_3 13 rfl rfl)
theorem dX2_seekStar_86 : decode cX2_seekStar 86 = .ok (.iconst 0, 1) := dk_3 (dk_at dksX2_seekStar_3 16 rfl rfl)
theorem dX2_seekStar_87 : decode cX2_seekStar 87 = .ok (.ireturn, 1) := dk_172 (dk_at dksX2_seekStar_3 17 rfl rfl)
abbrev cX2_liar : ByteArray := prog_28_method_86_code
def yX2_liar : MethodName := ⟨RX2, "liar", "(III)I"⟩
def dkwX2_liar_3 : List UInt8 := [167, 0, 4, 3, 172]
abbrev dktX2_liar_3 : List UInt8 := dkwX2_liar_3 ++ []
def dkwX2_liar_2 : List UInt8 := [157, 0, 15, 22, 4, 22, 8, 148, 157, 0, 7, 5, 167, 0, 16, 22, 6, 22, 8, 148, 157, 0, 7, 4]
abbrev dktX2_liar_2 : List UInt8 := dkwX2_liar_2 ++ dktX2_liar_3
def dkwX2_liar_1 : List UInt8 := [29, 133, 101, 184, 2, 40, 55, 6, 28, 133, 29, 133, 101, 184, 2, 40, 55, 8, 22, 4, 22, 6, 148]
abbrev dktX2_liar_1 : List UInt8 := dkwX2_liar_1 ++ dktX2_liar_2
def dkwX2_liar_0 : List UInt8 := [27, 28, 160, 0, 10, 28, 29, 160, 0, 5, 2, 172, 27, 133, 28, 133, 101, 184, 2, 40, 55, 4, 27, 133]
abbrev dktX2_liar_0 : List UInt8 := dkwX2_liar_0 ++ dktX2_liar_1
theorem dksX2_liar_0 : cX2_liar.data.toList.drop 0 = dktX2_liar_0 := by decide +kernel
theorem dksX2_liar_1 : cX2_liar.data.toList.drop 24 = dktX2_liar_1 := dk_seg dksX2_liar_0 24 rfl rfl
theorem dksX2_liar_2 : cX2_liar.data.toList.drop 47 = dktX2_liar_2 := dk_seg dksX2_liar_1 23 rfl rfl
theorem dksX2_liar_3 : cX2_liar.data.toList.drop 71 = dktX2_liar_3 := dk_seg dksX2_liar_2 24 rfl rfl
theorem dX2_liar_0 : decode cX2_liar 0 = .ok (.iload_n 1, 1) := dk_27 (dk_at dksX2_liar_0 0 rfl rfl)
theorem dX2_liar_1 : decode cX2_liar 1 = .ok (.iload_n 2, 1) := dk_28 (dk_at dksX2_liar_0 1 rfl rfl)
theorem dX2_liar_2 : decode cX2_liar 2 = .ok (.if_icmp .ne 10, 3) := dk_160 0 10 (dk_at dksX2_liar_0 2 rfl rfl)
theorem dX2_liar_5 : decode cX2_liar 5 = .ok (.iload_n 2, 1) := dk_28 (dk_at dksX2_liar_0 5 rfl rfl)
theorem dX2_liar_6 : decode cX2_liar 6 = .ok (.iload_n 3, 1) := dk_29 (dk_at dksX2_liar_0 6 rfl rfl)
theorem dX2_liar_7 : decode cX2_liar 7 = .ok (.if_icmp .ne 5, 3) := dk_160 0 5 (dk_at dksX2_liar_0 7 rfl rfl)
theorem dX2_liar_10 : decode cX2_liar 10 = .ok (.iconst (-1), 1) := dk_2 (dk_at dksX2_liar_0 10 rfl rfl)
theorem dX2_liar_11 : decode cX2_liar 11 = .ok (.ireturn, 1) := dk_172 (dk_at dksX2_liar_0 11 rfl rfl)
theorem dX2_liar_12 : decode cX2_liar 12 = .ok (.iload_n 1, 1) := dk_27 (dk_at dksX2_liar_0 12 rfl rfl)
theorem dX2_liar_13 : decode cX2_liar 13 = .ok (.i2l, 1) := dk_133 (dk_at dksX2_liar_0 13 rfl rfl)
theorem dX2_liar_14 : decode cX2_liar 14 = .ok (.iload_n 2, 1) := dk_28 (dk_at dksX2_liar_0 14 rfl rfl)
theorem dX2_liar_15 : decode cX2_liar 15 = .ok (.i2l, 1) := dk_133 (dk_at dksX2_liar_0 15 rfl rfl)
theorem dX2_liar_16 : decode cX2_liar 16 = .ok (.lsub, 1) := dk_101 (dk_at dksX2_liar_0 16 rfl rfl)
theorem dX2_liar_17 : decode cX2_liar 17 = .ok (.invokestatic 552, 3) := dk_184 2 40 (dk_at dksX2_liar_0 17 rfl rfl)
theorem dX2_liar_20 : decode cX2_liar 20 = .ok (.lstore 4, 2) := dk_55 4 (dk_at dksX2_liar_0 20 rfl rfl)
theorem dX2_liar_22 : decode cX2_liar 22 = .ok (.iload_n 1, 1) := dk_27 (dk_at dksX2_liar_0 22 rfl rfl)
theorem dX2_liar_23 : decode cX2_liar 23 = .ok (.i2l, 1) := dk_133 (dk_at dksX2_liar_0 23 rfl rfl)
theorem dX2_liar_24 : decode cX2_liar 24 = .ok (.iload_n 3, 1) := dk_29 (dk_at dksX2_liar_1 0 rfl rfl)
theorem dX2_liar_25 : decode cX2_liar 25 = .ok (.i2l, 1) := dk_133 (dk_at dksX2_liar_1 1 rfl rfl)
theorem dX2_liar_26 : decode cX2_liar 26 = .ok (.lsub, 1) := dk_101 (dk_at dksX2_liar_1 2 rfl rfl)
theorem dX2_liar_27 : decode cX2_liar 27 = .ok (.invokestatic 552, 3) := dk_184 2 40 (dk_at dksX2_liar_1 3 rfl rfl)
theorem dX2_liar_30 : decode cX2_liar 30 = .ok (.lstore 6, 2) := dk_55 6 (dk_at dksX2_liar_1 6 rfl rfl)
theorem dX2_liar_32 : decode cX2_liar 32 = .ok (.iload_n 2, 1) := dk_28 (dk_at dksX2_liar_1 8 rfl rfl)
theorem dX2_liar_33 : decode cX2_liar 33 = .ok (.i2l, 1) := dk_133 (dk_at dksX2_liar_1 9 rfl rfl)
theorem dX2_liar_34 : decode cX2_liar 34 = .ok (.iload_n 3, 1) := dk_29 (dk_at dksX2_liar_1 10 rfl rfl)
theorem dX2_liar_35 : decode cX2_liar 35 = .ok (.i2l, 1) := dk_133 (dk_at dksX2_liar_1 11 rfl rfl)
theorem dX2_liar_36 : decode cX2_liar 36 = .ok (.lsub, 1) := dk_101 (dk_at dksX2_liar_1 12 rfl rfl)
theorem dX2_liar_37 : decode cX2_liar 37 = .ok (.invokestatic 552, 3) := dk_184 2 40 (dk_at dksX2_liar_1 13 rfl rfl)
theorem dX2_liar_40 : decode cX2_liar 40 = .ok (.lstore 8, 2) := dk_55 8 (dk_at dksX2_liar_1 16 rfl rfl)
theorem dX2_liar_42 : decode cX2_liar 42 = .ok (.lload 4, 2) := dk_22 4 (dk_at dksX2_liar_1 18 rfl rfl)
theorem dX2_liar_44 : decode cX2_liar 44 = .ok (.lload 6, 2) := dk_22 6 (dk_at dksX2_liar_1 20 rfl rfl)
theorem dX2_liar_46 : decode cX2_liar 46 = .ok (.lcmp, 1) := dk_148 (dk_at dksX2_liar_1 22 rfl rfl)
theorem dX2_liar_47 : decode cX2_liar 47 = .ok (.ifCond .gt 15, 3) := dk_157 0 15 (dk_at dksX2_liar_2 0 rfl rfl)
theorem dX2_liar_50 : decode cX2_liar 50 = .ok (.lload 4, 2) := dk_22 4 (dk_at dksX2_liar_2 3 rfl rfl)
theorem dX2_liar_52 : decode cX2_liar 52 = .ok (.lload 8, 2) := dk_22 8 (dk_at dksX2_liar_2 5 rfl rfl)
theorem dX2_liar_54 : decode cX2_liar 54 = .ok (.lcmp, 1) := dk_148 (dk_at dksX2_liar_2 7 rfl rfl)
theorem dX2_liar_55 : decode cX2_liar 55 = .ok (.ifCond .gt 7, 3) := dk_157 0 7 (dk_at dksX2_liar_2 8 rfl rfl)
theorem dX2_liar_58 : decode cX2_liar 58 = .ok (.iconst 2, 1) := dk_5 (dk_at dksX2_liar_2 11 rfl rfl)
theorem dX2_liar_59 : decode cX2_liar 59 = .ok (.goto 16, 3) := dk_167 0 16 (dk_at dksX2_liar_2 12 rfl rfl)
theorem dX2_liar_62 : decode cX2_liar 62 = .ok (.lload 6, 2) := dk_22 6 (dk_at dksX2_liar_2 15 rfl rfl)
theorem dX2_liar_64 : decode cX2_liar 64 = .ok (.lload 8, 2) := dk_22 8 (dk_at dksX2_liar_2 17 rfl rfl)
theorem dX2_liar_66 : decode cX2_liar 66 = .ok (.lcmp, 1) := dk_148 (dk_at dksX2_liar_2 19 rfl rfl)
theorem dX2_liar_67 : decode cX2_liar 67 = .ok (.ifCond .gt 7, 3) := dk_157 0 7 (dk_at dksX2_liar_2 20 rfl rfl)
theorem dX2_liar_70 : decode cX2_liar 70 = .ok (.iconst 1, 1) := dk_4 (dk_at dksX2_liar_2 23 rfl rfl)
theorem dX2_liar_71 : decode cX2_liar 71 = .ok (.goto 4, 3) := dk_167 0 4 (dk_at dksX2_liar_3 0 rfl rfl)
theorem dX2_liar_74 : decode cX2_liar 74 = .ok (.iconst 0, 1) := dk_3 (dk_at dksX2_liar_3 3 rfl rfl)
theorem dX2_liar_75 : decode cX2_liar 75 = .ok (.ireturn, 1) := dk_172 (dk_at dksX2_liar_3 4 rfl rfl)
abbrev cX2_sized : ByteArray := prog_28_method_51_code
def yX2_sized : MethodName := ⟨RX2, "sized", "(J)J"⟩
def dkwX2_sized_0 : List UInt8 := [30, 9, 148, 156, 0, 8, 30, 117, 167, 0, 4, 30, 173]
abbrev dktX2_sized_0 : List UInt8 := dkwX2_sized_0 ++ []
theorem dksX2_sized_0 : cX2_sized.data.toList.drop 0 = dktX2_sized_0 := by decide +kernel
theorem dX2_sized_0 : decode cX2_sized 0 = .ok (.lload_n 0, 1) := dk_30 (dk_at dksX2_sized_0 0 rfl rfl)
theorem dX2_sized_1 : decode cX2_sized 1 = .ok (.lconst 0, 1) := dk_9 (dk_at dksX2_sized_0 1 rfl rfl)
theorem dX2_sized_2 : decode cX2_sized 2 = .ok (.lcmp, 1) := dk_148 (dk_at dksX2_sized_0 2 rfl rfl)
theorem dX2_sized_3 : decode cX2_sized 3 = .ok (.ifCond .ge 8, 3) := dk_156 0 8 (dk_at dksX2_sized_0 3 rfl rfl)
theorem dX2_sized_6 : decode cX2_sized 6 = .ok (.lload_n 0, 1) := dk_30 (dk_at dksX2_sized_0 6 rfl rfl)
theorem dX2_sized_7 : decode cX2_sized 7 = .ok (.lneg, 1) := dk_117 (dk_at dksX2_sized_0 7 rfl rfl)
theorem dX2_sized_8 : decode cX2_sized 8 = .ok (.goto 4, 3) := dk_167 0 4 (dk_at dksX2_sized_0 8 rfl rfl)
theorem dX2_sized_11 : decode cX2_sized 11 = .ok (.lload_n 0, 1) := dk_30 (dk_at dksX2_sized_0 11 rfl rfl)
theorem dX2_sized_12 : decode cX2_sized 12 = .ok (.lreturn, 1) := dk_173 (dk_at dksX2_sized_0 12 rfl rfl)
abbrev cX2_looks : ByteArray := prog_28_method_89_code
def yX2_looks : MethodName := ⟨RX2, "looks", "(I)I"⟩
def dkwX2_looks_5 : List UInt8 := [167, 255, 161, 27, 154, 0, 7, 28, 167, 0, 14, 27, 4, 160, 0, 7, 29, 167, 0, 5, 21, 4, 172]
abbrev dktX2_looks_5 : List UInt8 := dkwX2_looks_5 ++ []
def dkwX2_looks_4 : List UInt8 := [180, 0, 20, 16, 6, 46, 96, 54, 6, 167, 255, 187, 21, 5, 42, 180, 0, 20, 16, 6, 46, 96, 54, 5]
abbrev dktX2_looks_4 : List UInt8 := dkwX2_looks_4 ++ dktX2_looks_5
def dkwX2_looks_3 : List UInt8 := [156, 0, 15, 17, 3, 232, 21, 5, 104, 21, 6, 96, 167, 0, 5, 21, 4, 54, 4, 21, 6, 42]
abbrev dktX2_looks_3 : List UInt8 := dkwX2_looks_3 ++ dktX2_looks_4
def dkwX2_looks_2 : List UInt8 := [21, 6, 2, 182, 2, 46, 42, 180, 0, 20, 16, 7, 46, 161, 0, 6, 167, 0, 27, 132, 3, 1, 21, 4]
abbrev dktX2_looks_2 : List UInt8 := dkwX2_looks_2 ++ dktX2_looks_3
def dkwX2_looks_1 : List UInt8 := [17, 3, 231, 163, 0, 93, 3, 54, 6, 21, 6, 17, 3, 231, 163, 0, 67, 132, 2, 1, 42, 21, 5]
abbrev dktX2_looks_1 : List UInt8 := dkwX2_looks_1 ++ dktX2_looks_2
def dkwX2_looks_0 : List UInt8 := [27, 155, 0, 8, 27, 5, 164, 0, 5, 2, 172, 3, 61, 3, 62, 2, 54, 4, 3, 54, 5, 21, 5]
abbrev dktX2_looks_0 : List UInt8 := dkwX2_looks_0 ++ dktX2_looks_1
theorem dksX2_looks_0 : cX2_looks.data.toList.drop 0 = dktX2_looks_0 := by decide +kernel
theorem dksX2_looks_1 : cX2_looks.data.toList.drop 23 = dktX2_looks_1 := dk_seg dksX2_looks_0 23 rfl rfl
theorem dksX2_looks_2 : cX2_looks.data.toList.drop 46 = dktX2_looks_2 := dk_seg dksX2_looks_1 23 rfl rfl
theorem dksX2_looks_3 : cX2_looks.data.toList.drop 70 = dktX2_looks_3 := dk_seg dksX2_looks_2 24 rfl rfl
theorem dksX2_looks_4 : cX2_looks.data.toList.drop 92 = dktX2_looks_4 := dk_seg dksX2_looks_3 22 rfl rfl
theorem dksX2_looks_5 : cX2_looks.data.toList.drop 116 = dktX2_looks_5 := dk_seg dksX2_looks_4 24 rfl rfl
theorem dX2_looks_0 : decode cX2_looks 0 = .ok (.iload_n 1, 1) := dk_27 (dk_at dksX2_looks_0 0 rfl rfl)
theorem dX2_looks_1 : decode cX2_looks 1 = .ok (.ifCond .lt 8, 3) := dk_155 0 8 (dk_at dksX2_looks_0 1 rfl rfl)
theorem dX2_looks_4 : decode cX2_looks 4 = .ok (.iload_n 1, 1) := dk_27 (dk_at dksX2_looks_0 4 rfl rfl)
theorem dX2_looks_5 : decode cX2_looks 5 = .ok (.iconst 2, 1) := dk_5 (dk_at dksX2_looks_0 5 rfl rfl)
theorem dX2_looks_6 : decode cX2_looks 6 = .ok (.if_icmp .le 5, 3) := dk_164 0 5 (dk_at dksX2_looks_0 6 rfl rfl)
theorem dX2_looks_9 : decode cX2_looks 9 = .ok (.iconst (-1), 1) := dk_2 (dk_at dksX2_looks_0 9 rfl rfl)
theorem dX2_looks_10 : decode cX2_looks 10 = .ok (.ireturn, 1) := dk_172 (dk_at dksX2_looks_0 10 rfl rfl)
theorem dX2_looks_11 : decode cX2_looks 11 = .ok (.iconst 0, 1) := dk_3 (dk_at dksX2_looks_0 11 rfl rfl)
theorem dX2_looks_12 : decode cX2_looks 12 = .ok (.istore_n 2, 1) := dk_61 (dk_at dksX2_looks_0 12 rfl rfl)
theorem dX2_looks_13 : decode cX2_looks 13 = .ok (.iconst 0, 1) := dk_3 (dk_at dksX2_looks_0 13 rfl rfl)
theorem dX2_looks_14 : decode cX2_looks 14 = .ok (.istore_n 3, 1) := dk_62 (dk_at dksX2_looks_0 14 rfl rfl)
theorem dX2_looks_15 : decode cX2_looks 15 = .ok (.iconst (-1), 1) := dk_2 (dk_at dksX2_looks_0 15 rfl rfl)
theorem dX2_looks_16 : decode cX2_looks 16 = .ok (.istore 4, 2) := dk_54 4 (dk_at dksX2_looks_0 16 rfl rfl)
theorem dX2_looks_18 : decode cX2_looks 18 = .ok (.iconst 0, 1) := dk_3 (dk_at dksX2_looks_0 18 rfl rfl)
theorem dX2_looks_19 : decode cX2_looks 19 = .ok (.istore 5, 2) := dk_54 5 (dk_at dksX2_looks_0 19 rfl rfl)
theorem dX2_looks_21 : decode cX2_looks 21 = .ok (.iload 5, 2) := dk_21 5 (dk_at dksX2_looks_0 21 rfl rfl)
theorem dX2_looks_23 : decode cX2_looks 23 = .ok (.sipush 999, 3) := dk_17 3 231 (dk_at dksX2_looks_1 0 rfl rfl)
theorem dX2_looks_26 : decode cX2_looks 26 = .ok (.if_icmp .gt 93, 3) := dk_163 0 93 (dk_at dksX2_looks_1 3 rfl rfl)
theorem dX2_looks_29 : decode cX2_looks 29 = .ok (.iconst 0, 1) := dk_3 (dk_at dksX2_looks_1 6 rfl rfl)
theorem dX2_looks_30 : decode cX2_looks 30 = .ok (.istore 6, 2) := dk_54 6 (dk_at dksX2_looks_1 7 rfl rfl)
theorem dX2_looks_32 : decode cX2_looks 32 = .ok (.iload 6, 2) := dk_21 6 (dk_at dksX2_looks_1 9 rfl rfl)
theorem dX2_looks_34 : decode cX2_looks 34 = .ok (.sipush 999, 3) := dk_17 3 231 (dk_at dksX2_looks_1 11 rfl rfl)
theorem dX2_looks_37 : decode cX2_looks 37 = .ok (.if_icmp .gt 67, 3) := dk_163 0 67 (dk_at dksX2_looks_1 14 rfl rfl)
theorem dX2_looks_40 : decode cX2_looks 40 = .ok (.iinc 2 1, 3) := dk_132 2 1 (dk_at dksX2_looks_1 17 rfl rfl)
theorem dX2_looks_43 : decode cX2_looks 43 = .ok (.aload_n 0, 1) := dk_42 (dk_at dksX2_looks_1 20 rfl rfl)
theorem dX2_looks_44 : decode cX2_looks 44 = .ok (.iload 5, 2) := dk_21 5 (dk_at dksX2_looks_1 21 rfl rfl)
theorem dX2_looks_46 : decode cX2_looks 46 = .ok (.iload 6, 2) := dk_21 6 (dk_at dksX2_looks_2 0 rfl rfl)
theorem dX2_looks_48 : decode cX2_looks 48 = .ok (.iconst (-1), 1) := dk_2 (dk_at dksX2_looks_2 2 rfl rfl)
theorem dX2_looks_49 : decode cX2_looks 49 = .ok (.invokevirtual 558, 3) := dk_182 2 46 (dk_at dksX2_looks_2 3 rfl rfl)
theorem dX2_looks_52 : decode cX2_looks 52 = .ok (.aload_n 0, 1) := dk_42 (dk_at dksX2_looks_2 6 rfl rfl)
theorem dX2_looks_53 : decode cX2_looks 53 = .ok (.getfield 20, 3) := dk_180 0 20 (dk_at dksX2_looks_2 7 rfl rfl)
theorem dX2_looks_56 : decode cX2_looks 56 = .ok (.bipush 7, 2) := dk_16 7 (dk_at dksX2_looks_2 10 rfl rfl)
theorem dX2_looks_58 : decode cX2_looks 58 = .ok (.iaload, 1) := dk_46 (dk_at dksX2_looks_2 12 rfl rfl)
theorem dX2_looks_59 : decode cX2_looks 59 = .ok (.if_icmp .lt 6, 3) := dk_161 0 6 (dk_at dksX2_looks_2 13 rfl rfl)
theorem dX2_looks_62 : decode cX2_looks 62 = .ok (.goto 27, 3) := dk_167 0 27 (dk_at dksX2_looks_2 16 rfl rfl)
theorem dX2_looks_65 : decode cX2_looks 65 = .ok (.iinc 3 1, 3) := dk_132 3 1 (dk_at dksX2_looks_2 19 rfl rfl)
theorem dX2_looks_68 : decode cX2_looks 68 = .ok (.iload 4, 2) := dk_21 4 (dk_at dksX2_looks_2 22 rfl rfl)
theorem dX2_looks_70 : decode cX2_looks 70 = .ok (.ifCond .ge 15, 3) := dk_156 0 15 (dk_at dksX2_looks_3 0 rfl rfl)
theorem dX2_looks_73 : decode cX2_looks 73 = .ok (.sipush 1000, 3) := dk_17 3 232 (dk_at dksX2_looks_3 3 rfl rfl)
theorem dX2_looks_76 : decode cX2_looks 76 = .ok (.iload 5, 2) := dk_21 5 (dk_at dksX2_looks_3 6 rfl rfl)
theorem dX2_looks_78 : decode cX2_looks 78 = .ok (.imul, 1) := dk_104 (dk_at dksX2_looks_3 8 rfl rfl)
theorem dX2_looks_79 : decode cX2_looks 79 = .ok (.iload 6, 2) := dk_21 6 (dk_at dksX2_looks_3 9 rfl rfl)
theorem dX2_looks_81 : decode cX2_looks 81 = .ok (.iadd, 1) := dk_96 (dk_at dksX2_looks_3 11 rfl rfl)
theorem dX2_looks_82 : decode cX2_looks 82 = .ok (.goto 5, 3) := dk_167 0 5 (dk_at dksX2_looks_3 12 rfl rfl)
theorem dX2_looks_85 : decode cX2_looks 85 = .ok (.iload 4, 2) := dk_21 4 (dk_at dksX2_looks_3 15 rfl rfl)
theorem dX2_looks_87 : decode cX2_looks 87 = .ok (.istore 4, 2) := dk_54 4 (dk_at dksX2_looks_3 17 rfl rfl)
theorem dX2_looks_89 : decode cX2_looks 89 = .ok (.iload 6, 2) := dk_21 6 (dk_at dksX2_looks_3 19 rfl rfl)
theorem dX2_looks_91 : decode cX2_looks 91 = .ok (.aload_n 0, 1) := dk_42 (dk_at dksX2_looks_3 21 rfl rfl)
theorem dX2_looks_92 : decode cX2_looks 92 = .ok (.getfield 20, 3) := dk_180 0 20 (dk_at dksX2_looks_4 0 rfl rfl)
theorem dX2_looks_95 : decode cX2_looks 95 = .ok (.bipush 6, 2) := dk_16 6 (dk_at dksX2_looks_4 3 rfl rfl)
theorem dX2_looks_97 : decode cX2_looks 97 = .ok (.iaload, 1) := dk_46 (dk_at dksX2_looks_4 5 rfl rfl)
theorem dX2_looks_98 : decode cX2_looks 98 = .ok (.iadd, 1) := dk_96 (dk_at dksX2_looks_4 6 rfl rfl)
theorem dX2_looks_99 : decode cX2_looks 99 = .ok (.istore 6, 2) := dk_54 6 (dk_at dksX2_looks_4 7 rfl rfl)
theorem dX2_looks_101 : decode cX2_looks 101 = .ok (.goto (-69), 3) := dk_167 255 187 (dk_at dksX2_looks_4 9 rfl rfl)
theorem dX2_looks_104 : decode cX2_looks 104 = .ok (.iload 5, 2) := dk_21 5 (dk_at dksX2_looks_4 12 rfl rfl)
theorem dX2_looks_106 : decode cX2_looks 106 = .ok (.aload_n 0, 1) := dk_42 (dk_at dksX2_looks_4 14 rfl rfl)
theorem dX2_looks_107 : decode cX2_looks 107 = .ok (.getfield 20, 3) := dk_180 0 20 (dk_at dksX2_looks_4 15 rfl rfl)
theorem dX2_looks_110 : decode cX2_looks 110 = .ok (.bipush 6, 2) := dk_16 6 (dk_at dksX2_looks_4 18 rfl rfl)
theorem dX2_looks_112 : decode cX2_looks 112 = .ok (.iaload, 1) := dk_46 (dk_at dksX2_looks_4 20 rfl rfl)
theorem dX2_looks_113 : decode cX2_looks 113 = .ok (.iadd, 1) := dk_96 (dk_at dksX2_looks_4 21 rfl rfl)
theorem dX2_looks_114 : decode cX2_looks 114 = .ok (.istore 5, 2) := dk_54 5 (dk_at dksX2_looks_4 22 rfl rfl)
theorem dX2_looks_116 : decode cX2_looks 116 = .ok (.goto (-95), 3) := dk_167 255 161 (dk_at dksX2_looks_5 0 rfl rfl)
theorem dX2_looks_119 : decode cX2_looks 119 = .ok (.iload_n 1, 1) := dk_27 (dk_at dksX2_looks_5 3 rfl rfl)
theorem dX2_looks_120 : decode cX2_looks 120 = .ok (.ifCond .ne 7, 3) := dk_154 0 7 (dk_at dksX2_looks_5 4 rfl rfl)
theorem dX2_looks_123 : decode cX2_looks 123 = .ok (.iload_n 2, 1) := dk_28 (dk_at dksX2_looks_5 7 rfl rfl)
theorem dX2_looks_124 : decode cX2_looks 124 = .ok (.goto 14, 3) := dk_167 0 14 (dk_at dksX2_looks_5 8 rfl rfl)
theorem dX2_looks_127 : decode cX2_looks 127 = .ok (.iload_n 1, 1) := dk_27 (dk_at dksX2_looks_5 11 rfl rfl)
theorem dX2_looks_128 : decode cX2_looks 128 = .ok (.iconst 1, 1) := dk_4 (dk_at dksX2_looks_5 12 rfl rfl)
theorem dX2_looks_129 : decode cX2_looks 129 = .ok (.if_icmp .ne 7, 3) := dk_160 0 7 (dk_at dksX2_looks_5 13 rfl rfl)
theorem dX2_looks_132 : decode cX2_looks 132 = .ok (.iload_n 3, 1) := dk_29 (dk_at dksX2_looks_5 16 rfl rfl)
theorem dX2_looks_133 : decode cX2_looks 133 = .ok (.goto 5, 3) := dk_167 0 5 (dk_at dksX2_looks_5 17 rfl rfl)
theorem dX2_looks_136 : decode cX2_looks 136 = .ok (.iload 4, 2) := dk_21 4 (dk_at dksX2_looks_5 20 rfl rfl)
theorem dX2_looks_138 : decode cX2_looks 138 = .ok (.ireturn, 1) := dk_172 (dk_at dksX2_looks_5 22 rfl rfl)
abbrev cX2_seenFrom : ByteArray := prog_28_method_88_code
def yX2_seenFrom : MethodName := ⟨RX2, "seenFrom", "(III)I"⟩
def dkwX2_seenFrom_2 : List UInt8 := [132, 5, 1, 167, 255, 213, 21, 4, 172]
abbrev dktX2_seenFrom_2 : List UInt8 := dkwX2_seenFrom_2 ++ []
def dkwX2_seenFrom_1 : List UInt8 := [160, 0, 18, 42, 27, 28, 21, 5, 182, 2, 43, 153, 0, 7, 4, 167, 0, 4, 3, 96, 54, 4]
abbrev dktX2_seenFrom_1 : List UInt8 := dkwX2_seenFrom_1 ++ dktX2_seenFrom_2
def dkwX2_seenFrom_0 : List UInt8 := [3, 54, 4, 3, 54, 5, 21, 5, 42, 180, 1, 74, 162, 0, 40, 21, 4, 29, 21, 5, 122, 4, 126, 4]
abbrev dktX2_seenFrom_0 : List UInt8 := dkwX2_seenFrom_0 ++ dktX2_seenFrom_1
theorem dksX2_seenFrom_0 : cX2_seenFrom.data.toList.drop 0 = dktX2_seenFrom_0 := by decide +kernel
theorem dksX2_seenFrom_1 : cX2_seenFrom.data.toList.drop 24 = dktX2_seenFrom_1 := dk_seg dksX2_seenFrom_0 24 rfl rfl
theorem dksX2_seenFrom_2 : cX2_seenFrom.data.toList.drop 46 = dktX2_seenFrom_2 := dk_seg dksX2_seenFrom_1 22 rfl rfl
theorem dX2_seenFrom_0 : decode cX2_seenFrom 0 = .ok (.iconst 0, 1) := dk_3 (dk_at dksX2_seenFrom_0 0 rfl rfl)
theorem dX2_seenFrom_1 : decode cX2_seenFrom 1 = .ok (.istore 4, 2) := dk_54 4 (dk_at dksX2_seenFrom_0 1 rfl rfl)
theorem dX2_seenFrom_3 : decode cX2_seenFrom 3 = .ok (.iconst 0, 1) := dk_3 (dk_at dksX2_seenFrom_0 3 rfl rfl)
theorem dX2_seenFrom_4 : decode cX2_seenFrom 4 = .ok (.istore 5, 2) := dk_54 5 (dk_at dksX2_seenFrom_0 4 rfl rfl)
theorem dX2_seenFrom_6 : decode cX2_seenFrom 6 = .ok (.iload 5, 2) := dk_21 5 (dk_at dksX2_seenFrom_0 6 rfl rfl)
theorem dX2_seenFrom_8 : decode cX2_seenFrom 8 = .ok (.aload_n 0, 1) := dk_42 (dk_at dksX2_seenFrom_0 8 rfl rfl)
theorem dX2_seenFrom_9 : decode cX2_seenFrom 9 = .ok (.getfield 330, 3) := dk_180 1 74 (dk_at dksX2_seenFrom_0 9 rfl rfl)
theorem dX2_seenFrom_12 : decode cX2_seenFrom 12 = .ok (.if_icmp .ge 40, 3) := dk_162 0 40 (dk_at dksX2_seenFrom_0 12 rfl rfl)
theorem dX2_seenFrom_15 : decode cX2_seenFrom 15 = .ok (.iload 4, 2) := dk_21 4 (dk_at dksX2_seenFrom_0 15 rfl rfl)
theorem dX2_seenFrom_17 : decode cX2_seenFrom 17 = .ok (.iload_n 3, 1) := dk_29 (dk_at dksX2_seenFrom_0 17 rfl rfl)
theorem dX2_seenFrom_18 : decode cX2_seenFrom 18 = .ok (.iload 5, 2) := dk_21 5 (dk_at dksX2_seenFrom_0 18 rfl rfl)
theorem dX2_seenFrom_20 : decode cX2_seenFrom 20 = .ok (.ishr, 1) := dk_122 (dk_at dksX2_seenFrom_0 20 rfl rfl)
theorem dX2_seenFrom_21 : decode cX2_seenFrom 21 = .ok (.iconst 1, 1) := dk_4 (dk_at dksX2_seenFrom_0 21 rfl rfl)
theorem dX2_seenFrom_22 : decode cX2_seenFrom 22 = .ok (.iand, 1) := dk_126 (dk_at dksX2_seenFrom_0 22 rfl rfl)
theorem dX2_seenFrom_23 : decode cX2_seenFrom 23 = .ok (.iconst 1, 1) := dk_4 (dk_at dksX2_seenFrom_0 23 rfl rfl)
theorem dX2_seenFrom_24 : decode cX2_seenFrom 24 = .ok (.if_icmp .ne 18, 3) := dk_160 0 18 (dk_at dksX2_seenFrom_1 0 rfl rfl)
theorem dX2_seenFrom_27 : decode cX2_seenFrom 27 = .ok (.aload_n 0, 1) := dk_42 (dk_at dksX2_seenFrom_1 3 rfl rfl)
theorem dX2_seenFrom_28 : decode cX2_seenFrom 28 = .ok (.iload_n 1, 1) := dk_27 (dk_at dksX2_seenFrom_1 4 rfl rfl)
theorem dX2_seenFrom_29 : decode cX2_seenFrom 29 = .ok (.iload_n 2, 1) := dk_28 (dk_at dksX2_seenFrom_1 5 rfl rfl)
theorem dX2_seenFrom_30 : decode cX2_seenFrom 30 = .ok (.iload 5, 2) := dk_21 5 (dk_at dksX2_seenFrom_1 6 rfl rfl)
theorem dX2_seenFrom_32 : decode cX2_seenFrom 32 = .ok (.invokevirtual 555, 3) := dk_182 2 43 (dk_at dksX2_seenFrom_1 8 rfl rfl)
theorem dX2_seenFrom_35 : decode cX2_seenFrom 35 = .ok (.ifCond .eq 7, 3) := dk_153 0 7 (dk_at dksX2_seenFrom_1 11 rfl rfl)
theorem dX2_seenFrom_38 : decode cX2_seenFrom 38 = .ok (.iconst 1, 1) := dk_4 (dk_at dksX2_seenFrom_1 14 rfl rfl)
theorem dX2_seenFrom_39 : decode cX2_seenFrom 39 = .ok (.goto 4, 3) := dk_167 0 4 (dk_at dksX2_seenFrom_1 15 rfl rfl)
theorem dX2_seenFrom_42 : decode cX2_seenFrom 42 = .ok (.iconst 0, 1) := dk_3 (dk_at dksX2_seenFrom_1 18 rfl rfl)
theorem dX2_seenFrom_43 : decode cX2_seenFrom 43 = .ok (.iadd, 1) := dk_96 (dk_at dksX2_seenFrom_1 19 rfl rfl)
theorem dX2_seenFrom_44 : decode cX2_seenFrom 44 = .ok (.istore 4, 2) := dk_54 4 (dk_at dksX2_seenFrom_1 20 rfl rfl)
theorem dX2_seenFrom_46 : decode cX2_seenFrom 46 = .ok (.iinc 5 1, 3) := dk_132 5 1 (dk_at dksX2_seenFrom_2 0 rfl rfl)
theorem dX2_seenFrom_49 : decode cX2_seenFrom 49 = .ok (.goto (-43), 3) := dk_167 255 213 (dk_at dksX2_seenFrom_2 3 rfl rfl)
theorem dX2_seenFrom_52 : decode cX2_seenFrom 52 = .ok (.iload 4, 2) := dk_21 4 (dk_at dksX2_seenFrom_2 6 rfl rfl)
theorem dX2_seenFrom_54 : decode cX2_seenFrom 54 = .ok (.ireturn, 1) := dk_172 (dk_at dksX2_seenFrom_2 8 rfl rfl)
abbrev cX2_sees : ByteArray := prog_28_method_87_code
def yX2_sees : MethodName := ⟨RX2, "sees", "(III)Z"⟩
def dkwX2_sees_2 : List UInt8 := [163, 0, 7, 4, 167, 0, 4, 3, 172]
abbrev dktX2_sees_2 : List UInt8 := dkwX2_sees_2 ++ []
def dkwX2_sees_1 : List UInt8 := [100, 28, 42, 180, 0, 35, 29, 46, 100, 104, 96, 42, 180, 0, 20, 5, 46, 42, 180, 0, 20, 5, 46, 104]
abbrev dktX2_sees_1 : List UInt8 := dkwX2_sees_1 ++ dktX2_sees_2
def dkwX2_sees_0 : List UInt8 := [27, 42, 180, 0, 32, 29, 46, 100, 27, 42, 180, 0, 32, 29, 46, 100, 104, 28, 42, 180, 0, 35, 29, 46]
abbrev dktX2_sees_0 : List UInt8 := dkwX2_sees_0 ++ dktX2_sees_1
theorem dksX2_sees_0 : cX2_sees.data.toList.drop 0 = dktX2_sees_0 := by decide +kernel
theorem dksX2_sees_1 : cX2_sees.data.toList.drop 24 = dktX2_sees_1 := dk_seg dksX2_sees_0 24 rfl rfl
theorem dksX2_sees_2 : cX2_sees.data.toList.drop 48 = dktX2_sees_2 := dk_seg dksX2_sees_1 24 rfl rfl
theorem dX2_sees_0 : decode cX2_sees 0 = .ok (.iload_n 1, 1) := dk_27 (dk_at dksX2_sees_0 0 rfl rfl)
theorem dX2_sees_1 : decode cX2_sees 1 = .ok (.aload_n 0, 1) := dk_42 (dk_at dksX2_sees_0 1 rfl rfl)
theorem dX2_sees_2 : decode cX2_sees 2 = .ok (.getfield 32, 3) := dk_180 0 32 (dk_at dksX2_sees_0 2 rfl rfl)
theorem dX2_sees_5 : decode cX2_sees 5 = .ok (.iload_n 3, 1) := dk_29 (dk_at dksX2_sees_0 5 rfl rfl)
theorem dX2_sees_6 : decode cX2_sees 6 = .ok (.iaload, 1) := dk_46 (dk_at dksX2_sees_0 6 rfl rfl)
theorem dX2_sees_7 : decode cX2_sees 7 = .ok (.isub, 1) := dk_100 (dk_at dksX2_sees_0 7 rfl rfl)
theorem dX2_sees_8 : decode cX2_sees 8 = .ok (.iload_n 1, 1) := dk_27 (dk_at dksX2_sees_0 8 rfl rfl)
theorem dX2_sees_9 : decode cX2_sees 9 = .ok (.aload_n 0, 1) := dk_42 (dk_at dksX2_sees_0 9 rfl rfl)
theorem dX2_sees_10 : decode cX2_sees 10 = .ok (.getfield 32, 3) := dk_180 0 32 (dk_at dksX2_sees_0 10 rfl rfl)
theorem dX2_sees_13 : decode cX2_sees 13 = .ok (.iload_n 3, 1) := dk_29 (dk_at dksX2_sees_0 13 rfl rfl)
theorem dX2_sees_14 : decode cX2_sees 14 = .ok (.iaload, 1) := dk_46 (dk_at dksX2_sees_0 14 rfl rfl)
theorem dX2_sees_15 : decode cX2_sees 15 = .ok (.isub, 1) := dk_100 (dk_at dksX2_sees_0 15 rfl rfl)
theorem dX2_sees_16 : decode cX2_sees 16 = .ok (.imul, 1) := dk_104 (dk_at dksX2_sees_0 16 rfl rfl)
theorem dX2_sees_17 : decode cX2_sees 17 = .ok (.iload_n 2, 1) := dk_28 (dk_at dksX2_sees_0 17 rfl rfl)
theorem dX2_sees_18 : decode cX2_sees 18 = .ok (.aload_n 0, 1) := dk_42 (dk_at dksX2_sees_0 18 rfl rfl)
theorem dX2_sees_19 : decode cX2_sees 19 = .ok (.getfield 35, 3) := dk_180 0 35 (dk_at dksX2_sees_0 19 rfl rfl)
theorem dX2_sees_22 : decode cX2_sees 22 = .ok (.iload_n 3, 1) := dk_29 (dk_at dksX2_sees_0 22 rfl rfl)
theorem dX2_sees_23 : decode cX2_sees 23 = .ok (.iaload, 1) := dk_46 (dk_at dksX2_sees_0 23 rfl rfl)
theorem dX2_sees_24 : decode cX2_sees 24 = .ok (.isub, 1) := dk_100 (dk_at dksX2_sees_1 0 rfl rfl)
theorem dX2_sees_25 : decode cX2_sees 25 = .ok (.iload_n 2, 1) := dk_28 (dk_at dksX2_sees_1 1 rfl rfl)
theorem dX2_sees_26 : decode cX2_sees 26 = .ok (.aload_n 0, 1) := dk_42 (dk_at dksX2_sees_1 2 rfl rfl)
theorem dX2_sees_27 : decode cX2_sees 27 = .ok (.getfield 35, 3) := dk_180 0 35 (dk_at dksX2_sees_1 3 rfl rfl)
theorem dX2_sees_30 : decode cX2_sees 30 = .ok (.iload_n 3, 1) := dk_29 (dk_at dksX2_sees_1 6 rfl rfl)
theorem dX2_sees_31 : decode cX2_sees 31 = .ok (.iaload, 1) := dk_46 (dk_at dksX2_sees_1 7 rfl rfl)
theorem dX2_sees_32 : decode cX2_sees 32 = .ok (.isub, 1) := dk_100 (dk_at dksX2_sees_1 8 rfl rfl)
theorem dX2_sees_33 : decode cX2_sees 33 = .ok (.imul, 1) := dk_104 (dk_at dksX2_sees_1 9 rfl rfl)
theorem dX2_sees_34 : decode cX2_sees 34 = .ok (.iadd, 1) := dk_96 (dk_at dksX2_sees_1 10 rfl rfl)
theorem dX2_sees_35 : decode cX2_sees 35 = .ok (.aload_n 0, 1) := dk_42 (dk_at dksX2_sees_1 11 rfl rfl)
theorem dX2_sees_36 : decode cX2_sees 36 = .ok (.getfield 20, 3) := dk_180 0 20 (dk_at dksX2_sees_1 12 rfl rfl)
theorem dX2_sees_39 : decode cX2_sees 39 = .ok (.iconst 2, 1) := dk_5 (dk_at dksX2_sees_1 15 rfl rfl)
theorem dX2_sees_40 : decode cX2_sees 40 = .ok (.iaload, 1) := dk_46 (dk_at dksX2_sees_1 16 rfl rfl)
theorem dX2_sees_41 : decode cX2_sees 41 = .ok (.aload_n 0, 1) := dk_42 (dk_at dksX2_sees_1 17 rfl rfl)
theorem dX2_sees_42 : decode cX2_sees 42 = .ok (.getfield 20, 3) := dk_180 0 20 (dk_at dksX2_sees_1 18 rfl rfl)
theorem dX2_sees_45 : decode cX2_sees 45 = .ok (.iconst 2, 1) := dk_5 (dk_at dksX2_sees_1 21 rfl rfl)
theorem dX2_sees_46 : decode cX2_sees 46 = .ok (.iaload, 1) := dk_46 (dk_at dksX2_sees_1 22 rfl rfl)
theorem dX2_sees_47 : decode cX2_sees 47 = .ok (.imul, 1) := dk_104 (dk_at dksX2_sees_1 23 rfl rfl)
theorem dX2_sees_48 : decode cX2_sees 48 = .ok (.if_icmp .gt 7, 3) := dk_163 0 7 (dk_at dksX2_sees_2 0 rfl rfl)
theorem dX2_sees_51 : decode cX2_sees 51 = .ok (.iconst 1, 1) := dk_4 (dk_at dksX2_sees_2 3 rfl rfl)
theorem dX2_sees_52 : decode cX2_sees 52 = .ok (.goto 4, 3) := dk_167 0 4 (dk_at dksX2_sees_2 4 rfl rfl)
theorem dX2_sees_55 : decode cX2_sees 55 = .ok (.iconst 0, 1) := dk_3 (dk_at dksX2_sees_2 7 rfl rfl)
theorem dX2_sees_56 : decode cX2_sees 56 = .ok (.ireturn, 1) := dk_172 (dk_at dksX2_sees_2 8 rfl rfl)
abbrev cX2_chosen : ByteArray := prog_28_method_92_code
def yX2_chosen : MethodName := ⟨RX2, "chosen", "(I)I"⟩
def dkwX2_chosen_3 : List UInt8 := [154, 0, 10, 28, 184, 2, 50, 167, 0, 4, 28, 172]
abbrev dktX2_chosen_3 : List UInt8 := dkwX2_chosen_3 ++ []
def dkwX2_chosen_2 : List UInt8 := [28, 184, 2, 50, 162, 0, 13, 42, 29, 182, 2, 53, 153, 0, 5, 29, 61, 132, 3, 1, 167, 255, 222, 27]
abbrev dktX2_chosen_2 : List UInt8 := dkwX2_chosen_2 ++ dktX2_chosen_3
def dkwX2_chosen_1 : List UInt8 := [42, 180, 1, 74, 120, 4, 100, 61, 3, 62, 29, 4, 42, 180, 1, 74, 120, 162, 0, 30, 29, 184, 2, 50]
abbrev dktX2_chosen_1 : List UInt8 := dkwX2_chosen_1 ++ dktX2_chosen_2
def dkwX2_chosen_0 : List UInt8 := [27, 155, 0, 8, 27, 4, 164, 0, 5, 2, 172, 42, 180, 1, 74, 16, 16, 164, 0, 6, 16, 254, 172, 4]
abbrev dktX2_chosen_0 : List UInt8 := dkwX2_chosen_0 ++ dktX2_chosen_1
theorem dksX2_chosen_0 : cX2_chosen.data.toList.drop 0 = dktX2_chosen_0 := by decide +kernel
theorem dksX2_chosen_1 : cX2_chosen.data.toList.drop 24 = dktX2_chosen_1 := dk_seg dksX2_chosen_0 24 rfl rfl
theorem dksX2_chosen_2 : cX2_chosen.data.toList.drop 48 = dktX2_chosen_2 := dk_seg dksX2_chosen_1 24 rfl rfl
theorem dksX2_chosen_3 : cX2_chosen.data.toList.drop 72 = dktX2_chosen_3 := dk_seg dksX2_chosen_2 24 rfl rfl
theorem dX2_chosen_0 : decode cX2_chosen 0 = .ok (.iload_n 1, 1) := dk_27 (dk_at dksX2_chosen_0 0 rfl rfl)
theorem dX2_chosen_1 : decode cX2_chosen 1 = .ok (.ifCond .lt 8, 3) := dk_155 0 8 (dk_at dksX2_chosen_0 1 rfl rfl)
theorem dX2_chosen_4 : decode cX2_chosen 4 = .ok (.iload_n 1, 1) := dk_27 (dk_at dksX2_chosen_0 4 rfl rfl)
theorem dX2_chosen_5 : decode cX2_chosen 5 = .ok (.iconst 1, 1) := dk_4 (dk_at dksX2_chosen_0 5 rfl rfl)
theorem dX2_chosen_6 : decode cX2_chosen 6 = .ok (.if_icmp .le 5, 3) := dk_164 0 5 (dk_at dksX2_chosen_0 6 rfl rfl)
theorem dX2_chosen_9 : decode cX2_chosen 9 = .ok (.iconst (-1), 1) := dk_2 (dk_at dksX2_chosen_0 9 rfl rfl)
theorem dX2_chosen_10 : decode cX2_chosen 10 = .ok (.ireturn, 1) := dk_172 (dk_at dksX2_chosen_0 10 rfl rfl)
theorem dX2_chosen_11 : decode cX2_chosen 11 = .ok (.aload_n 0, 1) := dk_42 (dk_at dksX2_chosen_0 11 rfl rfl)
theorem dX2_chosen_12 : decode cX2_chosen 12 = .ok (.getfield 330, 3) := dk_180 1 74 (dk_at dksX2_chosen_0 12 rfl rfl)
theorem dX2_chosen_15 : decode cX2_chosen 15 = .ok (.bipush 16, 2) := dk_16 16 (dk_at dksX2_chosen_0 15 rfl rfl)
theorem dX2_chosen_17 : decode cX2_chosen 17 = .ok (.if_icmp .le 6, 3) := dk_164 0 6 (dk_at dksX2_chosen_0 17 rfl rfl)
theorem dX2_chosen_20 : decode cX2_chosen 20 = .ok (.bipush (-2), 2) := dk_16 254 (dk_at dksX2_chosen_0 20 rfl rfl)
theorem dX2_chosen_22 : decode cX2_chosen 22 = .ok (.ireturn, 1) := dk_172 (dk_at dksX2_chosen_0 22 rfl rfl)
theorem dX2_chosen_23 : decode cX2_chosen 23 = .ok (.iconst 1, 1) := dk_4 (dk_at dksX2_chosen_0 23 rfl rfl)
theorem dX2_chosen_24 : decode cX2_chosen 24 = .ok (.aload_n 0, 1) := dk_42 (dk_at dksX2_chosen_1 0 rfl rfl)
theorem dX2_chosen_25 : decode cX2_chosen 25 = .ok (.getfield 330, 3) := dk_180 1 74 (dk_at dksX2_chosen_1 1 rfl rfl)
theorem dX2_chosen_28 : decode cX2_chosen 28 = .ok (.ishl, 1) := dk_120 (dk_at dksX2_chosen_1 4 rfl rfl)
theorem dX2_chosen_29 : decode cX2_chosen 29 = .ok (.iconst 1, 1) := dk_4 (dk_at dksX2_chosen_1 5 rfl rfl)
theorem dX2_chosen_30 : decode cX2_chosen 30 = .ok (.isub, 1) := dk_100 (dk_at dksX2_chosen_1 6 rfl rfl)
theorem dX2_chosen_31 : decode cX2_chosen 31 = .ok (.istore_n 2, 1) := dk_61 (dk_at dksX2_chosen_1 7 rfl rfl)
theorem dX2_chosen_32 : decode cX2_chosen 32 = .ok (.iconst 0, 1) := dk_3 (dk_at dksX2_chosen_1 8 rfl rfl)
theorem dX2_chosen_33 : decode cX2_chosen 33 = .ok (.istore_n 3, 1) := dk_62 (dk_at dksX2_chosen_1 9 rfl rfl)
theorem dX2_chosen_34 : decode cX2_chosen 34 = .ok (.iload_n 3, 1) := dk_29 (dk_at dksX2_chosen_1 10 rfl rfl)
theorem dX2_chosen_35 : decode cX2_chosen 35 = .ok (.iconst 1, 1) := dk_4 (dk_at dksX2_chosen_1 11 rfl rfl)
theorem dX2_chosen_36 : decode cX2_chosen 36 = .ok (.aload_n 0, 1) := dk_42 (dk_at dksX2_chosen_1 12 rfl rfl)
theorem dX2_chosen_37 : decode cX2_chosen 37 = .ok (.getfield 330, 3) := dk_180 1 74 (dk_at dksX2_chosen_1 13 rfl rfl)
theorem dX2_chosen_40 : decode cX2_chosen 40 = .ok (.ishl, 1) := dk_120 (dk_at dksX2_chosen_1 16 rfl rfl)
theorem dX2_chosen_41 : decode cX2_chosen 41 = .ok (.if_icmp .ge 30, 3) := dk_162 0 30 (dk_at dksX2_chosen_1 17 rfl rfl)
theorem dX2_chosen_44 : decode cX2_chosen 44 = .ok (.iload_n 3, 1) := dk_29 (dk_at dksX2_chosen_1 20 rfl rfl)
theorem dX2_chosen_45 : decode cX2_chosen 45 = .ok (.invokestatic 562, 3) := dk_184 2 50 (dk_at dksX2_chosen_1 21 rfl rfl)
theorem dX2_chosen_48 : decode cX2_chosen 48 = .ok (.iload_n 2, 1) := dk_28 (dk_at dksX2_chosen_2 0 rfl rfl)
theorem dX2_chosen_49 : decode cX2_chosen 49 = .ok (.invokestatic 562, 3) := dk_184 2 50 (dk_at dksX2_chosen_2 1 rfl rfl)
theorem dX2_chosen_52 : decode cX2_chosen 52 = .ok (.if_icmp .ge 13, 3) := dk_162 0 13 (dk_at dksX2_chosen_2 4 rfl rfl)
theorem dX2_chosen_55 : decode cX2_chosen 55 = .ok (.aload_n 0, 1) := dk_42 (dk_at dksX2_chosen_2 7 rfl rfl)
theorem dX2_chosen_56 : decode cX2_chosen 56 = .ok (.iload_n 3, 1) := dk_29 (dk_at dksX2_chosen_2 8 rfl rfl)
theorem dX2_chosen_57 : decode cX2_chosen 57 = .ok (.invokevirtual 565, 3) := dk_182 2 53 (dk_at dksX2_chosen_2 9 rfl rfl)
theorem dX2_chosen_60 : decode cX2_chosen 60 = .ok (.ifCond .eq 5, 3) := dk_153 0 5 (dk_at dksX2_chosen_2 12 rfl rfl)
theorem dX2_chosen_63 : decode cX2_chosen 63 = .ok (.iload_n 3, 1) := dk_29 (dk_at dksX2_chosen_2 15 rfl rfl)
theorem dX2_chosen_64 : decode cX2_chosen 64 = .ok (.istore_n 2, 1) := dk_61 (dk_at dksX2_chosen_2 16 rfl rfl)
theorem dX2_chosen_65 : decode cX2_chosen 65 = .ok (.iinc 3 1, 3) := dk_132 3 1 (dk_at dksX2_chosen_2 17 rfl rfl)
theorem dX2_chosen_68 : decode cX2_chosen 68 = .ok (.goto (-34), 3) := dk_167 255 222 (dk_at dksX2_chosen_2 20 rfl rfl)
theorem dX2_chosen_71 : decode cX2_chosen 71 = .ok (.iload_n 1, 1) := dk_27 (dk_at dksX2_chosen_2 23 rfl rfl)
theorem dX2_chosen_72 : decode cX2_chosen 72 = .ok (.ifCond .ne 10, 3) := dk_154 0 10 (dk_at dksX2_chosen_3 0 rfl rfl)
theorem dX2_chosen_75 : decode cX2_chosen 75 = .ok (.iload_n 2, 1) := dk_28 (dk_at dksX2_chosen_3 3 rfl rfl)
theorem dX2_chosen_76 : decode cX2_chosen 76 = .ok (.invokestatic 562, 3) := dk_184 2 50 (dk_at dksX2_chosen_3 4 rfl rfl)
theorem dX2_chosen_79 : decode cX2_chosen 79 = .ok (.goto 4, 3) := dk_167 0 4 (dk_at dksX2_chosen_3 7 rfl rfl)
theorem dX2_chosen_82 : decode cX2_chosen 82 = .ok (.iload_n 2, 1) := dk_28 (dk_at dksX2_chosen_3 10 rfl rfl)
theorem dX2_chosen_83 : decode cX2_chosen 83 = .ok (.ireturn, 1) := dk_172 (dk_at dksX2_chosen_3 11 rfl rfl)
abbrev cX2_ones : ByteArray := prog_28_method_91_code
def yX2_ones : MethodName := ⟨RX2, "ones", "(I)I"⟩
def dkwX2_ones_1 : List UInt8 := [27, 172]
abbrev dktX2_ones_1 : List UInt8 := dkwX2_ones_1 ++ []
def dkwX2_ones_0 : List UInt8 := [3, 60, 3, 61, 28, 16, 16, 162, 0, 17, 27, 26, 28, 122, 4, 126, 96, 60, 132, 2, 1, 167, 255, 239]
abbrev dktX2_ones_0 : List UInt8 := dkwX2_ones_0 ++ dktX2_ones_1
theorem dksX2_ones_0 : cX2_ones.data.toList.drop 0 = dktX2_ones_0 := by decide +kernel
theorem dksX2_ones_1 : cX2_ones.data.toList.drop 24 = dktX2_ones_1 := dk_seg dksX2_ones_0 24 rfl rfl
theorem dX2_ones_0 : decode cX2_ones 0 = .ok (.iconst 0, 1) := dk_3 (dk_at dksX2_ones_0 0 rfl rfl)
theorem dX2_ones_1 : decode cX2_ones 1 = .ok (.istore_n 1, 1) := dk_60 (dk_at dksX2_ones_0 1 rfl rfl)
theorem dX2_ones_2 : decode cX2_ones 2 = .ok (.iconst 0, 1) := dk_3 (dk_at dksX2_ones_0 2 rfl rfl)
theorem dX2_ones_3 : decode cX2_ones 3 = .ok (.istore_n 2, 1) := dk_61 (dk_at dksX2_ones_0 3 rfl rfl)
theorem dX2_ones_4 : decode cX2_ones 4 = .ok (.iload_n 2, 1) := dk_28 (dk_at dksX2_ones_0 4 rfl rfl)
theorem dX2_ones_5 : decode cX2_ones 5 = .ok (.bipush 16, 2) := dk_16 16 (dk_at dksX2_ones_0 5 rfl rfl)
theorem dX2_ones_7 : decode cX2_ones 7 = .ok (.if_icmp .ge 17, 3) := dk_162 0 17 (dk_at dksX2_ones_0 7 rfl rfl)
theorem dX2_ones_10 : decode cX2_ones 10 = .ok (.iload_n 1, 1) := dk_27 (dk_at dksX2_ones_0 10 rfl rfl)
theorem dX2_ones_11 : decode cX2_ones 11 = .ok (.iload_n 0, 1) := dk_26 (dk_at dksX2_ones_0 11 rfl rfl)
theorem dX2_ones_12 : decode cX2_ones 12 = .ok (.iload_n 2, 1) := dk_28 (dk_at dksX2_ones_0 12 rfl rfl)
theorem dX2_ones_13 : decode cX2_ones 13 = .ok (.ishr, 1) := dk_122 (dk_at dksX2_ones_0 13 rfl rfl)
theorem dX2_ones_14 : decode cX2_ones 14 = .ok (.iconst 1, 1) := dk_4 (dk_at dksX2_ones_0 14 rfl rfl)
theorem dX2_ones_15 : decode cX2_ones 15 = .ok (.iand, 1) := dk_126 (dk_at dksX2_ones_0 15 rfl rfl)
theorem dX2_ones_16 : decode cX2_ones 16 = .ok (.iadd, 1) := dk_96 (dk_at dksX2_ones_0 16 rfl rfl)
theorem dX2_ones_17 : decode cX2_ones 17 = .ok (.istore_n 1, 1) := dk_60 (dk_at dksX2_ones_0 17 rfl rfl)
theorem dX2_ones_18 : decode cX2_ones 18 = .ok (.iinc 2 1, 3) := dk_132 2 1 (dk_at dksX2_ones_0 18 rfl rfl)
theorem dX2_ones_21 : decode cX2_ones 21 = .ok (.goto (-17), 3) := dk_167 255 239 (dk_at dksX2_ones_0 21 rfl rfl)
theorem dX2_ones_24 : decode cX2_ones 24 = .ok (.iload_n 1, 1) := dk_27 (dk_at dksX2_ones_1 0 rfl rfl)
theorem dX2_ones_25 : decode cX2_ones 25 = .ok (.ireturn, 1) := dk_172 (dk_at dksX2_ones_1 1 rfl rfl)
abbrev cX2_isEnough : ByteArray := prog_28_method_90_code
def yX2_isEnough : MethodName := ⟨RX2, "isEnough", "(I)Z"⟩
def dkwX2_isEnough_3 : List UInt8 := [46, 96, 62, 167, 255, 194, 28, 42, 180, 0, 20, 16, 6, 46, 96, 61, 167, 255, 172, 4, 172]
abbrev dktX2_isEnough_3 : List UInt8 := dkwX2_isEnough_3 ++ []
def dkwX2_isEnough_2 : List UInt8 := [21, 4, 167, 0, 10, 42, 180, 0, 20, 16, 7, 46, 162, 0, 5, 3, 172, 29, 42, 180, 0, 20, 16, 6]
abbrev dktX2_isEnough_2 : List UInt8 := dkwX2_isEnough_2 ++ dktX2_isEnough_3
def dkwX2_isEnough_1 : List UInt8 := [182, 2, 46, 54, 4, 42, 28, 29, 27, 182, 2, 46, 21, 4, 42, 180, 0, 20, 16, 7, 46, 162, 0, 8]
abbrev dktX2_isEnough_1 : List UInt8 := dkwX2_isEnough_1 ++ dktX2_isEnough_2
def dkwX2_isEnough_0 : List UInt8 := [3, 61, 28, 17, 3, 231, 163, 0, 83, 3, 62, 29, 17, 3, 231, 163, 0, 61, 42, 28, 29, 2]
abbrev dktX2_isEnough_0 : List UInt8 := dkwX2_isEnough_0 ++ dktX2_isEnough_1
theorem dksX2_isEnough_0 : cX2_isEnough.data.toList.drop 0 = dktX2_isEnough_0 := by decide +kernel
theorem dksX2_isEnough_1 : cX2_isEnough.data.toList.drop 22 = dktX2_isEnough_1 := dk_seg dksX2_isEnough_0 22 rfl rfl
theorem dksX2_isEnough_2 : cX2_isEnough.data.toList.drop 46 = dktX2_isEnough_2 := dk_seg dksX2_isEnough_1 24 rfl rfl
theorem dksX2_isEnough_3 : cX2_isEnough.data.toList.drop 70 = dktX2_isEnough_3 := dk_seg dksX2_isEnough_2 24 rfl rfl
theorem dX2_isEnough_0 : decode cX2_isEnough 0 = .ok (.iconst 0, 1) := dk_3 (dk_at dksX2_isEnough_0 0 rfl rfl)
theorem dX2_isEnough_1 : decode cX2_isEnough 1 = .ok (.istore_n 2, 1) := dk_61 (dk_at dksX2_isEnough_0 1 rfl rfl)
theorem dX2_isEnough_2 : decode cX2_isEnough 2 = .ok (.iload_n 2, 1) := dk_28 (dk_at dksX2_isEnough_0 2 rfl rfl)
theorem dX2_isEnough_3 : decode cX2_isEnough 3 = .ok (.sipush 999, 3) := dk_17 3 231 (dk_at dksX2_isEnough_0 3 rfl rfl)
theorem dX2_isEnough_6 : decode cX2_isEnough 6 = .ok (.if_icmp .gt 83, 3) := dk_163 0 83 (dk_at dksX2_isEnough_0 6 rfl rfl)
theorem dX2_isEnough_9 : decode cX2_isEnough 9 = .ok (.iconst 0, 1) := dk_3 (dk_at dksX2_isEnough_0 9 rfl rfl)
theorem dX2_isEnough_10 : decode cX2_isEnough 10 = .ok (.istore_n 3, 1) := dk_62 (dk_at dksX2_isEnough_0 10 rfl rfl)
theorem dX2_isEnough_11 : decode cX2_isEnough 11 = .ok (.iload_n 3, 1) := dk_29 (dk_at dksX2_isEnough_0 11 rfl rfl)
theorem dX2_isEnough_12 : decode cX2_isEnough 12 = .ok (.sipush 999, 3) := dk_17 3 231 (dk_at dksX2_isEnough_0 12 rfl rfl)
theorem dX2_isEnough_15 : decode cX2_isEnough 15 = .ok (.if_icmp .gt 61, 3) := dk_163 0 61 (dk_at dksX2_isEnough_0 15 rfl rfl)
theorem dX2_isEnough_18 : decode cX2_isEnough 18 = .ok (.aload_n 0, 1) := dk_42 (dk_at dksX2_isEnough_0 18 rfl rfl)
theorem dX2_isEnough_19 : decode cX2_isEnough 19 = .ok (.iload_n 2, 1) := dk_28 (dk_at dksX2_isEnough_0 19 rfl rfl)
theorem dX2_isEnough_20 : decode cX2_isEnough 20 = .ok (.iload_n 3, 1) := dk_29 (dk_at dksX2_isEnough_0 20 rfl rfl)
theorem dX2_isEnough_21 : decode cX2_isEnough 21 = .ok (.iconst (-1), 1) := dk_2 (dk_at dksX2_isEnough_0 21 rfl rfl)
theorem dX2_isEnough_22 : decode cX2_isEnough 22 = .ok (.invokevirtual 558, 3) := dk_182 2 46 (dk_at dksX2_isEnough_1 0 rfl rfl)
theorem dX2_isEnough_25 : decode cX2_isEnough 25 = .ok (.istore 4, 2) := dk_54 4 (dk_at dksX2_isEnough_1 3 rfl rfl)
theorem dX2_isEnough_27 : decode cX2_isEnough 27 = .ok (.aload_n 0, 1) := dk_42 (dk_at dksX2_isEnough_1 5 rfl rfl)
theorem dX2_isEnough_28 : decode cX2_isEnough 28 = .ok (.iload_n 2, 1) := dk_28 (dk_at dksX2_isEnough_1 6 rfl rfl)
theorem dX2_isEnough_29 : decode cX2_isEnough 29 = .ok (.iload_n 3, 1) := dk_29 (dk_at dksX2_isEnough_1 7 rfl rfl)
theorem dX2_isEnough_30 : decode cX2_isEnough 30 = .ok (.iload_n 1, 1) := dk_27 (dk_at dksX2_isEnough_1 8 rfl rfl)
theorem dX2_isEnough_31 : decode cX2_isEnough 31 = .ok (.invokevirtual 558, 3) := dk_182 2 46 (dk_at dksX2_isEnough_1 9 rfl rfl)
theorem dX2_isEnough_34 : decode cX2_isEnough 34 = .ok (.iload 4, 2) := dk_21 4 (dk_at dksX2_isEnough_1 12 rfl rfl)
theorem dX2_isEnough_36 : decode cX2_isEnough 36 = .ok (.aload_n 0, 1) := dk_42 (dk_at dksX2_isEnough_1 14 rfl rfl)
theorem dX2_isEnough_37 : decode cX2_isEnough 37 = .ok (.getfield 20, 3) := dk_180 0 20 (dk_at dksX2_isEnough_1 15 rfl rfl)
theorem dX2_isEnough_40 : decode cX2_isEnough 40 = .ok (.bipush 7, 2) := dk_16 7 (dk_at dksX2_isEnough_1 18 rfl rfl)
theorem dX2_isEnough_42 : decode cX2_isEnough 42 = .ok (.iaload, 1) := dk_46 (dk_at dksX2_isEnough_1 20 rfl rfl)
theorem dX2_isEnough_43 : decode cX2_isEnough 43 = .ok (.if_icmp .ge 8, 3) := dk_162 0 8 (dk_at dksX2_isEnough_1 21 rfl rfl)
theorem dX2_isEnough_46 : decode cX2_isEnough 46 = .ok (.iload 4, 2) := dk_21 4 (dk_at dksX2_isEnough_2 0 rfl rfl)
theorem dX2_isEnough_48 : decode cX2_isEnough 48 = .ok (.goto 10, 3) := dk_167 0 10 (dk_at dksX2_isEnough_2 2 rfl rfl)
theorem dX2_isEnough_51 : decode cX2_isEnough 51 = .ok (.aload_n 0, 1) := dk_42 (dk_at dksX2_isEnough_2 5 rfl rfl)
theorem dX2_isEnough_52 : decode cX2_isEnough 52 = .ok (.getfield 20, 3) := dk_180 0 20 (dk_at dksX2_isEnough_2 6 rfl rfl)
theorem dX2_isEnough_55 : decode cX2_isEnough 55 = .ok (.bipush 7, 2) := dk_16 7 (dk_at dksX2_isEnough_2 9 rfl rfl)
theorem dX2_isEnough_57 : decode cX2_isEnough 57 = .ok (.iaload, 1) := dk_46 (dk_at dksX2_isEnough_2 11 rfl rfl)
theorem dX2_isEnough_58 : decode cX2_isEnough 58 = .ok (.if_icmp .ge 5, 3) := dk_162 0 5 (dk_at dksX2_isEnough_2 12 rfl rfl)
theorem dX2_isEnough_61 : decode cX2_isEnough 61 = .ok (.iconst 0, 1) := dk_3 (dk_at dksX2_isEnough_2 15 rfl rfl)
theorem dX2_isEnough_62 : decode cX2_isEnough 62 = .ok (.ireturn, 1) := dk_172 (dk_at dksX2_isEnough_2 16 rfl rfl)
theorem dX2_isEnough_63 : decode cX2_isEnough 63 = .ok (.iload_n 3, 1) := dk_29 (dk_at dksX2_isEnough_2 17 rfl rfl)
theorem dX2_isEnough_64 : decode cX2_isEnough 64 = .ok (.aload_n 0, 1) := dk_42 (dk_at dksX2_isEnough_2 18 rfl rfl)
theorem dX2_isEnough_65 : decode cX2_isEnough 65 = .ok (.getfield 20, 3) := dk_180 0 20 (dk_at dksX2_isEnough_2 19 rfl rfl)
theorem dX2_isEnough_68 : decode cX2_isEnough 68 = .ok (.bipush 6, 2) := dk_16 6 (dk_at dksX2_isEnough_2 22 rfl rfl)
theorem dX2_isEnough_70 : decode cX2_isEnough 70 = .ok (.iaload, 1) := dk_46 (dk_at dksX2_isEnough_3 0 rfl rfl)
theorem dX2_isEnough_71 : decode cX2_isEnough 71 = .ok (.iadd, 1) := dk_96 (dk_at dksX2_isEnough_3 1 rfl rfl)
theorem dX2_isEnough_72 : decode cX2_isEnough 72 = .ok (.istore_n 3, 1) := dk_62 (dk_at dksX2_isEnough_3 2 rfl rfl)
theorem dX2_isEnough_73 : decode cX2_isEnough 73 = .ok (.goto (-62), 3) := dk_167 255 194 (dk_at dksX2_isEnough_3 3 rfl rfl)
theorem dX2_isEnough_76 : decode cX2_isEnough 76 = .ok (.iload_n 2, 1) := dk_28 (dk_at dksX2_isEnough_3 6 rfl rfl)
theorem dX2_isEnough_77 : decode cX2_isEnough 77 = .ok (.aload_n 0, 1) := dk_42 (dk_at dksX2_isEnough_3 7 rfl rfl)
theorem dX2_isEnough_78 : decode cX2_isEnough 78 = .ok (.getfield 20, 3) := dk_180 0 20 (dk_at dksX2_isEnough_3 8 rfl rfl)
theorem dX2_isEnough_81 : decode cX2_isEnough 81 = .ok (.bipush 6, 2) := dk_16 6 (dk_at dksX2_isEnough_3 11 rfl rfl)
theorem dX2_isEnough_83 : decode cX2_isEnough 83 = .ok (.iaload, 1) := dk_46 (dk_at dksX2_isEnough_3 13 rfl rfl)
theorem dX2_isEnough_84 : decode cX2_isEnough 84 = .ok (.iadd, 1) := dk_96 (dk_at dksX2_isEnough_3 14 rfl rfl)
theorem dX2_isEnough_85 : decode cX2_isEnough 85 = .ok (.istore_n 2, 1) := dk_61 (dk_at dksX2_isEnough_3 15 rfl rfl)
theorem dX2_isEnough_86 : decode cX2_isEnough 86 = .ok (.goto (-84), 3) := dk_167 255 172 (dk_at dksX2_isEnough_3 16 rfl rfl)
theorem dX2_isEnough_89 : decode cX2_isEnough 89 = .ok (.iconst 1, 1) := dk_4 (dk_at dksX2_isEnough_3 19 rfl rfl)
theorem dX2_isEnough_90 : decode cX2_isEnough 90 = .ok (.ireturn, 1) := dk_172 (dk_at dksX2_isEnough_3 20 rfl rfl)
abbrev cX2_held : ByteArray := prog_28_method_93_code
def yX2_held : MethodName := ⟨RX2, "held", "(I)I"⟩
def dkwX2_held_9 : List UInt8 := [132, 4, 1, 167, 255, 152, 28, 27, 164, 0, 5, 29, 172, 132, 3, 1, 167, 255, 118, 42, 180, 1, 74, 172]
abbrev dktX2_held_9 : List UInt8 := dkwX2_held_9 ++ []
def dkwX2_held_8 : List UInt8 := [180, 0, 20, 5, 46, 104, 163, 0, 13, 42, 180, 0, 20, 16, 11, 46, 167, 0, 4, 3, 96, 61]
abbrev dktX2_held_8 : List UInt8 := dkwX2_held_8 ++ dktX2_held_9
def dkwX2_held_7 : List UInt8 := [54, 6, 28, 21, 5, 21, 5, 104, 21, 6, 21, 6, 104, 96, 7, 42, 180, 0, 20, 5, 46, 104, 42]
abbrev dktX2_held_7 : List UInt8 := dkwX2_held_7 ++ dktX2_held_8
def dkwX2_held_6 : List UInt8 := [180, 0, 35, 42, 180, 0, 121, 29, 46, 46, 42, 180, 0, 35, 42, 180, 0, 121, 21, 4, 46, 46, 100]
abbrev dktX2_held_6 : List UInt8 := dkwX2_held_6 ++ dktX2_held_7
def dkwX2_held_5 : List UInt8 := [180, 0, 121, 29, 46, 46, 42, 180, 0, 32, 42, 180, 0, 121, 21, 4, 46, 46, 100, 54, 5, 42]
abbrev dktX2_held_5 : List UInt8 := dkwX2_held_5 ++ dktX2_held_6
def dkwX2_held_4 : List UInt8 := [28, 42, 180, 0, 20, 16, 10, 46, 96, 61, 3, 54, 4, 21, 4, 29, 162, 0, 104, 42, 180, 0, 32, 42]
abbrev dktX2_held_4 : List UInt8 := dkwX2_held_4 ++ dktX2_held_5
def dkwX2_held_3 : List UInt8 := [180, 0, 121, 29, 28, 79, 132, 2, 1, 167, 255, 190, 3, 61, 3, 62, 29, 42, 180, 1, 74, 162, 0, 136]
abbrev dktX2_held_3 : List UInt8 := dkwX2_held_3 ++ dktX2_held_4
def dkwX2_held_2 : List UInt8 := [162, 0, 23, 42, 180, 0, 121, 29, 42, 180, 0, 121, 29, 4, 100, 46, 79, 132, 3, 255, 167, 255, 213, 42]
abbrev dktX2_held_2 : List UInt8 := dkwX2_held_2 ++ dktX2_held_3
def dkwX2_held_1 : List UInt8 := [62, 29, 158, 0, 45, 42, 180, 0, 38, 42, 180, 0, 121, 29, 4, 100, 46, 46, 42, 180, 0, 38, 28, 46]
abbrev dktX2_held_1 : List UInt8 := dkwX2_held_1 ++ dktX2_held_2
def dkwX2_held_0 : List UInt8 := [27, 155, 0, 10, 27, 19, 2, 56, 164, 0, 5, 2, 172, 3, 61, 28, 42, 180, 1, 74, 162, 0, 64, 28]
abbrev dktX2_held_0 : List UInt8 := dkwX2_held_0 ++ dktX2_held_1
theorem dksX2_held_0 : cX2_held.data.toList.drop 0 = dktX2_held_0 := by decide +kernel
theorem dksX2_held_1 : cX2_held.data.toList.drop 24 = dktX2_held_1 := dk_seg dksX2_held_0 24 rfl rfl
theorem dksX2_held_2 : cX2_held.data.toList.drop 48 = dktX2_held_2 := dk_seg dksX2_held_1 24 rfl rfl
theorem dksX2_held_3 : cX2_held.data.toList.drop 72 = dktX2_held_3 := dk_seg dksX2_held_2 24 rfl rfl
theorem dksX2_held_4 : cX2_held.data.toList.drop 96 = dktX2_held_4 := dk_seg dksX2_held_3 24 rfl rfl
theorem dksX2_held_5 : cX2_held.data.toList.drop 120 = dktX2_held_5 := dk_seg dksX2_held_4 24 rfl rfl
theorem dksX2_held_6 : cX2_held.data.toList.drop 142 = dktX2_held_6 := dk_seg dksX2_held_5 22 rfl rfl
theorem dksX2_held_7 : cX2_held.data.toList.drop 165 = dktX2_held_7 := dk_seg dksX2_held_6 23 rfl rfl
theorem dksX2_held_8 : cX2_held.data.toList.drop 188 = dktX2_held_8 := dk_seg dksX2_held_7 23 rfl rfl
theorem dksX2_held_9 : cX2_held.data.toList.drop 210 = dktX2_held_9 := dk_seg dksX2_held_8 22 rfl rfl
theorem dX2_held_0 : decode cX2_held 0 = .ok (.iload_n 1, 1) := dk_27 (dk_at dksX2_held_0 0 rfl rfl)
theorem dX2_held_1 : decode cX2_held 1 = .ok (.ifCond .lt 10, 3) := dk_155 0 10 (dk_at dksX2_held_0 1 rfl rfl)
theorem dX2_held_4 : decode cX2_held 4 = .ok (.iload_n 1, 1) := dk_27 (dk_at dksX2_held_0 4 rfl rfl)
theorem dX2_held_5 : decode cX2_held 5 = .ok (.ldc_w 568, 3) := dk_19 2 56 (dk_at dksX2_held_0 5 rfl rfl)
theorem dX2_held_8 : decode cX2_held 8 = .ok (.if_icmp .le 5, 3) := dk_164 0 5 (dk_at dksX2_held_0 8 rfl rfl)
theorem dX2_held_11 : decode cX2_held 11 = .ok (.iconst (-1), 1) := dk_2 (dk_at dksX2_held_0 11 rfl rfl)
theorem dX2_held_12 : decode cX2_held 12 = .ok (.ireturn, 1) := dk_172 (dk_at dksX2_held_0 12 rfl rfl)
theorem dX2_held_13 : decode cX2_held 13 = .ok (.iconst 0, 1) := dk_3 (dk_at dksX2_held_0 13 rfl rfl)
theorem dX2_held_14 : decode cX2_held 14 = .ok (.istore_n 2, 1) := dk_61 (dk_at dksX2_held_0 14 rfl rfl)
theorem dX2_held_15 : decode cX2_held 15 = .ok (.iload_n 2, 1) := dk_28 (dk_at dksX2_held_0 15 rfl rfl)
theorem dX2_held_16 : decode cX2_held 16 = .ok (.aload_n 0, 1) := dk_42 (dk_at dksX2_held_0 16 rfl rfl)
theorem dX2_held_17 : decode cX2_held 17 = .ok (.getfield 330, 3) := dk_180 1 74 (dk_at dksX2_held_0 17 rfl rfl)
theorem dX2_held_20 : decode cX2_held 20 = .ok (.if_icmp .ge 64, 3) := dk_162 0 64 (dk_at dksX2_held_0 20 rfl rfl)
theorem dX2_held_23 : decode cX2_held 23 = .ok (.iload_n 2, 1) := dk_28 (dk_at dksX2_held_0 23 rfl rfl)
theorem dX2_held_24 : decode cX2_held 24 = .ok (.istore_n 3, 1) := dk_62 (dk_at dksX2_held_1 0 rfl rfl)
theorem dX2_held_25 : decode cX2_held 25 = .ok (.iload_n 3, 1) := dk_29 (dk_at dksX2_held_1 1 rfl rfl)
theorem dX2_held_26 : decode cX2_held 26 = .ok (.ifCond .le 45, 3) := dk_158 0 45 (dk_at dksX2_held_1 2 rfl rfl)
theorem dX2_held_29 : decode cX2_held 29 = .ok (.aload_n 0, 1) := dk_42 (dk_at dksX2_held_1 5 rfl rfl)
theorem dX2_held_30 : decode cX2_held 30 = .ok (.getfield 38, 3) := dk_180 0 38 (dk_at dksX2_held_1 6 rfl rfl)
theorem dX2_held_33 : decode cX2_held 33 = .ok (.aload_n 0, 1) := dk_42 (dk_at dksX2_held_1 9 rfl rfl)
theorem dX2_held_34 : decode cX2_held 34 = .ok (.getfield 121, 3) := dk_180 0 121 (dk_at dksX2_held_1 10 rfl rfl)
theorem dX2_held_37 : decode cX2_held 37 = .ok (.iload_n 3, 1) := dk_29 (dk_at dksX2_held_1 13 rfl rfl)
theorem dX2_held_38 : decode cX2_held 38 = .ok (.iconst 1, 1) := dk_4 (dk_at dksX2_held_1 14 rfl rfl)
theorem dX2_held_39 : decode cX2_held 39 = .ok (.isub, 1) := dk_100 (dk_at dksX2_held_1 15 rfl rfl)
theorem dX2_held_40 : decode cX2_held 40 = .ok (.iaload, 1) := dk_46 (dk_at dksX2_held_1 16 rfl rfl)
theorem dX2_held_41 : decode cX2_held 41 = .ok (.iaload, 1) := dk_46 (dk_at dksX2_held_1 17 rfl rfl)
theorem dX2_held_42 : decode cX2_held 42 = .ok (.aload_n 0, 1) := dk_42 (dk_at dksX2_held_1 18 rfl rfl)
theorem dX2_held_43 : decode cX2_held 43 = .ok (.getfield 38, 3) := dk_180 0 38 (dk_at dksX2_held_1 19 rfl rfl)
theorem dX2_held_46 : decode cX2_held 46 = .ok (.iload_n 2, 1) := dk_28 (dk_at dksX2_held_1 22 rfl rfl)
theorem dX2_held_47 : decode cX2_held 47 = .ok (.iaload, 1) := dk_46 (dk_at dksX2_held_1 23 rfl rfl)
theorem dX2_held_48 : decode cX2_held 48 = .ok (.if_icmp .ge 23, 3) := dk_162 0 23 (dk_at dksX2_held_2 0 rfl rfl)
theorem dX2_held_51 : decode cX2_held 51 = .ok (.aload_n 0, 1) := dk_42 (dk_at dksX2_held_2 3 rfl rfl)
theorem dX2_held_52 : decode cX2_held 52 = .ok (.getfield 121, 3) := dk_180 0 121 (dk_at dksX2_held_2 4 rfl rfl)
theorem dX2_held_55 : decode cX2_held 55 = .ok (.iload_n 3, 1) := dk_29 (dk_at dksX2_held_2 7 rfl rfl)
theorem dX2_held_56 : decode cX2_held 56 = .ok (.aload_n 0, 1) := dk_42 (dk_at dksX2_held_2 8 rfl rfl)
theorem dX2_held_57 : decode cX2_held 57 = .ok (.getfield 121, 3) := dk_180 0 121 (dk_at dksX2_held_2 9 rfl rfl)
theorem dX2_held_60 : decode cX2_held 60 = .ok (.iload_n 3, 1) := dk_29 (dk_at dksX2_held_2 12 rfl rfl)
theorem dX2_held_61 : decode cX2_held 61 = .ok (.iconst 1, 1) := dk_4 (dk_at dksX2_held_2 13 rfl rfl)
theorem dX2_held_62 : decode cX2_held 62 = .ok (.isub, 1) := dk_100 (dk_at dksX2_held_2 14 rfl rfl)
theorem dX2_held_63 : decode cX2_held 63 = .ok (.iaload, 1) := dk_46 (dk_at dksX2_held_2 15 rfl rfl)
theorem dX2_held_64 : decode cX2_held 64 = .ok (.iastore, 1) := dk_79 (dk_at dksX2_held_2 16 rfl rfl)
theorem dX2_held_65 : decode cX2_held 65 = .ok (.iinc 3 (-1), 3) := dk_132 3 255 (dk_at dksX2_held_2 17 rfl rfl)
theorem dX2_held_68 : decode cX2_held 68 = .ok (.goto (-43), 3) := dk_167 255 213 (dk_at dksX2_held_2 20 rfl rfl)
theorem dX2_held_71 : decode cX2_held 71 = .ok (.aload_n 0, 1) := dk_42 (dk_at dksX2_held_2 23 rfl rfl)
theorem dX2_held_72 : decode cX2_held 72 = .ok (.getfield 121, 3) := dk_180 0 121 (dk_at dksX2_held_3 0 rfl rfl)
theorem dX2_held_75 : decode cX2_held 75 = .ok (.iload_n 3, 1) := dk_29 (dk_at dksX2_held_3 3 rfl rfl)
theorem dX2_held_76 : decode cX2_held 76 = .ok (.iload_n 2, 1) := dk_28 (dk_at dksX2_held_3 4 rfl rfl)
theorem dX2_held_77 : decode cX2_held 77 = .ok (.iastore, 1) := dk_79 (dk_at dksX2_held_3 5 rfl rfl)
theorem dX2_held_78 : decode cX2_held 78 = .ok (.iinc 2 1, 3) := dk_132 2 1 (dk_at dksX2_held_3 6 rfl rfl)
theorem dX2_held_81 : decode cX2_held 81 = .ok (.goto (-66), 3) := dk_167 255 190 (dk_at dksX2_held_3 9 rfl rfl)
theorem dX2_held_84 : decode cX2_held 84 = .ok (.iconst 0, 1) := dk_3 (dk_at dksX2_held_3 12 rfl rfl)
theorem dX2_held_85 : decode cX2_held 85 = .ok (.istore_n 2, 1) := dk_61 (dk_at dksX2_held_3 13 rfl rfl)
theorem dX2_held_86 : decode cX2_held 86 = .ok (.iconst 0, 1) := dk_3 (dk_at dksX2_held_3 14 rfl rfl)
theorem dX2_held_87 : decode cX2_held 87 = .ok (.istore_n 3, 1) := dk_62 (dk_at dksX2_held_3 15 rfl rfl)
theorem dX2_held_88 : decode cX2_held 88 = .ok (.iload_n 3, 1) := dk_29 (dk_at dksX2_held_3 16 rfl rfl)
theorem dX2_held_89 : decode cX2_held 89 = .ok (.aload_n 0, 1) := dk_42 (dk_at dksX2_held_3 17 rfl rfl)
theorem dX2_held_90 : decode cX2_held 90 = .ok (.getfield 330, 3) := dk_180 1 74 (dk_at dksX2_held_3 18 rfl rfl)
theorem dX2_held_93 : decode cX2_held 93 = .ok (.if_icmp .ge 136, 3) := dk_162 0 136 (dk_at dksX2_held_3 21 rfl rfl)
theorem dX2_held_96 : decode cX2_held 96 = .ok (.iload_n 2, 1) := dk_28 (dk_at dksX2_held_4 0 rfl rfl)
theorem dX2_held_97 : decode cX2_held 97 = .ok (.aload_n 0, 1) := dk_42 (dk_at dksX2_held_4 1 rfl rfl)
theorem dX2_held_98 : decode cX2_held 98 = .ok (.getfield 20, 3) := dk_180 0 20 (dk_at dksX2_held_4 2 rfl rfl)
theorem dX2_held_101 : decode cX2_held 101 = .ok (.bipush 10, 2) := dk_16 10 (dk_at dksX2_held_4 5 rfl rfl)
theorem dX2_held_103 : decode cX2_held 103 = .ok (.iaload, 1) := dk_46 (dk_at dksX2_held_4 7 rfl rfl)
theorem dX2_held_104 : decode cX2_held 104 = .ok (.iadd, 1) := dk_96 (dk_at dksX2_held_4 8 rfl rfl)
theorem dX2_held_105 : decode cX2_held 105 = .ok (.istore_n 2, 1) := dk_61 (dk_at dksX2_held_4 9 rfl rfl)
theorem dX2_held_106 : decode cX2_held 106 = .ok (.iconst 0, 1) := dk_3 (dk_at dksX2_held_4 10 rfl rfl)
theorem dX2_held_107 : decode cX2_held 107 = .ok (.istore 4, 2) := dk_54 4 (dk_at dksX2_held_4 11 rfl rfl)
theorem dX2_held_109 : decode cX2_held 109 = .ok (.iload 4, 2) := dk_21 4 (dk_at dksX2_held_4 13 rfl rfl)
theorem dX2_held_111 : decode cX2_held 111 = .ok (.iload_n 3, 1) := dk_29 (dk_at dksX2_held_4 15 rfl rfl)
theorem dX2_held_112 : decode cX2_held 112 = .ok (.if_icmp .ge 104, 3) := dk_162 0 104 (dk_at dksX2_held_4 16 rfl rfl)
theorem dX2_held_115 : decode cX2_held 115 = .ok (.aload_n 0, 1) := dk_42 (dk_at dksX2_held_4 19 rfl rfl)
theorem dX2_held_116 : decode cX2_held 116 = .ok (.getfield 32, 3) := dk_180 0 32 (dk_at dksX2_held_4 20 rfl rfl)
theorem dX2_held_119 : decode cX2_held 119 = .ok (.aload_n 0, 1) := dk_42 (dk_at dksX2_held_4 23 rfl rfl)
theorem dX2_held_120 : decode cX2_held 120 = .ok (.getfield 121, 3) := dk_180 0 121 (dk_at dksX2_held_5 0 rfl rfl)
theorem dX2_held_123 : decode cX2_held 123 = .ok (.iload_n 3, 1) := dk_29 (dk_at dksX2_held_5 3 rfl rfl)
theorem dX2_held_124 : decode cX2_held 124 = .ok (.iaload, 1) := dk_46 (dk_at dksX2_held_5 4 rfl rfl)
theorem dX2_held_125 : decode cX2_held 125 = .ok (.iaload, 1) := dk_46 (dk_at dksX2_held_5 5 rfl rfl)
theorem dX2_held_126 : decode cX2_held 126 = .ok (.aload_n 0, 1) := dk_42 (dk_at dksX2_held_5 6 rfl rfl)
theorem dX2_held_127 : decode cX2_held 127 = .ok (.getfield 32, 3) := dk_180 0 32 (dk_at dksX2_held_5 7 rfl rfl)
theorem dX2_held_130 : decode cX2_held 130 = .ok (.aload_n 0, 1) := dk_42 (dk_at dksX2_held_5 10 rfl rfl)
theorem dX2_held_131 : decode cX2_held 131 = .ok (.getfield 121, 3) := dk_180 0 121 (dk_at dksX2_held_5 11 rfl rfl)
theorem dX2_held_134 : decode cX2_held 134 = .ok (.iload 4, 2) := dk_21 4 (dk_at dksX2_held_5 14 rfl rfl)
theorem dX2_held_136 : decode cX2_held 136 = .ok (.iaload, 1) := dk_46 (dk_at dksX2_held_5 16 rfl rfl)
theorem dX2_held_137 : decode cX2_held 137 = .ok (.iaload, 1) := dk_46 (dk_at dksX2_held_5 17 rfl rfl)
theorem dX2_held_138 : decode cX2_held 138 = .ok (.isub, 1) := dk_100 (dk_at dksX2_held_5 18 rfl rfl)
theorem dX2_held_139 : decode cX2_held 139 = .ok (.istore 5, 2) := dk_54 5 (dk_at dksX2_held_5 19 rfl rfl)
theorem dX2_held_141 : decode cX2_held 141 = .ok (.aload_n 0, 1) := dk_42 (dk_at dksX2_held_5 21 rfl rfl)
theorem dX2_held_142 : decode cX2_held 142 = .ok (.getfield 35, 3) := dk_180 0 35 (dk_at dksX2_held_6 0 rfl rfl)
theorem dX2_held_145 : decode cX2_held 145 = .ok (.aload_n 0, 1) := dk_42 (dk_at dksX2_held_6 3 rfl rfl)
theorem dX2_held_146 : decode cX2_held 146 = .ok (.getfield 121, 3) := dk_180 0 121 (dk_at dksX2_held_6 4 rfl rfl)
theorem dX2_held_149 : decode cX2_held 149 = .ok (.iload_n 3, 1) := dk_29 (dk_at dksX2_held_6 7 rfl rfl)
theorem dX2_held_150 : decode cX2_held 150 = .ok (.iaload, 1) := dk_46 (dk_at dksX2_held_6 8 rfl rfl)
theorem dX2_held_151 : decode cX2_held 151 = .ok (.iaload, 1) := dk_46 (dk_at dksX2_held_6 9 rfl rfl)
theorem dX2_held_152 : decode cX2_held 152 = .ok (.aload_n 0, 1) := dk_42 (dk_at dksX2_held_6 10 rfl rfl)
theorem dX2_held_153 : decode cX2_held 153 = .ok (.getfield 35, 3) := dk_180 0 35 (dk_at dksX2_held_6 11 rfl rfl)
theorem dX2_held_156 : decode cX2_held 156 = .ok (.aload_n 0, 1) := dk_42 (dk_at dksX2_held_6 14 rfl rfl)
theorem dX2_held_157 : decode cX2_held 157 = .ok (.getfield 121, 3) := dk_180 0 121 (dk_at dksX2_held_6 15 rfl rfl)
theorem dX2_held_160 : decode cX2_held 160 = .ok (.iload 4, 2) := dk_21 4 (dk_at dksX2_held_6 18 rfl rfl)
theorem dX2_held_162 : decode cX2_held 162 = .ok (.iaload, 1) := dk_46 (dk_at dksX2_held_6 20 rfl rfl)
theorem dX2_held_163 : decode cX2_held 163 = .ok (.iaload, 1) := dk_46 (dk_at dksX2_held_6 21 rfl rfl)
theorem dX2_held_164 : decode cX2_held 164 = .ok (.isub, 1) := dk_100 (dk_at dksX2_held_6 22 rfl rfl)
theorem dX2_held_165 : decode cX2_held 165 = .ok (.istore 6, 2) := dk_54 6 (dk_at dksX2_held_7 0 rfl rfl)
theorem dX2_held_167 : decode cX2_held 167 = .ok (.iload_n 2, 1) := dk_28 (dk_at dksX2_held_7 2 rfl rfl)
theorem dX2_held_168 : decode cX2_held 168 = .ok (.iload 5, 2) := dk_21 5 (dk_at dksX2_held_7 3 rfl rfl)
theorem dX2_held_170 : decode cX2_held 170 = .ok (.iload 5, 2) := dk_21 5 (dk_at dksX2_held_7 5 rfl rfl)
theorem dX2_held_172 : decode cX2_held 172 = .ok (.imul, 1) := dk_104 (dk_at dksX2_held_7 7 rfl rfl)
theorem dX2_held_173 : decode cX2_held 173 = .ok (.iload 6, 2) := dk_21 6 (dk_at dksX2_held_7 8 rfl rfl)
theorem dX2_held_175 : decode cX2_held 175 = .ok (.iload 6, 2) := dk_21 6 (dk_at dksX2_held_7 10 rfl rfl)
theorem dX2_held_177 : decode cX2_held 177 = .ok (.imul, 1) := dk_104 (dk_at dksX2_held_7 12 rfl rfl)
theorem dX2_held_178 : decode cX2_held 178 = .ok (.iadd, 1) := dk_96 (dk_at dksX2_held_7 13 rfl rfl)
theorem dX2_held_179 : decode cX2_held 179 = .ok (.iconst 4, 1) := dk_7 (dk_at dksX2_held_7 14 rfl rfl)
theorem dX2_held_180 : decode cX2_held 180 = .ok (.aload_n 0, 1) := dk_42 (dk_at dksX2_held_7 15 rfl rfl)
theorem dX2_held_181 : decode cX2_held 181 = .ok (.getfield 20, 3) := dk_180 0 20 (dk_at dksX2_held_7 16 rfl rfl)
theorem dX2_held_184 : decode cX2_held 184 = .ok (.iconst 2, 1) := dk_5 (dk_at dksX2_held_7 19 rfl rfl)
theorem dX2_held_185 : decode cX2_held 185 = .ok (.iaload, 1) := dk_46 (dk_at dksX2_held_7 20 rfl rfl)
theorem dX2_held_186 : decode cX2_held 186 = .ok (.imul, 1) := dk_104 (dk_at dksX2_held_7 21 rfl rfl)
theorem dX2_held_187 : decode cX2_held 187 = .ok (.aload_n 0, 1) := dk_42 (dk_at dksX2_held_7 22 rfl rfl)
theorem dX2_held_188 : decode cX2_held 188 = .ok (.getfield 20, 3) := dk_180 0 20 (dk_at dksX2_held_8 0 rfl rfl)
theorem dX2_held_191 : decode cX2_held 191 = .ok (.iconst 2, 1) := dk_5 (dk_at dksX2_held_8 3 rfl rfl)
theorem dX2_held_192 : decode cX2_held 192 = .ok (.iaload, 1) := dk_46 (dk_at dksX2_held_8 4 rfl rfl)
theorem dX2_held_193 : decode cX2_held 193 = .ok (.imul, 1) := dk_104 (dk_at dksX2_held_8 5 rfl rfl)
theorem dX2_held_194 : decode cX2_held 194 = .ok (.if_icmp .gt 13, 3) := dk_163 0 13 (dk_at dksX2_held_8 6 rfl rfl)
theorem dX2_held_197 : decode cX2_held 197 = .ok (.aload_n 0, 1) := dk_42 (dk_at dksX2_held_8 9 rfl rfl)
theorem dX2_held_198 : decode cX2_held 198 = .ok (.getfield 20, 3) := dk_180 0 20 (dk_at dksX2_held_8 10 rfl rfl)
theorem dX2_held_201 : decode cX2_held 201 = .ok (.bipush 11, 2) := dk_16 11 (dk_at dksX2_held_8 13 rfl rfl)
theorem dX2_held_203 : decode cX2_held 203 = .ok (.iaload, 1) := dk_46 (dk_at dksX2_held_8 15 rfl rfl)
theorem dX2_held_204 : decode cX2_held 204 = .ok (.goto 4, 3) := dk_167 0 4 (dk_at dksX2_held_8 16 rfl rfl)
theorem dX2_held_207 : decode cX2_held 207 = .ok (.iconst 0, 1) := dk_3 (dk_at dksX2_held_8 19 rfl rfl)
theorem dX2_held_208 : decode cX2_held 208 = .ok (.iadd, 1) := dk_96 (dk_at dksX2_held_8 20 rfl rfl)
theorem dX2_held_209 : decode cX2_held 209 = .ok (.istore_n 2, 1) := dk_61 (dk_at dksX2_held_8 21 rfl rfl)
theorem dX2_held_210 : decode cX2_held 210 = .ok (.iinc 4 1, 3) := dk_132 4 1 (dk_at dksX2_held_9 0 rfl rfl)
theorem dX2_held_213 : decode cX2_held 213 = .ok (.goto (-104), 3) := dk_167 255 152 (dk_at dksX2_held_9 3 rfl rfl)
theorem dX2_held_216 : decode cX2_held 216 = .ok (.iload_n 2, 1) := dk_28 (dk_at dksX2_held_9 6 rfl rfl)
theorem dX2_held_217 : decode cX2_held 217 = .ok (.iload_n 1, 1) := dk_27 (dk_at dksX2_held_9 7 rfl rfl)
theorem dX2_held_218 : decode cX2_held 218 = .ok (.if_icmp .le 5, 3) := dk_164 0 5 (dk_at dksX2_held_9 8 rfl rfl)
theorem dX2_held_221 : decode cX2_held 221 = .ok (.iload_n 3, 1) := dk_29 (dk_at dksX2_held_9 11 rfl rfl)
theorem dX2_held_222 : decode cX2_held 222 = .ok (.ireturn, 1) := dk_172 (dk_at dksX2_held_9 12 rfl rfl)
theorem dX2_held_223 : decode cX2_held 223 = .ok (.iinc 3 1, 3) := dk_132 3 1 (dk_at dksX2_held_9 13 rfl rfl)
theorem dX2_held_226 : decode cX2_held 226 = .ok (.goto (-138), 3) := dk_167 255 118 (dk_at dksX2_held_9 16 rfl rfl)
theorem dX2_held_229 : decode cX2_held 229 = .ok (.aload_n 0, 1) := dk_42 (dk_at dksX2_held_9 19 rfl rfl)
theorem dX2_held_230 : decode cX2_held 230 = .ok (.getfield 330, 3) := dk_180 1 74 (dk_at dksX2_held_9 20 rfl rfl)
theorem dX2_held_233 : decode cX2_held 233 = .ok (.ireturn, 1) := dk_172 (dk_at dksX2_held_9 23 rfl rfl)
abbrev cX2_doubles : ByteArray := prog_28_method_94_code
def yX2_doubles : MethodName := ⟨RX2, "doubles", "()I"⟩
def dkwX2_doubles_5 : List UInt8 := [132, 3, 1, 167, 255, 152, 132, 2, 1, 167, 255, 134, 27, 172]
abbrev dktX2_doubles_5 : List UInt8 := dkwX2_doubles_5 ++ []
def dkwX2_doubles_4 : List UInt8 := [167, 255, 192, 27, 21, 4, 42, 180, 0, 20, 16, 7, 46, 161, 0, 7, 4, 167, 0, 4, 3, 96, 60]
abbrev dktX2_doubles_4 : List UInt8 := dkwX2_doubles_4 ++ dktX2_doubles_5
def dkwX2_doubles_3 : List UInt8 := [16, 10, 42, 180, 0, 20, 7, 46, 104, 163, 0, 7, 4, 167, 0, 4, 3, 96, 54, 4, 132, 5, 1]
abbrev dktX2_doubles_3 : List UInt8 := dkwX2_doubles_3 ++ dktX2_doubles_4
def dkwX2_doubles_2 : List UInt8 := [21, 5, 29, 159, 0, 37, 42, 28, 21, 5, 182, 1, 152, 42, 29, 21, 5, 182, 1, 152, 100, 184, 1, 158]
abbrev dktX2_doubles_2 : List UInt8 := dkwX2_doubles_2 ++ dktX2_doubles_3
def dkwX2_doubles_1 : List UInt8 := [3, 54, 4, 3, 54, 5, 21, 5, 42, 180, 1, 74, 162, 0, 61, 21, 4, 21, 5, 28, 159, 0, 43]
abbrev dktX2_doubles_1 : List UInt8 := dkwX2_doubles_1 ++ dktX2_doubles_2
def dkwX2_doubles_0 : List UInt8 := [3, 60, 3, 61, 28, 42, 180, 1, 74, 162, 0, 120, 28, 4, 96, 62, 29, 42, 180, 1, 74, 162, 0, 102]
abbrev dktX2_doubles_0 : List UInt8 := dkwX2_doubles_0 ++ dktX2_doubles_1
theorem dksX2_doubles_0 : cX2_doubles.data.toList.drop 0 = dktX2_doubles_0 := by decide +kernel
theorem dksX2_doubles_1 : cX2_doubles.data.toList.drop 24 = dktX2_doubles_1 := dk_seg dksX2_doubles_0 24 rfl rfl
theorem dksX2_doubles_2 : cX2_doubles.data.toList.drop 47 = dktX2_doubles_2 := dk_seg dksX2_doubles_1 23 rfl rfl
theorem dksX2_doubles_3 : cX2_doubles.data.toList.drop 71 = dktX2_doubles_3 := dk_seg dksX2_doubles_2 24 rfl rfl
theorem dksX2_doubles_4 : cX2_doubles.data.toList.drop 94 = dktX2_doubles_4 := dk_seg dksX2_doubles_3 23 rfl rfl
theorem dksX2_doubles_5 : cX2_doubles.data.toList.drop 117 = dktX2_doubles_5 := dk_seg dksX2_doubles_4 23 rfl rfl
theorem dX2_doubles_0 : decode cX2_doubles 0 = .ok (.iconst 0, 1) := dk_3 (dk_at dksX2_doubles_0 0 rfl rfl)
theorem dX2_doubles_1 : decode cX2_doubles 1 = .ok (.istore_n 1, 1) := dk_60 (dk_at dksX2_doubles_0 1 rfl rfl)
theorem dX2_doubles_2 : decode cX2_doubles 2 = .ok (.iconst 0, 1) := dk_3 (dk_at dksX2_doubles_0 2 rfl rfl)
theorem dX2_doubles_3 : decode cX2_doubles 3 = .ok (.istore_n 2, 1) := dk_61 (dk_at dksX2_doubles_0 3 rfl rfl)
theorem dX2_doubles_4 : decode cX2_doubles 4 = .ok (.iload_n 2, 1) := dk_28 (dk_at dksX2_doubles_0 4 rfl rfl)
theorem dX2_doubles_5 : decode cX2_doubles 5 = .ok (.aload_n 0, 1) := dk_42 (dk_at dksX2_doubles_0 5 rfl rfl)
theorem dX2_doubles_6 : decode cX2_doubles 6 = .ok (.getfield 330, 3) := dk_180 1 74 (dk_at dksX2_doubles_0 6 rfl rfl)
theorem dX2_doubles_9 : decode cX2_doubles 9 = .ok (.if_icmp .ge 120, 3) := dk_162 0 120 (dk_at dksX2_doubles_0 9 rfl rfl)
theorem dX2_doubles_12 : decode cX2_doubles 12 = .ok (.iload_n 2, 1) := dk_28 (dk_at dksX2_doubles_0 12 rfl rfl)
theorem dX2_doubles_13 : decode cX2_doubles 13 = .ok (.iconst 1, 1) := dk_4 (dk_at dksX2_doubles_0 13 rfl rfl)
theorem dX2_doubles_14 : decode cX2_doubles 14 = .ok (.iadd, 1) := dk_96 (dk_at dksX2_doubles_0 14 rfl rfl)
theorem dX2_doubles_15 : decode cX2_doubles 15 = .ok (.istore_n 3, 1) := dk_62 (dk_at dksX2_doubles_0 15 rfl rfl)
theorem dX2_doubles_16 : decode cX2_doubles 16 = .ok (.iload_n 3, 1) := dk_29 (dk_at dksX2_doubles_0 16 rfl rfl)
theorem dX2_doubles_17 : decode cX2_doubles 17 = .ok (.aload_n 0, 1) := dk_42 (dk_at dksX2_doubles_0 17 rfl rfl)
theorem dX2_doubles_18 : decode cX2_doubles 18 = .ok (.getfield 330, 3) := dk_180 1 74 (dk_at dksX2_doubles_0 18 rfl rfl)
theorem dX2_doubles_21 : decode cX2_doubles 21 = .ok (.if_icmp .ge 102, 3) := dk_162 0 102 (dk_at dksX2_doubles_0 21 rfl rfl)
theorem dX2_doubles_24 : decode cX2_doubles 24 = .ok (.iconst 0, 1) := dk_3 (dk_at dksX2_doubles_1 0 rfl rfl)
theorem dX2_doubles_25 : decode cX2_doubles 25 = .ok (.istore 4, 2) := dk_54 4 (dk_at dksX2_doubles_1 1 rfl rfl)
theorem dX2_doubles_27 : decode cX2_doubles 27 = .ok (.iconst 0, 1) := dk_3 (dk_at dksX2_doubles_1 3 rfl rfl)
theorem dX2_doubles_28 : decode cX2_doubles 28 = .ok (.istore 5, 2) := dk_54 5 (dk_at dksX2_doubles_1 4 rfl rfl)
theorem dX2_doubles_30 : decode cX2_doubles 30 = .ok (.iload 5, 2) := dk_21 5 (dk_at dksX2_doubles_1 6 rfl rfl)
theorem dX2_doubles_32 : decode cX2_doubles 32 = .ok (.aload_n 0, 1) := dk_42 (dk_at dksX2_doubles_1 8 rfl rfl)
theorem dX2_doubles_33 : decode cX2_doubles 33 = .ok (.getfield 330, 3) := dk_180 1 74 (dk_at dksX2_doubles_1 9 rfl rfl)
theorem dX2_doubles_36 : decode cX2_doubles 36 = .ok (.if_icmp .ge 61, 3) := dk_162 0 61 (dk_at dksX2_doubles_1 12 rfl rfl)
theorem dX2_doubles_39 : decode cX2_doubles 39 = .ok (.iload 4, 2) := dk_21 4 (dk_at dksX2_doubles_1 15 rfl rfl)
theorem dX2_doubles_41 : decode cX2_doubles 41 = .ok (.iload 5, 2) := dk_21 5 (dk_at dksX2_doubles_1 17 rfl rfl)
theorem dX2_doubles_43 : decode cX2_doubles 43 = .ok (.iload_n 2, 1) := dk_28 (dk_at dksX2_doubles_1 19 rfl rfl)
theorem dX2_doubles_44 : decode cX2_doubles 44 = .ok (.if_icmp .eq 43, 3) := dk_159 0 43 (dk_at dksX2_doubles_1 20 rfl rfl)
theorem dX2_doubles_47 : decode cX2_doubles 47 = .ok (.iload 5, 2) := dk_21 5 (dk_at dksX2_doubles_2 0 rfl rfl)
theorem dX2_doubles_49 : decode cX2_doubles 49 = .ok (.iload_n 3, 1) := dk_29 (dk_at dksX2_doubles_2 2 rfl rfl)
theorem dX2_doubles_50 : decode cX2_doubles 50 = .ok (.if_icmp .eq 37, 3) := dk_159 0 37 (dk_at dksX2_doubles_2 3 rfl rfl)
theorem dX2_doubles_53 : decode cX2_doubles 53 = .ok (.aload_n 0, 1) := dk_42 (dk_at dksX2_doubles_2 6 rfl rfl)
theorem dX2_doubles_54 : decode cX2_doubles 54 = .ok (.iload_n 2, 1) := dk_28 (dk_at dksX2_doubles_2 7 rfl rfl)
theorem dX2_doubles_55 : decode cX2_doubles 55 = .ok (.iload 5, 2) := dk_21 5 (dk_at dksX2_doubles_2 8 rfl rfl)
theorem dX2_doubles_57 : decode cX2_doubles 57 = .ok (.invokevirtual 408, 3) := dk_182 1 152 (dk_at dksX2_doubles_2 10 rfl rfl)
theorem dX2_doubles_60 : decode cX2_doubles 60 = .ok (.aload_n 0, 1) := dk_42 (dk_at dksX2_doubles_2 13 rfl rfl)
theorem dX2_doubles_61 : decode cX2_doubles 61 = .ok (.iload_n 3, 1) := dk_29 (dk_at dksX2_doubles_2 14 rfl rfl)
theorem dX2_doubles_62 : decode cX2_doubles 62 = .ok (.iload 5, 2) := dk_21 5 (dk_at dksX2_doubles_2 15 rfl rfl)
theorem dX2_doubles_64 : decode cX2_doubles 64 = .ok (.invokevirtual 408, 3) := dk_182 1 152 (dk_at dksX2_doubles_2 17 rfl rfl)
theorem dX2_doubles_67 : decode cX2_doubles 67 = .ok (.isub, 1) := dk_100 (dk_at dksX2_doubles_2 20 rfl rfl)
theorem dX2_doubles_68 : decode cX2_doubles 68 = .ok (.invokestatic 414, 3) := dk_184 1 158 (dk_at dksX2_doubles_2 21 rfl rfl)
theorem dX2_doubles_71 : decode cX2_doubles 71 = .ok (.bipush 10, 2) := dk_16 10 (dk_at dksX2_doubles_3 0 rfl rfl)
theorem dX2_doubles_73 : decode cX2_doubles 73 = .ok (.aload_n 0, 1) := dk_42 (dk_at dksX2_doubles_3 2 rfl rfl)
theorem dX2_doubles_74 : decode cX2_doubles 74 = .ok (.getfield 20, 3) := dk_180 0 20 (dk_at dksX2_doubles_3 3 rfl rfl)
theorem dX2_doubles_77 : decode cX2_doubles 77 = .ok (.iconst 4, 1) := dk_7 (dk_at dksX2_doubles_3 6 rfl rfl)
theorem dX2_doubles_78 : decode cX2_doubles 78 = .ok (.iaload, 1) := dk_46 (dk_at dksX2_doubles_3 7 rfl rfl)
theorem dX2_doubles_79 : decode cX2_doubles 79 = .ok (.imul, 1) := dk_104 (dk_at dksX2_doubles_3 8 rfl rfl)
theorem dX2_doubles_80 : decode cX2_doubles 80 = .ok (.if_icmp .gt 7, 3) := dk_163 0 7 (dk_at dksX2_doubles_3 9 rfl rfl)
theorem dX2_doubles_83 : decode cX2_doubles 83 = .ok (.iconst 1, 1) := dk_4 (dk_at dksX2_doubles_3 12 rfl rfl)
theorem dX2_doubles_84 : decode cX2_doubles 84 = .ok (.goto 4, 3) := dk_167 0 4 (dk_at dksX2_doubles_3 13 rfl rfl)
theorem dX2_doubles_87 : decode cX2_doubles 87 = .ok (.iconst 0, 1) := dk_3 (dk_at dksX2_doubles_3 16 rfl rfl)
theorem dX2_doubles_88 : decode cX2_doubles 88 = .ok (.iadd, 1) := dk_96 (dk_at dksX2_doubles_3 17 rfl rfl)
theorem dX2_doubles_89 : decode cX2_doubles 89 = .ok (.istore 4, 2) := dk_54 4 (dk_at dksX2_doubles_3 18 rfl rfl)
theorem dX2_doubles_91 : decode cX2_doubles 91 = .ok (.iinc 5 1, 3) := dk_132 5 1 (dk_at dksX2_doubles_3 20 rfl rfl)
theorem dX2_doubles_94 : decode cX2_doubles 94 = .ok (.goto (-64), 3) := dk_167 255 192 (dk_at dksX2_doubles_4 0 rfl rfl)
theorem dX2_doubles_97 : decode cX2_doubles 97 = .ok (.iload_n 1, 1) := dk_27 (dk_at dksX2_doubles_4 3 rfl rfl)
theorem dX2_doubles_98 : decode cX2_doubles 98 = .ok (.iload 4, 2) := dk_21 4 (dk_at dksX2_doubles_4 4 rfl rfl)
theorem dX2_doubles_100 : decode cX2_doubles 100 = .ok (.aload_n 0, 1) := dk_42 (dk_at dksX2_doubles_4 6 rfl rfl)
theorem dX2_doubles_101 : decode cX2_doubles 101 = .ok (.getfield 20, 3) := dk_180 0 20 (dk_at dksX2_doubles_4 7 rfl rfl)
theorem dX2_doubles_104 : decode cX2_doubles 104 = .ok (.bipush 7, 2) := dk_16 7 (dk_at dksX2_doubles_4 10 rfl rfl)
theorem dX2_doubles_106 : decode cX2_doubles 106 = .ok (.iaload, 1) := dk_46 (dk_at dksX2_doubles_4 12 rfl rfl)
theorem dX2_doubles_107 : decode cX2_doubles 107 = .ok (.if_icmp .lt 7, 3) := dk_161 0 7 (dk_at dksX2_doubles_4 13 rfl rfl)
theorem dX2_doubles_110 : decode cX2_doubles 110 = .ok (.iconst 1, 1) := dk_4 (dk_at dksX2_doubles_4 16 rfl rfl)
theorem dX2_doubles_111 : decode cX2_doubles 111 = .ok (.goto 4, 3) := dk_167 0 4 (dk_at dksX2_doubles_4 17 rfl rfl)
theorem dX2_doubles_114 : decode cX2_doubles 114 = .ok (.iconst 0, 1) := dk_3 (dk_at dksX2_doubles_4 20 rfl rfl)
theorem dX2_doubles_115 : decode cX2_doubles 115 = .ok (.iadd, 1) := dk_96 (dk_at dksX2_doubles_4 21 rfl rfl)
theorem dX2_doubles_116 : decode cX2_doubles 116 = .ok (.istore_n 1, 1) := dk_60 (dk_at dksX2_doubles_4 22 rfl rfl)
theorem dX2_doubles_117 : decode cX2_doubles 117 = .ok (.iinc 3 1, 3) := dk_132 3 1 (dk_at dksX2_doubles_5 0 rfl rfl)
theorem dX2_doubles_120 : decode cX2_doubles 120 = .ok (.goto (-104), 3) := dk_167 255 152 (dk_at dksX2_doubles_5 3 rfl rfl)
theorem dX2_doubles_123 : decode cX2_doubles 123 = .ok (.iinc 2 1, 3) := dk_132 2 1 (dk_at dksX2_doubles_5 6 rfl rfl)
theorem dX2_doubles_126 : decode cX2_doubles 126 = .ok (.goto (-122), 3) := dk_167 255 134 (dk_at dksX2_doubles_5 9 rfl rfl)
theorem dX2_doubles_129 : decode cX2_doubles 129 = .ok (.iload_n 1, 1) := dk_27 (dk_at dksX2_doubles_5 12 rfl rfl)
theorem dX2_doubles_130 : decode cX2_doubles 130 = .ok (.ireturn, 1) := dk_172 (dk_at dksX2_doubles_5 13 rfl rfl)
abbrev cX2_rules : ByteArray := prog_28_method_106_code
def yX2_rules : MethodName := ⟨RX2, "rules", "()I"⟩
def dkwX2_rules_7 : List UInt8 := [167, 255, 205, 42, 42, 180, 2, 93, 181, 1, 80, 42, 42, 180, 2, 78, 181, 1, 83, 42, 180, 1, 80, 172]
abbrev dktX2_rules_7 : List UInt8 := dkwX2_rules_7 ++ []
def dkwX2_rules_6 : List UInt8 := [180, 0, 130, 27, 4, 96, 46, 79, 42, 180, 0, 145, 27, 42, 180, 0, 133, 27, 46, 79, 132, 1, 1]
abbrev dktX2_rules_6 : List UInt8 := dkwX2_rules_6 ++ dktX2_rules_7
def dkwX2_rules_5 : List UInt8 := [162, 0, 49, 42, 180, 0, 142, 27, 42, 180, 0, 130, 27, 46, 79, 42, 180, 0, 142, 27, 4, 96, 42]
abbrev dktX2_rules_5 : List UInt8 := dkwX2_rules_5 ++ dktX2_rules_6
def dkwX2_rules_4 : List UInt8 := [180, 0, 139, 27, 42, 180, 0, 127, 27, 46, 79, 132, 1, 1, 167, 255, 221, 3, 60, 27, 42, 180, 2, 93]
abbrev dktX2_rules_4 : List UInt8 := dkwX2_rules_4 ++ dktX2_rules_5
def dkwX2_rules_3 : List UInt8 := [60, 27, 42, 180, 2, 57, 162, 0, 33, 42, 180, 0, 136, 27, 42, 180, 0, 124, 27, 46, 79, 42]
abbrev dktX2_rules_3 : List UInt8 := dkwX2_rules_3 ++ dktX2_rules_4
def dkwX2_rules_2 : List UInt8 := [42, 180, 0, 212, 153, 0, 10, 42, 182, 2, 101, 167, 255, 238, 42, 180, 0, 225, 158, 0, 5, 2, 172, 3]
abbrev dktX2_rules_2 : List UInt8 := dkwX2_rules_2 ++ dktX2_rules_3
def dkwX2_rules_1 : List UInt8 := [3, 181, 2, 78, 42, 4, 181, 0, 194, 42, 182, 1, 61, 42, 182, 1, 33, 42, 180, 0, 225, 154, 0, 17]
abbrev dktX2_rules_1 : List UInt8 := dkwX2_rules_1 ++ dktX2_rules_2
def dkwX2_rules_0 : List UInt8 := [42, 180, 0, 181, 17, 1, 144, 164, 0, 6, 16, 254, 172, 42, 3, 181, 2, 57, 42, 3, 181, 2, 93, 42]
abbrev dktX2_rules_0 : List UInt8 := dkwX2_rules_0 ++ dktX2_rules_1
theorem dksX2_rules_0 : cX2_rules.data.toList.drop 0 = dktX2_rules_0 := by decide +kernel
theorem dksX2_rules_1 : cX2_rules.data.toList.drop 24 = dktX2_rules_1 := dk_seg dksX2_rules_0 24 rfl rfl
theorem dksX2_rules_2 : cX2_rules.data.toList.drop 48 = dktX2_rules_2 := dk_seg dksX2_rules_1 24 rfl rfl
theorem dksX2_rules_3 : cX2_rules.data.toList.drop 72 = dktX2_rules_3 := dk_seg dksX2_rules_2 24 rfl rfl
theorem dksX2_rules_4 : cX2_rules.data.toList.drop 94 = dktX2_rules_4 := dk_seg dksX2_rules_3 22 rfl rfl
theorem dksX2_rules_5 : cX2_rules.data.toList.drop 118 = dktX2_rules_5 := dk_seg dksX2_rules_4 24 rfl rfl
theorem dksX2_rules_6 : cX2_rules.data.toList.drop 141 = dktX2_rules_6 := dk_seg dksX2_rules_5 23 rfl rfl
theorem dksX2_rules_7 : cX2_rules.data.toList.drop 164 = dktX2_rules_7 := dk_seg dksX2_rules_6 23 rfl rfl
theorem dX2_rules_0 : decode cX2_rules 0 = .ok (.aload_n 0, 1) := dk_42 (dk_at dksX2_rules_0 0 rfl rfl)
theorem dX2_rules_1 : decode cX2_rules 1 = .ok (.getfield 181, 3) := dk_180 0 181 (dk_at dksX2_rules_0 1 rfl rfl)
theorem dX2_rules_4 : decode cX2_rules 4 = .ok (.sipush 400, 3) := dk_17 1 144 (dk_at dksX2_rules_0 4 rfl rfl)
theorem dX2_rules_7 : decode cX2_rules 7 = .ok (.if_icmp .le 6, 3) := dk_164 0 6 (dk_at dksX2_rules_0 7 rfl rfl)
theorem dX2_rules_10 : decode cX2_rules 10 = .ok (.bipush (-2), 2) := dk_16 254 (dk_at dksX2_rules_0 10 rfl rfl)
theorem dX2_rules_12 : decode cX2_rules 12 = .ok (.ireturn, 1) := dk_172 (dk_at dksX2_rules_0 12 rfl rfl)
theorem dX2_rules_13 : decode cX2_rules 13 = .ok (.aload_n 0, 1) := dk_42 (dk_at dksX2_rules_0 13 rfl rfl)
theorem dX2_rules_14 : decode cX2_rules 14 = .ok (.iconst 0, 1) := dk_3 (dk_at dksX2_rules_0 14 rfl rfl)
theorem dX2_rules_15 : decode cX2_rules 15 = .ok (.putfield 569, 3) := dk_181 2 57 (dk_at dksX2_rules_0 15 rfl rfl)
theorem dX2_rules_18 : decode cX2_rules 18 = .ok (.aload_n 0, 1) := dk_42 (dk_at dksX2_rules_0 18 rfl rfl)
theorem dX2_rules_19 : decode cX2_rules 19 = .ok (.iconst 0, 1) := dk_3 (dk_at dksX2_rules_0 19 rfl rfl)
theorem dX2_rules_20 : decode cX2_rules 20 = .ok (.putfield 605, 3) := dk_181 2 93 (dk_at dksX2_rules_0 20 rfl rfl)
theorem dX2_rules_23 : decode cX2_rules 23 = .ok (.aload_n 0, 1) := dk_42 (dk_at dksX2_rules_0 23 rfl rfl)
theorem dX2_rules_24 : decode cX2_rules 24 = .ok (.iconst 0, 1) := dk_3 (dk_at dksX2_rules_1 0 rfl rfl)
theorem dX2_rules_25 : decode cX2_rules 25 = .ok (.putfield 590, 3) := dk_181 2 78 (dk_at dksX2_rules_1 1 rfl rfl)
theorem dX2_rules_28 : decode cX2_rules 28 = .ok (.aload_n 0, 1) := dk_42 (dk_at dksX2_rules_1 4 rfl rfl)
theorem dX2_rules_29 : decode cX2_rules 29 = .ok (.iconst 1, 1) := dk_4 (dk_at dksX2_rules_1 5 rfl rfl)
theorem dX2_rules_30 : decode cX2_rules 30 = .ok (.putfield 194, 3) := dk_181 0 194 (dk_at dksX2_rules_1 6 rfl rfl)
theorem dX2_rules_33 : decode cX2_rules 33 = .ok (.aload_n 0, 1) := dk_42 (dk_at dksX2_rules_1 9 rfl rfl)
theorem dX2_rules_34 : decode cX2_rules 34 = .ok (.invokevirtual 317, 3) := dk_182 1 61 (dk_at dksX2_rules_1 10 rfl rfl)
theorem dX2_rules_37 : decode cX2_rules 37 = .ok (.aload_n 0, 1) := dk_42 (dk_at dksX2_rules_1 13 rfl rfl)
theorem dX2_rules_38 : decode cX2_rules 38 = .ok (.invokevirtual 289, 3) := dk_182 1 33 (dk_at dksX2_rules_1 14 rfl rfl)
theorem dX2_rules_41 : decode cX2_rules 41 = .ok (.aload_n 0, 1) := dk_42 (dk_at dksX2_rules_1 17 rfl rfl)
theorem dX2_rules_42 : decode cX2_rules 42 = .ok (.getfield 225, 3) := dk_180 0 225 (dk_at dksX2_rules_1 18 rfl rfl)
theorem dX2_rules_45 : decode cX2_rules 45 = .ok (.ifCond .ne 17, 3) := dk_154 0 17 (dk_at dksX2_rules_1 21 rfl rfl)
theorem dX2_rules_48 : decode cX2_rules 48 = .ok (.aload_n 0, 1) := dk_42 (dk_at dksX2_rules_2 0 rfl rfl)
theorem dX2_rules_49 : decode cX2_rules 49 = .ok (.getfield 212, 3) := dk_180 0 212 (dk_at dksX2_rules_2 1 rfl rfl)
theorem dX2_rules_52 : decode cX2_rules 52 = .ok (.ifCond .eq 10, 3) := dk_153 0 10 (dk_at dksX2_rules_2 4 rfl rfl)
theorem dX2_rules_55 : decode cX2_rules 55 = .ok (.aload_n 0, 1) := dk_42 (dk_at dksX2_rules_2 7 rfl rfl)
theorem dX2_rules_56 : decode cX2_rules 56 = .ok (.invokevirtual 613, 3) := dk_182 2 101 (dk_at dksX2_rules_2 8 rfl rfl)
theorem dX2_rules_59 : decode cX2_rules 59 = .ok (.goto (-18), 3) := dk_167 255 238 (dk_at dksX2_rules_2 11 rfl rfl)
theorem dX2_rules_62 : decode cX2_rules 62 = .ok (.aload_n 0, 1) := dk_42 (dk_at dksX2_rules_2 14 rfl rfl)
theorem dX2_rules_63 : decode cX2_rules 63 = .ok (.getfield 225, 3) := dk_180 0 225 (dk_at dksX2_rules_2 15 rfl rfl)
theorem dX2_rules_66 : decode cX2_rules 66 = .ok (.ifCond .le 5, 3) := dk_158 0 5 (dk_at dksX2_rules_2 18 rfl rfl)
theorem dX2_rules_69 : decode cX2_rules 69 = .ok (.iconst (-1), 1) := dk_2 (dk_at dksX2_rules_2 21 rfl rfl)
theorem dX2_rules_70 : decode cX2_rules 70 = .ok (.ireturn, 1) := dk_172 (dk_at dksX2_rules_2 22 rfl rfl)
theorem dX2_rules_71 : decode cX2_rules 71 = .ok (.iconst 0, 1) := dk_3 (dk_at dksX2_rules_2 23 rfl rfl)
theorem dX2_rules_72 : decode cX2_rules 72 = .ok (.istore_n 1, 1) := dk_60 (dk_at dksX2_rules_3 0 rfl rfl)
theorem dX2_rules_73 : decode cX2_rules 73 = .ok (.iload_n 1, 1) := dk_27 (dk_at dksX2_rules_3 1 rfl rfl)
theorem dX2_rules_74 : decode cX2_rules 74 = .ok (.aload_n 0, 1) := dk_42 (dk_at dksX2_rules_3 2 rfl rfl)
theorem dX2_rules_75 : decode cX2_rules 75 = .ok (.getfield 569, 3) := dk_180 2 57 (dk_at dksX2_rules_3 3 rfl rfl)
theorem dX2_rules_78 : decode cX2_rules 78 = .ok (.if_icmp .ge 33, 3) := dk_162 0 33 (dk_at dksX2_rules_3 6 rfl rfl)
theorem dX2_rules_81 : decode cX2_rules 81 = .ok (.aload_n 0, 1) := dk_42 (dk_at dksX2_rules_3 9 rfl rfl)
theorem dX2_rules_82 : decode cX2_rules 82 = .ok (.getfield 136, 3) := dk_180 0 136 (dk_at dksX2_rules_3 10 rfl rfl)
theorem dX2_rules_85 : decode cX2_rules 85 = .ok (.iload_n 1, 1) := dk_27 (dk_at dksX2_rules_3 13 rfl rfl)
theorem dX2_rules_86 : decode cX2_rules 86 = .ok (.aload_n 0, 1) := dk_42 (dk_at dksX2_rules_3 14 rfl rfl)
theorem dX2_rules_87 : decode cX2_rules 87 = .ok (.getfield 124, 3) := dk_180 0 124 (dk_at dksX2_rules_3 15 rfl rfl)
theorem dX2_rules_90 : decode cX2_rules 90 = .ok (.iload_n 1, 1) := dk_27 (dk_at dksX2_rules_3 18 rfl rfl)
theorem dX2_rules_91 : decode cX2_rules 91 = .ok (.iaload, 1) := dk_46 (dk_at dksX2_rules_3 19 rfl rfl)
theorem dX2_rules_92 : decode cX2_rules 92 = .ok (.iastore, 1) := dk_79 (dk_at dksX2_rules_3 20 rfl rfl)
theorem dX2_rules_93 : decode cX2_rules 93 = .ok (.aload_n 0, 1) := dk_42 (dk_at dksX2_rules_3 21 rfl rfl)
theorem dX2_rules_94 : decode cX2_rules 94 = .ok (.getfield 139, 3) := dk_180 0 139 (dk_at dksX2_rules_4 0 rfl rfl)
theorem dX2_rules_97 : decode cX2_rules 97 = .ok (.iload_n 1, 1) := dk_27 (dk_at dksX2_rules_4 3 rfl rfl)
theorem dX2_rules_98 : decode cX2_rules 98 = .ok (.aload_n 0, 1) := dk_42 (dk_at dksX2_rules_4 4 rfl rfl)
theorem dX2_rules_99 : decode cX2_rules 99 = .ok (.getfield 127, 3) := dk_180 0 127 (dk_at dksX2_rules_4 5 rfl rfl)
theorem dX2_rules_102 : decode cX2_rules 102 = .ok (.iload_n 1, 1) := dk_27 (dk_at dksX2_rules_4 8 rfl rfl)
theorem dX2_rules_103 : decode cX2_rules 103 = .ok (.iaload, 1) := dk_46 (dk_at dksX2_rules_4 9 rfl rfl)
theorem dX2_rules_104 : decode cX2_rules 104 = .ok (.iastore, 1) := dk_79 (dk_at dksX2_rules_4 10 rfl rfl)
theorem dX2_rules_105 : decode cX2_rules 105 = .ok (.iinc 1 1, 3) := dk_132 1 1 (dk_at dksX2_rules_4 11 rfl rfl)
theorem dX2_rules_108 : decode cX2_rules 108 = .ok (.goto (-35), 3) := dk_167 255 221 (dk_at dksX2_rules_4 14 rfl rfl)
theorem dX2_rules_111 : decode cX2_rules 111 = .ok (.iconst 0, 1) := dk_3 (dk_at dksX2_rules_4 17 rfl rfl)
theorem dX2_rules_112 : decode cX2_rules 112 = .ok (.istore_n 1, 1) := dk_60 (dk_at dksX2_rules_4 18 rfl rfl)
theorem dX2_rules_113 : decode cX2_rules 113 = .ok (.iload_n 1, 1) := dk_27 (dk_at dksX2_rules_4 19 rfl rfl)
theorem dX2_rules_114 : decode cX2_rules 114 = .ok (.aload_n 0, 1) := dk_42 (dk_at dksX2_rules_4 20 rfl rfl)
theorem dX2_rules_115 : decode cX2_rules 115 = .ok (.getfield 605, 3) := dk_180 2 93 (dk_at dksX2_rules_4 21 rfl rfl)
theorem dX2_rules_118 : decode cX2_rules 118 = .ok (.if_icmp .ge 49, 3) := dk_162 0 49 (dk_at dksX2_rules_5 0 rfl rfl)
theorem dX2_rules_121 : decode cX2_rules 121 = .ok (.aload_n 0, 1) := dk_42 (dk_at dksX2_rules_5 3 rfl rfl)
theorem dX2_rules_122 : decode cX2_rules 122 = .ok (.getfield 142, 3) := dk_180 0 142 (dk_at dksX2_rules_5 4 rfl rfl)
theorem dX2_rules_125 : decode cX2_rules 125 = .ok (.iload_n 1, 1) := dk_27 (dk_at dksX2_rules_5 7 rfl rfl)
theorem dX2_rules_126 : decode cX2_rules 126 = .ok (.aload_n 0, 1) := dk_42 (dk_at dksX2_rules_5 8 rfl rfl)
theorem dX2_rules_127 : decode cX2_rules 127 = .ok (.getfield 130, 3) := dk_180 0 130 (dk_at dksX2_rules_5 9 rfl rfl)
theorem dX2_rules_130 : decode cX2_rules 130 = .ok (.iload_n 1, 1) := dk_27 (dk_at dksX2_rules_5 12 rfl rfl)
theorem dX2_rules_131 : decode cX2_rules 131 = .ok (.iaload, 1) := dk_46 (dk_at dksX2_rules_5 13 rfl rfl)
theorem dX2_rules_132 : decode cX2_rules 132 = .ok (.iastore, 1) := dk_79 (dk_at dksX2_rules_5 14 rfl rfl)
theorem dX2_rules_133 : decode cX2_rules 133 = .ok (.aload_n 0, 1) := dk_42 (dk_at dksX2_rules_5 15 rfl rfl)
theorem dX2_rules_134 : decode cX2_rules 134 = .ok (.getfield 142, 3) := dk_180 0 142 (dk_at dksX2_rules_5 16 rfl rfl)
theorem dX2_rules_137 : decode cX2_rules 137 = .ok (.iload_n 1, 1) := dk_27 (dk_at dksX2_rules_5 19 rfl rfl)
theorem dX2_rules_138 : decode cX2_rules 138 = .ok (.iconst 1, 1) := dk_4 (dk_at dksX2_rules_5 20 rfl rfl)
theorem dX2_rules_139 : decode cX2_rules 139 = .ok (.iadd, 1) := dk_96 (dk_at dksX2_rules_5 21 rfl rfl)
theorem dX2_rules_140 : decode cX2_rules 140 = .ok (.aload_n 0, 1) := dk_42 (dk_at dksX2_rules_5 22 rfl rfl)
theorem dX2_rules_141 : decode cX2_rules 141 = .ok (.getfield 130, 3) := dk_180 0 130 (dk_at dksX2_rules_6 0 rfl rfl)
theorem dX2_rules_144 : decode cX2_rules 144 = .ok (.iload_n 1, 1) := dk_27 (dk_at dksX2_rules_6 3 rfl rfl)
theorem dX2_rules_145 : decode cX2_rules 145 = .ok (.iconst 1, 1) := dk_4 (dk_at dksX2_rules_6 4 rfl rfl)
theorem dX2_rules_146 : decode cX2_rules 146 = .ok (.iadd, 1) := dk_96 (dk_at dksX2_rules_6 5 rfl rfl)
theorem dX2_rules_147 : decode cX2_rules 147 = .ok (.iaload, 1) := dk_46 (dk_at dksX2_rules_6 6 rfl rfl)
theorem dX2_rules_148 : decode cX2_rules 148 = .ok (.iastore, 1) := dk_79 (dk_at dksX2_rules_6 7 rfl rfl)
theorem dX2_rules_149 : decode cX2_rules 149 = .ok (.aload_n 0, 1) := dk_42 (dk_at dksX2_rules_6 8 rfl rfl)
theorem dX2_rules_150 : decode cX2_rules 150 = .ok (.getfield 145, 3) := dk_180 0 145 (dk_at dksX2_rules_6 9 rfl rfl)
theorem dX2_rules_153 : decode cX2_rules 153 = .ok (.iload_n 1, 1) := dk_27 (dk_at dksX2_rules_6 12 rfl rfl)
theorem dX2_rules_154 : decode cX2_rules 154 = .ok (.aload_n 0, 1) := dk_42 (dk_at dksX2_rules_6 13 rfl rfl)
theorem dX2_rules_155 : decode cX2_rules 155 = .ok (.getfield 133, 3) := dk_180 0 133 (dk_at dksX2_rules_6 14 rfl rfl)
theorem dX2_rules_158 : decode cX2_rules 158 = .ok (.iload_n 1, 1) := dk_27 (dk_at dksX2_rules_6 17 rfl rfl)
theorem dX2_rules_159 : decode cX2_rules 159 = .ok (.iaload, 1) := dk_46 (dk_at dksX2_rules_6 18 rfl rfl)
theorem dX2_rules_160 : decode cX2_rules 160 = .ok (.iastore, 1) := dk_79 (dk_at dksX2_rules_6 19 rfl rfl)
theorem dX2_rules_161 : decode cX2_rules 161 = .ok (.iinc 1 1, 3) := dk_132 1 1 (dk_at dksX2_rules_6 20 rfl rfl)
theorem dX2_rules_164 : decode cX2_rules 164 = .ok (.goto (-51), 3) := dk_167 255 205 (dk_at dksX2_rules_7 0 rfl rfl)
theorem dX2_rules_167 : decode cX2_rules 167 = .ok (.aload_n 0, 1) := dk_42 (dk_at dksX2_rules_7 3 rfl rfl)
theorem dX2_rules_168 : decode cX2_rules 168 = .ok (.aload_n 0, 1) := dk_42 (dk_at dksX2_rules_7 4 rfl rfl)
theorem dX2_rules_169 : decode cX2_rules 169 = .ok (.getfield 605, 3) := dk_180 2 93 (dk_at dksX2_rules_7 5 rfl rfl)
theorem dX2_rules_172 : decode cX2_rules 172 = .ok (.putfield 336, 3) := dk_181 1 80 (dk_at dksX2_rules_7 8 rfl rfl)
theorem dX2_rules_175 : decode cX2_rules 175 = .ok (.aload_n 0, 1) := dk_42 (dk_at dksX2_rules_7 11 rfl rfl)
theorem dX2_rules_176 : decode cX2_rules 176 = .ok (.aload_n 0, 1) := dk_42 (dk_at dksX2_rules_7 12 rfl rfl)
theorem dX2_rules_177 : decode cX2_rules 177 = .ok (.getfield 590, 3) := dk_180 2 78 (dk_at dksX2_rules_7 13 rfl rfl)
theorem dX2_rules_180 : decode cX2_rules 180 = .ok (.putfield 339, 3) := dk_181 1 83 (dk_at dksX2_rules_7 16 rfl rfl)
theorem dX2_rules_183 : decode cX2_rules 183 = .ok (.aload_n 0, 1) := dk_42 (dk_at dksX2_rules_7 19 rfl rfl)
theorem dX2_rules_184 : decode cX2_rules 184 = .ok (.getfield 336, 3) := dk_180 1 80 (dk_at dksX2_rules_7 20 rfl rfl)
theorem dX2_rules_187 : decode cX2_rules 187 = .ok (.ireturn, 1) := dk_172 (dk_at dksX2_rules_7 23 rfl rfl)
abbrev cX2_readRule : ByteArray := prog_28_method_105_code
def yX2_readRule : MethodName := ⟨RX2, "readRule", "()V"⟩
def dkwX2_readRule_7 : List UInt8 := [181, 2, 93, 42, 180, 0, 130, 42, 180, 2, 93, 42, 180, 2, 57, 79, 177]
abbrev dktX2_readRule_7 : List UInt8 := dkwX2_readRule_7 ++ []
def dkwX2_readRule_6 : List UInt8 := [180, 0, 225, 158, 0, 4, 177, 42, 3, 182, 2, 87, 42, 182, 1, 33, 42, 89, 180, 2, 93, 4, 96]
abbrev dktX2_readRule_6 : List UInt8 := dkwX2_readRule_6 ++ dktX2_readRule_7
def dkwX2_readRule_5 : List UInt8 := [27, 5, 160, 0, 10, 42, 182, 2, 96, 167, 0, 8, 42, 27, 182, 2, 98, 60, 167, 255, 210, 42]
abbrev dktX2_readRule_5 : List UInt8 := dkwX2_readRule_5 ++ dktX2_readRule_6
def dkwX2_readRule_4 : List UInt8 := [154, 0, 45, 27, 5, 160, 0, 19, 42, 180, 0, 212, 16, 59, 160, 0, 10, 42, 182, 2, 84, 153, 0, 24]
abbrev dktX2_readRule_4 : List UInt8 := dkwX2_readRule_4 ++ dktX2_readRule_5
def dkwX2_readRule_3 : List UInt8 := [180, 2, 93, 42, 180, 2, 57, 79, 42, 3, 181, 2, 60, 42, 3, 181, 2, 63, 3, 60, 42, 180, 0, 225]
abbrev dktX2_readRule_3 : List UInt8 := dkwX2_readRule_3 ++ dktX2_readRule_4
def dkwX2_readRule_2 : List UInt8 := [182, 1, 50, 79, 42, 20, 1, 4, 182, 1, 46, 42, 180, 0, 225, 158, 0, 4, 177, 42, 180, 0, 130, 42]
abbrev dktX2_readRule_2 : List UInt8 := dkwX2_readRule_2 ++ dktX2_readRule_3
def dkwX2_readRule_1 : List UInt8 := [180, 0, 133, 42, 180, 2, 93, 16, 6, 162, 0, 10, 42, 180, 2, 93, 167, 0, 4, 3, 42, 3, 16, 99]
abbrev dktX2_readRule_1 : List UInt8 := dkwX2_readRule_1 ++ dktX2_readRule_2
def dkwX2_readRule_0 : List UInt8 := [42, 180, 2, 93, 16, 6, 160, 0, 8, 42, 5, 182, 1, 30, 42, 20, 1, 2, 182, 1, 46, 42]
abbrev dktX2_readRule_0 : List UInt8 := dkwX2_readRule_0 ++ dktX2_readRule_1
theorem dksX2_readRule_0 : cX2_readRule.data.toList.drop 0 = dktX2_readRule_0 := by decide +kernel
theorem dksX2_readRule_1 : cX2_readRule.data.toList.drop 22 = dktX2_readRule_1 := dk_seg dksX2_readRule_0 22 rfl rfl
theorem dksX2_readRule_2 : cX2_readRule.data.toList.drop 46 = dktX2_readRule_2 := dk_seg dksX2_readRule_1 24 rfl rfl
theorem dksX2_readRule_3 : cX2_readRule.data.toList.drop 70 = dktX2_readRule_3 := dk_seg dksX2_readRule_2 24 rfl rfl
theorem dksX2_readRule_4 : cX2_readRule.data.toList.drop 94 = dktX2_readRule_4 := dk_seg dksX2_readRule_3 24 rfl rfl
theorem dksX2_readRule_5 : cX2_readRule.data.toList.drop 118 = dktX2_readRule_5 := dk_seg dksX2_readRule_4 24 rfl rfl
theorem dksX2_readRule_6 : cX2_readRule.data.toList.drop 140 = dktX2_readRule_6 := dk_seg dksX2_readRule_5 22 rfl rfl
theorem dksX2_readRule_7 : cX2_readRule.data.toList.drop 163 = dktX2_readRule_7 := dk_seg dksX2_readRule_6 23 rfl rfl
theorem dX2_readRule_0 : decode cX2_readRule 0 = .ok (.aload_n 0, 1) := dk_42 (dk_at dksX2_readRule_0 0 rfl rfl)
theorem dX2_readRule_1 : decode cX2_readRule 1 = .ok (.getfield 605, 3) := dk_180 2 93 (dk_at dksX2_readRule_0 1 rfl rfl)
theorem dX2_readRule_4 : decode cX2_readRule 4 = .ok (.bipush 6, 2) := dk_16 6 (dk_at dksX2_readRule_0 4 rfl rfl)
theorem dX2_readRule_6 : decode cX2_readRule 6 = .ok (.if_icmp .ne 8, 3) := dk_160 0 8 (dk_at dksX2_readRule_0 6 rfl rfl)
theorem dX2_readRule_9 : decode cX2_readRule 9 = .ok (.aload_n 0, 1) := dk_42 (dk_at dksX2_readRule_0 9 rfl rfl)
theorem dX2_readRule_10 : decode cX2_readRule 10 = .ok (.iconst 2, 1) := dk_5 (dk_at dksX2_readRule_0 10 rfl rfl)
theorem dX2_readRule_11 : decode cX2_readRule 11 = .ok (.invokevirtual 286, 3) := dk_182 1 30 (dk_at dksX2_readRule_0 11 rfl rfl)
theorem dX2_readRule_14 : decode cX2_readRule 14 = .ok (.aload_n 0, 1) := dk_42 (dk_at dksX2_readRule_0 14 rfl rfl)
theorem dX2_readRule_15 : decode cX2_readRule 15 = .ok (.ldc2_w 258, 3) := dk_20 1 2 (dk_at dksX2_readRule_0 15 rfl rfl)
theorem dX2_readRule_18 : decode cX2_readRule 18 = .ok (.invokevirtual 302, 3) := dk_182 1 46 (dk_at dksX2_readRule_0 18 rfl rfl)
theorem dX2_readRule_21 : decode cX2_readRule 21 = .ok (.aload_n 0, 1) := dk_42 (dk_at dksX2_readRule_0 21 rfl rfl)
theorem dX2_readRule_22 : decode cX2_readRule 22 = .ok (.getfield 133, 3) := dk_180 0 133 (dk_at dksX2_readRule_1 0 rfl rfl)
theorem dX2_readRule_25 : decode cX2_readRule 25 = .ok (.aload_n 0, 1) := dk_42 (dk_at dksX2_readRule_1 3 rfl rfl)
theorem dX2_readRule_26 : decode cX2_readRule 26 = .ok (.getfield 605, 3) := dk_180 2 93 (dk_at dksX2_readRule_1 4 rfl rfl)
theorem dX2_readRule_29 : decode cX2_readRule 29 = .ok (.bipush 6, 2) := dk_16 6 (dk_at dksX2_readRule_1 7 rfl rfl)
theorem dX2_readRule_31 : decode cX2_readRule 31 = .ok (.if_icmp .ge 10, 3) := dk_162 0 10 (dk_at dksX2_readRule_1 9 rfl rfl)
theorem dX2_readRule_34 : decode cX2_readRule 34 = .ok (.aload_n 0, 1) := dk_42 (dk_at dksX2_readRule_1 12 rfl rfl)
theorem dX2_readRule_35 : decode cX2_readRule 35 = .ok (.getfield 605, 3) := dk_180 2 93 (dk_at dksX2_readRule_1 13 rfl rfl)
theorem dX2_readRule_38 : decode cX2_readRule 38 = .ok (.goto 4, 3) := dk_167 0 4 (dk_at dksX2_readRule_1 16 rfl rfl)
theorem dX2_readRule_41 : decode cX2_readRule 41 = .ok (.iconst 0, 1) := dk_3 (dk_at dksX2_readRule_1 19 rfl rfl)
theorem dX2_readRule_42 : decode cX2_readRule 42 = .ok (.aload_n 0, 1) := dk_42 (dk_at dksX2_readRule_1 20 rfl rfl)
theorem dX2_readRule_43 : decode cX2_readRule 43 = .ok (.iconst 0, 1) := dk_3 (dk_at dksX2_readRule_1 21 rfl rfl)
theorem dX2_readRule_44 : decode cX2_readRule 44 = .ok (.bipush 99, 2) := dk_16 99 (dk_at dksX2_readRule_1 22 rfl rfl)
theorem dX2_readRule_46 : decode cX2_readRule 46 = .ok (.invokevirtual 306, 3) := dk_182 1 50 (dk_at dksX2_readRule_2 0 rfl rfl)
theorem dX2_readRule_49 : decode cX2_readRule 49 = .ok (.iastore, 1) := dk_79 (dk_at dksX2_readRule_2 3 rfl rfl)
theorem dX2_readRule_50 : decode cX2_readRule 50 = .ok (.aload_n 0, 1) := dk_42 (dk_at dksX2_readRule_2 4 rfl rfl)
theorem dX2_readRule_51 : decode cX2_readRule 51 = .ok (.ldc2_w 260, 3) := dk_20 1 4 (dk_at dksX2_readRule_2 5 rfl rfl)
theorem dX2_readRule_54 : decode cX2_readRule 54 = .ok (.invokevirtual 302, 3) := dk_182 1 46 (dk_at dksX2_readRule_2 8 rfl rfl)
theorem dX2_readRule_57 : decode cX2_readRule 57 = .ok (.aload_n 0, 1) := dk_42 (dk_at dksX2_readRule_2 11 rfl rfl)
theorem dX2_readRule_58 : decode cX2_readRule 58 = .ok (.getfield 225, 3) := dk_180 0 225 (dk_at dksX2_readRule_2 12 rfl rfl)
theorem dX2_readRule_61 : decode cX2_readRule 61 = .ok (.ifCond .le 4, 3) := dk_158 0 4 (dk_at dksX2_readRule_2 15 rfl rfl)
theorem dX2_readRule_64 : decode cX2_readRule 64 = .ok (.return_, 1) := dk_177 (dk_at dksX2_readRule_2 18 rfl rfl)
theorem dX2_readRule_65 : decode cX2_readRule 65 = .ok (.aload_n 0, 1) := dk_42 (dk_at dksX2_readRule_2 19 rfl rfl)
theorem dX2_readRule_66 : decode cX2_readRule 66 = .ok (.getfield 130, 3) := dk_180 0 130 (dk_at dksX2_readRule_2 20 rfl rfl)
theorem dX2_readRule_69 : decode cX2_readRule 69 = .ok (.aload_n 0, 1) := dk_42 (dk_at dksX2_readRule_2 23 rfl rfl)
theorem dX2_readRule_70 : decode cX2_readRule 70 = .ok (.getfield 605, 3) := dk_180 2 93 (dk_at dksX2_readRule_3 0 rfl rfl)
theorem dX2_readRule_73 : decode cX2_readRule 73 = .ok (.aload_n 0, 1) := dk_42 (dk_at dksX2_readRule_3 3 rfl rfl)
theorem dX2_readRule_74 : decode cX2_readRule 74 = .ok (.getfield 569, 3) := dk_180 2 57 (dk_at dksX2_readRule_3 4 rfl rfl)
theorem dX2_readRule_77 : decode cX2_readRule 77 = .ok (.iastore, 1) := dk_79 (dk_at dksX2_readRule_3 7 rfl rfl)
theorem dX2_readRule_78 : decode cX2_readRule 78 = .ok (.aload_n 0, 1) := dk_42 (dk_at dksX2_readRule_3 8 rfl rfl)
theorem dX2_readRule_79 : decode cX2_readRule 79 = .ok (.iconst 0, 1) := dk_3 (dk_at dksX2_readRule_3 9 rfl rfl)
theorem dX2_readRule_80 : decode cX2_readRule 80 = .ok (.putfield 572, 3) := dk_181 2 60 (dk_at dksX2_readRule_3 10 rfl rfl)
theorem dX2_readRule_83 : decode cX2_readRule 83 = .ok (.aload_n 0, 1) := dk_42 (dk_at dksX2_readRule_3 13 rfl rfl)
theorem dX2_readRule_84 : decode cX2_readRule 84 = .ok (.iconst 0, 1) := dk_3 (dk_at dksX2_readRule_3 14 rfl rfl)
theorem dX2_readRule_85 : decode cX2_readRule 85 = .ok (.putfield 575, 3) := dk_181 2 63 (dk_at dksX2_readRule_3 15 rfl rfl)
theorem dX2_readRule_88 : decode cX2_readRule 88 = .ok (.iconst 0, 1) := dk_3 (dk_at dksX2_readRule_3 18 rfl rfl)
theorem dX2_readRule_89 : decode cX2_readRule 89 = .ok (.istore_n 1, 1) := dk_60 (dk_at dksX2_readRule_3 19 rfl rfl)
theorem dX2_readRule_90 : decode cX2_readRule 90 = .ok (.aload_n 0, 1) := dk_42 (dk_at dksX2_readRule_3 20 rfl rfl)
theorem dX2_readRule_91 : decode cX2_readRule 91 = .ok (.getfield 225, 3) := dk_180 0 225 (dk_at dksX2_readRule_3 21 rfl rfl)
theorem dX2_readRule_94 : decode cX2_readRule 94 = .ok (.ifCond .ne 45, 3) := dk_154 0 45 (dk_at dksX2_readRule_4 0 rfl rfl)
theorem dX2_readRule_97 : decode cX2_readRule 97 = .ok (.iload_n 1, 1) := dk_27 (dk_at dksX2_readRule_4 3 rfl rfl)
theorem dX2_readRule_98 : decode cX2_readRule 98 = .ok (.iconst 2, 1) := dk_5 (dk_at dksX2_readRule_4 4 rfl rfl)
theorem dX2_readRule_99 : decode cX2_readRule 99 = .ok (.if_icmp .ne 19, 3) := dk_160 0 19 (dk_at dksX2_readRule_4 5 rfl rfl)
theorem dX2_readRule_102 : decode cX2_readRule 102 = .ok (.aload_n 0, 1) := dk_42 (dk_at dksX2_readRule_4 8 rfl rfl)
theorem dX2_readRule_103 : decode cX2_readRule 103 = .ok (.getfield 212, 3) := dk_180 0 212 (dk_at dksX2_readRule_4 9 rfl rfl)
theorem dX2_readRule_106 : decode cX2_readRule 106 = .ok (.bipush 59, 2) := dk_16 59 (dk_at dksX2_readRule_4 12 rfl rfl)
theorem dX2_readRule_108 : decode cX2_readRule 108 = .ok (.if_icmp .ne 10, 3) := dk_160 0 10 (dk_at dksX2_readRule_4 14 rfl rfl)
theorem dX2_readRule_111 : decode cX2_readRule 111 = .ok (.aload_n 0, 1) := dk_42 (dk_at dksX2_readRule_4 17 rfl rfl)
theorem dX2_readRule_112 : decode cX2_readRule 112 = .ok (.invokevirtual 596, 3) := dk_182 2 84 (dk_at dksX2_readRule_4 18 rfl rfl)
theorem dX2_readRule_115 : decode cX2_readRule 115 = .ok (.ifCond .eq 24, 3) := dk_153 0 24 (dk_at dksX2_readRule_4 21 rfl rfl)
theorem dX2_readRule_118 : decode cX2_readRule 118 = .ok (.iload_n 1, 1) := dk_27 (dk_at dksX2_readRule_5 0 rfl rfl)
theorem dX2_readRule_119 : decode cX2_readRule 119 = .ok (.iconst 2, 1) := dk_5 (dk_at dksX2_readRule_5 1 rfl rfl)
theorem dX2_readRule_120 : decode cX2_readRule 120 = .ok (.if_icmp .ne 10, 3) := dk_160 0 10 (dk_at dksX2_readRule_5 2 rfl rfl)
theorem dX2_readRule_123 : decode cX2_readRule 123 = .ok (.aload_n 0, 1) := dk_42 (dk_at dksX2_readRule_5 5 rfl rfl)
theorem dX2_readRule_124 : decode cX2_readRule 124 = .ok (.invokevirtual 608, 3) := dk_182 2 96 (dk_at dksX2_readRule_5 6 rfl rfl)
theorem dX2_readRule_127 : decode cX2_readRule 127 = .ok (.goto 8, 3) := dk_167 0 8 (dk_at dksX2_readRule_5 9 rfl rfl)
theorem dX2_readRule_130 : decode cX2_readRule 130 = .ok (.aload_n 0, 1) := dk_42 (dk_at dksX2_readRule_5 12 rfl rfl)
theorem dX2_readRule_131 : decode cX2_readRule 131 = .ok (.iload_n 1, 1) := dk_27 (dk_at dksX2_readRule_5 13 rfl rfl)
theorem dX2_readRule_132 : decode cX2_readRule 132 = .ok (.invokevirtual 610, 3) := dk_182 2 98 (dk_at dksX2_readRule_5 14 rfl rfl)
theorem dX2_readRule_135 : decode cX2_readRule 135 = .ok (.istore_n 1, 1) := dk_60 (dk_at dksX2_readRule_5 17 rfl rfl)
theorem dX2_readRule_136 : decode cX2_readRule 136 = .ok (.goto (-46), 3) := dk_167 255 210 (dk_at dksX2_readRule_5 18 rfl rfl)
theorem dX2_readRule_139 : decode cX2_readRule 139 = .ok (.aload_n 0, 1) := dk_42 (dk_at dksX2_readRule_5 21 rfl rfl)
theorem dX2_readRule_140 : decode cX2_readRule 140 = .ok (.getfield 225, 3) := dk_180 0 225 (dk_at dksX2_readRule_6 0 rfl rfl)
theorem dX2_readRule_143 : decode cX2_readRule 143 = .ok (.ifCond .le 4, 3) := dk_158 0 4 (dk_at dksX2_readRule_6 3 rfl rfl)
theorem dX2_readRule_146 : decode cX2_readRule 146 = .ok (.return_, 1) := dk_177 (dk_at dksX2_readRule_6 6 rfl rfl)
theorem dX2_readRule_147 : decode cX2_readRule 147 = .ok (.aload_n 0, 1) := dk_42 (dk_at dksX2_readRule_6 7 rfl rfl)
theorem dX2_readRule_148 : decode cX2_readRule 148 = .ok (.iconst 0, 1) := dk_3 (dk_at dksX2_readRule_6 8 rfl rfl)
theorem dX2_readRule_149 : decode cX2_readRule 149 = .ok (.invokevirtual 599, 3) := dk_182 2 87 (dk_at dksX2_readRule_6 9 rfl rfl)
theorem dX2_readRule_152 : decode cX2_readRule 152 = .ok (.aload_n 0, 1) := dk_42 (dk_at dksX2_readRule_6 12 rfl rfl)
theorem dX2_readRule_153 : decode cX2_readRule 153 = .ok (.invokevirtual 289, 3) := dk_182 1 33 (dk_at dksX2_readRule_6 13 rfl rfl)
theorem dX2_readRule_156 : decode cX2_readRule 156 = .ok (.aload_n 0, 1) := dk_42 (dk_at dksX2_readRule_6 16 rfl rfl)
theorem dX2_readRule_157 : decode cX2_readRule 157 = .ok (.dup, 1) := dk_89 (dk_at dksX2_readRule_6 17 rfl rfl)
theorem dX2_readRule_158 : decode cX2_readRule 158 = .ok (.getfield 605, 3) := dk_180 2 93 (dk_at dksX2_readRule_6 18 rfl rfl)
theorem dX2_readRule_161 : decode cX2_readRule 161 = .ok (.iconst 1, 1) := dk_4 (dk_at dksX2_readRule_6 21 rfl rfl)
theorem dX2_readRule_162 : decode cX2_readRule 162 = .ok (.iadd, 1) := dk_96 (dk_at dksX2_readRule_6 22 rfl rfl)
theorem dX2_readRule_163 : decode cX2_readRule 163 = .ok (.putfield 605, 3) := dk_181 2 93 (dk_at dksX2_readRule_7 0 rfl rfl)
theorem dX2_readRule_166 : decode cX2_readRule 166 = .ok (.aload_n 0, 1) := dk_42 (dk_at dksX2_readRule_7 3 rfl rfl)
theorem dX2_readRule_167 : decode cX2_readRule 167 = .ok (.getfield 130, 3) := dk_180 0 130 (dk_at dksX2_readRule_7 4 rfl rfl)
theorem dX2_readRule_170 : decode cX2_readRule 170 = .ok (.aload_n 0, 1) := dk_42 (dk_at dksX2_readRule_7 7 rfl rfl)
theorem dX2_readRule_171 : decode cX2_readRule 171 = .ok (.getfield 605, 3) := dk_180 2 93 (dk_at dksX2_readRule_7 8 rfl rfl)
theorem dX2_readRule_174 : decode cX2_readRule 174 = .ok (.aload_n 0, 1) := dk_42 (dk_at dksX2_readRule_7 11 rfl rfl)
theorem dX2_readRule_175 : decode cX2_readRule 175 = .ok (.getfield 569, 3) := dk_180 2 57 (dk_at dksX2_readRule_7 12 rfl rfl)
theorem dX2_readRule_178 : decode cX2_readRule 178 = .ok (.iastore, 1) := dk_79 (dk_at dksX2_readRule_7 15 rfl rfl)
theorem dX2_readRule_179 : decode cX2_readRule 179 = .ok (.return_, 1) := dk_177 (dk_at dksX2_readRule_7 16 rfl rfl)
abbrev cX2_isOpen : ByteArray := prog_28_method_100_code
def yX2_isOpen : MethodName := ⟨RX2, "isOpen", "()Z"⟩
def dkwX2_isOpen_1 : List UInt8 := [160, 0, 7, 4, 167, 0, 4, 3, 60, 132, 2, 1, 167, 255, 224, 27, 172]
abbrev dktX2_isOpen_1 : List UInt8 := dkwX2_isOpen_1 ++ []
def dkwX2_isOpen_0 : List UInt8 := [3, 60, 3, 61, 28, 42, 180, 2, 60, 162, 0, 30, 27, 154, 0, 14, 42, 180, 0, 148, 28, 46, 16, 30]
abbrev dktX2_isOpen_0 : List UInt8 := dkwX2_isOpen_0 ++ dktX2_isOpen_1
theorem dksX2_isOpen_0 : cX2_isOpen.data.toList.drop 0 = dktX2_isOpen_0 := by decide +kernel
theorem dksX2_isOpen_1 : cX2_isOpen.data.toList.drop 24 = dktX2_isOpen_1 := dk_seg dksX2_isOpen_0 24 rfl rfl
theorem dX2_isOpen_0 : decode cX2_isOpen 0 = .ok (.iconst 0, 1) := dk_3 (dk_at dksX2_isOpen_0 0 rfl rfl)
theorem dX2_isOpen_1 : decode cX2_isOpen 1 = .ok (.istore_n 1, 1) := dk_60 (dk_at dksX2_isOpen_0 1 rfl rfl)
theorem dX2_isOpen_2 : decode cX2_isOpen 2 = .ok (.iconst 0, 1) := dk_3 (dk_at dksX2_isOpen_0 2 rfl rfl)
theorem dX2_isOpen_3 : decode cX2_isOpen 3 = .ok (.istore_n 2, 1) := dk_61 (dk_at dksX2_isOpen_0 3 rfl rfl)
theorem dX2_isOpen_4 : decode cX2_isOpen 4 = .ok (.iload_n 2, 1) := dk_28 (dk_at dksX2_isOpen_0 4 rfl rfl)
theorem dX2_isOpen_5 : decode cX2_isOpen 5 = .ok (.aload_n 0, 1) := dk_42 (dk_at dksX2_isOpen_0 5 rfl rfl)
theorem dX2_isOpen_6 : decode cX2_isOpen 6 = .ok (.getfield 572, 3) := dk_180 2 60 (dk_at dksX2_isOpen_0 6 rfl rfl)
theorem dX2_isOpen_9 : decode cX2_isOpen 9 = .ok (.if_icmp .ge 30, 3) := dk_162 0 30 (dk_at dksX2_isOpen_0 9 rfl rfl)
theorem dX2_isOpen_12 : decode cX2_isOpen 12 = .ok (.iload_n 1, 1) := dk_27 (dk_at dksX2_isOpen_0 12 rfl rfl)
theorem dX2_isOpen_13 : decode cX2_isOpen 13 = .ok (.ifCond .ne 14, 3) := dk_154 0 14 (dk_at dksX2_isOpen_0 13 rfl rfl)
theorem dX2_isOpen_16 : decode cX2_isOpen 16 = .ok (.aload_n 0, 1) := dk_42 (dk_at dksX2_isOpen_0 16 rfl rfl)
theorem dX2_isOpen_17 : decode cX2_isOpen 17 = .ok (.getfield 148, 3) := dk_180 0 148 (dk_at dksX2_isOpen_0 17 rfl rfl)
theorem dX2_isOpen_20 : decode cX2_isOpen 20 = .ok (.iload_n 2, 1) := dk_28 (dk_at dksX2_isOpen_0 20 rfl rfl)
theorem dX2_isOpen_21 : decode cX2_isOpen 21 = .ok (.iaload, 1) := dk_46 (dk_at dksX2_isOpen_0 21 rfl rfl)
theorem dX2_isOpen_22 : decode cX2_isOpen 22 = .ok (.bipush 30, 2) := dk_16 30 (dk_at dksX2_isOpen_0 22 rfl rfl)
theorem dX2_isOpen_24 : decode cX2_isOpen 24 = .ok (.if_icmp .ne 7, 3) := dk_160 0 7 (dk_at dksX2_isOpen_1 0 rfl rfl)
theorem dX2_isOpen_27 : decode cX2_isOpen 27 = .ok (.iconst 1, 1) := dk_4 (dk_at dksX2_isOpen_1 3 rfl rfl)
theorem dX2_isOpen_28 : decode cX2_isOpen 28 = .ok (.goto 4, 3) := dk_167 0 4 (dk_at dksX2_isOpen_1 4 rfl rfl)
theorem dX2_isOpen_31 : decode cX2_isOpen 31 = .ok (.iconst 0, 1) := dk_3 (dk_at dksX2_isOpen_1 7 rfl rfl)
theorem dX2_isOpen_32 : decode cX2_isOpen 32 = .ok (.istore_n 1, 1) := dk_60 (dk_at dksX2_isOpen_1 8 rfl rfl)
theorem dX2_isOpen_33 : decode cX2_isOpen 33 = .ok (.iinc 2 1, 3) := dk_132 2 1 (dk_at dksX2_isOpen_1 9 rfl rfl)
theorem dX2_isOpen_36 : decode cX2_isOpen 36 = .ok (.goto (-32), 3) := dk_167 255 224 (dk_at dksX2_isOpen_1 12 rfl rfl)
theorem dX2_isOpen_39 : decode cX2_isOpen 39 = .ok (.iload_n 1, 1) := dk_27 (dk_at dksX2_isOpen_1 15 rfl rfl)
theorem dX2_isOpen_40 : decode cX2_isOpen 40 = .ok (.ireturn, 1) := dk_172 (dk_at dksX2_isOpen_1 16 rfl rfl)
abbrev cX2_sign_2 : ByteArray := prog_28_method_104_code
def yX2_sign_2 : MethodName := ⟨RX2, "sign", "()I"⟩
def dkwX2_sign_2_10 : List UInt8 := [160, 0, 7, 3, 167, 0, 4, 4, 172]
abbrev dktX2_sign_2_10 : List UInt8 := dkwX2_sign_2_10 ++ []
def dkwX2_sign_2_9 : List UInt8 := [158, 0, 5, 5, 172, 42, 27, 182, 2, 81, 42, 182, 1, 33, 27, 16, 21, 159, 0, 9, 27, 16, 20]
abbrev dktX2_sign_2_9 : List UInt8 := dkwX2_sign_2_9 ++ dktX2_sign_2_10
def dkwX2_sign_2_8 : List UInt8 := [160, 0, 19, 42, 5, 182, 1, 30, 167, 0, 11, 42, 27, 184, 2, 90, 182, 2, 87, 42, 180, 0, 225]
abbrev dktX2_sign_2_8 : List UInt8 := dkwX2_sign_2_8 ++ dktX2_sign_2_9
def dkwX2_sign_2_7 : List UInt8 := [184, 2, 90, 16, 23, 160, 0, 29, 42, 16, 26, 182, 2, 87, 42, 182, 2, 69, 184, 2, 90, 16, 23]
abbrev dktX2_sign_2_7 : List UInt8 := dkwX2_sign_2_7 ++ dktX2_sign_2_8
def dkwX2_sign_2_6 : List UInt8 := [100, 181, 2, 63, 42, 182, 1, 33, 5, 172, 27, 156, 0, 10, 42, 5, 182, 1, 30, 5, 172, 27]
abbrev dktX2_sign_2_6 : List UInt8 := dkwX2_sign_2_6 ++ dktX2_sign_2_7
def dkwX2_sign_2_5 : List UInt8 := [153, 0, 34, 42, 3, 182, 2, 87, 42, 89, 180, 2, 60, 4, 100, 181, 2, 60, 42, 89, 180, 2, 63, 4]
abbrev dktX2_sign_2_5 : List UInt8 := dkwX2_sign_2_5 ++ dktX2_sign_2_6
def dkwX2_sign_2_4 : List UInt8 := [153, 0, 8, 16, 20, 167, 0, 4, 2, 60, 42, 180, 0, 212, 16, 41, 160, 0, 41, 42, 182, 2, 84]
abbrev dktX2_sign_2_4 : List UInt8 := dkwX2_sign_2_4 ++ dktX2_sign_2_5
def dkwX2_sign_2_3 : List UInt8 := [42, 20, 1, 20, 182, 1, 26, 153, 0, 8, 16, 21, 167, 0, 19, 42, 20, 1, 22, 182, 1, 26]
abbrev dktX2_sign_2_3 : List UInt8 := dkwX2_sign_2_3 ++ dktX2_sign_2_4
def dkwX2_sign_2_2 : List UInt8 := [16, 60, 160, 0, 8, 16, 24, 167, 0, 48, 42, 180, 0, 212, 16, 62, 160, 0, 8, 16, 25, 167, 0, 34]
abbrev dktX2_sign_2_2 : List UInt8 := dkwX2_sign_2_2 ++ dktX2_sign_2_3
def dkwX2_sign_2_1 : List UInt8 := [16, 27, 167, 0, 76, 42, 180, 0, 212, 16, 61, 160, 0, 8, 16, 23, 167, 0, 62, 42, 180, 0, 212]
abbrev dktX2_sign_2_1 : List UInt8 := dkwX2_sign_2_1 ++ dktX2_sign_2_2
def dkwX2_sign_2_0 : List UInt8 := [42, 180, 0, 212, 16, 43, 160, 0, 8, 16, 26, 167, 0, 90, 42, 180, 0, 212, 16, 45, 160, 0, 8]
abbrev dktX2_sign_2_0 : List UInt8 := dkwX2_sign_2_0 ++ dktX2_sign_2_1
theorem dksX2_sign_2_0 : cX2_sign_2.data.toList.drop 0 = dktX2_sign_2_0 := by decide +kernel
theorem dksX2_sign_2_1 : cX2_sign_2.data.toList.drop 23 = dktX2_sign_2_1 := dk_seg dksX2_sign_2_0 23 rfl rfl
theorem dksX2_sign_2_2 : cX2_sign_2.data.toList.drop 46 = dktX2_sign_2_2 := dk_seg dksX2_sign_2_1 23 rfl rfl
theorem dksX2_sign_2_3 : cX2_sign_2.data.toList.drop 70 = dktX2_sign_2_3 := dk_seg dksX2_sign_2_2 24 rfl rfl
theorem dksX2_sign_2_4 : cX2_sign_2.data.toList.drop 92 = dktX2_sign_2_4 := dk_seg dksX2_sign_2_3 22 rfl rfl
theorem dksX2_sign_2_5 : cX2_sign_2.data.toList.drop 115 = dktX2_sign_2_5 := dk_seg dksX2_sign_2_4 23 rfl rfl
theorem dksX2_sign_2_6 : cX2_sign_2.data.toList.drop 139 = dktX2_sign_2_6 := dk_seg dksX2_sign_2_5 24 rfl rfl
theorem dksX2_sign_2_7 : cX2_sign_2.data.toList.drop 161 = dktX2_sign_2_7 := dk_seg dksX2_sign_2_6 22 rfl rfl
theorem dksX2_sign_2_8 : cX2_sign_2.data.toList.drop 184 = dktX2_sign_2_8 := dk_seg dksX2_sign_2_7 23 rfl rfl
theorem dksX2_sign_2_9 : cX2_sign_2.data.toList.drop 207 = dktX2_sign_2_9 := dk_seg dksX2_sign_2_8 23 rfl rfl
theorem dksX2_sign_2_10 : cX2_sign_2.data.toList.drop 230 = dktX2_sign_2_10 := dk_seg dksX2_sign_2_9 23 rfl rfl
theorem dX2_sign_2_0 : decode cX2_sign_2 0 = .ok (.aload_n 0, 1) := dk_42 (dk_at dksX2_sign_2_0 0 rfl rfl)
theorem dX2_sign_2_1 : decode cX2_sign_2 1 = .ok (.getfield 212, 3) := dk_180 0 212 (dk_at dksX2_sign_2_0 1 rfl rfl)
theorem dX2_sign_2_4 : decode cX2_sign_2 4 = .ok (.bipush 43, 2) := dk_16 43 (dk_at dksX2_sign_2_0 4 rfl rfl)
theorem dX2_sign_2_6 : decode cX2_sign_2 6 = .ok (.if_icmp .ne 8, 3) := dk_160 0 8 (dk_at dksX2_sign_2_0 6 rfl rfl)
theorem dX2_sign_2_9 : decode cX2_sign_2 9 = .ok (.bipush 26, 2) := dk_16 26 (dk_at dksX2_sign_2_0 9 rfl rfl)
theorem dX2_sign_2_11 : decode cX2_sign_2 11 = .ok (.goto 90, 3) := dk_167 0 90 (dk_at dksX2_sign_2_0 11 rfl rfl)
theorem dX2_sign_2_14 : decode cX2_sign_2 14 = .ok (.aload_n 0, 1) := dk_42 (dk_at dksX2_sign_2_0 14 rfl rfl)
theorem dX2_sign_2_15 : decode cX2_sign_2 15 = .ok (.getfield 212, 3) := dk_180 0 212 (dk_at dksX2_sign_2_0 15 rfl rfl)
theorem dX2_sign_2_18 : decode cX2_sign_2 18 = .ok (.bipush 45, 2) := dk_16 45 (dk_at dksX2_sign_2_0 18 rfl rfl)
theorem dX2_sign_2_20 : decode cX2_sign_2 20 = .ok (.if_icmp .ne 8, 3) := dk_160 0 8 (dk_at dksX2_sign_2_0 20 rfl rfl)
theorem dX2_sign_2_23 : decode cX2_sign_2 23 = .ok (.bipush 27, 2) := dk_16 27 (dk_at dksX2_sign_2_1 0 rfl rfl)
theorem dX2_sign_2_25 : decode cX2_sign_2 25 = .ok (.goto 76, 3) := dk_167 0 76 (dk_at dksX2_sign_2_1 2 rfl rfl)
theorem dX2_sign_2_28 : decode cX2_sign_2 28 = .ok (.aload_n 0, 1) := dk_42 (dk_at dksX2_sign_2_1 5 rfl rfl)
theorem dX2_sign_2_29 : decode cX2_sign_2 29 = .ok (.getfield 212, 3) := dk_180 0 212 (dk_at dksX2_sign_2_1 6 rfl rfl)
theorem dX2_sign_2_32 : decode cX2_sign_2 32 = .ok (.bipush 61, 2) := dk_16 61 (dk_at dksX2_sign_2_1 9 rfl rfl)
theorem dX2_sign_2_34 : decode cX2_sign_2 34 = .ok (.if_icmp .ne 8, 3) := dk_160 0 8 (dk_at dksX2_sign_2_1 11 rfl rfl)
theorem dX2_sign_2_37 : decode cX2_sign_2 37 = .ok (.bipush 23, 2) := dk_16 23 (dk_at dksX2_sign_2_1 14 rfl rfl)
theorem dX2_sign_2_39 : decode cX2_sign_2 39 = .ok (.goto 62, 3) := dk_167 0 62 (dk_at dksX2_sign_2_1 16 rfl rfl)
theorem dX2_sign_2_42 : decode cX2_sign_2 42 = .ok (.aload_n 0, 1) := dk_42 (dk_at dksX2_sign_2_1 19 rfl rfl)
theorem dX2_sign_2_43 : decode cX2_sign_2 43 = .ok (.getfield 212, 3) := dk_180 0 212 (dk_at dksX2_sign_2_1 20 rfl rfl)
theorem dX2_sign_2_46 : decode cX2_sign_2 46 = .ok (.bipush 60, 2) := dk_16 60 (dk_at dksX2_sign_2_2 0 rfl rfl)
theorem dX2_sign_2_48 : decode cX2_sign_2 48 = .ok (.if_icmp .ne 8, 3) := dk_160 0 8 (dk_at dksX2_sign_2_2 2 rfl rfl)
theorem dX2_sign_2_51 : decode cX2_sign_2 51 = .ok (.bipush 24, 2) := dk_16 24 (dk_at dksX2_sign_2_2 5 rfl rfl)
theorem dX2_sign_2_53 : decode cX2_sign_2 53 = .ok (.goto 48, 3) := dk_167 0 48 (dk_at dksX2_sign_2_2 7 rfl rfl)
theorem dX2_sign_2_56 : decode cX2_sign_2 56 = .ok (.aload_n 0, 1) := dk_42 (dk_at dksX2_sign_2_2 10 rfl rfl)
theorem dX2_sign_2_57 : decode cX2_sign_2 57 = .ok (.getfield 212, 3) := dk_180 0 212 (dk_at dksX2_sign_2_2 11 rfl rfl)
theorem dX2_sign_2_60 : decode cX2_sign_2 60 = .ok (.bipush 62, 2) := dk_16 62 (dk_at dksX2_sign_2_2 14 rfl rfl)
theorem dX2_sign_2_62 : decode cX2_sign_2 62 = .ok (.if_icmp .ne 8, 3) := dk_160 0 8 (dk_at dksX2_sign_2_2 16 rfl rfl)
theorem dX2_sign_2_65 : decode cX2_sign_2 65 = .ok (.bipush 25, 2) := dk_16 25 (dk_at dksX2_sign_2_2 19 rfl rfl)
theorem dX2_sign_2_67 : decode cX2_sign_2 67 = .ok (.goto 34, 3) := dk_167 0 34 (dk_at dksX2_sign_2_2 21 rfl rfl)
theorem dX2_sign_2_70 : decode cX2_sign_2 70 = .ok (.aload_n 0, 1) := dk_42 (dk_at dksX2_sign_2_3 0 rfl rfl)
theorem dX2_sign_2_71 : decode cX2_sign_2 71 = .ok (.ldc2_w 276, 3) := dk_20 1 20 (dk_at dksX2_sign_2_3 1 rfl rfl)
theorem dX2_sign_2_74 : decode cX2_sign_2 74 = .ok (.invokevirtual 282, 3) := dk_182 1 26 (dk_at dksX2_sign_2_3 4 rfl rfl)
theorem dX2_sign_2_77 : decode cX2_sign_2 77 = .ok (.ifCond .eq 8, 3) := dk_153 0 8 (dk_at dksX2_sign_2_3 7 rfl rfl)
theorem dX2_sign_2_80 : decode cX2_sign_2 80 = .ok (.bipush 21, 2) := dk_16 21 (dk_at dksX2_sign_2_3 10 rfl rfl)
theorem dX2_sign_2_82 : decode cX2_sign_2 82 = .ok (.goto 19, 3) := dk_167 0 19 (dk_at dksX2_sign_2_3 12 rfl rfl)
theorem dX2_sign_2_85 : decode cX2_sign_2 85 = .ok (.aload_n 0, 1) := dk_42 (dk_at dksX2_sign_2_3 15 rfl rfl)
theorem dX2_sign_2_86 : decode cX2_sign_2 86 = .ok (.ldc2_w 278, 3) := dk_20 1 22 (dk_at dksX2_sign_2_3 16 rfl rfl)
theorem dX2_sign_2_89 : decode cX2_sign_2 89 = .ok (.invokevirtual 282, 3) := dk_182 1 26 (dk_at dksX2_sign_2_3 19 rfl rfl)
theorem dX2_sign_2_92 : decode cX2_sign_2 92 = .ok (.ifCond .eq 8, 3) := dk_153 0 8 (dk_at dksX2_sign_2_4 0 rfl rfl)
theorem dX2_sign_2_95 : decode cX2_sign_2 95 = .ok (.bipush 20, 2) := dk_16 20 (dk_at dksX2_sign_2_4 3 rfl rfl)
theorem dX2_sign_2_97 : decode cX2_sign_2 97 = .ok (.goto 4, 3) := dk_167 0 4 (dk_at dksX2_sign_2_4 5 rfl rfl)
theorem dX2_sign_2_100 : decode cX2_sign_2 100 = .ok (.iconst (-1), 1) := dk_2 (dk_at dksX2_sign_2_4 8 rfl rfl)
theorem dX2_sign_2_101 : decode cX2_sign_2 101 = .ok (.istore_n 1, 1) := dk_60 (dk_at dksX2_sign_2_4 9 rfl rfl)
theorem dX2_sign_2_102 : decode cX2_sign_2 102 = .ok (.aload_n 0, 1) := dk_42 (dk_at dksX2_sign_2_4 10 rfl rfl)
theorem dX2_sign_2_103 : decode cX2_sign_2 103 = .ok (.getfield 212, 3) := dk_180 0 212 (dk_at dksX2_sign_2_4 11 rfl rfl)
theorem dX2_sign_2_106 : decode cX2_sign_2 106 = .ok (.bipush 41, 2) := dk_16 41 (dk_at dksX2_sign_2_4 14 rfl rfl)
theorem dX2_sign_2_108 : decode cX2_sign_2 108 = .ok (.if_icmp .ne 41, 3) := dk_160 0 41 (dk_at dksX2_sign_2_4 16 rfl rfl)
theorem dX2_sign_2_111 : decode cX2_sign_2 111 = .ok (.aload_n 0, 1) := dk_42 (dk_at dksX2_sign_2_4 19 rfl rfl)
theorem dX2_sign_2_112 : decode cX2_sign_2 112 = .ok (.invokevirtual 596, 3) := dk_182 2 84 (dk_at dksX2_sign_2_4 20 rfl rfl)
theorem dX2_sign_2_115 : decode cX2_sign_2 115 = .ok (.ifCond .eq 34, 3) := dk_153 0 34 (dk_at dksX2_sign_2_5 0 rfl rfl)
theorem dX2_sign_2_118 : decode cX2_sign_2 118 = .ok (.aload_n 0, 1) := dk_42 (dk_at dksX2_sign_2_5 3 rfl rfl)
theorem dX2_sign_2_119 : decode cX2_sign_2 119 = .ok (.iconst 0, 1) := dk_3 (dk_at dksX2_sign_2_5 4 rfl rfl)
theorem dX2_sign_2_120 : decode cX2_sign_2 120 = .ok (.invokevirtual 599, 3) := dk_182 2 87 (dk_at dksX2_sign_2_5 5 rfl rfl)
theorem dX2_sign_2_123 : decode cX2_sign_2 123 = .ok (.aload_n 0, 1) := dk_42 (dk_at dksX2_sign_2_5 8 rfl rfl)
theorem dX2_sign_2_124 : decode cX2_sign_2 124 = .ok (.dup, 1) := dk_89 (dk_at dksX2_sign_2_5 9 rfl rfl)
theorem dX2_sign_2_125 : decode cX2_sign_2 125 = .ok (.getfield 572, 3) := dk_180 2 60 (dk_at dksX2_sign_2_5 10 rfl rfl)
theorem dX2_sign_2_128 : decode cX2_sign_2 128 = .ok (.iconst 1, 1) := dk_4 (dk_at dksX2_sign_2_5 13 rfl rfl)
theorem dX2_sign_2_129 : decode cX2_sign_2 129 = .ok (.isub, 1) := dk_100 (dk_at dksX2_sign_2_5 14 rfl rfl)
theorem dX2_sign_2_130 : decode cX2_sign_2 130 = .ok (.putfield 572, 3) := dk_181 2 60 (dk_at dksX2_sign_2_5 15 rfl rfl)
theorem dX2_sign_2_133 : decode cX2_sign_2 133 = .ok (.aload_n 0, 1) := dk_42 (dk_at dksX2_sign_2_5 18 rfl rfl)
theorem dX2_sign_2_134 : decode cX2_sign_2 134 = .ok (.dup, 1) := dk_89 (dk_at dksX2_sign_2_5 19 rfl rfl)
theorem dX2_sign_2_135 : decode cX2_sign_2 135 = .ok (.getfield 575, 3) := dk_180 2 63 (dk_at dksX2_sign_2_5 20 rfl rfl)
theorem dX2_sign_2_138 : decode cX2_sign_2 138 = .ok (.iconst 1, 1) := dk_4 (dk_at dksX2_sign_2_5 23 rfl rfl)
theorem dX2_sign_2_139 : decode cX2_sign_2 139 = .ok (.isub, 1) := dk_100 (dk_at dksX2_sign_2_6 0 rfl rfl)
theorem dX2_sign_2_140 : decode cX2_sign_2 140 = .ok (.putfield 575, 3) := dk_181 2 63 (dk_at dksX2_sign_2_6 1 rfl rfl)
theorem dX2_sign_2_143 : decode cX2_sign_2 143 = .ok (.aload_n 0, 1) := dk_42 (dk_at dksX2_sign_2_6 4 rfl rfl)
theorem dX2_sign_2_144 : decode cX2_sign_2 144 = .ok (.invokevirtual 289, 3) := dk_182 1 33 (dk_at dksX2_sign_2_6 5 rfl rfl)
theorem dX2_sign_2_147 : decode cX2_sign_2 147 = .ok (.iconst 2, 1) := dk_5 (dk_at dksX2_sign_2_6 8 rfl rfl)
theorem dX2_sign_2_148 : decode cX2_sign_2 148 = .ok (.ireturn, 1) := dk_172 (dk_at dksX2_sign_2_6 9 rfl rfl)
theorem dX2_sign_2_149 : decode cX2_sign_2 149 = .ok (.iload_n 1, 1) := dk_27 (dk_at dksX2_sign_2_6 10 rfl rfl)
theorem dX2_sign_2_150 : decode cX2_sign_2 150 = .ok (.ifCond .ge 10, 3) := dk_156 0 10 (dk_at dksX2_sign_2_6 11 rfl rfl)
theorem dX2_sign_2_153 : decode cX2_sign_2 153 = .ok (.aload_n 0, 1) := dk_42 (dk_at dksX2_sign_2_6 14 rfl rfl)
theorem dX2_sign_2_154 : decode cX2_sign_2 154 = .ok (.iconst 2, 1) := dk_5 (dk_at dksX2_sign_2_6 15 rfl rfl)
theorem dX2_sign_2_155 : decode cX2_sign_2 155 = .ok (.invokevirtual 286, 3) := dk_182 1 30 (dk_at dksX2_sign_2_6 16 rfl rfl)
theorem dX2_sign_2_158 : decode cX2_sign_2 158 = .ok (.iconst 2, 1) := dk_5 (dk_at dksX2_sign_2_6 19 rfl rfl)
theorem dX2_sign_2_159 : decode cX2_sign_2 159 = .ok (.ireturn, 1) := dk_172 (dk_at dksX2_sign_2_6 20 rfl rfl)
theorem dX2_sign_2_160 : decode cX2_sign_2 160 = .ok (.iload_n 1, 1) := dk_27 (dk_at dksX2_sign_2_6 21 rfl rfl)
theorem dX2_sign_2_161 : decode cX2_sign_2 161 = .ok (.invokestatic 602, 3) := dk_184 2 90 (dk_at dksX2_sign_2_7 0 rfl rfl)
theorem dX2_sign_2_164 : decode cX2_sign_2 164 = .ok (.bipush 23, 2) := dk_16 23 (dk_at dksX2_sign_2_7 3 rfl rfl)
theorem dX2_sign_2_166 : decode cX2_sign_2 166 = .ok (.if_icmp .ne 29, 3) := dk_160 0 29 (dk_at dksX2_sign_2_7 5 rfl rfl)
theorem dX2_sign_2_169 : decode cX2_sign_2 169 = .ok (.aload_n 0, 1) := dk_42 (dk_at dksX2_sign_2_7 8 rfl rfl)
theorem dX2_sign_2_170 : decode cX2_sign_2 170 = .ok (.bipush 26, 2) := dk_16 26 (dk_at dksX2_sign_2_7 9 rfl rfl)
theorem dX2_sign_2_172 : decode cX2_sign_2 172 = .ok (.invokevirtual 599, 3) := dk_182 2 87 (dk_at dksX2_sign_2_7 11 rfl rfl)
theorem dX2_sign_2_175 : decode cX2_sign_2 175 = .ok (.aload_n 0, 1) := dk_42 (dk_at dksX2_sign_2_7 14 rfl rfl)
theorem dX2_sign_2_176 : decode cX2_sign_2 176 = .ok (.invokevirtual 581, 3) := dk_182 2 69 (dk_at dksX2_sign_2_7 15 rfl rfl)
theorem dX2_sign_2_179 : decode cX2_sign_2 179 = .ok (.invokestatic 602, 3) := dk_184 2 90 (dk_at dksX2_sign_2_7 18 rfl rfl)
theorem dX2_sign_2_182 : decode cX2_sign_2 182 = .ok (.bipush 23, 2) := dk_16 23 (dk_at dksX2_sign_2_7 21 rfl rfl)
theorem dX2_sign_2_184 : decode cX2_sign_2 184 = .ok (.if_icmp .ne 19, 3) := dk_160 0 19 (dk_at dksX2_sign_2_8 0 rfl rfl)
theorem dX2_sign_2_187 : decode cX2_sign_2 187 = .ok (.aload_n 0, 1) := dk_42 (dk_at dksX2_sign_2_8 3 rfl rfl)
theorem dX2_sign_2_188 : decode cX2_sign_2 188 = .ok (.iconst 2, 1) := dk_5 (dk_at dksX2_sign_2_8 4 rfl rfl)
theorem dX2_sign_2_189 : decode cX2_sign_2 189 = .ok (.invokevirtual 286, 3) := dk_182 1 30 (dk_at dksX2_sign_2_8 5 rfl rfl)
theorem dX2_sign_2_192 : decode cX2_sign_2 192 = .ok (.goto 11, 3) := dk_167 0 11 (dk_at dksX2_sign_2_8 8 rfl rfl)
theorem dX2_sign_2_195 : decode cX2_sign_2 195 = .ok (.aload_n 0, 1) := dk_42 (dk_at dksX2_sign_2_8 11 rfl rfl)
theorem dX2_sign_2_196 : decode cX2_sign_2 196 = .ok (.iload_n 1, 1) := dk_27 (dk_at dksX2_sign_2_8 12 rfl rfl)
theorem dX2_sign_2_197 : decode cX2_sign_2 197 = .ok (.invokestatic 602, 3) := dk_184 2 90 (dk_at dksX2_sign_2_8 13 rfl rfl)
theorem dX2_sign_2_200 : decode cX2_sign_2 200 = .ok (.invokevirtual 599, 3) := dk_182 2 87 (dk_at dksX2_sign_2_8 16 rfl rfl)
theorem dX2_sign_2_203 : decode cX2_sign_2 203 = .ok (.aload_n 0, 1) := dk_42 (dk_at dksX2_sign_2_8 19 rfl rfl)
theorem dX2_sign_2_204 : decode cX2_sign_2 204 = .ok (.getfield 225, 3) := dk_180 0 225 (dk_at dksX2_sign_2_8 20 rfl rfl)
theorem dX2_sign_2_207 : decode cX2_sign_2 207 = .ok (.ifCond .le 5, 3) := dk_158 0 5 (dk_at dksX2_sign_2_9 0 rfl rfl)
theorem dX2_sign_2_210 : decode cX2_sign_2 210 = .ok (.iconst 2, 1) := dk_5 (dk_at dksX2_sign_2_9 3 rfl rfl)
theorem dX2_sign_2_211 : decode cX2_sign_2 211 = .ok (.ireturn, 1) := dk_172 (dk_at dksX2_sign_2_9 4 rfl rfl)
theorem dX2_sign_2_212 : decode cX2_sign_2 212 = .ok (.aload_n 0, 1) := dk_42 (dk_at dksX2_sign_2_9 5 rfl rfl)
theorem dX2_sign_2_213 : decode cX2_sign_2 213 = .ok (.iload_n 1, 1) := dk_27 (dk_at dksX2_sign_2_9 6 rfl rfl)
theorem dX2_sign_2_214 : decode cX2_sign_2 214 = .ok (.invokevirtual 593, 3) := dk_182 2 81 (dk_at dksX2_sign_2_9 7 rfl rfl)
theorem dX2_sign_2_217 : decode cX2_sign_2 217 = .ok (.aload_n 0, 1) := dk_42 (dk_at dksX2_sign_2_9 10 rfl rfl)
theorem dX2_sign_2_218 : decode cX2_sign_2 218 = .ok (.invokevirtual 289, 3) := dk_182 1 33 (dk_at dksX2_sign_2_9 11 rfl rfl)
theorem dX2_sign_2_221 : decode cX2_sign_2 221 = .ok (.iload_n 1, 1) := dk_27 (dk_at dksX2_sign_2_9 14 rfl rfl)
theorem dX2_sign_2_222 : decode cX2_sign_2 222 = .ok (.bipush 21, 2) := dk_16 21 (dk_at dksX2_sign_2_9 15 rfl rfl)
theorem dX2_sign_2_224 : decode cX2_sign_2 224 = .ok (.if_icmp .eq 9, 3) := dk_159 0 9 (dk_at dksX2_sign_2_9 17 rfl rfl)
theorem dX2_sign_2_227 : decode cX2_sign_2 227 = .ok (.iload_n 1, 1) := dk_27 (dk_at dksX2_sign_2_9 20 rfl rfl)
theorem dX2_sign_2_228 : decode cX2_sign_2 228 = .ok (.bipush 20, 2) := dk_16 20 (dk_at dksX2_sign_2_9 21 rfl rfl)
theorem dX2_sign_2_230 : decode cX2_sign_2 230 = .ok (.if_icmp .ne 7, 3) := dk_160 0 7 (dk_at dksX2_sign_2_10 0 rfl rfl)
theorem dX2_sign_2_233 : decode cX2_sign_2 233 = .ok (.iconst 0, 1) := dk_3 (dk_at dksX2_sign_2_10 3 rfl rfl)
theorem dX2_sign_2_234 : decode cX2_sign_2 234 = .ok (.goto 4, 3) := dk_167 0 4 (dk_at dksX2_sign_2_10 4 rfl rfl)
theorem dX2_sign_2_237 : decode cX2_sign_2 237 = .ok (.iconst 1, 1) := dk_4 (dk_at dksX2_sign_2_10 7 rfl rfl)
theorem dX2_sign_2_238 : decode cX2_sign_2 238 = .ok (.ireturn, 1) := dk_172 (dk_at dksX2_sign_2_10 8 rfl rfl)
abbrev cX2_settle : ByteArray := prog_28_method_99_code
def yX2_settle : MethodName := ⟨RX2, "settle", "(I)V"⟩
def dkwX2_settle_1 : List UInt8 := [177]
abbrev dktX2_settle_1 : List UInt8 := dkwX2_settle_1 ++ []
def dkwX2_settle_0 : List UInt8 := [42, 182, 2, 69, 16, 30, 159, 0, 18, 42, 182, 2, 69, 27, 161, 0, 10, 42, 182, 2, 72, 167, 255, 235]
abbrev dktX2_settle_0 : List UInt8 := dkwX2_settle_0 ++ dktX2_settle_1
theorem dksX2_settle_0 : cX2_settle.data.toList.drop 0 = dktX2_settle_0 := by decide +kernel
theorem dksX2_settle_1 : cX2_settle.data.toList.drop 24 = dktX2_settle_1 := dk_seg dksX2_settle_0 24 rfl rfl
theorem dX2_settle_0 : decode cX2_settle 0 = .ok (.aload_n 0, 1) := dk_42 (dk_at dksX2_settle_0 0 rfl rfl)
theorem dX2_settle_1 : decode cX2_settle 1 = .ok (.invokevirtual 581, 3) := dk_182 2 69 (dk_at dksX2_settle_0 1 rfl rfl)
theorem dX2_settle_4 : decode cX2_settle 4 = .ok (.bipush 30, 2) := dk_16 30 (dk_at dksX2_settle_0 4 rfl rfl)
theorem dX2_settle_6 : decode cX2_settle 6 = .ok (.if_icmp .eq 18, 3) := dk_159 0 18 (dk_at dksX2_settle_0 6 rfl rfl)
theorem dX2_settle_9 : decode cX2_settle 9 = .ok (.aload_n 0, 1) := dk_42 (dk_at dksX2_settle_0 9 rfl rfl)
theorem dX2_settle_10 : decode cX2_settle 10 = .ok (.invokevirtual 581, 3) := dk_182 2 69 (dk_at dksX2_settle_0 10 rfl rfl)
theorem dX2_settle_13 : decode cX2_settle 13 = .ok (.iload_n 1, 1) := dk_27 (dk_at dksX2_settle_0 13 rfl rfl)
theorem dX2_settle_14 : decode cX2_settle 14 = .ok (.if_icmp .lt 10, 3) := dk_161 0 10 (dk_at dksX2_settle_0 14 rfl rfl)
theorem dX2_settle_17 : decode cX2_settle 17 = .ok (.aload_n 0, 1) := dk_42 (dk_at dksX2_settle_0 17 rfl rfl)
theorem dX2_settle_18 : decode cX2_settle 18 = .ok (.invokevirtual 584, 3) := dk_182 2 72 (dk_at dksX2_settle_0 18 rfl rfl)
theorem dX2_settle_21 : decode cX2_settle 21 = .ok (.goto (-21), 3) := dk_167 255 235 (dk_at dksX2_settle_0 21 rfl rfl)
theorem dX2_settle_24 : decode cX2_settle 24 = .ok (.return_, 1) := dk_177 (dk_at dksX2_settle_1 0 rfl rfl)
abbrev cX2_upper : ByteArray := prog_28_method_96_code
def yX2_upper : MethodName := ⟨RX2, "upper", "()I"⟩
def dkwX2_upper_0 : List UInt8 := [42, 180, 2, 60, 154, 0, 8, 16, 30, 167, 0, 14, 42, 180, 0, 148, 42, 180, 2, 60, 4, 100, 46, 172]
abbrev dktX2_upper_0 : List UInt8 := dkwX2_upper_0 ++ []
theorem dksX2_upper_0 : cX2_upper.data.toList.drop 0 = dktX2_upper_0 := by decide +kernel
theorem dX2_upper_0 : decode cX2_upper 0 = .ok (.aload_n 0, 1) := dk_42 (dk_at dksX2_upper_0 0 rfl rfl)
theorem dX2_upper_1 : decode cX2_upper 1 = .ok (.getfield 572, 3) := dk_180 2 60 (dk_at dksX2_upper_0 1 rfl rfl)
theorem dX2_upper_4 : decode cX2_upper 4 = .ok (.ifCond .ne 8, 3) := dk_154 0 8 (dk_at dksX2_upper_0 4 rfl rfl)
theorem dX2_upper_7 : decode cX2_upper 7 = .ok (.bipush 30, 2) := dk_16 30 (dk_at dksX2_upper_0 7 rfl rfl)
theorem dX2_upper_9 : decode cX2_upper 9 = .ok (.goto 14, 3) := dk_167 0 14 (dk_at dksX2_upper_0 9 rfl rfl)
theorem dX2_upper_12 : decode cX2_upper 12 = .ok (.aload_n 0, 1) := dk_42 (dk_at dksX2_upper_0 12 rfl rfl)
theorem dX2_upper_13 : decode cX2_upper 13 = .ok (.getfield 148, 3) := dk_180 0 148 (dk_at dksX2_upper_0 13 rfl rfl)
theorem dX2_upper_16 : decode cX2_upper 16 = .ok (.aload_n 0, 1) := dk_42 (dk_at dksX2_upper_0 16 rfl rfl)
theorem dX2_upper_17 : decode cX2_upper 17 = .ok (.getfield 572, 3) := dk_180 2 60 (dk_at dksX2_upper_0 17 rfl rfl)
theorem dX2_upper_20 : decode cX2_upper 20 = .ok (.iconst 1, 1) := dk_4 (dk_at dksX2_upper_0 20 rfl rfl)
theorem dX2_upper_21 : decode cX2_upper 21 = .ok (.isub, 1) := dk_100 (dk_at dksX2_upper_0 21 rfl rfl)
theorem dX2_upper_22 : decode cX2_upper 22 = .ok (.iaload, 1) := dk_46 (dk_at dksX2_upper_0 22 rfl rfl)
theorem dX2_upper_23 : decode cX2_upper 23 = .ok (.ireturn, 1) := dk_172 (dk_at dksX2_upper_0 23 rfl rfl)
abbrev cX2_pop : ByteArray := prog_28_method_98_code
def yX2_pop : MethodName := ⟨RX2, "pop", "()V"⟩
def dkwX2_pop_2 : List UInt8 := [177]
abbrev dktX2_pop_2 : List UInt8 := dkwX2_pop_2 ++ []
def dkwX2_pop_1 : List UInt8 := [42, 89, 180, 2, 63, 4, 100, 181, 2, 63, 42, 42, 180, 0, 148, 42, 180, 2, 60, 46, 3, 182, 2, 66]
abbrev dktX2_pop_1 : List UInt8 := dkwX2_pop_1 ++ dktX2_pop_2
def dkwX2_pop_0 : List UInt8 := [42, 89, 180, 2, 60, 4, 100, 181, 2, 60, 42, 180, 0, 148, 42, 180, 2, 60, 46, 16, 22, 160, 0, 13]
abbrev dktX2_pop_0 : List UInt8 := dkwX2_pop_0 ++ dktX2_pop_1
theorem dksX2_pop_0 : cX2_pop.data.toList.drop 0 = dktX2_pop_0 := by decide +kernel
theorem dksX2_pop_1 : cX2_pop.data.toList.drop 24 = dktX2_pop_1 := dk_seg dksX2_pop_0 24 rfl rfl
theorem dksX2_pop_2 : cX2_pop.data.toList.drop 48 = dktX2_pop_2 := dk_seg dksX2_pop_1 24 rfl rfl
theorem dX2_pop_0 : decode cX2_pop 0 = .ok (.aload_n 0, 1) := dk_42 (dk_at dksX2_pop_0 0 rfl rfl)
theorem dX2_pop_1 : decode cX2_pop 1 = .ok (.dup, 1) := dk_89 (dk_at dksX2_pop_0 1 rfl rfl)
theorem dX2_pop_2 : decode cX2_pop 2 = .ok (.getfield 572, 3) := dk_180 2 60 (dk_at dksX2_pop_0 2 rfl rfl)
theorem dX2_pop_5 : decode cX2_pop 5 = .ok (.iconst 1, 1) := dk_4 (dk_at dksX2_pop_0 5 rfl rfl)
theorem dX2_pop_6 : decode cX2_pop 6 = .ok (.isub, 1) := dk_100 (dk_at dksX2_pop_0 6 rfl rfl)
theorem dX2_pop_7 : decode cX2_pop 7 = .ok (.putfield 572, 3) := dk_181 2 60 (dk_at dksX2_pop_0 7 rfl rfl)
theorem dX2_pop_10 : decode cX2_pop 10 = .ok (.aload_n 0, 1) := dk_42 (dk_at dksX2_pop_0 10 rfl rfl)
theorem dX2_pop_11 : decode cX2_pop 11 = .ok (.getfield 148, 3) := dk_180 0 148 (dk_at dksX2_pop_0 11 rfl rfl)
theorem dX2_pop_14 : decode cX2_pop 14 = .ok (.aload_n 0, 1) := dk_42 (dk_at dksX2_pop_0 14 rfl rfl)
theorem dX2_pop_15 : decode cX2_pop 15 = .ok (.getfield 572, 3) := dk_180 2 60 (dk_at dksX2_pop_0 15 rfl rfl)
theorem dX2_pop_18 : decode cX2_pop 18 = .ok (.iaload, 1) := dk_46 (dk_at dksX2_pop_0 18 rfl rfl)
theorem dX2_pop_19 : decode cX2_pop 19 = .ok (.bipush 22, 2) := dk_16 22 (dk_at dksX2_pop_0 19 rfl rfl)
theorem dX2_pop_21 : decode cX2_pop 21 = .ok (.if_icmp .ne 13, 3) := dk_160 0 13 (dk_at dksX2_pop_0 21 rfl rfl)
theorem dX2_pop_24 : decode cX2_pop 24 = .ok (.aload_n 0, 1) := dk_42 (dk_at dksX2_pop_1 0 rfl rfl)
theorem dX2_pop_25 : decode cX2_pop 25 = .ok (.dup, 1) := dk_89 (dk_at dksX2_pop_1 1 rfl rfl)
theorem dX2_pop_26 : decode cX2_pop 26 = .ok (.getfield 575, 3) := dk_180 2 63 (dk_at dksX2_pop_1 2 rfl rfl)
theorem dX2_pop_29 : decode cX2_pop 29 = .ok (.iconst 1, 1) := dk_4 (dk_at dksX2_pop_1 5 rfl rfl)
theorem dX2_pop_30 : decode cX2_pop 30 = .ok (.isub, 1) := dk_100 (dk_at dksX2_pop_1 6 rfl rfl)
theorem dX2_pop_31 : decode cX2_pop 31 = .ok (.putfield 575, 3) := dk_181 2 63 (dk_at dksX2_pop_1 7 rfl rfl)
theorem dX2_pop_34 : decode cX2_pop 34 = .ok (.aload_n 0, 1) := dk_42 (dk_at dksX2_pop_1 10 rfl rfl)
theorem dX2_pop_35 : decode cX2_pop 35 = .ok (.aload_n 0, 1) := dk_42 (dk_at dksX2_pop_1 11 rfl rfl)
theorem dX2_pop_36 : decode cX2_pop 36 = .ok (.getfield 148, 3) := dk_180 0 148 (dk_at dksX2_pop_1 12 rfl rfl)
theorem dX2_pop_39 : decode cX2_pop 39 = .ok (.aload_n 0, 1) := dk_42 (dk_at dksX2_pop_1 15 rfl rfl)
theorem dX2_pop_40 : decode cX2_pop 40 = .ok (.getfield 572, 3) := dk_180 2 60 (dk_at dksX2_pop_1 16 rfl rfl)
theorem dX2_pop_43 : decode cX2_pop 43 = .ok (.iaload, 1) := dk_46 (dk_at dksX2_pop_1 19 rfl rfl)
theorem dX2_pop_44 : decode cX2_pop 44 = .ok (.iconst 0, 1) := dk_3 (dk_at dksX2_pop_1 20 rfl rfl)
theorem dX2_pop_45 : decode cX2_pop 45 = .ok (.invokevirtual 578, 3) := dk_182 2 66 (dk_at dksX2_pop_1 21 rfl rfl)
theorem dX2_pop_48 : decode cX2_pop 48 = .ok (.return_, 1) := dk_177 (dk_at dksX2_pop_2 0 rfl rfl)
abbrev cX2_note : ByteArray := prog_28_method_95_code
def yX2_note : MethodName := ⟨RX2, "note", "(II)V"⟩
def dkwX2_note_1 : List UInt8 := [180, 2, 57, 4, 96, 181, 2, 57, 177]
abbrev dktX2_note_1 : List UInt8 := dkwX2_note_1 ++ []
def dkwX2_note_0 : List UInt8 := [42, 180, 0, 124, 42, 180, 2, 57, 27, 79, 42, 180, 0, 127, 42, 180, 2, 57, 28, 79, 42, 89]
abbrev dktX2_note_0 : List UInt8 := dkwX2_note_0 ++ dktX2_note_1
theorem dksX2_note_0 : cX2_note.data.toList.drop 0 = dktX2_note_0 := by decide +kernel
theorem dksX2_note_1 : cX2_note.data.toList.drop 22 = dktX2_note_1 := dk_seg dksX2_note_0 22 rfl rfl
theorem dX2_note_0 : decode cX2_note 0 = .ok (.aload_n 0, 1) := dk_42 (dk_at dksX2_note_0 0 rfl rfl)
theorem dX2_note_1 : decode cX2_note 1 = .ok (.getfield 124, 3) := dk_180 0 124 (dk_at dksX2_note_0 1 rfl rfl)
theorem dX2_note_4 : decode cX2_note 4 = .ok (.aload_n 0, 1) := dk_42 (dk_at dksX2_note_0 4 rfl rfl)
theorem dX2_note_5 : decode cX2_note 5 = .ok (.getfield 569, 3) := dk_180 2 57 (dk_at dksX2_note_0 5 rfl rfl)
theorem dX2_note_8 : decode cX2_note 8 = .ok (.iload_n 1, 1) := dk_27 (dk_at dksX2_note_0 8 rfl rfl)
theorem dX2_note_9 : decode cX2_note 9 = .ok (.iastore, 1) := dk_79 (dk_at dksX2_note_0 9 rfl rfl)
theorem dX2_note_10 : decode cX2_note 10 = .ok (.aload_n 0, 1) := dk_42 (dk_at dksX2_note_0 10 rfl rfl)
theorem dX2_note_11 : decode cX2_note 11 = .ok (.getfield 127, 3) := dk_180 0 127 (dk_at dksX2_note_0 11 rfl rfl)
theorem dX2_note_14 : decode cX2_note 14 = .ok (.aload_n 0, 1) := dk_42 (dk_at dksX2_note_0 14 rfl rfl)
theorem dX2_note_15 : decode cX2_note 15 = .ok (.getfield 569, 3) := dk_180 2 57 (dk_at dksX2_note_0 15 rfl rfl)
theorem dX2_note_18 : decode cX2_note 18 = .ok (.iload_n 2, 1) := dk_28 (dk_at dksX2_note_0 18 rfl rfl)
theorem dX2_note_19 : decode cX2_note 19 = .ok (.iastore, 1) := dk_79 (dk_at dksX2_note_0 19 rfl rfl)
theorem dX2_note_20 : decode cX2_note 20 = .ok (.aload_n 0, 1) := dk_42 (dk_at dksX2_note_0 20 rfl rfl)
theorem dX2_note_21 : decode cX2_note 21 = .ok (.dup, 1) := dk_89 (dk_at dksX2_note_0 21 rfl rfl)
theorem dX2_note_22 : decode cX2_note 22 = .ok (.getfield 569, 3) := dk_180 2 57 (dk_at dksX2_note_1 0 rfl rfl)
theorem dX2_note_25 : decode cX2_note 25 = .ok (.iconst 1, 1) := dk_4 (dk_at dksX2_note_1 3 rfl rfl)
theorem dX2_note_26 : decode cX2_note 26 = .ok (.iadd, 1) := dk_96 (dk_at dksX2_note_1 4 rfl rfl)
theorem dX2_note_27 : decode cX2_note 27 = .ok (.putfield 569, 3) := dk_181 2 57 (dk_at dksX2_note_1 5 rfl rfl)
theorem dX2_note_30 : decode cX2_note 30 = .ok (.return_, 1) := dk_177 (dk_at dksX2_note_1 8 rfl rfl)
abbrev cX2_rank : ByteArray := prog_28_method_101_code
def yX2_rank : MethodName := ⟨RX2, "rank", "(I)I"⟩
def dkwX2_rank_1 : List UInt8 := [16, 23, 167, 0, 4, 26, 172]
abbrev dktX2_rank_1 : List UInt8 := dkwX2_rank_1 ++ []
def dkwX2_rank_0 : List UInt8 := [26, 16, 27, 160, 0, 8, 16, 26, 167, 0, 21, 26, 16, 24, 159, 0, 9, 26, 16, 25, 160, 0, 8]
abbrev dktX2_rank_0 : List UInt8 := dkwX2_rank_0 ++ dktX2_rank_1
theorem dksX2_rank_0 : cX2_rank.data.toList.drop 0 = dktX2_rank_0 := by decide +kernel
theorem dksX2_rank_1 : cX2_rank.data.toList.drop 23 = dktX2_rank_1 := dk_seg dksX2_rank_0 23 rfl rfl
theorem dX2_rank_0 : decode cX2_rank 0 = .ok (.iload_n 0, 1) := dk_26 (dk_at dksX2_rank_0 0 rfl rfl)
theorem dX2_rank_1 : decode cX2_rank 1 = .ok (.bipush 27, 2) := dk_16 27 (dk_at dksX2_rank_0 1 rfl rfl)
theorem dX2_rank_3 : decode cX2_rank 3 = .ok (.if_icmp .ne 8, 3) := dk_160 0 8 (dk_at dksX2_rank_0 3 rfl rfl)
theorem dX2_rank_6 : decode cX2_rank 6 = .ok (.bipush 26, 2) := dk_16 26 (dk_at dksX2_rank_0 6 rfl rfl)
theorem dX2_rank_8 : decode cX2_rank 8 = .ok (.goto 21, 3) := dk_167 0 21 (dk_at dksX2_rank_0 8 rfl rfl)
theorem dX2_rank_11 : decode cX2_rank 11 = .ok (.iload_n 0, 1) := dk_26 (dk_at dksX2_rank_0 11 rfl rfl)
theorem dX2_rank_12 : decode cX2_rank 12 = .ok (.bipush 24, 2) := dk_16 24 (dk_at dksX2_rank_0 12 rfl rfl)
theorem dX2_rank_14 : decode cX2_rank 14 = .ok (.if_icmp .eq 9, 3) := dk_159 0 9 (dk_at dksX2_rank_0 14 rfl rfl)
theorem dX2_rank_17 : decode cX2_rank 17 = .ok (.iload_n 0, 1) := dk_26 (dk_at dksX2_rank_0 17 rfl rfl)
theorem dX2_rank_18 : decode cX2_rank 18 = .ok (.bipush 25, 2) := dk_16 25 (dk_at dksX2_rank_0 18 rfl rfl)
theorem dX2_rank_20 : decode cX2_rank 20 = .ok (.if_icmp .ne 8, 3) := dk_160 0 8 (dk_at dksX2_rank_0 20 rfl rfl)
theorem dX2_rank_23 : decode cX2_rank 23 = .ok (.bipush 23, 2) := dk_16 23 (dk_at dksX2_rank_1 0 rfl rfl)
theorem dX2_rank_25 : decode cX2_rank 25 = .ok (.goto 4, 3) := dk_167 0 4 (dk_at dksX2_rank_1 2 rfl rfl)
theorem dX2_rank_28 : decode cX2_rank 28 = .ok (.iload_n 0, 1) := dk_26 (dk_at dksX2_rank_1 5 rfl rfl)
theorem dX2_rank_29 : decode cX2_rank 29 = .ok (.ireturn, 1) := dk_172 (dk_at dksX2_rank_1 6 rfl rfl)
abbrev cX2_hold : ByteArray := prog_28_method_97_code
def yX2_hold : MethodName := ⟨RX2, "hold", "(I)V"⟩
def dkwX2_hold_1 : List UInt8 := [159, 0, 9, 27, 16, 22, 160, 0, 13, 42, 89, 180, 2, 63, 4, 96, 181, 2, 63, 177]
abbrev dktX2_hold_1 : List UInt8 := dkwX2_hold_1 ++ []
def dkwX2_hold_0 : List UInt8 := [42, 180, 0, 148, 42, 180, 2, 60, 27, 79, 42, 89, 180, 2, 60, 4, 96, 181, 2, 60, 27, 16, 30]
abbrev dktX2_hold_0 : List UInt8 := dkwX2_hold_0 ++ dktX2_hold_1
theorem dksX2_hold_0 : cX2_hold.data.toList.drop 0 = dktX2_hold_0 := by decide +kernel
theorem dksX2_hold_1 : cX2_hold.data.toList.drop 23 = dktX2_hold_1 := dk_seg dksX2_hold_0 23 rfl rfl
theorem dX2_hold_0 : decode cX2_hold 0 = .ok (.aload_n 0, 1) := dk_42 (dk_at dksX2_hold_0 0 rfl rfl)
theorem dX2_hold_1 : decode cX2_hold 1 = .ok (.getfield 148, 3) := dk_180 0 148 (dk_at dksX2_hold_0 1 rfl rfl)
theorem dX2_hold_4 : decode cX2_hold 4 = .ok (.aload_n 0, 1) := dk_42 (dk_at dksX2_hold_0 4 rfl rfl)
theorem dX2_hold_5 : decode cX2_hold 5 = .ok (.getfield 572, 3) := dk_180 2 60 (dk_at dksX2_hold_0 5 rfl rfl)
theorem dX2_hold_8 : decode cX2_hold 8 = .ok (.iload_n 1, 1) := dk_27 (dk_at dksX2_hold_0 8 rfl rfl)
theorem dX2_hold_9 : decode cX2_hold 9 = .ok (.iastore, 1) := dk_79 (dk_at dksX2_hold_0 9 rfl rfl)
theorem dX2_hold_10 : decode cX2_hold 10 = .ok (.aload_n 0, 1) := dk_42 (dk_at dksX2_hold_0 10 rfl rfl)
theorem dX2_hold_11 : decode cX2_hold 11 = .ok (.dup, 1) := dk_89 (dk_at dksX2_hold_0 11 rfl rfl)
theorem dX2_hold_12 : decode cX2_hold 12 = .ok (.getfield 572, 3) := dk_180 2 60 (dk_at dksX2_hold_0 12 rfl rfl)
theorem dX2_hold_15 : decode cX2_hold 15 = .ok (.iconst 1, 1) := dk_4 (dk_at dksX2_hold_0 15 rfl rfl)
theorem dX2_hold_16 : decode cX2_hold 16 = .ok (.iadd, 1) := dk_96 (dk_at dksX2_hold_0 16 rfl rfl)
theorem dX2_hold_17 : decode cX2_hold 17 = .ok (.putfield 572, 3) := dk_181 2 60 (dk_at dksX2_hold_0 17 rfl rfl)
theorem dX2_hold_20 : decode cX2_hold 20 = .ok (.iload_n 1, 1) := dk_27 (dk_at dksX2_hold_0 20 rfl rfl)
theorem dX2_hold_21 : decode cX2_hold 21 = .ok (.bipush 30, 2) := dk_16 30 (dk_at dksX2_hold_0 21 rfl rfl)
theorem dX2_hold_23 : decode cX2_hold 23 = .ok (.if_icmp .eq 9, 3) := dk_159 0 9 (dk_at dksX2_hold_1 0 rfl rfl)
theorem dX2_hold_26 : decode cX2_hold 26 = .ok (.iload_n 1, 1) := dk_27 (dk_at dksX2_hold_1 3 rfl rfl)
theorem dX2_hold_27 : decode cX2_hold 27 = .ok (.bipush 22, 2) := dk_16 22 (dk_at dksX2_hold_1 4 rfl rfl)
theorem dX2_hold_29 : decode cX2_hold 29 = .ok (.if_icmp .ne 13, 3) := dk_160 0 13 (dk_at dksX2_hold_1 6 rfl rfl)
theorem dX2_hold_32 : decode cX2_hold 32 = .ok (.aload_n 0, 1) := dk_42 (dk_at dksX2_hold_1 9 rfl rfl)
theorem dX2_hold_33 : decode cX2_hold 33 = .ok (.dup, 1) := dk_89 (dk_at dksX2_hold_1 10 rfl rfl)
theorem dX2_hold_34 : decode cX2_hold 34 = .ok (.getfield 575, 3) := dk_180 2 63 (dk_at dksX2_hold_1 11 rfl rfl)
theorem dX2_hold_37 : decode cX2_hold 37 = .ok (.iconst 1, 1) := dk_4 (dk_at dksX2_hold_1 14 rfl rfl)
theorem dX2_hold_38 : decode cX2_hold 38 = .ok (.iadd, 1) := dk_96 (dk_at dksX2_hold_1 15 rfl rfl)
theorem dX2_hold_39 : decode cX2_hold 39 = .ok (.putfield 575, 3) := dk_181 2 63 (dk_at dksX2_hold_1 16 rfl rfl)
theorem dX2_hold_42 : decode cX2_hold 42 = .ok (.return_, 1) := dk_177 (dk_at dksX2_hold_1 19 rfl rfl)
abbrev cX2_operand : ByteArray := prog_28_method_103_code
def yX2_operand : MethodName := ⟨RX2, "operand", "(I)I"⟩
def dkwX2_operand_7 : List UInt8 := [167, 0, 4, 29, 42, 180, 0, 209, 182, 2, 66, 42, 182, 1, 33, 5, 172]
abbrev dktX2_operand_7 : List UInt8 := dkwX2_operand_7 ++ []
def dkwX2_operand_6 : List UInt8 := [16, 40, 160, 0, 15, 42, 16, 30, 182, 2, 81, 42, 182, 1, 33, 3, 172, 42, 29, 156, 0, 7, 3]
abbrev dktX2_operand_6 : List UInt8 := dkwX2_operand_6 ++ dktX2_operand_7
def dkwX2_operand_5 : List UInt8 := [182, 2, 81, 42, 182, 1, 33, 3, 172, 42, 89, 180, 2, 78, 4, 96, 181, 2, 78, 42, 180, 0, 212]
abbrev dktX2_operand_5 : List UInt8 := dkwX2_operand_5 ++ dktX2_operand_6
def dkwX2_operand_4 : List UInt8 := [161, 0, 8, 42, 5, 182, 1, 30, 42, 180, 0, 225, 158, 0, 5, 27, 172, 28, 153, 0, 15, 42, 16, 22]
abbrev dktX2_operand_4 : List UInt8 := dkwX2_operand_4 ++ dktX2_operand_5
def dkwX2_operand_3 : List UInt8 := [16, 40, 159, 0, 25, 28, 154, 0, 12, 42, 180, 0, 212, 16, 40, 160, 0, 17, 42, 180, 2, 63, 16, 7]
abbrev dktX2_operand_3 : List UInt8 := dkwX2_operand_3 ++ dktX2_operand_4
def dkwX2_operand_2 : List UInt8 := [167, 0, 4, 3, 54, 4, 28, 154, 0, 8, 21, 4, 153, 0, 39, 21, 4, 153, 0, 12, 42, 180, 2, 78]
abbrev dktX2_operand_2 : List UInt8 := dkwX2_operand_2 ++ dktX2_operand_3
def dkwX2_operand_1 : List UInt8 := [62, 42, 180, 0, 212, 5, 159, 0, 16, 42, 180, 0, 212, 16, 40, 159, 0, 7, 29, 155, 0, 7, 4]
abbrev dktX2_operand_1 : List UInt8 := dkwX2_operand_1 ++ dktX2_operand_2
def dkwX2_operand_0 : List UInt8 := [27, 154, 0, 17, 42, 20, 1, 24, 182, 1, 26, 153, 0, 7, 4, 167, 0, 4, 3, 61, 42, 182, 2, 75]
abbrev dktX2_operand_0 : List UInt8 := dkwX2_operand_0 ++ dktX2_operand_1
theorem dksX2_operand_0 : cX2_operand.data.toList.drop 0 = dktX2_operand_0 := by decide +kernel
theorem dksX2_operand_1 : cX2_operand.data.toList.drop 24 = dktX2_operand_1 := dk_seg dksX2_operand_0 24 rfl rfl
theorem dksX2_operand_2 : cX2_operand.data.toList.drop 47 = dktX2_operand_2 := dk_seg dksX2_operand_1 23 rfl rfl
theorem dksX2_operand_3 : cX2_operand.data.toList.drop 71 = dktX2_operand_3 := dk_seg dksX2_operand_2 24 rfl rfl
theorem dksX2_operand_4 : cX2_operand.data.toList.drop 95 = dktX2_operand_4 := dk_seg dksX2_operand_3 24 rfl rfl
theorem dksX2_operand_5 : cX2_operand.data.toList.drop 119 = dktX2_operand_5 := dk_seg dksX2_operand_4 24 rfl rfl
theorem dksX2_operand_6 : cX2_operand.data.toList.drop 142 = dktX2_operand_6 := dk_seg dksX2_operand_5 23 rfl rfl
theorem dksX2_operand_7 : cX2_operand.data.toList.drop 165 = dktX2_operand_7 := dk_seg dksX2_operand_6 23 rfl rfl
theorem dX2_operand_0 : decode cX2_operand 0 = .ok (.iload_n 1, 1) := dk_27 (dk_at dksX2_operand_0 0 rfl rfl)
theorem dX2_operand_1 : decode cX2_operand 1 = .ok (.ifCond .ne 17, 3) := dk_154 0 17 (dk_at dksX2_operand_0 1 rfl rfl)
theorem dX2_operand_4 : decode cX2_operand 4 = .ok (.aload_n 0, 1) := dk_42 (dk_at dksX2_operand_0 4 rfl rfl)
theorem dX2_operand_5 : decode cX2_operand 5 = .ok (.ldc2_w 280, 3) := dk_20 1 24 (dk_at dksX2_operand_0 5 rfl rfl)
theorem dX2_operand_8 : decode cX2_operand 8 = .ok (.invokevirtual 282, 3) := dk_182 1 26 (dk_at dksX2_operand_0 8 rfl rfl)
theorem dX2_operand_11 : decode cX2_operand 11 = .ok (.ifCond .eq 7, 3) := dk_153 0 7 (dk_at dksX2_operand_0 11 rfl rfl)
theorem dX2_operand_14 : decode cX2_operand 14 = .ok (.iconst 1, 1) := dk_4 (dk_at dksX2_operand_0 14 rfl rfl)
theorem dX2_operand_15 : decode cX2_operand 15 = .ok (.goto 4, 3) := dk_167 0 4 (dk_at dksX2_operand_0 15 rfl rfl)
theorem dX2_operand_18 : decode cX2_operand 18 = .ok (.iconst 0, 1) := dk_3 (dk_at dksX2_operand_0 18 rfl rfl)
theorem dX2_operand_19 : decode cX2_operand 19 = .ok (.istore_n 2, 1) := dk_61 (dk_at dksX2_operand_0 19 rfl rfl)
theorem dX2_operand_20 : decode cX2_operand 20 = .ok (.aload_n 0, 1) := dk_42 (dk_at dksX2_operand_0 20 rfl rfl)
theorem dX2_operand_21 : decode cX2_operand 21 = .ok (.invokevirtual 587, 3) := dk_182 2 75 (dk_at dksX2_operand_0 21 rfl rfl)
theorem dX2_operand_24 : decode cX2_operand 24 = .ok (.istore_n 3, 1) := dk_62 (dk_at dksX2_operand_1 0 rfl rfl)
theorem dX2_operand_25 : decode cX2_operand 25 = .ok (.aload_n 0, 1) := dk_42 (dk_at dksX2_operand_1 1 rfl rfl)
theorem dX2_operand_26 : decode cX2_operand 26 = .ok (.getfield 212, 3) := dk_180 0 212 (dk_at dksX2_operand_1 2 rfl rfl)
theorem dX2_operand_29 : decode cX2_operand 29 = .ok (.iconst 2, 1) := dk_5 (dk_at dksX2_operand_1 5 rfl rfl)
theorem dX2_operand_30 : decode cX2_operand 30 = .ok (.if_icmp .eq 16, 3) := dk_159 0 16 (dk_at dksX2_operand_1 6 rfl rfl)
theorem dX2_operand_33 : decode cX2_operand 33 = .ok (.aload_n 0, 1) := dk_42 (dk_at dksX2_operand_1 9 rfl rfl)
theorem dX2_operand_34 : decode cX2_operand 34 = .ok (.getfield 212, 3) := dk_180 0 212 (dk_at dksX2_operand_1 10 rfl rfl)
theorem dX2_operand_37 : decode cX2_operand 37 = .ok (.bipush 40, 2) := dk_16 40 (dk_at dksX2_operand_1 13 rfl rfl)
theorem dX2_operand_39 : decode cX2_operand 39 = .ok (.if_icmp .eq 7, 3) := dk_159 0 7 (dk_at dksX2_operand_1 15 rfl rfl)
theorem dX2_operand_42 : decode cX2_operand 42 = .ok (.iload_n 3, 1) := dk_29 (dk_at dksX2_operand_1 18 rfl rfl)
theorem dX2_operand_43 : decode cX2_operand 43 = .ok (.ifCond .lt 7, 3) := dk_155 0 7 (dk_at dksX2_operand_1 19 rfl rfl)
theorem dX2_operand_46 : decode cX2_operand 46 = .ok (.iconst 1, 1) := dk_4 (dk_at dksX2_operand_1 22 rfl rfl)
theorem dX2_operand_47 : decode cX2_operand 47 = .ok (.goto 4, 3) := dk_167 0 4 (dk_at dksX2_operand_2 0 rfl rfl)
theorem dX2_operand_50 : decode cX2_operand 50 = .ok (.iconst 0, 1) := dk_3 (dk_at dksX2_operand_2 3 rfl rfl)
theorem dX2_operand_51 : decode cX2_operand 51 = .ok (.istore 4, 2) := dk_54 4 (dk_at dksX2_operand_2 4 rfl rfl)
theorem dX2_operand_53 : decode cX2_operand 53 = .ok (.iload_n 2, 1) := dk_28 (dk_at dksX2_operand_2 6 rfl rfl)
theorem dX2_operand_54 : decode cX2_operand 54 = .ok (.ifCond .ne 8, 3) := dk_154 0 8 (dk_at dksX2_operand_2 7 rfl rfl)
theorem dX2_operand_57 : decode cX2_operand 57 = .ok (.iload 4, 2) := dk_21 4 (dk_at dksX2_operand_2 10 rfl rfl)
theorem dX2_operand_59 : decode cX2_operand 59 = .ok (.ifCond .eq 39, 3) := dk_153 0 39 (dk_at dksX2_operand_2 12 rfl rfl)
theorem dX2_operand_62 : decode cX2_operand 62 = .ok (.iload 4, 2) := dk_21 4 (dk_at dksX2_operand_2 15 rfl rfl)
theorem dX2_operand_64 : decode cX2_operand 64 = .ok (.ifCond .eq 12, 3) := dk_153 0 12 (dk_at dksX2_operand_2 17 rfl rfl)
theorem dX2_operand_67 : decode cX2_operand 67 = .ok (.aload_n 0, 1) := dk_42 (dk_at dksX2_operand_2 20 rfl rfl)
theorem dX2_operand_68 : decode cX2_operand 68 = .ok (.getfield 590, 3) := dk_180 2 78 (dk_at dksX2_operand_2 21 rfl rfl)
theorem dX2_operand_71 : decode cX2_operand 71 = .ok (.bipush 40, 2) := dk_16 40 (dk_at dksX2_operand_3 0 rfl rfl)
theorem dX2_operand_73 : decode cX2_operand 73 = .ok (.if_icmp .eq 25, 3) := dk_159 0 25 (dk_at dksX2_operand_3 2 rfl rfl)
theorem dX2_operand_76 : decode cX2_operand 76 = .ok (.iload_n 2, 1) := dk_28 (dk_at dksX2_operand_3 5 rfl rfl)
theorem dX2_operand_77 : decode cX2_operand 77 = .ok (.ifCond .ne 12, 3) := dk_154 0 12 (dk_at dksX2_operand_3 6 rfl rfl)
theorem dX2_operand_80 : decode cX2_operand 80 = .ok (.aload_n 0, 1) := dk_42 (dk_at dksX2_operand_3 9 rfl rfl)
theorem dX2_operand_81 : decode cX2_operand 81 = .ok (.getfield 212, 3) := dk_180 0 212 (dk_at dksX2_operand_3 10 rfl rfl)
theorem dX2_operand_84 : decode cX2_operand 84 = .ok (.bipush 40, 2) := dk_16 40 (dk_at dksX2_operand_3 13 rfl rfl)
theorem dX2_operand_86 : decode cX2_operand 86 = .ok (.if_icmp .ne 17, 3) := dk_160 0 17 (dk_at dksX2_operand_3 15 rfl rfl)
theorem dX2_operand_89 : decode cX2_operand 89 = .ok (.aload_n 0, 1) := dk_42 (dk_at dksX2_operand_3 18 rfl rfl)
theorem dX2_operand_90 : decode cX2_operand 90 = .ok (.getfield 575, 3) := dk_180 2 63 (dk_at dksX2_operand_3 19 rfl rfl)
theorem dX2_operand_93 : decode cX2_operand 93 = .ok (.bipush 7, 2) := dk_16 7 (dk_at dksX2_operand_3 22 rfl rfl)
theorem dX2_operand_95 : decode cX2_operand 95 = .ok (.if_icmp .lt 8, 3) := dk_161 0 8 (dk_at dksX2_operand_4 0 rfl rfl)
theorem dX2_operand_98 : decode cX2_operand 98 = .ok (.aload_n 0, 1) := dk_42 (dk_at dksX2_operand_4 3 rfl rfl)
theorem dX2_operand_99 : decode cX2_operand 99 = .ok (.iconst 2, 1) := dk_5 (dk_at dksX2_operand_4 4 rfl rfl)
theorem dX2_operand_100 : decode cX2_operand 100 = .ok (.invokevirtual 286, 3) := dk_182 1 30 (dk_at dksX2_operand_4 5 rfl rfl)
theorem dX2_operand_103 : decode cX2_operand 103 = .ok (.aload_n 0, 1) := dk_42 (dk_at dksX2_operand_4 8 rfl rfl)
theorem dX2_operand_104 : decode cX2_operand 104 = .ok (.getfield 225, 3) := dk_180 0 225 (dk_at dksX2_operand_4 9 rfl rfl)
theorem dX2_operand_107 : decode cX2_operand 107 = .ok (.ifCond .le 5, 3) := dk_158 0 5 (dk_at dksX2_operand_4 12 rfl rfl)
theorem dX2_operand_110 : decode cX2_operand 110 = .ok (.iload_n 1, 1) := dk_27 (dk_at dksX2_operand_4 15 rfl rfl)
theorem dX2_operand_111 : decode cX2_operand 111 = .ok (.ireturn, 1) := dk_172 (dk_at dksX2_operand_4 16 rfl rfl)
theorem dX2_operand_112 : decode cX2_operand 112 = .ok (.iload_n 2, 1) := dk_28 (dk_at dksX2_operand_4 17 rfl rfl)
theorem dX2_operand_113 : decode cX2_operand 113 = .ok (.ifCond .eq 15, 3) := dk_153 0 15 (dk_at dksX2_operand_4 18 rfl rfl)
theorem dX2_operand_116 : decode cX2_operand 116 = .ok (.aload_n 0, 1) := dk_42 (dk_at dksX2_operand_4 21 rfl rfl)
theorem dX2_operand_117 : decode cX2_operand 117 = .ok (.bipush 22, 2) := dk_16 22 (dk_at dksX2_operand_4 22 rfl rfl)
theorem dX2_operand_119 : decode cX2_operand 119 = .ok (.invokevirtual 593, 3) := dk_182 2 81 (dk_at dksX2_operand_5 0 rfl rfl)
theorem dX2_operand_122 : decode cX2_operand 122 = .ok (.aload_n 0, 1) := dk_42 (dk_at dksX2_operand_5 3 rfl rfl)
theorem dX2_operand_123 : decode cX2_operand 123 = .ok (.invokevirtual 289, 3) := dk_182 1 33 (dk_at dksX2_operand_5 4 rfl rfl)
theorem dX2_operand_126 : decode cX2_operand 126 = .ok (.iconst 0, 1) := dk_3 (dk_at dksX2_operand_5 7 rfl rfl)
theorem dX2_operand_127 : decode cX2_operand 127 = .ok (.ireturn, 1) := dk_172 (dk_at dksX2_operand_5 8 rfl rfl)
theorem dX2_operand_128 : decode cX2_operand 128 = .ok (.aload_n 0, 1) := dk_42 (dk_at dksX2_operand_5 9 rfl rfl)
theorem dX2_operand_129 : decode cX2_operand 129 = .ok (.dup, 1) := dk_89 (dk_at dksX2_operand_5 10 rfl rfl)
theorem dX2_operand_130 : decode cX2_operand 130 = .ok (.getfield 590, 3) := dk_180 2 78 (dk_at dksX2_operand_5 11 rfl rfl)
theorem dX2_operand_133 : decode cX2_operand 133 = .ok (.iconst 1, 1) := dk_4 (dk_at dksX2_operand_5 14 rfl rfl)
theorem dX2_operand_134 : decode cX2_operand 134 = .ok (.iadd, 1) := dk_96 (dk_at dksX2_operand_5 15 rfl rfl)
theorem dX2_operand_135 : decode cX2_operand 135 = .ok (.putfield 590, 3) := dk_181 2 78 (dk_at dksX2_operand_5 16 rfl rfl)
theorem dX2_operand_138 : decode cX2_operand 138 = .ok (.aload_n 0, 1) := dk_42 (dk_at dksX2_operand_5 19 rfl rfl)
theorem dX2_operand_139 : decode cX2_operand 139 = .ok (.getfield 212, 3) := dk_180 0 212 (dk_at dksX2_operand_5 20 rfl rfl)
theorem dX2_operand_142 : decode cX2_operand 142 = .ok (.bipush 40, 2) := dk_16 40 (dk_at dksX2_operand_6 0 rfl rfl)
theorem dX2_operand_144 : decode cX2_operand 144 = .ok (.if_icmp .ne 15, 3) := dk_160 0 15 (dk_at dksX2_operand_6 2 rfl rfl)
theorem dX2_operand_147 : decode cX2_operand 147 = .ok (.aload_n 0, 1) := dk_42 (dk_at dksX2_operand_6 5 rfl rfl)
theorem dX2_operand_148 : decode cX2_operand 148 = .ok (.bipush 30, 2) := dk_16 30 (dk_at dksX2_operand_6 6 rfl rfl)
theorem dX2_operand_150 : decode cX2_operand 150 = .ok (.invokevirtual 593, 3) := dk_182 2 81 (dk_at dksX2_operand_6 8 rfl rfl)
theorem dX2_operand_153 : decode cX2_operand 153 = .ok (.aload_n 0, 1) := dk_42 (dk_at dksX2_operand_6 11 rfl rfl)
theorem dX2_operand_154 : decode cX2_operand 154 = .ok (.invokevirtual 289, 3) := dk_182 1 33 (dk_at dksX2_operand_6 12 rfl rfl)
theorem dX2_operand_157 : decode cX2_operand 157 = .ok (.iconst 0, 1) := dk_3 (dk_at dksX2_operand_6 15 rfl rfl)
theorem dX2_operand_158 : decode cX2_operand 158 = .ok (.ireturn, 1) := dk_172 (dk_at dksX2_operand_6 16 rfl rfl)
theorem dX2_operand_159 : decode cX2_operand 159 = .ok (.aload_n 0, 1) := dk_42 (dk_at dksX2_operand_6 17 rfl rfl)
theorem dX2_operand_160 : decode cX2_operand 160 = .ok (.iload_n 3, 1) := dk_29 (dk_at dksX2_operand_6 18 rfl rfl)
theorem dX2_operand_161 : decode cX2_operand 161 = .ok (.ifCond .ge 7, 3) := dk_156 0 7 (dk_at dksX2_operand_6 19 rfl rfl)
theorem dX2_operand_164 : decode cX2_operand 164 = .ok (.iconst 0, 1) := dk_3 (dk_at dksX2_operand_6 22 rfl rfl)
theorem dX2_operand_165 : decode cX2_operand 165 = .ok (.goto 4, 3) := dk_167 0 4 (dk_at dksX2_operand_7 0 rfl rfl)
theorem dX2_operand_168 : decode cX2_operand 168 = .ok (.iload_n 3, 1) := dk_29 (dk_at dksX2_operand_7 3 rfl rfl)
theorem dX2_operand_169 : decode cX2_operand 169 = .ok (.aload_n 0, 1) := dk_42 (dk_at dksX2_operand_7 4 rfl rfl)
theorem dX2_operand_170 : decode cX2_operand 170 = .ok (.getfield 209, 3) := dk_180 0 209 (dk_at dksX2_operand_7 5 rfl rfl)
theorem dX2_operand_173 : decode cX2_operand 173 = .ok (.invokevirtual 578, 3) := dk_182 2 66 (dk_at dksX2_operand_7 8 rfl rfl)
theorem dX2_operand_176 : decode cX2_operand 176 = .ok (.aload_n 0, 1) := dk_42 (dk_at dksX2_operand_7 11 rfl rfl)
theorem dX2_operand_177 : decode cX2_operand 177 = .ok (.invokevirtual 289, 3) := dk_182 1 33 (dk_at dksX2_operand_7 12 rfl rfl)
theorem dX2_operand_180 : decode cX2_operand 180 = .ok (.iconst 2, 1) := dk_5 (dk_at dksX2_operand_7 15 rfl rfl)
theorem dX2_operand_181 : decode cX2_operand 181 = .ok (.ireturn, 1) := dk_172 (dk_at dksX2_operand_7 16 rfl rfl)
abbrev cX2_known : ByteArray := prog_28_method_102_code
def yX2_known : MethodName := ⟨RX2, "known", "()I"⟩
def dkwX2_known_6 : List UInt8 := [182, 1, 26, 153, 0, 8, 16, 8, 167, 0, 4, 2, 172]
abbrev dktX2_known_6 : List UInt8 := dkwX2_known_6 ++ []
def dkwX2_known_5 : List UInt8 := [16, 6, 167, 0, 34, 42, 20, 1, 18, 182, 1, 26, 153, 0, 8, 16, 7, 167, 0, 19, 42, 20, 0, 232]
abbrev dktX2_known_5 : List UInt8 := dkwX2_known_5 ++ dktX2_known_6
def dkwX2_known_4 : List UInt8 := [20, 1, 14, 182, 1, 26, 153, 0, 7, 8, 167, 0, 49, 42, 20, 1, 16, 182, 1, 26, 153, 0, 8]
abbrev dktX2_known_4 : List UInt8 := dkwX2_known_4 ++ dktX2_known_5
def dkwX2_known_3 : List UInt8 := [153, 0, 7, 5, 167, 0, 18, 42, 20, 1, 10, 182, 1, 26, 153, 0, 7, 6, 167, 0, 4, 7, 172, 42]
abbrev dktX2_known_3 : List UInt8 := dkwX2_known_3 ++ dktX2_known_4
def dkwX2_known_2 : List UInt8 := [153, 0, 47, 42, 20, 1, 6, 182, 1, 26, 153, 0, 7, 4, 167, 0, 32, 42, 20, 1, 8, 182, 1, 26]
abbrev dktX2_known_2 : List UInt8 := dkwX2_known_2 ++ dktX2_known_3
def dkwX2_known_1 : List UInt8 := [182, 1, 26, 154, 0, 13, 42, 20, 1, 12, 182, 1, 26, 153, 0, 7, 4, 167, 0, 4, 3, 60, 27]
abbrev dktX2_known_1 : List UInt8 := dkwX2_known_1 ++ dktX2_known_2
def dkwX2_known_0 : List UInt8 := [42, 20, 1, 6, 182, 1, 26, 154, 0, 33, 42, 20, 1, 8, 182, 1, 26, 154, 0, 23, 42, 20, 1, 10]
abbrev dktX2_known_0 : List UInt8 := dkwX2_known_0 ++ dktX2_known_1
theorem dksX2_known_0 : cX2_known.data.toList.drop 0 = dktX2_known_0 := by decide +kernel
theorem dksX2_known_1 : cX2_known.data.toList.drop 24 = dktX2_known_1 := dk_seg dksX2_known_0 24 rfl rfl
theorem dksX2_known_2 : cX2_known.data.toList.drop 47 = dktX2_known_2 := dk_seg dksX2_known_1 23 rfl rfl
theorem dksX2_known_3 : cX2_known.data.toList.drop 71 = dktX2_known_3 := dk_seg dksX2_known_2 24 rfl rfl
theorem dksX2_known_4 : cX2_known.data.toList.drop 95 = dktX2_known_4 := dk_seg dksX2_known_3 24 rfl rfl
theorem dksX2_known_5 : cX2_known.data.toList.drop 118 = dktX2_known_5 := dk_seg dksX2_known_4 23 rfl rfl
theorem dksX2_known_6 : cX2_known.data.toList.drop 142 = dktX2_known_6 := dk_seg dksX2_known_5 24 rfl rfl
theorem dX2_known_0 : decode cX2_known 0 = .ok (.aload_n 0, 1) := dk_42 (dk_at dksX2_known_0 0 rfl rfl)
theorem dX2_known_1 : decode cX2_known 1 = .ok (.ldc2_w 262, 3) := dk_20 1 6 (dk_at dksX2_known_0 1 rfl rfl)
theorem dX2_known_4 : decode cX2_known 4 = .ok (.invokevirtual 282, 3) := dk_182 1 26 (dk_at dksX2_known_0 4 rfl rfl)
theorem dX2_known_7 : decode cX2_known 7 = .ok (.ifCond .ne 33, 3) := dk_154 0 33 (dk_at dksX2_known_0 7 rfl rfl)
theorem dX2_known_10 : decode cX2_known 10 = .ok (.aload_n 0, 1) := dk_42 (dk_at dksX2_known_0 10 rfl rfl)
theorem dX2_known_11 : decode cX2_known 11 = .ok (.ldc2_w 264, 3) := dk_20 1 8 (dk_at dksX2_known_0 11 rfl rfl)
theorem dX2_known_14 : decode cX2_known 14 = .ok (.invokevirtual 282, 3) := dk_182 1 26 (dk_at dksX2_known_0 14 rfl rfl)
theorem dX2_known_17 : decode cX2_known 17 = .ok (.ifCond .ne 23, 3) := dk_154 0 23 (dk_at dksX2_known_0 17 rfl rfl)
theorem dX2_known_20 : decode cX2_known 20 = .ok (.aload_n 0, 1) := dk_42 (dk_at dksX2_known_0 20 rfl rfl)
theorem dX2_known_21 : decode cX2_known 21 = .ok (.ldc2_w 266, 3) := dk_20 1 10 (dk_at dksX2_known_0 21 rfl rfl)
theorem dX2_known_24 : decode cX2_known 24 = .ok (.invokevirtual 282, 3) := dk_182 1 26 (dk_at dksX2_known_1 0 rfl rfl)
theorem dX2_known_27 : decode cX2_known 27 = .ok (.ifCond .ne 13, 3) := dk_154 0 13 (dk_at dksX2_known_1 3 rfl rfl)
theorem dX2_known_30 : decode cX2_known 30 = .ok (.aload_n 0, 1) := dk_42 (dk_at dksX2_known_1 6 rfl rfl)
theorem dX2_known_31 : decode cX2_known 31 = .ok (.ldc2_w 268, 3) := dk_20 1 12 (dk_at dksX2_known_1 7 rfl rfl)
theorem dX2_known_34 : decode cX2_known 34 = .ok (.invokevirtual 282, 3) := dk_182 1 26 (dk_at dksX2_known_1 10 rfl rfl)
theorem dX2_known_37 : decode cX2_known 37 = .ok (.ifCond .eq 7, 3) := dk_153 0 7 (dk_at dksX2_known_1 13 rfl rfl)
theorem dX2_known_40 : decode cX2_known 40 = .ok (.iconst 1, 1) := dk_4 (dk_at dksX2_known_1 16 rfl rfl)
theorem dX2_known_41 : decode cX2_known 41 = .ok (.goto 4, 3) := dk_167 0 4 (dk_at dksX2_known_1 17 rfl rfl)
theorem dX2_known_44 : decode cX2_known 44 = .ok (.iconst 0, 1) := dk_3 (dk_at dksX2_known_1 20 rfl rfl)
theorem dX2_known_45 : decode cX2_known 45 = .ok (.istore_n 1, 1) := dk_60 (dk_at dksX2_known_1 21 rfl rfl)
theorem dX2_known_46 : decode cX2_known 46 = .ok (.iload_n 1, 1) := dk_27 (dk_at dksX2_known_1 22 rfl rfl)
theorem dX2_known_47 : decode cX2_known 47 = .ok (.ifCond .eq 47, 3) := dk_153 0 47 (dk_at dksX2_known_2 0 rfl rfl)
theorem dX2_known_50 : decode cX2_known 50 = .ok (.aload_n 0, 1) := dk_42 (dk_at dksX2_known_2 3 rfl rfl)
theorem dX2_known_51 : decode cX2_known 51 = .ok (.ldc2_w 262, 3) := dk_20 1 6 (dk_at dksX2_known_2 4 rfl rfl)
theorem dX2_known_54 : decode cX2_known 54 = .ok (.invokevirtual 282, 3) := dk_182 1 26 (dk_at dksX2_known_2 7 rfl rfl)
theorem dX2_known_57 : decode cX2_known 57 = .ok (.ifCond .eq 7, 3) := dk_153 0 7 (dk_at dksX2_known_2 10 rfl rfl)
theorem dX2_known_60 : decode cX2_known 60 = .ok (.iconst 1, 1) := dk_4 (dk_at dksX2_known_2 13 rfl rfl)
theorem dX2_known_61 : decode cX2_known 61 = .ok (.goto 32, 3) := dk_167 0 32 (dk_at dksX2_known_2 14 rfl rfl)
theorem dX2_known_64 : decode cX2_known 64 = .ok (.aload_n 0, 1) := dk_42 (dk_at dksX2_known_2 17 rfl rfl)
theorem dX2_known_65 : decode cX2_known 65 = .ok (.ldc2_w 264, 3) := dk_20 1 8 (dk_at dksX2_known_2 18 rfl rfl)
theorem dX2_known_68 : decode cX2_known 68 = .ok (.invokevirtual 282, 3) := dk_182 1 26 (dk_at dksX2_known_2 21 rfl rfl)
theorem dX2_known_71 : decode cX2_known 71 = .ok (.ifCond .eq 7, 3) := dk_153 0 7 (dk_at dksX2_known_3 0 rfl rfl)
theorem dX2_known_74 : decode cX2_known 74 = .ok (.iconst 2, 1) := dk_5 (dk_at dksX2_known_3 3 rfl rfl)
theorem dX2_known_75 : decode cX2_known 75 = .ok (.goto 18, 3) := dk_167 0 18 (dk_at dksX2_known_3 4 rfl rfl)
theorem dX2_known_78 : decode cX2_known 78 = .ok (.aload_n 0, 1) := dk_42 (dk_at dksX2_known_3 7 rfl rfl)
theorem dX2_known_79 : decode cX2_known 79 = .ok (.ldc2_w 266, 3) := dk_20 1 10 (dk_at dksX2_known_3 8 rfl rfl)
theorem dX2_known_82 : decode cX2_known 82 = .ok (.invokevirtual 282, 3) := dk_182 1 26 (dk_at dksX2_known_3 11 rfl rfl)
theorem dX2_known_85 : decode cX2_known 85 = .ok (.ifCond .eq 7, 3) := dk_153 0 7 (dk_at dksX2_known_3 14 rfl rfl)
theorem dX2_known_88 : decode cX2_known 88 = .ok (.iconst 3, 1) := dk_6 (dk_at dksX2_known_3 17 rfl rfl)
theorem dX2_known_89 : decode cX2_known 89 = .ok (.goto 4, 3) := dk_167 0 4 (dk_at dksX2_known_3 18 rfl rfl)
theorem dX2_known_92 : decode cX2_known 92 = .ok (.iconst 4, 1) := dk_7 (dk_at dksX2_known_3 21 rfl rfl)
theorem dX2_known_93 : decode cX2_known 93 = .ok (.ireturn, 1) := dk_172 (dk_at dksX2_known_3 22 rfl rfl)
theorem dX2_known_94 : decode cX2_known 94 = .ok (.aload_n 0, 1) := dk_42 (dk_at dksX2_known_3 23 rfl rfl)
theorem dX2_known_95 : decode cX2_known 95 = .ok (.ldc2_w 270, 3) := dk_20 1 14 (dk_at dksX2_known_4 0 rfl rfl)
theorem dX2_known_98 : decode cX2_known 98 = .ok (.invokevirtual 282, 3) := dk_182 1 26 (dk_at dksX2_known_4 3 rfl rfl)
theorem dX2_known_101 : decode cX2_known 101 = .ok (.ifCond .eq 7, 3) := dk_153 0 7 (dk_at dksX2_known_4 6 rfl rfl)
theorem dX2_known_104 : decode cX2_known 104 = .ok (.iconst 5, 1) := dk_8 (dk_at dksX2_known_4 9 rfl rfl)
theorem dX2_known_105 : decode cX2_known 105 = .ok (.goto 49, 3) := dk_167 0 49 (dk_at dksX2_known_4 10 rfl rfl)
theorem dX2_known_108 : decode cX2_known 108 = .ok (.aload_n 0, 1) := dk_42 (dk_at dksX2_known_4 13 rfl rfl)
theorem dX2_known_109 : decode cX2_known 109 = .ok (.ldc2_w 272, 3) := dk_20 1 16 (dk_at dksX2_known_4 14 rfl rfl)
theorem dX2_known_112 : decode cX2_known 112 = .ok (.invokevirtual 282, 3) := dk_182 1 26 (dk_at dksX2_known_4 17 rfl rfl)
theorem dX2_known_115 : decode cX2_known 115 = .ok (.ifCond .eq 8, 3) := dk_153 0 8 (dk_at dksX2_known_4 20 rfl rfl)
theorem dX2_known_118 : decode cX2_known 118 = .ok (.bipush 6, 2) := dk_16 6 (dk_at dksX2_known_5 0 rfl rfl)
theorem dX2_known_120 : decode cX2_known 120 = .ok (.goto 34, 3) := dk_167 0 34 (dk_at dksX2_known_5 2 rfl rfl)
theorem dX2_known_123 : decode cX2_known 123 = .ok (.aload_n 0, 1) := dk_42 (dk_at dksX2_known_5 5 rfl rfl)
theorem dX2_known_124 : decode cX2_known 124 = .ok (.ldc2_w 274, 3) := dk_20 1 18 (dk_at dksX2_known_5 6 rfl rfl)
theorem dX2_known_127 : decode cX2_known 127 = .ok (.invokevirtual 282, 3) := dk_182 1 26 (dk_at dksX2_known_5 9 rfl rfl)
theorem dX2_known_130 : decode cX2_known 130 = .ok (.ifCond .eq 8, 3) := dk_153 0 8 (dk_at dksX2_known_5 12 rfl rfl)
theorem dX2_known_133 : decode cX2_known 133 = .ok (.bipush 7, 2) := dk_16 7 (dk_at dksX2_known_5 15 rfl rfl)
theorem dX2_known_135 : decode cX2_known 135 = .ok (.goto 19, 3) := dk_167 0 19 (dk_at dksX2_known_5 17 rfl rfl)
theorem dX2_known_138 : decode cX2_known 138 = .ok (.aload_n 0, 1) := dk_42 (dk_at dksX2_known_5 20 rfl rfl)
theorem dX2_known_139 : decode cX2_known 139 = .ok (.ldc2_w 232, 3) := dk_20 0 232 (dk_at dksX2_known_5 21 rfl rfl)
theorem dX2_known_142 : decode cX2_known 142 = .ok (.invokevirtual 282, 3) := dk_182 1 26 (dk_at dksX2_known_6 0 rfl rfl)
theorem dX2_known_145 : decode cX2_known 145 = .ok (.ifCond .eq 8, 3) := dk_153 0 8 (dk_at dksX2_known_6 3 rfl rfl)
theorem dX2_known_148 : decode cX2_known 148 = .ok (.bipush 8, 2) := dk_16 8 (dk_at dksX2_known_6 6 rfl rfl)
theorem dX2_known_150 : decode cX2_known 150 = .ok (.goto 4, 3) := dk_167 0 4 (dk_at dksX2_known_6 8 rfl rfl)
theorem dX2_known_153 : decode cX2_known 153 = .ok (.iconst (-1), 1) := dk_2 (dk_at dksX2_known_6 11 rfl rfl)
theorem dX2_known_154 : decode cX2_known 154 = .ok (.ireturn, 1) := dk_172 (dk_at dksX2_known_6 12 rfl rfl)
abbrev cX2_trust : ByteArray := prog_28_method_110_code
def yX2_trust : MethodName := ⟨RX2, "trust", "(II)I"⟩
def dkwX2_trust_0 : List UInt8 := [42, 27, 28, 182, 1, 117, 153, 0, 12, 42, 27, 28, 182, 2, 110, 167, 0, 4, 2, 172]
abbrev dktX2_trust_0 : List UInt8 := dkwX2_trust_0 ++ []
theorem dksX2_trust_0 : cX2_trust.data.toList.drop 0 = dktX2_trust_0 := by decide +kernel
theorem dX2_trust_0 : decode cX2_trust 0 = .ok (.aload_n 0, 1) := dk_42 (dk_at dksX2_trust_0 0 rfl rfl)
theorem dX2_trust_1 : decode cX2_trust 1 = .ok (.iload_n 1, 1) := dk_27 (dk_at dksX2_trust_0 1 rfl rfl)
theorem dX2_trust_2 : decode cX2_trust 2 = .ok (.iload_n 2, 1) := dk_28 (dk_at dksX2_trust_0 2 rfl rfl)
theorem dX2_trust_3 : decode cX2_trust 3 = .ok (.invokevirtual 373, 3) := dk_182 1 117 (dk_at dksX2_trust_0 3 rfl rfl)
theorem dX2_trust_6 : decode cX2_trust 6 = .ok (.ifCond .eq 12, 3) := dk_153 0 12 (dk_at dksX2_trust_0 6 rfl rfl)
theorem dX2_trust_9 : decode cX2_trust 9 = .ok (.aload_n 0, 1) := dk_42 (dk_at dksX2_trust_0 9 rfl rfl)
theorem dX2_trust_10 : decode cX2_trust 10 = .ok (.iload_n 1, 1) := dk_27 (dk_at dksX2_trust_0 10 rfl rfl)
theorem dX2_trust_11 : decode cX2_trust 11 = .ok (.iload_n 2, 1) := dk_28 (dk_at dksX2_trust_0 11 rfl rfl)
theorem dX2_trust_12 : decode cX2_trust 12 = .ok (.invokevirtual 622, 3) := dk_182 2 110 (dk_at dksX2_trust_0 12 rfl rfl)
theorem dX2_trust_15 : decode cX2_trust 15 = .ok (.goto 4, 3) := dk_167 0 4 (dk_at dksX2_trust_0 15 rfl rfl)
theorem dX2_trust_18 : decode cX2_trust 18 = .ok (.iconst (-1), 1) := dk_2 (dk_at dksX2_trust_0 18 rfl rfl)
theorem dX2_trust_19 : decode cX2_trust 19 = .ok (.ireturn, 1) := dk_172 (dk_at dksX2_trust_0 19 rfl rfl)
abbrev cX2_trustOf : ByteArray := prog_28_method_109_code
def yX2_trustOf : MethodName := ⟨RX2, "trustOf", "(II)I"⟩
def dkwX2_trustOf_8 : List UInt8 := [180, 0, 145, 21, 5, 46, 172, 132, 5, 1, 167, 255, 227, 3, 172]
abbrev dktX2_trustOf_8 : List UInt8 := dkwX2_trustOf_8 ++ []
def dkwX2_trustOf_7 : List UInt8 := [3, 54, 5, 21, 5, 42, 180, 1, 80, 162, 0, 26, 42, 21, 5, 182, 2, 107, 153, 0, 11, 42]
abbrev dktX2_trustOf_7 : List UInt8 := dkwX2_trustOf_7 ++ dktX2_trustOf_8
def dkwX2_trustOf_6 : List UInt8 := [16, 8, 92, 46, 42, 180, 0, 64, 42, 180, 0, 79, 21, 5, 46, 46, 96, 79, 132, 5, 1, 167, 255, 222]
abbrev dktX2_trustOf_6 : List UInt8 := dkwX2_trustOf_6 ++ dktX2_trustOf_7
def dkwX2_trustOf_5 : List UInt8 := [180, 0, 154, 16, 8, 3, 79, 3, 54, 5, 21, 5, 42, 180, 1, 114, 162, 0, 31, 42, 180, 0, 154]
abbrev dktX2_trustOf_5 : List UInt8 := dkwX2_trustOf_5 ++ dktX2_trustOf_6
def dkwX2_trustOf_4 : List UInt8 := [9, 66, 42, 180, 0, 154, 16, 7, 33, 20, 1, 225, 148, 154, 0, 7, 3, 167, 0, 5, 33, 136, 79, 42]
abbrev dktX2_trustOf_4 : List UInt8 := dkwX2_trustOf_4 ++ dktX2_trustOf_5
def dkwX2_trustOf_3 : List UInt8 := [153, 0, 7, 4, 167, 0, 4, 3, 79, 42, 180, 1, 177, 158, 0, 11, 42, 3, 182, 2, 17, 167, 0, 4]
abbrev dktX2_trustOf_3 : List UInt8 := dkwX2_trustOf_3 ++ dktX2_trustOf_4
def dkwX2_trustOf_2 : List UInt8 := [79, 42, 180, 0, 154, 8, 42, 4, 182, 1, 132, 79, 42, 180, 0, 154, 16, 6, 42, 182, 1, 230]
abbrev dktX2_trustOf_2 : List UInt8 := dkwX2_trustOf_2 ++ dktX2_trustOf_3
def dkwX2_trustOf_1 : List UInt8 := [180, 1, 192, 79, 42, 180, 0, 154, 6, 42, 180, 1, 177, 79, 42, 180, 0, 154, 7, 42, 5, 182, 1, 132]
abbrev dktX2_trustOf_1 : List UInt8 := dkwX2_trustOf_1 ++ dktX2_trustOf_2
def dkwX2_trustOf_0 : List UInt8 := [42, 27, 28, 182, 1, 198, 42, 180, 0, 154, 4, 42, 180, 1, 114, 79, 42, 180, 0, 154, 5, 42]
abbrev dktX2_trustOf_0 : List UInt8 := dkwX2_trustOf_0 ++ dktX2_trustOf_1
theorem dksX2_trustOf_0 : cX2_trustOf.data.toList.drop 0 = dktX2_trustOf_0 := by decide +kernel
theorem dksX2_trustOf_1 : cX2_trustOf.data.toList.drop 22 = dktX2_trustOf_1 := dk_seg dksX2_trustOf_0 22 rfl rfl
theorem dksX2_trustOf_2 : cX2_trustOf.data.toList.drop 46 = dktX2_trustOf_2 := dk_seg dksX2_trustOf_1 24 rfl rfl
theorem dksX2_trustOf_3 : cX2_trustOf.data.toList.drop 68 = dktX2_trustOf_3 := dk_seg dksX2_trustOf_2 22 rfl rfl
theorem dksX2_trustOf_4 : cX2_trustOf.data.toList.drop 92 = dktX2_trustOf_4 := dk_seg dksX2_trustOf_3 24 rfl rfl
theorem dksX2_trustOf_5 : cX2_trustOf.data.toList.drop 116 = dktX2_trustOf_5 := dk_seg dksX2_trustOf_4 24 rfl rfl
theorem dksX2_trustOf_6 : cX2_trustOf.data.toList.drop 139 = dktX2_trustOf_6 := dk_seg dksX2_trustOf_5 23 rfl rfl
theorem dksX2_trustOf_7 : cX2_trustOf.data.toList.drop 163 = dktX2_trustOf_7 := dk_seg dksX2_trustOf_6 24 rfl rfl
theorem dksX2_trustOf_8 : cX2_trustOf.data.toList.drop 185 = dktX2_trustOf_8 := dk_seg dksX2_trustOf_7 22 rfl rfl
theorem dX2_trustOf_0 : decode cX2_trustOf 0 = .ok (.aload_n 0, 1) := dk_42 (dk_at dksX2_trustOf_0 0 rfl rfl)
theorem dX2_trustOf_1 : decode cX2_trustOf 1 = .ok (.iload_n 1, 1) := dk_27 (dk_at dksX2_trustOf_0 1 rfl rfl)
theorem dX2_trustOf_2 : decode cX2_trustOf 2 = .ok (.iload_n 2, 1) := dk_28 (dk_at dksX2_trustOf_0 2 rfl rfl)
theorem dX2_trustOf_3 : decode cX2_trustOf 3 = .ok (.invokevirtual 454, 3) := dk_182 1 198 (dk_at dksX2_trustOf_0 3 rfl rfl)
theorem dX2_trustOf_6 : decode cX2_trustOf 6 = .ok (.aload_n 0, 1) := dk_42 (dk_at dksX2_trustOf_0 6 rfl rfl)
theorem dX2_trustOf_7 : decode cX2_trustOf 7 = .ok (.getfield 154, 3) := dk_180 0 154 (dk_at dksX2_trustOf_0 7 rfl rfl)
theorem dX2_trustOf_10 : decode cX2_trustOf 10 = .ok (.iconst 1, 1) := dk_4 (dk_at dksX2_trustOf_0 10 rfl rfl)
theorem dX2_trustOf_11 : decode cX2_trustOf 11 = .ok (.aload_n 0, 1) := dk_42 (dk_at dksX2_trustOf_0 11 rfl rfl)
theorem dX2_trustOf_12 : decode cX2_trustOf 12 = .ok (.getfield 370, 3) := dk_180 1 114 (dk_at dksX2_trustOf_0 12 rfl rfl)
theorem dX2_trustOf_15 : decode cX2_trustOf 15 = .ok (.iastore, 1) := dk_79 (dk_at dksX2_trustOf_0 15 rfl rfl)
theorem dX2_trustOf_16 : decode cX2_trustOf 16 = .ok (.aload_n 0, 1) := dk_42 (dk_at dksX2_trustOf_0 16 rfl rfl)
theorem dX2_trustOf_17 : decode cX2_trustOf 17 = .ok (.getfield 154, 3) := dk_180 0 154 (dk_at dksX2_trustOf_0 17 rfl rfl)
theorem dX2_trustOf_20 : decode cX2_trustOf 20 = .ok (.iconst 2, 1) := dk_5 (dk_at dksX2_trustOf_0 20 rfl rfl)
theorem dX2_trustOf_21 : decode cX2_trustOf 21 = .ok (.aload_n 0, 1) := dk_42 (dk_at dksX2_trustOf_0 21 rfl rfl)
theorem dX2_trustOf_22 : decode cX2_trustOf 22 = .ok (.getfield 448, 3) := dk_180 1 192 (dk_at dksX2_trustOf_1 0 rfl rfl)
theorem dX2_trustOf_25 : decode cX2_trustOf 25 = .ok (.iastore, 1) := dk_79 (dk_at dksX2_trustOf_1 3 rfl rfl)
theorem dX2_trustOf_26 : decode cX2_trustOf 26 = .ok (.aload_n 0, 1) := dk_42 (dk_at dksX2_trustOf_1 4 rfl rfl)
theorem dX2_trustOf_27 : decode cX2_trustOf 27 = .ok (.getfield 154, 3) := dk_180 0 154 (dk_at dksX2_trustOf_1 5 rfl rfl)
theorem dX2_trustOf_30 : decode cX2_trustOf 30 = .ok (.iconst 3, 1) := dk_6 (dk_at dksX2_trustOf_1 8 rfl rfl)
theorem dX2_trustOf_31 : decode cX2_trustOf 31 = .ok (.aload_n 0, 1) := dk_42 (dk_at dksX2_trustOf_1 9 rfl rfl)
theorem dX2_trustOf_32 : decode cX2_trustOf 32 = .ok (.getfield 433, 3) := dk_180 1 177 (dk_at dksX2_trustOf_1 10 rfl rfl)
theorem dX2_trustOf_35 : decode cX2_trustOf 35 = .ok (.iastore, 1) := dk_79 (dk_at dksX2_trustOf_1 13 rfl rfl)
theorem dX2_trustOf_36 : decode cX2_trustOf 36 = .ok (.aload_n 0, 1) := dk_42 (dk_at dksX2_trustOf_1 14 rfl rfl)
theorem dX2_trustOf_37 : decode cX2_trustOf 37 = .ok (.getfield 154, 3) := dk_180 0 154 (dk_at dksX2_trustOf_1 15 rfl rfl)
theorem dX2_trustOf_40 : decode cX2_trustOf 40 = .ok (.iconst 4, 1) := dk_7 (dk_at dksX2_trustOf_1 18 rfl rfl)
theorem dX2_trustOf_41 : decode cX2_trustOf 41 = .ok (.aload_n 0, 1) := dk_42 (dk_at dksX2_trustOf_1 19 rfl rfl)
theorem dX2_trustOf_42 : decode cX2_trustOf 42 = .ok (.iconst 2, 1) := dk_5 (dk_at dksX2_trustOf_1 20 rfl rfl)
theorem dX2_trustOf_43 : decode cX2_trustOf 43 = .ok (.invokevirtual 388, 3) := dk_182 1 132 (dk_at dksX2_trustOf_1 21 rfl rfl)
theorem dX2_trustOf_46 : decode cX2_trustOf 46 = .ok (.iastore, 1) := dk_79 (dk_at dksX2_trustOf_2 0 rfl rfl)
theorem dX2_trustOf_47 : decode cX2_trustOf 47 = .ok (.aload_n 0, 1) := dk_42 (dk_at dksX2_trustOf_2 1 rfl rfl)
theorem dX2_trustOf_48 : decode cX2_trustOf 48 = .ok (.getfield 154, 3) := dk_180 0 154 (dk_at dksX2_trustOf_2 2 rfl rfl)
theorem dX2_trustOf_51 : decode cX2_trustOf 51 = .ok (.iconst 5, 1) := dk_8 (dk_at dksX2_trustOf_2 5 rfl rfl)
theorem dX2_trustOf_52 : decode cX2_trustOf 52 = .ok (.aload_n 0, 1) := dk_42 (dk_at dksX2_trustOf_2 6 rfl rfl)
theorem dX2_trustOf_53 : decode cX2_trustOf 53 = .ok (.iconst 1, 1) := dk_4 (dk_at dksX2_trustOf_2 7 rfl rfl)
theorem dX2_trustOf_54 : decode cX2_trustOf 54 = .ok (.invokevirtual 388, 3) := dk_182 1 132 (dk_at dksX2_trustOf_2 8 rfl rfl)
theorem dX2_trustOf_57 : decode cX2_trustOf 57 = .ok (.iastore, 1) := dk_79 (dk_at dksX2_trustOf_2 11 rfl rfl)
theorem dX2_trustOf_58 : decode cX2_trustOf 58 = .ok (.aload_n 0, 1) := dk_42 (dk_at dksX2_trustOf_2 12 rfl rfl)
theorem dX2_trustOf_59 : decode cX2_trustOf 59 = .ok (.getfield 154, 3) := dk_180 0 154 (dk_at dksX2_trustOf_2 13 rfl rfl)
theorem dX2_trustOf_62 : decode cX2_trustOf 62 = .ok (.bipush 6, 2) := dk_16 6 (dk_at dksX2_trustOf_2 16 rfl rfl)
theorem dX2_trustOf_64 : decode cX2_trustOf 64 = .ok (.aload_n 0, 1) := dk_42 (dk_at dksX2_trustOf_2 18 rfl rfl)
theorem dX2_trustOf_65 : decode cX2_trustOf 65 = .ok (.invokevirtual 486, 3) := dk_182 1 230 (dk_at dksX2_trustOf_2 19 rfl rfl)
theorem dX2_trustOf_68 : decode cX2_trustOf 68 = .ok (.ifCond .eq 7, 3) := dk_153 0 7 (dk_at dksX2_trustOf_3 0 rfl rfl)
theorem dX2_trustOf_71 : decode cX2_trustOf 71 = .ok (.iconst 1, 1) := dk_4 (dk_at dksX2_trustOf_3 3 rfl rfl)
theorem dX2_trustOf_72 : decode cX2_trustOf 72 = .ok (.goto 4, 3) := dk_167 0 4 (dk_at dksX2_trustOf_3 4 rfl rfl)
theorem dX2_trustOf_75 : decode cX2_trustOf 75 = .ok (.iconst 0, 1) := dk_3 (dk_at dksX2_trustOf_3 7 rfl rfl)
theorem dX2_trustOf_76 : decode cX2_trustOf 76 = .ok (.iastore, 1) := dk_79 (dk_at dksX2_trustOf_3 8 rfl rfl)
theorem dX2_trustOf_77 : decode cX2_trustOf 77 = .ok (.aload_n 0, 1) := dk_42 (dk_at dksX2_trustOf_3 9 rfl rfl)
theorem dX2_trustOf_78 : decode cX2_trustOf 78 = .ok (.getfield 433, 3) := dk_180 1 177 (dk_at dksX2_trustOf_3 10 rfl rfl)
theorem dX2_trustOf_81 : decode cX2_trustOf 81 = .ok (.ifCond .le 11, 3) := dk_158 0 11 (dk_at dksX2_trustOf_3 13 rfl rfl)
theorem dX2_trustOf_84 : decode cX2_trustOf 84 = .ok (.aload_n 0, 1) := dk_42 (dk_at dksX2_trustOf_3 16 rfl rfl)
theorem dX2_trustOf_85 : decode cX2_trustOf 85 = .ok (.iconst 0, 1) := dk_3 (dk_at dksX2_trustOf_3 17 rfl rfl)
theorem dX2_trustOf_86 : decode cX2_trustOf 86 = .ok (.invokevirtual 529, 3) := dk_182 2 17 (dk_at dksX2_trustOf_3 18 rfl rfl)
theorem dX2_trustOf_89 : decode cX2_trustOf 89 = .ok (.goto 4, 3) := dk_167 0 4 (dk_at dksX2_trustOf_3 21 rfl rfl)
theorem dX2_trustOf_92 : decode cX2_trustOf 92 = .ok (.lconst 0, 1) := dk_9 (dk_at dksX2_trustOf_4 0 rfl rfl)
theorem dX2_trustOf_93 : decode cX2_trustOf 93 = .ok (.lstore_n 3, 1) := dk_66 (dk_at dksX2_trustOf_4 1 rfl rfl)
theorem dX2_trustOf_94 : decode cX2_trustOf 94 = .ok (.aload_n 0, 1) := dk_42 (dk_at dksX2_trustOf_4 2 rfl rfl)
theorem dX2_trustOf_95 : decode cX2_trustOf 95 = .ok (.getfield 154, 3) := dk_180 0 154 (dk_at dksX2_trustOf_4 3 rfl rfl)
theorem dX2_trustOf_98 : decode cX2_trustOf 98 = .ok (.bipush 7, 2) := dk_16 7 (dk_at dksX2_trustOf_4 6 rfl rfl)
theorem dX2_trustOf_100 : decode cX2_trustOf 100 = .ok (.lload_n 3, 1) := dk_33 (dk_at dksX2_trustOf_4 8 rfl rfl)
theorem dX2_trustOf_101 : decode cX2_trustOf 101 = .ok (.ldc2_w 481, 3) := dk_20 1 225 (dk_at dksX2_trustOf_4 9 rfl rfl)
theorem dX2_trustOf_104 : decode cX2_trustOf 104 = .ok (.lcmp, 1) := dk_148 (dk_at dksX2_trustOf_4 12 rfl rfl)
theorem dX2_trustOf_105 : decode cX2_trustOf 105 = .ok (.ifCond .ne 7, 3) := dk_154 0 7 (dk_at dksX2_trustOf_4 13 rfl rfl)
theorem dX2_trustOf_108 : decode cX2_trustOf 108 = .ok (.iconst 0, 1) := dk_3 (dk_at dksX2_trustOf_4 16 rfl rfl)
theorem dX2_trustOf_109 : decode cX2_trustOf 109 = .ok (.goto 5, 3) := dk_167 0 5 (dk_at dksX2_trustOf_4 17 rfl rfl)
theorem dX2_trustOf_112 : decode cX2_trustOf 112 = .ok (.lload_n 3, 1) := dk_33 (dk_at dksX2_trustOf_4 20 rfl rfl)
theorem dX2_trustOf_113 : decode cX2_trustOf 113 = .ok (.l2i, 1) := dk_136 (dk_at dksX2_trustOf_4 21 rfl rfl)
theorem dX2_trustOf_114 : decode cX2_trustOf 114 = .ok (.iastore, 1) := dk_79 (dk_at dksX2_trustOf_4 22 rfl rfl)
theorem dX2_trustOf_115 : decode cX2_trustOf 115 = .ok (.aload_n 0, 1) := dk_42 (dk_at dksX2_trustOf_4 23 rfl rfl)
theorem dX2_trustOf_116 : decode cX2_trustOf 116 = .ok (.getfield 154, 3) := dk_180 0 154 (dk_at dksX2_trustOf_5 0 rfl rfl)
theorem dX2_trustOf_119 : decode cX2_trustOf 119 = .ok (.bipush 8, 2) := dk_16 8 (dk_at dksX2_trustOf_5 3 rfl rfl)
theorem dX2_trustOf_121 : decode cX2_trustOf 121 = .ok (.iconst 0, 1) := dk_3 (dk_at dksX2_trustOf_5 5 rfl rfl)
theorem dX2_trustOf_122 : decode cX2_trustOf 122 = .ok (.iastore, 1) := dk_79 (dk_at dksX2_trustOf_5 6 rfl rfl)
theorem dX2_trustOf_123 : decode cX2_trustOf 123 = .ok (.iconst 0, 1) := dk_3 (dk_at dksX2_trustOf_5 7 rfl rfl)
theorem dX2_trustOf_124 : decode cX2_trustOf 124 = .ok (.istore 5, 2) := dk_54 5 (dk_at dksX2_trustOf_5 8 rfl rfl)
theorem dX2_trustOf_126 : decode cX2_trustOf 126 = .ok (.iload 5, 2) := dk_21 5 (dk_at dksX2_trustOf_5 10 rfl rfl)
theorem dX2_trustOf_128 : decode cX2_trustOf 128 = .ok (.aload_n 0, 1) := dk_42 (dk_at dksX2_trustOf_5 12 rfl rfl)
theorem dX2_trustOf_129 : decode cX2_trustOf 129 = .ok (.getfield 370, 3) := dk_180 1 114 (dk_at dksX2_trustOf_5 13 rfl rfl)
theorem dX2_trustOf_132 : decode cX2_trustOf 132 = .ok (.if_icmp .ge 31, 3) := dk_162 0 31 (dk_at dksX2_trustOf_5 16 rfl rfl)
theorem dX2_trustOf_135 : decode cX2_trustOf 135 = .ok (.aload_n 0, 1) := dk_42 (dk_at dksX2_trustOf_5 19 rfl rfl)
theorem dX2_trustOf_136 : decode cX2_trustOf 136 = .ok (.getfield 154, 3) := dk_180 0 154 (dk_at dksX2_trustOf_5 20 rfl rfl)
theorem dX2_trustOf_139 : decode cX2_trustOf 139 = .ok (.bipush 8, 2) := dk_16 8 (dk_at dksX2_trustOf_6 0 rfl rfl)
theorem dX2_trustOf_141 : decode cX2_trustOf 141 = .ok (.dup2, 1) := dk_92 (dk_at dksX2_trustOf_6 2 rfl rfl)
theorem dX2_trustOf_142 : decode cX2_trustOf 142 = .ok (.iaload, 1) := dk_46 (dk_at dksX2_trustOf_6 3 rfl rfl)
theorem dX2_trustOf_143 : decode cX2_trustOf 143 = .ok (.aload_n 0, 1) := dk_42 (dk_at dksX2_trustOf_6 4 rfl rfl)
theorem dX2_trustOf_144 : decode cX2_trustOf 144 = .ok (.getfield 64, 3) := dk_180 0 64 (dk_at dksX2_trustOf_6 5 rfl rfl)
theorem dX2_trustOf_147 : decode cX2_trustOf 147 = .ok (.aload_n 0, 1) := dk_42 (dk_at dksX2_trustOf_6 8 rfl rfl)
theorem dX2_trustOf_148 : decode cX2_trustOf 148 = .ok (.getfield 79, 3) := dk_180 0 79 (dk_at dksX2_trustOf_6 9 rfl rfl)
theorem dX2_trustOf_151 : decode cX2_trustOf 151 = .ok (.iload 5, 2) := dk_21 5 (dk_at dksX2_trustOf_6 12 rfl rfl)
theorem dX2_trustOf_153 : decode cX2_trustOf 153 = .ok (.iaload, 1) := dk_46 (dk_at dksX2_trustOf_6 14 rfl rfl)
theorem dX2_trustOf_154 : decode cX2_trustOf 154 = .ok (.iaload, 1) := dk_46 (dk_at dksX2_trustOf_6 15 rfl rfl)
theorem dX2_trustOf_155 : decode cX2_trustOf 155 = .ok (.iadd, 1) := dk_96 (dk_at dksX2_trustOf_6 16 rfl rfl)
theorem dX2_trustOf_156 : decode cX2_trustOf 156 = .ok (.iastore, 1) := dk_79 (dk_at dksX2_trustOf_6 17 rfl rfl)
theorem dX2_trustOf_157 : decode cX2_trustOf 157 = .ok (.iinc 5 1, 3) := dk_132 5 1 (dk_at dksX2_trustOf_6 18 rfl rfl)
theorem dX2_trustOf_160 : decode cX2_trustOf 160 = .ok (.goto (-34), 3) := dk_167 255 222 (dk_at dksX2_trustOf_6 21 rfl rfl)
theorem dX2_trustOf_163 : decode cX2_trustOf 163 = .ok (.iconst 0, 1) := dk_3 (dk_at dksX2_trustOf_7 0 rfl rfl)
theorem dX2_trustOf_164 : decode cX2_trustOf 164 = .ok (.istore 5, 2) := dk_54 5 (dk_at dksX2_trustOf_7 1 rfl rfl)
theorem dX2_trustOf_166 : decode cX2_trustOf 166 = .ok (.iload 5, 2) := dk_21 5 (dk_at dksX2_trustOf_7 3 rfl rfl)
theorem dX2_trustOf_168 : decode cX2_trustOf 168 = .ok (.aload_n 0, 1) := dk_42 (dk_at dksX2_trustOf_7 5 rfl rfl)
theorem dX2_trustOf_169 : decode cX2_trustOf 169 = .ok (.getfield 336, 3) := dk_180 1 80 (dk_at dksX2_trustOf_7 6 rfl rfl)
theorem dX2_trustOf_172 : decode cX2_trustOf 172 = .ok (.if_icmp .ge 26, 3) := dk_162 0 26 (dk_at dksX2_trustOf_7 9 rfl rfl)
theorem dX2_trustOf_175 : decode cX2_trustOf 175 = .ok (.aload_n 0, 1) := dk_42 (dk_at dksX2_trustOf_7 12 rfl rfl)
theorem dX2_trustOf_176 : decode cX2_trustOf 176 = .ok (.iload 5, 2) := dk_21 5 (dk_at dksX2_trustOf_7 13 rfl rfl)
theorem dX2_trustOf_178 : decode cX2_trustOf 178 = .ok (.invokevirtual 619, 3) := dk_182 2 107 (dk_at dksX2_trustOf_7 15 rfl rfl)
theorem dX2_trustOf_181 : decode cX2_trustOf 181 = .ok (.ifCond .eq 11, 3) := dk_153 0 11 (dk_at dksX2_trustOf_7 18 rfl rfl)
theorem dX2_trustOf_184 : decode cX2_trustOf 184 = .ok (.aload_n 0, 1) := dk_42 (dk_at dksX2_trustOf_7 21 rfl rfl)
theorem dX2_trustOf_185 : decode cX2_trustOf 185 = .ok (.getfield 145, 3) := dk_180 0 145 (dk_at dksX2_trustOf_8 0 rfl rfl)
theorem dX2_trustOf_188 : decode cX2_trustOf 188 = .ok (.iload 5, 2) := dk_21 5 (dk_at dksX2_trustOf_8 3 rfl rfl)
theorem dX2_trustOf_190 : decode cX2_trustOf 190 = .ok (.iaload, 1) := dk_46 (dk_at dksX2_trustOf_8 5 rfl rfl)
theorem dX2_trustOf_191 : decode cX2_trustOf 191 = .ok (.ireturn, 1) := dk_172 (dk_at dksX2_trustOf_8 6 rfl rfl)
theorem dX2_trustOf_192 : decode cX2_trustOf 192 = .ok (.iinc 5 1, 3) := dk_132 5 1 (dk_at dksX2_trustOf_8 7 rfl rfl)
theorem dX2_trustOf_195 : decode cX2_trustOf 195 = .ok (.goto (-29), 3) := dk_167 255 227 (dk_at dksX2_trustOf_8 10 rfl rfl)
theorem dX2_trustOf_198 : decode cX2_trustOf 198 = .ok (.iconst 0, 1) := dk_3 (dk_at dksX2_trustOf_8 13 rfl rfl)
theorem dX2_trustOf_199 : decode cX2_trustOf 199 = .ok (.ireturn, 1) := dk_172 (dk_at dksX2_trustOf_8 14 rfl rfl)
abbrev cX2_holds : ByteArray := prog_28_method_108_code
def yX2_holds : MethodName := ⟨RX2, "holds", "(I)Z"⟩
def dkwX2_holds_7 : List UInt8 := [167, 0, 4, 3, 172]
abbrev dktX2_holds_7 : List UInt8 := dkwX2_holds_7 ++ []
def dkwX2_holds_6 : List UInt8 := [28, 46, 184, 2, 104, 79, 132, 3, 1, 167, 255, 117, 42, 180, 0, 151, 3, 46, 153, 0, 7, 4]
abbrev dktX2_holds_6 : List UInt8 := dkwX2_holds_6 ++ dktX2_holds_7
def dkwX2_holds_5 : List UInt8 := [180, 0, 151, 28, 4, 100, 42, 180, 0, 136, 29, 46, 42, 180, 0, 151, 28, 4, 100, 46, 42, 180, 0, 151]
abbrev dktX2_holds_5 : List UInt8 := dkwX2_holds_5 ++ dktX2_holds_6
def dkwX2_holds_4 : List UInt8 := [180, 0, 151, 28, 4, 100, 46, 154, 0, 7, 4, 167, 0, 4, 3, 79, 167, 0, 37, 132, 2, 255, 42]
abbrev dktX2_holds_4 : List UInt8 := dkwX2_holds_4 ++ dktX2_holds_5
def dkwX2_holds_3 : List UInt8 := [167, 0, 75, 42, 180, 0, 136, 29, 46, 16, 22, 160, 0, 30, 42, 180, 0, 151, 28, 4, 100, 42]
abbrev dktX2_holds_3 : List UInt8 := dkwX2_holds_3 ++ dktX2_holds_4
def dkwX2_holds_2 : List UInt8 := [42, 180, 0, 139, 29, 46, 167, 0, 14, 42, 180, 0, 154, 42, 180, 0, 136, 29, 46, 46, 79, 132, 2, 1]
abbrev dktX2_holds_2 : List UInt8 := dkwX2_holds_2 ++ dktX2_holds_3
def dkwX2_holds_1 : List UInt8 := [180, 0, 136, 29, 46, 16, 20, 162, 0, 44, 42, 180, 0, 151, 28, 42, 180, 0, 136, 29, 46, 154, 0, 12]
abbrev dktX2_holds_1 : List UInt8 := dkwX2_holds_1 ++ dktX2_holds_2
def dkwX2_holds_0 : List UInt8 := [3, 61, 42, 180, 0, 142, 27, 46, 62, 29, 42, 180, 0, 142, 27, 4, 96, 46, 162, 0, 133, 42]
abbrev dktX2_holds_0 : List UInt8 := dkwX2_holds_0 ++ dktX2_holds_1
theorem dksX2_holds_0 : cX2_holds.data.toList.drop 0 = dktX2_holds_0 := by decide +kernel
theorem dksX2_holds_1 : cX2_holds.data.toList.drop 22 = dktX2_holds_1 := dk_seg dksX2_holds_0 22 rfl rfl
theorem dksX2_holds_2 : cX2_holds.data.toList.drop 46 = dktX2_holds_2 := dk_seg dksX2_holds_1 24 rfl rfl
theorem dksX2_holds_3 : cX2_holds.data.toList.drop 70 = dktX2_holds_3 := dk_seg dksX2_holds_2 24 rfl rfl
theorem dksX2_holds_4 : cX2_holds.data.toList.drop 92 = dktX2_holds_4 := dk_seg dksX2_holds_3 22 rfl rfl
theorem dksX2_holds_5 : cX2_holds.data.toList.drop 115 = dktX2_holds_5 := dk_seg dksX2_holds_4 23 rfl rfl
theorem dksX2_holds_6 : cX2_holds.data.toList.drop 139 = dktX2_holds_6 := dk_seg dksX2_holds_5 24 rfl rfl
theorem dksX2_holds_7 : cX2_holds.data.toList.drop 161 = dktX2_holds_7 := dk_seg dksX2_holds_6 22 rfl rfl
theorem dX2_holds_0 : decode cX2_holds 0 = .ok (.iconst 0, 1) := dk_3 (dk_at dksX2_holds_0 0 rfl rfl)
theorem dX2_holds_1 : decode cX2_holds 1 = .ok (.istore_n 2, 1) := dk_61 (dk_at dksX2_holds_0 1 rfl rfl)
theorem dX2_holds_2 : decode cX2_holds 2 = .ok (.aload_n 0, 1) := dk_42 (dk_at dksX2_holds_0 2 rfl rfl)
theorem dX2_holds_3 : decode cX2_holds 3 = .ok (.getfield 142, 3) := dk_180 0 142 (dk_at dksX2_holds_0 3 rfl rfl)
theorem dX2_holds_6 : decode cX2_holds 6 = .ok (.iload_n 1, 1) := dk_27 (dk_at dksX2_holds_0 6 rfl rfl)
theorem dX2_holds_7 : decode cX2_holds 7 = .ok (.iaload, 1) := dk_46 (dk_at dksX2_holds_0 7 rfl rfl)
theorem dX2_holds_8 : decode cX2_holds 8 = .ok (.istore_n 3, 1) := dk_62 (dk_at dksX2_holds_0 8 rfl rfl)
theorem dX2_holds_9 : decode cX2_holds 9 = .ok (.iload_n 3, 1) := dk_29 (dk_at dksX2_holds_0 9 rfl rfl)
theorem dX2_holds_10 : decode cX2_holds 10 = .ok (.aload_n 0, 1) := dk_42 (dk_at dksX2_holds_0 10 rfl rfl)
theorem dX2_holds_11 : decode cX2_holds 11 = .ok (.getfield 142, 3) := dk_180 0 142 (dk_at dksX2_holds_0 11 rfl rfl)
theorem dX2_holds_14 : decode cX2_holds 14 = .ok (.iload_n 1, 1) := dk_27 (dk_at dksX2_holds_0 14 rfl rfl)
theorem dX2_holds_15 : decode cX2_holds 15 = .ok (.iconst 1, 1) := dk_4 (dk_at dksX2_holds_0 15 rfl rfl)
theorem dX2_holds_16 : decode cX2_holds 16 = .ok (.iadd, 1) := dk_96 (dk_at dksX2_holds_0 16 rfl rfl)
theorem dX2_holds_17 : decode cX2_holds 17 = .ok (.iaload, 1) := dk_46 (dk_at dksX2_holds_0 17 rfl rfl)
theorem dX2_holds_18 : decode cX2_holds 18 = .ok (.if_icmp .ge 133, 3) := dk_162 0 133 (dk_at dksX2_holds_0 18 rfl rfl)
theorem dX2_holds_21 : decode cX2_holds 21 = .ok (.aload_n 0, 1) := dk_42 (dk_at dksX2_holds_0 21 rfl rfl)
theorem dX2_holds_22 : decode cX2_holds 22 = .ok (.getfield 136, 3) := dk_180 0 136 (dk_at dksX2_holds_1 0 rfl rfl)
theorem dX2_holds_25 : decode cX2_holds 25 = .ok (.iload_n 3, 1) := dk_29 (dk_at dksX2_holds_1 3 rfl rfl)
theorem dX2_holds_26 : decode cX2_holds 26 = .ok (.iaload, 1) := dk_46 (dk_at dksX2_holds_1 4 rfl rfl)
theorem dX2_holds_27 : decode cX2_holds 27 = .ok (.bipush 20, 2) := dk_16 20 (dk_at dksX2_holds_1 5 rfl rfl)
theorem dX2_holds_29 : decode cX2_holds 29 = .ok (.if_icmp .ge 44, 3) := dk_162 0 44 (dk_at dksX2_holds_1 7 rfl rfl)
theorem dX2_holds_32 : decode cX2_holds 32 = .ok (.aload_n 0, 1) := dk_42 (dk_at dksX2_holds_1 10 rfl rfl)
theorem dX2_holds_33 : decode cX2_holds 33 = .ok (.getfield 151, 3) := dk_180 0 151 (dk_at dksX2_holds_1 11 rfl rfl)
theorem dX2_holds_36 : decode cX2_holds 36 = .ok (.iload_n 2, 1) := dk_28 (dk_at dksX2_holds_1 14 rfl rfl)
theorem dX2_holds_37 : decode cX2_holds 37 = .ok (.aload_n 0, 1) := dk_42 (dk_at dksX2_holds_1 15 rfl rfl)
theorem dX2_holds_38 : decode cX2_holds 38 = .ok (.getfield 136, 3) := dk_180 0 136 (dk_at dksX2_holds_1 16 rfl rfl)
theorem dX2_holds_41 : decode cX2_holds 41 = .ok (.iload_n 3, 1) := dk_29 (dk_at dksX2_holds_1 19 rfl rfl)
theorem dX2_holds_42 : decode cX2_holds 42 = .ok (.iaload, 1) := dk_46 (dk_at dksX2_holds_1 20 rfl rfl)
theorem dX2_holds_43 : decode cX2_holds 43 = .ok (.ifCond .ne 12, 3) := dk_154 0 12 (dk_at dksX2_holds_1 21 rfl rfl)
theorem dX2_holds_46 : decode cX2_holds 46 = .ok (.aload_n 0, 1) := dk_42 (dk_at dksX2_holds_2 0 rfl rfl)
theorem dX2_holds_47 : decode cX2_holds 47 = .ok (.getfield 139, 3) := dk_180 0 139 (dk_at dksX2_holds_2 1 rfl rfl)
theorem dX2_holds_50 : decode cX2_holds 50 = .ok (.iload_n 3, 1) := dk_29 (dk_at dksX2_holds_2 4 rfl rfl)
theorem dX2_holds_51 : decode cX2_holds 51 = .ok (.iaload, 1) := dk_46 (dk_at dksX2_holds_2 5 rfl rfl)
theorem dX2_holds_52 : decode cX2_holds 52 = .ok (.goto 14, 3) := dk_167 0 14 (dk_at dksX2_holds_2 6 rfl rfl)
theorem dX2_holds_55 : decode cX2_holds 55 = .ok (.aload_n 0, 1) := dk_42 (dk_at dksX2_holds_2 9 rfl rfl)
theorem dX2_holds_56 : decode cX2_holds 56 = .ok (.getfield 154, 3) := dk_180 0 154 (dk_at dksX2_holds_2 10 rfl rfl)
theorem dX2_holds_59 : decode cX2_holds 59 = .ok (.aload_n 0, 1) := dk_42 (dk_at dksX2_holds_2 13 rfl rfl)
theorem dX2_holds_60 : decode cX2_holds 60 = .ok (.getfield 136, 3) := dk_180 0 136 (dk_at dksX2_holds_2 14 rfl rfl)
theorem dX2_holds_63 : decode cX2_holds 63 = .ok (.iload_n 3, 1) := dk_29 (dk_at dksX2_holds_2 17 rfl rfl)
theorem dX2_holds_64 : decode cX2_holds 64 = .ok (.iaload, 1) := dk_46 (dk_at dksX2_holds_2 18 rfl rfl)
theorem dX2_holds_65 : decode cX2_holds 65 = .ok (.iaload, 1) := dk_46 (dk_at dksX2_holds_2 19 rfl rfl)
theorem dX2_holds_66 : decode cX2_holds 66 = .ok (.iastore, 1) := dk_79 (dk_at dksX2_holds_2 20 rfl rfl)
theorem dX2_holds_67 : decode cX2_holds 67 = .ok (.iinc 2 1, 3) := dk_132 2 1 (dk_at dksX2_holds_2 21 rfl rfl)
theorem dX2_holds_70 : decode cX2_holds 70 = .ok (.goto 75, 3) := dk_167 0 75 (dk_at dksX2_holds_3 0 rfl rfl)
theorem dX2_holds_73 : decode cX2_holds 73 = .ok (.aload_n 0, 1) := dk_42 (dk_at dksX2_holds_3 3 rfl rfl)
theorem dX2_holds_74 : decode cX2_holds 74 = .ok (.getfield 136, 3) := dk_180 0 136 (dk_at dksX2_holds_3 4 rfl rfl)
theorem dX2_holds_77 : decode cX2_holds 77 = .ok (.iload_n 3, 1) := dk_29 (dk_at dksX2_holds_3 7 rfl rfl)
theorem dX2_holds_78 : decode cX2_holds 78 = .ok (.iaload, 1) := dk_46 (dk_at dksX2_holds_3 8 rfl rfl)
theorem dX2_holds_79 : decode cX2_holds 79 = .ok (.bipush 22, 2) := dk_16 22 (dk_at dksX2_holds_3 9 rfl rfl)
theorem dX2_holds_81 : decode cX2_holds 81 = .ok (.if_icmp .ne 30, 3) := dk_160 0 30 (dk_at dksX2_holds_3 11 rfl rfl)
theorem dX2_holds_84 : decode cX2_holds 84 = .ok (.aload_n 0, 1) := dk_42 (dk_at dksX2_holds_3 14 rfl rfl)
theorem dX2_holds_85 : decode cX2_holds 85 = .ok (.getfield 151, 3) := dk_180 0 151 (dk_at dksX2_holds_3 15 rfl rfl)
theorem dX2_holds_88 : decode cX2_holds 88 = .ok (.iload_n 2, 1) := dk_28 (dk_at dksX2_holds_3 18 rfl rfl)
theorem dX2_holds_89 : decode cX2_holds 89 = .ok (.iconst 1, 1) := dk_4 (dk_at dksX2_holds_3 19 rfl rfl)
theorem dX2_holds_90 : decode cX2_holds 90 = .ok (.isub, 1) := dk_100 (dk_at dksX2_holds_3 20 rfl rfl)
theorem dX2_holds_91 : decode cX2_holds 91 = .ok (.aload_n 0, 1) := dk_42 (dk_at dksX2_holds_3 21 rfl rfl)
theorem dX2_holds_92 : decode cX2_holds 92 = .ok (.getfield 151, 3) := dk_180 0 151 (dk_at dksX2_holds_4 0 rfl rfl)
theorem dX2_holds_95 : decode cX2_holds 95 = .ok (.iload_n 2, 1) := dk_28 (dk_at dksX2_holds_4 3 rfl rfl)
theorem dX2_holds_96 : decode cX2_holds 96 = .ok (.iconst 1, 1) := dk_4 (dk_at dksX2_holds_4 4 rfl rfl)
theorem dX2_holds_97 : decode cX2_holds 97 = .ok (.isub, 1) := dk_100 (dk_at dksX2_holds_4 5 rfl rfl)
theorem dX2_holds_98 : decode cX2_holds 98 = .ok (.iaload, 1) := dk_46 (dk_at dksX2_holds_4 6 rfl rfl)
theorem dX2_holds_99 : decode cX2_holds 99 = .ok (.ifCond .ne 7, 3) := dk_154 0 7 (dk_at dksX2_holds_4 7 rfl rfl)
theorem dX2_holds_102 : decode cX2_holds 102 = .ok (.iconst 1, 1) := dk_4 (dk_at dksX2_holds_4 10 rfl rfl)
theorem dX2_holds_103 : decode cX2_holds 103 = .ok (.goto 4, 3) := dk_167 0 4 (dk_at dksX2_holds_4 11 rfl rfl)
theorem dX2_holds_106 : decode cX2_holds 106 = .ok (.iconst 0, 1) := dk_3 (dk_at dksX2_holds_4 14 rfl rfl)
theorem dX2_holds_107 : decode cX2_holds 107 = .ok (.iastore, 1) := dk_79 (dk_at dksX2_holds_4 15 rfl rfl)
theorem dX2_holds_108 : decode cX2_holds 108 = .ok (.goto 37, 3) := dk_167 0 37 (dk_at dksX2_holds_4 16 rfl rfl)
theorem dX2_holds_111 : decode cX2_holds 111 = .ok (.iinc 2 (-1), 3) := dk_132 2 255 (dk_at dksX2_holds_4 19 rfl rfl)
theorem dX2_holds_114 : decode cX2_holds 114 = .ok (.aload_n 0, 1) := dk_42 (dk_at dksX2_holds_4 22 rfl rfl)
theorem dX2_holds_115 : decode cX2_holds 115 = .ok (.getfield 151, 3) := dk_180 0 151 (dk_at dksX2_holds_5 0 rfl rfl)
theorem dX2_holds_118 : decode cX2_holds 118 = .ok (.iload_n 2, 1) := dk_28 (dk_at dksX2_holds_5 3 rfl rfl)
theorem dX2_holds_119 : decode cX2_holds 119 = .ok (.iconst 1, 1) := dk_4 (dk_at dksX2_holds_5 4 rfl rfl)
theorem dX2_holds_120 : decode cX2_holds 120 = .ok (.isub, 1) := dk_100 (dk_at dksX2_holds_5 5 rfl rfl)
theorem dX2_holds_121 : decode cX2_holds 121 = .ok (.aload_n 0, 1) := dk_42 (dk_at dksX2_holds_5 6 rfl rfl)
theorem dX2_holds_122 : decode cX2_holds 122 = .ok (.getfield 136, 3) := dk_180 0 136 (dk_at dksX2_holds_5 7 rfl rfl)
theorem dX2_holds_125 : decode cX2_holds 125 = .ok (.iload_n 3, 1) := dk_29 (dk_at dksX2_holds_5 10 rfl rfl)
theorem dX2_holds_126 : decode cX2_holds 126 = .ok (.iaload, 1) := dk_46 (dk_at dksX2_holds_5 11 rfl rfl)
theorem dX2_holds_127 : decode cX2_holds 127 = .ok (.aload_n 0, 1) := dk_42 (dk_at dksX2_holds_5 12 rfl rfl)
theorem dX2_holds_128 : decode cX2_holds 128 = .ok (.getfield 151, 3) := dk_180 0 151 (dk_at dksX2_holds_5 13 rfl rfl)
theorem dX2_holds_131 : decode cX2_holds 131 = .ok (.iload_n 2, 1) := dk_28 (dk_at dksX2_holds_5 16 rfl rfl)
theorem dX2_holds_132 : decode cX2_holds 132 = .ok (.iconst 1, 1) := dk_4 (dk_at dksX2_holds_5 17 rfl rfl)
theorem dX2_holds_133 : decode cX2_holds 133 = .ok (.isub, 1) := dk_100 (dk_at dksX2_holds_5 18 rfl rfl)
theorem dX2_holds_134 : decode cX2_holds 134 = .ok (.iaload, 1) := dk_46 (dk_at dksX2_holds_5 19 rfl rfl)
theorem dX2_holds_135 : decode cX2_holds 135 = .ok (.aload_n 0, 1) := dk_42 (dk_at dksX2_holds_5 20 rfl rfl)
theorem dX2_holds_136 : decode cX2_holds 136 = .ok (.getfield 151, 3) := dk_180 0 151 (dk_at dksX2_holds_5 21 rfl rfl)
theorem dX2_holds_139 : decode cX2_holds 139 = .ok (.iload_n 2, 1) := dk_28 (dk_at dksX2_holds_6 0 rfl rfl)
theorem dX2_holds_140 : decode cX2_holds 140 = .ok (.iaload, 1) := dk_46 (dk_at dksX2_holds_6 1 rfl rfl)
theorem dX2_holds_141 : decode cX2_holds 141 = .ok (.invokestatic 616, 3) := dk_184 2 104 (dk_at dksX2_holds_6 2 rfl rfl)
theorem dX2_holds_144 : decode cX2_holds 144 = .ok (.iastore, 1) := dk_79 (dk_at dksX2_holds_6 5 rfl rfl)
theorem dX2_holds_145 : decode cX2_holds 145 = .ok (.iinc 3 1, 3) := dk_132 3 1 (dk_at dksX2_holds_6 6 rfl rfl)
theorem dX2_holds_148 : decode cX2_holds 148 = .ok (.goto (-139), 3) := dk_167 255 117 (dk_at dksX2_holds_6 9 rfl rfl)
theorem dX2_holds_151 : decode cX2_holds 151 = .ok (.aload_n 0, 1) := dk_42 (dk_at dksX2_holds_6 12 rfl rfl)
theorem dX2_holds_152 : decode cX2_holds 152 = .ok (.getfield 151, 3) := dk_180 0 151 (dk_at dksX2_holds_6 13 rfl rfl)
theorem dX2_holds_155 : decode cX2_holds 155 = .ok (.iconst 0, 1) := dk_3 (dk_at dksX2_holds_6 16 rfl rfl)
theorem dX2_holds_156 : decode cX2_holds 156 = .ok (.iaload, 1) := dk_46 (dk_at dksX2_holds_6 17 rfl rfl)
theorem dX2_holds_157 : decode cX2_holds 157 = .ok (.ifCond .eq 7, 3) := dk_153 0 7 (dk_at dksX2_holds_6 18 rfl rfl)
theorem dX2_holds_160 : decode cX2_holds 160 = .ok (.iconst 1, 1) := dk_4 (dk_at dksX2_holds_6 21 rfl rfl)
theorem dX2_holds_161 : decode cX2_holds 161 = .ok (.goto 4, 3) := dk_167 0 4 (dk_at dksX2_holds_7 0 rfl rfl)
theorem dX2_holds_164 : decode cX2_holds 164 = .ok (.iconst 0, 1) := dk_3 (dk_at dksX2_holds_7 3 rfl rfl)
theorem dX2_holds_165 : decode cX2_holds 165 = .ok (.ireturn, 1) := dk_172 (dk_at dksX2_holds_7 4 rfl rfl)
abbrev cX2_worked : ByteArray := prog_28_method_107_code
def yX2_worked : MethodName := ⟨RX2, "worked", "(III)I"⟩
def dkwX2_worked_4 : List UInt8 := [167, 0, 4, 3, 172, 27, 28, 164, 0, 7, 4, 167, 0, 4, 3, 172, 27, 28, 96, 172, 27, 28, 100, 172]
abbrev dktX2_worked_4 : List UInt8 := dkwX2_worked_4 ++ []
def dkwX2_worked_3 : List UInt8 := [167, 0, 4, 3, 172, 27, 28, 160, 0, 7, 4, 167, 0, 4, 3, 172, 27, 28, 162, 0, 7, 4]
abbrev dktX2_worked_3 : List UInt8 := dkwX2_worked_3 ++ dktX2_worked_4
def dkwX2_worked_2 : List UInt8 := [27, 154, 0, 7, 28, 153, 0, 7, 4, 167, 0, 4, 3, 172, 27, 153, 0, 11, 28, 153, 0, 7, 4]
abbrev dktX2_worked_2 : List UInt8 := dkwX2_worked_2 ++ dktX2_worked_3
def dkwX2_worked_1 : List UInt8 := [170, 0, 0, 0, 0, 0, 108, 0, 0, 0, 20, 0, 0, 0, 26, 0, 0, 0, 43, 0, 0, 0, 57, 0, 0, 0, 108, 0, 0, 0, 71, 0, 0, 0, 82, 0, 0, 0, 93, 0, 0, 0, 104]
abbrev dktX2_worked_1 : List UInt8 := dkwX2_worked_1 ++ dktX2_worked_2
def dkwX2_worked_0 : List UInt8 := [26]
abbrev dktX2_worked_0 : List UInt8 := dkwX2_worked_0 ++ dktX2_worked_1
theorem dksX2_worked_0 : cX2_worked.data.toList.drop 0 = dktX2_worked_0 := by decide +kernel
theorem dksX2_worked_1 : cX2_worked.data.toList.drop 1 = dktX2_worked_1 := dk_seg dksX2_worked_0 1 rfl rfl
theorem dksX2_worked_2 : cX2_worked.data.toList.drop 44 = dktX2_worked_2 := dk_seg dksX2_worked_1 43 rfl rfl
theorem dksX2_worked_3 : cX2_worked.data.toList.drop 67 = dktX2_worked_3 := dk_seg dksX2_worked_2 23 rfl rfl
theorem dksX2_worked_4 : cX2_worked.data.toList.drop 89 = dktX2_worked_4 := dk_seg dksX2_worked_3 22 rfl rfl
theorem dX2_worked_0 : decode cX2_worked 0 = .ok (.iload_n 0, 1) := dk_26 (dk_at dksX2_worked_0 0 rfl rfl)
theorem dX2_worked_1 : decode cX2_worked 1 = .ok (.tableswitch 108 20 26 #[43, 57, 108, 71, 82, 93, 104], 43) := by decide +kernel
theorem dX2_worked_44 : decode cX2_worked 44 = .ok (.iload_n 1, 1) := dk_27 (dk_at dksX2_worked_2 0 rfl rfl)
theorem dX2_worked_45 : decode cX2_worked 45 = .ok (.ifCond .ne 7, 3) := dk_154 0 7 (dk_at dksX2_worked_2 1 rfl rfl)
theorem dX2_worked_48 : decode cX2_worked 48 = .ok (.iload_n 2, 1) := dk_28 (dk_at dksX2_worked_2 4 rfl rfl)
theorem dX2_worked_49 : decode cX2_worked 49 = .ok (.ifCond .eq 7, 3) := dk_153 0 7 (dk_at dksX2_worked_2 5 rfl rfl)
theorem dX2_worked_52 : decode cX2_worked 52 = .ok (.iconst 1, 1) := dk_4 (dk_at dksX2_worked_2 8 rfl rfl)
theorem dX2_worked_53 : decode cX2_worked 53 = .ok (.goto 4, 3) := dk_167 0 4 (dk_at dksX2_worked_2 9 rfl rfl)
theorem dX2_worked_56 : decode cX2_worked 56 = .ok (.iconst 0, 1) := dk_3 (dk_at dksX2_worked_2 12 rfl rfl)
theorem dX2_worked_57 : decode cX2_worked 57 = .ok (.ireturn, 1) := dk_172 (dk_at dksX2_worked_2 13 rfl rfl)
theorem dX2_worked_58 : decode cX2_worked 58 = .ok (.iload_n 1, 1) := dk_27 (dk_at dksX2_worked_2 14 rfl rfl)
theorem dX2_worked_59 : decode cX2_worked 59 = .ok (.ifCond .eq 11, 3) := dk_153 0 11 (dk_at dksX2_worked_2 15 rfl rfl)
theorem dX2_worked_62 : decode cX2_worked 62 = .ok (.iload_n 2, 1) := dk_28 (dk_at dksX2_worked_2 18 rfl rfl)
theorem dX2_worked_63 : decode cX2_worked 63 = .ok (.ifCond .eq 7, 3) := dk_153 0 7 (dk_at dksX2_worked_2 19 rfl rfl)
theorem dX2_worked_66 : decode cX2_worked 66 = .ok (.iconst 1, 1) := dk_4 (dk_at dksX2_worked_2 22 rfl rfl)
theorem dX2_worked_67 : decode cX2_worked 67 = .ok (.goto 4, 3) := dk_167 0 4 (dk_at dksX2_worked_3 0 rfl rfl)
theorem dX2_worked_70 : decode cX2_worked 70 = .ok (.iconst 0, 1) := dk_3 (dk_at dksX2_worked_3 3 rfl rfl)
theorem dX2_worked_71 : decode cX2_worked 71 = .ok (.ireturn, 1) := dk_172 (dk_at dksX2_worked_3 4 rfl rfl)
theorem dX2_worked_72 : decode cX2_worked 72 = .ok (.iload_n 1, 1) := dk_27 (dk_at dksX2_worked_3 5 rfl rfl)
theorem dX2_worked_73 : decode cX2_worked 73 = .ok (.iload_n 2, 1) := dk_28 (dk_at dksX2_worked_3 6 rfl rfl)
theorem dX2_worked_74 : decode cX2_worked 74 = .ok (.if_icmp .ne 7, 3) := dk_160 0 7 (dk_at dksX2_worked_3 7 rfl rfl)
theorem dX2_worked_77 : decode cX2_worked 77 = .ok (.iconst 1, 1) := dk_4 (dk_at dksX2_worked_3 10 rfl rfl)
theorem dX2_worked_78 : decode cX2_worked 78 = .ok (.goto 4, 3) := dk_167 0 4 (dk_at dksX2_worked_3 11 rfl rfl)
theorem dX2_worked_81 : decode cX2_worked 81 = .ok (.iconst 0, 1) := dk_3 (dk_at dksX2_worked_3 14 rfl rfl)
theorem dX2_worked_82 : decode cX2_worked 82 = .ok (.ireturn, 1) := dk_172 (dk_at dksX2_worked_3 15 rfl rfl)
theorem dX2_worked_83 : decode cX2_worked 83 = .ok (.iload_n 1, 1) := dk_27 (dk_at dksX2_worked_3 16 rfl rfl)
theorem dX2_worked_84 : decode cX2_worked 84 = .ok (.iload_n 2, 1) := dk_28 (dk_at dksX2_worked_3 17 rfl rfl)
theorem dX2_worked_85 : decode cX2_worked 85 = .ok (.if_icmp .ge 7, 3) := dk_162 0 7 (dk_at dksX2_worked_3 18 rfl rfl)
theorem dX2_worked_88 : decode cX2_worked 88 = .ok (.iconst 1, 1) := dk_4 (dk_at dksX2_worked_3 21 rfl rfl)
theorem dX2_worked_89 : decode cX2_worked 89 = .ok (.goto 4, 3) := dk_167 0 4 (dk_at dksX2_worked_4 0 rfl rfl)
theorem dX2_worked_92 : decode cX2_worked 92 = .ok (.iconst 0, 1) := dk_3 (dk_at dksX2_worked_4 3 rfl rfl)
theorem dX2_worked_93 : decode cX2_worked 93 = .ok (.ireturn, 1) := dk_172 (dk_at dksX2_worked_4 4 rfl rfl)
theorem dX2_worked_94 : decode cX2_worked 94 = .ok (.iload_n 1, 1) := dk_27 (dk_at dksX2_worked_4 5 rfl rfl)
theorem dX2_worked_95 : decode cX2_worked 95 = .ok (.iload_n 2, 1) := dk_28 (dk_at dksX2_worked_4 6 rfl rfl)
theorem dX2_worked_96 : decode cX2_worked 96 = .ok (.if_icmp .le 7, 3) := dk_164 0 7 (dk_at dksX2_worked_4 7 rfl rfl)
theorem dX2_worked_99 : decode cX2_worked 99 = .ok (.iconst 1, 1) := dk_4 (dk_at dksX2_worked_4 10 rfl rfl)
theorem dX2_worked_100 : decode cX2_worked 100 = .ok (.goto 4, 3) := dk_167 0 4 (dk_at dksX2_worked_4 11 rfl rfl)
theorem dX2_worked_103 : decode cX2_worked 103 = .ok (.iconst 0, 1) := dk_3 (dk_at dksX2_worked_4 14 rfl rfl)
theorem dX2_worked_104 : decode cX2_worked 104 = .ok (.ireturn, 1) := dk_172 (dk_at dksX2_worked_4 15 rfl rfl)
theorem dX2_worked_105 : decode cX2_worked 105 = .ok (.iload_n 1, 1) := dk_27 (dk_at dksX2_worked_4 16 rfl rfl)
theorem dX2_worked_106 : decode cX2_worked 106 = .ok (.iload_n 2, 1) := dk_28 (dk_at dksX2_worked_4 17 rfl rfl)
theorem dX2_worked_107 : decode cX2_worked 107 = .ok (.iadd, 1) := dk_96 (dk_at dksX2_worked_4 18 rfl rfl)
theorem dX2_worked_108 : decode cX2_worked 108 = .ok (.ireturn, 1) := dk_172 (dk_at dksX2_worked_4 19 rfl rfl)
theorem dX2_worked_109 : decode cX2_worked 109 = .ok (.iload_n 1, 1) := dk_27 (dk_at dksX2_worked_4 20 rfl rfl)
theorem dX2_worked_110 : decode cX2_worked 110 = .ok (.iload_n 2, 1) := dk_28 (dk_at dksX2_worked_4 21 rfl rfl)
theorem dX2_worked_111 : decode cX2_worked 111 = .ok (.isub, 1) := dk_100 (dk_at dksX2_worked_4 22 rfl rfl)
theorem dX2_worked_112 : decode cX2_worked 112 = .ok (.ireturn, 1) := dk_172 (dk_at dksX2_worked_4 23 rfl rfl)
abbrev cX2_believed : ByteArray := prog_28_method_111_code
def yX2_believed : MethodName := ⟨RX2, "believed", "(I)I"⟩
def dkwX2_believed_2 : List UInt8 := [162, 0, 6, 167, 0, 9, 21, 4, 61, 21, 5, 62, 132, 4, 1, 167, 255, 201, 28, 172]
abbrev dktX2_believed_2 : List UInt8 := dkwX2_believed_2 ++ []
def dkwX2_believed_1 : List UInt8 := [153, 0, 13, 42, 21, 4, 27, 182, 2, 110, 167, 0, 4, 2, 54, 5, 21, 5, 155, 0, 18, 21, 5, 29]
abbrev dktX2_believed_1 : List UInt8 := dkwX2_believed_1 ++ dktX2_believed_2
def dkwX2_believed_0 : List UInt8 := [2, 61, 2, 62, 3, 54, 4, 21, 4, 42, 180, 1, 77, 162, 0, 52, 42, 21, 4, 27, 182, 1, 117]
abbrev dktX2_believed_0 : List UInt8 := dkwX2_believed_0 ++ dktX2_believed_1
theorem dksX2_believed_0 : cX2_believed.data.toList.drop 0 = dktX2_believed_0 := by decide +kernel
theorem dksX2_believed_1 : cX2_believed.data.toList.drop 23 = dktX2_believed_1 := dk_seg dksX2_believed_0 23 rfl rfl
theorem dksX2_believed_2 : cX2_believed.data.toList.drop 47 = dktX2_believed_2 := dk_seg dksX2_believed_1 24 rfl rfl
theorem dX2_believed_0 : decode cX2_believed 0 = .ok (.iconst (-1), 1) := dk_2 (dk_at dksX2_believed_0 0 rfl rfl)
theorem dX2_believed_1 : decode cX2_believed 1 = .ok (.istore_n 2, 1) := dk_61 (dk_at dksX2_believed_0 1 rfl rfl)
theorem dX2_believed_2 : decode cX2_believed 2 = .ok (.iconst (-1), 1) := dk_2 (dk_at dksX2_believed_0 2 rfl rfl)
theorem dX2_believed_3 : decode cX2_believed 3 = .ok (.istore_n 3, 1) := dk_62 (dk_at dksX2_believed_0 3 rfl rfl)
theorem dX2_believed_4 : decode cX2_believed 4 = .ok (.iconst 0, 1) := dk_3 (dk_at dksX2_believed_0 4 rfl rfl)
theorem dX2_believed_5 : decode cX2_believed 5 = .ok (.istore 4, 2) := dk_54 4 (dk_at dksX2_believed_0 5 rfl rfl)
theorem dX2_believed_7 : decode cX2_believed 7 = .ok (.iload 4, 2) := dk_21 4 (dk_at dksX2_believed_0 7 rfl rfl)
theorem dX2_believed_9 : decode cX2_believed 9 = .ok (.aload_n 0, 1) := dk_42 (dk_at dksX2_believed_0 9 rfl rfl)
theorem dX2_believed_10 : decode cX2_believed 10 = .ok (.getfield 333, 3) := dk_180 1 77 (dk_at dksX2_believed_0 10 rfl rfl)
theorem dX2_believed_13 : decode cX2_believed 13 = .ok (.if_icmp .ge 52, 3) := dk_162 0 52 (dk_at dksX2_believed_0 13 rfl rfl)
theorem dX2_believed_16 : decode cX2_believed 16 = .ok (.aload_n 0, 1) := dk_42 (dk_at dksX2_believed_0 16 rfl rfl)
theorem dX2_believed_17 : decode cX2_believed 17 = .ok (.iload 4, 2) := dk_21 4 (dk_at dksX2_believed_0 17 rfl rfl)
theorem dX2_believed_19 : decode cX2_believed 19 = .ok (.iload_n 1, 1) := dk_27 (dk_at dksX2_believed_0 19 rfl rfl)
theorem dX2_believed_20 : decode cX2_believed 20 = .ok (.invokevirtual 373, 3) := dk_182 1 117 (dk_at dksX2_believed_0 20 rfl rfl)
theorem dX2_believed_23 : decode cX2_believed 23 = .ok (.ifCond .eq 13, 3) := dk_153 0 13 (dk_at dksX2_believed_1 0 rfl rfl)
theorem dX2_believed_26 : decode cX2_believed 26 = .ok (.aload_n 0, 1) := dk_42 (dk_at dksX2_believed_1 3 rfl rfl)
theorem dX2_believed_27 : decode cX2_believed 27 = .ok (.iload 4, 2) := dk_21 4 (dk_at dksX2_believed_1 4 rfl rfl)
theorem dX2_believed_29 : decode cX2_believed 29 = .ok (.iload_n 1, 1) := dk_27 (dk_at dksX2_believed_1 6 rfl rfl)
theorem dX2_believed_30 : decode cX2_believed 30 = .ok (.invokevirtual 622, 3) := dk_182 2 110 (dk_at dksX2_believed_1 7 rfl rfl)
theorem dX2_believed_33 : decode cX2_believed 33 = .ok (.goto 4, 3) := dk_167 0 4 (dk_at dksX2_believed_1 10 rfl rfl)
theorem dX2_believed_36 : decode cX2_believed 36 = .ok (.iconst (-1), 1) := dk_2 (dk_at dksX2_believed_1 13 rfl rfl)
theorem dX2_believed_37 : decode cX2_believed 37 = .ok (.istore 5, 2) := dk_54 5 (dk_at dksX2_believed_1 14 rfl rfl)
theorem dX2_believed_39 : decode cX2_believed 39 = .ok (.iload 5, 2) := dk_21 5 (dk_at dksX2_believed_1 16 rfl rfl)
theorem dX2_believed_41 : decode cX2_believed 41 = .ok (.ifCond .lt 18, 3) := dk_155 0 18 (dk_at dksX2_believed_1 18 rfl rfl)
theorem dX2_believed_44 : decode cX2_believed 44 = .ok (.iload 5, 2) := dk_21 5 (dk_at dksX2_believed_1 21 rfl rfl)
theorem dX2_believed_46 : decode cX2_believed 46 = .ok (.iload_n 3, 1) := dk_29 (dk_at dksX2_believed_1 23 rfl rfl)
theorem dX2_believed_47 : decode cX2_believed 47 = .ok (.if_icmp .ge 6, 3) := dk_162 0 6 (dk_at dksX2_believed_2 0 rfl rfl)
theorem dX2_believed_50 : decode cX2_believed 50 = .ok (.goto 9, 3) := dk_167 0 9 (dk_at dksX2_believed_2 3 rfl rfl)
theorem dX2_believed_53 : decode cX2_believed 53 = .ok (.iload 4, 2) := dk_21 4 (dk_at dksX2_believed_2 6 rfl rfl)
theorem dX2_believed_55 : decode cX2_believed 55 = .ok (.istore_n 2, 1) := dk_61 (dk_at dksX2_believed_2 8 rfl rfl)
theorem dX2_believed_56 : decode cX2_believed 56 = .ok (.iload 5, 2) := dk_21 5 (dk_at dksX2_believed_2 9 rfl rfl)
theorem dX2_believed_58 : decode cX2_believed 58 = .ok (.istore_n 3, 1) := dk_62 (dk_at dksX2_believed_2 11 rfl rfl)
theorem dX2_believed_59 : decode cX2_believed 59 = .ok (.iinc 4 1, 3) := dk_132 4 1 (dk_at dksX2_believed_2 12 rfl rfl)
theorem dX2_believed_62 : decode cX2_believed 62 = .ok (.goto (-55), 3) := dk_167 255 201 (dk_at dksX2_believed_2 15 rfl rfl)
theorem dX2_believed_65 : decode cX2_believed 65 = .ok (.iload_n 2, 1) := dk_28 (dk_at dksX2_believed_2 18 rfl rfl)
theorem dX2_believed_66 : decode cX2_believed 66 = .ok (.ireturn, 1) := dk_172 (dk_at dksX2_believed_2 19 rfl rfl)
abbrev cX2_image : ByteArray := prog_28_method_113_code
def yX2_image : MethodName := ⟨RX2, "image", "(I)I"⟩
def dkwX2_image_6 : List UInt8 := [79, 42, 180, 0, 175, 27, 42, 180, 1, 89, 79, 42, 180, 1, 77, 172]
abbrev dktX2_image_6 : List UInt8 := dkwX2_image_6 ++ []
def dkwX2_image_5 : List UInt8 := [28, 96, 42, 180, 0, 61, 28, 51, 84, 132, 2, 1, 167, 255, 228, 42, 180, 0, 172, 27, 42, 180, 1, 77]
abbrev dktX2_image_5 : List UInt8 := dkwX2_image_5 ++ dktX2_image_6
def dkwX2_image_4 : List UInt8 := [132, 2, 1, 167, 255, 213, 3, 61, 28, 17, 1, 0, 162, 0, 27, 42, 180, 0, 160, 17, 1, 0, 27, 104]
abbrev dktX2_image_4 : List UInt8 := dkwX2_image_4 ++ dktX2_image_5
def dkwX2_image_3 : List UInt8 := [180, 0, 55, 28, 46, 79, 42, 180, 0, 169, 16, 12, 27, 104, 28, 96, 42, 180, 0, 58, 28, 46, 79]
abbrev dktX2_image_3 : List UInt8 := dkwX2_image_3 ++ dktX2_image_4
def dkwX2_image_2 : List UInt8 := [167, 255, 228, 3, 61, 28, 16, 12, 162, 0, 43, 42, 180, 0, 166, 16, 12, 27, 104, 28, 96, 42]
abbrev dktX2_image_2 : List UInt8 := dkwX2_image_2 ++ dktX2_image_3
def dkwX2_image_1 : List UInt8 := [162, 0, 27, 42, 180, 0, 163, 17, 12, 0, 27, 104, 28, 96, 42, 180, 0, 49, 28, 46, 79, 132, 2, 1]
abbrev dktX2_image_1 : List UInt8 := dkwX2_image_1 ++ dktX2_image_2
def dkwX2_image_0 : List UInt8 := [27, 184, 2, 113, 154, 0, 5, 2, 172, 42, 180, 0, 157, 27, 4, 84, 3, 61, 28, 17, 12, 0]
abbrev dktX2_image_0 : List UInt8 := dkwX2_image_0 ++ dktX2_image_1
theorem dksX2_image_0 : cX2_image.data.toList.drop 0 = dktX2_image_0 := by decide +kernel
theorem dksX2_image_1 : cX2_image.data.toList.drop 22 = dktX2_image_1 := dk_seg dksX2_image_0 22 rfl rfl
theorem dksX2_image_2 : cX2_image.data.toList.drop 46 = dktX2_image_2 := dk_seg dksX2_image_1 24 rfl rfl
theorem dksX2_image_3 : cX2_image.data.toList.drop 68 = dktX2_image_3 := dk_seg dksX2_image_2 22 rfl rfl
theorem dksX2_image_4 : cX2_image.data.toList.drop 91 = dktX2_image_4 := dk_seg dksX2_image_3 23 rfl rfl
theorem dksX2_image_5 : cX2_image.data.toList.drop 115 = dktX2_image_5 := dk_seg dksX2_image_4 24 rfl rfl
theorem dksX2_image_6 : cX2_image.data.toList.drop 139 = dktX2_image_6 := dk_seg dksX2_image_5 24 rfl rfl
theorem dX2_image_0 : decode cX2_image 0 = .ok (.iload_n 1, 1) := dk_27 (dk_at dksX2_image_0 0 rfl rfl)
theorem dX2_image_1 : decode cX2_image 1 = .ok (.invokestatic 625, 3) := dk_184 2 113 (dk_at dksX2_image_0 1 rfl rfl)
theorem dX2_image_4 : decode cX2_image 4 = .ok (.ifCond .ne 5, 3) := dk_154 0 5 (dk_at dksX2_image_0 4 rfl rfl)
theorem dX2_image_7 : decode cX2_image 7 = .ok (.iconst (-1), 1) := dk_2 (dk_at dksX2_image_0 7 rfl rfl)
theorem dX2_image_8 : decode cX2_image 8 = .ok (.ireturn, 1) := dk_172 (dk_at dksX2_image_0 8 rfl rfl)
theorem dX2_image_9 : decode cX2_image 9 = .ok (.aload_n 0, 1) := dk_42 (dk_at dksX2_image_0 9 rfl rfl)
theorem dX2_image_10 : decode cX2_image 10 = .ok (.getfield 157, 3) := dk_180 0 157 (dk_at dksX2_image_0 10 rfl rfl)
theorem dX2_image_13 : decode cX2_image 13 = .ok (.iload_n 1, 1) := dk_27 (dk_at dksX2_image_0 13 rfl rfl)
theorem dX2_image_14 : decode cX2_image 14 = .ok (.iconst 1, 1) := dk_4 (dk_at dksX2_image_0 14 rfl rfl)
theorem dX2_image_15 : decode cX2_image 15 = .ok (.bastore, 1) := dk_84 (dk_at dksX2_image_0 15 rfl rfl)
theorem dX2_image_16 : decode cX2_image 16 = .ok (.iconst 0, 1) := dk_3 (dk_at dksX2_image_0 16 rfl rfl)
theorem dX2_image_17 : decode cX2_image 17 = .ok (.istore_n 2, 1) := dk_61 (dk_at dksX2_image_0 17 rfl rfl)
theorem dX2_image_18 : decode cX2_image 18 = .ok (.iload_n 2, 1) := dk_28 (dk_at dksX2_image_0 18 rfl rfl)
theorem dX2_image_19 : decode cX2_image 19 = .ok (.sipush 3072, 3) := dk_17 12 0 (dk_at dksX2_image_0 19 rfl rfl)
theorem dX2_image_22 : decode cX2_image 22 = .ok (.if_icmp .ge 27, 3) := dk_162 0 27 (dk_at dksX2_image_1 0 rfl rfl)
theorem dX2_image_25 : decode cX2_image 25 = .ok (.aload_n 0, 1) := dk_42 (dk_at dksX2_image_1 3 rfl rfl)
theorem dX2_image_26 : decode cX2_image 26 = .ok (.getfield 163, 3) := dk_180 0 163 (dk_at dksX2_image_1 4 rfl rfl)
theorem dX2_image_29 : decode cX2_image 29 = .ok (.sipush 3072, 3) := dk_17 12 0 (dk_at dksX2_image_1 7 rfl rfl)
theorem dX2_image_32 : decode cX2_image 32 = .ok (.iload_n 1, 1) := dk_27 (dk_at dksX2_image_1 10 rfl rfl)
theorem dX2_image_33 : decode cX2_image 33 = .ok (.imul, 1) := dk_104 (dk_at dksX2_image_1 11 rfl rfl)
theorem dX2_image_34 : decode cX2_image 34 = .ok (.iload_n 2, 1) := dk_28 (dk_at dksX2_image_1 12 rfl rfl)
theorem dX2_image_35 : decode cX2_image 35 = .ok (.iadd, 1) := dk_96 (dk_at dksX2_image_1 13 rfl rfl)
theorem dX2_image_36 : decode cX2_image 36 = .ok (.aload_n 0, 1) := dk_42 (dk_at dksX2_image_1 14 rfl rfl)
theorem dX2_image_37 : decode cX2_image 37 = .ok (.getfield 49, 3) := dk_180 0 49 (dk_at dksX2_image_1 15 rfl rfl)
theorem dX2_image_40 : decode cX2_image 40 = .ok (.iload_n 2, 1) := dk_28 (dk_at dksX2_image_1 18 rfl rfl)
theorem dX2_image_41 : decode cX2_image 41 = .ok (.iaload, 1) := dk_46 (dk_at dksX2_image_1 19 rfl rfl)
theorem dX2_image_42 : decode cX2_image 42 = .ok (.iastore, 1) := dk_79 (dk_at dksX2_image_1 20 rfl rfl)
theorem dX2_image_43 : decode cX2_image 43 = .ok (.iinc 2 1, 3) := dk_132 2 1 (dk_at dksX2_image_1 21 rfl rfl)
theorem dX2_image_46 : decode cX2_image 46 = .ok (.goto (-28), 3) := dk_167 255 228 (dk_at dksX2_image_2 0 rfl rfl)
theorem dX2_image_49 : decode cX2_image 49 = .ok (.iconst 0, 1) := dk_3 (dk_at dksX2_image_2 3 rfl rfl)
theorem dX2_image_50 : decode cX2_image 50 = .ok (.istore_n 2, 1) := dk_61 (dk_at dksX2_image_2 4 rfl rfl)
theorem dX2_image_51 : decode cX2_image 51 = .ok (.iload_n 2, 1) := dk_28 (dk_at dksX2_image_2 5 rfl rfl)
theorem dX2_image_52 : decode cX2_image 52 = .ok (.bipush 12, 2) := dk_16 12 (dk_at dksX2_image_2 6 rfl rfl)
theorem dX2_image_54 : decode cX2_image 54 = .ok (.if_icmp .ge 43, 3) := dk_162 0 43 (dk_at dksX2_image_2 8 rfl rfl)
theorem dX2_image_57 : decode cX2_image 57 = .ok (.aload_n 0, 1) := dk_42 (dk_at dksX2_image_2 11 rfl rfl)
theorem dX2_image_58 : decode cX2_image 58 = .ok (.getfield 166, 3) := dk_180 0 166 (dk_at dksX2_image_2 12 rfl rfl)
theorem dX2_image_61 : decode cX2_image 61 = .ok (.bipush 12, 2) := dk_16 12 (dk_at dksX2_image_2 15 rfl rfl)
theorem dX2_image_63 : decode cX2_image 63 = .ok (.iload_n 1, 1) := dk_27 (dk_at dksX2_image_2 17 rfl rfl)
theorem dX2_image_64 : decode cX2_image 64 = .ok (.imul, 1) := dk_104 (dk_at dksX2_image_2 18 rfl rfl)
theorem dX2_image_65 : decode cX2_image 65 = .ok (.iload_n 2, 1) := dk_28 (dk_at dksX2_image_2 19 rfl rfl)
theorem dX2_image_66 : decode cX2_image 66 = .ok (.iadd, 1) := dk_96 (dk_at dksX2_image_2 20 rfl rfl)
theorem dX2_image_67 : decode cX2_image 67 = .ok (.aload_n 0, 1) := dk_42 (dk_at dksX2_image_2 21 rfl rfl)
theorem dX2_image_68 : decode cX2_image 68 = .ok (.getfield 55, 3) := dk_180 0 55 (dk_at dksX2_image_3 0 rfl rfl)
theorem dX2_image_71 : decode cX2_image 71 = .ok (.iload_n 2, 1) := dk_28 (dk_at dksX2_image_3 3 rfl rfl)
theorem dX2_image_72 : decode cX2_image 72 = .ok (.iaload, 1) := dk_46 (dk_at dksX2_image_3 4 rfl rfl)
theorem dX2_image_73 : decode cX2_image 73 = .ok (.iastore, 1) := dk_79 (dk_at dksX2_image_3 5 rfl rfl)
theorem dX2_image_74 : decode cX2_image 74 = .ok (.aload_n 0, 1) := dk_42 (dk_at dksX2_image_3 6 rfl rfl)
theorem dX2_image_75 : decode cX2_image 75 = .ok (.getfield 169, 3) := dk_180 0 169 (dk_at dksX2_image_3 7 rfl rfl)
theorem dX2_image_78 : decode cX2_image 78 = .ok (.bipush 12, 2) := dk_16 12 (dk_at dksX2_image_3 10 rfl rfl)
theorem dX2_image_80 : decode cX2_image 80 = .ok (.iload_n 1, 1) := dk_27 (dk_at dksX2_image_3 12 rfl rfl)
theorem dX2_image_81 : decode cX2_image 81 = .ok (.imul, 1) := dk_104 (dk_at dksX2_image_3 13 rfl rfl)
theorem dX2_image_82 : decode cX2_image 82 = .ok (.iload_n 2, 1) := dk_28 (dk_at dksX2_image_3 14 rfl rfl)
theorem dX2_image_83 : decode cX2_image 83 = .ok (.iadd, 1) := dk_96 (dk_at dksX2_image_3 15 rfl rfl)
theorem dX2_image_84 : decode cX2_image 84 = .ok (.aload_n 0, 1) := dk_42 (dk_at dksX2_image_3 16 rfl rfl)
theorem dX2_image_85 : decode cX2_image 85 = .ok (.getfield 58, 3) := dk_180 0 58 (dk_at dksX2_image_3 17 rfl rfl)
theorem dX2_image_88 : decode cX2_image 88 = .ok (.iload_n 2, 1) := dk_28 (dk_at dksX2_image_3 20 rfl rfl)
theorem dX2_image_89 : decode cX2_image 89 = .ok (.iaload, 1) := dk_46 (dk_at dksX2_image_3 21 rfl rfl)
theorem dX2_image_90 : decode cX2_image 90 = .ok (.iastore, 1) := dk_79 (dk_at dksX2_image_3 22 rfl rfl)
theorem dX2_image_91 : decode cX2_image 91 = .ok (.iinc 2 1, 3) := dk_132 2 1 (dk_at dksX2_image_4 0 rfl rfl)
theorem dX2_image_94 : decode cX2_image 94 = .ok (.goto (-43), 3) := dk_167 255 213 (dk_at dksX2_image_4 3 rfl rfl)
theorem dX2_image_97 : decode cX2_image 97 = .ok (.iconst 0, 1) := dk_3 (dk_at dksX2_image_4 6 rfl rfl)
theorem dX2_image_98 : decode cX2_image 98 = .ok (.istore_n 2, 1) := dk_61 (dk_at dksX2_image_4 7 rfl rfl)
theorem dX2_image_99 : decode cX2_image 99 = .ok (.iload_n 2, 1) := dk_28 (dk_at dksX2_image_4 8 rfl rfl)
theorem dX2_image_100 : decode cX2_image 100 = .ok (.sipush 256, 3) := dk_17 1 0 (dk_at dksX2_image_4 9 rfl rfl)
theorem dX2_image_103 : decode cX2_image 103 = .ok (.if_icmp .ge 27, 3) := dk_162 0 27 (dk_at dksX2_image_4 12 rfl rfl)
theorem dX2_image_106 : decode cX2_image 106 = .ok (.aload_n 0, 1) := dk_42 (dk_at dksX2_image_4 15 rfl rfl)
theorem dX2_image_107 : decode cX2_image 107 = .ok (.getfield 160, 3) := dk_180 0 160 (dk_at dksX2_image_4 16 rfl rfl)
theorem dX2_image_110 : decode cX2_image 110 = .ok (.sipush 256, 3) := dk_17 1 0 (dk_at dksX2_image_4 19 rfl rfl)
theorem dX2_image_113 : decode cX2_image 113 = .ok (.iload_n 1, 1) := dk_27 (dk_at dksX2_image_4 22 rfl rfl)
theorem dX2_image_114 : decode cX2_image 114 = .ok (.imul, 1) := dk_104 (dk_at dksX2_image_4 23 rfl rfl)
theorem dX2_image_115 : decode cX2_image 115 = .ok (.iload_n 2, 1) := dk_28 (dk_at dksX2_image_5 0 rfl rfl)
theorem dX2_image_116 : decode cX2_image 116 = .ok (.iadd, 1) := dk_96 (dk_at dksX2_image_5 1 rfl rfl)
theorem dX2_image_117 : decode cX2_image 117 = .ok (.aload_n 0, 1) := dk_42 (dk_at dksX2_image_5 2 rfl rfl)
theorem dX2_image_118 : decode cX2_image 118 = .ok (.getfield 61, 3) := dk_180 0 61 (dk_at dksX2_image_5 3 rfl rfl)
theorem dX2_image_121 : decode cX2_image 121 = .ok (.iload_n 2, 1) := dk_28 (dk_at dksX2_image_5 6 rfl rfl)
theorem dX2_image_122 : decode cX2_image 122 = .ok (.baload, 1) := dk_51 (dk_at dksX2_image_5 7 rfl rfl)
theorem dX2_image_123 : decode cX2_image 123 = .ok (.bastore, 1) := dk_84 (dk_at dksX2_image_5 8 rfl rfl)
theorem dX2_image_124 : decode cX2_image 124 = .ok (.iinc 2 1, 3) := dk_132 2 1 (dk_at dksX2_image_5 9 rfl rfl)
theorem dX2_image_127 : decode cX2_image 127 = .ok (.goto (-28), 3) := dk_167 255 228 (dk_at dksX2_image_5 12 rfl rfl)
theorem dX2_image_130 : decode cX2_image 130 = .ok (.aload_n 0, 1) := dk_42 (dk_at dksX2_image_5 15 rfl rfl)
theorem dX2_image_131 : decode cX2_image 131 = .ok (.getfield 172, 3) := dk_180 0 172 (dk_at dksX2_image_5 16 rfl rfl)
theorem dX2_image_134 : decode cX2_image 134 = .ok (.iload_n 1, 1) := dk_27 (dk_at dksX2_image_5 19 rfl rfl)
theorem dX2_image_135 : decode cX2_image 135 = .ok (.aload_n 0, 1) := dk_42 (dk_at dksX2_image_5 20 rfl rfl)
theorem dX2_image_136 : decode cX2_image 136 = .ok (.getfield 333, 3) := dk_180 1 77 (dk_at dksX2_image_5 21 rfl rfl)
theorem dX2_image_139 : decode cX2_image 139 = .ok (.iastore, 1) := dk_79 (dk_at dksX2_image_6 0 rfl rfl)
theorem dX2_image_140 : decode cX2_image 140 = .ok (.aload_n 0, 1) := dk_42 (dk_at dksX2_image_6 1 rfl rfl)
theorem dX2_image_141 : decode cX2_image 141 = .ok (.getfield 175, 3) := dk_180 0 175 (dk_at dksX2_image_6 2 rfl rfl)
theorem dX2_image_144 : decode cX2_image 144 = .ok (.iload_n 1, 1) := dk_27 (dk_at dksX2_image_6 5 rfl rfl)
theorem dX2_image_145 : decode cX2_image 145 = .ok (.aload_n 0, 1) := dk_42 (dk_at dksX2_image_6 6 rfl rfl)
theorem dX2_image_146 : decode cX2_image 146 = .ok (.getfield 345, 3) := dk_180 1 89 (dk_at dksX2_image_6 7 rfl rfl)
theorem dX2_image_149 : decode cX2_image 149 = .ok (.iastore, 1) := dk_79 (dk_at dksX2_image_6 10 rfl rfl)
theorem dX2_image_150 : decode cX2_image 150 = .ok (.aload_n 0, 1) := dk_42 (dk_at dksX2_image_6 11 rfl rfl)
theorem dX2_image_151 : decode cX2_image 151 = .ok (.getfield 333, 3) := dk_180 1 77 (dk_at dksX2_image_6 12 rfl rfl)
theorem dX2_image_154 : decode cX2_image 154 = .ok (.ireturn, 1) := dk_172 (dk_at dksX2_image_6 15 rfl rfl)
abbrev cX2_isBox : ByteArray := prog_28_method_112_code
def yX2_isBox : MethodName := ⟨RX2, "isBox", "(I)Z"⟩
def dkwX2_isBox_0 : List UInt8 := [26, 155, 0, 12, 26, 6, 162, 0, 7, 4, 167, 0, 4, 3, 172]
abbrev dktX2_isBox_0 : List UInt8 := dkwX2_isBox_0 ++ []
theorem dksX2_isBox_0 : cX2_isBox.data.toList.drop 0 = dktX2_isBox_0 := by decide +kernel
theorem dX2_isBox_0 : decode cX2_isBox 0 = .ok (.iload_n 0, 1) := dk_26 (dk_at dksX2_isBox_0 0 rfl rfl)
theorem dX2_isBox_1 : decode cX2_isBox 1 = .ok (.ifCond .lt 12, 3) := dk_155 0 12 (dk_at dksX2_isBox_0 1 rfl rfl)
theorem dX2_isBox_4 : decode cX2_isBox 4 = .ok (.iload_n 0, 1) := dk_26 (dk_at dksX2_isBox_0 4 rfl rfl)
theorem dX2_isBox_5 : decode cX2_isBox 5 = .ok (.iconst 3, 1) := dk_6 (dk_at dksX2_isBox_0 5 rfl rfl)
theorem dX2_isBox_6 : decode cX2_isBox 6 = .ok (.if_icmp .ge 7, 3) := dk_162 0 7 (dk_at dksX2_isBox_0 6 rfl rfl)
theorem dX2_isBox_9 : decode cX2_isBox 9 = .ok (.iconst 1, 1) := dk_4 (dk_at dksX2_isBox_0 9 rfl rfl)
theorem dX2_isBox_10 : decode cX2_isBox 10 = .ok (.goto 4, 3) := dk_167 0 4 (dk_at dksX2_isBox_0 10 rfl rfl)
theorem dX2_isBox_13 : decode cX2_isBox 13 = .ok (.iconst 0, 1) := dk_3 (dk_at dksX2_isBox_0 13 rfl rfl)
theorem dX2_isBox_14 : decode cX2_isBox 14 = .ok (.ireturn, 1) := dk_172 (dk_at dksX2_isBox_0 14 rfl rfl)
abbrev cX2_back : ByteArray := prog_28_method_114_code
def yX2_back : MethodName := ⟨RX2, "back", "(I)I"⟩
def dkwX2_back_6 : List UInt8 := [180, 0, 175, 27, 46, 181, 1, 89, 42, 180, 1, 77, 172]
abbrev dktX2_back_6 : List UInt8 := dkwX2_back_6 ++ []
def dkwX2_back_5 : List UInt8 := [27, 104, 28, 96, 51, 84, 132, 2, 1, 167, 255, 228, 42, 42, 180, 0, 172, 27, 46, 181, 1, 77, 42, 42]
abbrev dktX2_back_5 : List UInt8 := dkwX2_back_5 ++ dktX2_back_6
def dkwX2_back_4 : List UInt8 := [167, 255, 213, 3, 61, 28, 17, 1, 0, 162, 0, 27, 42, 180, 0, 61, 28, 42, 180, 0, 160, 17, 1, 0]
abbrev dktX2_back_4 : List UInt8 := dkwX2_back_4 ++ dktX2_back_5
def dkwX2_back_3 : List UInt8 := [28, 96, 46, 79, 42, 180, 0, 58, 28, 42, 180, 0, 169, 16, 12, 27, 104, 28, 96, 46, 79, 132, 2, 1]
abbrev dktX2_back_3 : List UInt8 := dkwX2_back_3 ++ dktX2_back_4
def dkwX2_back_2 : List UInt8 := [167, 255, 228, 3, 61, 28, 16, 12, 162, 0, 43, 42, 180, 0, 55, 28, 42, 180, 0, 166, 16, 12, 27, 104]
abbrev dktX2_back_2 : List UInt8 := dkwX2_back_2 ++ dktX2_back_3
def dkwX2_back_1 : List UInt8 := [162, 0, 27, 42, 180, 0, 49, 28, 42, 180, 0, 163, 17, 12, 0, 27, 104, 28, 96, 46, 79, 132, 2, 1]
abbrev dktX2_back_1 : List UInt8 := dkwX2_back_1 ++ dktX2_back_2
def dkwX2_back_0 : List UInt8 := [27, 184, 2, 113, 153, 0, 12, 42, 180, 0, 157, 27, 51, 154, 0, 5, 2, 172, 3, 61, 28, 17, 12, 0]
abbrev dktX2_back_0 : List UInt8 := dkwX2_back_0 ++ dktX2_back_1
theorem dksX2_back_0 : cX2_back.data.toList.drop 0 = dktX2_back_0 := by decide +kernel
theorem dksX2_back_1 : cX2_back.data.toList.drop 24 = dktX2_back_1 := dk_seg dksX2_back_0 24 rfl rfl
theorem dksX2_back_2 : cX2_back.data.toList.drop 48 = dktX2_back_2 := dk_seg dksX2_back_1 24 rfl rfl
theorem dksX2_back_3 : cX2_back.data.toList.drop 72 = dktX2_back_3 := dk_seg dksX2_back_2 24 rfl rfl
theorem dksX2_back_4 : cX2_back.data.toList.drop 96 = dktX2_back_4 := dk_seg dksX2_back_3 24 rfl rfl
theorem dksX2_back_5 : cX2_back.data.toList.drop 120 = dktX2_back_5 := dk_seg dksX2_back_4 24 rfl rfl
theorem dksX2_back_6 : cX2_back.data.toList.drop 144 = dktX2_back_6 := dk_seg dksX2_back_5 24 rfl rfl
theorem dX2_back_0 : decode cX2_back 0 = .ok (.iload_n 1, 1) := dk_27 (dk_at dksX2_back_0 0 rfl rfl)
theorem dX2_back_1 : decode cX2_back 1 = .ok (.invokestatic 625, 3) := dk_184 2 113 (dk_at dksX2_back_0 1 rfl rfl)
theorem dX2_back_4 : decode cX2_back 4 = .ok (.ifCond .eq 12, 3) := dk_153 0 12 (dk_at dksX2_back_0 4 rfl rfl)
theorem dX2_back_7 : decode cX2_back 7 = .ok (.aload_n 0, 1) := dk_42 (dk_at dksX2_back_0 7 rfl rfl)
theorem dX2_back_8 : decode cX2_back 8 = .ok (.getfield 157, 3) := dk_180 0 157 (dk_at dksX2_back_0 8 rfl rfl)
theorem dX2_back_11 : decode cX2_back 11 = .ok (.iload_n 1, 1) := dk_27 (dk_at dksX2_back_0 11 rfl rfl)
theorem dX2_back_12 : decode cX2_back 12 = .ok (.baload, 1) := dk_51 (dk_at dksX2_back_0 12 rfl rfl)
theorem dX2_back_13 : decode cX2_back 13 = .ok (.ifCond .ne 5, 3) := dk_154 0 5 (dk_at dksX2_back_0 13 rfl rfl)
theorem dX2_back_16 : decode cX2_back 16 = .ok (.iconst (-1), 1) := dk_2 (dk_at dksX2_back_0 16 rfl rfl)
theorem dX2_back_17 : decode cX2_back 17 = .ok (.ireturn, 1) := dk_172 (dk_at dksX2_back_0 17 rfl rfl)
theorem dX2_back_18 : decode cX2_back 18 = .ok (.iconst 0, 1) := dk_3 (dk_at dksX2_back_0 18 rfl rfl)
theorem dX2_back_19 : decode cX2_back 19 = .ok (.istore_n 2, 1) := dk_61 (dk_at dksX2_back_0 19 rfl rfl)
theorem dX2_back_20 : decode cX2_back 20 = .ok (.iload_n 2, 1) := dk_28 (dk_at dksX2_back_0 20 rfl rfl)
theorem dX2_back_21 : decode cX2_back 21 = .ok (.sipush 3072, 3) := dk_17 12 0 (dk_at dksX2_back_0 21 rfl rfl)
theorem dX2_back_24 : decode cX2_back 24 = .ok (.if_icmp .ge 27, 3) := dk_162 0 27 (dk_at dksX2_back_1 0 rfl rfl)
theorem dX2_back_27 : decode cX2_back 27 = .ok (.aload_n 0, 1) := dk_42 (dk_at dksX2_back_1 3 rfl rfl)
theorem dX2_back_28 : decode cX2_back 28 = .ok (.getfield 49, 3) := dk_180 0 49 (dk_at dksX2_back_1 4 rfl rfl)
theorem dX2_back_31 : decode cX2_back 31 = .ok (.iload_n 2, 1) := dk_28 (dk_at dksX2_back_1 7 rfl rfl)
theorem dX2_back_32 : decode cX2_back 32 = .ok (.aload_n 0, 1) := dk_42 (dk_at dksX2_back_1 8 rfl rfl)
theorem dX2_back_33 : decode cX2_back 33 = .ok (.getfield 163, 3) := dk_180 0 163 (dk_at dksX2_back_1 9 rfl rfl)
theorem dX2_back_36 : decode cX2_back 36 = .ok (.sipush 3072, 3) := dk_17 12 0 (dk_at dksX2_back_1 12 rfl rfl)
theorem dX2_back_39 : decode cX2_back 39 = .ok (.iload_n 1, 1) := dk_27 (dk_at dksX2_back_1 15 rfl rfl)
theorem dX2_back_40 : decode cX2_back 40 = .ok (.imul, 1) := dk_104 (dk_at dksX2_back_1 16 rfl rfl)
theorem dX2_back_41 : decode cX2_back 41 = .ok (.iload_n 2, 1) := dk_28 (dk_at dksX2_back_1 17 rfl rfl)
theorem dX2_back_42 : decode cX2_back 42 = .ok (.iadd, 1) := dk_96 (dk_at dksX2_back_1 18 rfl rfl)
theorem dX2_back_43 : decode cX2_back 43 = .ok (.iaload, 1) := dk_46 (dk_at dksX2_back_1 19 rfl rfl)
theorem dX2_back_44 : decode cX2_back 44 = .ok (.iastore, 1) := dk_79 (dk_at dksX2_back_1 20 rfl rfl)
theorem dX2_back_45 : decode cX2_back 45 = .ok (.iinc 2 1, 3) := dk_132 2 1 (dk_at dksX2_back_1 21 rfl rfl)
theorem dX2_back_48 : decode cX2_back 48 = .ok (.goto (-28), 3) := dk_167 255 228 (dk_at dksX2_back_2 0 rfl rfl)
theorem dX2_back_51 : decode cX2_back 51 = .ok (.iconst 0, 1) := dk_3 (dk_at dksX2_back_2 3 rfl rfl)
theorem dX2_back_52 : decode cX2_back 52 = .ok (.istore_n 2, 1) := dk_61 (dk_at dksX2_back_2 4 rfl rfl)
theorem dX2_back_53 : decode cX2_back 53 = .ok (.iload_n 2, 1) := dk_28 (dk_at dksX2_back_2 5 rfl rfl)
theorem dX2_back_54 : decode cX2_back 54 = .ok (.bipush 12, 2) := dk_16 12 (dk_at dksX2_back_2 6 rfl rfl)
theorem dX2_back_56 : decode cX2_back 56 = .ok (.if_icmp .ge 43, 3) := dk_162 0 43 (dk_at dksX2_back_2 8 rfl rfl)
theorem dX2_back_59 : decode cX2_back 59 = .ok (.aload_n 0, 1) := dk_42 (dk_at dksX2_back_2 11 rfl rfl)
theorem dX2_back_60 : decode cX2_back 60 = .ok (.getfield 55, 3) := dk_180 0 55 (dk_at dksX2_back_2 12 rfl rfl)
theorem dX2_back_63 : decode cX2_back 63 = .ok (.iload_n 2, 1) := dk_28 (dk_at dksX2_back_2 15 rfl rfl)
theorem dX2_back_64 : decode cX2_back 64 = .ok (.aload_n 0, 1) := dk_42 (dk_at dksX2_back_2 16 rfl rfl)
theorem dX2_back_65 : decode cX2_back 65 = .ok (.getfield 166, 3) := dk_180 0 166 (dk_at dksX2_back_2 17 rfl rfl)
theorem dX2_back_68 : decode cX2_back 68 = .ok (.bipush 12, 2) := dk_16 12 (dk_at dksX2_back_2 20 rfl rfl)
theorem dX2_back_70 : decode cX2_back 70 = .ok (.iload_n 1, 1) := dk_27 (dk_at dksX2_back_2 22 rfl rfl)
theorem dX2_back_71 : decode cX2_back 71 = .ok (.imul, 1) := dk_104 (dk_at dksX2_back_2 23 rfl rfl)
theorem dX2_back_72 : decode cX2_back 72 = .ok (.iload_n 2, 1) := dk_28 (dk_at dksX2_back_3 0 rfl rfl)
theorem dX2_back_73 : decode cX2_back 73 = .ok (.iadd, 1) := dk_96 (dk_at dksX2_back_3 1 rfl rfl)
theorem dX2_back_74 : decode cX2_back 74 = .ok (.iaload, 1) := dk_46 (dk_at dksX2_back_3 2 rfl rfl)
theorem dX2_back_75 : decode cX2_back 75 = .ok (.iastore, 1) := dk_79 (dk_at dksX2_back_3 3 rfl rfl)
theorem dX2_back_76 : decode cX2_back 76 = .ok (.aload_n 0, 1) := dk_42 (dk_at dksX2_back_3 4 rfl rfl)
theorem dX2_back_77 : decode cX2_back 77 = .ok (.getfield 58, 3) := dk_180 0 58 (dk_at dksX2_back_3 5 rfl rfl)
theorem dX2_back_80 : decode cX2_back 80 = .ok (.iload_n 2, 1) := dk_28 (dk_at dksX2_back_3 8 rfl rfl)
theorem dX2_back_81 : decode cX2_back 81 = .ok (.aload_n 0, 1) := dk_42 (dk_at dksX2_back_3 9 rfl rfl)
theorem dX2_back_82 : decode cX2_back 82 = .ok (.getfield 169, 3) := dk_180 0 169 (dk_at dksX2_back_3 10 rfl rfl)
theorem dX2_back_85 : decode cX2_back 85 = .ok (.bipush 12, 2) := dk_16 12 (dk_at dksX2_back_3 13 rfl rfl)
theorem dX2_back_87 : decode cX2_back 87 = .ok (.iload_n 1, 1) := dk_27 (dk_at dksX2_back_3 15 rfl rfl)
theorem dX2_back_88 : decode cX2_back 88 = .ok (.imul, 1) := dk_104 (dk_at dksX2_back_3 16 rfl rfl)
theorem dX2_back_89 : decode cX2_back 89 = .ok (.iload_n 2, 1) := dk_28 (dk_at dksX2_back_3 17 rfl rfl)
theorem dX2_back_90 : decode cX2_back 90 = .ok (.iadd, 1) := dk_96 (dk_at dksX2_back_3 18 rfl rfl)
theorem dX2_back_91 : decode cX2_back 91 = .ok (.iaload, 1) := dk_46 (dk_at dksX2_back_3 19 rfl rfl)
theorem dX2_back_92 : decode cX2_back 92 = .ok (.iastore, 1) := dk_79 (dk_at dksX2_back_3 20 rfl rfl)
theorem dX2_back_93 : decode cX2_back 93 = .ok (.iinc 2 1, 3) := dk_132 2 1 (dk_at dksX2_back_3 21 rfl rfl)
theorem dX2_back_96 : decode cX2_back 96 = .ok (.goto (-43), 3) := dk_167 255 213 (dk_at dksX2_back_4 0 rfl rfl)
theorem dX2_back_99 : decode cX2_back 99 = .ok (.iconst 0, 1) := dk_3 (dk_at dksX2_back_4 3 rfl rfl)
theorem dX2_back_100 : decode cX2_back 100 = .ok (.istore_n 2, 1) := dk_61 (dk_at dksX2_back_4 4 rfl rfl)
theorem dX2_back_101 : decode cX2_back 101 = .ok (.iload_n 2, 1) := dk_28 (dk_at dksX2_back_4 5 rfl rfl)
theorem dX2_back_102 : decode cX2_back 102 = .ok (.sipush 256, 3) := dk_17 1 0 (dk_at dksX2_back_4 6 rfl rfl)
theorem dX2_back_105 : decode cX2_back 105 = .ok (.if_icmp .ge 27, 3) := dk_162 0 27 (dk_at dksX2_back_4 9 rfl rfl)
theorem dX2_back_108 : decode cX2_back 108 = .ok (.aload_n 0, 1) := dk_42 (dk_at dksX2_back_4 12 rfl rfl)
theorem dX2_back_109 : decode cX2_back 109 = .ok (.getfield 61, 3) := dk_180 0 61 (dk_at dksX2_back_4 13 rfl rfl)
theorem dX2_back_112 : decode cX2_back 112 = .ok (.iload_n 2, 1) := dk_28 (dk_at dksX2_back_4 16 rfl rfl)
theorem dX2_back_113 : decode cX2_back 113 = .ok (.aload_n 0, 1) := dk_42 (dk_at dksX2_back_4 17 rfl rfl)
theorem dX2_back_114 : decode cX2_back 114 = .ok (.getfield 160, 3) := dk_180 0 160 (dk_at dksX2_back_4 18 rfl rfl)
theorem dX2_back_117 : decode cX2_back 117 = .ok (.sipush 256, 3) := dk_17 1 0 (dk_at dksX2_back_4 21 rfl rfl)
theorem dX2_back_120 : decode cX2_back 120 = .ok (.iload_n 1, 1) := dk_27 (dk_at dksX2_back_5 0 rfl rfl)
theorem dX2_back_121 : decode cX2_back 121 = .ok (.imul, 1) := dk_104 (dk_at dksX2_back_5 1 rfl rfl)
theorem dX2_back_122 : decode cX2_back 122 = .ok (.iload_n 2, 1) := dk_28 (dk_at dksX2_back_5 2 rfl rfl)
theorem dX2_back_123 : decode cX2_back 123 = .ok (.iadd, 1) := dk_96 (dk_at dksX2_back_5 3 rfl rfl)
theorem dX2_back_124 : decode cX2_back 124 = .ok (.baload, 1) := dk_51 (dk_at dksX2_back_5 4 rfl rfl)
theorem dX2_back_125 : decode cX2_back 125 = .ok (.bastore, 1) := dk_84 (dk_at dksX2_back_5 5 rfl rfl)
theorem dX2_back_126 : decode cX2_back 126 = .ok (.iinc 2 1, 3) := dk_132 2 1 (dk_at dksX2_back_5 6 rfl rfl)
theorem dX2_back_129 : decode cX2_back 129 = .ok (.goto (-28), 3) := dk_167 255 228 (dk_at dksX2_back_5 9 rfl rfl)
theorem dX2_back_132 : decode cX2_back 132 = .ok (.aload_n 0, 1) := dk_42 (dk_at dksX2_back_5 12 rfl rfl)
theorem dX2_back_133 : decode cX2_back 133 = .ok (.aload_n 0, 1) := dk_42 (dk_at dksX2_back_5 13 rfl rfl)
theorem dX2_back_134 : decode cX2_back 134 = .ok (.getfield 172, 3) := dk_180 0 172 (dk_at dksX2_back_5 14 rfl rfl)
theorem dX2_back_137 : decode cX2_back 137 = .ok (.iload_n 1, 1) := dk_27 (dk_at dksX2_back_5 17 rfl rfl)
theorem dX2_back_138 : decode cX2_back 138 = .ok (.iaload, 1) := dk_46 (dk_at dksX2_back_5 18 rfl rfl)
theorem dX2_back_139 : decode cX2_back 139 = .ok (.putfield 333, 3) := dk_181 1 77 (dk_at dksX2_back_5 19 rfl rfl)
theorem dX2_back_142 : decode cX2_back 142 = .ok (.aload_n 0, 1) := dk_42 (dk_at dksX2_back_5 22 rfl rfl)
theorem dX2_back_143 : decode cX2_back 143 = .ok (.aload_n 0, 1) := dk_42 (dk_at dksX2_back_5 23 rfl rfl)
theorem dX2_back_144 : decode cX2_back 144 = .ok (.getfield 175, 3) := dk_180 0 175 (dk_at dksX2_back_6 0 rfl rfl)
theorem dX2_back_147 : decode cX2_back 147 = .ok (.iload_n 1, 1) := dk_27 (dk_at dksX2_back_6 3 rfl rfl)
theorem dX2_back_148 : decode cX2_back 148 = .ok (.iaload, 1) := dk_46 (dk_at dksX2_back_6 4 rfl rfl)
theorem dX2_back_149 : decode cX2_back 149 = .ok (.putfield 345, 3) := dk_181 1 89 (dk_at dksX2_back_6 5 rfl rfl)
theorem dX2_back_152 : decode cX2_back 152 = .ok (.aload_n 0, 1) := dk_42 (dk_at dksX2_back_6 8 rfl rfl)
theorem dX2_back_153 : decode cX2_back 153 = .ok (.getfield 333, 3) := dk_180 1 77 (dk_at dksX2_back_6 9 rfl rfl)
theorem dX2_back_156 : decode cX2_back 156 = .ok (.ireturn, 1) := dk_172 (dk_at dksX2_back_6 12 rfl rfl)
abbrev cX2_about : ByteArray := prog_28_method_115_code
def yX2_about : MethodName := ⟨RX2, "about", "(I)I"⟩
def dkwX2_about_4 : List UInt8 := [153, 0, 7, 4, 167, 0, 4, 3, 96, 61, 132, 3, 1, 167, 255, 229, 28, 172, 2, 172]
abbrev dktX2_about_4 : List UInt8 := dkwX2_about_4 ++ []
def dkwX2_about_3 : List UInt8 := [172, 42, 180, 1, 83, 172, 3, 62, 29, 17, 1, 0, 162, 0, 26, 28, 42, 180, 0, 61, 29, 51]
abbrev dktX2_about_3 : List UInt8 := dkwX2_about_3 ++ dktX2_about_4
def dkwX2_about_2 : List UInt8 := [42, 180, 1, 74, 172, 42, 180, 1, 77, 172, 42, 180, 1, 80, 172, 42, 180, 1, 89, 172, 42, 180, 0, 181]
abbrev dktX2_about_2 : List UInt8 := dkwX2_about_2 ++ dktX2_about_3
def dkwX2_about_1 : List UInt8 := [170, 0, 0, 0, 105, 0, 0, 0, 0, 0, 0, 0, 6, 0, 0, 0, 41, 0, 0, 0, 46, 0, 0, 0, 51, 0, 0, 0, 56, 0, 0, 0, 61, 0, 0, 0, 66, 0, 0, 0, 71]
abbrev dktX2_about_1 : List UInt8 := dkwX2_about_1 ++ dktX2_about_2
def dkwX2_about_0 : List UInt8 := [3, 61, 27]
abbrev dktX2_about_0 : List UInt8 := dkwX2_about_0 ++ dktX2_about_1
theorem dksX2_about_0 : cX2_about.data.toList.drop 0 = dktX2_about_0 := by decide +kernel
theorem dksX2_about_1 : cX2_about.data.toList.drop 3 = dktX2_about_1 := dk_seg dksX2_about_0 3 rfl rfl
theorem dksX2_about_2 : cX2_about.data.toList.drop 44 = dktX2_about_2 := dk_seg dksX2_about_1 41 rfl rfl
theorem dksX2_about_3 : cX2_about.data.toList.drop 68 = dktX2_about_3 := dk_seg dksX2_about_2 24 rfl rfl
theorem dksX2_about_4 : cX2_about.data.toList.drop 90 = dktX2_about_4 := dk_seg dksX2_about_3 22 rfl rfl
theorem dX2_about_0 : decode cX2_about 0 = .ok (.iconst 0, 1) := dk_3 (dk_at dksX2_about_0 0 rfl rfl)
theorem dX2_about_1 : decode cX2_about 1 = .ok (.istore_n 2, 1) := dk_61 (dk_at dksX2_about_0 1 rfl rfl)
theorem dX2_about_2 : decode cX2_about 2 = .ok (.iload_n 1, 1) := dk_27 (dk_at dksX2_about_0 2 rfl rfl)
theorem dX2_about_3 : decode cX2_about 3 = .ok (.tableswitch 105 0 6 #[41, 46, 51, 56, 61, 66, 71], 41) := by decide +kernel
theorem dX2_about_44 : decode cX2_about 44 = .ok (.aload_n 0, 1) := dk_42 (dk_at dksX2_about_2 0 rfl rfl)
theorem dX2_about_45 : decode cX2_about 45 = .ok (.getfield 330, 3) := dk_180 1 74 (dk_at dksX2_about_2 1 rfl rfl)
theorem dX2_about_48 : decode cX2_about 48 = .ok (.ireturn, 1) := dk_172 (dk_at dksX2_about_2 4 rfl rfl)
theorem dX2_about_49 : decode cX2_about 49 = .ok (.aload_n 0, 1) := dk_42 (dk_at dksX2_about_2 5 rfl rfl)
theorem dX2_about_50 : decode cX2_about 50 = .ok (.getfield 333, 3) := dk_180 1 77 (dk_at dksX2_about_2 6 rfl rfl)
theorem dX2_about_53 : decode cX2_about 53 = .ok (.ireturn, 1) := dk_172 (dk_at dksX2_about_2 9 rfl rfl)
theorem dX2_about_54 : decode cX2_about 54 = .ok (.aload_n 0, 1) := dk_42 (dk_at dksX2_about_2 10 rfl rfl)
theorem dX2_about_55 : decode cX2_about 55 = .ok (.getfield 336, 3) := dk_180 1 80 (dk_at dksX2_about_2 11 rfl rfl)
theorem dX2_about_58 : decode cX2_about 58 = .ok (.ireturn, 1) := dk_172 (dk_at dksX2_about_2 14 rfl rfl)
theorem dX2_about_59 : decode cX2_about 59 = .ok (.aload_n 0, 1) := dk_42 (dk_at dksX2_about_2 15 rfl rfl)
theorem dX2_about_60 : decode cX2_about 60 = .ok (.getfield 345, 3) := dk_180 1 89 (dk_at dksX2_about_2 16 rfl rfl)
theorem dX2_about_63 : decode cX2_about 63 = .ok (.ireturn, 1) := dk_172 (dk_at dksX2_about_2 19 rfl rfl)
theorem dX2_about_64 : decode cX2_about 64 = .ok (.aload_n 0, 1) := dk_42 (dk_at dksX2_about_2 20 rfl rfl)
theorem dX2_about_65 : decode cX2_about 65 = .ok (.getfield 181, 3) := dk_180 0 181 (dk_at dksX2_about_2 21 rfl rfl)
theorem dX2_about_68 : decode cX2_about 68 = .ok (.ireturn, 1) := dk_172 (dk_at dksX2_about_3 0 rfl rfl)
theorem dX2_about_69 : decode cX2_about 69 = .ok (.aload_n 0, 1) := dk_42 (dk_at dksX2_about_3 1 rfl rfl)
theorem dX2_about_70 : decode cX2_about 70 = .ok (.getfield 339, 3) := dk_180 1 83 (dk_at dksX2_about_3 2 rfl rfl)
theorem dX2_about_73 : decode cX2_about 73 = .ok (.ireturn, 1) := dk_172 (dk_at dksX2_about_3 5 rfl rfl)
theorem dX2_about_74 : decode cX2_about 74 = .ok (.iconst 0, 1) := dk_3 (dk_at dksX2_about_3 6 rfl rfl)
theorem dX2_about_75 : decode cX2_about 75 = .ok (.istore_n 3, 1) := dk_62 (dk_at dksX2_about_3 7 rfl rfl)
theorem dX2_about_76 : decode cX2_about 76 = .ok (.iload_n 3, 1) := dk_29 (dk_at dksX2_about_3 8 rfl rfl)
theorem dX2_about_77 : decode cX2_about 77 = .ok (.sipush 256, 3) := dk_17 1 0 (dk_at dksX2_about_3 9 rfl rfl)
theorem dX2_about_80 : decode cX2_about 80 = .ok (.if_icmp .ge 26, 3) := dk_162 0 26 (dk_at dksX2_about_3 12 rfl rfl)
theorem dX2_about_83 : decode cX2_about 83 = .ok (.iload_n 2, 1) := dk_28 (dk_at dksX2_about_3 15 rfl rfl)
theorem dX2_about_84 : decode cX2_about 84 = .ok (.aload_n 0, 1) := dk_42 (dk_at dksX2_about_3 16 rfl rfl)
theorem dX2_about_85 : decode cX2_about 85 = .ok (.getfield 61, 3) := dk_180 0 61 (dk_at dksX2_about_3 17 rfl rfl)
theorem dX2_about_88 : decode cX2_about 88 = .ok (.iload_n 3, 1) := dk_29 (dk_at dksX2_about_3 20 rfl rfl)
theorem dX2_about_89 : decode cX2_about 89 = .ok (.baload, 1) := dk_51 (dk_at dksX2_about_3 21 rfl rfl)
theorem dX2_about_90 : decode cX2_about 90 = .ok (.ifCond .eq 7, 3) := dk_153 0 7 (dk_at dksX2_about_4 0 rfl rfl)
theorem dX2_about_93 : decode cX2_about 93 = .ok (.iconst 1, 1) := dk_4 (dk_at dksX2_about_4 3 rfl rfl)
theorem dX2_about_94 : decode cX2_about 94 = .ok (.goto 4, 3) := dk_167 0 4 (dk_at dksX2_about_4 4 rfl rfl)
theorem dX2_about_97 : decode cX2_about 97 = .ok (.iconst 0, 1) := dk_3 (dk_at dksX2_about_4 7 rfl rfl)
theorem dX2_about_98 : decode cX2_about 98 = .ok (.iadd, 1) := dk_96 (dk_at dksX2_about_4 8 rfl rfl)
theorem dX2_about_99 : decode cX2_about 99 = .ok (.istore_n 2, 1) := dk_61 (dk_at dksX2_about_4 9 rfl rfl)
theorem dX2_about_100 : decode cX2_about 100 = .ok (.iinc 3 1, 3) := dk_132 3 1 (dk_at dksX2_about_4 10 rfl rfl)
theorem dX2_about_103 : decode cX2_about 103 = .ok (.goto (-27), 3) := dk_167 255 229 (dk_at dksX2_about_4 13 rfl rfl)
theorem dX2_about_106 : decode cX2_about 106 = .ok (.iload_n 2, 1) := dk_28 (dk_at dksX2_about_4 16 rfl rfl)
theorem dX2_about_107 : decode cX2_about 107 = .ok (.ireturn, 1) := dk_172 (dk_at dksX2_about_4 17 rfl rfl)
theorem dX2_about_108 : decode cX2_about 108 = .ok (.iconst (-1), 1) := dk_2 (dk_at dksX2_about_4 18 rfl rfl)
theorem dX2_about_109 : decode cX2_about 109 = .ok (.ireturn, 1) := dk_172 (dk_at dksX2_about_4 19 rfl rfl)
theorem q102 : (Jvm.Cond.initialized "StarEyeModel") ∈ lw_all := lw_g (lw_at lw_m1 6 rfl) rfl
theorem q830 : (Jvm.Cond.selects "StarEyeModel" ({ cls := "java/lang/Object", name := "getClass", desc := "()Ljava/lang/Class;" } : Jvm.MethodName) ({ cls := "java/lang/Object", name := "getClass", desc := "()Ljava/lang/Class;" } : Jvm.MethodName)) ∈ lw_all := lw_g (lw_at lw_m4 14 rfl) rfl
theorem q1785 : (Jvm.Cond.instantiable "StarEyeModel" (94 : Nat)) ∈ lw_all := lw_g (lw_at lw_m8 9 rfl) rfl
theorem q1787 : (Jvm.Cond.instanceMethod ({ cls := "StarEyeModel", name := "<init>", desc := "()V" } : Jvm.MethodName)) ∈ lw_all := lw_g (lw_at lw_m8 11 rfl) rfl
theorem q1788 : (Jvm.Cond.code ({ cls := "StarEyeModel", name := "<init>", desc := "()V" } : Jvm.MethodName) prog_28_method_1_code (1 : Nat) (Option.none : Option Jvm.ClassFile.FieldType)) ∈ lw_all := lw_g (lw_at lw_m8 12 rfl) rfl
theorem q1789 : (Jvm.Cond.methodLink "StarEyeModel" (1 : Nat) ({ cls := "java/lang/Object", name := "<init>", desc := "()V" } : Jvm.MethodName)) ∈ lw_all := lw_g (lw_at lw_m8 13 rfl) rfl
theorem q1790 : (Jvm.Cond.methodLink "StarEyeModel" (178 : Nat) ({ cls := "StarEyeModel", name := "plain", desc := "()V" } : Jvm.MethodName)) ∈ lw_all := lw_g (lw_at lw_m8 14 rfl) rfl
theorem q1791 : (Jvm.Cond.privateMethod ({ cls := "StarEyeModel", name := "plain", desc := "()V" } : Jvm.MethodName)) ∈ lw_tbl := lw_at lw_m8 15 rfl
theorem q1792 : (Jvm.Cond.instanceMethod ({ cls := "StarEyeModel", name := "plain", desc := "()V" } : Jvm.MethodName)) ∈ lw_all := lw_g (lw_at lw_m8 16 rfl) rfl
theorem q1793 : (Jvm.Cond.code ({ cls := "StarEyeModel", name := "plain", desc := "()V" } : Jvm.MethodName) prog_28_method_18_code (2 : Nat) (Option.none : Option Jvm.ClassFile.FieldType)) ∈ lw_all := lw_g (lw_at lw_m8 17 rfl) rfl
theorem q1794 : (Jvm.Cond.methodLink "StarEyeModel" (292 : Nat) ({ cls := "StarEyeModel", name := "plainOf", desc := "(I)I" } : Jvm.MethodName)) ∈ lw_all := lw_g (lw_at lw_m8 18 rfl) rfl
theorem q1795 : (Jvm.Cond.static ({ cls := "StarEyeModel", name := "plainOf", desc := "(I)I" } : Jvm.MethodName)) ∈ lw_all := lw_g (lw_at lw_m8 19 rfl) rfl
theorem q1796 : (Jvm.Cond.code ({ cls := "StarEyeModel", name := "plainOf", desc := "(I)I" } : Jvm.MethodName) prog_28_method_17_code (1 : Nat) (Option.some Jvm.ClassFile.FieldType.int)) ∈ lw_all := lw_g (lw_at lw_m8 20 rfl) rfl
theorem q1797 : (Jvm.Cond.fieldLink "StarEyeModel" (7 : Nat) "StarEyeModel" "tape" "[I") ∈ lw_all := lw_g (lw_at lw_m8 21 rfl) rfl
theorem q1798 : (Jvm.Cond.fieldLink "StarEyeModel" (181 : Nat) "StarEyeModel" "taped" "I") ∈ lw_all := lw_g (lw_at lw_m8 22 rfl) rfl
theorem q1799 : (Jvm.Cond.fieldLink "StarEyeModel" (225 : Nat) "StarEyeModel" "fault" "I") ∈ lw_all := lw_g (lw_at lw_m8 23 rfl) rfl
theorem q1800 : (Jvm.Cond.fieldLink "StarEyeModel" (13 : Nat) "StarEyeModel" "faultPlace" "I") ∈ lw_all := lw_g (lw_at lw_m8 24 rfl) rfl
theorem q1801 : (Jvm.Cond.fieldLink "StarEyeModel" (188 : Nat) "StarEyeModel" "at" "I") ∈ lw_all := lw_g (lw_at lw_m8 25 rfl) rfl
theorem q1802 : (Jvm.Cond.fieldLink "StarEyeModel" (191 : Nat) "StarEyeModel" "size" "I") ∈ lw_all := lw_g (lw_at lw_m8 26 rfl) rfl
theorem q1803 : (Jvm.Cond.fieldLink "StarEyeModel" (212 : Nat) "StarEyeModel" "sort" "I") ∈ lw_all := lw_g (lw_at lw_m8 27 rfl) rfl
theorem q1804 : (Jvm.Cond.fieldLink "StarEyeModel" (202 : Nat) "StarEyeModel" "place" "I") ∈ lw_all := lw_g (lw_at lw_m8 28 rfl) rfl
theorem q1805 : (Jvm.Cond.fieldLink "StarEyeModel" (209 : Nat) "StarEyeModel" "number" "I") ∈ lw_all := lw_g (lw_at lw_m8 29 rfl) rfl
theorem q1806 : (Jvm.Cond.fieldLink "StarEyeModel" (205 : Nat) "StarEyeModel" "word" "J") ∈ lw_all := lw_g (lw_at lw_m8 30 rfl) rfl
theorem q1807 : (Jvm.Cond.fieldLink "StarEyeModel" (194 : Nat) "StarEyeModel" "ofRules" "Z") ∈ lw_all := lw_g (lw_at lw_m8 31 rfl) rfl
theorem q1808 : (Jvm.Cond.fieldLink "StarEyeModel" (17 : Nat) "StarEyeModel" "nTold" "[I") ∈ lw_all := lw_g (lw_at lw_m8 32 rfl) rfl
theorem q1809 : (Jvm.Cond.fieldLink "StarEyeModel" (20 : Nat) "StarEyeModel" "told" "[I") ∈ lw_all := lw_g (lw_at lw_m8 33 rfl) rfl
theorem q1810 : (Jvm.Cond.fieldLink "StarEyeModel" (23 : Nat) "StarEyeModel" "nX" "[I") ∈ lw_all := lw_g (lw_at lw_m8 34 rfl) rfl
theorem q1811 : (Jvm.Cond.fieldLink "StarEyeModel" (26 : Nat) "StarEyeModel" "nY" "[I") ∈ lw_all := lw_g (lw_at lw_m8 35 rfl) rfl
theorem q1812 : (Jvm.Cond.fieldLink "StarEyeModel" (29 : Nat) "StarEyeModel" "nLight" "[I") ∈ lw_all := lw_g (lw_at lw_m8 36 rfl) rfl
theorem q1813 : (Jvm.Cond.fieldLink "StarEyeModel" (32 : Nat) "StarEyeModel" "starX" "[I") ∈ lw_all := lw_g (lw_at lw_m8 37 rfl) rfl
theorem q1814 : (Jvm.Cond.fieldLink "StarEyeModel" (35 : Nat) "StarEyeModel" "starY" "[I") ∈ lw_all := lw_g (lw_at lw_m8 38 rfl) rfl
theorem q1815 : (Jvm.Cond.fieldLink "StarEyeModel" (38 : Nat) "StarEyeModel" "starLight" "[I") ∈ lw_all := lw_g (lw_at lw_m8 39 rfl) rfl
theorem q1816 : (Jvm.Cond.fieldLink "StarEyeModel" (41 : Nat) "StarEyeModel" "nHas" "[Z") ∈ lw_all := lw_g (lw_at lw_m8 40 rfl) rfl
theorem q1817 : (Jvm.Cond.fieldLink "StarEyeModel" (45 : Nat) "StarEyeModel" "nName" "[J") ∈ lw_all := lw_g (lw_at lw_m8 41 rfl) rfl
theorem q1818 : (Jvm.Cond.fieldLink "StarEyeModel" (295 : Nat) "StarEyeModel" "nStars" "I") ∈ lw_all := lw_g (lw_at lw_m8 42 rfl) rfl
theorem q1819 : (Jvm.Cond.fieldLink "StarEyeModel" (330 : Nat) "StarEyeModel" "stars" "I") ∈ lw_all := lw_g (lw_at lw_m8 43 rfl) rfl
theorem q1820 : (Jvm.Cond.fieldLink "StarEyeModel" (49 : Nat) "StarEyeModel" "lights" "[I") ∈ lw_all := lw_g (lw_at lw_m8 44 rfl) rfl
theorem q1821 : (Jvm.Cond.fieldLink "StarEyeModel" (52 : Nat) "StarEyeModel" "nRow" "[I") ∈ lw_all := lw_g (lw_at lw_m8 45 rfl) rfl
theorem q1822 : (Jvm.Cond.fieldLink "StarEyeModel" (55 : Nat) "StarEyeModel" "whenTold" "[I") ∈ lw_all := lw_g (lw_at lw_m8 46 rfl) rfl
theorem q1823 : (Jvm.Cond.fieldLink "StarEyeModel" (58 : Nat) "StarEyeModel" "untold" "[I") ∈ lw_all := lw_g (lw_at lw_m8 47 rfl) rfl
theorem q1824 : (Jvm.Cond.fieldLink "StarEyeModel" (61 : Nat) "StarEyeModel" "isFree" "[Z") ∈ lw_all := lw_g (lw_at lw_m8 48 rfl) rfl
theorem q1825 : (Jvm.Cond.fieldLink "StarEyeModel" (333 : Nat) "StarEyeModel" "pictures" "I") ∈ lw_all := lw_g (lw_at lw_m8 49 rfl) rfl
theorem q1826 : (Jvm.Cond.fieldLink "StarEyeModel" (345 : Nat) "StarEyeModel" "time" "I") ∈ lw_all := lw_g (lw_at lw_m8 50 rfl) rfl
theorem q1827 : (Jvm.Cond.fieldLink "StarEyeModel" (64 : Nat) "StarEyeModel" "dLight" "[I") ∈ lw_all := lw_g (lw_at lw_m8 51 rfl) rfl
theorem q1828 : (Jvm.Cond.fieldLink "StarEyeModel" (67 : Nat) "StarEyeModel" "dX" "[I") ∈ lw_all := lw_g (lw_at lw_m8 52 rfl) rfl
theorem q1829 : (Jvm.Cond.fieldLink "StarEyeModel" (70 : Nat) "StarEyeModel" "dY" "[I") ∈ lw_all := lw_g (lw_at lw_m8 53 rfl) rfl
theorem q1830 : (Jvm.Cond.fieldLink "StarEyeModel" (73 : Nat) "StarEyeModel" "dPixels" "[I") ∈ lw_all := lw_g (lw_at lw_m8 54 rfl) rfl
theorem q1831 : (Jvm.Cond.fieldLink "StarEyeModel" (76 : Nat) "StarEyeModel" "dKind" "[I") ∈ lw_all := lw_g (lw_at lw_m8 55 rfl) rfl
theorem q1832 : (Jvm.Cond.fieldLink "StarEyeModel" (79 : Nat) "StarEyeModel" "order" "[I") ∈ lw_all := lw_g (lw_at lw_m8 56 rfl) rfl
theorem q1833 : (Jvm.Cond.fieldLink "StarEyeModel" (82 : Nat) "StarEyeModel" "marks" "[I") ∈ lw_all := lw_g (lw_at lw_m8 57 rfl) rfl
theorem q1834 : (Jvm.Cond.fieldLink "StarEyeModel" (85 : Nat) "StarEyeModel" "dSmear" "[Z") ∈ lw_all := lw_g (lw_at lw_m8 58 rfl) rfl
theorem q1835 : (Jvm.Cond.fieldLink "StarEyeModel" (356 : Nat) "StarEyeModel" "found" "I") ∈ lw_all := lw_g (lw_at lw_m8 59 rfl) rfl
theorem q1836 : (Jvm.Cond.fieldLink "StarEyeModel" (370 : Nat) "StarEyeModel" "dotMany" "I") ∈ lw_all := lw_g (lw_at lw_m8 60 rfl) rfl
theorem q1837 : (Jvm.Cond.fieldLink "StarEyeModel" (88 : Nat) "StarEyeModel" "seen" "[I") ∈ lw_all := lw_g (lw_at lw_m8 61 rfl) rfl
theorem q1838 : (Jvm.Cond.fieldLink "StarEyeModel" (91 : Nat) "StarEyeModel" "isHere" "[Z") ∈ lw_all := lw_g (lw_at lw_m8 62 rfl) rfl
theorem q1839 : (Jvm.Cond.fieldLink "StarEyeModel" (94 : Nat) "StarEyeModel" "points" "[I") ∈ lw_all := lw_g (lw_at lw_m8 63 rfl) rfl
theorem q1840 : (Jvm.Cond.fieldLink "StarEyeModel" (382 : Nat) "StarEyeModel" "pointMany" "I") ∈ lw_all := lw_g (lw_at lw_m8 64 rfl) rfl
theorem q1841 : (Jvm.Cond.fieldLink "StarEyeModel" (97 : Nat) "StarEyeModel" "ofStars" "[I") ∈ lw_all := lw_g (lw_at lw_m8 65 rfl) rfl
theorem q1842 : (Jvm.Cond.fieldLink "StarEyeModel" (100 : Nat) "StarEyeModel" "ofPoints" "[I") ∈ lw_all := lw_g (lw_at lw_m8 66 rfl) rfl
theorem q1843 : (Jvm.Cond.fieldLink "StarEyeModel" (103 : Nat) "StarEyeModel" "row" "[I") ∈ lw_all := lw_g (lw_at lw_m8 67 rfl) rfl
theorem q1844 : (Jvm.Cond.fieldLink "StarEyeModel" (106 : Nat) "StarEyeModel" "names" "[I") ∈ lw_all := lw_g (lw_at lw_m8 68 rfl) rfl
theorem q1845 : (Jvm.Cond.fieldLink "StarEyeModel" (433 : Nat) "StarEyeModel" "namingMany" "I") ∈ lw_all := lw_g (lw_at lw_m8 69 rfl) rfl
theorem q1846 : (Jvm.Cond.fieldLink "StarEyeModel" (448 : Nat) "StarEyeModel" "namedMany" "I") ∈ lw_all := lw_g (lw_at lw_m8 70 rfl) rfl
theorem q1847 : (Jvm.Cond.fieldLink "StarEyeModel" (468 : Nat) "StarEyeModel" "up" "J") ∈ lw_all := lw_g (lw_at lw_m8 71 rfl) rfl
theorem q1848 : (Jvm.Cond.fieldLink "StarEyeModel" (471 : Nat) "StarEyeModel" "low" "J") ∈ lw_all := lw_g (lw_at lw_m8 72 rfl) rfl
theorem q1849 : (Jvm.Cond.fieldLink "StarEyeModel" (506 : Nat) "StarEyeModel" "sumA" "J") ∈ lw_all := lw_g (lw_at lw_m8 73 rfl) rfl
theorem q1850 : (Jvm.Cond.fieldLink "StarEyeModel" (509 : Nat) "StarEyeModel" "sumC" "J") ∈ lw_all := lw_g (lw_at lw_m8 74 rfl) rfl
theorem q1851 : (Jvm.Cond.fieldLink "StarEyeModel" (512 : Nat) "StarEyeModel" "sumS" "J") ∈ lw_all := lw_g (lw_at lw_m8 75 rfl) rfl
theorem q1852 : (Jvm.Cond.fieldLink "StarEyeModel" (491 : Nat) "StarEyeModel" "allX" "J") ∈ lw_all := lw_g (lw_at lw_m8 76 rfl) rfl
theorem q1853 : (Jvm.Cond.fieldLink "StarEyeModel" (494 : Nat) "StarEyeModel" "allY" "J") ∈ lw_all := lw_g (lw_at lw_m8 77 rfl) rfl
theorem q1854 : (Jvm.Cond.fieldLink "StarEyeModel" (497 : Nat) "StarEyeModel" "allStarX" "J") ∈ lw_all := lw_g (lw_at lw_m8 78 rfl) rfl
theorem q1855 : (Jvm.Cond.fieldLink "StarEyeModel" (500 : Nat) "StarEyeModel" "allStarY" "J") ∈ lw_all := lw_g (lw_at lw_m8 79 rfl) rfl
theorem q1856 : (Jvm.Cond.fieldLink "StarEyeModel" (503 : Nat) "StarEyeModel" "many" "J") ∈ lw_all := lw_g (lw_at lw_m8 80 rfl) rfl
theorem q1857 : (Jvm.Cond.fieldLink "StarEyeModel" (109 : Nat) "StarEyeModel" "fromX" "[I") ∈ lw_all := lw_g (lw_at lw_m8 81 rfl) rfl
theorem q1858 : (Jvm.Cond.fieldLink "StarEyeModel" (112 : Nat) "StarEyeModel" "fromY" "[I") ∈ lw_all := lw_g (lw_at lw_m8 82 rfl) rfl
theorem q1859 : (Jvm.Cond.fieldLink "StarEyeModel" (115 : Nat) "StarEyeModel" "becomes" "[I") ∈ lw_all := lw_g (lw_at lw_m8 83 rfl) rfl
theorem q1860 : (Jvm.Cond.fieldLink "StarEyeModel" (118 : Nat) "StarEyeModel" "isTaken" "[Z") ∈ lw_all := lw_g (lw_at lw_m8 84 rfl) rfl
theorem q1861 : (Jvm.Cond.fieldLink "StarEyeModel" (533 : Nat) "StarEyeModel" "fromMany" "I") ∈ lw_all := lw_g (lw_at lw_m8 85 rfl) rfl
theorem q1862 : (Jvm.Cond.fieldLink "StarEyeModel" (536 : Nat) "StarEyeModel" "followedMany" "I") ∈ lw_all := lw_g (lw_at lw_m8 86 rfl) rfl
theorem q1863 : (Jvm.Cond.fieldLink "StarEyeModel" (543 : Nat) "StarEyeModel" "placeX" "I") ∈ lw_all := lw_g (lw_at lw_m8 87 rfl) rfl
theorem q1864 : (Jvm.Cond.fieldLink "StarEyeModel" (546 : Nat) "StarEyeModel" "placeY" "I") ∈ lw_all := lw_g (lw_at lw_m8 88 rfl) rfl
theorem q1865 : (Jvm.Cond.fieldLink "StarEyeModel" (121 : Nat) "StarEyeModel" "bright" "[I") ∈ lw_all := lw_g (lw_at lw_m8 89 rfl) rfl
theorem q1866 : (Jvm.Cond.fieldLink "StarEyeModel" (124 : Nat) "StarEyeModel" "nWhat" "[I") ∈ lw_all := lw_g (lw_at lw_m8 90 rfl) rfl
theorem q1867 : (Jvm.Cond.fieldLink "StarEyeModel" (127 : Nat) "StarEyeModel" "nNumber" "[I") ∈ lw_all := lw_g (lw_at lw_m8 91 rfl) rfl
theorem q1868 : (Jvm.Cond.fieldLink "StarEyeModel" (130 : Nat) "StarEyeModel" "nBegin" "[I") ∈ lw_all := lw_g (lw_at lw_m8 92 rfl) rfl
theorem q1869 : (Jvm.Cond.fieldLink "StarEyeModel" (133 : Nat) "StarEyeModel" "nTrust" "[I") ∈ lw_all := lw_g (lw_at lw_m8 93 rfl) rfl
theorem q1870 : (Jvm.Cond.fieldLink "StarEyeModel" (136 : Nat) "StarEyeModel" "whats" "[I") ∈ lw_all := lw_g (lw_at lw_m8 94 rfl) rfl
theorem q1871 : (Jvm.Cond.fieldLink "StarEyeModel" (139 : Nat) "StarEyeModel" "numbers" "[I") ∈ lw_all := lw_g (lw_at lw_m8 95 rfl) rfl
theorem q1872 : (Jvm.Cond.fieldLink "StarEyeModel" (142 : Nat) "StarEyeModel" "begin" "[I") ∈ lw_all := lw_g (lw_at lw_m8 96 rfl) rfl
theorem q1873 : (Jvm.Cond.fieldLink "StarEyeModel" (145 : Nat) "StarEyeModel" "trusts" "[I") ∈ lw_all := lw_g (lw_at lw_m8 97 rfl) rfl
theorem q1874 : (Jvm.Cond.fieldLink "StarEyeModel" (148 : Nat) "StarEyeModel" "waits" "[I") ∈ lw_all := lw_g (lw_at lw_m8 98 rfl) rfl
theorem q1875 : (Jvm.Cond.fieldLink "StarEyeModel" (151 : Nat) "StarEyeModel" "pile" "[I") ∈ lw_all := lw_g (lw_at lw_m8 99 rfl) rfl
theorem q1876 : (Jvm.Cond.fieldLink "StarEyeModel" (154 : Nat) "StarEyeModel" "asked" "[I") ∈ lw_all := lw_g (lw_at lw_m8 100 rfl) rfl
theorem q1877 : (Jvm.Cond.fieldLink "StarEyeModel" (569 : Nat) "StarEyeModel" "nNotes" "I") ∈ lw_all := lw_g (lw_at lw_m8 101 rfl) rfl
theorem q1878 : (Jvm.Cond.fieldLink "StarEyeModel" (605 : Nat) "StarEyeModel" "nRules" "I") ∈ lw_all := lw_g (lw_at lw_m8 102 rfl) rfl
theorem q1879 : (Jvm.Cond.fieldLink "StarEyeModel" (590 : Nat) "StarEyeModel" "nUnits" "I") ∈ lw_all := lw_g (lw_at lw_m8 103 rfl) rfl
theorem q1880 : (Jvm.Cond.fieldLink "StarEyeModel" (336 : Nat) "StarEyeModel" "ruleMany" "I") ∈ lw_all := lw_g (lw_at lw_m8 104 rfl) rfl
theorem q1881 : (Jvm.Cond.fieldLink "StarEyeModel" (339 : Nat) "StarEyeModel" "units" "I") ∈ lw_all := lw_g (lw_at lw_m8 105 rfl) rfl
theorem q1882 : (Jvm.Cond.fieldLink "StarEyeModel" (572 : Nat) "StarEyeModel" "waiting" "I") ∈ lw_all := lw_g (lw_at lw_m8 106 rfl) rfl
theorem q1883 : (Jvm.Cond.fieldLink "StarEyeModel" (575 : Nat) "StarEyeModel" "deep" "I") ∈ lw_all := lw_g (lw_at lw_m8 107 rfl) rfl
theorem q1884 : (Jvm.Cond.fieldLink "StarEyeModel" (157 : Nat) "StarEyeModel" "hasBox" "[Z") ∈ lw_all := lw_g (lw_at lw_m8 108 rfl) rfl
theorem q1885 : (Jvm.Cond.fieldLink "StarEyeModel" (160 : Nat) "StarEyeModel" "boxFree" "[Z") ∈ lw_all := lw_g (lw_at lw_m8 109 rfl) rfl
theorem q1886 : (Jvm.Cond.fieldLink "StarEyeModel" (163 : Nat) "StarEyeModel" "boxLights" "[I") ∈ lw_all := lw_g (lw_at lw_m8 110 rfl) rfl
theorem q1887 : (Jvm.Cond.fieldLink "StarEyeModel" (166 : Nat) "StarEyeModel" "boxTold" "[I") ∈ lw_all := lw_g (lw_at lw_m8 111 rfl) rfl
theorem q1888 : (Jvm.Cond.fieldLink "StarEyeModel" (169 : Nat) "StarEyeModel" "boxUntold" "[I") ∈ lw_all := lw_g (lw_at lw_m8 112 rfl) rfl
theorem q1889 : (Jvm.Cond.fieldLink "StarEyeModel" (172 : Nat) "StarEyeModel" "boxMany" "[I") ∈ lw_all := lw_g (lw_at lw_m8 113 rfl) rfl
theorem q1890 : (Jvm.Cond.fieldLink "StarEyeModel" (175 : Nat) "StarEyeModel" "boxTime" "[I") ∈ lw_all := lw_g (lw_at lw_m8 114 rfl) rfl
theorem q1891 : (Jvm.Cond.laysFinal "StarEyeModel" "StarEyeModel" "tape" "[I") ∈ lw_all := lw_g (lw_at lw_m8 115 rfl) rfl
theorem q1892 : (Jvm.Cond.soleField "StarEyeModel" "tape") ∈ lw_all := lw_g (lw_at lw_m8 116 rfl) rfl
theorem q1893 : (Jvm.Cond.lays "StarEyeModel" "StarEyeModel" "taped" "I") ∈ lw_all := lw_g (lw_at lw_m8 117 rfl) rfl
theorem q1894 : (Jvm.Cond.soleField "StarEyeModel" "taped") ∈ lw_all := lw_g (lw_at lw_m8 118 rfl) rfl
theorem q1895 : (Jvm.Cond.lays "StarEyeModel" "StarEyeModel" "fault" "I") ∈ lw_all := lw_g (lw_at lw_m8 119 rfl) rfl
theorem q1896 : (Jvm.Cond.soleField "StarEyeModel" "fault") ∈ lw_all := lw_g (lw_at lw_m8 120 rfl) rfl
theorem q1897 : (Jvm.Cond.lays "StarEyeModel" "StarEyeModel" "faultPlace" "I") ∈ lw_all := lw_g (lw_at lw_m8 121 rfl) rfl
theorem q1898 : (Jvm.Cond.soleField "StarEyeModel" "faultPlace") ∈ lw_all := lw_g (lw_at lw_m8 122 rfl) rfl
theorem q1899 : (Jvm.Cond.lays "StarEyeModel" "StarEyeModel" "at" "I") ∈ lw_all := lw_g (lw_at lw_m8 123 rfl) rfl
theorem q1900 : (Jvm.Cond.soleField "StarEyeModel" "at") ∈ lw_all := lw_g (lw_at lw_m8 124 rfl) rfl
theorem q1901 : (Jvm.Cond.lays "StarEyeModel" "StarEyeModel" "size" "I") ∈ lw_all := lw_g (lw_at lw_m8 125 rfl) rfl
theorem q1902 : (Jvm.Cond.soleField "StarEyeModel" "size") ∈ lw_all := lw_g (lw_at lw_m8 126 rfl) rfl
theorem q1903 : (Jvm.Cond.lays "StarEyeModel" "StarEyeModel" "sort" "I") ∈ lw_all := lw_g (lw_at lw_m8 127 rfl) rfl
theorem q1904 : (Jvm.Cond.soleField "StarEyeModel" "sort") ∈ lw_all := lw_g (lw_at lw_m8 128 rfl) rfl
theorem q1905 : (Jvm.Cond.lays "StarEyeModel" "StarEyeModel" "place" "I") ∈ lw_all := lw_g (lw_at lw_m8 129 rfl) rfl
theorem q1906 : (Jvm.Cond.soleField "StarEyeModel" "place") ∈ lw_all := lw_g (lw_at lw_m8 130 rfl) rfl
theorem q1907 : (Jvm.Cond.lays "StarEyeModel" "StarEyeModel" "number" "I") ∈ lw_all := lw_g (lw_at lw_m8 131 rfl) rfl
theorem q1908 : (Jvm.Cond.soleField "StarEyeModel" "number") ∈ lw_all := lw_g (lw_at lw_m8 132 rfl) rfl
theorem q1909 : (Jvm.Cond.lays "StarEyeModel" "StarEyeModel" "word" "J") ∈ lw_all := lw_g (lw_at lw_m8 133 rfl) rfl
theorem q1910 : (Jvm.Cond.soleField "StarEyeModel" "word") ∈ lw_all := lw_g (lw_at lw_m8 134 rfl) rfl
theorem q1911 : (Jvm.Cond.lays "StarEyeModel" "StarEyeModel" "ofRules" "Z") ∈ lw_all := lw_g (lw_at lw_m8 135 rfl) rfl
theorem q1912 : (Jvm.Cond.soleField "StarEyeModel" "ofRules") ∈ lw_all := lw_g (lw_at lw_m8 136 rfl) rfl
theorem q1913 : (Jvm.Cond.laysFinal "StarEyeModel" "StarEyeModel" "nTold" "[I") ∈ lw_all := lw_g (lw_at lw_m8 137 rfl) rfl
theorem q1914 : (Jvm.Cond.soleField "StarEyeModel" "nTold") ∈ lw_all := lw_g (lw_at lw_m8 138 rfl) rfl
theorem q1915 : (Jvm.Cond.laysFinal "StarEyeModel" "StarEyeModel" "told" "[I") ∈ lw_all := lw_g (lw_at lw_m8 139 rfl) rfl
theorem q1916 : (Jvm.Cond.soleField "StarEyeModel" "told") ∈ lw_all := lw_g (lw_at lw_m8 140 rfl) rfl
theorem q1917 : (Jvm.Cond.laysFinal "StarEyeModel" "StarEyeModel" "nX" "[I") ∈ lw_all := lw_g (lw_at lw_m8 141 rfl) rfl
theorem q1918 : (Jvm.Cond.soleField "StarEyeModel" "nX") ∈ lw_all := lw_g (lw_at lw_m8 142 rfl) rfl
theorem q1919 : (Jvm.Cond.laysFinal "StarEyeModel" "StarEyeModel" "nY" "[I") ∈ lw_all := lw_g (lw_at lw_m8 143 rfl) rfl
theorem q1920 : (Jvm.Cond.soleField "StarEyeModel" "nY") ∈ lw_all := lw_g (lw_at lw_m8 144 rfl) rfl
theorem q1921 : (Jvm.Cond.laysFinal "StarEyeModel" "StarEyeModel" "nLight" "[I") ∈ lw_all := lw_g (lw_at lw_m8 145 rfl) rfl
theorem q1922 : (Jvm.Cond.soleField "StarEyeModel" "nLight") ∈ lw_all := lw_g (lw_at lw_m8 146 rfl) rfl
theorem q1923 : (Jvm.Cond.laysFinal "StarEyeModel" "StarEyeModel" "starX" "[I") ∈ lw_all := lw_g (lw_at lw_m8 147 rfl) rfl
theorem q1924 : (Jvm.Cond.soleField "StarEyeModel" "starX") ∈ lw_all := lw_g (lw_at lw_m8 148 rfl) rfl
theorem q1925 : (Jvm.Cond.laysFinal "StarEyeModel" "StarEyeModel" "starY" "[I") ∈ lw_all := lw_g (lw_at lw_m8 149 rfl) rfl
theorem q1926 : (Jvm.Cond.soleField "StarEyeModel" "starY") ∈ lw_all := lw_g (lw_at lw_m8 150 rfl) rfl
theorem q1927 : (Jvm.Cond.laysFinal "StarEyeModel" "StarEyeModel" "starLight" "[I") ∈ lw_all := lw_g (lw_at lw_m8 151 rfl) rfl
theorem q1928 : (Jvm.Cond.soleField "StarEyeModel" "starLight") ∈ lw_all := lw_g (lw_at lw_m8 152 rfl) rfl
theorem q1929 : (Jvm.Cond.laysFinal "StarEyeModel" "StarEyeModel" "nHas" "[Z") ∈ lw_all := lw_g (lw_at lw_m8 153 rfl) rfl
theorem q1930 : (Jvm.Cond.soleField "StarEyeModel" "nHas") ∈ lw_all := lw_g (lw_at lw_m8 154 rfl) rfl
theorem q1931 : (Jvm.Cond.laysFinal "StarEyeModel" "StarEyeModel" "nName" "[J") ∈ lw_all := lw_g (lw_at lw_m8 155 rfl) rfl
theorem q1932 : (Jvm.Cond.soleField "StarEyeModel" "nName") ∈ lw_all := lw_g (lw_at lw_m8 156 rfl) rfl
theorem q1933 : (Jvm.Cond.lays "StarEyeModel" "StarEyeModel" "nStars" "I") ∈ lw_all := lw_g (lw_at lw_m8 157 rfl) rfl
theorem q1934 : (Jvm.Cond.soleField "StarEyeModel" "nStars") ∈ lw_all := lw_g (lw_at lw_m8 158 rfl) rfl
theorem q1935 : (Jvm.Cond.lays "StarEyeModel" "StarEyeModel" "stars" "I") ∈ lw_all := lw_g (lw_at lw_m8 159 rfl) rfl
theorem q1936 : (Jvm.Cond.soleField "StarEyeModel" "stars") ∈ lw_all := lw_g (lw_at lw_m8 160 rfl) rfl
theorem q1937 : (Jvm.Cond.laysFinal "StarEyeModel" "StarEyeModel" "lights" "[I") ∈ lw_all := lw_g (lw_at lw_m8 161 rfl) rfl
theorem q1938 : (Jvm.Cond.soleField "StarEyeModel" "lights") ∈ lw_all := lw_g (lw_at lw_m8 162 rfl) rfl
theorem q1939 : (Jvm.Cond.laysFinal "StarEyeModel" "StarEyeModel" "nRow" "[I") ∈ lw_all := lw_g (lw_at lw_m8 163 rfl) rfl
theorem q1940 : (Jvm.Cond.soleField "StarEyeModel" "nRow") ∈ lw_all := lw_g (lw_at lw_m8 164 rfl) rfl
theorem q1941 : (Jvm.Cond.laysFinal "StarEyeModel" "StarEyeModel" "whenTold" "[I") ∈ lw_all := lw_g (lw_at lw_m8 165 rfl) rfl
theorem q1942 : (Jvm.Cond.soleField "StarEyeModel" "whenTold") ∈ lw_all := lw_g (lw_at lw_m8 166 rfl) rfl
theorem q1943 : (Jvm.Cond.laysFinal "StarEyeModel" "StarEyeModel" "untold" "[I") ∈ lw_all := lw_g (lw_at lw_m8 167 rfl) rfl
theorem q1944 : (Jvm.Cond.soleField "StarEyeModel" "untold") ∈ lw_all := lw_g (lw_at lw_m8 168 rfl) rfl
theorem q1945 : (Jvm.Cond.laysFinal "StarEyeModel" "StarEyeModel" "isFree" "[Z") ∈ lw_all := lw_g (lw_at lw_m8 169 rfl) rfl
theorem q1946 : (Jvm.Cond.soleField "StarEyeModel" "isFree") ∈ lw_all := lw_g (lw_at lw_m8 170 rfl) rfl
theorem q1947 : (Jvm.Cond.lays "StarEyeModel" "StarEyeModel" "pictures" "I") ∈ lw_all := lw_g (lw_at lw_m8 171 rfl) rfl
theorem q1948 : (Jvm.Cond.soleField "StarEyeModel" "pictures") ∈ lw_all := lw_g (lw_at lw_m8 172 rfl) rfl
theorem q1949 : (Jvm.Cond.lays "StarEyeModel" "StarEyeModel" "time" "I") ∈ lw_all := lw_g (lw_at lw_m8 173 rfl) rfl
theorem q1950 : (Jvm.Cond.soleField "StarEyeModel" "time") ∈ lw_all := lw_g (lw_at lw_m8 174 rfl) rfl
theorem q1951 : (Jvm.Cond.laysFinal "StarEyeModel" "StarEyeModel" "dLight" "[I") ∈ lw_all := lw_g (lw_at lw_m8 175 rfl) rfl
theorem q1952 : (Jvm.Cond.soleField "StarEyeModel" "dLight") ∈ lw_all := lw_g (lw_at lw_m8 176 rfl) rfl
theorem q1953 : (Jvm.Cond.laysFinal "StarEyeModel" "StarEyeModel" "dX" "[I") ∈ lw_all := lw_g (lw_at lw_m8 177 rfl) rfl
theorem q1954 : (Jvm.Cond.soleField "StarEyeModel" "dX") ∈ lw_all := lw_g (lw_at lw_m8 178 rfl) rfl
theorem q1955 : (Jvm.Cond.laysFinal "StarEyeModel" "StarEyeModel" "dY" "[I") ∈ lw_all := lw_g (lw_at lw_m8 179 rfl) rfl
theorem q1956 : (Jvm.Cond.soleField "StarEyeModel" "dY") ∈ lw_all := lw_g (lw_at lw_m8 180 rfl) rfl
theorem q1957 : (Jvm.Cond.laysFinal "StarEyeModel" "StarEyeModel" "dPixels" "[I") ∈ lw_all := lw_g (lw_at lw_m8 181 rfl) rfl
theorem q1958 : (Jvm.Cond.soleField "StarEyeModel" "dPixels") ∈ lw_all := lw_g (lw_at lw_m8 182 rfl) rfl
theorem q1959 : (Jvm.Cond.laysFinal "StarEyeModel" "StarEyeModel" "dKind" "[I") ∈ lw_all := lw_g (lw_at lw_m8 183 rfl) rfl
theorem q1960 : (Jvm.Cond.soleField "StarEyeModel" "dKind") ∈ lw_all := lw_g (lw_at lw_m8 184 rfl) rfl
theorem q1961 : (Jvm.Cond.laysFinal "StarEyeModel" "StarEyeModel" "order" "[I") ∈ lw_all := lw_g (lw_at lw_m8 185 rfl) rfl
theorem q1962 : (Jvm.Cond.soleField "StarEyeModel" "order") ∈ lw_all := lw_g (lw_at lw_m8 186 rfl) rfl
theorem q1963 : (Jvm.Cond.laysFinal "StarEyeModel" "StarEyeModel" "marks" "[I") ∈ lw_all := lw_g (lw_at lw_m8 187 rfl) rfl
theorem q1964 : (Jvm.Cond.soleField "StarEyeModel" "marks") ∈ lw_all := lw_g (lw_at lw_m8 188 rfl) rfl
theorem q1965 : (Jvm.Cond.laysFinal "StarEyeModel" "StarEyeModel" "dSmear" "[Z") ∈ lw_all := lw_g (lw_at lw_m8 189 rfl) rfl
theorem q1966 : (Jvm.Cond.soleField "StarEyeModel" "dSmear") ∈ lw_all := lw_g (lw_at lw_m8 190 rfl) rfl
theorem q1967 : (Jvm.Cond.lays "StarEyeModel" "StarEyeModel" "found" "I") ∈ lw_all := lw_g (lw_at lw_m8 191 rfl) rfl
theorem q1968 : (Jvm.Cond.soleField "StarEyeModel" "found") ∈ lw_all := lw_g (lw_at lw_m8 192 rfl) rfl
theorem q1969 : (Jvm.Cond.lays "StarEyeModel" "StarEyeModel" "dotMany" "I") ∈ lw_all := lw_g (lw_at lw_m8 193 rfl) rfl
theorem q1970 : (Jvm.Cond.soleField "StarEyeModel" "dotMany") ∈ lw_all := lw_g (lw_at lw_m8 194 rfl) rfl
theorem q1971 : (Jvm.Cond.laysFinal "StarEyeModel" "StarEyeModel" "seen" "[I") ∈ lw_all := lw_g (lw_at lw_m8 195 rfl) rfl
theorem q1972 : (Jvm.Cond.soleField "StarEyeModel" "seen") ∈ lw_all := lw_g (lw_at lw_m8 196 rfl) rfl
theorem q1973 : (Jvm.Cond.laysFinal "StarEyeModel" "StarEyeModel" "isHere" "[Z") ∈ lw_all := lw_g (lw_at lw_m8 197 rfl) rfl
theorem q1974 : (Jvm.Cond.soleField "StarEyeModel" "isHere") ∈ lw_all := lw_g (lw_at lw_m8 198 rfl) rfl
theorem q1975 : (Jvm.Cond.laysFinal "StarEyeModel" "StarEyeModel" "points" "[I") ∈ lw_all := lw_g (lw_at lw_m8 199 rfl) rfl
theorem q1976 : (Jvm.Cond.soleField "StarEyeModel" "points") ∈ lw_all := lw_g (lw_at lw_m8 200 rfl) rfl
theorem q1977 : (Jvm.Cond.lays "StarEyeModel" "StarEyeModel" "pointMany" "I") ∈ lw_all := lw_g (lw_at lw_m8 201 rfl) rfl
theorem q1978 : (Jvm.Cond.soleField "StarEyeModel" "pointMany") ∈ lw_all := lw_g (lw_at lw_m8 202 rfl) rfl
theorem q1979 : (Jvm.Cond.laysFinal "StarEyeModel" "StarEyeModel" "ofStars" "[I") ∈ lw_all := lw_g (lw_at lw_m8 203 rfl) rfl
theorem q1980 : (Jvm.Cond.soleField "StarEyeModel" "ofStars") ∈ lw_all := lw_g (lw_at lw_m8 204 rfl) rfl
theorem q1981 : (Jvm.Cond.laysFinal "StarEyeModel" "StarEyeModel" "ofPoints" "[I") ∈ lw_all := lw_g (lw_at lw_m8 205 rfl) rfl
theorem q1982 : (Jvm.Cond.soleField "StarEyeModel" "ofPoints") ∈ lw_all := lw_g (lw_at lw_m8 206 rfl) rfl
theorem q1983 : (Jvm.Cond.laysFinal "StarEyeModel" "StarEyeModel" "row" "[I") ∈ lw_all := lw_g (lw_at lw_m8 207 rfl) rfl
theorem q1984 : (Jvm.Cond.soleField "StarEyeModel" "row") ∈ lw_all := lw_g (lw_at lw_m8 208 rfl) rfl
theorem q1985 : (Jvm.Cond.laysFinal "StarEyeModel" "StarEyeModel" "names" "[I") ∈ lw_all := lw_g (lw_at lw_m8 209 rfl) rfl
theorem q1986 : (Jvm.Cond.soleField "StarEyeModel" "names") ∈ lw_all := lw_g (lw_at lw_m8 210 rfl) rfl
theorem q1987 : (Jvm.Cond.lays "StarEyeModel" "StarEyeModel" "namingMany" "I") ∈ lw_all := lw_g (lw_at lw_m8 211 rfl) rfl
theorem q1988 : (Jvm.Cond.soleField "StarEyeModel" "namingMany") ∈ lw_all := lw_g (lw_at lw_m8 212 rfl) rfl
theorem q1989 : (Jvm.Cond.lays "StarEyeModel" "StarEyeModel" "namedMany" "I") ∈ lw_all := lw_g (lw_at lw_m8 213 rfl) rfl
theorem q1990 : (Jvm.Cond.soleField "StarEyeModel" "namedMany") ∈ lw_all := lw_g (lw_at lw_m8 214 rfl) rfl
theorem q1991 : (Jvm.Cond.lays "StarEyeModel" "StarEyeModel" "up" "J") ∈ lw_all := lw_g (lw_at lw_m8 215 rfl) rfl
theorem q1992 : (Jvm.Cond.soleField "StarEyeModel" "up") ∈ lw_all := lw_g (lw_at lw_m8 216 rfl) rfl
theorem q1993 : (Jvm.Cond.lays "StarEyeModel" "StarEyeModel" "low" "J") ∈ lw_all := lw_g (lw_at lw_m8 217 rfl) rfl
theorem q1994 : (Jvm.Cond.soleField "StarEyeModel" "low") ∈ lw_all := lw_g (lw_at lw_m8 218 rfl) rfl
theorem q1995 : (Jvm.Cond.lays "StarEyeModel" "StarEyeModel" "sumA" "J") ∈ lw_all := lw_g (lw_at lw_m8 219 rfl) rfl
theorem q1996 : (Jvm.Cond.soleField "StarEyeModel" "sumA") ∈ lw_all := lw_g (lw_at lw_m8 220 rfl) rfl
theorem q1997 : (Jvm.Cond.lays "StarEyeModel" "StarEyeModel" "sumC" "J") ∈ lw_all := lw_g (lw_at lw_m8 221 rfl) rfl
theorem q1998 : (Jvm.Cond.soleField "StarEyeModel" "sumC") ∈ lw_all := lw_g (lw_at lw_m8 222 rfl) rfl
theorem q1999 : (Jvm.Cond.lays "StarEyeModel" "StarEyeModel" "sumS" "J") ∈ lw_all := lw_g (lw_at lw_m8 223 rfl) rfl
theorem q2000 : (Jvm.Cond.soleField "StarEyeModel" "sumS") ∈ lw_all := lw_g (lw_at lw_m8 224 rfl) rfl
theorem q2001 : (Jvm.Cond.lays "StarEyeModel" "StarEyeModel" "allX" "J") ∈ lw_all := lw_g (lw_at lw_m8 225 rfl) rfl
theorem q2002 : (Jvm.Cond.soleField "StarEyeModel" "allX") ∈ lw_all := lw_g (lw_at lw_m8 226 rfl) rfl
theorem q2003 : (Jvm.Cond.lays "StarEyeModel" "StarEyeModel" "allY" "J") ∈ lw_all := lw_g (lw_at lw_m8 227 rfl) rfl
theorem q2004 : (Jvm.Cond.soleField "StarEyeModel" "allY") ∈ lw_all := lw_g (lw_at lw_m8 228 rfl) rfl
theorem q2005 : (Jvm.Cond.lays "StarEyeModel" "StarEyeModel" "allStarX" "J") ∈ lw_all := lw_g (lw_at lw_m8 229 rfl) rfl
theorem q2006 : (Jvm.Cond.soleField "StarEyeModel" "allStarX") ∈ lw_all := lw_g (lw_at lw_m8 230 rfl) rfl
theorem q2007 : (Jvm.Cond.lays "StarEyeModel" "StarEyeModel" "allStarY" "J") ∈ lw_all := lw_g (lw_at lw_m8 231 rfl) rfl
theorem q2008 : (Jvm.Cond.soleField "StarEyeModel" "allStarY") ∈ lw_all := lw_g (lw_at lw_m8 232 rfl) rfl
theorem q2009 : (Jvm.Cond.lays "StarEyeModel" "StarEyeModel" "many" "J") ∈ lw_all := lw_g (lw_at lw_m8 233 rfl) rfl
theorem q2010 : (Jvm.Cond.soleField "StarEyeModel" "many") ∈ lw_all := lw_g (lw_at lw_m8 234 rfl) rfl
theorem q2011 : (Jvm.Cond.laysFinal "StarEyeModel" "StarEyeModel" "fromX" "[I") ∈ lw_all := lw_g (lw_at lw_m8 235 rfl) rfl
theorem q2012 : (Jvm.Cond.soleField "StarEyeModel" "fromX") ∈ lw_all := lw_g (lw_at lw_m8 236 rfl) rfl
theorem q2013 : (Jvm.Cond.laysFinal "StarEyeModel" "StarEyeModel" "fromY" "[I") ∈ lw_all := lw_g (lw_at lw_m8 237 rfl) rfl
theorem q2014 : (Jvm.Cond.soleField "StarEyeModel" "fromY") ∈ lw_all := lw_g (lw_at lw_m8 238 rfl) rfl
theorem q2015 : (Jvm.Cond.laysFinal "StarEyeModel" "StarEyeModel" "becomes" "[I") ∈ lw_all := lw_g (lw_at lw_m8 239 rfl) rfl
theorem q2016 : (Jvm.Cond.soleField "StarEyeModel" "becomes") ∈ lw_all := lw_g (lw_at lw_m9 0 rfl) rfl
theorem q2017 : (Jvm.Cond.laysFinal "StarEyeModel" "StarEyeModel" "isTaken" "[Z") ∈ lw_all := lw_g (lw_at lw_m9 1 rfl) rfl
theorem q2018 : (Jvm.Cond.soleField "StarEyeModel" "isTaken") ∈ lw_all := lw_g (lw_at lw_m9 2 rfl) rfl
theorem q2019 : (Jvm.Cond.lays "StarEyeModel" "StarEyeModel" "fromMany" "I") ∈ lw_all := lw_g (lw_at lw_m9 3 rfl) rfl
theorem q2020 : (Jvm.Cond.soleField "StarEyeModel" "fromMany") ∈ lw_all := lw_g (lw_at lw_m9 4 rfl) rfl
theorem q2021 : (Jvm.Cond.lays "StarEyeModel" "StarEyeModel" "followedMany" "I") ∈ lw_all := lw_g (lw_at lw_m9 5 rfl) rfl
theorem q2022 : (Jvm.Cond.soleField "StarEyeModel" "followedMany") ∈ lw_all := lw_g (lw_at lw_m9 6 rfl) rfl
theorem q2023 : (Jvm.Cond.lays "StarEyeModel" "StarEyeModel" "placeX" "I") ∈ lw_all := lw_g (lw_at lw_m9 7 rfl) rfl
theorem q2024 : (Jvm.Cond.soleField "StarEyeModel" "placeX") ∈ lw_all := lw_g (lw_at lw_m9 8 rfl) rfl
theorem q2025 : (Jvm.Cond.lays "StarEyeModel" "StarEyeModel" "placeY" "I") ∈ lw_all := lw_g (lw_at lw_m9 9 rfl) rfl
theorem q2026 : (Jvm.Cond.soleField "StarEyeModel" "placeY") ∈ lw_all := lw_g (lw_at lw_m9 10 rfl) rfl
theorem q2027 : (Jvm.Cond.laysFinal "StarEyeModel" "StarEyeModel" "bright" "[I") ∈ lw_all := lw_g (lw_at lw_m9 11 rfl) rfl
theorem q2028 : (Jvm.Cond.soleField "StarEyeModel" "bright") ∈ lw_all := lw_g (lw_at lw_m9 12 rfl) rfl
theorem q2029 : (Jvm.Cond.laysFinal "StarEyeModel" "StarEyeModel" "nWhat" "[I") ∈ lw_all := lw_g (lw_at lw_m9 13 rfl) rfl
theorem q2030 : (Jvm.Cond.soleField "StarEyeModel" "nWhat") ∈ lw_all := lw_g (lw_at lw_m9 14 rfl) rfl
theorem q2031 : (Jvm.Cond.laysFinal "StarEyeModel" "StarEyeModel" "nNumber" "[I") ∈ lw_all := lw_g (lw_at lw_m9 15 rfl) rfl
theorem q2032 : (Jvm.Cond.soleField "StarEyeModel" "nNumber") ∈ lw_all := lw_g (lw_at lw_m9 16 rfl) rfl
theorem q2033 : (Jvm.Cond.laysFinal "StarEyeModel" "StarEyeModel" "nBegin" "[I") ∈ lw_all := lw_g (lw_at lw_m9 17 rfl) rfl
theorem q2034 : (Jvm.Cond.soleField "StarEyeModel" "nBegin") ∈ lw_all := lw_g (lw_at lw_m9 18 rfl) rfl
theorem q2035 : (Jvm.Cond.laysFinal "StarEyeModel" "StarEyeModel" "nTrust" "[I") ∈ lw_all := lw_g (lw_at lw_m9 19 rfl) rfl
theorem q2036 : (Jvm.Cond.soleField "StarEyeModel" "nTrust") ∈ lw_all := lw_g (lw_at lw_m9 20 rfl) rfl
theorem q2037 : (Jvm.Cond.laysFinal "StarEyeModel" "StarEyeModel" "whats" "[I") ∈ lw_all := lw_g (lw_at lw_m9 21 rfl) rfl
theorem q2038 : (Jvm.Cond.soleField "StarEyeModel" "whats") ∈ lw_all := lw_g (lw_at lw_m9 22 rfl) rfl
theorem q2039 : (Jvm.Cond.laysFinal "StarEyeModel" "StarEyeModel" "numbers" "[I") ∈ lw_all := lw_g (lw_at lw_m9 23 rfl) rfl
theorem q2040 : (Jvm.Cond.soleField "StarEyeModel" "numbers") ∈ lw_all := lw_g (lw_at lw_m9 24 rfl) rfl
theorem q2041 : (Jvm.Cond.laysFinal "StarEyeModel" "StarEyeModel" "begin" "[I") ∈ lw_all := lw_g (lw_at lw_m9 25 rfl) rfl
theorem q2042 : (Jvm.Cond.soleField "StarEyeModel" "begin") ∈ lw_all := lw_g (lw_at lw_m9 26 rfl) rfl
theorem q2043 : (Jvm.Cond.laysFinal "StarEyeModel" "StarEyeModel" "trusts" "[I") ∈ lw_all := lw_g (lw_at lw_m9 27 rfl) rfl
theorem q2044 : (Jvm.Cond.soleField "StarEyeModel" "trusts") ∈ lw_all := lw_g (lw_at lw_m9 28 rfl) rfl
theorem q2045 : (Jvm.Cond.laysFinal "StarEyeModel" "StarEyeModel" "waits" "[I") ∈ lw_all := lw_g (lw_at lw_m9 29 rfl) rfl
theorem q2046 : (Jvm.Cond.soleField "StarEyeModel" "waits") ∈ lw_all := lw_g (lw_at lw_m9 30 rfl) rfl
theorem q2047 : (Jvm.Cond.laysFinal "StarEyeModel" "StarEyeModel" "pile" "[I") ∈ lw_all := lw_g (lw_at lw_m9 31 rfl) rfl
theorem q2048 : (Jvm.Cond.soleField "StarEyeModel" "pile") ∈ lw_all := lw_g (lw_at lw_m9 32 rfl) rfl
theorem q2049 : (Jvm.Cond.laysFinal "StarEyeModel" "StarEyeModel" "asked" "[I") ∈ lw_all := lw_g (lw_at lw_m9 33 rfl) rfl
theorem q2050 : (Jvm.Cond.soleField "StarEyeModel" "asked") ∈ lw_all := lw_g (lw_at lw_m9 34 rfl) rfl
theorem q2051 : (Jvm.Cond.lays "StarEyeModel" "StarEyeModel" "nNotes" "I") ∈ lw_all := lw_g (lw_at lw_m9 35 rfl) rfl
theorem q2052 : (Jvm.Cond.soleField "StarEyeModel" "nNotes") ∈ lw_all := lw_g (lw_at lw_m9 36 rfl) rfl
theorem q2053 : (Jvm.Cond.lays "StarEyeModel" "StarEyeModel" "nRules" "I") ∈ lw_all := lw_g (lw_at lw_m9 37 rfl) rfl
theorem q2054 : (Jvm.Cond.soleField "StarEyeModel" "nRules") ∈ lw_all := lw_g (lw_at lw_m9 38 rfl) rfl
theorem q2055 : (Jvm.Cond.lays "StarEyeModel" "StarEyeModel" "nUnits" "I") ∈ lw_all := lw_g (lw_at lw_m9 39 rfl) rfl
theorem q2056 : (Jvm.Cond.soleField "StarEyeModel" "nUnits") ∈ lw_all := lw_g (lw_at lw_m9 40 rfl) rfl
theorem q2057 : (Jvm.Cond.lays "StarEyeModel" "StarEyeModel" "ruleMany" "I") ∈ lw_all := lw_g (lw_at lw_m9 41 rfl) rfl
theorem q2058 : (Jvm.Cond.soleField "StarEyeModel" "ruleMany") ∈ lw_all := lw_g (lw_at lw_m9 42 rfl) rfl
theorem q2059 : (Jvm.Cond.lays "StarEyeModel" "StarEyeModel" "units" "I") ∈ lw_all := lw_g (lw_at lw_m9 43 rfl) rfl
theorem q2060 : (Jvm.Cond.soleField "StarEyeModel" "units") ∈ lw_all := lw_g (lw_at lw_m9 44 rfl) rfl
theorem q2061 : (Jvm.Cond.lays "StarEyeModel" "StarEyeModel" "waiting" "I") ∈ lw_all := lw_g (lw_at lw_m9 45 rfl) rfl
theorem q2062 : (Jvm.Cond.soleField "StarEyeModel" "waiting") ∈ lw_all := lw_g (lw_at lw_m9 46 rfl) rfl
theorem q2063 : (Jvm.Cond.lays "StarEyeModel" "StarEyeModel" "deep" "I") ∈ lw_all := lw_g (lw_at lw_m9 47 rfl) rfl
theorem q2064 : (Jvm.Cond.soleField "StarEyeModel" "deep") ∈ lw_all := lw_g (lw_at lw_m9 48 rfl) rfl
theorem q2065 : (Jvm.Cond.laysFinal "StarEyeModel" "StarEyeModel" "hasBox" "[Z") ∈ lw_all := lw_g (lw_at lw_m9 49 rfl) rfl
theorem q2066 : (Jvm.Cond.soleField "StarEyeModel" "hasBox") ∈ lw_all := lw_g (lw_at lw_m9 50 rfl) rfl
theorem q2067 : (Jvm.Cond.laysFinal "StarEyeModel" "StarEyeModel" "boxFree" "[Z") ∈ lw_all := lw_g (lw_at lw_m9 51 rfl) rfl
theorem q2068 : (Jvm.Cond.soleField "StarEyeModel" "boxFree") ∈ lw_all := lw_g (lw_at lw_m9 52 rfl) rfl
theorem q2069 : (Jvm.Cond.laysFinal "StarEyeModel" "StarEyeModel" "boxLights" "[I") ∈ lw_all := lw_g (lw_at lw_m9 53 rfl) rfl
theorem q2070 : (Jvm.Cond.soleField "StarEyeModel" "boxLights") ∈ lw_all := lw_g (lw_at lw_m9 54 rfl) rfl
theorem q2071 : (Jvm.Cond.laysFinal "StarEyeModel" "StarEyeModel" "boxTold" "[I") ∈ lw_all := lw_g (lw_at lw_m9 55 rfl) rfl
theorem q2072 : (Jvm.Cond.soleField "StarEyeModel" "boxTold") ∈ lw_all := lw_g (lw_at lw_m9 56 rfl) rfl
theorem q2073 : (Jvm.Cond.laysFinal "StarEyeModel" "StarEyeModel" "boxUntold" "[I") ∈ lw_all := lw_g (lw_at lw_m9 57 rfl) rfl
theorem q2074 : (Jvm.Cond.soleField "StarEyeModel" "boxUntold") ∈ lw_all := lw_g (lw_at lw_m9 58 rfl) rfl
theorem q2075 : (Jvm.Cond.laysFinal "StarEyeModel" "StarEyeModel" "boxMany" "[I") ∈ lw_all := lw_g (lw_at lw_m9 59 rfl) rfl
theorem q2076 : (Jvm.Cond.soleField "StarEyeModel" "boxMany") ∈ lw_all := lw_g (lw_at lw_m9 60 rfl) rfl
theorem q2077 : (Jvm.Cond.laysFinal "StarEyeModel" "StarEyeModel" "boxTime" "[I") ∈ lw_all := lw_g (lw_at lw_m9 61 rfl) rfl
theorem q2078 : (Jvm.Cond.soleField "StarEyeModel" "boxTime") ∈ lw_all := lw_g (lw_at lw_m9 62 rfl) rfl
theorem q2079 : (Jvm.Cond.superclass "StarEyeModel" "java/lang/Object") ∈ lw_all := lw_g (lw_at lw_m9 63 rfl) rfl
theorem q2081 : (Jvm.Cond.instanceMethod ({ cls := "StarEyeModel", name := "feed", desc := "(IIIII)I" } : Jvm.MethodName)) ∈ lw_all := lw_g (lw_at lw_m9 65 rfl) rfl
theorem q2082 : (Jvm.Cond.selects "StarEyeModel" ({ cls := "StarEyeModel", name := "feed", desc := "(IIIII)I" } : Jvm.MethodName) ({ cls := "StarEyeModel", name := "feed", desc := "(IIIII)I" } : Jvm.MethodName)) ∈ lw_all := lw_g (lw_at lw_m9 66 rfl) rfl
theorem q2083 : (Jvm.Cond.code ({ cls := "StarEyeModel", name := "feed", desc := "(IIIII)I" } : Jvm.MethodName) prog_28_method_2_code (6 : Nat) (Option.some Jvm.ClassFile.FieldType.int)) ∈ lw_all := lw_g (lw_at lw_m9 67 rfl) rfl
theorem q2084 : (Jvm.Cond.methodLink "StarEyeModel" (184 : Nat) ({ cls := "StarEyeModel", name := "four", desc := "(I)V" } : Jvm.MethodName)) ∈ lw_all := lw_g (lw_at lw_m9 68 rfl) rfl
theorem q2085 : (Jvm.Cond.privateMethod ({ cls := "StarEyeModel", name := "four", desc := "(I)V" } : Jvm.MethodName)) ∈ lw_tbl := lw_at lw_m9 69 rfl
theorem q2086 : (Jvm.Cond.instanceMethod ({ cls := "StarEyeModel", name := "four", desc := "(I)V" } : Jvm.MethodName)) ∈ lw_all := lw_g (lw_at lw_m9 70 rfl) rfl
theorem q2087 : (Jvm.Cond.code ({ cls := "StarEyeModel", name := "four", desc := "(I)V" } : Jvm.MethodName) prog_28_method_3_code (3 : Nat) (Option.none : Option Jvm.ClassFile.FieldType)) ∈ lw_all := lw_g (lw_at lw_m9 71 rfl) rfl
theorem q2089 : (Jvm.Cond.instanceMethod ({ cls := "StarEyeModel", name := "end", desc := "(I)I" } : Jvm.MethodName)) ∈ lw_all := lw_g (lw_at lw_m9 73 rfl) rfl
theorem q2090 : (Jvm.Cond.selects "StarEyeModel" ({ cls := "StarEyeModel", name := "end", desc := "(I)I" } : Jvm.MethodName) ({ cls := "StarEyeModel", name := "end", desc := "(I)I" } : Jvm.MethodName)) ∈ lw_all := lw_g (lw_at lw_m9 74 rfl) rfl
theorem q2091 : (Jvm.Cond.code ({ cls := "StarEyeModel", name := "end", desc := "(I)I" } : Jvm.MethodName) prog_28_method_4_code (2 : Nat) (Option.some Jvm.ClassFile.FieldType.int)) ∈ lw_all := lw_g (lw_at lw_m9 75 rfl) rfl
theorem q2093 : (Jvm.Cond.instanceMethod ({ cls := "StarEyeModel", name := "book", desc := "()I" } : Jvm.MethodName)) ∈ lw_all := lw_g (lw_at lw_m9 77 rfl) rfl
theorem q2094 : (Jvm.Cond.selects "StarEyeModel" ({ cls := "StarEyeModel", name := "book", desc := "()I" } : Jvm.MethodName) ({ cls := "StarEyeModel", name := "book", desc := "()I" } : Jvm.MethodName)) ∈ lw_all := lw_g (lw_at lw_m9 78 rfl) rfl
theorem q2095 : (Jvm.Cond.code ({ cls := "StarEyeModel", name := "book", desc := "()I" } : Jvm.MethodName) prog_28_method_23_code (2 : Nat) (Option.some Jvm.ClassFile.FieldType.int)) ∈ lw_all := lw_g (lw_at lw_m9 79 rfl) rfl
theorem q2096 : (Jvm.Cond.methodLink "StarEyeModel" (317 : Nat) ({ cls := "StarEyeModel", name := "start", desc := "()V" } : Jvm.MethodName)) ∈ lw_all := lw_g (lw_at lw_m9 80 rfl) rfl
theorem q2097 : (Jvm.Cond.privateMethod ({ cls := "StarEyeModel", name := "start", desc := "()V" } : Jvm.MethodName)) ∈ lw_tbl := lw_at lw_m9 81 rfl
theorem q2098 : (Jvm.Cond.instanceMethod ({ cls := "StarEyeModel", name := "start", desc := "()V" } : Jvm.MethodName)) ∈ lw_all := lw_g (lw_at lw_m9 82 rfl) rfl
theorem q2099 : (Jvm.Cond.code ({ cls := "StarEyeModel", name := "start", desc := "()V" } : Jvm.MethodName) prog_28_method_11_code (1 : Nat) (Option.none : Option Jvm.ClassFile.FieldType)) ∈ lw_all := lw_g (lw_at lw_m9 83 rfl) rfl
theorem q2100 : (Jvm.Cond.methodLink "StarEyeModel" (289 : Nat) ({ cls := "StarEyeModel", name := "token", desc := "()V" } : Jvm.MethodName)) ∈ lw_all := lw_g (lw_at lw_m9 84 rfl) rfl
theorem q2101 : (Jvm.Cond.privateMethod ({ cls := "StarEyeModel", name := "token", desc := "()V" } : Jvm.MethodName)) ∈ lw_tbl := lw_at lw_m9 85 rfl
theorem q2102 : (Jvm.Cond.instanceMethod ({ cls := "StarEyeModel", name := "token", desc := "()V" } : Jvm.MethodName)) ∈ lw_all := lw_g (lw_at lw_m9 86 rfl) rfl
theorem q2103 : (Jvm.Cond.code ({ cls := "StarEyeModel", name := "token", desc := "()V" } : Jvm.MethodName) prog_28_method_9_code (3 : Nat) (Option.none : Option Jvm.ClassFile.FieldType)) ∈ lw_all := lw_g (lw_at lw_m9 87 rfl) rfl
theorem q2104 : (Jvm.Cond.methodLink "StarEyeModel" (198 : Nat) ({ cls := "StarEyeModel", name := "here", desc := "(I)I" } : Jvm.MethodName)) ∈ lw_all := lw_g (lw_at lw_m9 88 rfl) rfl
theorem q2105 : (Jvm.Cond.privateMethod ({ cls := "StarEyeModel", name := "here", desc := "(I)I" } : Jvm.MethodName)) ∈ lw_tbl := lw_at lw_m9 89 rfl
theorem q2106 : (Jvm.Cond.instanceMethod ({ cls := "StarEyeModel", name := "here", desc := "(I)I" } : Jvm.MethodName)) ∈ lw_all := lw_g (lw_at lw_m9 90 rfl) rfl
theorem q2107 : (Jvm.Cond.code ({ cls := "StarEyeModel", name := "here", desc := "(I)I" } : Jvm.MethodName) prog_28_method_5_code (2 : Nat) (Option.some Jvm.ClassFile.FieldType.int)) ∈ lw_all := lw_g (lw_at lw_m9 91 rfl) rfl
theorem q2108 : (Jvm.Cond.methodLink "StarEyeModel" (215 : Nat) ({ cls := "StarEyeModel", name := "isLetter", desc := "(I)Z" } : Jvm.MethodName)) ∈ lw_all := lw_g (lw_at lw_m9 92 rfl) rfl
theorem q2109 : (Jvm.Cond.static ({ cls := "StarEyeModel", name := "isLetter", desc := "(I)Z" } : Jvm.MethodName)) ∈ lw_all := lw_g (lw_at lw_m9 93 rfl) rfl
theorem q2110 : (Jvm.Cond.code ({ cls := "StarEyeModel", name := "isLetter", desc := "(I)Z" } : Jvm.MethodName) prog_28_method_6_code (1 : Nat) (Option.some Jvm.ClassFile.FieldType.boolean)) ∈ lw_all := lw_g (lw_at lw_m9 94 rfl) rfl
theorem q2111 : (Jvm.Cond.methodLink "StarEyeModel" (219 : Nat) ({ cls := "StarEyeModel", name := "isDigit", desc := "(I)Z" } : Jvm.MethodName)) ∈ lw_all := lw_g (lw_at lw_m9 95 rfl) rfl
theorem q2112 : (Jvm.Cond.static ({ cls := "StarEyeModel", name := "isDigit", desc := "(I)Z" } : Jvm.MethodName)) ∈ lw_all := lw_g (lw_at lw_m9 96 rfl) rfl
theorem q2113 : (Jvm.Cond.code ({ cls := "StarEyeModel", name := "isDigit", desc := "(I)Z" } : Jvm.MethodName) prog_28_method_7_code (1 : Nat) (Option.some Jvm.ClassFile.FieldType.boolean)) ∈ lw_all := lw_g (lw_at lw_m9 97 rfl) rfl
theorem q2114 : (Jvm.Cond.methodLink "StarEyeModel" (222 : Nat) ({ cls := "StarEyeModel", name := "isSign", desc := "(I)Z" } : Jvm.MethodName)) ∈ lw_all := lw_g (lw_at lw_m9 98 rfl) rfl
theorem q2115 : (Jvm.Cond.privateMethod ({ cls := "StarEyeModel", name := "isSign", desc := "(I)Z" } : Jvm.MethodName)) ∈ lw_tbl := lw_at lw_m9 99 rfl
theorem q2116 : (Jvm.Cond.instanceMethod ({ cls := "StarEyeModel", name := "isSign", desc := "(I)Z" } : Jvm.MethodName)) ∈ lw_all := lw_g (lw_at lw_m9 100 rfl) rfl
theorem q2117 : (Jvm.Cond.code ({ cls := "StarEyeModel", name := "isSign", desc := "(I)Z" } : Jvm.MethodName) prog_28_method_8_code (2 : Nat) (Option.some Jvm.ClassFile.FieldType.boolean)) ∈ lw_all := lw_g (lw_at lw_m9 101 rfl) rfl
theorem q2118 : (Jvm.Cond.methodLink "StarEyeModel" (320 : Nat) ({ cls := "StarEyeModel", name := "lineOf", desc := "()I" } : Jvm.MethodName)) ∈ lw_all := lw_g (lw_at lw_m9 102 rfl) rfl
theorem q2119 : (Jvm.Cond.privateMethod ({ cls := "StarEyeModel", name := "lineOf", desc := "()I" } : Jvm.MethodName)) ∈ lw_tbl := lw_at lw_m9 103 rfl
theorem q2120 : (Jvm.Cond.instanceMethod ({ cls := "StarEyeModel", name := "lineOf", desc := "()I" } : Jvm.MethodName)) ∈ lw_all := lw_g (lw_at lw_m9 104 rfl) rfl
theorem q2121 : (Jvm.Cond.code ({ cls := "StarEyeModel", name := "lineOf", desc := "()I" } : Jvm.MethodName) prog_28_method_20_code (2 : Nat) (Option.some Jvm.ClassFile.FieldType.int)) ∈ lw_all := lw_g (lw_at lw_m9 105 rfl) rfl
theorem q2122 : (Jvm.Cond.constantLong "StarEyeModel" (234 : Nat) (6650213 : Int64)) ∈ lw_all := lw_g (lw_at lw_m9 106 rfl) rfl
theorem q2123 : (Jvm.Cond.methodLink "StarEyeModel" (282 : Nat) ({ cls := "StarEyeModel", name := "isWord", desc := "(J)Z" } : Jvm.MethodName)) ∈ lw_all := lw_g (lw_at lw_m9 107 rfl) rfl
theorem q2124 : (Jvm.Cond.privateMethod ({ cls := "StarEyeModel", name := "isWord", desc := "(J)Z" } : Jvm.MethodName)) ∈ lw_tbl := lw_at lw_m9 108 rfl
theorem q2125 : (Jvm.Cond.instanceMethod ({ cls := "StarEyeModel", name := "isWord", desc := "(J)Z" } : Jvm.MethodName)) ∈ lw_all := lw_g (lw_at lw_m9 109 rfl) rfl
theorem q2126 : (Jvm.Cond.code ({ cls := "StarEyeModel", name := "isWord", desc := "(J)Z" } : Jvm.MethodName) prog_28_method_12_code (3 : Nat) (Option.some Jvm.ClassFile.FieldType.boolean)) ∈ lw_all := lw_g (lw_at lw_m9 110 rfl) rfl
theorem q2127 : (Jvm.Cond.constantLong "StarEyeModel" (242 : Nat) (474315584357 : Int64)) ∈ lw_all := lw_g (lw_at lw_m9 111 rfl) rfl
theorem q2128 : (Jvm.Cond.constantLong "StarEyeModel" (244 : Nat) (7300710 : Int64)) ∈ lw_all := lw_g (lw_at lw_m9 112 rfl) rfl
theorem q2129 : (Jvm.Cond.constantLong "StarEyeModel" (246 : Nat) (6447474 : Int64)) ∈ lw_all := lw_g (lw_at lw_m9 113 rfl) rfl
theorem q2130 : (Jvm.Cond.constantLong "StarEyeModel" (248 : Nat) (1937007984 : Int64)) ∈ lw_all := lw_g (lw_at lw_m9 114 rfl) rfl
theorem q2131 : (Jvm.Cond.constantLong "StarEyeModel" (252 : Nat) (1818583406 : Int64)) ∈ lw_all := lw_g (lw_at lw_m9 115 rfl) rfl
theorem q2132 : (Jvm.Cond.constantLong "StarEyeModel" (254 : Nat) (1919905645 : Int64)) ∈ lw_all := lw_g (lw_at lw_m9 116 rfl) rfl
theorem q2133 : (Jvm.Cond.constantLong "StarEyeModel" (228 : Nat) (1937006962 : Int64)) ∈ lw_all := lw_g (lw_at lw_m9 117 rfl) rfl
theorem q2134 : (Jvm.Cond.methodLink "StarEyeModel" (324 : Nat) ({ cls := "StarEyeModel", name := "readStar", desc := "()V" } : Jvm.MethodName)) ∈ lw_all := lw_g (lw_at lw_m9 118 rfl) rfl
theorem q2135 : (Jvm.Cond.privateMethod ({ cls := "StarEyeModel", name := "readStar", desc := "()V" } : Jvm.MethodName)) ∈ lw_tbl := lw_at lw_m9 119 rfl
theorem q2136 : (Jvm.Cond.instanceMethod ({ cls := "StarEyeModel", name := "readStar", desc := "()V" } : Jvm.MethodName)) ∈ lw_all := lw_g (lw_at lw_m9 120 rfl) rfl
theorem q2137 : (Jvm.Cond.code ({ cls := "StarEyeModel", name := "readStar", desc := "()V" } : Jvm.MethodName) prog_28_method_19_code (8 : Nat) (Option.none : Option Jvm.ClassFile.FieldType)) ∈ lw_all := lw_g (lw_at lw_m9 121 rfl) rfl
theorem q2138 : (Jvm.Cond.methodLink "StarEyeModel" (298 : Nat) ({ cls := "StarEyeModel", name := "isName", desc := "()Z" } : Jvm.MethodName)) ∈ lw_all := lw_g (lw_at lw_m9 122 rfl) rfl
theorem q2139 : (Jvm.Cond.privateMethod ({ cls := "StarEyeModel", name := "isName", desc := "()Z" } : Jvm.MethodName)) ∈ lw_tbl := lw_at lw_m9 123 rfl
theorem q2140 : (Jvm.Cond.instanceMethod ({ cls := "StarEyeModel", name := "isName", desc := "()Z" } : Jvm.MethodName)) ∈ lw_all := lw_g (lw_at lw_m9 124 rfl) rfl
theorem q2141 : (Jvm.Cond.code ({ cls := "StarEyeModel", name := "isName", desc := "()Z" } : Jvm.MethodName) prog_28_method_13_code (2 : Nat) (Option.some Jvm.ClassFile.FieldType.boolean)) ∈ lw_all := lw_g (lw_at lw_m9 125 rfl) rfl
theorem q2142 : (Jvm.Cond.constantLong "StarEyeModel" (230 : Nat) (24948 : Int64)) ∈ lw_all := lw_g (lw_at lw_m9 126 rfl) rfl
theorem q2143 : (Jvm.Cond.constantLong "StarEyeModel" (232 : Nat) (465624852596 : Int64)) ∈ lw_all := lw_g (lw_at lw_m9 127 rfl) rfl
theorem q2144 : (Jvm.Cond.constantLong "StarEyeModel" (236 : Nat) (2003395685 : Int64)) ∈ lw_all := lw_g (lw_at lw_m9 128 rfl) rfl
theorem q2145 : (Jvm.Cond.constantLong "StarEyeModel" (238 : Nat) (1970170228 : Int64)) ∈ lw_all := lw_g (lw_at lw_m9 129 rfl) rfl
theorem q2146 : (Jvm.Cond.constantLong "StarEyeModel" (240 : Nat) (6709618 : Int64)) ∈ lw_all := lw_g (lw_at lw_m9 130 rfl) rfl
theorem q2147 : (Jvm.Cond.constantLong "StarEyeModel" (250 : Nat) (474147546227 : Int64)) ∈ lw_all := lw_g (lw_at lw_m9 131 rfl) rfl
theorem q2148 : (Jvm.Cond.constantLong "StarEyeModel" (256 : Nat) (1885432178 : Int64)) ∈ lw_all := lw_g (lw_at lw_m9 132 rfl) rfl
theorem q2149 : (Jvm.Cond.constantLong "StarEyeModel" (258 : Nat) (500136506228 : Int64)) ∈ lw_all := lw_g (lw_at lw_m9 133 rfl) rfl
theorem q2150 : (Jvm.Cond.constantLong "StarEyeModel" (260 : Nat) (2003330414 : Int64)) ∈ lw_all := lw_g (lw_at lw_m9 134 rfl) rfl
theorem q2151 : (Jvm.Cond.constantLong "StarEyeModel" (262 : Nat) (1685025907 : Int64)) ∈ lw_all := lw_g (lw_at lw_m9 135 rfl) rfl
theorem q2152 : (Jvm.Cond.constantLong "StarEyeModel" (264 : Nat) (474080961892 : Int64)) ∈ lw_all := lw_g (lw_at lw_m9 136 rfl) rfl
theorem q2153 : (Jvm.Cond.constantLong "StarEyeModel" (266 : Nat) (31069369986344819 : Int64)) ∈ lw_all := lw_g (lw_at lw_m9 137 rfl) rfl
theorem q2154 : (Jvm.Cond.constantLong "StarEyeModel" (268 : Nat) (126926574545779 : Int64)) ∈ lw_all := lw_g (lw_at lw_m9 138 rfl) rfl
theorem q2155 : (Jvm.Cond.constantLong "StarEyeModel" (270 : Nat) (126913689514611 : Int64)) ∈ lw_all := lw_g (lw_at lw_m9 139 rfl) rfl
theorem q2156 : (Jvm.Cond.constantLong "StarEyeModel" (272 : Nat) (1953459300 : Int64)) ∈ lw_all := lw_g (lw_at lw_m9 140 rfl) rfl
theorem q2157 : (Jvm.Cond.constantLong "StarEyeModel" (274 : Nat) (32497656998945640 : Int64)) ∈ lw_all := lw_g (lw_at lw_m9 141 rfl) rfl
theorem q2158 : (Jvm.Cond.constantLong "StarEyeModel" (276 : Nat) (6385252 : Int64)) ∈ lw_all := lw_g (lw_at lw_m9 142 rfl) rfl
theorem q2159 : (Jvm.Cond.constantLong "StarEyeModel" (278 : Nat) (28530 : Int64)) ∈ lw_all := lw_g (lw_at lw_m9 143 rfl) rfl
theorem q2160 : (Jvm.Cond.constantLong "StarEyeModel" (280 : Nat) (7237492 : Int64)) ∈ lw_all := lw_g (lw_at lw_m9 144 rfl) rfl
theorem q2161 : (Jvm.Cond.methodLink "StarEyeModel" (286 : Nat) ({ cls := "StarEyeModel", name := "wrong", desc := "(I)V" } : Jvm.MethodName)) ∈ lw_all := lw_g (lw_at lw_m9 145 rfl) rfl
theorem q2162 : (Jvm.Cond.privateMethod ({ cls := "StarEyeModel", name := "wrong", desc := "(I)V" } : Jvm.MethodName)) ∈ lw_tbl := lw_at lw_m9 146 rfl
theorem q2163 : (Jvm.Cond.instanceMethod ({ cls := "StarEyeModel", name := "wrong", desc := "(I)V" } : Jvm.MethodName)) ∈ lw_all := lw_g (lw_at lw_m9 147 rfl) rfl
theorem q2164 : (Jvm.Cond.code ({ cls := "StarEyeModel", name := "wrong", desc := "(I)V" } : Jvm.MethodName) prog_28_method_10_code (2 : Nat) (Option.none : Option Jvm.ClassFile.FieldType)) ∈ lw_all := lw_g (lw_at lw_m9 148 rfl) rfl
theorem q2165 : (Jvm.Cond.methodLink "StarEyeModel" (302 : Nat) ({ cls := "StarEyeModel", name := "want", desc := "(J)V" } : Jvm.MethodName)) ∈ lw_all := lw_g (lw_at lw_m9 149 rfl) rfl
theorem q2166 : (Jvm.Cond.privateMethod ({ cls := "StarEyeModel", name := "want", desc := "(J)V" } : Jvm.MethodName)) ∈ lw_tbl := lw_at lw_m9 150 rfl
theorem q2167 : (Jvm.Cond.instanceMethod ({ cls := "StarEyeModel", name := "want", desc := "(J)V" } : Jvm.MethodName)) ∈ lw_all := lw_g (lw_at lw_m9 151 rfl) rfl
theorem q2168 : (Jvm.Cond.code ({ cls := "StarEyeModel", name := "want", desc := "(J)V" } : Jvm.MethodName) prog_28_method_14_code (3 : Nat) (Option.none : Option Jvm.ClassFile.FieldType)) ∈ lw_all := lw_g (lw_at lw_m9 152 rfl) rfl
theorem q2169 : (Jvm.Cond.methodLink "StarEyeModel" (306 : Nat) ({ cls := "StarEyeModel", name := "toldNumber", desc := "(II)I" } : Jvm.MethodName)) ∈ lw_all := lw_g (lw_at lw_m9 153 rfl) rfl
theorem q2170 : (Jvm.Cond.privateMethod ({ cls := "StarEyeModel", name := "toldNumber", desc := "(II)I" } : Jvm.MethodName)) ∈ lw_tbl := lw_at lw_m9 154 rfl
theorem q2171 : (Jvm.Cond.instanceMethod ({ cls := "StarEyeModel", name := "toldNumber", desc := "(II)I" } : Jvm.MethodName)) ∈ lw_all := lw_g (lw_at lw_m9 155 rfl) rfl
theorem q2172 : (Jvm.Cond.code ({ cls := "StarEyeModel", name := "toldNumber", desc := "(II)I" } : Jvm.MethodName) prog_28_method_15_code (4 : Nat) (Option.some Jvm.ClassFile.FieldType.int)) ∈ lw_all := lw_g (lw_at lw_m9 156 rfl) rfl
theorem q2173 : (Jvm.Cond.methodLink "StarEyeModel" (327 : Nat) ({ cls := "StarEyeModel", name := "readTold", desc := "(I)V" } : Jvm.MethodName)) ∈ lw_all := lw_g (lw_at lw_m9 157 rfl) rfl
theorem q2174 : (Jvm.Cond.privateMethod ({ cls := "StarEyeModel", name := "readTold", desc := "(I)V" } : Jvm.MethodName)) ∈ lw_tbl := lw_at lw_m9 158 rfl
theorem q2175 : (Jvm.Cond.instanceMethod ({ cls := "StarEyeModel", name := "readTold", desc := "(I)V" } : Jvm.MethodName)) ∈ lw_all := lw_g (lw_at lw_m9 159 rfl) rfl
theorem q2176 : (Jvm.Cond.code ({ cls := "StarEyeModel", name := "readTold", desc := "(I)V" } : Jvm.MethodName) prog_28_method_22_code (2 : Nat) (Option.none : Option Jvm.ClassFile.FieldType)) ∈ lw_all := lw_g (lw_at lw_m9 160 rfl) rfl
theorem q2177 : (Jvm.Cond.methodLink "StarEyeModel" (310 : Nat) ({ cls := "StarEyeModel", name := "toldBy", desc := "(JII)I" } : Jvm.MethodName)) ∈ lw_all := lw_g (lw_at lw_m9 161 rfl) rfl
theorem q2178 : (Jvm.Cond.privateMethod ({ cls := "StarEyeModel", name := "toldBy", desc := "(JII)I" } : Jvm.MethodName)) ∈ lw_tbl := lw_at lw_m9 162 rfl
theorem q2179 : (Jvm.Cond.instanceMethod ({ cls := "StarEyeModel", name := "toldBy", desc := "(JII)I" } : Jvm.MethodName)) ∈ lw_all := lw_g (lw_at lw_m9 163 rfl) rfl
theorem q2180 : (Jvm.Cond.code ({ cls := "StarEyeModel", name := "toldBy", desc := "(JII)I" } : Jvm.MethodName) prog_28_method_21_code (5 : Nat) (Option.some Jvm.ClassFile.FieldType.int)) ∈ lw_all := lw_g (lw_at lw_m9 164 rfl) rfl
theorem q2181 : (Jvm.Cond.methodLink "StarEyeModel" (314 : Nat) ({ cls := "StarEyeModel", name := "signed", desc := "(II)I" } : Jvm.MethodName)) ∈ lw_all := lw_g (lw_at lw_m9 165 rfl) rfl
theorem q2182 : (Jvm.Cond.privateMethod ({ cls := "StarEyeModel", name := "signed", desc := "(II)I" } : Jvm.MethodName)) ∈ lw_tbl := lw_at lw_m9 166 rfl
theorem q2183 : (Jvm.Cond.instanceMethod ({ cls := "StarEyeModel", name := "signed", desc := "(II)I" } : Jvm.MethodName)) ∈ lw_all := lw_g (lw_at lw_m9 167 rfl) rfl
theorem q2184 : (Jvm.Cond.code ({ cls := "StarEyeModel", name := "signed", desc := "(II)I" } : Jvm.MethodName) prog_28_method_16_code (6 : Nat) (Option.some Jvm.ClassFile.FieldType.int)) ∈ lw_all := lw_g (lw_at lw_m9 168 rfl) rfl
theorem q2186 : (Jvm.Cond.instanceMethod ({ cls := "StarEyeModel", name := "fault", desc := "(I)I" } : Jvm.MethodName)) ∈ lw_all := lw_g (lw_at lw_m9 170 rfl) rfl
theorem q2187 : (Jvm.Cond.selects "StarEyeModel" ({ cls := "StarEyeModel", name := "fault", desc := "(I)I" } : Jvm.MethodName) ({ cls := "StarEyeModel", name := "fault", desc := "(I)I" } : Jvm.MethodName)) ∈ lw_all := lw_g (lw_at lw_m9 171 rfl) rfl
theorem q2188 : (Jvm.Cond.code ({ cls := "StarEyeModel", name := "fault", desc := "(I)I" } : Jvm.MethodName) prog_28_method_24_code (2 : Nat) (Option.some Jvm.ClassFile.FieldType.int)) ∈ lw_all := lw_g (lw_at lw_m9 172 rfl) rfl
theorem q2190 : (Jvm.Cond.instanceMethod ({ cls := "StarEyeModel", name := "picture", desc := "()I" } : Jvm.MethodName)) ∈ lw_all := lw_g (lw_at lw_m9 174 rfl) rfl
theorem q2191 : (Jvm.Cond.selects "StarEyeModel" ({ cls := "StarEyeModel", name := "picture", desc := "()I" } : Jvm.MethodName) ({ cls := "StarEyeModel", name := "picture", desc := "()I" } : Jvm.MethodName)) ∈ lw_all := lw_g (lw_at lw_m9 175 rfl) rfl
theorem q2192 : (Jvm.Cond.code ({ cls := "StarEyeModel", name := "picture", desc := "()I" } : Jvm.MethodName) prog_28_method_26_code (2 : Nat) (Option.some Jvm.ClassFile.FieldType.int)) ∈ lw_all := lw_g (lw_at lw_m9 176 rfl) rfl
theorem q2193 : (Jvm.Cond.methodLink "StarEyeModel" (342 : Nat) ({ cls := "StarEyeModel", name := "readPicture", desc := "()V" } : Jvm.MethodName)) ∈ lw_all := lw_g (lw_at lw_m9 177 rfl) rfl
theorem q2194 : (Jvm.Cond.privateMethod ({ cls := "StarEyeModel", name := "readPicture", desc := "()V" } : Jvm.MethodName)) ∈ lw_tbl := lw_at lw_m9 178 rfl
theorem q2195 : (Jvm.Cond.instanceMethod ({ cls := "StarEyeModel", name := "readPicture", desc := "()V" } : Jvm.MethodName)) ∈ lw_all := lw_g (lw_at lw_m9 179 rfl) rfl
theorem q2196 : (Jvm.Cond.code ({ cls := "StarEyeModel", name := "readPicture", desc := "()V" } : Jvm.MethodName) prog_28_method_25_code (6 : Nat) (Option.none : Option Jvm.ClassFile.FieldType)) ∈ lw_all := lw_g (lw_at lw_m9 180 rfl) rfl
theorem q2198 : (Jvm.Cond.instanceMethod ({ cls := "StarEyeModel", name := "untell", desc := "(I)Z" } : Jvm.MethodName)) ∈ lw_all := lw_g (lw_at lw_m9 182 rfl) rfl
theorem q2199 : (Jvm.Cond.selects "StarEyeModel" ({ cls := "StarEyeModel", name := "untell", desc := "(I)Z" } : Jvm.MethodName) ({ cls := "StarEyeModel", name := "untell", desc := "(I)Z" } : Jvm.MethodName)) ∈ lw_all := lw_g (lw_at lw_m9 183 rfl) rfl
theorem q2200 : (Jvm.Cond.code ({ cls := "StarEyeModel", name := "untell", desc := "(I)Z" } : Jvm.MethodName) prog_28_method_27_code (2 : Nat) (Option.some Jvm.ClassFile.FieldType.boolean)) ∈ lw_all := lw_g (lw_at lw_m9 184 rfl) rfl
theorem q2202 : (Jvm.Cond.instanceMethod ({ cls := "StarEyeModel", name := "later", desc := "(I)I" } : Jvm.MethodName)) ∈ lw_all := lw_g (lw_at lw_m9 186 rfl) rfl
theorem q2203 : (Jvm.Cond.selects "StarEyeModel" ({ cls := "StarEyeModel", name := "later", desc := "(I)I" } : Jvm.MethodName) ({ cls := "StarEyeModel", name := "later", desc := "(I)I" } : Jvm.MethodName)) ∈ lw_all := lw_g (lw_at lw_m9 187 rfl) rfl
theorem q2204 : (Jvm.Cond.code ({ cls := "StarEyeModel", name := "later", desc := "(I)I" } : Jvm.MethodName) prog_28_method_28_code (2 : Nat) (Option.some Jvm.ClassFile.FieldType.int)) ∈ lw_all := lw_g (lw_at lw_m9 188 rfl) rfl
theorem q2205 : (Jvm.Cond.constant "StarEyeModel" (348 : Nat) (100000 : Int32)) ∈ lw_all := lw_g (lw_at lw_m9 189 rfl) rfl
theorem q2207 : (Jvm.Cond.instanceMethod ({ cls := "StarEyeModel", name := "speckless", desc := "(IIZ)Z" } : Jvm.MethodName)) ∈ lw_all := lw_g (lw_at lw_m9 191 rfl) rfl
theorem q2208 : (Jvm.Cond.selects "StarEyeModel" ({ cls := "StarEyeModel", name := "speckless", desc := "(IIZ)Z" } : Jvm.MethodName) ({ cls := "StarEyeModel", name := "speckless", desc := "(IIZ)Z" } : Jvm.MethodName)) ∈ lw_all := lw_g (lw_at lw_m9 192 rfl) rfl
theorem q2209 : (Jvm.Cond.code ({ cls := "StarEyeModel", name := "speckless", desc := "(IIZ)Z" } : Jvm.MethodName) prog_28_method_31_code (4 : Nat) (Option.some Jvm.ClassFile.FieldType.boolean)) ∈ lw_all := lw_g (lw_at lw_m9 193 rfl) rfl
theorem q2210 : (Jvm.Cond.methodLink "StarEyeModel" (349 : Nat) ({ cls := "StarEyeModel", name := "isIn", desc := "(II)Z" } : Jvm.MethodName)) ∈ lw_all := lw_g (lw_at lw_m9 194 rfl) rfl
theorem q2211 : (Jvm.Cond.static ({ cls := "StarEyeModel", name := "isIn", desc := "(II)Z" } : Jvm.MethodName)) ∈ lw_all := lw_g (lw_at lw_m9 195 rfl) rfl
theorem q2212 : (Jvm.Cond.code ({ cls := "StarEyeModel", name := "isIn", desc := "(II)Z" } : Jvm.MethodName) prog_28_method_30_code (2 : Nat) (Option.some Jvm.ClassFile.FieldType.boolean)) ∈ lw_all := lw_g (lw_at lw_m9 196 rfl) rfl
theorem q2214 : (Jvm.Cond.instanceMethod ({ cls := "StarEyeModel", name := "dots", desc := "(III)I" } : Jvm.MethodName)) ∈ lw_all := lw_g (lw_at lw_m9 198 rfl) rfl
theorem q2215 : (Jvm.Cond.selects "StarEyeModel" ({ cls := "StarEyeModel", name := "dots", desc := "(III)I" } : Jvm.MethodName) ({ cls := "StarEyeModel", name := "dots", desc := "(III)I" } : Jvm.MethodName)) ∈ lw_all := lw_g (lw_at lw_m9 199 rfl) rfl
theorem q2216 : (Jvm.Cond.code ({ cls := "StarEyeModel", name := "dots", desc := "(III)I" } : Jvm.MethodName) prog_28_method_40_code (4 : Nat) (Option.some Jvm.ClassFile.FieldType.int)) ∈ lw_all := lw_g (lw_at lw_m9 200 rfl) rfl
theorem q2217 : (Jvm.Cond.methodLink "StarEyeModel" (373 : Nat) ({ cls := "StarEyeModel", name := "counts", desc := "(II)Z" } : Jvm.MethodName)) ∈ lw_all := lw_g (lw_at lw_m9 201 rfl) rfl
theorem q2218 : (Jvm.Cond.privateMethod ({ cls := "StarEyeModel", name := "counts", desc := "(II)Z" } : Jvm.MethodName)) ∈ lw_tbl := lw_at lw_m9 202 rfl
theorem q2219 : (Jvm.Cond.instanceMethod ({ cls := "StarEyeModel", name := "counts", desc := "(II)Z" } : Jvm.MethodName)) ∈ lw_all := lw_g (lw_at lw_m9 203 rfl) rfl
theorem q2220 : (Jvm.Cond.code ({ cls := "StarEyeModel", name := "counts", desc := "(II)Z" } : Jvm.MethodName) prog_28_method_29_code (3 : Nat) (Option.some Jvm.ClassFile.FieldType.boolean)) ∈ lw_all := lw_g (lw_at lw_m9 204 rfl) rfl
theorem q2221 : (Jvm.Cond.methodLink "StarEyeModel" (385 : Nat) ({ cls := "StarEyeModel", name := "lookAt", desc := "(II)V" } : Jvm.MethodName)) ∈ lw_all := lw_g (lw_at lw_m9 205 rfl) rfl
theorem q2222 : (Jvm.Cond.privateMethod ({ cls := "StarEyeModel", name := "lookAt", desc := "(II)V" } : Jvm.MethodName)) ∈ lw_tbl := lw_at lw_m9 206 rfl
theorem q2223 : (Jvm.Cond.instanceMethod ({ cls := "StarEyeModel", name := "lookAt", desc := "(II)V" } : Jvm.MethodName)) ∈ lw_all := lw_g (lw_at lw_m9 207 rfl) rfl
theorem q2224 : (Jvm.Cond.code ({ cls := "StarEyeModel", name := "lookAt", desc := "(II)V" } : Jvm.MethodName) prog_28_method_38_code (6 : Nat) (Option.none : Option Jvm.ClassFile.FieldType)) ∈ lw_all := lw_g (lw_at lw_m9 208 rfl) rfl
theorem q2225 : (Jvm.Cond.methodLink "StarEyeModel" (376 : Nat) ({ cls := "StarEyeModel", name := "findDots", desc := "(I)V" } : Jvm.MethodName)) ∈ lw_all := lw_g (lw_at lw_m9 209 rfl) rfl
theorem q2226 : (Jvm.Cond.privateMethod ({ cls := "StarEyeModel", name := "findDots", desc := "(I)V" } : Jvm.MethodName)) ∈ lw_tbl := lw_at lw_m9 210 rfl
theorem q2227 : (Jvm.Cond.instanceMethod ({ cls := "StarEyeModel", name := "findDots", desc := "(I)V" } : Jvm.MethodName)) ∈ lw_all := lw_g (lw_at lw_m9 211 rfl) rfl
theorem q2228 : (Jvm.Cond.code ({ cls := "StarEyeModel", name := "findDots", desc := "(I)V" } : Jvm.MethodName) prog_28_method_36_code (5 : Nat) (Option.none : Option Jvm.ClassFile.FieldType)) ∈ lw_all := lw_g (lw_at lw_m9 212 rfl) rfl
theorem q2229 : (Jvm.Cond.methodLink "StarEyeModel" (353 : Nat) ({ cls := "StarEyeModel", name := "isBright", desc := "(II)Z" } : Jvm.MethodName)) ∈ lw_all := lw_g (lw_at lw_m9 213 rfl) rfl
theorem q2230 : (Jvm.Cond.privateMethod ({ cls := "StarEyeModel", name := "isBright", desc := "(II)Z" } : Jvm.MethodName)) ∈ lw_tbl := lw_at lw_m9 214 rfl
theorem q2231 : (Jvm.Cond.instanceMethod ({ cls := "StarEyeModel", name := "isBright", desc := "(II)Z" } : Jvm.MethodName)) ∈ lw_all := lw_g (lw_at lw_m9 215 rfl) rfl
theorem q2232 : (Jvm.Cond.code ({ cls := "StarEyeModel", name := "isBright", desc := "(II)Z" } : Jvm.MethodName) prog_28_method_32_code (3 : Nat) (Option.some Jvm.ClassFile.FieldType.boolean)) ∈ lw_all := lw_g (lw_at lw_m9 216 rfl) rfl
theorem q2233 : (Jvm.Cond.methodLink "StarEyeModel" (359 : Nat) ({ cls := "StarEyeModel", name := "spread", desc := "(III)V" } : Jvm.MethodName)) ∈ lw_all := lw_g (lw_at lw_m9 217 rfl) rfl
theorem q2234 : (Jvm.Cond.privateMethod ({ cls := "StarEyeModel", name := "spread", desc := "(III)V" } : Jvm.MethodName)) ∈ lw_tbl := lw_at lw_m9 218 rfl
theorem q2235 : (Jvm.Cond.instanceMethod ({ cls := "StarEyeModel", name := "spread", desc := "(III)V" } : Jvm.MethodName)) ∈ lw_all := lw_g (lw_at lw_m9 219 rfl) rfl
theorem q2236 : (Jvm.Cond.code ({ cls := "StarEyeModel", name := "spread", desc := "(III)V" } : Jvm.MethodName) prog_28_method_33_code (9 : Nat) (Option.none : Option Jvm.ClassFile.FieldType)) ∈ lw_all := lw_g (lw_at lw_m9 220 rfl) rfl
theorem q2237 : (Jvm.Cond.methodLink "StarEyeModel" (363 : Nat) ({ cls := "StarEyeModel", name := "measure", desc := "(II)V" } : Jvm.MethodName)) ∈ lw_all := lw_g (lw_at lw_m9 221 rfl) rfl
theorem q2238 : (Jvm.Cond.privateMethod ({ cls := "StarEyeModel", name := "measure", desc := "(II)V" } : Jvm.MethodName)) ∈ lw_tbl := lw_at lw_m9 222 rfl
theorem q2239 : (Jvm.Cond.instanceMethod ({ cls := "StarEyeModel", name := "measure", desc := "(II)V" } : Jvm.MethodName)) ∈ lw_all := lw_g (lw_at lw_m9 223 rfl) rfl
theorem q2240 : (Jvm.Cond.code ({ cls := "StarEyeModel", name := "measure", desc := "(II)V" } : Jvm.MethodName) prog_28_method_34_code (15 : Nat) (Option.none : Option Jvm.ClassFile.FieldType)) ∈ lw_all := lw_g (lw_at lw_m9 224 rfl) rfl
theorem q2241 : (Jvm.Cond.methodLink "StarEyeModel" (367 : Nat) ({ cls := "StarEyeModel", name := "isAhead", desc := "(II)Z" } : Jvm.MethodName)) ∈ lw_all := lw_g (lw_at lw_m9 225 rfl) rfl
theorem q2242 : (Jvm.Cond.privateMethod ({ cls := "StarEyeModel", name := "isAhead", desc := "(II)Z" } : Jvm.MethodName)) ∈ lw_tbl := lw_at lw_m9 226 rfl
theorem q2243 : (Jvm.Cond.instanceMethod ({ cls := "StarEyeModel", name := "isAhead", desc := "(II)Z" } : Jvm.MethodName)) ∈ lw_all := lw_g (lw_at lw_m9 227 rfl) rfl
theorem q2244 : (Jvm.Cond.code ({ cls := "StarEyeModel", name := "isAhead", desc := "(II)Z" } : Jvm.MethodName) prog_28_method_35_code (3 : Nat) (Option.some Jvm.ClassFile.FieldType.boolean)) ∈ lw_all := lw_g (lw_at lw_m9 228 rfl) rfl
theorem q2245 : (Jvm.Cond.methodLink "StarEyeModel" (379 : Nat) ({ cls := "StarEyeModel", name := "pixelOf", desc := "(I)I" } : Jvm.MethodName)) ∈ lw_all := lw_g (lw_at lw_m9 229 rfl) rfl
theorem q2246 : (Jvm.Cond.privateMethod ({ cls := "StarEyeModel", name := "pixelOf", desc := "(I)I" } : Jvm.MethodName)) ∈ lw_tbl := lw_at lw_m9 230 rfl
theorem q2247 : (Jvm.Cond.instanceMethod ({ cls := "StarEyeModel", name := "pixelOf", desc := "(I)I" } : Jvm.MethodName)) ∈ lw_all := lw_g (lw_at lw_m9 231 rfl) rfl
theorem q2248 : (Jvm.Cond.code ({ cls := "StarEyeModel", name := "pixelOf", desc := "(I)I" } : Jvm.MethodName) prog_28_method_37_code (2 : Nat) (Option.some Jvm.ClassFile.FieldType.int)) ∈ lw_all := lw_g (lw_at lw_m9 232 rfl) rfl
theorem q2249 : (Jvm.Cond.methodLink "StarEyeModel" (388 : Nat) ({ cls := "StarEyeModel", name := "kinds", desc := "(I)I" } : Jvm.MethodName)) ∈ lw_all := lw_g (lw_at lw_m9 233 rfl) rfl
theorem q2250 : (Jvm.Cond.privateMethod ({ cls := "StarEyeModel", name := "kinds", desc := "(I)I" } : Jvm.MethodName)) ∈ lw_tbl := lw_at lw_m9 234 rfl
theorem q2251 : (Jvm.Cond.instanceMethod ({ cls := "StarEyeModel", name := "kinds", desc := "(I)I" } : Jvm.MethodName)) ∈ lw_all := lw_g (lw_at lw_m9 235 rfl) rfl
theorem q2252 : (Jvm.Cond.code ({ cls := "StarEyeModel", name := "kinds", desc := "(I)I" } : Jvm.MethodName) prog_28_method_39_code (4 : Nat) (Option.some Jvm.ClassFile.FieldType.int)) ∈ lw_all := lw_g (lw_at lw_m9 236 rfl) rfl
theorem q2254 : (Jvm.Cond.instanceMethod ({ cls := "StarEyeModel", name := "dot", desc := "(IIII)I" } : Jvm.MethodName)) ∈ lw_all := lw_g (lw_at lw_m9 238 rfl) rfl
theorem q2255 : (Jvm.Cond.selects "StarEyeModel" ({ cls := "StarEyeModel", name := "dot", desc := "(IIII)I" } : Jvm.MethodName) ({ cls := "StarEyeModel", name := "dot", desc := "(IIII)I" } : Jvm.MethodName)) ∈ lw_all := lw_g (lw_at lw_m9 239 rfl) rfl
theorem q2256 : (Jvm.Cond.code ({ cls := "StarEyeModel", name := "dot", desc := "(IIII)I" } : Jvm.MethodName) prog_28_method_41_code (6 : Nat) (Option.some Jvm.ClassFile.FieldType.int)) ∈ lw_all := lw_g (lw_at lw_m10 0 rfl) rfl
theorem q2258 : (Jvm.Cond.instanceMethod ({ cls := "StarEyeModel", name := "point", desc := "(III)I" } : Jvm.MethodName)) ∈ lw_all := lw_g (lw_at lw_m10 2 rfl) rfl
theorem q2259 : (Jvm.Cond.selects "StarEyeModel" ({ cls := "StarEyeModel", name := "point", desc := "(III)I" } : Jvm.MethodName) ({ cls := "StarEyeModel", name := "point", desc := "(III)I" } : Jvm.MethodName)) ∈ lw_all := lw_g (lw_at lw_m10 3 rfl) rfl
theorem q2260 : (Jvm.Cond.code ({ cls := "StarEyeModel", name := "point", desc := "(III)I" } : Jvm.MethodName) prog_28_method_42_code (4 : Nat) (Option.some Jvm.ClassFile.FieldType.int)) ∈ lw_all := lw_g (lw_at lw_m10 4 rfl) rfl
theorem q2262 : (Jvm.Cond.instanceMethod ({ cls := "StarEyeModel", name := "length", desc := "(II)I" } : Jvm.MethodName)) ∈ lw_all := lw_g (lw_at lw_m10 6 rfl) rfl
theorem q2263 : (Jvm.Cond.selects "StarEyeModel" ({ cls := "StarEyeModel", name := "length", desc := "(II)I" } : Jvm.MethodName) ({ cls := "StarEyeModel", name := "length", desc := "(II)I" } : Jvm.MethodName)) ∈ lw_all := lw_g (lw_at lw_m10 7 rfl) rfl
theorem q2264 : (Jvm.Cond.code ({ cls := "StarEyeModel", name := "length", desc := "(II)I" } : Jvm.MethodName) prog_28_method_49_code (3 : Nat) (Option.some Jvm.ClassFile.FieldType.int)) ∈ lw_all := lw_g (lw_at lw_m10 8 rfl) rfl
theorem q2265 : (Jvm.Cond.methodLink "StarEyeModel" (408 : Nat) ({ cls := "StarEyeModel", name := "starLength", desc := "(II)I" } : Jvm.MethodName)) ∈ lw_all := lw_g (lw_at lw_m10 9 rfl) rfl
theorem q2266 : (Jvm.Cond.privateMethod ({ cls := "StarEyeModel", name := "starLength", desc := "(II)I" } : Jvm.MethodName)) ∈ lw_tbl := lw_at lw_m10 10 rfl
theorem q2267 : (Jvm.Cond.instanceMethod ({ cls := "StarEyeModel", name := "starLength", desc := "(II)I" } : Jvm.MethodName)) ∈ lw_all := lw_g (lw_at lw_m10 11 rfl) rfl
theorem q2268 : (Jvm.Cond.code ({ cls := "StarEyeModel", name := "starLength", desc := "(II)I" } : Jvm.MethodName) prog_28_method_45_code (3 : Nat) (Option.some Jvm.ClassFile.FieldType.int)) ∈ lw_all := lw_g (lw_at lw_m10 12 rfl) rfl
theorem q2269 : (Jvm.Cond.methodLink "StarEyeModel" (399 : Nat) ({ cls := "StarEyeModel", name := "lengthOf", desc := "(II)I" } : Jvm.MethodName)) ∈ lw_all := lw_g (lw_at lw_m10 13 rfl) rfl
theorem q2270 : (Jvm.Cond.static ({ cls := "StarEyeModel", name := "lengthOf", desc := "(II)I" } : Jvm.MethodName)) ∈ lw_all := lw_g (lw_at lw_m10 14 rfl) rfl
theorem q2271 : (Jvm.Cond.code ({ cls := "StarEyeModel", name := "lengthOf", desc := "(II)I" } : Jvm.MethodName) prog_28_method_44_code (2 : Nat) (Option.some Jvm.ClassFile.FieldType.int)) ∈ lw_all := lw_g (lw_at lw_m10 15 rfl) rfl
theorem q2272 : (Jvm.Cond.methodLink "StarEyeModel" (395 : Nat) ({ cls := "StarEyeModel", name := "root", desc := "(J)J" } : Jvm.MethodName)) ∈ lw_all := lw_g (lw_at lw_m10 16 rfl) rfl
theorem q2273 : (Jvm.Cond.static ({ cls := "StarEyeModel", name := "root", desc := "(J)J" } : Jvm.MethodName)) ∈ lw_all := lw_g (lw_at lw_m10 17 rfl) rfl
theorem q2274 : (Jvm.Cond.code ({ cls := "StarEyeModel", name := "root", desc := "(J)J" } : Jvm.MethodName) prog_28_method_43_code (8 : Nat) (Option.some Jvm.ClassFile.FieldType.long)) ∈ lw_all := lw_g (lw_at lw_m10 18 rfl) rfl
theorem q2275 : (Jvm.Cond.constantLong "StarEyeModel" (391 : Nat) (3000000000 : Int64)) ∈ lw_all := lw_g (lw_at lw_m10 19 rfl) rfl
theorem q2276 : (Jvm.Cond.constantLong "StarEyeModel" (393 : Nat) (2 : Int64)) ∈ lw_all := lw_g (lw_at lw_m10 20 rfl) rfl
theorem q2278 : (Jvm.Cond.instanceMethod ({ cls := "StarEyeModel", name := "namings", desc := "(III)I" } : Jvm.MethodName)) ∈ lw_all := lw_g (lw_at lw_m10 22 rfl) rfl
theorem q2279 : (Jvm.Cond.selects "StarEyeModel" ({ cls := "StarEyeModel", name := "namings", desc := "(III)I" } : Jvm.MethodName) ({ cls := "StarEyeModel", name := "namings", desc := "(III)I" } : Jvm.MethodName)) ∈ lw_all := lw_g (lw_at lw_m10 23 rfl) rfl
theorem q2280 : (Jvm.Cond.code ({ cls := "StarEyeModel", name := "namings", desc := "(III)I" } : Jvm.MethodName) prog_28_method_62_code (4 : Nat) (Option.some Jvm.ClassFile.FieldType.int)) ∈ lw_all := lw_g (lw_at lw_m10 24 rfl) rfl
theorem q2281 : (Jvm.Cond.methodLink "StarEyeModel" (454 : Nat) ({ cls := "StarEyeModel", name := "seekNamings", desc := "(II)V" } : Jvm.MethodName)) ∈ lw_all := lw_g (lw_at lw_m10 25 rfl) rfl
theorem q2282 : (Jvm.Cond.privateMethod ({ cls := "StarEyeModel", name := "seekNamings", desc := "(II)V" } : Jvm.MethodName)) ∈ lw_tbl := lw_at lw_m10 26 rfl
theorem q2283 : (Jvm.Cond.instanceMethod ({ cls := "StarEyeModel", name := "seekNamings", desc := "(II)V" } : Jvm.MethodName)) ∈ lw_all := lw_g (lw_at lw_m10 27 rfl) rfl
theorem q2284 : (Jvm.Cond.code ({ cls := "StarEyeModel", name := "seekNamings", desc := "(II)V" } : Jvm.MethodName) prog_28_method_61_code (5 : Nat) (Option.none : Option Jvm.ClassFile.FieldType)) ∈ lw_all := lw_g (lw_at lw_m10 28 rfl) rfl
theorem q2285 : (Jvm.Cond.methodLink "StarEyeModel" (445 : Nat) ({ cls := "StarEyeModel", name := "layLengths", desc := "()V" } : Jvm.MethodName)) ∈ lw_all := lw_g (lw_at lw_m10 29 rfl) rfl
theorem q2286 : (Jvm.Cond.privateMethod ({ cls := "StarEyeModel", name := "layLengths", desc := "()V" } : Jvm.MethodName)) ∈ lw_tbl := lw_at lw_m10 30 rfl
theorem q2287 : (Jvm.Cond.instanceMethod ({ cls := "StarEyeModel", name := "layLengths", desc := "()V" } : Jvm.MethodName)) ∈ lw_all := lw_g (lw_at lw_m10 31 rfl) rfl
theorem q2288 : (Jvm.Cond.code ({ cls := "StarEyeModel", name := "layLengths", desc := "()V" } : Jvm.MethodName) prog_28_method_52_code (3 : Nat) (Option.none : Option Jvm.ClassFile.FieldType)) ∈ lw_all := lw_g (lw_at lw_m10 32 rfl) rfl
theorem q2289 : (Jvm.Cond.methodLink "StarEyeModel" (411 : Nat) ({ cls := "StarEyeModel", name := "pointLength", desc := "(II)I" } : Jvm.MethodName)) ∈ lw_all := lw_g (lw_at lw_m10 33 rfl) rfl
theorem q2290 : (Jvm.Cond.privateMethod ({ cls := "StarEyeModel", name := "pointLength", desc := "(II)I" } : Jvm.MethodName)) ∈ lw_tbl := lw_at lw_m10 34 rfl
theorem q2291 : (Jvm.Cond.instanceMethod ({ cls := "StarEyeModel", name := "pointLength", desc := "(II)I" } : Jvm.MethodName)) ∈ lw_all := lw_g (lw_at lw_m10 35 rfl) rfl
theorem q2292 : (Jvm.Cond.code ({ cls := "StarEyeModel", name := "pointLength", desc := "(II)I" } : Jvm.MethodName) prog_28_method_48_code (3 : Nat) (Option.some Jvm.ClassFile.FieldType.int)) ∈ lw_all := lw_g (lw_at lw_m10 36 rfl) rfl
theorem q2293 : (Jvm.Cond.methodLink "StarEyeModel" (402 : Nat) ({ cls := "StarEyeModel", name := "pointX", desc := "(I)I" } : Jvm.MethodName)) ∈ lw_all := lw_g (lw_at lw_m10 37 rfl) rfl
theorem q2294 : (Jvm.Cond.privateMethod ({ cls := "StarEyeModel", name := "pointX", desc := "(I)I" } : Jvm.MethodName)) ∈ lw_tbl := lw_at lw_m10 38 rfl
theorem q2295 : (Jvm.Cond.instanceMethod ({ cls := "StarEyeModel", name := "pointX", desc := "(I)I" } : Jvm.MethodName)) ∈ lw_all := lw_g (lw_at lw_m10 39 rfl) rfl
theorem q2296 : (Jvm.Cond.code ({ cls := "StarEyeModel", name := "pointX", desc := "(I)I" } : Jvm.MethodName) prog_28_method_46_code (2 : Nat) (Option.some Jvm.ClassFile.FieldType.int)) ∈ lw_all := lw_g (lw_at lw_m10 40 rfl) rfl
theorem q2297 : (Jvm.Cond.methodLink "StarEyeModel" (405 : Nat) ({ cls := "StarEyeModel", name := "pointY", desc := "(I)I" } : Jvm.MethodName)) ∈ lw_all := lw_g (lw_at lw_m10 41 rfl) rfl
theorem q2298 : (Jvm.Cond.privateMethod ({ cls := "StarEyeModel", name := "pointY", desc := "(I)I" } : Jvm.MethodName)) ∈ lw_tbl := lw_at lw_m10 42 rfl
theorem q2299 : (Jvm.Cond.instanceMethod ({ cls := "StarEyeModel", name := "pointY", desc := "(I)I" } : Jvm.MethodName)) ∈ lw_all := lw_g (lw_at lw_m10 43 rfl) rfl
theorem q2300 : (Jvm.Cond.code ({ cls := "StarEyeModel", name := "pointY", desc := "(I)I" } : Jvm.MethodName) prog_28_method_47_code (2 : Nat) (Option.some Jvm.ClassFile.FieldType.int)) ∈ lw_all := lw_g (lw_at lw_m10 44 rfl) rfl
theorem q2301 : (Jvm.Cond.methodLink "StarEyeModel" (451 : Nat) ({ cls := "StarEyeModel", name := "seekNaming", desc := "(II)V" } : Jvm.MethodName)) ∈ lw_all := lw_g (lw_at lw_m10 45 rfl) rfl
theorem q2302 : (Jvm.Cond.privateMethod ({ cls := "StarEyeModel", name := "seekNaming", desc := "(II)V" } : Jvm.MethodName)) ∈ lw_tbl := lw_at lw_m10 46 rfl
theorem q2303 : (Jvm.Cond.instanceMethod ({ cls := "StarEyeModel", name := "seekNaming", desc := "(II)V" } : Jvm.MethodName)) ∈ lw_all := lw_g (lw_at lw_m10 47 rfl) rfl
theorem q2304 : (Jvm.Cond.code ({ cls := "StarEyeModel", name := "seekNaming", desc := "(II)V" } : Jvm.MethodName) prog_28_method_60_code (5 : Nat) (Option.none : Option Jvm.ClassFile.FieldType)) ∈ lw_all := lw_g (lw_at lw_m10 48 rfl) rfl
theorem q2305 : (Jvm.Cond.methodLink "StarEyeModel" (436 : Nat) ({ cls := "StarEyeModel", name := "following", desc := "(II)I" } : Jvm.MethodName)) ∈ lw_all := lw_g (lw_at lw_m10 49 rfl) rfl
theorem q2306 : (Jvm.Cond.static ({ cls := "StarEyeModel", name := "following", desc := "(II)I" } : Jvm.MethodName)) ∈ lw_all := lw_g (lw_at lw_m10 50 rfl) rfl
theorem q2307 : (Jvm.Cond.code ({ cls := "StarEyeModel", name := "following", desc := "(II)I" } : Jvm.MethodName) prog_28_method_59_code (2 : Nat) (Option.some Jvm.ClassFile.FieldType.int)) ∈ lw_all := lw_g (lw_at lw_m10 51 rfl) rfl
theorem q2308 : (Jvm.Cond.methodLink "StarEyeModel" (439 : Nat) ({ cls := "StarEyeModel", name := "unnamed", desc := "(I)I" } : Jvm.MethodName)) ∈ lw_all := lw_g (lw_at lw_m10 52 rfl) rfl
theorem q2309 : (Jvm.Cond.privateMethod ({ cls := "StarEyeModel", name := "unnamed", desc := "(I)I" } : Jvm.MethodName)) ∈ lw_tbl := lw_at lw_m10 53 rfl
theorem q2310 : (Jvm.Cond.instanceMethod ({ cls := "StarEyeModel", name := "unnamed", desc := "(I)I" } : Jvm.MethodName)) ∈ lw_all := lw_g (lw_at lw_m10 54 rfl) rfl
theorem q2311 : (Jvm.Cond.code ({ cls := "StarEyeModel", name := "unnamed", desc := "(I)I" } : Jvm.MethodName) prog_28_method_58_code (4 : Nat) (Option.some Jvm.ClassFile.FieldType.int)) ∈ lw_all := lw_g (lw_at lw_m10 55 rfl) rfl
theorem q2312 : (Jvm.Cond.methodLink "StarEyeModel" (442 : Nat) ({ cls := "StarEyeModel", name := "goes", desc := "(I)Z" } : Jvm.MethodName)) ∈ lw_all := lw_g (lw_at lw_m10 56 rfl) rfl
theorem q2313 : (Jvm.Cond.privateMethod ({ cls := "StarEyeModel", name := "goes", desc := "(I)Z" } : Jvm.MethodName)) ∈ lw_tbl := lw_at lw_m10 57 rfl
theorem q2314 : (Jvm.Cond.instanceMethod ({ cls := "StarEyeModel", name := "goes", desc := "(I)Z" } : Jvm.MethodName)) ∈ lw_all := lw_g (lw_at lw_m10 58 rfl) rfl
theorem q2315 : (Jvm.Cond.code ({ cls := "StarEyeModel", name := "goes", desc := "(I)Z" } : Jvm.MethodName) prog_28_method_57_code (5 : Nat) (Option.some Jvm.ClassFile.FieldType.boolean)) ∈ lw_all := lw_g (lw_at lw_m10 59 rfl) rfl
theorem q2316 : (Jvm.Cond.methodLink "StarEyeModel" (425 : Nat) ({ cls := "StarEyeModel", name := "fit", desc := "(IIII)Z" } : Jvm.MethodName)) ∈ lw_all := lw_g (lw_at lw_m10 60 rfl) rfl
theorem q2317 : (Jvm.Cond.privateMethod ({ cls := "StarEyeModel", name := "fit", desc := "(IIII)Z" } : Jvm.MethodName)) ∈ lw_tbl := lw_at lw_m10 61 rfl
theorem q2318 : (Jvm.Cond.instanceMethod ({ cls := "StarEyeModel", name := "fit", desc := "(IIII)Z" } : Jvm.MethodName)) ∈ lw_all := lw_g (lw_at lw_m10 62 rfl) rfl
theorem q2319 : (Jvm.Cond.code ({ cls := "StarEyeModel", name := "fit", desc := "(IIII)Z" } : Jvm.MethodName) prog_28_method_53_code (5 : Nat) (Option.some Jvm.ClassFile.FieldType.boolean)) ∈ lw_all := lw_g (lw_at lw_m10 63 rfl) rfl
theorem q2320 : (Jvm.Cond.methodLink "StarEyeModel" (414 : Nat) ({ cls := "StarEyeModel", name := "much", desc := "(I)I" } : Jvm.MethodName)) ∈ lw_all := lw_g (lw_at lw_m10 64 rfl) rfl
theorem q2321 : (Jvm.Cond.static ({ cls := "StarEyeModel", name := "much", desc := "(I)I" } : Jvm.MethodName)) ∈ lw_all := lw_g (lw_at lw_m10 65 rfl) rfl
theorem q2322 : (Jvm.Cond.code ({ cls := "StarEyeModel", name := "much", desc := "(I)I" } : Jvm.MethodName) prog_28_method_50_code (1 : Nat) (Option.some Jvm.ClassFile.FieldType.int)) ∈ lw_all := lw_g (lw_at lw_m10 66 rfl) rfl
theorem q2323 : (Jvm.Cond.methodLink "StarEyeModel" (429 : Nat) ({ cls := "StarEyeModel", name := "lieAlike", desc := "(IIIIII)Z" } : Jvm.MethodName)) ∈ lw_all := lw_g (lw_at lw_m10 67 rfl) rfl
theorem q2324 : (Jvm.Cond.privateMethod ({ cls := "StarEyeModel", name := "lieAlike", desc := "(IIIIII)Z" } : Jvm.MethodName)) ∈ lw_tbl := lw_at lw_m10 68 rfl
theorem q2325 : (Jvm.Cond.instanceMethod ({ cls := "StarEyeModel", name := "lieAlike", desc := "(IIIIII)Z" } : Jvm.MethodName)) ∈ lw_all := lw_g (lw_at lw_m10 69 rfl) rfl
theorem q2326 : (Jvm.Cond.code ({ cls := "StarEyeModel", name := "lieAlike", desc := "(IIIIII)Z" } : Jvm.MethodName) prog_28_method_56_code (11 : Nat) (Option.some Jvm.ClassFile.FieldType.boolean)) ∈ lw_all := lw_g (lw_at lw_m10 70 rfl) rfl
theorem q2327 : (Jvm.Cond.methodLink "StarEyeModel" (417 : Nat) ({ cls := "StarEyeModel", name := "cross", desc := "(JJJJ)J" } : Jvm.MethodName)) ∈ lw_all := lw_g (lw_at lw_m10 71 rfl) rfl
theorem q2328 : (Jvm.Cond.static ({ cls := "StarEyeModel", name := "cross", desc := "(JJJJ)J" } : Jvm.MethodName)) ∈ lw_all := lw_g (lw_at lw_m10 72 rfl) rfl
theorem q2329 : (Jvm.Cond.code ({ cls := "StarEyeModel", name := "cross", desc := "(JJJJ)J" } : Jvm.MethodName) prog_28_method_55_code (8 : Nat) (Option.some Jvm.ClassFile.FieldType.long)) ∈ lw_all := lw_g (lw_at lw_m10 73 rfl) rfl
theorem q2330 : (Jvm.Cond.methodLink "StarEyeModel" (421 : Nat) ({ cls := "StarEyeModel", name := "sign", desc := "(J)I" } : Jvm.MethodName)) ∈ lw_all := lw_g (lw_at lw_m10 74 rfl) rfl
theorem q2331 : (Jvm.Cond.static ({ cls := "StarEyeModel", name := "sign", desc := "(J)I" } : Jvm.MethodName)) ∈ lw_all := lw_g (lw_at lw_m10 75 rfl) rfl
theorem q2332 : (Jvm.Cond.code ({ cls := "StarEyeModel", name := "sign", desc := "(J)I" } : Jvm.MethodName) prog_28_method_54_code (2 : Nat) (Option.some Jvm.ClassFile.FieldType.int)) ∈ lw_all := lw_g (lw_at lw_m10 76 rfl) rfl
theorem q2334 : (Jvm.Cond.instanceMethod ({ cls := "StarEyeModel", name := "named", desc := "(IIII)I" } : Jvm.MethodName)) ∈ lw_all := lw_g (lw_at lw_m10 78 rfl) rfl
theorem q2335 : (Jvm.Cond.selects "StarEyeModel" ({ cls := "StarEyeModel", name := "named", desc := "(IIII)I" } : Jvm.MethodName) ({ cls := "StarEyeModel", name := "named", desc := "(IIII)I" } : Jvm.MethodName)) ∈ lw_all := lw_g (lw_at lw_m10 79 rfl) rfl
theorem q2336 : (Jvm.Cond.code ({ cls := "StarEyeModel", name := "named", desc := "(IIII)I" } : Jvm.MethodName) prog_28_method_65_code (5 : Nat) (Option.some Jvm.ClassFile.FieldType.int)) ∈ lw_all := lw_g (lw_at lw_m10 80 rfl) rfl
theorem q2337 : (Jvm.Cond.methodLink "StarEyeModel" (457 : Nat) ({ cls := "StarEyeModel", name := "hasNaming", desc := "(III)Z" } : Jvm.MethodName)) ∈ lw_all := lw_g (lw_at lw_m10 81 rfl) rfl
theorem q2338 : (Jvm.Cond.privateMethod ({ cls := "StarEyeModel", name := "hasNaming", desc := "(III)Z" } : Jvm.MethodName)) ∈ lw_tbl := lw_at lw_m10 82 rfl
theorem q2339 : (Jvm.Cond.instanceMethod ({ cls := "StarEyeModel", name := "hasNaming", desc := "(III)Z" } : Jvm.MethodName)) ∈ lw_all := lw_g (lw_at lw_m10 83 rfl) rfl
theorem q2340 : (Jvm.Cond.code ({ cls := "StarEyeModel", name := "hasNaming", desc := "(III)Z" } : Jvm.MethodName) prog_28_method_63_code (4 : Nat) (Option.some Jvm.ClassFile.FieldType.boolean)) ∈ lw_all := lw_g (lw_at lw_m10 84 rfl) rfl
theorem q2341 : (Jvm.Cond.methodLink "StarEyeModel" (461 : Nat) ({ cls := "StarEyeModel", name := "isNamed", desc := "(II)Z" } : Jvm.MethodName)) ∈ lw_all := lw_g (lw_at lw_m10 85 rfl) rfl
theorem q2342 : (Jvm.Cond.privateMethod ({ cls := "StarEyeModel", name := "isNamed", desc := "(II)Z" } : Jvm.MethodName)) ∈ lw_tbl := lw_at lw_m10 86 rfl
theorem q2343 : (Jvm.Cond.instanceMethod ({ cls := "StarEyeModel", name := "isNamed", desc := "(II)Z" } : Jvm.MethodName)) ∈ lw_all := lw_g (lw_at lw_m10 87 rfl) rfl
theorem q2344 : (Jvm.Cond.code ({ cls := "StarEyeModel", name := "isNamed", desc := "(II)Z" } : Jvm.MethodName) prog_28_method_64_code (3 : Nat) (Option.some Jvm.ClassFile.FieldType.boolean)) ∈ lw_all := lw_g (lw_at lw_m10 88 rfl) rfl
theorem q2346 : (Jvm.Cond.instanceMethod ({ cls := "StarEyeModel", name := "odds", desc := "(IIII)J" } : Jvm.MethodName)) ∈ lw_all := lw_g (lw_at lw_m10 90 rfl) rfl
theorem q2347 : (Jvm.Cond.selects "StarEyeModel" ({ cls := "StarEyeModel", name := "odds", desc := "(IIII)J" } : Jvm.MethodName) ({ cls := "StarEyeModel", name := "odds", desc := "(IIII)J" } : Jvm.MethodName)) ∈ lw_all := lw_g (lw_at lw_m10 91 rfl) rfl
theorem q2348 : (Jvm.Cond.code ({ cls := "StarEyeModel", name := "odds", desc := "(IIII)J" } : Jvm.MethodName) prog_28_method_70_code (5 : Nat) (Option.some Jvm.ClassFile.FieldType.long)) ∈ lw_all := lw_g (lw_at lw_m10 92 rfl) rfl
theorem q2349 : (Jvm.Cond.constantLong "StarEyeModel" (481 : Nat) (-1000000000000 : Int64)) ∈ lw_all := lw_g (lw_at lw_m10 93 rfl) rfl
theorem q2350 : (Jvm.Cond.methodLink "StarEyeModel" (483 : Nat) ({ cls := "StarEyeModel", name := "seekOdds", desc := "(I)V" } : Jvm.MethodName)) ∈ lw_all := lw_g (lw_at lw_m10 94 rfl) rfl
theorem q2351 : (Jvm.Cond.privateMethod ({ cls := "StarEyeModel", name := "seekOdds", desc := "(I)V" } : Jvm.MethodName)) ∈ lw_tbl := lw_at lw_m10 95 rfl
theorem q2352 : (Jvm.Cond.instanceMethod ({ cls := "StarEyeModel", name := "seekOdds", desc := "(I)V" } : Jvm.MethodName)) ∈ lw_all := lw_g (lw_at lw_m10 96 rfl) rfl
theorem q2353 : (Jvm.Cond.code ({ cls := "StarEyeModel", name := "seekOdds", desc := "(I)V" } : Jvm.MethodName) prog_28_method_69_code (4 : Nat) (Option.none : Option Jvm.ClassFile.FieldType)) ∈ lw_all := lw_g (lw_at lw_m10 97 rfl) rfl
theorem q2354 : (Jvm.Cond.methodLink "StarEyeModel" (474 : Nat) ({ cls := "StarEyeModel", name := "fitting", desc := "(II)I" } : Jvm.MethodName)) ∈ lw_all := lw_g (lw_at lw_m10 98 rfl) rfl
theorem q2355 : (Jvm.Cond.privateMethod ({ cls := "StarEyeModel", name := "fitting", desc := "(II)I" } : Jvm.MethodName)) ∈ lw_tbl := lw_at lw_m10 99 rfl
theorem q2356 : (Jvm.Cond.instanceMethod ({ cls := "StarEyeModel", name := "fitting", desc := "(II)I" } : Jvm.MethodName)) ∈ lw_all := lw_g (lw_at lw_m10 100 rfl) rfl
theorem q2357 : (Jvm.Cond.code ({ cls := "StarEyeModel", name := "fitting", desc := "(II)I" } : Jvm.MethodName) prog_28_method_68_code (6 : Nat) (Option.some Jvm.ClassFile.FieldType.int)) ∈ lw_all := lw_g (lw_at lw_m10 101 rfl) rfl
theorem q2358 : (Jvm.Cond.methodLink "StarEyeModel" (477 : Nat) ({ cls := "StarEyeModel", name := "reduce", desc := "(JJ)V" } : Jvm.MethodName)) ∈ lw_all := lw_g (lw_at lw_m10 102 rfl) rfl
theorem q2359 : (Jvm.Cond.privateMethod ({ cls := "StarEyeModel", name := "reduce", desc := "(JJ)V" } : Jvm.MethodName)) ∈ lw_tbl := lw_at lw_m10 103 rfl
theorem q2360 : (Jvm.Cond.instanceMethod ({ cls := "StarEyeModel", name := "reduce", desc := "(JJ)V" } : Jvm.MethodName)) ∈ lw_all := lw_g (lw_at lw_m10 104 rfl) rfl
theorem q2361 : (Jvm.Cond.code ({ cls := "StarEyeModel", name := "reduce", desc := "(JJ)V" } : Jvm.MethodName) prog_28_method_67_code (7 : Nat) (Option.none : Option Jvm.ClassFile.FieldType)) ∈ lw_all := lw_g (lw_at lw_m10 105 rfl) rfl
theorem q2362 : (Jvm.Cond.methodLink "StarEyeModel" (464 : Nat) ({ cls := "StarEyeModel", name := "common", desc := "(JJ)J" } : Jvm.MethodName)) ∈ lw_all := lw_g (lw_at lw_m10 106 rfl) rfl
theorem q2363 : (Jvm.Cond.static ({ cls := "StarEyeModel", name := "common", desc := "(JJ)J" } : Jvm.MethodName)) ∈ lw_all := lw_g (lw_at lw_m10 107 rfl) rfl
theorem q2364 : (Jvm.Cond.code ({ cls := "StarEyeModel", name := "common", desc := "(JJ)J" } : Jvm.MethodName) prog_28_method_66_code (10 : Nat) (Option.some Jvm.ClassFile.FieldType.long)) ∈ lw_all := lw_g (lw_at lw_m10 108 rfl) rfl
theorem q2366 : (Jvm.Cond.instanceMethod ({ cls := "StarEyeModel", name := "told", desc := "(II)I" } : Jvm.MethodName)) ∈ lw_all := lw_g (lw_at lw_m10 110 rfl) rfl
theorem q2367 : (Jvm.Cond.selects "StarEyeModel" ({ cls := "StarEyeModel", name := "told", desc := "(II)I" } : Jvm.MethodName) ({ cls := "StarEyeModel", name := "told", desc := "(II)I" } : Jvm.MethodName)) ∈ lw_all := lw_g (lw_at lw_m10 111 rfl) rfl
theorem q2368 : (Jvm.Cond.code ({ cls := "StarEyeModel", name := "told", desc := "(II)I" } : Jvm.MethodName) prog_28_method_72_code (3 : Nat) (Option.some Jvm.ClassFile.FieldType.int)) ∈ lw_all := lw_g (lw_at lw_m10 112 rfl) rfl
theorem q2369 : (Jvm.Cond.methodLink "StarEyeModel" (486 : Nat) ({ cls := "StarEyeModel", name := "tells", desc := "()Z" } : Jvm.MethodName)) ∈ lw_all := lw_g (lw_at lw_m10 113 rfl) rfl
theorem q2370 : (Jvm.Cond.privateMethod ({ cls := "StarEyeModel", name := "tells", desc := "()Z" } : Jvm.MethodName)) ∈ lw_tbl := lw_at lw_m10 114 rfl
theorem q2371 : (Jvm.Cond.instanceMethod ({ cls := "StarEyeModel", name := "tells", desc := "()Z" } : Jvm.MethodName)) ∈ lw_all := lw_g (lw_at lw_m10 115 rfl) rfl
theorem q2372 : (Jvm.Cond.code ({ cls := "StarEyeModel", name := "tells", desc := "()Z" } : Jvm.MethodName) prog_28_method_71_code (1 : Nat) (Option.some Jvm.ClassFile.FieldType.boolean)) ∈ lw_all := lw_g (lw_at lw_m10 116 rfl) rfl
theorem q2374 : (Jvm.Cond.instanceMethod ({ cls := "StarEyeModel", name := "turn", desc := "(IIII)J" } : Jvm.MethodName)) ∈ lw_all := lw_g (lw_at lw_m10 118 rfl) rfl
theorem q2375 : (Jvm.Cond.selects "StarEyeModel" ({ cls := "StarEyeModel", name := "turn", desc := "(IIII)J" } : Jvm.MethodName) ({ cls := "StarEyeModel", name := "turn", desc := "(IIII)J" } : Jvm.MethodName)) ∈ lw_all := lw_g (lw_at lw_m10 119 rfl) rfl
theorem q2376 : (Jvm.Cond.code ({ cls := "StarEyeModel", name := "turn", desc := "(IIII)J" } : Jvm.MethodName) prog_28_method_76_code (7 : Nat) (Option.some Jvm.ClassFile.FieldType.long)) ∈ lw_all := lw_g (lw_at lw_m10 120 rfl) rfl
theorem q2377 : (Jvm.Cond.methodLink "StarEyeModel" (522 : Nat) ({ cls := "StarEyeModel", name := "seekTurn", desc := "(I)V" } : Jvm.MethodName)) ∈ lw_all := lw_g (lw_at lw_m10 121 rfl) rfl
theorem q2378 : (Jvm.Cond.privateMethod ({ cls := "StarEyeModel", name := "seekTurn", desc := "(I)V" } : Jvm.MethodName)) ∈ lw_tbl := lw_at lw_m10 122 rfl
theorem q2379 : (Jvm.Cond.instanceMethod ({ cls := "StarEyeModel", name := "seekTurn", desc := "(I)V" } : Jvm.MethodName)) ∈ lw_all := lw_g (lw_at lw_m10 123 rfl) rfl
theorem q2380 : (Jvm.Cond.code ({ cls := "StarEyeModel", name := "seekTurn", desc := "(I)V" } : Jvm.MethodName) prog_28_method_75_code (11 : Nat) (Option.none : Option Jvm.ClassFile.FieldType)) ∈ lw_all := lw_g (lw_at lw_m10 124 rfl) rfl
theorem q2381 : (Jvm.Cond.methodLink "StarEyeModel" (515 : Nat) ({ cls := "StarEyeModel", name := "ownX", desc := "(II)J" } : Jvm.MethodName)) ∈ lw_all := lw_g (lw_at lw_m10 125 rfl) rfl
theorem q2382 : (Jvm.Cond.privateMethod ({ cls := "StarEyeModel", name := "ownX", desc := "(II)J" } : Jvm.MethodName)) ∈ lw_tbl := lw_at lw_m10 126 rfl
theorem q2383 : (Jvm.Cond.instanceMethod ({ cls := "StarEyeModel", name := "ownX", desc := "(II)J" } : Jvm.MethodName)) ∈ lw_all := lw_g (lw_at lw_m10 127 rfl) rfl
theorem q2384 : (Jvm.Cond.code ({ cls := "StarEyeModel", name := "ownX", desc := "(II)J" } : Jvm.MethodName) prog_28_method_73_code (3 : Nat) (Option.some Jvm.ClassFile.FieldType.long)) ∈ lw_all := lw_g (lw_at lw_m10 128 rfl) rfl
theorem q2385 : (Jvm.Cond.constantLong "StarEyeModel" (489 : Nat) (10 : Int64)) ∈ lw_all := lw_g (lw_at lw_m10 129 rfl) rfl
theorem q2386 : (Jvm.Cond.methodLink "StarEyeModel" (519 : Nat) ({ cls := "StarEyeModel", name := "ownY", desc := "(II)J" } : Jvm.MethodName)) ∈ lw_all := lw_g (lw_at lw_m10 130 rfl) rfl
theorem q2387 : (Jvm.Cond.privateMethod ({ cls := "StarEyeModel", name := "ownY", desc := "(II)J" } : Jvm.MethodName)) ∈ lw_tbl := lw_at lw_m10 131 rfl
theorem q2388 : (Jvm.Cond.instanceMethod ({ cls := "StarEyeModel", name := "ownY", desc := "(II)J" } : Jvm.MethodName)) ∈ lw_all := lw_g (lw_at lw_m10 132 rfl) rfl
theorem q2389 : (Jvm.Cond.code ({ cls := "StarEyeModel", name := "ownY", desc := "(II)J" } : Jvm.MethodName) prog_28_method_74_code (3 : Nat) (Option.some Jvm.ClassFile.FieldType.long)) ∈ lw_all := lw_g (lw_at lw_m10 133 rfl) rfl
theorem q2391 : (Jvm.Cond.instanceMethod ({ cls := "StarEyeModel", name := "look", desc := "(IIIII)J" } : Jvm.MethodName)) ∈ lw_all := lw_g (lw_at lw_m10 135 rfl) rfl
theorem q2392 : (Jvm.Cond.selects "StarEyeModel" ({ cls := "StarEyeModel", name := "look", desc := "(IIIII)J" } : Jvm.MethodName) ({ cls := "StarEyeModel", name := "look", desc := "(IIIII)J" } : Jvm.MethodName)) ∈ lw_all := lw_g (lw_at lw_m10 136 rfl) rfl
theorem q2393 : (Jvm.Cond.code ({ cls := "StarEyeModel", name := "look", desc := "(IIIII)J" } : Jvm.MethodName) prog_28_method_77_code (12 : Nat) (Option.some Jvm.ClassFile.FieldType.long)) ∈ lw_all := lw_g (lw_at lw_m10 137 rfl) rfl
theorem q2394 : (Jvm.Cond.constantLong "StarEyeModel" (525 : Nat) (5 : Int64)) ∈ lw_all := lw_g (lw_at lw_m10 138 rfl) rfl
theorem q2396 : (Jvm.Cond.instanceMethod ({ cls := "StarEyeModel", name := "stretch", desc := "(III)J" } : Jvm.MethodName)) ∈ lw_all := lw_g (lw_at lw_m10 140 rfl) rfl
theorem q2397 : (Jvm.Cond.selects "StarEyeModel" ({ cls := "StarEyeModel", name := "stretch", desc := "(III)J" } : Jvm.MethodName) ({ cls := "StarEyeModel", name := "stretch", desc := "(III)J" } : Jvm.MethodName)) ∈ lw_all := lw_g (lw_at lw_m10 141 rfl) rfl
theorem q2398 : (Jvm.Cond.code ({ cls := "StarEyeModel", name := "stretch", desc := "(III)J" } : Jvm.MethodName) prog_28_method_79_code (4 : Nat) (Option.some Jvm.ClassFile.FieldType.long)) ∈ lw_all := lw_g (lw_at lw_m10 142 rfl) rfl
theorem q2399 : (Jvm.Cond.methodLink "StarEyeModel" (529 : Nat) ({ cls := "StarEyeModel", name := "stretchOf", desc := "(I)J" } : Jvm.MethodName)) ∈ lw_all := lw_g (lw_at lw_m10 143 rfl) rfl
theorem q2400 : (Jvm.Cond.privateMethod ({ cls := "StarEyeModel", name := "stretchOf", desc := "(I)J" } : Jvm.MethodName)) ∈ lw_tbl := lw_at lw_m10 144 rfl
theorem q2401 : (Jvm.Cond.instanceMethod ({ cls := "StarEyeModel", name := "stretchOf", desc := "(I)J" } : Jvm.MethodName)) ∈ lw_all := lw_g (lw_at lw_m10 145 rfl) rfl
theorem q2402 : (Jvm.Cond.code ({ cls := "StarEyeModel", name := "stretchOf", desc := "(I)J" } : Jvm.MethodName) prog_28_method_78_code (2 : Nat) (Option.some Jvm.ClassFile.FieldType.long)) ∈ lw_all := lw_g (lw_at lw_m10 146 rfl) rfl
theorem q2403 : (Jvm.Cond.constantLong "StarEyeModel" (527 : Nat) (1000 : Int64)) ∈ lw_all := lw_g (lw_at lw_m10 147 rfl) rfl
theorem q2405 : (Jvm.Cond.instanceMethod ({ cls := "StarEyeModel", name := "followed", desc := "(IIIIII)I" } : Jvm.MethodName)) ∈ lw_all := lw_g (lw_at lw_m10 149 rfl) rfl
theorem q2406 : (Jvm.Cond.selects "StarEyeModel" ({ cls := "StarEyeModel", name := "followed", desc := "(IIIIII)I" } : Jvm.MethodName) ({ cls := "StarEyeModel", name := "followed", desc := "(IIIIII)I" } : Jvm.MethodName)) ∈ lw_all := lw_g (lw_at lw_m10 150 rfl) rfl
theorem q2407 : (Jvm.Cond.code ({ cls := "StarEyeModel", name := "followed", desc := "(IIIIII)I" } : Jvm.MethodName) prog_28_method_81_code (7 : Nat) (Option.some Jvm.ClassFile.FieldType.int)) ∈ lw_all := lw_g (lw_at lw_m10 151 rfl) rfl
theorem q2408 : (Jvm.Cond.methodLink "StarEyeModel" (539 : Nat) ({ cls := "StarEyeModel", name := "seekFollowed", desc := "(IIIII)Z" } : Jvm.MethodName)) ∈ lw_all := lw_g (lw_at lw_m10 152 rfl) rfl
theorem q2409 : (Jvm.Cond.privateMethod ({ cls := "StarEyeModel", name := "seekFollowed", desc := "(IIIII)Z" } : Jvm.MethodName)) ∈ lw_tbl := lw_at lw_m10 153 rfl
theorem q2410 : (Jvm.Cond.instanceMethod ({ cls := "StarEyeModel", name := "seekFollowed", desc := "(IIIII)Z" } : Jvm.MethodName)) ∈ lw_all := lw_g (lw_at lw_m10 154 rfl) rfl
theorem q2411 : (Jvm.Cond.code ({ cls := "StarEyeModel", name := "seekFollowed", desc := "(IIIII)Z" } : Jvm.MethodName) prog_28_method_80_code (11 : Nat) (Option.some Jvm.ClassFile.FieldType.boolean)) ∈ lw_all := lw_g (lw_at lw_m10 155 rfl) rfl
theorem q2413 : (Jvm.Cond.instanceMethod ({ cls := "StarEyeModel", name := "follow", desc := "(IIIIII)I" } : Jvm.MethodName)) ∈ lw_all := lw_g (lw_at lw_m10 157 rfl) rfl
theorem q2414 : (Jvm.Cond.selects "StarEyeModel" ({ cls := "StarEyeModel", name := "follow", desc := "(IIIIII)I" } : Jvm.MethodName) ({ cls := "StarEyeModel", name := "follow", desc := "(IIIIII)I" } : Jvm.MethodName)) ∈ lw_all := lw_g (lw_at lw_m10 158 rfl) rfl
theorem q2415 : (Jvm.Cond.code ({ cls := "StarEyeModel", name := "follow", desc := "(IIIIII)I" } : Jvm.MethodName) prog_28_method_82_code (7 : Nat) (Option.some Jvm.ClassFile.FieldType.int)) ∈ lw_all := lw_g (lw_at lw_m10 159 rfl) rfl
theorem q2417 : (Jvm.Cond.instanceMethod ({ cls := "StarEyeModel", name := "wanderers", desc := "(II)I" } : Jvm.MethodName)) ∈ lw_all := lw_g (lw_at lw_m10 161 rfl) rfl
theorem q2418 : (Jvm.Cond.selects "StarEyeModel" ({ cls := "StarEyeModel", name := "wanderers", desc := "(II)I" } : Jvm.MethodName) ({ cls := "StarEyeModel", name := "wanderers", desc := "(II)I" } : Jvm.MethodName)) ∈ lw_all := lw_g (lw_at lw_m10 162 rfl) rfl
theorem q2419 : (Jvm.Cond.code ({ cls := "StarEyeModel", name := "wanderers", desc := "(II)I" } : Jvm.MethodName) prog_28_method_83_code (5 : Nat) (Option.some Jvm.ClassFile.FieldType.int)) ∈ lw_all := lw_g (lw_at lw_m10 163 rfl) rfl
theorem q2421 : (Jvm.Cond.instanceMethod ({ cls := "StarEyeModel", name := "shift", desc := "(IIIII)J" } : Jvm.MethodName)) ∈ lw_all := lw_g (lw_at lw_m10 165 rfl) rfl
theorem q2422 : (Jvm.Cond.selects "StarEyeModel" ({ cls := "StarEyeModel", name := "shift", desc := "(IIIII)J" } : Jvm.MethodName) ({ cls := "StarEyeModel", name := "shift", desc := "(IIIII)J" } : Jvm.MethodName)) ∈ lw_all := lw_g (lw_at lw_m10 166 rfl) rfl
theorem q2423 : (Jvm.Cond.code ({ cls := "StarEyeModel", name := "shift", desc := "(IIIII)J" } : Jvm.MethodName) prog_28_method_85_code (8 : Nat) (Option.some Jvm.ClassFile.FieldType.long)) ∈ lw_all := lw_g (lw_at lw_m10 167 rfl) rfl
theorem q2424 : (Jvm.Cond.methodLink "StarEyeModel" (549 : Nat) ({ cls := "StarEyeModel", name := "seekStar", desc := "(III)Z" } : Jvm.MethodName)) ∈ lw_all := lw_g (lw_at lw_m10 168 rfl) rfl
theorem q2425 : (Jvm.Cond.privateMethod ({ cls := "StarEyeModel", name := "seekStar", desc := "(III)Z" } : Jvm.MethodName)) ∈ lw_tbl := lw_at lw_m10 169 rfl
theorem q2426 : (Jvm.Cond.instanceMethod ({ cls := "StarEyeModel", name := "seekStar", desc := "(III)Z" } : Jvm.MethodName)) ∈ lw_all := lw_g (lw_at lw_m10 170 rfl) rfl
theorem q2427 : (Jvm.Cond.code ({ cls := "StarEyeModel", name := "seekStar", desc := "(III)Z" } : Jvm.MethodName) prog_28_method_84_code (5 : Nat) (Option.some Jvm.ClassFile.FieldType.boolean)) ∈ lw_all := lw_g (lw_at lw_m10 171 rfl) rfl
theorem q2429 : (Jvm.Cond.instanceMethod ({ cls := "StarEyeModel", name := "liar", desc := "(III)I" } : Jvm.MethodName)) ∈ lw_all := lw_g (lw_at lw_m10 173 rfl) rfl
theorem q2430 : (Jvm.Cond.selects "StarEyeModel" ({ cls := "StarEyeModel", name := "liar", desc := "(III)I" } : Jvm.MethodName) ({ cls := "StarEyeModel", name := "liar", desc := "(III)I" } : Jvm.MethodName)) ∈ lw_all := lw_g (lw_at lw_m10 174 rfl) rfl
theorem q2431 : (Jvm.Cond.code ({ cls := "StarEyeModel", name := "liar", desc := "(III)I" } : Jvm.MethodName) prog_28_method_86_code (10 : Nat) (Option.some Jvm.ClassFile.FieldType.int)) ∈ lw_all := lw_g (lw_at lw_m10 175 rfl) rfl
theorem q2432 : (Jvm.Cond.methodLink "StarEyeModel" (552 : Nat) ({ cls := "StarEyeModel", name := "sized", desc := "(J)J" } : Jvm.MethodName)) ∈ lw_all := lw_g (lw_at lw_m10 176 rfl) rfl
theorem q2433 : (Jvm.Cond.static ({ cls := "StarEyeModel", name := "sized", desc := "(J)J" } : Jvm.MethodName)) ∈ lw_all := lw_g (lw_at lw_m10 177 rfl) rfl
theorem q2434 : (Jvm.Cond.code ({ cls := "StarEyeModel", name := "sized", desc := "(J)J" } : Jvm.MethodName) prog_28_method_51_code (2 : Nat) (Option.some Jvm.ClassFile.FieldType.long)) ∈ lw_all := lw_g (lw_at lw_m10 178 rfl) rfl
theorem q2436 : (Jvm.Cond.instanceMethod ({ cls := "StarEyeModel", name := "looks", desc := "(I)I" } : Jvm.MethodName)) ∈ lw_all := lw_g (lw_at lw_m10 180 rfl) rfl
theorem q2437 : (Jvm.Cond.selects "StarEyeModel" ({ cls := "StarEyeModel", name := "looks", desc := "(I)I" } : Jvm.MethodName) ({ cls := "StarEyeModel", name := "looks", desc := "(I)I" } : Jvm.MethodName)) ∈ lw_all := lw_g (lw_at lw_m10 181 rfl) rfl
theorem q2438 : (Jvm.Cond.code ({ cls := "StarEyeModel", name := "looks", desc := "(I)I" } : Jvm.MethodName) prog_28_method_89_code (7 : Nat) (Option.some Jvm.ClassFile.FieldType.int)) ∈ lw_all := lw_g (lw_at lw_m10 182 rfl) rfl
theorem q2439 : (Jvm.Cond.methodLink "StarEyeModel" (558 : Nat) ({ cls := "StarEyeModel", name := "seenFrom", desc := "(III)I" } : Jvm.MethodName)) ∈ lw_all := lw_g (lw_at lw_m10 183 rfl) rfl
theorem q2440 : (Jvm.Cond.privateMethod ({ cls := "StarEyeModel", name := "seenFrom", desc := "(III)I" } : Jvm.MethodName)) ∈ lw_tbl := lw_at lw_m10 184 rfl
theorem q2441 : (Jvm.Cond.instanceMethod ({ cls := "StarEyeModel", name := "seenFrom", desc := "(III)I" } : Jvm.MethodName)) ∈ lw_all := lw_g (lw_at lw_m10 185 rfl) rfl
theorem q2442 : (Jvm.Cond.code ({ cls := "StarEyeModel", name := "seenFrom", desc := "(III)I" } : Jvm.MethodName) prog_28_method_88_code (6 : Nat) (Option.some Jvm.ClassFile.FieldType.int)) ∈ lw_all := lw_g (lw_at lw_m10 186 rfl) rfl
theorem q2443 : (Jvm.Cond.methodLink "StarEyeModel" (555 : Nat) ({ cls := "StarEyeModel", name := "sees", desc := "(III)Z" } : Jvm.MethodName)) ∈ lw_all := lw_g (lw_at lw_m10 187 rfl) rfl
theorem q2444 : (Jvm.Cond.privateMethod ({ cls := "StarEyeModel", name := "sees", desc := "(III)Z" } : Jvm.MethodName)) ∈ lw_tbl := lw_at lw_m10 188 rfl
theorem q2445 : (Jvm.Cond.instanceMethod ({ cls := "StarEyeModel", name := "sees", desc := "(III)Z" } : Jvm.MethodName)) ∈ lw_all := lw_g (lw_at lw_m10 189 rfl) rfl
theorem q2446 : (Jvm.Cond.code ({ cls := "StarEyeModel", name := "sees", desc := "(III)Z" } : Jvm.MethodName) prog_28_method_87_code (4 : Nat) (Option.some Jvm.ClassFile.FieldType.boolean)) ∈ lw_all := lw_g (lw_at lw_m10 190 rfl) rfl
theorem q2448 : (Jvm.Cond.instanceMethod ({ cls := "StarEyeModel", name := "chosen", desc := "(I)I" } : Jvm.MethodName)) ∈ lw_all := lw_g (lw_at lw_m10 192 rfl) rfl
theorem q2449 : (Jvm.Cond.selects "StarEyeModel" ({ cls := "StarEyeModel", name := "chosen", desc := "(I)I" } : Jvm.MethodName) ({ cls := "StarEyeModel", name := "chosen", desc := "(I)I" } : Jvm.MethodName)) ∈ lw_all := lw_g (lw_at lw_m10 193 rfl) rfl
theorem q2450 : (Jvm.Cond.code ({ cls := "StarEyeModel", name := "chosen", desc := "(I)I" } : Jvm.MethodName) prog_28_method_92_code (4 : Nat) (Option.some Jvm.ClassFile.FieldType.int)) ∈ lw_all := lw_g (lw_at lw_m10 194 rfl) rfl
theorem q2451 : (Jvm.Cond.methodLink "StarEyeModel" (562 : Nat) ({ cls := "StarEyeModel", name := "ones", desc := "(I)I" } : Jvm.MethodName)) ∈ lw_all := lw_g (lw_at lw_m10 195 rfl) rfl
theorem q2452 : (Jvm.Cond.static ({ cls := "StarEyeModel", name := "ones", desc := "(I)I" } : Jvm.MethodName)) ∈ lw_all := lw_g (lw_at lw_m10 196 rfl) rfl
theorem q2453 : (Jvm.Cond.code ({ cls := "StarEyeModel", name := "ones", desc := "(I)I" } : Jvm.MethodName) prog_28_method_91_code (3 : Nat) (Option.some Jvm.ClassFile.FieldType.int)) ∈ lw_all := lw_g (lw_at lw_m10 197 rfl) rfl
theorem q2454 : (Jvm.Cond.methodLink "StarEyeModel" (565 : Nat) ({ cls := "StarEyeModel", name := "isEnough", desc := "(I)Z" } : Jvm.MethodName)) ∈ lw_all := lw_g (lw_at lw_m10 198 rfl) rfl
theorem q2455 : (Jvm.Cond.privateMethod ({ cls := "StarEyeModel", name := "isEnough", desc := "(I)Z" } : Jvm.MethodName)) ∈ lw_tbl := lw_at lw_m10 199 rfl
theorem q2456 : (Jvm.Cond.instanceMethod ({ cls := "StarEyeModel", name := "isEnough", desc := "(I)Z" } : Jvm.MethodName)) ∈ lw_all := lw_g (lw_at lw_m10 200 rfl) rfl
theorem q2457 : (Jvm.Cond.code ({ cls := "StarEyeModel", name := "isEnough", desc := "(I)Z" } : Jvm.MethodName) prog_28_method_90_code (5 : Nat) (Option.some Jvm.ClassFile.FieldType.boolean)) ∈ lw_all := lw_g (lw_at lw_m10 201 rfl) rfl
theorem q2459 : (Jvm.Cond.instanceMethod ({ cls := "StarEyeModel", name := "held", desc := "(I)I" } : Jvm.MethodName)) ∈ lw_all := lw_g (lw_at lw_m10 203 rfl) rfl
theorem q2460 : (Jvm.Cond.selects "StarEyeModel" ({ cls := "StarEyeModel", name := "held", desc := "(I)I" } : Jvm.MethodName) ({ cls := "StarEyeModel", name := "held", desc := "(I)I" } : Jvm.MethodName)) ∈ lw_all := lw_g (lw_at lw_m10 204 rfl) rfl
theorem q2461 : (Jvm.Cond.code ({ cls := "StarEyeModel", name := "held", desc := "(I)I" } : Jvm.MethodName) prog_28_method_93_code (7 : Nat) (Option.some Jvm.ClassFile.FieldType.int)) ∈ lw_all := lw_g (lw_at lw_m10 205 rfl) rfl
theorem q2462 : (Jvm.Cond.constant "StarEyeModel" (568 : Nat) (99999 : Int32)) ∈ lw_all := lw_g (lw_at lw_m10 206 rfl) rfl
theorem q2464 : (Jvm.Cond.instanceMethod ({ cls := "StarEyeModel", name := "doubles", desc := "()I" } : Jvm.MethodName)) ∈ lw_all := lw_g (lw_at lw_m10 208 rfl) rfl
theorem q2465 : (Jvm.Cond.selects "StarEyeModel" ({ cls := "StarEyeModel", name := "doubles", desc := "()I" } : Jvm.MethodName) ({ cls := "StarEyeModel", name := "doubles", desc := "()I" } : Jvm.MethodName)) ∈ lw_all := lw_g (lw_at lw_m10 209 rfl) rfl
theorem q2466 : (Jvm.Cond.code ({ cls := "StarEyeModel", name := "doubles", desc := "()I" } : Jvm.MethodName) prog_28_method_94_code (6 : Nat) (Option.some Jvm.ClassFile.FieldType.int)) ∈ lw_all := lw_g (lw_at lw_m10 210 rfl) rfl
theorem q2468 : (Jvm.Cond.instanceMethod ({ cls := "StarEyeModel", name := "rules", desc := "()I" } : Jvm.MethodName)) ∈ lw_all := lw_g (lw_at lw_m10 212 rfl) rfl
theorem q2469 : (Jvm.Cond.selects "StarEyeModel" ({ cls := "StarEyeModel", name := "rules", desc := "()I" } : Jvm.MethodName) ({ cls := "StarEyeModel", name := "rules", desc := "()I" } : Jvm.MethodName)) ∈ lw_all := lw_g (lw_at lw_m10 213 rfl) rfl
theorem q2470 : (Jvm.Cond.code ({ cls := "StarEyeModel", name := "rules", desc := "()I" } : Jvm.MethodName) prog_28_method_106_code (2 : Nat) (Option.some Jvm.ClassFile.FieldType.int)) ∈ lw_all := lw_g (lw_at lw_m10 214 rfl) rfl
theorem q2471 : (Jvm.Cond.methodLink "StarEyeModel" (613 : Nat) ({ cls := "StarEyeModel", name := "readRule", desc := "()V" } : Jvm.MethodName)) ∈ lw_all := lw_g (lw_at lw_m10 215 rfl) rfl
theorem q2472 : (Jvm.Cond.privateMethod ({ cls := "StarEyeModel", name := "readRule", desc := "()V" } : Jvm.MethodName)) ∈ lw_tbl := lw_at lw_m10 216 rfl
theorem q2473 : (Jvm.Cond.instanceMethod ({ cls := "StarEyeModel", name := "readRule", desc := "()V" } : Jvm.MethodName)) ∈ lw_all := lw_g (lw_at lw_m10 217 rfl) rfl
theorem q2474 : (Jvm.Cond.code ({ cls := "StarEyeModel", name := "readRule", desc := "()V" } : Jvm.MethodName) prog_28_method_105_code (2 : Nat) (Option.none : Option Jvm.ClassFile.FieldType)) ∈ lw_all := lw_g (lw_at lw_m10 218 rfl) rfl
theorem q2475 : (Jvm.Cond.methodLink "StarEyeModel" (596 : Nat) ({ cls := "StarEyeModel", name := "isOpen", desc := "()Z" } : Jvm.MethodName)) ∈ lw_all := lw_g (lw_at lw_m10 219 rfl) rfl
theorem q2476 : (Jvm.Cond.privateMethod ({ cls := "StarEyeModel", name := "isOpen", desc := "()Z" } : Jvm.MethodName)) ∈ lw_tbl := lw_at lw_m10 220 rfl
theorem q2477 : (Jvm.Cond.instanceMethod ({ cls := "StarEyeModel", name := "isOpen", desc := "()Z" } : Jvm.MethodName)) ∈ lw_all := lw_g (lw_at lw_m10 221 rfl) rfl
theorem q2478 : (Jvm.Cond.code ({ cls := "StarEyeModel", name := "isOpen", desc := "()Z" } : Jvm.MethodName) prog_28_method_100_code (3 : Nat) (Option.some Jvm.ClassFile.FieldType.boolean)) ∈ lw_all := lw_g (lw_at lw_m10 222 rfl) rfl
theorem q2479 : (Jvm.Cond.methodLink "StarEyeModel" (608 : Nat) ({ cls := "StarEyeModel", name := "sign", desc := "()I" } : Jvm.MethodName)) ∈ lw_all := lw_g (lw_at lw_m10 223 rfl) rfl
theorem q2480 : (Jvm.Cond.privateMethod ({ cls := "StarEyeModel", name := "sign", desc := "()I" } : Jvm.MethodName)) ∈ lw_tbl := lw_at lw_m10 224 rfl
theorem q2481 : (Jvm.Cond.instanceMethod ({ cls := "StarEyeModel", name := "sign", desc := "()I" } : Jvm.MethodName)) ∈ lw_all := lw_g (lw_at lw_m10 225 rfl) rfl
theorem q2482 : (Jvm.Cond.code ({ cls := "StarEyeModel", name := "sign", desc := "()I" } : Jvm.MethodName) prog_28_method_104_code (2 : Nat) (Option.some Jvm.ClassFile.FieldType.int)) ∈ lw_all := lw_g (lw_at lw_m10 226 rfl) rfl
theorem q2483 : (Jvm.Cond.methodLink "StarEyeModel" (599 : Nat) ({ cls := "StarEyeModel", name := "settle", desc := "(I)V" } : Jvm.MethodName)) ∈ lw_all := lw_g (lw_at lw_m10 227 rfl) rfl
theorem q2484 : (Jvm.Cond.privateMethod ({ cls := "StarEyeModel", name := "settle", desc := "(I)V" } : Jvm.MethodName)) ∈ lw_tbl := lw_at lw_m10 228 rfl
theorem q2485 : (Jvm.Cond.instanceMethod ({ cls := "StarEyeModel", name := "settle", desc := "(I)V" } : Jvm.MethodName)) ∈ lw_all := lw_g (lw_at lw_m10 229 rfl) rfl
theorem q2486 : (Jvm.Cond.code ({ cls := "StarEyeModel", name := "settle", desc := "(I)V" } : Jvm.MethodName) prog_28_method_99_code (2 : Nat) (Option.none : Option Jvm.ClassFile.FieldType)) ∈ lw_all := lw_g (lw_at lw_m10 230 rfl) rfl
theorem q2487 : (Jvm.Cond.methodLink "StarEyeModel" (581 : Nat) ({ cls := "StarEyeModel", name := "upper", desc := "()I" } : Jvm.MethodName)) ∈ lw_all := lw_g (lw_at lw_m10 231 rfl) rfl
theorem q2488 : (Jvm.Cond.privateMethod ({ cls := "StarEyeModel", name := "upper", desc := "()I" } : Jvm.MethodName)) ∈ lw_tbl := lw_at lw_m10 232 rfl
theorem q2489 : (Jvm.Cond.instanceMethod ({ cls := "StarEyeModel", name := "upper", desc := "()I" } : Jvm.MethodName)) ∈ lw_all := lw_g (lw_at lw_m10 233 rfl) rfl
theorem q2490 : (Jvm.Cond.code ({ cls := "StarEyeModel", name := "upper", desc := "()I" } : Jvm.MethodName) prog_28_method_96_code (1 : Nat) (Option.some Jvm.ClassFile.FieldType.int)) ∈ lw_all := lw_g (lw_at lw_m10 234 rfl) rfl
theorem q2491 : (Jvm.Cond.methodLink "StarEyeModel" (584 : Nat) ({ cls := "StarEyeModel", name := "pop", desc := "()V" } : Jvm.MethodName)) ∈ lw_all := lw_g (lw_at lw_m10 235 rfl) rfl
theorem q2492 : (Jvm.Cond.privateMethod ({ cls := "StarEyeModel", name := "pop", desc := "()V" } : Jvm.MethodName)) ∈ lw_tbl := lw_at lw_m10 236 rfl
theorem q2493 : (Jvm.Cond.instanceMethod ({ cls := "StarEyeModel", name := "pop", desc := "()V" } : Jvm.MethodName)) ∈ lw_all := lw_g (lw_at lw_m10 237 rfl) rfl
theorem q2494 : (Jvm.Cond.code ({ cls := "StarEyeModel", name := "pop", desc := "()V" } : Jvm.MethodName) prog_28_method_98_code (1 : Nat) (Option.none : Option Jvm.ClassFile.FieldType)) ∈ lw_all := lw_g (lw_at lw_m10 238 rfl) rfl
theorem q2495 : (Jvm.Cond.methodLink "StarEyeModel" (578 : Nat) ({ cls := "StarEyeModel", name := "note", desc := "(II)V" } : Jvm.MethodName)) ∈ lw_all := lw_g (lw_at lw_m10 239 rfl) rfl
theorem q2496 : (Jvm.Cond.privateMethod ({ cls := "StarEyeModel", name := "note", desc := "(II)V" } : Jvm.MethodName)) ∈ lw_tbl := lw_at lw_m11 0 rfl
theorem q2497 : (Jvm.Cond.instanceMethod ({ cls := "StarEyeModel", name := "note", desc := "(II)V" } : Jvm.MethodName)) ∈ lw_all := lw_g (lw_at lw_m11 1 rfl) rfl
theorem q2498 : (Jvm.Cond.code ({ cls := "StarEyeModel", name := "note", desc := "(II)V" } : Jvm.MethodName) prog_28_method_95_code (3 : Nat) (Option.none : Option Jvm.ClassFile.FieldType)) ∈ lw_all := lw_g (lw_at lw_m11 2 rfl) rfl
theorem q2499 : (Jvm.Cond.methodLink "StarEyeModel" (602 : Nat) ({ cls := "StarEyeModel", name := "rank", desc := "(I)I" } : Jvm.MethodName)) ∈ lw_all := lw_g (lw_at lw_m11 3 rfl) rfl
theorem q2500 : (Jvm.Cond.static ({ cls := "StarEyeModel", name := "rank", desc := "(I)I" } : Jvm.MethodName)) ∈ lw_all := lw_g (lw_at lw_m11 4 rfl) rfl
theorem q2501 : (Jvm.Cond.code ({ cls := "StarEyeModel", name := "rank", desc := "(I)I" } : Jvm.MethodName) prog_28_method_101_code (1 : Nat) (Option.some Jvm.ClassFile.FieldType.int)) ∈ lw_all := lw_g (lw_at lw_m11 5 rfl) rfl
theorem q2502 : (Jvm.Cond.methodLink "StarEyeModel" (593 : Nat) ({ cls := "StarEyeModel", name := "hold", desc := "(I)V" } : Jvm.MethodName)) ∈ lw_all := lw_g (lw_at lw_m11 6 rfl) rfl
theorem q2503 : (Jvm.Cond.privateMethod ({ cls := "StarEyeModel", name := "hold", desc := "(I)V" } : Jvm.MethodName)) ∈ lw_tbl := lw_at lw_m11 7 rfl
theorem q2504 : (Jvm.Cond.instanceMethod ({ cls := "StarEyeModel", name := "hold", desc := "(I)V" } : Jvm.MethodName)) ∈ lw_all := lw_g (lw_at lw_m11 8 rfl) rfl
theorem q2505 : (Jvm.Cond.code ({ cls := "StarEyeModel", name := "hold", desc := "(I)V" } : Jvm.MethodName) prog_28_method_97_code (2 : Nat) (Option.none : Option Jvm.ClassFile.FieldType)) ∈ lw_all := lw_g (lw_at lw_m11 9 rfl) rfl
theorem q2506 : (Jvm.Cond.methodLink "StarEyeModel" (610 : Nat) ({ cls := "StarEyeModel", name := "operand", desc := "(I)I" } : Jvm.MethodName)) ∈ lw_all := lw_g (lw_at lw_m11 10 rfl) rfl
theorem q2507 : (Jvm.Cond.privateMethod ({ cls := "StarEyeModel", name := "operand", desc := "(I)I" } : Jvm.MethodName)) ∈ lw_tbl := lw_at lw_m11 11 rfl
theorem q2508 : (Jvm.Cond.instanceMethod ({ cls := "StarEyeModel", name := "operand", desc := "(I)I" } : Jvm.MethodName)) ∈ lw_all := lw_g (lw_at lw_m11 12 rfl) rfl
theorem q2509 : (Jvm.Cond.code ({ cls := "StarEyeModel", name := "operand", desc := "(I)I" } : Jvm.MethodName) prog_28_method_103_code (5 : Nat) (Option.some Jvm.ClassFile.FieldType.int)) ∈ lw_all := lw_g (lw_at lw_m11 13 rfl) rfl
theorem q2510 : (Jvm.Cond.methodLink "StarEyeModel" (587 : Nat) ({ cls := "StarEyeModel", name := "known", desc := "()I" } : Jvm.MethodName)) ∈ lw_all := lw_g (lw_at lw_m11 14 rfl) rfl
theorem q2511 : (Jvm.Cond.privateMethod ({ cls := "StarEyeModel", name := "known", desc := "()I" } : Jvm.MethodName)) ∈ lw_tbl := lw_at lw_m11 15 rfl
theorem q2512 : (Jvm.Cond.instanceMethod ({ cls := "StarEyeModel", name := "known", desc := "()I" } : Jvm.MethodName)) ∈ lw_all := lw_g (lw_at lw_m11 16 rfl) rfl
theorem q2513 : (Jvm.Cond.code ({ cls := "StarEyeModel", name := "known", desc := "()I" } : Jvm.MethodName) prog_28_method_102_code (2 : Nat) (Option.some Jvm.ClassFile.FieldType.int)) ∈ lw_all := lw_g (lw_at lw_m11 17 rfl) rfl
theorem q2515 : (Jvm.Cond.instanceMethod ({ cls := "StarEyeModel", name := "trust", desc := "(II)I" } : Jvm.MethodName)) ∈ lw_all := lw_g (lw_at lw_m11 19 rfl) rfl
theorem q2516 : (Jvm.Cond.selects "StarEyeModel" ({ cls := "StarEyeModel", name := "trust", desc := "(II)I" } : Jvm.MethodName) ({ cls := "StarEyeModel", name := "trust", desc := "(II)I" } : Jvm.MethodName)) ∈ lw_all := lw_g (lw_at lw_m11 20 rfl) rfl
theorem q2517 : (Jvm.Cond.code ({ cls := "StarEyeModel", name := "trust", desc := "(II)I" } : Jvm.MethodName) prog_28_method_110_code (3 : Nat) (Option.some Jvm.ClassFile.FieldType.int)) ∈ lw_all := lw_g (lw_at lw_m11 21 rfl) rfl
theorem q2518 : (Jvm.Cond.methodLink "StarEyeModel" (622 : Nat) ({ cls := "StarEyeModel", name := "trustOf", desc := "(II)I" } : Jvm.MethodName)) ∈ lw_all := lw_g (lw_at lw_m11 22 rfl) rfl
theorem q2519 : (Jvm.Cond.privateMethod ({ cls := "StarEyeModel", name := "trustOf", desc := "(II)I" } : Jvm.MethodName)) ∈ lw_tbl := lw_at lw_m11 23 rfl
theorem q2520 : (Jvm.Cond.instanceMethod ({ cls := "StarEyeModel", name := "trustOf", desc := "(II)I" } : Jvm.MethodName)) ∈ lw_all := lw_g (lw_at lw_m11 24 rfl) rfl
theorem q2521 : (Jvm.Cond.code ({ cls := "StarEyeModel", name := "trustOf", desc := "(II)I" } : Jvm.MethodName) prog_28_method_109_code (6 : Nat) (Option.some Jvm.ClassFile.FieldType.int)) ∈ lw_all := lw_g (lw_at lw_m11 25 rfl) rfl
theorem q2522 : (Jvm.Cond.methodLink "StarEyeModel" (619 : Nat) ({ cls := "StarEyeModel", name := "holds", desc := "(I)Z" } : Jvm.MethodName)) ∈ lw_all := lw_g (lw_at lw_m11 26 rfl) rfl
theorem q2523 : (Jvm.Cond.privateMethod ({ cls := "StarEyeModel", name := "holds", desc := "(I)Z" } : Jvm.MethodName)) ∈ lw_tbl := lw_at lw_m11 27 rfl
theorem q2524 : (Jvm.Cond.instanceMethod ({ cls := "StarEyeModel", name := "holds", desc := "(I)Z" } : Jvm.MethodName)) ∈ lw_all := lw_g (lw_at lw_m11 28 rfl) rfl
theorem q2525 : (Jvm.Cond.code ({ cls := "StarEyeModel", name := "holds", desc := "(I)Z" } : Jvm.MethodName) prog_28_method_108_code (4 : Nat) (Option.some Jvm.ClassFile.FieldType.boolean)) ∈ lw_all := lw_g (lw_at lw_m11 29 rfl) rfl
theorem q2526 : (Jvm.Cond.methodLink "StarEyeModel" (616 : Nat) ({ cls := "StarEyeModel", name := "worked", desc := "(III)I" } : Jvm.MethodName)) ∈ lw_all := lw_g (lw_at lw_m11 30 rfl) rfl
theorem q2527 : (Jvm.Cond.static ({ cls := "StarEyeModel", name := "worked", desc := "(III)I" } : Jvm.MethodName)) ∈ lw_all := lw_g (lw_at lw_m11 31 rfl) rfl
theorem q2528 : (Jvm.Cond.code ({ cls := "StarEyeModel", name := "worked", desc := "(III)I" } : Jvm.MethodName) prog_28_method_107_code (3 : Nat) (Option.some Jvm.ClassFile.FieldType.int)) ∈ lw_all := lw_g (lw_at lw_m11 32 rfl) rfl
theorem q2530 : (Jvm.Cond.instanceMethod ({ cls := "StarEyeModel", name := "believed", desc := "(I)I" } : Jvm.MethodName)) ∈ lw_all := lw_g (lw_at lw_m11 34 rfl) rfl
theorem q2531 : (Jvm.Cond.selects "StarEyeModel" ({ cls := "StarEyeModel", name := "believed", desc := "(I)I" } : Jvm.MethodName) ({ cls := "StarEyeModel", name := "believed", desc := "(I)I" } : Jvm.MethodName)) ∈ lw_all := lw_g (lw_at lw_m11 35 rfl) rfl
theorem q2532 : (Jvm.Cond.code ({ cls := "StarEyeModel", name := "believed", desc := "(I)I" } : Jvm.MethodName) prog_28_method_111_code (6 : Nat) (Option.some Jvm.ClassFile.FieldType.int)) ∈ lw_all := lw_g (lw_at lw_m11 36 rfl) rfl
theorem q2534 : (Jvm.Cond.instanceMethod ({ cls := "StarEyeModel", name := "image", desc := "(I)I" } : Jvm.MethodName)) ∈ lw_all := lw_g (lw_at lw_m11 38 rfl) rfl
theorem q2535 : (Jvm.Cond.selects "StarEyeModel" ({ cls := "StarEyeModel", name := "image", desc := "(I)I" } : Jvm.MethodName) ({ cls := "StarEyeModel", name := "image", desc := "(I)I" } : Jvm.MethodName)) ∈ lw_all := lw_g (lw_at lw_m11 39 rfl) rfl
theorem q2536 : (Jvm.Cond.code ({ cls := "StarEyeModel", name := "image", desc := "(I)I" } : Jvm.MethodName) prog_28_method_113_code (3 : Nat) (Option.some Jvm.ClassFile.FieldType.int)) ∈ lw_all := lw_g (lw_at lw_m11 40 rfl) rfl
theorem q2537 : (Jvm.Cond.methodLink "StarEyeModel" (625 : Nat) ({ cls := "StarEyeModel", name := "isBox", desc := "(I)Z" } : Jvm.MethodName)) ∈ lw_all := lw_g (lw_at lw_m11 41 rfl) rfl
theorem q2538 : (Jvm.Cond.static ({ cls := "StarEyeModel", name := "isBox", desc := "(I)Z" } : Jvm.MethodName)) ∈ lw_all := lw_g (lw_at lw_m11 42 rfl) rfl
theorem q2539 : (Jvm.Cond.code ({ cls := "StarEyeModel", name := "isBox", desc := "(I)Z" } : Jvm.MethodName) prog_28_method_112_code (1 : Nat) (Option.some Jvm.ClassFile.FieldType.boolean)) ∈ lw_all := lw_g (lw_at lw_m11 43 rfl) rfl
theorem q2541 : (Jvm.Cond.instanceMethod ({ cls := "StarEyeModel", name := "back", desc := "(I)I" } : Jvm.MethodName)) ∈ lw_all := lw_g (lw_at lw_m11 45 rfl) rfl
theorem q2542 : (Jvm.Cond.selects "StarEyeModel" ({ cls := "StarEyeModel", name := "back", desc := "(I)I" } : Jvm.MethodName) ({ cls := "StarEyeModel", name := "back", desc := "(I)I" } : Jvm.MethodName)) ∈ lw_all := lw_g (lw_at lw_m11 46 rfl) rfl
theorem q2543 : (Jvm.Cond.code ({ cls := "StarEyeModel", name := "back", desc := "(I)I" } : Jvm.MethodName) prog_28_method_114_code (3 : Nat) (Option.some Jvm.ClassFile.FieldType.int)) ∈ lw_all := lw_g (lw_at lw_m11 47 rfl) rfl
theorem q2545 : (Jvm.Cond.instanceMethod ({ cls := "StarEyeModel", name := "about", desc := "(I)I" } : Jvm.MethodName)) ∈ lw_all := lw_g (lw_at lw_m11 49 rfl) rfl
theorem q2546 : (Jvm.Cond.selects "StarEyeModel" ({ cls := "StarEyeModel", name := "about", desc := "(I)I" } : Jvm.MethodName) ({ cls := "StarEyeModel", name := "about", desc := "(I)I" } : Jvm.MethodName)) ∈ lw_all := lw_g (lw_at lw_m11 50 rfl) rfl
theorem q2547 : (Jvm.Cond.code ({ cls := "StarEyeModel", name := "about", desc := "(I)I" } : Jvm.MethodName) prog_28_method_115_code (4 : Nat) (Option.some Jvm.ClassFile.FieldType.int)) ∈ lw_all := lw_g (lw_at lw_m11 51 rfl) rfl
theorem q2571 : (Jvm.Cond.castable "StarEyeModel" "java/lang/Object") ∈ lw_tbl := lw_at lw_m11 75 rfl
theorem in_X2 : ∀ w ∈ wsX20, w ∈ lw_all := lw_in wsX20 [1891, 1893, 1895, 1897, 1899, 1901, 1903, 1905, 1907, 1909, 1911, 1913, 1915, 1917, 1919, 1921, 1923, 1925, 1927, 1929, 1931, 1933, 1935, 1937, 1939, 1941, 1943, 1945, 1947, 1949, 1951, 1953, 1955, 1957, 1959, 1961, 1963, 1965, 1967, 1969, 1971, 1973, 1975, 1977, 1979, 1981, 1983, 1985, 1987, 1989, 1991, 1993, 1995, 1997, 1999, 2001, 2003, 2005, 2007, 2009, 2011, 2013, 2015, 2017, 2019, 2021, 2023, 2025, 2027, 2029, 2031, 2033, 2035, 2037, 2039, 2041, 2043, 2045, 2047, 2049, 2051, 2053, 2055, 2057, 2059, 2061, 2063, 2065, 2067, 2069, 2071, 2073, 2075, 2077] (by decide +kernel) (by decide +kernel)
