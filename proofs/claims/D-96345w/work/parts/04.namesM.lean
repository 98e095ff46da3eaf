/-! LeftAsFoundModel -/
set_option maxRecDepth 100000
def RX6 : String := "LeftAsFoundModel"
def TX6 : u_T := fun k => match k with
  | 0 => ("LeftAsFoundModel", "code", "I", false)
  | 1 => ("LeftAsFoundModel", "ought", "[I", true)
  | 2 => ("LeftAsFoundModel", "worth1", "[I", true)
  | 3 => ("LeftAsFoundModel", "guests", "I", false)
  | 4 => ("LeftAsFoundModel", "takes", "[I", true)
  | 5 => ("LeftAsFoundModel", "brings", "[I", true)
  | 6 => ("LeftAsFoundModel", "sees1", "[I", true)
  | 7 => ("LeftAsFoundModel", "believes", "[I", true)
  | 8 => ("LeftAsFoundModel", "rule", "I", false)
  | 9 => ("LeftAsFoundModel", "price", "I", false)
  | 10 => ("LeftAsFoundModel", "honest", "I", false)
  | 11 => ("LeftAsFoundModel", "hut", "[I", true)
  | 12 => ("LeftAsFoundModel", "doneMany", "I", false)
  | 13 => ("LeftAsFoundModel", "undoneMany", "I", false)
  | 14 => ("LeftAsFoundModel", "changeOf", "[I", true)
  | 15 => ("LeftAsFoundModel", "changeAt", "[I", true)
  | 16 => ("LeftAsFoundModel", "before", "[I", true)
  | 17 => ("LeftAsFoundModel", "behind", "[I", true)
  | 18 => ("LeftAsFoundModel", "tape", "[B", true)
  | 19 => ("LeftAsFoundModel", "taped", "I", false)
  | 20 => ("LeftAsFoundModel", "here", "I", false)
  | 21 => ("LeftAsFoundModel", "fault", "I", false)
  | 22 => ("LeftAsFoundModel", "open", "I", false)
  | 23 => ("LeftAsFoundModel", "laid", "I", false)
  | 24 => ("LeftAsFoundModel", "act", "[B", true)
  | 25 => ("LeftAsFoundModel", "with", "[I", true)
  | 26 => ("LeftAsFoundModel", "lineMany", "[I", true)
  | 27 => ("LeftAsFoundModel", "testEnd", "[S", true)
  | 28 => ("LeftAsFoundModel", "lineEnd", "[S", true)
  | 29 => ("LeftAsFoundModel", "facts", "[I", true)
  | 30 => ("LeftAsFoundModel", "pile", "[I", true)
  | 31 => ("LeftAsFoundModel", "hasLaw", "Z", false)
  | 32 => ("LeftAsFoundModel", "then1", "[I", true)
  | 33 => ("LeftAsFoundModel", "oughts", "[I", true)
  | 34 => ("LeftAsFoundModel", "keptHut", "[I", true)
  | 35 => ("LeftAsFoundModel", "stay", "[I", true)
  | 36 => ("LeftAsFoundModel", "stays", "I", false)
  | 37 => ("LeftAsFoundModel", "hutsBehind", "[I", true)
  | 38 => ("LeftAsFoundModel", "toldStay", "[I", true)
  | 39 => ("LeftAsFoundModel", "places", "[I", true)
  | 40 => ("LeftAsFoundModel", "bestPlaces", "[I", true)
  | 41 => ("LeftAsFoundModel", "leastLoss", "I", false)
  | 42 => ("LeftAsFoundModel", "lackedAhead", "[I", true)
  | 43 => ("LeftAsFoundModel", "seen", "[I", true)
  | 44 => ("LeftAsFoundModel", "seenMany", "I", false)
  | 45 => ("LeftAsFoundModel", "hutAt", "[I", true)
  | 46 => ("LeftAsFoundModel", "askedNight", "I", false)
  | 47 => ("LeftAsFoundModel", "askedGuest", "I", false)
  | 48 => ("LeftAsFoundModel", "deed", "[I", true)
  | 49 => ("LeftAsFoundModel", "hasImage", "Z", false)
  | 50 => ("LeftAsFoundModel", "imageHut", "[I", true)
  | 51 => ("LeftAsFoundModel", "imageDeed", "[I", true)
  | 52 => ("LeftAsFoundModel", "bodies", "I", false)
  | 53 => ("LeftAsFoundModel", "kind", "[I", true)
  | 54 => ("LeftAsFoundModel", "traces", "I", false)
  | 55 => ("LeftAsFoundModel", "traced", "[I", true)
  | 56 => ("LeftAsFoundModel", "holds", "[I", true)
  | 57 => ("LeftAsFoundModel", "size", "[I", true)
  | 58 => ("LeftAsFoundModel", "elements", "[J", true)
  | _ => ("LeftAsFoundModel", "shifted", "[J", true)
def tyX6 : Nat → FieldType := fun k => match k with
  | 0 => .int
  | 1 => .array .int
  | 2 => .array .int
  | 3 => .int
  | 4 => .array .int
  | 5 => .array .int
  | 6 => .array .int
  | 7 => .array .int
  | 8 => .int
  | 9 => .int
  | 10 => .int
  | 11 => .array .int
  | 12 => .int
  | 13 => .int
  | 14 => .array .int
  | 15 => .array .int
  | 16 => .array .int
  | 17 => .array .int
  | 18 => .array .byte
  | 19 => .int
  | 20 => .int
  | 21 => .int
  | 22 => .int
  | 23 => .int
  | 24 => .array .byte
  | 25 => .array .int
  | 26 => .array .int
  | 27 => .array .short
  | 28 => .array .short
  | 29 => .array .int
  | 30 => .array .int
  | 31 => .boolean
  | 32 => .array .int
  | 33 => .array .int
  | 34 => .array .int
  | 35 => .array .int
  | 36 => .int
  | 37 => .array .int
  | 38 => .array .int
  | 39 => .array .int
  | 40 => .array .int
  | 41 => .int
  | 42 => .array .int
  | 43 => .array .int
  | 44 => .int
  | 45 => .array .int
  | 46 => .int
  | 47 => .int
  | 48 => .array .int
  | 49 => .boolean
  | 50 => .array .int
  | 51 => .array .int
  | 52 => .int
  | 53 => .array .int
  | 54 => .int
  | 55 => .array .int
  | 56 => .array .int
  | 57 => .array .int
  | 58 => .array .long
  | _ => .array .long
abbrev wsX60 : List Cond := u_ws RX6 TX6 60
set_option maxRecDepth 100000 in
theorem nmX6 : ∀ a, a < 60 → ∀ b, b < 60 → a ≠ b → (TX6 a).2.1 ≠ (TX6 b).2.1 := by decide +kernel
set_option maxRecDepth 100000 in
theorem tyX6_ok : ∀ k, k < 60 → parseFieldDescriptor (TX6 k).2.2.1 = some (tyX6 k) := by decide +kernel
abbrev cX6_init : ByteArray := prog_25_method_1_code
def yX6_init : MethodName := ⟨RX6, "<init>", "()V"⟩
def dkwX6_init_27 : List UInt8 := [17, 1, 104, 188, 11, 181, 0, 135, 42, 16, 60, 188, 11, 181, 0, 139, 177]
abbrev dktX6_init_27 : List UInt8 := dkwX6_init_27 ++ []
def dkwX6_init_26 : List UInt8 := [2, 79, 89, 7, 2, 79, 89, 8, 2, 79, 181, 0, 129, 42, 16, 6, 188, 10, 181, 0, 132, 42]
abbrev dktX6_init_26 : List UInt8 := dkwX6_init_26 ++ dktX6_init_27
def dkwX6_init_25 : List UInt8 := [188, 10, 181, 0, 126, 42, 16, 6, 188, 10, 89, 3, 2, 79, 89, 4, 2, 79, 89, 5, 2, 79, 89, 6]
abbrev dktX6_init_25 : List UInt8 := dkwX6_init_25 ++ dktX6_init_26
def dkwX6_init_24 : List UInt8 := [188, 10, 181, 0, 117, 42, 7, 188, 10, 181, 0, 120, 42, 16, 50, 188, 10, 181, 0, 123, 42, 16, 24]
abbrev dktX6_init_24 : List UInt8 := dkwX6_init_24 ++ dktX6_init_25
def dkwX6_init_23 : List UInt8 := [89, 3, 3, 79, 89, 4, 3, 79, 89, 5, 3, 79, 89, 6, 16, 254, 79, 181, 0, 114, 42, 16, 48]
abbrev dktX6_init_23 : List UInt8 := dkwX6_init_23 ++ dktX6_init_24
def dkwX6_init_22 : List UInt8 := [181, 0, 105, 42, 16, 60, 188, 10, 181, 0, 108, 42, 17, 1, 80, 188, 10, 181, 0, 111, 42, 7, 188, 10]
abbrev dktX6_init_22 : List UInt8 := dkwX6_init_22 ++ dktX6_init_23
def dkwX6_init_21 : List UInt8 := [188, 10, 181, 0, 96, 42, 8, 188, 10, 181, 0, 99, 42, 8, 188, 10, 181, 0, 102, 42, 7, 188, 10]
abbrev dktX6_init_21 : List UInt8 := dkwX6_init_21 ++ dktX6_init_22
def dkwX6_init_20 : List UInt8 := [181, 0, 87, 42, 16, 30, 188, 10, 181, 0, 90, 42, 17, 37, 176, 188, 10, 181, 0, 93, 42, 16, 30]
abbrev dktX6_init_20 : List UInt8 := dkwX6_init_20 ++ dktX6_init_21
def dkwX6_init_19 : List UInt8 := [181, 0, 78, 42, 7, 188, 10, 181, 0, 81, 42, 7, 188, 10, 181, 0, 84, 42, 16, 48, 188, 10]
abbrev dktX6_init_19 : List UInt8 := dkwX6_init_19 ++ dktX6_init_20
def dkwX6_init_18 : List UInt8 := [42, 16, 122, 188, 9, 181, 0, 72, 42, 16, 6, 188, 10, 181, 0, 75, 42, 17, 0, 130, 188, 10]
abbrev dktX6_init_18 : List UInt8 := dkwX6_init_18 ++ dktX6_init_19
def dkwX6_init_17 : List UInt8 := [42, 17, 1, 4, 188, 10, 181, 0, 62, 42, 5, 188, 10, 181, 0, 65, 42, 16, 122, 188, 9, 181, 0, 68]
abbrev dktX6_init_17 : List UInt8 := dkwX6_init_17 ++ dktX6_init_18
def dkwX6_init_16 : List UInt8 := [16, 40, 188, 10, 181, 0, 52, 42, 16, 120, 188, 8, 181, 0, 55, 42, 17, 1, 4, 188, 8, 181, 0, 59]
abbrev dktX6_init_16 : List UInt8 := dkwX6_init_16 ++ dktX6_init_17
def dkwX6_init_15 : List UInt8 := [16, 40, 188, 10, 181, 0, 43, 42, 16, 40, 188, 10, 181, 0, 46, 42, 16, 40, 188, 10, 181, 0, 49, 42]
abbrev dktX6_init_15 : List UInt8 := dkwX6_init_15 ++ dktX6_init_16
def dkwX6_init_14 : List UInt8 := [16, 44, 3, 79, 89, 16, 45, 3, 79, 89, 16, 46, 3, 79, 89, 16, 47, 3, 79, 181, 0, 40, 42]
abbrev dktX6_init_14 : List UInt8 := dkwX6_init_14 ++ dktX6_init_15
def dkwX6_init_13 : List UInt8 := [3, 79, 89, 16, 40, 3, 79, 89, 16, 41, 3, 79, 89, 16, 42, 3, 79, 89, 16, 43, 3, 79, 89]
abbrev dktX6_init_13 : List UInt8 := dkwX6_init_13 ++ dktX6_init_14
def dkwX6_init_12 : List UInt8 := [79, 89, 16, 35, 3, 79, 89, 16, 36, 3, 79, 89, 16, 37, 3, 79, 89, 16, 38, 3, 79, 89, 16, 39]
abbrev dktX6_init_12 : List UInt8 := dkwX6_init_12 ++ dktX6_init_13
def dkwX6_init_11 : List UInt8 := [89, 16, 30, 3, 79, 89, 16, 31, 3, 79, 89, 16, 32, 3, 79, 89, 16, 33, 3, 79, 89, 16, 34, 3]
abbrev dktX6_init_11 : List UInt8 := dkwX6_init_11 ++ dktX6_init_12
def dkwX6_init_10 : List UInt8 := [16, 25, 3, 79, 89, 16, 26, 3, 79, 89, 16, 27, 3, 79, 89, 16, 28, 3, 79, 89, 16, 29, 3, 79]
abbrev dktX6_init_10 : List UInt8 := dkwX6_init_10 ++ dktX6_init_11
def dkwX6_init_9 : List UInt8 := [3, 79, 89, 16, 21, 3, 79, 89, 16, 22, 3, 79, 89, 16, 23, 3, 79, 89, 16, 24, 3, 79, 89]
abbrev dktX6_init_9 : List UInt8 := dkwX6_init_9 ++ dktX6_init_10
def dkwX6_init_8 : List UInt8 := [79, 89, 16, 16, 3, 79, 89, 16, 17, 3, 79, 89, 16, 18, 3, 79, 89, 16, 19, 3, 79, 89, 16, 20]
abbrev dktX6_init_8 : List UInt8 := dkwX6_init_8 ++ dktX6_init_9
def dkwX6_init_7 : List UInt8 := [89, 16, 11, 3, 79, 89, 16, 12, 3, 79, 89, 16, 13, 3, 79, 89, 16, 14, 3, 79, 89, 16, 15, 3]
abbrev dktX6_init_7 : List UInt8 := dkwX6_init_7 ++ dktX6_init_8
def dkwX6_init_6 : List UInt8 := [16, 50, 79, 89, 16, 7, 16, 50, 79, 89, 16, 8, 3, 79, 89, 16, 9, 3, 79, 89, 16, 10, 3, 79]
abbrev dktX6_init_6 : List UInt8 := dkwX6_init_6 ++ dktX6_init_7
def dkwX6_init_5 : List UInt8 := [89, 5, 16, 50, 79, 89, 6, 16, 50, 79, 89, 7, 16, 50, 79, 89, 8, 16, 50, 79, 89, 16, 6]
abbrev dktX6_init_5 : List UInt8 := dkwX6_init_5 ++ dktX6_init_6
def dkwX6_init_4 : List UInt8 := [181, 0, 34, 42, 16, 6, 181, 0, 37, 42, 16, 48, 188, 10, 89, 3, 16, 50, 79, 89, 4, 16, 50, 79]
abbrev dktX6_init_4 : List UInt8 := dkwX6_init_4 ++ dktX6_init_5
def dkwX6_init_3 : List UInt8 := [16, 7, 188, 10, 181, 0, 24, 42, 16, 7, 188, 10, 181, 0, 27, 42, 16, 50, 181, 0, 30, 42, 16, 20]
abbrev dktX6_init_3 : List UInt8 := dkwX6_init_3 ++ dktX6_init_4
def dkwX6_init_2 : List UInt8 := [6, 4, 79, 181, 0, 15, 42, 16, 28, 188, 10, 181, 0, 18, 42, 16, 28, 188, 10, 181, 0, 21, 42]
abbrev dktX6_init_2 : List UInt8 := dkwX6_init_2 ++ dktX6_init_3
def dkwX6_init_1 : List UInt8 := [6, 16, 50, 79, 181, 0, 9, 42, 7, 188, 10, 89, 3, 4, 79, 89, 4, 4, 79, 89, 5, 4, 79, 89]
abbrev dktX6_init_1 : List UInt8 := dkwX6_init_1 ++ dktX6_init_2
def dkwX6_init_0 : List UInt8 := [42, 183, 0, 3, 42, 7, 188, 10, 89, 3, 16, 50, 79, 89, 4, 16, 50, 79, 89, 5, 16, 50, 79, 89]
abbrev dktX6_init_0 : List UInt8 := dkwX6_init_0 ++ dktX6_init_1
theorem dksX6_init_0 : cX6_init.data.toList.drop 0 = dktX6_init_0 := by decide +kernel
theorem dksX6_init_1 : cX6_init.data.toList.drop 24 = dktX6_init_1 := dk_seg dksX6_init_0 24 rfl rfl
theorem dksX6_init_2 : cX6_init.data.toList.drop 48 = dktX6_init_2 := dk_seg dksX6_init_1 24 rfl rfl
theorem dksX6_init_3 : cX6_init.data.toList.drop 71 = dktX6_init_3 := dk_seg dksX6_init_2 23 rfl rfl
theorem dksX6_init_4 : cX6_init.data.toList.drop 95 = dktX6_init_4 := dk_seg dksX6_init_3 24 rfl rfl
theorem dksX6_init_5 : cX6_init.data.toList.drop 119 = dktX6_init_5 := dk_seg dksX6_init_4 24 rfl rfl
theorem dksX6_init_6 : cX6_init.data.toList.drop 142 = dktX6_init_6 := dk_seg dksX6_init_5 23 rfl rfl
theorem dksX6_init_7 : cX6_init.data.toList.drop 166 = dktX6_init_7 := dk_seg dksX6_init_6 24 rfl rfl
theorem dksX6_init_8 : cX6_init.data.toList.drop 190 = dktX6_init_8 := dk_seg dksX6_init_7 24 rfl rfl
theorem dksX6_init_9 : cX6_init.data.toList.drop 214 = dktX6_init_9 := dk_seg dksX6_init_8 24 rfl rfl
theorem dksX6_init_10 : cX6_init.data.toList.drop 237 = dktX6_init_10 := dk_seg dksX6_init_9 23 rfl rfl
theorem dksX6_init_11 : cX6_init.data.toList.drop 261 = dktX6_init_11 := dk_seg dksX6_init_10 24 rfl rfl
theorem dksX6_init_12 : cX6_init.data.toList.drop 285 = dktX6_init_12 := dk_seg dksX6_init_11 24 rfl rfl
theorem dksX6_init_13 : cX6_init.data.toList.drop 309 = dktX6_init_13 := dk_seg dksX6_init_12 24 rfl rfl
theorem dksX6_init_14 : cX6_init.data.toList.drop 332 = dktX6_init_14 := dk_seg dksX6_init_13 23 rfl rfl
theorem dksX6_init_15 : cX6_init.data.toList.drop 355 = dktX6_init_15 := dk_seg dksX6_init_14 23 rfl rfl
theorem dksX6_init_16 : cX6_init.data.toList.drop 379 = dktX6_init_16 := dk_seg dksX6_init_15 24 rfl rfl
theorem dksX6_init_17 : cX6_init.data.toList.drop 403 = dktX6_init_17 := dk_seg dksX6_init_16 24 rfl rfl
theorem dksX6_init_18 : cX6_init.data.toList.drop 427 = dktX6_init_18 := dk_seg dksX6_init_17 24 rfl rfl
theorem dksX6_init_19 : cX6_init.data.toList.drop 449 = dktX6_init_19 := dk_seg dksX6_init_18 22 rfl rfl
theorem dksX6_init_20 : cX6_init.data.toList.drop 471 = dktX6_init_20 := dk_seg dksX6_init_19 22 rfl rfl
theorem dksX6_init_21 : cX6_init.data.toList.drop 494 = dktX6_init_21 := dk_seg dksX6_init_20 23 rfl rfl
theorem dksX6_init_22 : cX6_init.data.toList.drop 517 = dktX6_init_22 := dk_seg dksX6_init_21 23 rfl rfl
theorem dksX6_init_23 : cX6_init.data.toList.drop 541 = dktX6_init_23 := dk_seg dksX6_init_22 24 rfl rfl
theorem dksX6_init_24 : cX6_init.data.toList.drop 564 = dktX6_init_24 := dk_seg dksX6_init_23 23 rfl rfl
theorem dksX6_init_25 : cX6_init.data.toList.drop 587 = dktX6_init_25 := dk_seg dksX6_init_24 23 rfl rfl
theorem dksX6_init_26 : cX6_init.data.toList.drop 611 = dktX6_init_26 := dk_seg dksX6_init_25 24 rfl rfl
theorem dksX6_init_27 : cX6_init.data.toList.drop 633 = dktX6_init_27 := dk_seg dksX6_init_26 22 rfl rfl
theorem dX6_init_0 : decode cX6_init 0 = .ok (.aload_n 0, 1) := dk_42 (dk_at dksX6_init_0 0 rfl rfl)
theorem dX6_init_1 : decode cX6_init 1 = .ok (.invokespecial 3, 3) := dk_183 0 3 (dk_at dksX6_init_0 1 rfl rfl)
theorem dX6_init_4 : decode cX6_init 4 = .ok (.aload_n 0, 1) := dk_42 (dk_at dksX6_init_0 4 rfl rfl)
theorem dX6_init_5 : decode cX6_init 5 = .ok (.iconst 4, 1) := dk_7 (dk_at dksX6_init_0 5 rfl rfl)
theorem dX6_init_6 : decode cX6_init 6 = .ok (.newarray .int, 2) := dk_188_10 (dk_at dksX6_init_0 6 rfl rfl)
theorem dX6_init_8 : decode cX6_init 8 = .ok (.dup, 1) := dk_89 (dk_at dksX6_init_0 8 rfl rfl)
theorem dX6_init_9 : decode cX6_init 9 = .ok (.iconst 0, 1) := dk_3 (dk_at dksX6_init_0 9 rfl rfl)
theorem dX6_init_10 : decode cX6_init 10 = .ok (.bipush 50, 2) := dk_16 50 (dk_at dksX6_init_0 10 rfl rfl)
theorem dX6_init_12 : decode cX6_init 12 = .ok (.iastore, 1) := dk_79 (dk_at dksX6_init_0 12 rfl rfl)
theorem dX6_init_13 : decode cX6_init 13 = .ok (.dup, 1) := dk_89 (dk_at dksX6_init_0 13 rfl rfl)
theorem dX6_init_14 : decode cX6_init 14 = .ok (.iconst 1, 1) := dk_4 (dk_at dksX6_init_0 14 rfl rfl)
theorem dX6_init_15 : decode cX6_init 15 = .ok (.bipush 50, 2) := dk_16 50 (dk_at dksX6_init_0 15 rfl rfl)
theorem dX6_init_17 : decode cX6_init 17 = .ok (.iastore, 1) := dk_79 (dk_at dksX6_init_0 17 rfl rfl)
theorem dX6_init_18 : decode cX6_init 18 = .ok (.dup, 1) := dk_89 (dk_at dksX6_init_0 18 rfl rfl)
theorem dX6_init_19 : decode cX6_init 19 = .ok (.iconst 2, 1) := dk_5 (dk_at dksX6_init_0 19 rfl rfl)
theorem dX6_init_20 : decode cX6_init 20 = .ok (.bipush 50, 2) := dk_16 50 (dk_at dksX6_init_0 20 rfl rfl)
theorem dX6_init_22 : decode cX6_init 22 = .ok (.iastore, 1) := dk_79 (dk_at dksX6_init_0 22 rfl rfl)
theorem dX6_init_23 : decode cX6_init 23 = .ok (.dup, 1) := dk_89 (dk_at dksX6_init_0 23 rfl rfl)
theorem dX6_init_24 : decode cX6_init 24 = .ok (.iconst 3, 1) := dk_6 (dk_at dksX6_init_1 0 rfl rfl)
theorem dX6_init_25 : decode cX6_init 25 = .ok (.bipush 50, 2) := dk_16 50 (dk_at dksX6_init_1 1 rfl rfl)
theorem dX6_init_27 : decode cX6_init 27 = .ok (.iastore, 1) := dk_79 (dk_at dksX6_init_1 3 rfl rfl)
theorem dX6_init_28 : decode cX6_init 28 = .ok (.putfield 9, 3) := dk_181 0 9 (dk_at dksX6_init_1 4 rfl rfl)
theorem dX6_init_31 : decode cX6_init 31 = .ok (.aload_n 0, 1) := dk_42 (dk_at dksX6_init_1 7 rfl rfl)
theorem dX6_init_32 : decode cX6_init 32 = .ok (.iconst 4, 1) := dk_7 (dk_at dksX6_init_1 8 rfl rfl)
theorem dX6_init_33 : decode cX6_init 33 = .ok (.newarray .int, 2) := dk_188_10 (dk_at dksX6_init_1 9 rfl rfl)
theorem dX6_init_35 : decode cX6_init 35 = .ok (.dup, 1) := dk_89 (dk_at dksX6_init_1 11 rfl rfl)
theorem dX6_init_36 : decode cX6_init 36 = .ok (.iconst 0, 1) := dk_3 (dk_at dksX6_init_1 12 rfl rfl)
theorem dX6_init_37 : decode cX6_init 37 = .ok (.iconst 1, 1) := dk_4 (dk_at dksX6_init_1 13 rfl rfl)
theorem dX6_init_38 : decode cX6_init 38 = .ok (.iastore, 1) := dk_79 (dk_at dksX6_init_1 14 rfl rfl)
theorem dX6_init_39 : decode cX6_init 39 = .ok (.dup, 1) := dk_89 (dk_at dksX6_init_1 15 rfl rfl)
theorem dX6_init_40 : decode cX6_init 40 = .ok (.iconst 1, 1) := dk_4 (dk_at dksX6_init_1 16 rfl rfl)
theorem dX6_init_41 : decode cX6_init 41 = .ok (.iconst 1, 1) := dk_4 (dk_at dksX6_init_1 17 rfl rfl)
theorem dX6_init_42 : decode cX6_init 42 = .ok (.iastore, 1) := dk_79 (dk_at dksX6_init_1 18 rfl rfl)
theorem dX6_init_43 : decode cX6_init 43 = .ok (.dup, 1) := dk_89 (dk_at dksX6_init_1 19 rfl rfl)
theorem dX6_init_44 : decode cX6_init 44 = .ok (.iconst 2, 1) := dk_5 (dk_at dksX6_init_1 20 rfl rfl)
theorem dX6_init_45 : decode cX6_init 45 = .ok (.iconst 1, 1) := dk_4 (dk_at dksX6_init_1 21 rfl rfl)
theorem dX6_init_46 : decode cX6_init 46 = .ok (.iastore, 1) := dk_79 (dk_at dksX6_init_1 22 rfl rfl)
theorem dX6_init_47 : decode cX6_init 47 = .ok (.dup, 1) := dk_89 (dk_at dksX6_init_1 23 rfl rfl)
theorem dX6_init_48 : decode cX6_init 48 = .ok (.iconst 3, 1) := dk_6 (dk_at dksX6_init_2 0 rfl rfl)
theorem dX6_init_49 : decode cX6_init 49 = .ok (.iconst 1, 1) := dk_4 (dk_at dksX6_init_2 1 rfl rfl)
theorem dX6_init_50 : decode cX6_init 50 = .ok (.iastore, 1) := dk_79 (dk_at dksX6_init_2 2 rfl rfl)
theorem dX6_init_51 : decode cX6_init 51 = .ok (.putfield 15, 3) := dk_181 0 15 (dk_at dksX6_init_2 3 rfl rfl)
theorem dX6_init_54 : decode cX6_init 54 = .ok (.aload_n 0, 1) := dk_42 (dk_at dksX6_init_2 6 rfl rfl)
theorem dX6_init_55 : decode cX6_init 55 = .ok (.bipush 28, 2) := dk_16 28 (dk_at dksX6_init_2 7 rfl rfl)
theorem dX6_init_57 : decode cX6_init 57 = .ok (.newarray .int, 2) := dk_188_10 (dk_at dksX6_init_2 9 rfl rfl)
theorem dX6_init_59 : decode cX6_init 59 = .ok (.putfield 18, 3) := dk_181 0 18 (dk_at dksX6_init_2 11 rfl rfl)
theorem dX6_init_62 : decode cX6_init 62 = .ok (.aload_n 0, 1) := dk_42 (dk_at dksX6_init_2 14 rfl rfl)
theorem dX6_init_63 : decode cX6_init 63 = .ok (.bipush 28, 2) := dk_16 28 (dk_at dksX6_init_2 15 rfl rfl)
theorem dX6_init_65 : decode cX6_init 65 = .ok (.newarray .int, 2) := dk_188_10 (dk_at dksX6_init_2 17 rfl rfl)
theorem dX6_init_67 : decode cX6_init 67 = .ok (.putfield 21, 3) := dk_181 0 21 (dk_at dksX6_init_2 19 rfl rfl)
theorem dX6_init_70 : decode cX6_init 70 = .ok (.aload_n 0, 1) := dk_42 (dk_at dksX6_init_2 22 rfl rfl)
theorem dX6_init_71 : decode cX6_init 71 = .ok (.bipush 7, 2) := dk_16 7 (dk_at dksX6_init_3 0 rfl rfl)
theorem dX6_init_73 : decode cX6_init 73 = .ok (.newarray .int, 2) := dk_188_10 (dk_at dksX6_init_3 2 rfl rfl)
theorem dX6_init_75 : decode cX6_init 75 = .ok (.putfield 24, 3) := dk_181 0 24 (dk_at dksX6_init_3 4 rfl rfl)
theorem dX6_init_78 : decode cX6_init 78 = .ok (.aload_n 0, 1) := dk_42 (dk_at dksX6_init_3 7 rfl rfl)
theorem dX6_init_79 : decode cX6_init 79 = .ok (.bipush 7, 2) := dk_16 7 (dk_at dksX6_init_3 8 rfl rfl)
theorem dX6_init_81 : decode cX6_init 81 = .ok (.newarray .int, 2) := dk_188_10 (dk_at dksX6_init_3 10 rfl rfl)
theorem dX6_init_83 : decode cX6_init 83 = .ok (.putfield 27, 3) := dk_181 0 27 (dk_at dksX6_init_3 12 rfl rfl)
theorem dX6_init_86 : decode cX6_init 86 = .ok (.aload_n 0, 1) := dk_42 (dk_at dksX6_init_3 15 rfl rfl)
theorem dX6_init_87 : decode cX6_init 87 = .ok (.bipush 50, 2) := dk_16 50 (dk_at dksX6_init_3 16 rfl rfl)
theorem dX6_init_89 : decode cX6_init 89 = .ok (.putfield 30, 3) := dk_181 0 30 (dk_at dksX6_init_3 18 rfl rfl)
theorem dX6_init_92 : decode cX6_init 92 = .ok (.aload_n 0, 1) := dk_42 (dk_at dksX6_init_3 21 rfl rfl)
theorem dX6_init_93 : decode cX6_init 93 = .ok (.bipush 20, 2) := dk_16 20 (dk_at dksX6_init_3 22 rfl rfl)
theorem dX6_init_95 : decode cX6_init 95 = .ok (.putfield 34, 3) := dk_181 0 34 (dk_at dksX6_init_4 0 rfl rfl)
theorem dX6_init_98 : decode cX6_init 98 = .ok (.aload_n 0, 1) := dk_42 (dk_at dksX6_init_4 3 rfl rfl)
theorem dX6_init_99 : decode cX6_init 99 = .ok (.bipush 6, 2) := dk_16 6 (dk_at dksX6_init_4 4 rfl rfl)
theorem dX6_init_101 : decode cX6_init 101 = .ok (.putfield 37, 3) := dk_181 0 37 (dk_at dksX6_init_4 6 rfl rfl)
theorem dX6_init_104 : decode cX6_init 104 = .ok (.aload_n 0, 1) := dk_42 (dk_at dksX6_init_4 9 rfl rfl)
theorem dX6_init_105 : decode cX6_init 105 = .ok (.bipush 48, 2) := dk_16 48 (dk_at dksX6_init_4 10 rfl rfl)
theorem dX6_init_107 : decode cX6_init 107 = .ok (.newarray .int, 2) := dk_188_10 (dk_at dksX6_init_4 12 rfl rfl)
theorem dX6_init_109 : decode cX6_init 109 = .ok (.dup, 1) := dk_89 (dk_at dksX6_init_4 14 rfl rfl)
theorem dX6_init_110 : decode cX6_init 110 = .ok (.iconst 0, 1) := dk_3 (dk_at dksX6_init_4 15 rfl rfl)
theorem dX6_init_111 : decode cX6_init 111 = .ok (.bipush 50, 2) := dk_16 50 (dk_at dksX6_init_4 16 rfl rfl)
theorem dX6_init_113 : decode cX6_init 113 = .ok (.iastore, 1) := dk_79 (dk_at dksX6_init_4 18 rfl rfl)
theorem dX6_init_114 : decode cX6_init 114 = .ok (.dup, 1) := dk_89 (dk_at dksX6_init_4 19 rfl rfl)
theorem dX6_init_115 : decode cX6_init 115 = .ok (.iconst 1, 1) := dk_4 (dk_at dksX6_init_4 20 rfl rfl)
theorem dX6_init_116 : decode cX6_init 116 = .ok (.bipush 50, 2) := dk_16 50 (dk_at dksX6_init_4 21 rfl rfl)
theorem dX6_init_118 : decode cX6_init 118 = .ok (.iastore, 1) := dk_79 (dk_at dksX6_init_4 23 rfl rfl)
theorem dX6_init_119 : decode cX6_init 119 = .ok (.dup, 1) := dk_89 (dk_at dksX6_init_5 0 rfl rfl)
theorem dX6_init_120 : decode cX6_init 120 = .ok (.iconst 2, 1) := dk_5 (dk_at dksX6_init_5 1 rfl rfl)
theorem dX6_init_121 : decode cX6_init 121 = .ok (.bipush 50, 2) := dk_16 50 (dk_at dksX6_init_5 2 rfl rfl)
theorem dX6_init_123 : decode cX6_init 123 = .ok (.iastore, 1) := dk_79 (dk_at dksX6_init_5 4 rfl rfl)
theorem dX6_init_124 : decode cX6_init 124 = .ok (.dup, 1) := dk_89 (dk_at dksX6_init_5 5 rfl rfl)
theorem dX6_init_125 : decode cX6_init 125 = .ok (.iconst 3, 1) := dk_6 (dk_at dksX6_init_5 6 rfl rfl)
theorem dX6_init_126 : decode cX6_init 126 = .ok (.bipush 50, 2) := dk_16 50 (dk_at dksX6_init_5 7 rfl rfl)
theorem dX6_init_128 : decode cX6_init 128 = .ok (.iastore, 1) := dk_79 (dk_at dksX6_init_5 9 rfl rfl)
theorem dX6_init_129 : decode cX6_init 129 = .ok (.dup, 1) := dk_89 (dk_at dksX6_init_5 10 rfl rfl)
theorem dX6_init_130 : decode cX6_init 130 = .ok (.iconst 4, 1) := dk_7 (dk_at dksX6_init_5 11 rfl rfl)
theorem dX6_init_131 : decode cX6_init 131 = .ok (.bipush 50, 2) := dk_16 50 (dk_at dksX6_init_5 12 rfl rfl)
theorem dX6_init_133 : decode cX6_init 133 = .ok (.iastore, 1) := dk_79 (dk_at dksX6_init_5 14 rfl rfl)
theorem dX6_init_134 : decode cX6_init 134 = .ok (.dup, 1) := dk_89 (dk_at dksX6_init_5 15 rfl rfl)
theorem dX6_init_135 : decode cX6_init 135 = .ok (.iconst 5, 1) := dk_8 (dk_at dksX6_init_5 16 rfl rfl)
theorem dX6_init_136 : decode cX6_init 136 = .ok (.bipush 50, 2) := dk_16 50 (dk_at dksX6_init_5 17 rfl rfl)
theorem dX6_init_138 : decode cX6_init 138 = .ok (.iastore, 1) := dk_79 (dk_at dksX6_init_5 19 rfl rfl)
theorem dX6_init_139 : decode cX6_init 139 = .ok (.dup, 1) := dk_89 (dk_at dksX6_init_5 20 rfl rfl)
theorem dX6_init_140 : decode cX6_init 140 = .ok (.bipush 6, 2) := dk_16 6 (dk_at dksX6_init_5 21 rfl rfl)
theorem dX6_init_142 : decode cX6_init 142 = .ok (.bipush 50, 2) := dk_16 50 (dk_at dksX6_init_6 0 rfl rfl)
theorem dX6_init_144 : decode cX6_init 144 = .ok (.iastore, 1) := dk_79 (dk_at dksX6_init_6 2 rfl rfl)
theorem dX6_init_145 : decode cX6_init 145 = .ok (.dup, 1) := dk_89 (dk_at dksX6_init_6 3 rfl rfl)
theorem dX6_init_146 : decode cX6_init 146 = .ok (.bipush 7, 2) := dk_16 7 (dk_at dksX6_init_6 4 rfl rfl)
theorem dX6_init_148 : decode cX6_init 148 = .ok (.bipush 50, 2) := dk_16 50 (dk_at dksX6_init_6 6 rfl rfl)
theorem dX6_init_150 : decode cX6_init 150 = .ok (.iastore, 1) := dk_79 (dk_at dksX6_init_6 8 rfl rfl)
theorem dX6_init_151 : decode cX6_init 151 = .ok (.dup, 1) := dk_89 (dk_at dksX6_init_6 9 rfl rfl)
theorem dX6_init_152 : decode cX6_init 152 = .ok (.bipush 8, 2) := dk_16 8 (dk_at dksX6_init_6 10 rfl rfl)
theorem dX6_init_154 : decode cX6_init 154 = .ok (.iconst 0, 1) := dk_3 (dk_at dksX6_init_6 12 rfl rfl)
theorem dX6_init_155 : decode cX6_init 155 = .ok (.iastore, 1) := dk_79 (dk_at dksX6_init_6 13 rfl rfl)
theorem dX6_init_156 : decode cX6_init 156 = .ok (.dup, 1) := dk_89 (dk_at dksX6_init_6 14 rfl rfl)
theorem dX6_init_157 : decode cX6_init 157 = .ok (.bipush 9, 2) := dk_16 9 (dk_at dksX6_init_6 15 rfl rfl)
theorem dX6_init_159 : decode cX6_init 159 = .ok (.iconst 0, 1) := dk_3 (dk_at dksX6_init_6 17 rfl rfl)
theorem dX6_init_160 : decode cX6_init 160 = .ok (.iastore, 1) := dk_79 (dk_at dksX6_init_6 18 rfl rfl)
theorem dX6_init_161 : decode cX6_init 161 = .ok (.dup, 1) := dk_89 (dk_at dksX6_init_6 19 rfl rfl)
theorem dX6_init_162 : decode cX6_init 162 = .ok (.bipush 10, 2) := dk_16 10 (dk_at dksX6_init_6 20 rfl rfl)
theorem dX6_init_164 : decode cX6_init 164 = .ok (.iconst 0, 1) := dk_3 (dk_at dksX6_init_6 22 rfl rfl)
theorem dX6_init_165 : decode cX6_init 165 = .ok (.iastore, 1) := dk_79 (dk_at dksX6_init_6 23 rfl rfl)
theorem dX6_init_166 : decode cX6_init 166 = .ok (.dup, 1) := dk_89 (dk_at dksX6_init_7 0 rfl rfl)
theorem dX6_init_167 : decode cX6_init 167 = .ok (.bipush 11, 2) := dk_16 11 (dk_at dksX6_init_7 1 rfl rfl)
theorem dX6_init_169 : decode cX6_init 169 = .ok (.iconst 0, 1) := dk_3 (dk_at dksX6_init_7 3 rfl rfl)
theorem dX6_init_170 : decode cX6_init 170 = .ok (.iastore, 1) := dk_79 (dk_at dksX6_init_7 4 rfl rfl)
theorem dX6_init_171 : decode cX6_init 171 = .ok (.dup, 1) := dk_89 (dk_at dksX6_init_7 5 rfl rfl)
theorem dX6_init_172 : decode cX6_init 172 = .ok (.bipush 12, 2) := dk_16 12 (dk_at dksX6_init_7 6 rfl rfl)
theorem dX6_init_174 : decode cX6_init 174 = .ok (.iconst 0, 1) := dk_3 (dk_at dksX6_init_7 8 rfl rfl)
theorem dX6_init_175 : decode cX6_init 175 = .ok (.iastore, 1) := dk_79 (dk_at dksX6_init_7 9 rfl rfl)
theorem dX6_init_176 : decode cX6_init 176 = .ok (.dup, 1) := dk_89 (dk_at dksX6_init_7 10 rfl rfl)
theorem dX6_init_177 : decode cX6_init 177 = .ok (.bipush 13, 2) := dk_16 13 (dk_at dksX6_init_7 11 rfl rfl)
theorem dX6_init_179 : decode cX6_init 179 = .ok (.iconst 0, 1) := dk_3 (dk_at dksX6_init_7 13 rfl rfl)
theorem dX6_init_180 : decode cX6_init 180 = .ok (.iastore, 1) := dk_79 (dk_at dksX6_init_7 14 rfl rfl)
theorem dX6_init_181 : decode cX6_init 181 = .ok (.dup, 1) := dk_89 (dk_at dksX6_init_7 15 rfl rfl)
theorem dX6_init_182 : decode cX6_init 182 = .ok (.bipush 14, 2) := dk_16 14 (dk_at dksX6_init_7 16 rfl rfl)
theorem dX6_init_184 : decode cX6_init 184 = .ok (.iconst 0, 1) := dk_3 (dk_at dksX6_init_7 18 rfl rfl)
theorem dX6_init_185 : decode cX6_init 185 = .ok (.iastore, 1) := dk_79 (dk_at dksX6_init_7 19 rfl rfl)
theorem dX6_init_186 : decode cX6_init 186 = .ok (.dup, 1) := dk_89 (dk_at dksX6_init_7 20 rfl rfl)
theorem dX6_init_187 : decode cX6_init 187 = .ok (.bipush 15, 2) := dk_16 15 (dk_at dksX6_init_7 21 rfl rfl)
theorem dX6_init_189 : decode cX6_init 189 = .ok (.iconst 0, 1) := dk_3 (dk_at dksX6_init_7 23 rfl rfl)
theorem dX6_init_190 : decode cX6_init 190 = .ok (.iastore, 1) := dk_79 (dk_at dksX6_init_8 0 rfl rfl)
theorem dX6_init_191 : decode cX6_init 191 = .ok (.dup, 1) := dk_89 (dk_at dksX6_init_8 1 rfl rfl)
theorem dX6_init_192 : decode cX6_init 192 = .ok (.bipush 16, 2) := dk_16 16 (dk_at dksX6_init_8 2 rfl rfl)
theorem dX6_init_194 : decode cX6_init 194 = .ok (.iconst 0, 1) := dk_3 (dk_at dksX6_init_8 4 rfl rfl)
theorem dX6_init_195 : decode cX6_init 195 = .ok (.iastore, 1) := dk_79 (dk_at dksX6_init_8 5 rfl rfl)
theorem dX6_init_196 : decode cX6_init 196 = .ok (.dup, 1) := dk_89 (dk_at dksX6_init_8 6 rfl rfl)
theorem dX6_init_197 : decode cX6_init 197 = .ok (.bipush 17, 2) := dk_16 17 (dk_at dksX6_init_8 7 rfl rfl)
theorem dX6_init_199 : decode cX6_init 199 = .ok (.iconst 0, 1) := dk_3 (dk_at dksX6_init_8 9 rfl rfl)
theorem dX6_init_200 : decode cX6_init 200 = .ok (.iastore, 1) := dk_79 (dk_at dksX6_init_8 10 rfl rfl)
theorem dX6_init_201 : decode cX6_init 201 = .ok (.dup, 1) := dk_89 (dk_at dksX6_init_8 11 rfl rfl)
theorem dX6_init_202 : decode cX6_init 202 = .ok (.bipush 18, 2) := dk_16 18 (dk_at dksX6_init_8 12 rfl rfl)
theorem dX6_init_204 : decode cX6_init 204 = .ok (.iconst 0, 1) := dk_3 (dk_at dksX6_init_8 14 rfl rfl)
theorem dX6_init_205 : decode cX6_init 205 = .ok (.iastore, 1) := dk_79 (dk_at dksX6_init_8 15 rfl rfl)
theorem dX6_init_206 : decode cX6_init 206 = .ok (.dup, 1) := dk_89 (dk_at dksX6_init_8 16 rfl rfl)
theorem dX6_init_207 : decode cX6_init 207 = .ok (.bipush 19, 2) := dk_16 19 (dk_at dksX6_init_8 17 rfl rfl)
theorem dX6_init_209 : decode cX6_init 209 = .ok (.iconst 0, 1) := dk_3 (dk_at dksX6_init_8 19 rfl rfl)
theorem dX6_init_210 : decode cX6_init 210 = .ok (.iastore, 1) := dk_79 (dk_at dksX6_init_8 20 rfl rfl)
theorem dX6_init_211 : decode cX6_init 211 = .ok (.dup, 1) := dk_89 (dk_at dksX6_init_8 21 rfl rfl)
theorem dX6_init_212 : decode cX6_init 212 = .ok (.bipush 20, 2) := dk_16 20 (dk_at dksX6_init_8 22 rfl rfl)
theorem dX6_init_214 : decode cX6_init 214 = .ok (.iconst 0, 1) := dk_3 (dk_at dksX6_init_9 0 rfl rfl)
theorem dX6_init_215 : decode cX6_init 215 = .ok (.iastore, 1) := dk_79 (dk_at dksX6_init_9 1 rfl rfl)
theorem dX6_init_216 : decode cX6_init 216 = .ok (.dup, 1) := dk_89 (dk_at dksX6_init_9 2 rfl rfl)
theorem dX6_init_217 : decode cX6_init 217 = .ok (.bipush 21, 2) := dk_16 21 (dk_at dksX6_init_9 3 rfl rfl)
theorem dX6_init_219 : decode cX6_init 219 = .ok (.iconst 0, 1) := dk_3 (dk_at dksX6_init_9 5 rfl rfl)
theorem dX6_init_220 : decode cX6_init 220 = .ok (.iastore, 1) := dk_79 (dk_at dksX6_init_9 6 rfl rfl)
theorem dX6_init_221 : decode cX6_init 221 = .ok (.dup, 1) := dk_89 (dk_at dksX6_init_9 7 rfl rfl)
theorem dX6_init_222 : decode cX6_init 222 = .ok (.bipush 22, 2) := dk_16 22 (dk_at dksX6_init_9 8 rfl rfl)
theorem dX6_init_224 : decode cX6_init 224 = .ok (.iconst 0, 1) := dk_3 (dk_at dksX6_init_9 10 rfl rfl)
theorem dX6_init_225 : decode cX6_init 225 = .ok (.iastore, 1) := dk_79 (dk_at dksX6_init_9 11 rfl rfl)
theorem dX6_init_226 : decode cX6_init 226 = .ok (.dup, 1) := dk_89 (dk_at dksX6_init_9 12 rfl rfl)
theorem dX6_init_227 : decode cX6_init 227 = .ok (.bipush 23, 2) := dk_16 23 (dk_at dksX6_init_9 13 rfl rfl)
theorem dX6_init_229 : decode cX6_init 229 = .ok (.iconst 0, 1) := dk_3 (dk_at dksX6_init_9 15 rfl rfl)
theorem dX6_init_230 : decode cX6_init 230 = .ok (.iastore, 1) := dk_79 (dk_at dksX6_init_9 16 rfl rfl)
theorem dX6_init_231 : decode cX6_init 231 = .ok (.dup, 1) := dk_89 (dk_at dksX6_init_9 17 rfl rfl)
theorem dX6_init_232 : decode cX6_init 232 = .ok (.bipush 24, 2) := dk_16 24 (dk_at dksX6_init_9 18 rfl rfl)
theorem dX6_init_234 : decode cX6_init 234 = .ok (.iconst 0, 1) := dk_3 (dk_at dksX6_init_9 20 rfl rfl)
theorem dX6_init_235 : decode cX6_init 235 = .ok (.iastore, 1) := dk_79 (dk_at dksX6_init_9 21 rfl rfl)
theorem dX6_init_236 : decode cX6_init 236 = .ok (.dup, 1) := dk_89 (dk_at dksX6_init_9 22 rfl rfl)
theorem dX6_init_237 : decode cX6_init 237 = .ok (.bipush 25, 2) := dk_16 25 (dk_at dksX6_init_10 0 rfl rfl)
theorem dX6_init_239 : decode cX6_init 239 = .ok (.iconst 0, 1) := dk_3 (dk_at dksX6_init_10 2 rfl rfl)
theorem dX6_init_240 : decode cX6_init 240 = .ok (.iastore, 1) := dk_79 (dk_at dksX6_init_10 3 rfl rfl)
theorem dX6_init_241 : decode cX6_init 241 = .ok (.dup, 1) := dk_89 (dk_at dksX6_init_10 4 rfl rfl)
theorem dX6_init_242 : decode cX6_init 242 = .ok (.bipush 26, 2) := dk_16 26 (dk_at dksX6_init_10 5 rfl rfl)
theorem dX6_init_244 : decode cX6_init 244 = .ok (.iconst 0, 1) := dk_3 (dk_at dksX6_init_10 7 rfl rfl)
theorem dX6_init_245 : decode cX6_init 245 = .ok (.iastore, 1) := dk_79 (dk_at dksX6_init_10 8 rfl rfl)
theorem dX6_init_246 : decode cX6_init 246 = .ok (.dup, 1) := dk_89 (dk_at dksX6_init_10 9 rfl rfl)
theorem dX6_init_247 : decode cX6_init 247 = .ok (.bipush 27, 2) := dk_16 27 (dk_at dksX6_init_10 10 rfl rfl)
theorem dX6_init_249 : decode cX6_init 249 = .ok (.iconst 0, 1) := dk_3 (dk_at dksX6_init_10 12 rfl rfl)
theorem dX6_init_250 : decode cX6_init 250 = .ok (.iastore, 1) := dk_79 (dk_at dksX6_init_10 13 rfl rfl)
theorem dX6_init_251 : decode cX6_init 251 = .ok (.dup, 1) := dk_89 (dk_at dksX6_init_10 14 rfl rfl)
theorem dX6_init_252 : decode cX6_init 252 = .ok (.bipush 28, 2) := dk_16 28 (dk_at dksX6_init_10 15 rfl rfl)
theorem dX6_init_254 : decode cX6_init 254 = .ok (.iconst 0, 1) := dk_3 (dk_at dksX6_init_10 17 rfl rfl)
theorem dX6_init_255 : decode cX6_init 255 = .ok (.iastore, 1) := dk_79 (dk_at dksX6_init_10 18 rfl rfl)
theorem dX6_init_256 : decode cX6_init 256 = .ok (.dup, 1) := dk_89 (dk_at dksX6_init_10 19 rfl rfl)
theorem dX6_init_257 : decode cX6_init 257 = .ok (.bipush 29, 2) := dk_16 29 (dk_at dksX6_init_10 20 rfl rfl)
theorem dX6_init_259 : decode cX6_init 259 = .ok (.iconst 0, 1) := dk_3 (dk_at dksX6_init_10 22 rfl rfl)
theorem dX6_init_260 : decode cX6_init 260 = .ok (.iastore, 1) := dk_79 (dk_at dksX6_init_10 23 rfl rfl)
theorem dX6_init_261 : decode cX6_init 261 = .ok (.dup, 1) := dk_89 (dk_at dksX6_init_11 0 rfl rfl)
theorem dX6_init_262 : decode cX6_init 262 = .ok (.bipush 30, 2) := dk_16 30 (dk_at dksX6_init_11 1 rfl rfl)
theorem dX6_init_264 : decode cX6_init 264 = .ok (.iconst 0, 1) := dk_3 (dk_at dksX6_init_11 3 rfl rfl)
theorem dX6_init_265 : decode cX6_init 265 = .ok (.iastore, 1) := dk_79 (dk_at dksX6_init_11 4 rfl rfl)
theorem dX6_init_266 : decode cX6_init 266 = .ok (.dup, 1) := dk_89 (dk_at dksX6_init_11 5 rfl rfl)
theorem dX6_init_267 : decode cX6_init 267 = .ok (.bipush 31, 2) := dk_16 31 (dk_at dksX6_init_11 6 rfl rfl)
theorem dX6_init_269 : decode cX6_init 269 = .ok (.iconst 0, 1) := dk_3 (dk_at dksX6_init_11 8 rfl rfl)
theorem dX6_init_270 : decode cX6_init 270 = .ok (.iastore, 1) := dk_79 (dk_at dksX6_init_11 9 rfl rfl)
theorem dX6_init_271 : decode cX6_init 271 = .ok (.dup, 1) := dk_89 (dk_at dksX6_init_11 10 rfl rfl)
theorem dX6_init_272 : decode cX6_init 272 = .ok (.bipush 32, 2) := dk_16 32 (dk_at dksX6_init_11 11 rfl rfl)
theorem dX6_init_274 : decode cX6_init 274 = .ok (.iconst 0, 1) := dk_3 (dk_at dksX6_init_11 13 rfl rfl)
theorem dX6_init_275 : decode cX6_init 275 = .ok (.iastore, 1) := dk_79 (dk_at dksX6_init_11 14 rfl rfl)
theorem dX6_init_276 : decode cX6_init 276 = .ok (.dup, 1) := dk_89 (dk_at dksX6_init_11 15 rfl rfl)
theorem dX6_init_277 : decode cX6_init 277 = .ok (.bipush 33, 2) := dk_16 33 (dk_at dksX6_init_11 16 rfl rfl)
theorem dX6_init_279 : decode cX6_init 279 = .ok (.iconst 0, 1) := dk_3 (dk_at dksX6_init_11 18 rfl rfl)
theorem dX6_init_280 : decode cX6_init 280 = .ok (.iastore, 1) := dk_79 (dk_at dksX6_init_11 19 rfl rfl)
theorem dX6_init_281 : decode cX6_init 281 = .ok (.dup, 1) := dk_89 (dk_at dksX6_init_11 20 rfl rfl)
theorem dX6_init_282 : decode cX6_init 282 = .ok (.bipush 34, 2) := dk_16 34 (dk_at dksX6_init_11 21 rfl rfl)
theorem dX6_init_284 : decode cX6_init 284 = .ok (.iconst 0, 1) := dk_3 (dk_at dksX6_init_11 23 rfl rfl)
theorem dX6_init_285 : decode cX6_init 285 = .ok (.iastore, 1) := dk_79 (dk_at dksX6_init_12 0 rfl rfl)
theorem dX6_init_286 : decode cX6_init 286 = .ok (.dup, 1) := dk_89 (dk_at dksX6_init_12 1 rfl rfl)
theorem dX6_init_287 : decode cX6_init 287 = .ok (.bipush 35, 2) := dk_16 35 (dk_at dksX6_init_12 2 rfl rfl)
theorem dX6_init_289 : decode cX6_init 289 = .ok (.iconst 0, 1) := dk_3 (dk_at dksX6_init_12 4 rfl rfl)
theorem dX6_init_290 : decode cX6_init 290 = .ok (.iastore, 1) := dk_79 (dk_at dksX6_init_12 5 rfl rfl)
theorem dX6_init_291 : decode cX6_init 291 = .ok (.dup, 1) := dk_89 (dk_at dksX6_init_12 6 rfl rfl)
theorem dX6_init_292 : decode cX6_init 292 = .ok (.bipush 36, 2) := dk_16 36 (dk_at dksX6_init_12 7 rfl rfl)
theorem dX6_init_294 : decode cX6_init 294 = .ok (.iconst 0, 1) := dk_3 (dk_at dksX6_init_12 9 rfl rfl)
theorem dX6_init_295 : decode cX6_init 295 = .ok (.iastore, 1) := dk_79 (dk_at dksX6_init_12 10 rfl rfl)
theorem dX6_init_296 : decode cX6_init 296 = .ok (.dup, 1) := dk_89 (dk_at dksX6_init_12 11 rfl rfl)
theorem dX6_init_297 : decode cX6_init 297 = .ok (.bipush 37, 2) := dk_16 37 (dk_at dksX6_init_12 12 rfl rfl)
theorem dX6_init_299 : decode cX6_init 299 = .ok (.iconst 0, 1) := dk_3 (dk_at dksX6_init_12 14 rfl rfl)
theorem dX6_init_300 : decode cX6_init 300 = .ok (.iastore, 1) := dk_79 (dk_at dksX6_init_12 15 rfl rfl)
theorem dX6_init_301 : decode cX6_init 301 = .ok (.dup, 1) := dk_89 (dk_at dksX6_init_12 16 rfl rfl)
theorem dX6_init_302 : decode cX6_init 302 = .ok (.bipush 38, 2) := dk_16 38 (dk_at dksX6_init_12 17 rfl rfl)
theorem dX6_init_304 : decode cX6_init 304 = .ok (.iconst 0, 1) := dk_3 (dk_at dksX6_init_12 19 rfl rfl)
theorem dX6_init_305 : decode cX6_init 305 = .ok (.iastore, 1) := dk_79 (dk_at dksX6_init_12 20 rfl rfl)
theorem dX6_init_306 : decode cX6_init 306 = .ok (.dup, 1) := dk_89 (dk_at dksX6_init_12 21 rfl rfl)
theorem dX6_init_307 : decode cX6_init 307 = .ok (.bipush 39, 2) := dk_16 39 (dk_at dksX6_init_12 22 rfl rfl)
theorem dX6_init_309 : decode cX6_init 309 = .ok (.iconst 0, 1) := dk_3 (dk_at dksX6_init_13 0 rfl rfl)
theorem dX6_init_310 : decode cX6_init 310 = .ok (.iastore, 1) := dk_79 (dk_at dksX6_init_13 1 rfl rfl)
theorem dX6_init_311 : decode cX6_init 311 = .ok (.dup, 1) := dk_89 (dk_at dksX6_init_13 2 rfl rfl)
theorem dX6_init_312 : decode cX6_init 312 = .ok (.bipush 40, 2) := dk_16 40 (dk_at dksX6_init_13 3 rfl rfl)
theorem dX6_init_314 : decode cX6_init 314 = .ok (.iconst 0, 1) := dk_3 (dk_at dksX6_init_13 5 rfl rfl)
theorem dX6_init_315 : decode cX6_init 315 = .ok (.iastore, 1) := dk_79 (dk_at dksX6_init_13 6 rfl rfl)
theorem dX6_init_316 : decode cX6_init 316 = .ok (.dup, 1) := dk_89 (dk_at dksX6_init_13 7 rfl rfl)
theorem dX6_init_317 : decode cX6_init 317 = .ok (.bipush 41, 2) := dk_16 41 (dk_at dksX6_init_13 8 rfl rfl)
theorem dX6_init_319 : decode cX6_init 319 = .ok (.iconst 0, 1) := dk_3 (dk_at dksX6_init_13 10 rfl rfl)
theorem dX6_init_320 : decode cX6_init 320 = .ok (.iastore, 1) := dk_79 (dk_at dksX6_init_13 11 rfl rfl)
theorem dX6_init_321 : decode cX6_init 321 = .ok (.dup, 1) := dk_89 (dk_at dksX6_init_13 12 rfl rfl)
theorem dX6_init_322 : decode cX6_init 322 = .ok (.bipush 42, 2) := dk_16 42 (dk_at dksX6_init_13 13 rfl rfl)
theorem dX6_init_324 : decode cX6_init 324 = .ok (.iconst 0, 1) := dk_3 (dk_at dksX6_init_13 15 rfl rfl)
theorem dX6_init_325 : decode cX6_init 325 = .ok (.iastore, 1) := dk_79 (dk_at dksX6_init_13 16 rfl rfl)
theorem dX6_init_326 : decode cX6_init 326 = .ok (.dup, 1) := dk_89 (dk_at dksX6_init_13 17 rfl rfl)
theorem dX6_init_327 : decode cX6_init 327 = .ok (.bipush 43, 2) := dk_16 43 (dk_at dksX6_init_13 18 rfl rfl)
theorem dX6_init_329 : decode cX6_init 329 = .ok (.iconst 0, 1) := dk_3 (dk_at dksX6_init_13 20 rfl rfl)
theorem dX6_init_330 : decode cX6_init 330 = .ok (.iastore, 1) := dk_79 (dk_at dksX6_init_13 21 rfl rfl)
theorem dX6_init_331 : decode cX6_init 331 = .ok (.dup, 1) := dk_89 (dk_at dksX6_init_13 22 rfl rfl)
theorem dX6_init_332 : decode cX6_init 332 = .ok (.bipush 44, 2) := dk_16 44 (dk_at dksX6_init_14 0 rfl rfl)
theorem dX6_init_334 : decode cX6_init 334 = .ok (.iconst 0, 1) := dk_3 (dk_at dksX6_init_14 2 rfl rfl)
theorem dX6_init_335 : decode cX6_init 335 = .ok (.iastore, 1) := dk_79 (dk_at dksX6_init_14 3 rfl rfl)
theorem dX6_init_336 : decode cX6_init 336 = .ok (.dup, 1) := dk_89 (dk_at dksX6_init_14 4 rfl rfl)
theorem dX6_init_337 : decode cX6_init 337 = .ok (.bipush 45, 2) := dk_16 45 (dk_at dksX6_init_14 5 rfl rfl)
theorem dX6_init_339 : decode cX6_init 339 = .ok (.iconst 0, 1) := dk_3 (dk_at dksX6_init_14 7 rfl rfl)
theorem dX6_init_340 : decode cX6_init 340 = .ok (.iastore, 1) := dk_79 (dk_at dksX6_init_14 8 rfl rfl)
theorem dX6_init_341 : decode cX6_init 341 = .ok (.dup, 1) := dk_89 (dk_at dksX6_init_14 9 rfl rfl)
theorem dX6_init_342 : decode cX6_init 342 = .ok (.bipush 46, 2) := dk_16 46 (dk_at dksX6_init_14 10 rfl rfl)
theorem dX6_init_344 : decode cX6_init 344 = .ok (.iconst 0, 1) := dk_3 (dk_at dksX6_init_14 12 rfl rfl)
theorem dX6_init_345 : decode cX6_init 345 = .ok (.iastore, 1) := dk_79 (dk_at dksX6_init_14 13 rfl rfl)
theorem dX6_init_346 : decode cX6_init 346 = .ok (.dup, 1) := dk_89 (dk_at dksX6_init_14 14 rfl rfl)
theorem dX6_init_347 : decode cX6_init 347 = .ok (.bipush 47, 2) := dk_16 47 (dk_at dksX6_init_14 15 rfl rfl)
theorem dX6_init_349 : decode cX6_init 349 = .ok (.iconst 0, 1) := dk_3 (dk_at dksX6_init_14 17 rfl rfl)
theorem dX6_init_350 : decode cX6_init 350 = .ok (.iastore, 1) := dk_79 (dk_at dksX6_init_14 18 rfl rfl)
theorem dX6_init_351 : decode cX6_init 351 = .ok (.putfield 40, 3) := dk_181 0 40 (dk_at dksX6_init_14 19 rfl rfl)
theorem dX6_init_354 : decode cX6_init 354 = .ok (.aload_n 0, 1) := dk_42 (dk_at dksX6_init_14 22 rfl rfl)
theorem dX6_init_355 : decode cX6_init 355 = .ok (.bipush 40, 2) := dk_16 40 (dk_at dksX6_init_15 0 rfl rfl)
theorem dX6_init_357 : decode cX6_init 357 = .ok (.newarray .int, 2) := dk_188_10 (dk_at dksX6_init_15 2 rfl rfl)
theorem dX6_init_359 : decode cX6_init 359 = .ok (.putfield 43, 3) := dk_181 0 43 (dk_at dksX6_init_15 4 rfl rfl)
theorem dX6_init_362 : decode cX6_init 362 = .ok (.aload_n 0, 1) := dk_42 (dk_at dksX6_init_15 7 rfl rfl)
theorem dX6_init_363 : decode cX6_init 363 = .ok (.bipush 40, 2) := dk_16 40 (dk_at dksX6_init_15 8 rfl rfl)
theorem dX6_init_365 : decode cX6_init 365 = .ok (.newarray .int, 2) := dk_188_10 (dk_at dksX6_init_15 10 rfl rfl)
theorem dX6_init_367 : decode cX6_init 367 = .ok (.putfield 46, 3) := dk_181 0 46 (dk_at dksX6_init_15 12 rfl rfl)
theorem dX6_init_370 : decode cX6_init 370 = .ok (.aload_n 0, 1) := dk_42 (dk_at dksX6_init_15 15 rfl rfl)
theorem dX6_init_371 : decode cX6_init 371 = .ok (.bipush 40, 2) := dk_16 40 (dk_at dksX6_init_15 16 rfl rfl)
theorem dX6_init_373 : decode cX6_init 373 = .ok (.newarray .int, 2) := dk_188_10 (dk_at dksX6_init_15 18 rfl rfl)
theorem dX6_init_375 : decode cX6_init 375 = .ok (.putfield 49, 3) := dk_181 0 49 (dk_at dksX6_init_15 20 rfl rfl)
theorem dX6_init_378 : decode cX6_init 378 = .ok (.aload_n 0, 1) := dk_42 (dk_at dksX6_init_15 23 rfl rfl)
theorem dX6_init_379 : decode cX6_init 379 = .ok (.bipush 40, 2) := dk_16 40 (dk_at dksX6_init_16 0 rfl rfl)
theorem dX6_init_381 : decode cX6_init 381 = .ok (.newarray .int, 2) := dk_188_10 (dk_at dksX6_init_16 2 rfl rfl)
theorem dX6_init_383 : decode cX6_init 383 = .ok (.putfield 52, 3) := dk_181 0 52 (dk_at dksX6_init_16 4 rfl rfl)
theorem dX6_init_386 : decode cX6_init 386 = .ok (.aload_n 0, 1) := dk_42 (dk_at dksX6_init_16 7 rfl rfl)
theorem dX6_init_387 : decode cX6_init 387 = .ok (.bipush 120, 2) := dk_16 120 (dk_at dksX6_init_16 8 rfl rfl)
theorem dX6_init_389 : decode cX6_init 389 = .ok (.newarray .byte, 2) := dk_188_8 (dk_at dksX6_init_16 10 rfl rfl)
theorem dX6_init_391 : decode cX6_init 391 = .ok (.putfield 55, 3) := dk_181 0 55 (dk_at dksX6_init_16 12 rfl rfl)
theorem dX6_init_394 : decode cX6_init 394 = .ok (.aload_n 0, 1) := dk_42 (dk_at dksX6_init_16 15 rfl rfl)
theorem dX6_init_395 : decode cX6_init 395 = .ok (.sipush 260, 3) := dk_17 1 4 (dk_at dksX6_init_16 16 rfl rfl)
theorem dX6_init_398 : decode cX6_init 398 = .ok (.newarray .byte, 2) := dk_188_8 (dk_at dksX6_init_16 19 rfl rfl)
theorem dX6_init_400 : decode cX6_init 400 = .ok (.putfield 59, 3) := dk_181 0 59 (dk_at dksX6_init_16 21 rfl rfl)
theorem dX6_init_403 : decode cX6_init 403 = .ok (.aload_n 0, 1) := dk_42 (dk_at dksX6_init_17 0 rfl rfl)
theorem dX6_init_404 : decode cX6_init 404 = .ok (.sipush 260, 3) := dk_17 1 4 (dk_at dksX6_init_17 1 rfl rfl)
theorem dX6_init_407 : decode cX6_init 407 = .ok (.newarray .int, 2) := dk_188_10 (dk_at dksX6_init_17 4 rfl rfl)
theorem dX6_init_409 : decode cX6_init 409 = .ok (.putfield 62, 3) := dk_181 0 62 (dk_at dksX6_init_17 6 rfl rfl)
theorem dX6_init_412 : decode cX6_init 412 = .ok (.aload_n 0, 1) := dk_42 (dk_at dksX6_init_17 9 rfl rfl)
theorem dX6_init_413 : decode cX6_init 413 = .ok (.iconst 2, 1) := dk_5 (dk_at dksX6_init_17 10 rfl rfl)
theorem dX6_init_414 : decode cX6_init 414 = .ok (.newarray .int, 2) := dk_188_10 (dk_at dksX6_init_17 11 rfl rfl)
theorem dX6_init_416 : decode cX6_init 416 = .ok (.putfield 65, 3) := dk_181 0 65 (dk_at dksX6_init_17 13 rfl rfl)
theorem dX6_init_419 : decode cX6_init 419 = .ok (.aload_n 0, 1) := dk_42 (dk_at dksX6_init_17 16 rfl rfl)
theorem dX6_init_420 : decode cX6_init 420 = .ok (.bipush 122, 2) := dk_16 122 (dk_at dksX6_init_17 17 rfl rfl)
theorem dX6_init_422 : decode cX6_init 422 = .ok (.newarray .short, 2) := dk_188_9 (dk_at dksX6_init_17 19 rfl rfl)
theorem dX6_init_424 : decode cX6_init 424 = .ok (.putfield 68, 3) := dk_181 0 68 (dk_at dksX6_init_17 21 rfl rfl)
theorem dX6_init_427 : decode cX6_init 427 = .ok (.aload_n 0, 1) := dk_42 (dk_at dksX6_init_18 0 rfl rfl)
theorem dX6_init_428 : decode cX6_init 428 = .ok (.bipush 122, 2) := dk_16 122 (dk_at dksX6_init_18 1 rfl rfl)
theorem dX6_init_430 : decode cX6_init 430 = .ok (.newarray .short, 2) := dk_188_9 (dk_at dksX6_init_18 3 rfl rfl)
theorem dX6_init_432 : decode cX6_init 432 = .ok (.putfield 72, 3) := dk_181 0 72 (dk_at dksX6_init_18 5 rfl rfl)
theorem dX6_init_435 : decode cX6_init 435 = .ok (.aload_n 0, 1) := dk_42 (dk_at dksX6_init_18 8 rfl rfl)
theorem dX6_init_436 : decode cX6_init 436 = .ok (.bipush 6, 2) := dk_16 6 (dk_at dksX6_init_18 9 rfl rfl)
theorem dX6_init_438 : decode cX6_init 438 = .ok (.newarray .int, 2) := dk_188_10 (dk_at dksX6_init_18 11 rfl rfl)
theorem dX6_init_440 : decode cX6_init 440 = .ok (.putfield 75, 3) := dk_181 0 75 (dk_at dksX6_init_18 13 rfl rfl)
theorem dX6_init_443 : decode cX6_init 443 = .ok (.aload_n 0, 1) := dk_42 (dk_at dksX6_init_18 16 rfl rfl)
theorem dX6_init_444 : decode cX6_init 444 = .ok (.sipush 130, 3) := dk_17 0 130 (dk_at dksX6_init_18 17 rfl rfl)
theorem dX6_init_447 : decode cX6_init 447 = .ok (.newarray .int, 2) := dk_188_10 (dk_at dksX6_init_18 20 rfl rfl)
theorem dX6_init_449 : decode cX6_init 449 = .ok (.putfield 78, 3) := dk_181 0 78 (dk_at dksX6_init_19 0 rfl rfl)
theorem dX6_init_452 : decode cX6_init 452 = .ok (.aload_n 0, 1) := dk_42 (dk_at dksX6_init_19 3 rfl rfl)
theorem dX6_init_453 : decode cX6_init 453 = .ok (.iconst 4, 1) := dk_7 (dk_at dksX6_init_19 4 rfl rfl)
theorem dX6_init_454 : decode cX6_init 454 = .ok (.newarray .int, 2) := dk_188_10 (dk_at dksX6_init_19 5 rfl rfl)
theorem dX6_init_456 : decode cX6_init 456 = .ok (.putfield 81, 3) := dk_181 0 81 (dk_at dksX6_init_19 7 rfl rfl)
theorem dX6_init_459 : decode cX6_init 459 = .ok (.aload_n 0, 1) := dk_42 (dk_at dksX6_init_19 10 rfl rfl)
theorem dX6_init_460 : decode cX6_init 460 = .ok (.iconst 4, 1) := dk_7 (dk_at dksX6_init_19 11 rfl rfl)
theorem dX6_init_461 : decode cX6_init 461 = .ok (.newarray .int, 2) := dk_188_10 (dk_at dksX6_init_19 12 rfl rfl)
theorem dX6_init_463 : decode cX6_init 463 = .ok (.putfield 84, 3) := dk_181 0 84 (dk_at dksX6_init_19 14 rfl rfl)
theorem dX6_init_466 : decode cX6_init 466 = .ok (.aload_n 0, 1) := dk_42 (dk_at dksX6_init_19 17 rfl rfl)
theorem dX6_init_467 : decode cX6_init 467 = .ok (.bipush 48, 2) := dk_16 48 (dk_at dksX6_init_19 18 rfl rfl)
theorem dX6_init_469 : decode cX6_init 469 = .ok (.newarray .int, 2) := dk_188_10 (dk_at dksX6_init_19 20 rfl rfl)
theorem dX6_init_471 : decode cX6_init 471 = .ok (.putfield 87, 3) := dk_181 0 87 (dk_at dksX6_init_20 0 rfl rfl)
theorem dX6_init_474 : decode cX6_init 474 = .ok (.aload_n 0, 1) := dk_42 (dk_at dksX6_init_20 3 rfl rfl)
theorem dX6_init_475 : decode cX6_init 475 = .ok (.bipush 30, 2) := dk_16 30 (dk_at dksX6_init_20 4 rfl rfl)
theorem dX6_init_477 : decode cX6_init 477 = .ok (.newarray .int, 2) := dk_188_10 (dk_at dksX6_init_20 6 rfl rfl)
theorem dX6_init_479 : decode cX6_init 479 = .ok (.putfield 90, 3) := dk_181 0 90 (dk_at dksX6_init_20 8 rfl rfl)
theorem dX6_init_482 : decode cX6_init 482 = .ok (.aload_n 0, 1) := dk_42 (dk_at dksX6_init_20 11 rfl rfl)
theorem dX6_init_483 : decode cX6_init 483 = .ok (.sipush 9648, 3) := dk_17 37 176 (dk_at dksX6_init_20 12 rfl rfl)
theorem dX6_init_486 : decode cX6_init 486 = .ok (.newarray .int, 2) := dk_188_10 (dk_at dksX6_init_20 15 rfl rfl)
theorem dX6_init_488 : decode cX6_init 488 = .ok (.putfield 93, 3) := dk_181 0 93 (dk_at dksX6_init_20 17 rfl rfl)
theorem dX6_init_491 : decode cX6_init 491 = .ok (.aload_n 0, 1) := dk_42 (dk_at dksX6_init_20 20 rfl rfl)
theorem dX6_init_492 : decode cX6_init 492 = .ok (.bipush 30, 2) := dk_16 30 (dk_at dksX6_init_20 21 rfl rfl)
theorem dX6_init_494 : decode cX6_init 494 = .ok (.newarray .int, 2) := dk_188_10 (dk_at dksX6_init_21 0 rfl rfl)
theorem dX6_init_496 : decode cX6_init 496 = .ok (.putfield 96, 3) := dk_181 0 96 (dk_at dksX6_init_21 2 rfl rfl)
theorem dX6_init_499 : decode cX6_init 499 = .ok (.aload_n 0, 1) := dk_42 (dk_at dksX6_init_21 5 rfl rfl)
theorem dX6_init_500 : decode cX6_init 500 = .ok (.iconst 5, 1) := dk_8 (dk_at dksX6_init_21 6 rfl rfl)
theorem dX6_init_501 : decode cX6_init 501 = .ok (.newarray .int, 2) := dk_188_10 (dk_at dksX6_init_21 7 rfl rfl)
theorem dX6_init_503 : decode cX6_init 503 = .ok (.putfield 99, 3) := dk_181 0 99 (dk_at dksX6_init_21 9 rfl rfl)
theorem dX6_init_506 : decode cX6_init 506 = .ok (.aload_n 0, 1) := dk_42 (dk_at dksX6_init_21 12 rfl rfl)
theorem dX6_init_507 : decode cX6_init 507 = .ok (.iconst 5, 1) := dk_8 (dk_at dksX6_init_21 13 rfl rfl)
theorem dX6_init_508 : decode cX6_init 508 = .ok (.newarray .int, 2) := dk_188_10 (dk_at dksX6_init_21 14 rfl rfl)
theorem dX6_init_510 : decode cX6_init 510 = .ok (.putfield 102, 3) := dk_181 0 102 (dk_at dksX6_init_21 16 rfl rfl)
theorem dX6_init_513 : decode cX6_init 513 = .ok (.aload_n 0, 1) := dk_42 (dk_at dksX6_init_21 19 rfl rfl)
theorem dX6_init_514 : decode cX6_init 514 = .ok (.iconst 4, 1) := dk_7 (dk_at dksX6_init_21 20 rfl rfl)
theorem dX6_init_515 : decode cX6_init 515 = .ok (.newarray .int, 2) := dk_188_10 (dk_at dksX6_init_21 21 rfl rfl)
theorem dX6_init_517 : decode cX6_init 517 = .ok (.putfield 105, 3) := dk_181 0 105 (dk_at dksX6_init_22 0 rfl rfl)
theorem dX6_init_520 : decode cX6_init 520 = .ok (.aload_n 0, 1) := dk_42 (dk_at dksX6_init_22 3 rfl rfl)
theorem dX6_init_521 : decode cX6_init 521 = .ok (.bipush 60, 2) := dk_16 60 (dk_at dksX6_init_22 4 rfl rfl)
theorem dX6_init_523 : decode cX6_init 523 = .ok (.newarray .int, 2) := dk_188_10 (dk_at dksX6_init_22 6 rfl rfl)
theorem dX6_init_525 : decode cX6_init 525 = .ok (.putfield 108, 3) := dk_181 0 108 (dk_at dksX6_init_22 8 rfl rfl)
theorem dX6_init_528 : decode cX6_init 528 = .ok (.aload_n 0, 1) := dk_42 (dk_at dksX6_init_22 11 rfl rfl)
theorem dX6_init_529 : decode cX6_init 529 = .ok (.sipush 336, 3) := dk_17 1 80 (dk_at dksX6_init_22 12 rfl rfl)
theorem dX6_init_532 : decode cX6_init 532 = .ok (.newarray .int, 2) := dk_188_10 (dk_at dksX6_init_22 15 rfl rfl)
theorem dX6_init_534 : decode cX6_init 534 = .ok (.putfield 111, 3) := dk_181 0 111 (dk_at dksX6_init_22 17 rfl rfl)
theorem dX6_init_537 : decode cX6_init 537 = .ok (.aload_n 0, 1) := dk_42 (dk_at dksX6_init_22 20 rfl rfl)
theorem dX6_init_538 : decode cX6_init 538 = .ok (.iconst 4, 1) := dk_7 (dk_at dksX6_init_22 21 rfl rfl)
theorem dX6_init_539 : decode cX6_init 539 = .ok (.newarray .int, 2) := dk_188_10 (dk_at dksX6_init_22 22 rfl rfl)
theorem dX6_init_541 : decode cX6_init 541 = .ok (.dup, 1) := dk_89 (dk_at dksX6_init_23 0 rfl rfl)
theorem dX6_init_542 : decode cX6_init 542 = .ok (.iconst 0, 1) := dk_3 (dk_at dksX6_init_23 1 rfl rfl)
theorem dX6_init_543 : decode cX6_init 543 = .ok (.iconst 0, 1) := dk_3 (dk_at dksX6_init_23 2 rfl rfl)
theorem dX6_init_544 : decode cX6_init 544 = .ok (.iastore, 1) := dk_79 (dk_at dksX6_init_23 3 rfl rfl)
theorem dX6_init_545 : decode cX6_init 545 = .ok (.dup, 1) := dk_89 (dk_at dksX6_init_23 4 rfl rfl)
theorem dX6_init_546 : decode cX6_init 546 = .ok (.iconst 1, 1) := dk_4 (dk_at dksX6_init_23 5 rfl rfl)
theorem dX6_init_547 : decode cX6_init 547 = .ok (.iconst 0, 1) := dk_3 (dk_at dksX6_init_23 6 rfl rfl)
theorem dX6_init_548 : decode cX6_init 548 = .ok (.iastore, 1) := dk_79 (dk_at dksX6_init_23 7 rfl rfl)
theorem dX6_init_549 : decode cX6_init 549 = .ok (.dup, 1) := dk_89 (dk_at dksX6_init_23 8 rfl rfl)
theorem dX6_init_550 : decode cX6_init 550 = .ok (.iconst 2, 1) := dk_5 (dk_at dksX6_init_23 9 rfl rfl)
theorem dX6_init_551 : decode cX6_init 551 = .ok (.iconst 0, 1) := dk_3 (dk_at dksX6_init_23 10 rfl rfl)
theorem dX6_init_552 : decode cX6_init 552 = .ok (.iastore, 1) := dk_79 (dk_at dksX6_init_23 11 rfl rfl)
theorem dX6_init_553 : decode cX6_init 553 = .ok (.dup, 1) := dk_89 (dk_at dksX6_init_23 12 rfl rfl)
theorem dX6_init_554 : decode cX6_init 554 = .ok (.iconst 3, 1) := dk_6 (dk_at dksX6_init_23 13 rfl rfl)
theorem dX6_init_555 : decode cX6_init 555 = .ok (.bipush (-2), 2) := dk_16 254 (dk_at dksX6_init_23 14 rfl rfl)
theorem dX6_init_557 : decode cX6_init 557 = .ok (.iastore, 1) := dk_79 (dk_at dksX6_init_23 16 rfl rfl)
theorem dX6_init_558 : decode cX6_init 558 = .ok (.putfield 114, 3) := dk_181 0 114 (dk_at dksX6_init_23 17 rfl rfl)
theorem dX6_init_561 : decode cX6_init 561 = .ok (.aload_n 0, 1) := dk_42 (dk_at dksX6_init_23 20 rfl rfl)
theorem dX6_init_562 : decode cX6_init 562 = .ok (.bipush 48, 2) := dk_16 48 (dk_at dksX6_init_23 21 rfl rfl)
theorem dX6_init_564 : decode cX6_init 564 = .ok (.newarray .int, 2) := dk_188_10 (dk_at dksX6_init_24 0 rfl rfl)
theorem dX6_init_566 : decode cX6_init 566 = .ok (.putfield 117, 3) := dk_181 0 117 (dk_at dksX6_init_24 2 rfl rfl)
theorem dX6_init_569 : decode cX6_init 569 = .ok (.aload_n 0, 1) := dk_42 (dk_at dksX6_init_24 5 rfl rfl)
theorem dX6_init_570 : decode cX6_init 570 = .ok (.iconst 4, 1) := dk_7 (dk_at dksX6_init_24 6 rfl rfl)
theorem dX6_init_571 : decode cX6_init 571 = .ok (.newarray .int, 2) := dk_188_10 (dk_at dksX6_init_24 7 rfl rfl)
theorem dX6_init_573 : decode cX6_init 573 = .ok (.putfield 120, 3) := dk_181 0 120 (dk_at dksX6_init_24 9 rfl rfl)
theorem dX6_init_576 : decode cX6_init 576 = .ok (.aload_n 0, 1) := dk_42 (dk_at dksX6_init_24 12 rfl rfl)
theorem dX6_init_577 : decode cX6_init 577 = .ok (.bipush 50, 2) := dk_16 50 (dk_at dksX6_init_24 13 rfl rfl)
theorem dX6_init_579 : decode cX6_init 579 = .ok (.newarray .int, 2) := dk_188_10 (dk_at dksX6_init_24 15 rfl rfl)
theorem dX6_init_581 : decode cX6_init 581 = .ok (.putfield 123, 3) := dk_181 0 123 (dk_at dksX6_init_24 17 rfl rfl)
theorem dX6_init_584 : decode cX6_init 584 = .ok (.aload_n 0, 1) := dk_42 (dk_at dksX6_init_24 20 rfl rfl)
theorem dX6_init_585 : decode cX6_init 585 = .ok (.bipush 24, 2) := dk_16 24 (dk_at dksX6_init_24 21 rfl rfl)
theorem dX6_init_587 : decode cX6_init 587 = .ok (.newarray .int, 2) := dk_188_10 (dk_at dksX6_init_25 0 rfl rfl)
theorem dX6_init_589 : decode cX6_init 589 = .ok (.putfield 126, 3) := dk_181 0 126 (dk_at dksX6_init_25 2 rfl rfl)
theorem dX6_init_592 : decode cX6_init 592 = .ok (.aload_n 0, 1) := dk_42 (dk_at dksX6_init_25 5 rfl rfl)
theorem dX6_init_593 : decode cX6_init 593 = .ok (.bipush 6, 2) := dk_16 6 (dk_at dksX6_init_25 6 rfl rfl)
theorem dX6_init_595 : decode cX6_init 595 = .ok (.newarray .int, 2) := dk_188_10 (dk_at dksX6_init_25 8 rfl rfl)
theorem dX6_init_597 : decode cX6_init 597 = .ok (.dup, 1) := dk_89 (dk_at dksX6_init_25 10 rfl rfl)
theorem dX6_init_598 : decode cX6_init 598 = .ok (.iconst 0, 1) := dk_3 (dk_at dksX6_init_25 11 rfl rfl)
theorem dX6_init_599 : decode cX6_init 599 = .ok (.iconst (-1), 1) := dk_2 (dk_at dksX6_init_25 12 rfl rfl)
theorem dX6_init_600 : decode cX6_init 600 = .ok (.iastore, 1) := dk_79 (dk_at dksX6_init_25 13 rfl rfl)
theorem dX6_init_601 : decode cX6_init 601 = .ok (.dup, 1) := dk_89 (dk_at dksX6_init_25 14 rfl rfl)
theorem dX6_init_602 : decode cX6_init 602 = .ok (.iconst 1, 1) := dk_4 (dk_at dksX6_init_25 15 rfl rfl)
theorem dX6_init_603 : decode cX6_init 603 = .ok (.iconst (-1), 1) := dk_2 (dk_at dksX6_init_25 16 rfl rfl)
theorem dX6_init_604 : decode cX6_init 604 = .ok (.iastore, 1) := dk_79 (dk_at dksX6_init_25 17 rfl rfl)
theorem dX6_init_605 : decode cX6_init 605 = .ok (.dup, 1) := dk_89 (dk_at dksX6_init_25 18 rfl rfl)
theorem dX6_init_606 : decode cX6_init 606 = .ok (.iconst 2, 1) := dk_5 (dk_at dksX6_init_25 19 rfl rfl)
theorem dX6_init_607 : decode cX6_init 607 = .ok (.iconst (-1), 1) := dk_2 (dk_at dksX6_init_25 20 rfl rfl)
theorem dX6_init_608 : decode cX6_init 608 = .ok (.iastore, 1) := dk_79 (dk_at dksX6_init_25 21 rfl rfl)
theorem dX6_init_609 : decode cX6_init 609 = .ok (.dup, 1) := dk_89 (dk_at dksX6_init_25 22 rfl rfl)
theorem dX6_init_610 : decode cX6_init 610 = .ok (.iconst 3, 1) := dk_6 (dk_at dksX6_init_25 23 rfl rfl)
theorem dX6_init_611 : decode cX6_init 611 = .ok (.iconst (-1), 1) := dk_2 (dk_at dksX6_init_26 0 rfl rfl)
theorem dX6_init_612 : decode cX6_init 612 = .ok (.iastore, 1) := dk_79 (dk_at dksX6_init_26 1 rfl rfl)
theorem dX6_init_613 : decode cX6_init 613 = .ok (.dup, 1) := dk_89 (dk_at dksX6_init_26 2 rfl rfl)
theorem dX6_init_614 : decode cX6_init 614 = .ok (.iconst 4, 1) := dk_7 (dk_at dksX6_init_26 3 rfl rfl)
theorem dX6_init_615 : decode cX6_init 615 = .ok (.iconst (-1), 1) := dk_2 (dk_at dksX6_init_26 4 rfl rfl)
theorem dX6_init_616 : decode cX6_init 616 = .ok (.iastore, 1) := dk_79 (dk_at dksX6_init_26 5 rfl rfl)
theorem dX6_init_617 : decode cX6_init 617 = .ok (.dup, 1) := dk_89 (dk_at dksX6_init_26 6 rfl rfl)
theorem dX6_init_618 : decode cX6_init 618 = .ok (.iconst 5, 1) := dk_8 (dk_at dksX6_init_26 7 rfl rfl)
theorem dX6_init_619 : decode cX6_init 619 = .ok (.iconst (-1), 1) := dk_2 (dk_at dksX6_init_26 8 rfl rfl)
theorem dX6_init_620 : decode cX6_init 620 = .ok (.iastore, 1) := dk_79 (dk_at dksX6_init_26 9 rfl rfl)
theorem dX6_init_621 : decode cX6_init 621 = .ok (.putfield 129, 3) := dk_181 0 129 (dk_at dksX6_init_26 10 rfl rfl)
theorem dX6_init_624 : decode cX6_init 624 = .ok (.aload_n 0, 1) := dk_42 (dk_at dksX6_init_26 13 rfl rfl)
theorem dX6_init_625 : decode cX6_init 625 = .ok (.bipush 6, 2) := dk_16 6 (dk_at dksX6_init_26 14 rfl rfl)
theorem dX6_init_627 : decode cX6_init 627 = .ok (.newarray .int, 2) := dk_188_10 (dk_at dksX6_init_26 16 rfl rfl)
theorem dX6_init_629 : decode cX6_init 629 = .ok (.putfield 132, 3) := dk_181 0 132 (dk_at dksX6_init_26 18 rfl rfl)
theorem dX6_init_632 : decode cX6_init 632 = .ok (.aload_n 0, 1) := dk_42 (dk_at dksX6_init_26 21 rfl rfl)
theorem dX6_init_633 : decode cX6_init 633 = .ok (.sipush 360, 3) := dk_17 1 104 (dk_at dksX6_init_27 0 rfl rfl)
theorem dX6_init_636 : decode cX6_init 636 = .ok (.newarray .long, 2) := dk_188_11 (dk_at dksX6_init_27 3 rfl rfl)
theorem dX6_init_638 : decode cX6_init 638 = .ok (.putfield 135, 3) := dk_181 0 135 (dk_at dksX6_init_27 5 rfl rfl)
theorem dX6_init_641 : decode cX6_init 641 = .ok (.aload_n 0, 1) := dk_42 (dk_at dksX6_init_27 8 rfl rfl)
theorem dX6_init_642 : decode cX6_init 642 = .ok (.bipush 60, 2) := dk_16 60 (dk_at dksX6_init_27 9 rfl rfl)
theorem dX6_init_644 : decode cX6_init 644 = .ok (.newarray .long, 2) := dk_188_11 (dk_at dksX6_init_27 11 rfl rfl)
theorem dX6_init_646 : decode cX6_init 646 = .ok (.putfield 139, 3) := dk_181 0 139 (dk_at dksX6_init_27 13 rfl rfl)
theorem dX6_init_649 : decode cX6_init 649 = .ok (.return_, 1) := dk_177 (dk_at dksX6_init_27 16 rfl rfl)
abbrev cX6_guest : ByteArray := prog_25_method_8_code
def yX6_guest : MethodName := ⟨RX6, "guest", "(II)I"⟩
def dkwX6_guest_1 : List UInt8 := [180, 0, 149, 16, 7, 160, 0, 8, 16, 253, 167, 0, 10, 42, 27, 28, 3, 182, 0, 159, 172]
abbrev dktX6_guest_1 : List UInt8 := dkwX6_guest_1 ++ []
def dkwX6_guest_0 : List UInt8 := [27, 3, 16, 9, 184, 0, 145, 153, 0, 13, 28, 3, 16, 50, 184, 0, 145, 154, 0, 5, 2, 172, 42]
abbrev dktX6_guest_0 : List UInt8 := dkwX6_guest_0 ++ dktX6_guest_1
theorem dksX6_guest_0 : cX6_guest.data.toList.drop 0 = dktX6_guest_0 := by decide +kernel
theorem dksX6_guest_1 : cX6_guest.data.toList.drop 23 = dktX6_guest_1 := dk_seg dksX6_guest_0 23 rfl rfl
theorem dX6_guest_0 : decode cX6_guest 0 = .ok (.iload_n 1, 1) := dk_27 (dk_at dksX6_guest_0 0 rfl rfl)
theorem dX6_guest_1 : decode cX6_guest 1 = .ok (.iconst 0, 1) := dk_3 (dk_at dksX6_guest_0 1 rfl rfl)
theorem dX6_guest_2 : decode cX6_guest 2 = .ok (.bipush 9, 2) := dk_16 9 (dk_at dksX6_guest_0 2 rfl rfl)
theorem dX6_guest_4 : decode cX6_guest 4 = .ok (.invokestatic 145, 3) := dk_184 0 145 (dk_at dksX6_guest_0 4 rfl rfl)
theorem dX6_guest_7 : decode cX6_guest 7 = .ok (.ifCond .eq 13, 3) := dk_153 0 13 (dk_at dksX6_guest_0 7 rfl rfl)
theorem dX6_guest_10 : decode cX6_guest 10 = .ok (.iload_n 2, 1) := dk_28 (dk_at dksX6_guest_0 10 rfl rfl)
theorem dX6_guest_11 : decode cX6_guest 11 = .ok (.iconst 0, 1) := dk_3 (dk_at dksX6_guest_0 11 rfl rfl)
theorem dX6_guest_12 : decode cX6_guest 12 = .ok (.bipush 50, 2) := dk_16 50 (dk_at dksX6_guest_0 12 rfl rfl)
theorem dX6_guest_14 : decode cX6_guest 14 = .ok (.invokestatic 145, 3) := dk_184 0 145 (dk_at dksX6_guest_0 14 rfl rfl)
theorem dX6_guest_17 : decode cX6_guest 17 = .ok (.ifCond .ne 5, 3) := dk_154 0 5 (dk_at dksX6_guest_0 17 rfl rfl)
theorem dX6_guest_20 : decode cX6_guest 20 = .ok (.iconst (-1), 1) := dk_2 (dk_at dksX6_guest_0 20 rfl rfl)
theorem dX6_guest_21 : decode cX6_guest 21 = .ok (.ireturn, 1) := dk_172 (dk_at dksX6_guest_0 21 rfl rfl)
theorem dX6_guest_22 : decode cX6_guest 22 = .ok (.aload_n 0, 1) := dk_42 (dk_at dksX6_guest_0 22 rfl rfl)
theorem dX6_guest_23 : decode cX6_guest 23 = .ok (.getfield 149, 3) := dk_180 0 149 (dk_at dksX6_guest_1 0 rfl rfl)
theorem dX6_guest_26 : decode cX6_guest 26 = .ok (.bipush 7, 2) := dk_16 7 (dk_at dksX6_guest_1 3 rfl rfl)
theorem dX6_guest_28 : decode cX6_guest 28 = .ok (.if_icmp .ne 8, 3) := dk_160 0 8 (dk_at dksX6_guest_1 5 rfl rfl)
theorem dX6_guest_31 : decode cX6_guest 31 = .ok (.bipush (-3), 2) := dk_16 253 (dk_at dksX6_guest_1 8 rfl rfl)
theorem dX6_guest_33 : decode cX6_guest 33 = .ok (.goto 10, 3) := dk_167 0 10 (dk_at dksX6_guest_1 10 rfl rfl)
theorem dX6_guest_36 : decode cX6_guest 36 = .ok (.aload_n 0, 1) := dk_42 (dk_at dksX6_guest_1 13 rfl rfl)
theorem dX6_guest_37 : decode cX6_guest 37 = .ok (.iload_n 1, 1) := dk_27 (dk_at dksX6_guest_1 14 rfl rfl)
theorem dX6_guest_38 : decode cX6_guest 38 = .ok (.iload_n 2, 1) := dk_28 (dk_at dksX6_guest_1 15 rfl rfl)
theorem dX6_guest_39 : decode cX6_guest 39 = .ok (.iconst 0, 1) := dk_3 (dk_at dksX6_guest_1 16 rfl rfl)
theorem dX6_guest_40 : decode cX6_guest 40 = .ok (.invokevirtual 159, 3) := dk_182 0 159 (dk_at dksX6_guest_1 17 rfl rfl)
theorem dX6_guest_43 : decode cX6_guest 43 = .ok (.ireturn, 1) := dk_172 (dk_at dksX6_guest_1 20 rfl rfl)
abbrev cX6_in : ByteArray := prog_25_method_3_code
def yX6_in : MethodName := ⟨RX6, "in", "(III)Z"⟩
def dkwX6_in_0 : List UInt8 := [26, 27, 161, 0, 12, 26, 28, 163, 0, 7, 4, 167, 0, 4, 3, 172]
abbrev dktX6_in_0 : List UInt8 := dkwX6_in_0 ++ []
theorem dksX6_in_0 : cX6_in.data.toList.drop 0 = dktX6_in_0 := by decide +kernel
theorem dX6_in_0 : decode cX6_in 0 = .ok (.iload_n 0, 1) := dk_26 (dk_at dksX6_in_0 0 rfl rfl)
theorem dX6_in_1 : decode cX6_in 1 = .ok (.iload_n 1, 1) := dk_27 (dk_at dksX6_in_0 1 rfl rfl)
theorem dX6_in_2 : decode cX6_in 2 = .ok (.if_icmp .lt 12, 3) := dk_161 0 12 (dk_at dksX6_in_0 2 rfl rfl)
theorem dX6_in_5 : decode cX6_in 5 = .ok (.iload_n 0, 1) := dk_26 (dk_at dksX6_in_0 5 rfl rfl)
theorem dX6_in_6 : decode cX6_in 6 = .ok (.iload_n 2, 1) := dk_28 (dk_at dksX6_in_0 6 rfl rfl)
theorem dX6_in_7 : decode cX6_in 7 = .ok (.if_icmp .gt 7, 3) := dk_163 0 7 (dk_at dksX6_in_0 7 rfl rfl)
theorem dX6_in_10 : decode cX6_in 10 = .ok (.iconst 1, 1) := dk_4 (dk_at dksX6_in_0 10 rfl rfl)
theorem dX6_in_11 : decode cX6_in 11 = .ok (.goto 4, 3) := dk_167 0 4 (dk_at dksX6_in_0 11 rfl rfl)
theorem dX6_in_14 : decode cX6_in 14 = .ok (.iconst 0, 1) := dk_3 (dk_at dksX6_in_0 14 rfl rfl)
theorem dX6_in_15 : decode cX6_in 15 = .ok (.ireturn, 1) := dk_172 (dk_at dksX6_in_0 15 rfl rfl)
abbrev cX6_addGuest : ByteArray := prog_25_method_7_code
def yX6_addGuest : MethodName := ⟨RX6, "addGuest", "(III)I"⟩
def dkwX6_addGuest_3 : List UInt8 := [4, 96, 181, 0, 149, 42, 180, 0, 149, 4, 100, 172]
abbrev dktX6_addGuest_3 : List UInt8 := dkwX6_addGuest_3 ++ []
def dkwX6_addGuest_2 : List UInt8 := [180, 0, 24, 42, 180, 0, 149, 28, 79, 42, 180, 0, 27, 42, 180, 0, 149, 29, 79, 42, 89, 180, 0, 149]
abbrev dktX6_addGuest_2 : List UInt8 := dkwX6_addGuest_2 ++ dktX6_addGuest_3
def dkwX6_addGuest_1 : List UInt8 := [42, 180, 0, 21, 7, 42, 180, 0, 149, 104, 21, 4, 96, 3, 79, 132, 4, 1, 167, 255, 217, 42]
abbrev dktX6_addGuest_1 : List UInt8 := dkwX6_addGuest_1 ++ dktX6_addGuest_2
def dkwX6_addGuest_0 : List UInt8 := [3, 54, 4, 21, 4, 7, 162, 0, 39, 42, 180, 0, 18, 7, 42, 180, 0, 149, 104, 21, 4, 96, 27, 79]
abbrev dktX6_addGuest_0 : List UInt8 := dkwX6_addGuest_0 ++ dktX6_addGuest_1
theorem dksX6_addGuest_0 : cX6_addGuest.data.toList.drop 0 = dktX6_addGuest_0 := by decide +kernel
theorem dksX6_addGuest_1 : cX6_addGuest.data.toList.drop 24 = dktX6_addGuest_1 := dk_seg dksX6_addGuest_0 24 rfl rfl
theorem dksX6_addGuest_2 : cX6_addGuest.data.toList.drop 46 = dktX6_addGuest_2 := dk_seg dksX6_addGuest_1 22 rfl rfl
theorem dksX6_addGuest_3 : cX6_addGuest.data.toList.drop 70 = dktX6_addGuest_3 := dk_seg dksX6_addGuest_2 24 rfl rfl
theorem dX6_addGuest_0 : decode cX6_addGuest 0 = .ok (.iconst 0, 1) := dk_3 (dk_at dksX6_addGuest_0 0 rfl rfl)
theorem dX6_addGuest_1 : decode cX6_addGuest 1 = .ok (.istore 4, 2) := dk_54 4 (dk_at dksX6_addGuest_0 1 rfl rfl)
theorem dX6_addGuest_3 : decode cX6_addGuest 3 = .ok (.iload 4, 2) := dk_21 4 (dk_at dksX6_addGuest_0 3 rfl rfl)
theorem dX6_addGuest_5 : decode cX6_addGuest 5 = .ok (.iconst 4, 1) := dk_7 (dk_at dksX6_addGuest_0 5 rfl rfl)
theorem dX6_addGuest_6 : decode cX6_addGuest 6 = .ok (.if_icmp .ge 39, 3) := dk_162 0 39 (dk_at dksX6_addGuest_0 6 rfl rfl)
theorem dX6_addGuest_9 : decode cX6_addGuest 9 = .ok (.aload_n 0, 1) := dk_42 (dk_at dksX6_addGuest_0 9 rfl rfl)
theorem dX6_addGuest_10 : decode cX6_addGuest 10 = .ok (.getfield 18, 3) := dk_180 0 18 (dk_at dksX6_addGuest_0 10 rfl rfl)
theorem dX6_addGuest_13 : decode cX6_addGuest 13 = .ok (.iconst 4, 1) := dk_7 (dk_at dksX6_addGuest_0 13 rfl rfl)
theorem dX6_addGuest_14 : decode cX6_addGuest 14 = .ok (.aload_n 0, 1) := dk_42 (dk_at dksX6_addGuest_0 14 rfl rfl)
theorem dX6_addGuest_15 : decode cX6_addGuest 15 = .ok (.getfield 149, 3) := dk_180 0 149 (dk_at dksX6_addGuest_0 15 rfl rfl)
theorem dX6_addGuest_18 : decode cX6_addGuest 18 = .ok (.imul, 1) := dk_104 (dk_at dksX6_addGuest_0 18 rfl rfl)
theorem dX6_addGuest_19 : decode cX6_addGuest 19 = .ok (.iload 4, 2) := dk_21 4 (dk_at dksX6_addGuest_0 19 rfl rfl)
theorem dX6_addGuest_21 : decode cX6_addGuest 21 = .ok (.iadd, 1) := dk_96 (dk_at dksX6_addGuest_0 21 rfl rfl)
theorem dX6_addGuest_22 : decode cX6_addGuest 22 = .ok (.iload_n 1, 1) := dk_27 (dk_at dksX6_addGuest_0 22 rfl rfl)
theorem dX6_addGuest_23 : decode cX6_addGuest 23 = .ok (.iastore, 1) := dk_79 (dk_at dksX6_addGuest_0 23 rfl rfl)
theorem dX6_addGuest_24 : decode cX6_addGuest 24 = .ok (.aload_n 0, 1) := dk_42 (dk_at dksX6_addGuest_1 0 rfl rfl)
theorem dX6_addGuest_25 : decode cX6_addGuest 25 = .ok (.getfield 21, 3) := dk_180 0 21 (dk_at dksX6_addGuest_1 1 rfl rfl)
theorem dX6_addGuest_28 : decode cX6_addGuest 28 = .ok (.iconst 4, 1) := dk_7 (dk_at dksX6_addGuest_1 4 rfl rfl)
theorem dX6_addGuest_29 : decode cX6_addGuest 29 = .ok (.aload_n 0, 1) := dk_42 (dk_at dksX6_addGuest_1 5 rfl rfl)
theorem dX6_addGuest_30 : decode cX6_addGuest 30 = .ok (.getfield 149, 3) := dk_180 0 149 (dk_at dksX6_addGuest_1 6 rfl rfl)
theorem dX6_addGuest_33 : decode cX6_addGuest 33 = .ok (.imul, 1) := dk_104 (dk_at dksX6_addGuest_1 9 rfl rfl)
theorem dX6_addGuest_34 : decode cX6_addGuest 34 = .ok (.iload 4, 2) := dk_21 4 (dk_at dksX6_addGuest_1 10 rfl rfl)
theorem dX6_addGuest_36 : decode cX6_addGuest 36 = .ok (.iadd, 1) := dk_96 (dk_at dksX6_addGuest_1 12 rfl rfl)
theorem dX6_addGuest_37 : decode cX6_addGuest 37 = .ok (.iconst 0, 1) := dk_3 (dk_at dksX6_addGuest_1 13 rfl rfl)
theorem dX6_addGuest_38 : decode cX6_addGuest 38 = .ok (.iastore, 1) := dk_79 (dk_at dksX6_addGuest_1 14 rfl rfl)
theorem dX6_addGuest_39 : decode cX6_addGuest 39 = .ok (.iinc 4 1, 3) := dk_132 4 1 (dk_at dksX6_addGuest_1 15 rfl rfl)
theorem dX6_addGuest_42 : decode cX6_addGuest 42 = .ok (.goto (-39), 3) := dk_167 255 217 (dk_at dksX6_addGuest_1 18 rfl rfl)
theorem dX6_addGuest_45 : decode cX6_addGuest 45 = .ok (.aload_n 0, 1) := dk_42 (dk_at dksX6_addGuest_1 21 rfl rfl)
theorem dX6_addGuest_46 : decode cX6_addGuest 46 = .ok (.getfield 24, 3) := dk_180 0 24 (dk_at dksX6_addGuest_2 0 rfl rfl)
theorem dX6_addGuest_49 : decode cX6_addGuest 49 = .ok (.aload_n 0, 1) := dk_42 (dk_at dksX6_addGuest_2 3 rfl rfl)
theorem dX6_addGuest_50 : decode cX6_addGuest 50 = .ok (.getfield 149, 3) := dk_180 0 149 (dk_at dksX6_addGuest_2 4 rfl rfl)
theorem dX6_addGuest_53 : decode cX6_addGuest 53 = .ok (.iload_n 2, 1) := dk_28 (dk_at dksX6_addGuest_2 7 rfl rfl)
theorem dX6_addGuest_54 : decode cX6_addGuest 54 = .ok (.iastore, 1) := dk_79 (dk_at dksX6_addGuest_2 8 rfl rfl)
theorem dX6_addGuest_55 : decode cX6_addGuest 55 = .ok (.aload_n 0, 1) := dk_42 (dk_at dksX6_addGuest_2 9 rfl rfl)
theorem dX6_addGuest_56 : decode cX6_addGuest 56 = .ok (.getfield 27, 3) := dk_180 0 27 (dk_at dksX6_addGuest_2 10 rfl rfl)
theorem dX6_addGuest_59 : decode cX6_addGuest 59 = .ok (.aload_n 0, 1) := dk_42 (dk_at dksX6_addGuest_2 13 rfl rfl)
theorem dX6_addGuest_60 : decode cX6_addGuest 60 = .ok (.getfield 149, 3) := dk_180 0 149 (dk_at dksX6_addGuest_2 14 rfl rfl)
theorem dX6_addGuest_63 : decode cX6_addGuest 63 = .ok (.iload_n 3, 1) := dk_29 (dk_at dksX6_addGuest_2 17 rfl rfl)
theorem dX6_addGuest_64 : decode cX6_addGuest 64 = .ok (.iastore, 1) := dk_79 (dk_at dksX6_addGuest_2 18 rfl rfl)
theorem dX6_addGuest_65 : decode cX6_addGuest 65 = .ok (.aload_n 0, 1) := dk_42 (dk_at dksX6_addGuest_2 19 rfl rfl)
theorem dX6_addGuest_66 : decode cX6_addGuest 66 = .ok (.dup, 1) := dk_89 (dk_at dksX6_addGuest_2 20 rfl rfl)
theorem dX6_addGuest_67 : decode cX6_addGuest 67 = .ok (.getfield 149, 3) := dk_180 0 149 (dk_at dksX6_addGuest_2 21 rfl rfl)
theorem dX6_addGuest_70 : decode cX6_addGuest 70 = .ok (.iconst 1, 1) := dk_4 (dk_at dksX6_addGuest_3 0 rfl rfl)
theorem dX6_addGuest_71 : decode cX6_addGuest 71 = .ok (.iadd, 1) := dk_96 (dk_at dksX6_addGuest_3 1 rfl rfl)
theorem dX6_addGuest_72 : decode cX6_addGuest 72 = .ok (.putfield 149, 3) := dk_181 0 149 (dk_at dksX6_addGuest_3 2 rfl rfl)
theorem dX6_addGuest_75 : decode cX6_addGuest 75 = .ok (.aload_n 0, 1) := dk_42 (dk_at dksX6_addGuest_3 5 rfl rfl)
theorem dX6_addGuest_76 : decode cX6_addGuest 76 = .ok (.getfield 149, 3) := dk_180 0 149 (dk_at dksX6_addGuest_3 6 rfl rfl)
theorem dX6_addGuest_79 : decode cX6_addGuest 79 = .ok (.iconst 1, 1) := dk_4 (dk_at dksX6_addGuest_3 9 rfl rfl)
theorem dX6_addGuest_80 : decode cX6_addGuest 80 = .ok (.isub, 1) := dk_100 (dk_at dksX6_addGuest_3 10 rfl rfl)
theorem dX6_addGuest_81 : decode cX6_addGuest 81 = .ok (.ireturn, 1) := dk_172 (dk_at dksX6_addGuest_3 11 rfl rfl)
abbrev cX6_guests : ByteArray := prog_25_method_9_code
def yX6_guests : MethodName := ⟨RX6, "guests", "(III)I"⟩
def dkwX6_guests_9 : List UInt8 := [132, 4, 1, 167, 255, 101, 29, 172]
abbrev dktX6_guests_9 : List UInt8 := dkwX6_guests_9 ++ []
def dkwX6_guests_8 : List UInt8 := [180, 0, 135, 21, 7, 4, 96, 47, 136, 42, 180, 0, 135, 21, 7, 5, 96, 47, 136, 182, 0, 159, 87]
abbrev dktX6_guests_8 : List UInt8 := dkwX6_guests_8 ++ dktX6_guests_9
def dkwX6_guests_7 : List UInt8 := [136, 3, 6, 184, 0, 145, 154, 0, 6, 21, 4, 172, 42, 42, 180, 0, 135, 21, 7, 47, 136, 42]
abbrev dktX6_guests_7 : List UInt8 := dkwX6_guests_7 ++ dktX6_guests_8
def dkwX6_guests_6 : List UInt8 := [21, 7, 4, 96, 47, 136, 3, 16, 50, 184, 0, 145, 153, 0, 21, 42, 180, 0, 135, 21, 7, 5, 96, 47]
abbrev dktX6_guests_6 : List UInt8 := dkwX6_guests_6 ++ dktX6_guests_7
def dkwX6_guests_5 : List UInt8 := [54, 7, 42, 180, 0, 135, 21, 7, 47, 136, 3, 16, 9, 184, 0, 145, 153, 0, 40, 42, 180, 0, 135]
abbrev dktX6_guests_5 : List UInt8 := dkwX6_guests_5 ++ dktX6_guests_6
def dkwX6_guests_4 : List UInt8 := [156, 0, 12, 42, 180, 0, 149, 16, 7, 160, 0, 6, 21, 4, 172, 16, 60, 27, 104, 22, 5, 136, 96]
abbrev dktX6_guests_4 : List UInt8 := dkwX6_guests_4 ++ dktX6_guests_5
def dkwX6_guests_3 : List UInt8 := [55, 5, 22, 5, 9, 148, 155, 0, 29, 22, 5, 20, 0, 166, 97, 42, 180, 0, 132, 27, 46, 133, 148]
abbrev dktX6_guests_3 : List UInt8 := dkwX6_guests_3 ++ dktX6_guests_4
def dkwX6_guests_2 : List UInt8 := [46, 2, 160, 0, 5, 3, 172, 3, 54, 4, 21, 4, 29, 162, 0, 155, 28, 133, 6, 21, 4, 104, 133, 97]
abbrev dktX6_guests_2 : List UInt8 := dkwX6_guests_2 ++ dktX6_guests_3
def dkwX6_guests_1 : List UInt8 := [46, 2, 159, 0, 17, 42, 180, 0, 129, 27, 46, 16, 254, 159, 0, 6, 16, 244, 172, 42, 180, 0, 129, 27]
abbrev dktX6_guests_1 : List UInt8 := dkwX6_guests_1 ++ dktX6_guests_2
def dkwX6_guests_0 : List UInt8 := [27, 184, 0, 163, 153, 0, 13, 29, 4, 16, 7, 184, 0, 145, 154, 0, 5, 2, 172, 42, 180, 0, 129, 27]
abbrev dktX6_guests_0 : List UInt8 := dkwX6_guests_0 ++ dktX6_guests_1
theorem dksX6_guests_0 : cX6_guests.data.toList.drop 0 = dktX6_guests_0 := by decide +kernel
theorem dksX6_guests_1 : cX6_guests.data.toList.drop 24 = dktX6_guests_1 := dk_seg dksX6_guests_0 24 rfl rfl
theorem dksX6_guests_2 : cX6_guests.data.toList.drop 48 = dktX6_guests_2 := dk_seg dksX6_guests_1 24 rfl rfl
theorem dksX6_guests_3 : cX6_guests.data.toList.drop 72 = dktX6_guests_3 := dk_seg dksX6_guests_2 24 rfl rfl
theorem dksX6_guests_4 : cX6_guests.data.toList.drop 95 = dktX6_guests_4 := dk_seg dksX6_guests_3 23 rfl rfl
theorem dksX6_guests_5 : cX6_guests.data.toList.drop 118 = dktX6_guests_5 := dk_seg dksX6_guests_4 23 rfl rfl
theorem dksX6_guests_6 : cX6_guests.data.toList.drop 141 = dktX6_guests_6 := dk_seg dksX6_guests_5 23 rfl rfl
theorem dksX6_guests_7 : cX6_guests.data.toList.drop 165 = dktX6_guests_7 := dk_seg dksX6_guests_6 24 rfl rfl
theorem dksX6_guests_8 : cX6_guests.data.toList.drop 187 = dktX6_guests_8 := dk_seg dksX6_guests_7 22 rfl rfl
theorem dksX6_guests_9 : cX6_guests.data.toList.drop 210 = dktX6_guests_9 := dk_seg dksX6_guests_8 23 rfl rfl
theorem dX6_guests_0 : decode cX6_guests 0 = .ok (.iload_n 1, 1) := dk_27 (dk_at dksX6_guests_0 0 rfl rfl)
theorem dX6_guests_1 : decode cX6_guests 1 = .ok (.invokestatic 163, 3) := dk_184 0 163 (dk_at dksX6_guests_0 1 rfl rfl)
theorem dX6_guests_4 : decode cX6_guests 4 = .ok (.ifCond .eq 13, 3) := dk_153 0 13 (dk_at dksX6_guests_0 4 rfl rfl)
theorem dX6_guests_7 : decode cX6_guests 7 = .ok (.iload_n 3, 1) := dk_29 (dk_at dksX6_guests_0 7 rfl rfl)
theorem dX6_guests_8 : decode cX6_guests 8 = .ok (.iconst 1, 1) := dk_4 (dk_at dksX6_guests_0 8 rfl rfl)
theorem dX6_guests_9 : decode cX6_guests 9 = .ok (.bipush 7, 2) := dk_16 7 (dk_at dksX6_guests_0 9 rfl rfl)
theorem dX6_guests_11 : decode cX6_guests 11 = .ok (.invokestatic 145, 3) := dk_184 0 145 (dk_at dksX6_guests_0 11 rfl rfl)
theorem dX6_guests_14 : decode cX6_guests 14 = .ok (.ifCond .ne 5, 3) := dk_154 0 5 (dk_at dksX6_guests_0 14 rfl rfl)
theorem dX6_guests_17 : decode cX6_guests 17 = .ok (.iconst (-1), 1) := dk_2 (dk_at dksX6_guests_0 17 rfl rfl)
theorem dX6_guests_18 : decode cX6_guests 18 = .ok (.ireturn, 1) := dk_172 (dk_at dksX6_guests_0 18 rfl rfl)
theorem dX6_guests_19 : decode cX6_guests 19 = .ok (.aload_n 0, 1) := dk_42 (dk_at dksX6_guests_0 19 rfl rfl)
theorem dX6_guests_20 : decode cX6_guests 20 = .ok (.getfield 129, 3) := dk_180 0 129 (dk_at dksX6_guests_0 20 rfl rfl)
theorem dX6_guests_23 : decode cX6_guests 23 = .ok (.iload_n 1, 1) := dk_27 (dk_at dksX6_guests_0 23 rfl rfl)
theorem dX6_guests_24 : decode cX6_guests 24 = .ok (.iaload, 1) := dk_46 (dk_at dksX6_guests_1 0 rfl rfl)
theorem dX6_guests_25 : decode cX6_guests 25 = .ok (.iconst (-1), 1) := dk_2 (dk_at dksX6_guests_1 1 rfl rfl)
theorem dX6_guests_26 : decode cX6_guests 26 = .ok (.if_icmp .eq 17, 3) := dk_159 0 17 (dk_at dksX6_guests_1 2 rfl rfl)
theorem dX6_guests_29 : decode cX6_guests 29 = .ok (.aload_n 0, 1) := dk_42 (dk_at dksX6_guests_1 5 rfl rfl)
theorem dX6_guests_30 : decode cX6_guests 30 = .ok (.getfield 129, 3) := dk_180 0 129 (dk_at dksX6_guests_1 6 rfl rfl)
theorem dX6_guests_33 : decode cX6_guests 33 = .ok (.iload_n 1, 1) := dk_27 (dk_at dksX6_guests_1 9 rfl rfl)
theorem dX6_guests_34 : decode cX6_guests 34 = .ok (.iaload, 1) := dk_46 (dk_at dksX6_guests_1 10 rfl rfl)
theorem dX6_guests_35 : decode cX6_guests 35 = .ok (.bipush (-2), 2) := dk_16 254 (dk_at dksX6_guests_1 11 rfl rfl)
theorem dX6_guests_37 : decode cX6_guests 37 = .ok (.if_icmp .eq 6, 3) := dk_159 0 6 (dk_at dksX6_guests_1 13 rfl rfl)
theorem dX6_guests_40 : decode cX6_guests 40 = .ok (.bipush (-12), 2) := dk_16 244 (dk_at dksX6_guests_1 16 rfl rfl)
theorem dX6_guests_42 : decode cX6_guests 42 = .ok (.ireturn, 1) := dk_172 (dk_at dksX6_guests_1 18 rfl rfl)
theorem dX6_guests_43 : decode cX6_guests 43 = .ok (.aload_n 0, 1) := dk_42 (dk_at dksX6_guests_1 19 rfl rfl)
theorem dX6_guests_44 : decode cX6_guests 44 = .ok (.getfield 129, 3) := dk_180 0 129 (dk_at dksX6_guests_1 20 rfl rfl)
theorem dX6_guests_47 : decode cX6_guests 47 = .ok (.iload_n 1, 1) := dk_27 (dk_at dksX6_guests_1 23 rfl rfl)
theorem dX6_guests_48 : decode cX6_guests 48 = .ok (.iaload, 1) := dk_46 (dk_at dksX6_guests_2 0 rfl rfl)
theorem dX6_guests_49 : decode cX6_guests 49 = .ok (.iconst (-1), 1) := dk_2 (dk_at dksX6_guests_2 1 rfl rfl)
theorem dX6_guests_50 : decode cX6_guests 50 = .ok (.if_icmp .ne 5, 3) := dk_160 0 5 (dk_at dksX6_guests_2 2 rfl rfl)
theorem dX6_guests_53 : decode cX6_guests 53 = .ok (.iconst 0, 1) := dk_3 (dk_at dksX6_guests_2 5 rfl rfl)
theorem dX6_guests_54 : decode cX6_guests 54 = .ok (.ireturn, 1) := dk_172 (dk_at dksX6_guests_2 6 rfl rfl)
theorem dX6_guests_55 : decode cX6_guests 55 = .ok (.iconst 0, 1) := dk_3 (dk_at dksX6_guests_2 7 rfl rfl)
theorem dX6_guests_56 : decode cX6_guests 56 = .ok (.istore 4, 2) := dk_54 4 (dk_at dksX6_guests_2 8 rfl rfl)
theorem dX6_guests_58 : decode cX6_guests 58 = .ok (.iload 4, 2) := dk_21 4 (dk_at dksX6_guests_2 10 rfl rfl)
theorem dX6_guests_60 : decode cX6_guests 60 = .ok (.iload_n 3, 1) := dk_29 (dk_at dksX6_guests_2 12 rfl rfl)
theorem dX6_guests_61 : decode cX6_guests 61 = .ok (.if_icmp .ge 155, 3) := dk_162 0 155 (dk_at dksX6_guests_2 13 rfl rfl)
theorem dX6_guests_64 : decode cX6_guests 64 = .ok (.iload_n 2, 1) := dk_28 (dk_at dksX6_guests_2 16 rfl rfl)
theorem dX6_guests_65 : decode cX6_guests 65 = .ok (.i2l, 1) := dk_133 (dk_at dksX6_guests_2 17 rfl rfl)
theorem dX6_guests_66 : decode cX6_guests 66 = .ok (.iconst 3, 1) := dk_6 (dk_at dksX6_guests_2 18 rfl rfl)
theorem dX6_guests_67 : decode cX6_guests 67 = .ok (.iload 4, 2) := dk_21 4 (dk_at dksX6_guests_2 19 rfl rfl)
theorem dX6_guests_69 : decode cX6_guests 69 = .ok (.imul, 1) := dk_104 (dk_at dksX6_guests_2 21 rfl rfl)
theorem dX6_guests_70 : decode cX6_guests 70 = .ok (.i2l, 1) := dk_133 (dk_at dksX6_guests_2 22 rfl rfl)
theorem dX6_guests_71 : decode cX6_guests 71 = .ok (.ladd, 1) := dk_97 (dk_at dksX6_guests_2 23 rfl rfl)
theorem dX6_guests_72 : decode cX6_guests 72 = .ok (.lstore 5, 2) := dk_55 5 (dk_at dksX6_guests_3 0 rfl rfl)
theorem dX6_guests_74 : decode cX6_guests 74 = .ok (.lload 5, 2) := dk_22 5 (dk_at dksX6_guests_3 2 rfl rfl)
theorem dX6_guests_76 : decode cX6_guests 76 = .ok (.lconst 0, 1) := dk_9 (dk_at dksX6_guests_3 4 rfl rfl)
theorem dX6_guests_77 : decode cX6_guests 77 = .ok (.lcmp, 1) := dk_148 (dk_at dksX6_guests_3 5 rfl rfl)
theorem dX6_guests_78 : decode cX6_guests 78 = .ok (.ifCond .lt 29, 3) := dk_155 0 29 (dk_at dksX6_guests_3 6 rfl rfl)
theorem dX6_guests_81 : decode cX6_guests 81 = .ok (.lload 5, 2) := dk_22 5 (dk_at dksX6_guests_3 9 rfl rfl)
theorem dX6_guests_83 : decode cX6_guests 83 = .ok (.ldc2_w 166, 3) := dk_20 0 166 (dk_at dksX6_guests_3 11 rfl rfl)
theorem dX6_guests_86 : decode cX6_guests 86 = .ok (.ladd, 1) := dk_97 (dk_at dksX6_guests_3 14 rfl rfl)
theorem dX6_guests_87 : decode cX6_guests 87 = .ok (.aload_n 0, 1) := dk_42 (dk_at dksX6_guests_3 15 rfl rfl)
theorem dX6_guests_88 : decode cX6_guests 88 = .ok (.getfield 132, 3) := dk_180 0 132 (dk_at dksX6_guests_3 16 rfl rfl)
theorem dX6_guests_91 : decode cX6_guests 91 = .ok (.iload_n 1, 1) := dk_27 (dk_at dksX6_guests_3 19 rfl rfl)
theorem dX6_guests_92 : decode cX6_guests 92 = .ok (.iaload, 1) := dk_46 (dk_at dksX6_guests_3 20 rfl rfl)
theorem dX6_guests_93 : decode cX6_guests 93 = .ok (.i2l, 1) := dk_133 (dk_at dksX6_guests_3 21 rfl rfl)
theorem dX6_guests_94 : decode cX6_guests 94 = .ok (.lcmp, 1) := dk_148 (dk_at dksX6_guests_3 22 rfl rfl)
theorem dX6_guests_95 : decode cX6_guests 95 = .ok (.ifCond .ge 12, 3) := dk_156 0 12 (dk_at dksX6_guests_4 0 rfl rfl)
theorem dX6_guests_98 : decode cX6_guests 98 = .ok (.aload_n 0, 1) := dk_42 (dk_at dksX6_guests_4 3 rfl rfl)
theorem dX6_guests_99 : decode cX6_guests 99 = .ok (.getfield 149, 3) := dk_180 0 149 (dk_at dksX6_guests_4 4 rfl rfl)
theorem dX6_guests_102 : decode cX6_guests 102 = .ok (.bipush 7, 2) := dk_16 7 (dk_at dksX6_guests_4 7 rfl rfl)
theorem dX6_guests_104 : decode cX6_guests 104 = .ok (.if_icmp .ne 6, 3) := dk_160 0 6 (dk_at dksX6_guests_4 9 rfl rfl)
theorem dX6_guests_107 : decode cX6_guests 107 = .ok (.iload 4, 2) := dk_21 4 (dk_at dksX6_guests_4 12 rfl rfl)
theorem dX6_guests_109 : decode cX6_guests 109 = .ok (.ireturn, 1) := dk_172 (dk_at dksX6_guests_4 14 rfl rfl)
theorem dX6_guests_110 : decode cX6_guests 110 = .ok (.bipush 60, 2) := dk_16 60 (dk_at dksX6_guests_4 15 rfl rfl)
theorem dX6_guests_112 : decode cX6_guests 112 = .ok (.iload_n 1, 1) := dk_27 (dk_at dksX6_guests_4 17 rfl rfl)
theorem dX6_guests_113 : decode cX6_guests 113 = .ok (.imul, 1) := dk_104 (dk_at dksX6_guests_4 18 rfl rfl)
theorem dX6_guests_114 : decode cX6_guests 114 = .ok (.lload 5, 2) := dk_22 5 (dk_at dksX6_guests_4 19 rfl rfl)
theorem dX6_guests_116 : decode cX6_guests 116 = .ok (.l2i, 1) := dk_136 (dk_at dksX6_guests_4 21 rfl rfl)
theorem dX6_guests_117 : decode cX6_guests 117 = .ok (.iadd, 1) := dk_96 (dk_at dksX6_guests_4 22 rfl rfl)
theorem dX6_guests_118 : decode cX6_guests 118 = .ok (.istore 7, 2) := dk_54 7 (dk_at dksX6_guests_5 0 rfl rfl)
theorem dX6_guests_120 : decode cX6_guests 120 = .ok (.aload_n 0, 1) := dk_42 (dk_at dksX6_guests_5 2 rfl rfl)
theorem dX6_guests_121 : decode cX6_guests 121 = .ok (.getfield 135, 3) := dk_180 0 135 (dk_at dksX6_guests_5 3 rfl rfl)
theorem dX6_guests_124 : decode cX6_guests 124 = .ok (.iload 7, 2) := dk_21 7 (dk_at dksX6_guests_5 6 rfl rfl)
theorem dX6_guests_126 : decode cX6_guests 126 = .ok (.laload, 1) := dk_47 (dk_at dksX6_guests_5 8 rfl rfl)
theorem dX6_guests_127 : decode cX6_guests 127 = .ok (.l2i, 1) := dk_136 (dk_at dksX6_guests_5 9 rfl rfl)
theorem dX6_guests_128 : decode cX6_guests 128 = .ok (.iconst 0, 1) := dk_3 (dk_at dksX6_guests_5 10 rfl rfl)
theorem dX6_guests_129 : decode cX6_guests 129 = .ok (.bipush 9, 2) := dk_16 9 (dk_at dksX6_guests_5 11 rfl rfl)
theorem dX6_guests_131 : decode cX6_guests 131 = .ok (.invokestatic 145, 3) := dk_184 0 145 (dk_at dksX6_guests_5 13 rfl rfl)
theorem dX6_guests_134 : decode cX6_guests 134 = .ok (.ifCond .eq 40, 3) := dk_153 0 40 (dk_at dksX6_guests_5 16 rfl rfl)
theorem dX6_guests_137 : decode cX6_guests 137 = .ok (.aload_n 0, 1) := dk_42 (dk_at dksX6_guests_5 19 rfl rfl)
theorem dX6_guests_138 : decode cX6_guests 138 = .ok (.getfield 135, 3) := dk_180 0 135 (dk_at dksX6_guests_5 20 rfl rfl)
theorem dX6_guests_141 : decode cX6_guests 141 = .ok (.iload 7, 2) := dk_21 7 (dk_at dksX6_guests_6 0 rfl rfl)
theorem dX6_guests_143 : decode cX6_guests 143 = .ok (.iconst 1, 1) := dk_4 (dk_at dksX6_guests_6 2 rfl rfl)
theorem dX6_guests_144 : decode cX6_guests 144 = .ok (.iadd, 1) := dk_96 (dk_at dksX6_guests_6 3 rfl rfl)
theorem dX6_guests_145 : decode cX6_guests 145 = .ok (.laload, 1) := dk_47 (dk_at dksX6_guests_6 4 rfl rfl)
theorem dX6_guests_146 : decode cX6_guests 146 = .ok (.l2i, 1) := dk_136 (dk_at dksX6_guests_6 5 rfl rfl)
theorem dX6_guests_147 : decode cX6_guests 147 = .ok (.iconst 0, 1) := dk_3 (dk_at dksX6_guests_6 6 rfl rfl)
theorem dX6_guests_148 : decode cX6_guests 148 = .ok (.bipush 50, 2) := dk_16 50 (dk_at dksX6_guests_6 7 rfl rfl)
theorem dX6_guests_150 : decode cX6_guests 150 = .ok (.invokestatic 145, 3) := dk_184 0 145 (dk_at dksX6_guests_6 9 rfl rfl)
theorem dX6_guests_153 : decode cX6_guests 153 = .ok (.ifCond .eq 21, 3) := dk_153 0 21 (dk_at dksX6_guests_6 12 rfl rfl)
theorem dX6_guests_156 : decode cX6_guests 156 = .ok (.aload_n 0, 1) := dk_42 (dk_at dksX6_guests_6 15 rfl rfl)
theorem dX6_guests_157 : decode cX6_guests 157 = .ok (.getfield 135, 3) := dk_180 0 135 (dk_at dksX6_guests_6 16 rfl rfl)
theorem dX6_guests_160 : decode cX6_guests 160 = .ok (.iload 7, 2) := dk_21 7 (dk_at dksX6_guests_6 19 rfl rfl)
theorem dX6_guests_162 : decode cX6_guests 162 = .ok (.iconst 2, 1) := dk_5 (dk_at dksX6_guests_6 21 rfl rfl)
theorem dX6_guests_163 : decode cX6_guests 163 = .ok (.iadd, 1) := dk_96 (dk_at dksX6_guests_6 22 rfl rfl)
theorem dX6_guests_164 : decode cX6_guests 164 = .ok (.laload, 1) := dk_47 (dk_at dksX6_guests_6 23 rfl rfl)
theorem dX6_guests_165 : decode cX6_guests 165 = .ok (.l2i, 1) := dk_136 (dk_at dksX6_guests_7 0 rfl rfl)
theorem dX6_guests_166 : decode cX6_guests 166 = .ok (.iconst 0, 1) := dk_3 (dk_at dksX6_guests_7 1 rfl rfl)
theorem dX6_guests_167 : decode cX6_guests 167 = .ok (.iconst 3, 1) := dk_6 (dk_at dksX6_guests_7 2 rfl rfl)
theorem dX6_guests_168 : decode cX6_guests 168 = .ok (.invokestatic 145, 3) := dk_184 0 145 (dk_at dksX6_guests_7 3 rfl rfl)
theorem dX6_guests_171 : decode cX6_guests 171 = .ok (.ifCond .ne 6, 3) := dk_154 0 6 (dk_at dksX6_guests_7 6 rfl rfl)
theorem dX6_guests_174 : decode cX6_guests 174 = .ok (.iload 4, 2) := dk_21 4 (dk_at dksX6_guests_7 9 rfl rfl)
theorem dX6_guests_176 : decode cX6_guests 176 = .ok (.ireturn, 1) := dk_172 (dk_at dksX6_guests_7 11 rfl rfl)
theorem dX6_guests_177 : decode cX6_guests 177 = .ok (.aload_n 0, 1) := dk_42 (dk_at dksX6_guests_7 12 rfl rfl)
theorem dX6_guests_178 : decode cX6_guests 178 = .ok (.aload_n 0, 1) := dk_42 (dk_at dksX6_guests_7 13 rfl rfl)
theorem dX6_guests_179 : decode cX6_guests 179 = .ok (.getfield 135, 3) := dk_180 0 135 (dk_at dksX6_guests_7 14 rfl rfl)
theorem dX6_guests_182 : decode cX6_guests 182 = .ok (.iload 7, 2) := dk_21 7 (dk_at dksX6_guests_7 17 rfl rfl)
theorem dX6_guests_184 : decode cX6_guests 184 = .ok (.laload, 1) := dk_47 (dk_at dksX6_guests_7 19 rfl rfl)
theorem dX6_guests_185 : decode cX6_guests 185 = .ok (.l2i, 1) := dk_136 (dk_at dksX6_guests_7 20 rfl rfl)
theorem dX6_guests_186 : decode cX6_guests 186 = .ok (.aload_n 0, 1) := dk_42 (dk_at dksX6_guests_7 21 rfl rfl)
theorem dX6_guests_187 : decode cX6_guests 187 = .ok (.getfield 135, 3) := dk_180 0 135 (dk_at dksX6_guests_8 0 rfl rfl)
theorem dX6_guests_190 : decode cX6_guests 190 = .ok (.iload 7, 2) := dk_21 7 (dk_at dksX6_guests_8 3 rfl rfl)
theorem dX6_guests_192 : decode cX6_guests 192 = .ok (.iconst 1, 1) := dk_4 (dk_at dksX6_guests_8 5 rfl rfl)
theorem dX6_guests_193 : decode cX6_guests 193 = .ok (.iadd, 1) := dk_96 (dk_at dksX6_guests_8 6 rfl rfl)
theorem dX6_guests_194 : decode cX6_guests 194 = .ok (.laload, 1) := dk_47 (dk_at dksX6_guests_8 7 rfl rfl)
theorem dX6_guests_195 : decode cX6_guests 195 = .ok (.l2i, 1) := dk_136 (dk_at dksX6_guests_8 8 rfl rfl)
theorem dX6_guests_196 : decode cX6_guests 196 = .ok (.aload_n 0, 1) := dk_42 (dk_at dksX6_guests_8 9 rfl rfl)
theorem dX6_guests_197 : decode cX6_guests 197 = .ok (.getfield 135, 3) := dk_180 0 135 (dk_at dksX6_guests_8 10 rfl rfl)
theorem dX6_guests_200 : decode cX6_guests 200 = .ok (.iload 7, 2) := dk_21 7 (dk_at dksX6_guests_8 13 rfl rfl)
theorem dX6_guests_202 : decode cX6_guests 202 = .ok (.iconst 2, 1) := dk_5 (dk_at dksX6_guests_8 15 rfl rfl)
theorem dX6_guests_203 : decode cX6_guests 203 = .ok (.iadd, 1) := dk_96 (dk_at dksX6_guests_8 16 rfl rfl)
theorem dX6_guests_204 : decode cX6_guests 204 = .ok (.laload, 1) := dk_47 (dk_at dksX6_guests_8 17 rfl rfl)
theorem dX6_guests_205 : decode cX6_guests 205 = .ok (.l2i, 1) := dk_136 (dk_at dksX6_guests_8 18 rfl rfl)
theorem dX6_guests_206 : decode cX6_guests 206 = .ok (.invokevirtual 159, 3) := dk_182 0 159 (dk_at dksX6_guests_8 19 rfl rfl)
theorem dX6_guests_209 : decode cX6_guests 209 = .ok (.pop, 1) := dk_87 (dk_at dksX6_guests_8 22 rfl rfl)
theorem dX6_guests_210 : decode cX6_guests 210 = .ok (.iinc 4 1, 3) := dk_132 4 1 (dk_at dksX6_guests_9 0 rfl rfl)
theorem dX6_guests_213 : decode cX6_guests 213 = .ok (.goto (-155), 3) := dk_167 255 101 (dk_at dksX6_guests_9 3 rfl rfl)
theorem dX6_guests_216 : decode cX6_guests 216 = .ok (.iload_n 3, 1) := dk_29 (dk_at dksX6_guests_9 6 rfl rfl)
theorem dX6_guests_217 : decode cX6_guests 217 = .ok (.ireturn, 1) := dk_172 (dk_at dksX6_guests_9 7 rfl rfl)
abbrev cX6_isShelf : ByteArray := prog_25_method_100_code
def yX6_isShelf : MethodName := ⟨RX6, "isShelf", "(I)Z"⟩
def dkwX6_isShelf_0 : List UInt8 := [26, 3, 8, 184, 0, 145, 172]
abbrev dktX6_isShelf_0 : List UInt8 := dkwX6_isShelf_0 ++ []
theorem dksX6_isShelf_0 : cX6_isShelf.data.toList.drop 0 = dktX6_isShelf_0 := by decide +kernel
theorem dX6_isShelf_0 : decode cX6_isShelf 0 = .ok (.iload_n 0, 1) := dk_26 (dk_at dksX6_isShelf_0 0 rfl rfl)
theorem dX6_isShelf_1 : decode cX6_isShelf 1 = .ok (.iconst 0, 1) := dk_3 (dk_at dksX6_isShelf_0 1 rfl rfl)
theorem dX6_isShelf_2 : decode cX6_isShelf 2 = .ok (.iconst 5, 1) := dk_8 (dk_at dksX6_isShelf_0 2 rfl rfl)
theorem dX6_isShelf_3 : decode cX6_isShelf 3 = .ok (.invokestatic 145, 3) := dk_184 0 145 (dk_at dksX6_isShelf_0 3 rfl rfl)
theorem dX6_isShelf_6 : decode cX6_isShelf 6 = .ok (.ireturn, 1) := dk_172 (dk_at dksX6_isShelf_0 6 rfl rfl)
abbrev cX6_undo : ByteArray := prog_25_method_14_code
def yX6_undo : MethodName := ⟨RX6, "undo", "()I"⟩
def dkwX6_undo_2 : List UInt8 := [180, 0, 179, 46, 42, 180, 0, 49, 42, 180, 0, 179, 46, 182, 0, 182, 42, 180, 0, 179, 172]
abbrev dktX6_undo_2 : List UInt8 := dkwX6_undo_2 ++ []
def dkwX6_undo_1 : List UInt8 := [180, 0, 176, 4, 96, 181, 0, 176, 42, 42, 180, 0, 43, 42, 180, 0, 179, 46, 42, 180, 0, 46, 42]
abbrev dktX6_undo_1 : List UInt8 := dkwX6_undo_1 ++ dktX6_undo_2
def dkwX6_undo_0 : List UInt8 := [42, 180, 0, 179, 154, 0, 6, 16, 251, 172, 42, 89, 180, 0, 179, 4, 100, 181, 0, 179, 42, 89]
abbrev dktX6_undo_0 : List UInt8 := dkwX6_undo_0 ++ dktX6_undo_1
theorem dksX6_undo_0 : cX6_undo.data.toList.drop 0 = dktX6_undo_0 := by decide +kernel
theorem dksX6_undo_1 : cX6_undo.data.toList.drop 22 = dktX6_undo_1 := dk_seg dksX6_undo_0 22 rfl rfl
theorem dksX6_undo_2 : cX6_undo.data.toList.drop 45 = dktX6_undo_2 := dk_seg dksX6_undo_1 23 rfl rfl
theorem dX6_undo_0 : decode cX6_undo 0 = .ok (.aload_n 0, 1) := dk_42 (dk_at dksX6_undo_0 0 rfl rfl)
theorem dX6_undo_1 : decode cX6_undo 1 = .ok (.getfield 179, 3) := dk_180 0 179 (dk_at dksX6_undo_0 1 rfl rfl)
theorem dX6_undo_4 : decode cX6_undo 4 = .ok (.ifCond .ne 6, 3) := dk_154 0 6 (dk_at dksX6_undo_0 4 rfl rfl)
theorem dX6_undo_7 : decode cX6_undo 7 = .ok (.bipush (-5), 2) := dk_16 251 (dk_at dksX6_undo_0 7 rfl rfl)
theorem dX6_undo_9 : decode cX6_undo 9 = .ok (.ireturn, 1) := dk_172 (dk_at dksX6_undo_0 9 rfl rfl)
theorem dX6_undo_10 : decode cX6_undo 10 = .ok (.aload_n 0, 1) := dk_42 (dk_at dksX6_undo_0 10 rfl rfl)
theorem dX6_undo_11 : decode cX6_undo 11 = .ok (.dup, 1) := dk_89 (dk_at dksX6_undo_0 11 rfl rfl)
theorem dX6_undo_12 : decode cX6_undo 12 = .ok (.getfield 179, 3) := dk_180 0 179 (dk_at dksX6_undo_0 12 rfl rfl)
theorem dX6_undo_15 : decode cX6_undo 15 = .ok (.iconst 1, 1) := dk_4 (dk_at dksX6_undo_0 15 rfl rfl)
theorem dX6_undo_16 : decode cX6_undo 16 = .ok (.isub, 1) := dk_100 (dk_at dksX6_undo_0 16 rfl rfl)
theorem dX6_undo_17 : decode cX6_undo 17 = .ok (.putfield 179, 3) := dk_181 0 179 (dk_at dksX6_undo_0 17 rfl rfl)
theorem dX6_undo_20 : decode cX6_undo 20 = .ok (.aload_n 0, 1) := dk_42 (dk_at dksX6_undo_0 20 rfl rfl)
theorem dX6_undo_21 : decode cX6_undo 21 = .ok (.dup, 1) := dk_89 (dk_at dksX6_undo_0 21 rfl rfl)
theorem dX6_undo_22 : decode cX6_undo 22 = .ok (.getfield 176, 3) := dk_180 0 176 (dk_at dksX6_undo_1 0 rfl rfl)
theorem dX6_undo_25 : decode cX6_undo 25 = .ok (.iconst 1, 1) := dk_4 (dk_at dksX6_undo_1 3 rfl rfl)
theorem dX6_undo_26 : decode cX6_undo 26 = .ok (.iadd, 1) := dk_96 (dk_at dksX6_undo_1 4 rfl rfl)
theorem dX6_undo_27 : decode cX6_undo 27 = .ok (.putfield 176, 3) := dk_181 0 176 (dk_at dksX6_undo_1 5 rfl rfl)
theorem dX6_undo_30 : decode cX6_undo 30 = .ok (.aload_n 0, 1) := dk_42 (dk_at dksX6_undo_1 8 rfl rfl)
theorem dX6_undo_31 : decode cX6_undo 31 = .ok (.aload_n 0, 1) := dk_42 (dk_at dksX6_undo_1 9 rfl rfl)
theorem dX6_undo_32 : decode cX6_undo 32 = .ok (.getfield 43, 3) := dk_180 0 43 (dk_at dksX6_undo_1 10 rfl rfl)
theorem dX6_undo_35 : decode cX6_undo 35 = .ok (.aload_n 0, 1) := dk_42 (dk_at dksX6_undo_1 13 rfl rfl)
theorem dX6_undo_36 : decode cX6_undo 36 = .ok (.getfield 179, 3) := dk_180 0 179 (dk_at dksX6_undo_1 14 rfl rfl)
theorem dX6_undo_39 : decode cX6_undo 39 = .ok (.iaload, 1) := dk_46 (dk_at dksX6_undo_1 17 rfl rfl)
theorem dX6_undo_40 : decode cX6_undo 40 = .ok (.aload_n 0, 1) := dk_42 (dk_at dksX6_undo_1 18 rfl rfl)
theorem dX6_undo_41 : decode cX6_undo 41 = .ok (.getfield 46, 3) := dk_180 0 46 (dk_at dksX6_undo_1 19 rfl rfl)
theorem dX6_undo_44 : decode cX6_undo 44 = .ok (.aload_n 0, 1) := dk_42 (dk_at dksX6_undo_1 22 rfl rfl)
theorem dX6_undo_45 : decode cX6_undo 45 = .ok (.getfield 179, 3) := dk_180 0 179 (dk_at dksX6_undo_2 0 rfl rfl)
theorem dX6_undo_48 : decode cX6_undo 48 = .ok (.iaload, 1) := dk_46 (dk_at dksX6_undo_2 3 rfl rfl)
theorem dX6_undo_49 : decode cX6_undo 49 = .ok (.aload_n 0, 1) := dk_42 (dk_at dksX6_undo_2 4 rfl rfl)
theorem dX6_undo_50 : decode cX6_undo 50 = .ok (.getfield 49, 3) := dk_180 0 49 (dk_at dksX6_undo_2 5 rfl rfl)
theorem dX6_undo_53 : decode cX6_undo 53 = .ok (.aload_n 0, 1) := dk_42 (dk_at dksX6_undo_2 8 rfl rfl)
theorem dX6_undo_54 : decode cX6_undo 54 = .ok (.getfield 179, 3) := dk_180 0 179 (dk_at dksX6_undo_2 9 rfl rfl)
theorem dX6_undo_57 : decode cX6_undo 57 = .ok (.iaload, 1) := dk_46 (dk_at dksX6_undo_2 12 rfl rfl)
theorem dX6_undo_58 : decode cX6_undo 58 = .ok (.invokevirtual 182, 3) := dk_182 0 182 (dk_at dksX6_undo_2 13 rfl rfl)
theorem dX6_undo_61 : decode cX6_undo 61 = .ok (.aload_n 0, 1) := dk_42 (dk_at dksX6_undo_2 16 rfl rfl)
theorem dX6_undo_62 : decode cX6_undo 62 = .ok (.getfield 179, 3) := dk_180 0 179 (dk_at dksX6_undo_2 17 rfl rfl)
theorem dX6_undo_65 : decode cX6_undo 65 = .ok (.ireturn, 1) := dk_172 (dk_at dksX6_undo_2 20 rfl rfl)
abbrev cX6_lays : ByteArray := prog_25_method_12_code
def yX6_lays : MethodName := ⟨RX6, "lays", "(III)V"⟩
def dkwX6_lays_5 : List UInt8 := [167, 0, 16, 42, 29, 181, 0, 34, 167, 0, 8, 42, 29, 181, 0, 37, 177]
abbrev dktX6_lays_5 : List UInt8 := dkwX6_lays_5 ++ []
def dkwX6_lays_4 : List UInt8 := [180, 0, 24, 28, 29, 79, 167, 0, 34, 42, 180, 0, 27, 28, 29, 79, 167, 0, 24, 42, 29, 181, 0, 30]
abbrev dktX6_lays_4 : List UInt8 := dkwX6_lays_4 ++ dktX6_lays_5
def dkwX6_lays_3 : List UInt8 := [28, 184, 0, 168, 29, 79, 167, 0, 57, 42, 180, 0, 21, 28, 184, 0, 168, 29, 79, 167, 0, 44, 42]
abbrev dktX6_lays_3 : List UInt8 := dkwX6_lays_3 ++ dktX6_lays_4
def dkwX6_lays_2 : List UInt8 := [42, 180, 0, 9, 28, 29, 79, 167, 0, 80, 42, 180, 0, 15, 28, 29, 79, 167, 0, 70, 42, 180, 0, 18]
abbrev dktX6_lays_2 : List UInt8 := dkwX6_lays_2 ++ dktX6_lays_3
def dkwX6_lays_1 : List UInt8 := [170, 0, 0, 0, 0, 0, 129, 0, 0, 0, 0, 0, 0, 0, 7, 0, 0, 0, 47, 0, 0, 0, 57, 0, 0, 0, 67, 0, 0, 0, 80, 0, 0, 0, 93, 0, 0, 0, 103, 0, 0, 0, 113, 0, 0, 0, 121]
abbrev dktX6_lays_1 : List UInt8 := dkwX6_lays_1 ++ dktX6_lays_2
def dkwX6_lays_0 : List UInt8 := [27]
abbrev dktX6_lays_0 : List UInt8 := dkwX6_lays_0 ++ dktX6_lays_1
theorem dksX6_lays_0 : cX6_lays.data.toList.drop 0 = dktX6_lays_0 := by decide +kernel
theorem dksX6_lays_1 : cX6_lays.data.toList.drop 1 = dktX6_lays_1 := dk_seg dksX6_lays_0 1 rfl rfl
theorem dksX6_lays_2 : cX6_lays.data.toList.drop 48 = dktX6_lays_2 := dk_seg dksX6_lays_1 47 rfl rfl
theorem dksX6_lays_3 : cX6_lays.data.toList.drop 72 = dktX6_lays_3 := dk_seg dksX6_lays_2 24 rfl rfl
theorem dksX6_lays_4 : cX6_lays.data.toList.drop 95 = dktX6_lays_4 := dk_seg dksX6_lays_3 23 rfl rfl
theorem dksX6_lays_5 : cX6_lays.data.toList.drop 119 = dktX6_lays_5 := dk_seg dksX6_lays_4 24 rfl rfl
theorem dX6_lays_0 : decode cX6_lays 0 = .ok (.iload_n 1, 1) := dk_27 (dk_at dksX6_lays_0 0 rfl rfl)
theorem dX6_lays_1 : decode cX6_lays 1 = .ok (.tableswitch 129 0 7 #[47, 57, 67, 80, 93, 103, 113, 121], 47) := by decide +kernel
theorem dX6_lays_48 : decode cX6_lays 48 = .ok (.aload_n 0, 1) := dk_42 (dk_at dksX6_lays_2 0 rfl rfl)
theorem dX6_lays_49 : decode cX6_lays 49 = .ok (.getfield 9, 3) := dk_180 0 9 (dk_at dksX6_lays_2 1 rfl rfl)
theorem dX6_lays_52 : decode cX6_lays 52 = .ok (.iload_n 2, 1) := dk_28 (dk_at dksX6_lays_2 4 rfl rfl)
theorem dX6_lays_53 : decode cX6_lays 53 = .ok (.iload_n 3, 1) := dk_29 (dk_at dksX6_lays_2 5 rfl rfl)
theorem dX6_lays_54 : decode cX6_lays 54 = .ok (.iastore, 1) := dk_79 (dk_at dksX6_lays_2 6 rfl rfl)
theorem dX6_lays_55 : decode cX6_lays 55 = .ok (.goto 80, 3) := dk_167 0 80 (dk_at dksX6_lays_2 7 rfl rfl)
theorem dX6_lays_58 : decode cX6_lays 58 = .ok (.aload_n 0, 1) := dk_42 (dk_at dksX6_lays_2 10 rfl rfl)
theorem dX6_lays_59 : decode cX6_lays 59 = .ok (.getfield 15, 3) := dk_180 0 15 (dk_at dksX6_lays_2 11 rfl rfl)
theorem dX6_lays_62 : decode cX6_lays 62 = .ok (.iload_n 2, 1) := dk_28 (dk_at dksX6_lays_2 14 rfl rfl)
theorem dX6_lays_63 : decode cX6_lays 63 = .ok (.iload_n 3, 1) := dk_29 (dk_at dksX6_lays_2 15 rfl rfl)
theorem dX6_lays_64 : decode cX6_lays 64 = .ok (.iastore, 1) := dk_79 (dk_at dksX6_lays_2 16 rfl rfl)
theorem dX6_lays_65 : decode cX6_lays 65 = .ok (.goto 70, 3) := dk_167 0 70 (dk_at dksX6_lays_2 17 rfl rfl)
theorem dX6_lays_68 : decode cX6_lays 68 = .ok (.aload_n 0, 1) := dk_42 (dk_at dksX6_lays_2 20 rfl rfl)
theorem dX6_lays_69 : decode cX6_lays 69 = .ok (.getfield 18, 3) := dk_180 0 18 (dk_at dksX6_lays_2 21 rfl rfl)
theorem dX6_lays_72 : decode cX6_lays 72 = .ok (.iload_n 2, 1) := dk_28 (dk_at dksX6_lays_3 0 rfl rfl)
theorem dX6_lays_73 : decode cX6_lays 73 = .ok (.invokestatic 168, 3) := dk_184 0 168 (dk_at dksX6_lays_3 1 rfl rfl)
theorem dX6_lays_76 : decode cX6_lays 76 = .ok (.iload_n 3, 1) := dk_29 (dk_at dksX6_lays_3 4 rfl rfl)
theorem dX6_lays_77 : decode cX6_lays 77 = .ok (.iastore, 1) := dk_79 (dk_at dksX6_lays_3 5 rfl rfl)
theorem dX6_lays_78 : decode cX6_lays 78 = .ok (.goto 57, 3) := dk_167 0 57 (dk_at dksX6_lays_3 6 rfl rfl)
theorem dX6_lays_81 : decode cX6_lays 81 = .ok (.aload_n 0, 1) := dk_42 (dk_at dksX6_lays_3 9 rfl rfl)
theorem dX6_lays_82 : decode cX6_lays 82 = .ok (.getfield 21, 3) := dk_180 0 21 (dk_at dksX6_lays_3 10 rfl rfl)
theorem dX6_lays_85 : decode cX6_lays 85 = .ok (.iload_n 2, 1) := dk_28 (dk_at dksX6_lays_3 13 rfl rfl)
theorem dX6_lays_86 : decode cX6_lays 86 = .ok (.invokestatic 168, 3) := dk_184 0 168 (dk_at dksX6_lays_3 14 rfl rfl)
theorem dX6_lays_89 : decode cX6_lays 89 = .ok (.iload_n 3, 1) := dk_29 (dk_at dksX6_lays_3 17 rfl rfl)
theorem dX6_lays_90 : decode cX6_lays 90 = .ok (.iastore, 1) := dk_79 (dk_at dksX6_lays_3 18 rfl rfl)
theorem dX6_lays_91 : decode cX6_lays 91 = .ok (.goto 44, 3) := dk_167 0 44 (dk_at dksX6_lays_3 19 rfl rfl)
theorem dX6_lays_94 : decode cX6_lays 94 = .ok (.aload_n 0, 1) := dk_42 (dk_at dksX6_lays_3 22 rfl rfl)
theorem dX6_lays_95 : decode cX6_lays 95 = .ok (.getfield 24, 3) := dk_180 0 24 (dk_at dksX6_lays_4 0 rfl rfl)
theorem dX6_lays_98 : decode cX6_lays 98 = .ok (.iload_n 2, 1) := dk_28 (dk_at dksX6_lays_4 3 rfl rfl)
theorem dX6_lays_99 : decode cX6_lays 99 = .ok (.iload_n 3, 1) := dk_29 (dk_at dksX6_lays_4 4 rfl rfl)
theorem dX6_lays_100 : decode cX6_lays 100 = .ok (.iastore, 1) := dk_79 (dk_at dksX6_lays_4 5 rfl rfl)
theorem dX6_lays_101 : decode cX6_lays 101 = .ok (.goto 34, 3) := dk_167 0 34 (dk_at dksX6_lays_4 6 rfl rfl)
theorem dX6_lays_104 : decode cX6_lays 104 = .ok (.aload_n 0, 1) := dk_42 (dk_at dksX6_lays_4 9 rfl rfl)
theorem dX6_lays_105 : decode cX6_lays 105 = .ok (.getfield 27, 3) := dk_180 0 27 (dk_at dksX6_lays_4 10 rfl rfl)
theorem dX6_lays_108 : decode cX6_lays 108 = .ok (.iload_n 2, 1) := dk_28 (dk_at dksX6_lays_4 13 rfl rfl)
theorem dX6_lays_109 : decode cX6_lays 109 = .ok (.iload_n 3, 1) := dk_29 (dk_at dksX6_lays_4 14 rfl rfl)
theorem dX6_lays_110 : decode cX6_lays 110 = .ok (.iastore, 1) := dk_79 (dk_at dksX6_lays_4 15 rfl rfl)
theorem dX6_lays_111 : decode cX6_lays 111 = .ok (.goto 24, 3) := dk_167 0 24 (dk_at dksX6_lays_4 16 rfl rfl)
theorem dX6_lays_114 : decode cX6_lays 114 = .ok (.aload_n 0, 1) := dk_42 (dk_at dksX6_lays_4 19 rfl rfl)
theorem dX6_lays_115 : decode cX6_lays 115 = .ok (.iload_n 3, 1) := dk_29 (dk_at dksX6_lays_4 20 rfl rfl)
theorem dX6_lays_116 : decode cX6_lays 116 = .ok (.putfield 30, 3) := dk_181 0 30 (dk_at dksX6_lays_4 21 rfl rfl)
theorem dX6_lays_119 : decode cX6_lays 119 = .ok (.goto 16, 3) := dk_167 0 16 (dk_at dksX6_lays_5 0 rfl rfl)
theorem dX6_lays_122 : decode cX6_lays 122 = .ok (.aload_n 0, 1) := dk_42 (dk_at dksX6_lays_5 3 rfl rfl)
theorem dX6_lays_123 : decode cX6_lays 123 = .ok (.iload_n 3, 1) := dk_29 (dk_at dksX6_lays_5 4 rfl rfl)
theorem dX6_lays_124 : decode cX6_lays 124 = .ok (.putfield 34, 3) := dk_181 0 34 (dk_at dksX6_lays_5 5 rfl rfl)
theorem dX6_lays_127 : decode cX6_lays 127 = .ok (.goto 8, 3) := dk_167 0 8 (dk_at dksX6_lays_5 8 rfl rfl)
theorem dX6_lays_130 : decode cX6_lays 130 = .ok (.aload_n 0, 1) := dk_42 (dk_at dksX6_lays_5 11 rfl rfl)
theorem dX6_lays_131 : decode cX6_lays 131 = .ok (.iload_n 3, 1) := dk_29 (dk_at dksX6_lays_5 12 rfl rfl)
theorem dX6_lays_132 : decode cX6_lays 132 = .ok (.putfield 37, 3) := dk_181 0 37 (dk_at dksX6_lays_5 13 rfl rfl)
theorem dX6_lays_135 : decode cX6_lays 135 = .ok (.return_, 1) := dk_177 (dk_at dksX6_lays_5 16 rfl rfl)
abbrev cX6_spotAt : ByteArray := prog_25_method_10_code
def yX6_spotAt : MethodName := ⟨RX6, "spotAt", "(I)I"⟩
def dkwX6_spotAt_0 : List UInt8 := [7, 26, 16, 10, 108, 104, 26, 16, 10, 112, 96, 172]
abbrev dktX6_spotAt_0 : List UInt8 := dkwX6_spotAt_0 ++ []
theorem dksX6_spotAt_0 : cX6_spotAt.data.toList.drop 0 = dktX6_spotAt_0 := by decide +kernel
theorem dX6_spotAt_0 : decode cX6_spotAt 0 = .ok (.iconst 4, 1) := dk_7 (dk_at dksX6_spotAt_0 0 rfl rfl)
theorem dX6_spotAt_1 : decode cX6_spotAt 1 = .ok (.iload_n 0, 1) := dk_26 (dk_at dksX6_spotAt_0 1 rfl rfl)
theorem dX6_spotAt_2 : decode cX6_spotAt 2 = .ok (.bipush 10, 2) := dk_16 10 (dk_at dksX6_spotAt_0 2 rfl rfl)
theorem dX6_spotAt_4 : decode cX6_spotAt 4 = .ok (.idiv, 1) := dk_108 (dk_at dksX6_spotAt_0 4 rfl rfl)
theorem dX6_spotAt_5 : decode cX6_spotAt 5 = .ok (.imul, 1) := dk_104 (dk_at dksX6_spotAt_0 5 rfl rfl)
theorem dX6_spotAt_6 : decode cX6_spotAt 6 = .ok (.iload_n 0, 1) := dk_26 (dk_at dksX6_spotAt_0 6 rfl rfl)
theorem dX6_spotAt_7 : decode cX6_spotAt 7 = .ok (.bipush 10, 2) := dk_16 10 (dk_at dksX6_spotAt_0 7 rfl rfl)
theorem dX6_spotAt_9 : decode cX6_spotAt 9 = .ok (.irem, 1) := dk_112 (dk_at dksX6_spotAt_0 9 rfl rfl)
theorem dX6_spotAt_10 : decode cX6_spotAt 10 = .ok (.iadd, 1) := dk_96 (dk_at dksX6_spotAt_0 10 rfl rfl)
theorem dX6_spotAt_11 : decode cX6_spotAt 11 = .ok (.ireturn, 1) := dk_172 (dk_at dksX6_spotAt_0 11 rfl rfl)
abbrev cX6_redo : ByteArray := prog_25_method_15_code
def yX6_redo : MethodName := ⟨RX6, "redo", "()I"⟩
def dkwX6_redo_2 : List UInt8 := [181, 0, 179, 42, 89, 180, 0, 176, 4, 100, 181, 0, 176, 42, 180, 0, 176, 172]
abbrev dktX6_redo_2 : List UInt8 := dkwX6_redo_2 ++ []
def dkwX6_redo_1 : List UInt8 := [42, 180, 0, 179, 46, 42, 180, 0, 52, 42, 180, 0, 179, 46, 182, 0, 182, 42, 89, 180, 0, 179, 4, 96]
abbrev dktX6_redo_1 : List UInt8 := dkwX6_redo_1 ++ dktX6_redo_2
def dkwX6_redo_0 : List UInt8 := [42, 180, 0, 176, 154, 0, 6, 16, 251, 172, 42, 42, 180, 0, 43, 42, 180, 0, 179, 46, 42, 180, 0, 46]
abbrev dktX6_redo_0 : List UInt8 := dkwX6_redo_0 ++ dktX6_redo_1
theorem dksX6_redo_0 : cX6_redo.data.toList.drop 0 = dktX6_redo_0 := by decide +kernel
theorem dksX6_redo_1 : cX6_redo.data.toList.drop 24 = dktX6_redo_1 := dk_seg dksX6_redo_0 24 rfl rfl
theorem dksX6_redo_2 : cX6_redo.data.toList.drop 48 = dktX6_redo_2 := dk_seg dksX6_redo_1 24 rfl rfl
theorem dX6_redo_0 : decode cX6_redo 0 = .ok (.aload_n 0, 1) := dk_42 (dk_at dksX6_redo_0 0 rfl rfl)
theorem dX6_redo_1 : decode cX6_redo 1 = .ok (.getfield 176, 3) := dk_180 0 176 (dk_at dksX6_redo_0 1 rfl rfl)
theorem dX6_redo_4 : decode cX6_redo 4 = .ok (.ifCond .ne 6, 3) := dk_154 0 6 (dk_at dksX6_redo_0 4 rfl rfl)
theorem dX6_redo_7 : decode cX6_redo 7 = .ok (.bipush (-5), 2) := dk_16 251 (dk_at dksX6_redo_0 7 rfl rfl)
theorem dX6_redo_9 : decode cX6_redo 9 = .ok (.ireturn, 1) := dk_172 (dk_at dksX6_redo_0 9 rfl rfl)
theorem dX6_redo_10 : decode cX6_redo 10 = .ok (.aload_n 0, 1) := dk_42 (dk_at dksX6_redo_0 10 rfl rfl)
theorem dX6_redo_11 : decode cX6_redo 11 = .ok (.aload_n 0, 1) := dk_42 (dk_at dksX6_redo_0 11 rfl rfl)
theorem dX6_redo_12 : decode cX6_redo 12 = .ok (.getfield 43, 3) := dk_180 0 43 (dk_at dksX6_redo_0 12 rfl rfl)
theorem dX6_redo_15 : decode cX6_redo 15 = .ok (.aload_n 0, 1) := dk_42 (dk_at dksX6_redo_0 15 rfl rfl)
theorem dX6_redo_16 : decode cX6_redo 16 = .ok (.getfield 179, 3) := dk_180 0 179 (dk_at dksX6_redo_0 16 rfl rfl)
theorem dX6_redo_19 : decode cX6_redo 19 = .ok (.iaload, 1) := dk_46 (dk_at dksX6_redo_0 19 rfl rfl)
theorem dX6_redo_20 : decode cX6_redo 20 = .ok (.aload_n 0, 1) := dk_42 (dk_at dksX6_redo_0 20 rfl rfl)
theorem dX6_redo_21 : decode cX6_redo 21 = .ok (.getfield 46, 3) := dk_180 0 46 (dk_at dksX6_redo_0 21 rfl rfl)
theorem dX6_redo_24 : decode cX6_redo 24 = .ok (.aload_n 0, 1) := dk_42 (dk_at dksX6_redo_1 0 rfl rfl)
theorem dX6_redo_25 : decode cX6_redo 25 = .ok (.getfield 179, 3) := dk_180 0 179 (dk_at dksX6_redo_1 1 rfl rfl)
theorem dX6_redo_28 : decode cX6_redo 28 = .ok (.iaload, 1) := dk_46 (dk_at dksX6_redo_1 4 rfl rfl)
theorem dX6_redo_29 : decode cX6_redo 29 = .ok (.aload_n 0, 1) := dk_42 (dk_at dksX6_redo_1 5 rfl rfl)
theorem dX6_redo_30 : decode cX6_redo 30 = .ok (.getfield 52, 3) := dk_180 0 52 (dk_at dksX6_redo_1 6 rfl rfl)
theorem dX6_redo_33 : decode cX6_redo 33 = .ok (.aload_n 0, 1) := dk_42 (dk_at dksX6_redo_1 9 rfl rfl)
theorem dX6_redo_34 : decode cX6_redo 34 = .ok (.getfield 179, 3) := dk_180 0 179 (dk_at dksX6_redo_1 10 rfl rfl)
theorem dX6_redo_37 : decode cX6_redo 37 = .ok (.iaload, 1) := dk_46 (dk_at dksX6_redo_1 13 rfl rfl)
theorem dX6_redo_38 : decode cX6_redo 38 = .ok (.invokevirtual 182, 3) := dk_182 0 182 (dk_at dksX6_redo_1 14 rfl rfl)
theorem dX6_redo_41 : decode cX6_redo 41 = .ok (.aload_n 0, 1) := dk_42 (dk_at dksX6_redo_1 17 rfl rfl)
theorem dX6_redo_42 : decode cX6_redo 42 = .ok (.dup, 1) := dk_89 (dk_at dksX6_redo_1 18 rfl rfl)
theorem dX6_redo_43 : decode cX6_redo 43 = .ok (.getfield 179, 3) := dk_180 0 179 (dk_at dksX6_redo_1 19 rfl rfl)
theorem dX6_redo_46 : decode cX6_redo 46 = .ok (.iconst 1, 1) := dk_4 (dk_at dksX6_redo_1 22 rfl rfl)
theorem dX6_redo_47 : decode cX6_redo 47 = .ok (.iadd, 1) := dk_96 (dk_at dksX6_redo_1 23 rfl rfl)
theorem dX6_redo_48 : decode cX6_redo 48 = .ok (.putfield 179, 3) := dk_181 0 179 (dk_at dksX6_redo_2 0 rfl rfl)
theorem dX6_redo_51 : decode cX6_redo 51 = .ok (.aload_n 0, 1) := dk_42 (dk_at dksX6_redo_2 3 rfl rfl)
theorem dX6_redo_52 : decode cX6_redo 52 = .ok (.dup, 1) := dk_89 (dk_at dksX6_redo_2 4 rfl rfl)
theorem dX6_redo_53 : decode cX6_redo 53 = .ok (.getfield 176, 3) := dk_180 0 176 (dk_at dksX6_redo_2 5 rfl rfl)
theorem dX6_redo_56 : decode cX6_redo 56 = .ok (.iconst 1, 1) := dk_4 (dk_at dksX6_redo_2 8 rfl rfl)
theorem dX6_redo_57 : decode cX6_redo 57 = .ok (.isub, 1) := dk_100 (dk_at dksX6_redo_2 9 rfl rfl)
theorem dX6_redo_58 : decode cX6_redo 58 = .ok (.putfield 176, 3) := dk_181 0 176 (dk_at dksX6_redo_2 10 rfl rfl)
theorem dX6_redo_61 : decode cX6_redo 61 = .ok (.aload_n 0, 1) := dk_42 (dk_at dksX6_redo_2 13 rfl rfl)
theorem dX6_redo_62 : decode cX6_redo 62 = .ok (.getfield 176, 3) := dk_180 0 176 (dk_at dksX6_redo_2 14 rfl rfl)
theorem dX6_redo_65 : decode cX6_redo 65 = .ok (.ireturn, 1) := dk_172 (dk_at dksX6_redo_2 17 rfl rfl)
abbrev cX6_mend : ByteArray := prog_25_method_18_code
def yX6_mend : MethodName := ⟨RX6, "mend", "(III)I"⟩
def dkwX6_mend_1 : List UInt8 := [167, 0, 4, 2, 172]
abbrev dktX6_mend_1 : List UInt8 := dkwX6_mend_1 ++ []
def dkwX6_mend_0 : List UInt8 := [42, 27, 28, 182, 0, 189, 153, 0, 21, 28, 29, 184, 0, 193, 153, 0, 13, 42, 28, 27, 29, 182, 0, 196]
abbrev dktX6_mend_0 : List UInt8 := dkwX6_mend_0 ++ dktX6_mend_1
theorem dksX6_mend_0 : cX6_mend.data.toList.drop 0 = dktX6_mend_0 := by decide +kernel
theorem dksX6_mend_1 : cX6_mend.data.toList.drop 24 = dktX6_mend_1 := dk_seg dksX6_mend_0 24 rfl rfl
theorem dX6_mend_0 : decode cX6_mend 0 = .ok (.aload_n 0, 1) := dk_42 (dk_at dksX6_mend_0 0 rfl rfl)
theorem dX6_mend_1 : decode cX6_mend 1 = .ok (.iload_n 1, 1) := dk_27 (dk_at dksX6_mend_0 1 rfl rfl)
theorem dX6_mend_2 : decode cX6_mend 2 = .ok (.iload_n 2, 1) := dk_28 (dk_at dksX6_mend_0 2 rfl rfl)
theorem dX6_mend_3 : decode cX6_mend 3 = .ok (.invokevirtual 189, 3) := dk_182 0 189 (dk_at dksX6_mend_0 3 rfl rfl)
theorem dX6_mend_6 : decode cX6_mend 6 = .ok (.ifCond .eq 21, 3) := dk_153 0 21 (dk_at dksX6_mend_0 6 rfl rfl)
theorem dX6_mend_9 : decode cX6_mend 9 = .ok (.iload_n 2, 1) := dk_28 (dk_at dksX6_mend_0 9 rfl rfl)
theorem dX6_mend_10 : decode cX6_mend 10 = .ok (.iload_n 3, 1) := dk_29 (dk_at dksX6_mend_0 10 rfl rfl)
theorem dX6_mend_11 : decode cX6_mend 11 = .ok (.invokestatic 193, 3) := dk_184 0 193 (dk_at dksX6_mend_0 11 rfl rfl)
theorem dX6_mend_14 : decode cX6_mend 14 = .ok (.ifCond .eq 13, 3) := dk_153 0 13 (dk_at dksX6_mend_0 14 rfl rfl)
theorem dX6_mend_17 : decode cX6_mend 17 = .ok (.aload_n 0, 1) := dk_42 (dk_at dksX6_mend_0 17 rfl rfl)
theorem dX6_mend_18 : decode cX6_mend 18 = .ok (.iload_n 2, 1) := dk_28 (dk_at dksX6_mend_0 18 rfl rfl)
theorem dX6_mend_19 : decode cX6_mend 19 = .ok (.iload_n 1, 1) := dk_27 (dk_at dksX6_mend_0 19 rfl rfl)
theorem dX6_mend_20 : decode cX6_mend 20 = .ok (.iload_n 3, 1) := dk_29 (dk_at dksX6_mend_0 20 rfl rfl)
theorem dX6_mend_21 : decode cX6_mend 21 = .ok (.invokevirtual 196, 3) := dk_182 0 196 (dk_at dksX6_mend_0 21 rfl rfl)
theorem dX6_mend_24 : decode cX6_mend 24 = .ok (.goto 4, 3) := dk_167 0 4 (dk_at dksX6_mend_1 0 rfl rfl)
theorem dX6_mend_27 : decode cX6_mend 27 = .ok (.iconst (-1), 1) := dk_2 (dk_at dksX6_mend_1 3 rfl rfl)
theorem dX6_mend_28 : decode cX6_mend 28 = .ok (.ireturn, 1) := dk_172 (dk_at dksX6_mend_1 4 rfl rfl)
abbrev cX6_isOne : ByteArray := prog_25_method_16_code
def yX6_isOne : MethodName := ⟨RX6, "isOne", "(II)Z"⟩
def dkwX6_isOne_2 : List UInt8 := [16, 6, 16, 8, 184, 0, 145, 153, 0, 11, 27, 154, 0, 7, 4, 167, 0, 4, 3, 172]
abbrev dktX6_isOne_2 : List UInt8 := dkwX6_isOne_2 ++ []
def dkwX6_isOne_1 : List UInt8 := [27, 182, 0, 186, 172, 28, 7, 8, 184, 0, 145, 153, 0, 11, 42, 27, 182, 0, 152, 167, 0, 23, 28]
abbrev dktX6_isOne_1 : List UInt8 := dkwX6_isOne_1 ++ dktX6_isOne_2
def dkwX6_isOne_0 : List UInt8 := [28, 3, 4, 184, 0, 145, 153, 0, 8, 27, 184, 0, 156, 172, 28, 5, 6, 184, 0, 145, 153, 0, 9, 42]
abbrev dktX6_isOne_0 : List UInt8 := dkwX6_isOne_0 ++ dktX6_isOne_1
theorem dksX6_isOne_0 : cX6_isOne.data.toList.drop 0 = dktX6_isOne_0 := by decide +kernel
theorem dksX6_isOne_1 : cX6_isOne.data.toList.drop 24 = dktX6_isOne_1 := dk_seg dksX6_isOne_0 24 rfl rfl
theorem dksX6_isOne_2 : cX6_isOne.data.toList.drop 47 = dktX6_isOne_2 := dk_seg dksX6_isOne_1 23 rfl rfl
theorem dX6_isOne_0 : decode cX6_isOne 0 = .ok (.iload_n 2, 1) := dk_28 (dk_at dksX6_isOne_0 0 rfl rfl)
theorem dX6_isOne_1 : decode cX6_isOne 1 = .ok (.iconst 0, 1) := dk_3 (dk_at dksX6_isOne_0 1 rfl rfl)
theorem dX6_isOne_2 : decode cX6_isOne 2 = .ok (.iconst 1, 1) := dk_4 (dk_at dksX6_isOne_0 2 rfl rfl)
theorem dX6_isOne_3 : decode cX6_isOne 3 = .ok (.invokestatic 145, 3) := dk_184 0 145 (dk_at dksX6_isOne_0 3 rfl rfl)
theorem dX6_isOne_6 : decode cX6_isOne 6 = .ok (.ifCond .eq 8, 3) := dk_153 0 8 (dk_at dksX6_isOne_0 6 rfl rfl)
theorem dX6_isOne_9 : decode cX6_isOne 9 = .ok (.iload_n 1, 1) := dk_27 (dk_at dksX6_isOne_0 9 rfl rfl)
theorem dX6_isOne_10 : decode cX6_isOne 10 = .ok (.invokestatic 156, 3) := dk_184 0 156 (dk_at dksX6_isOne_0 10 rfl rfl)
theorem dX6_isOne_13 : decode cX6_isOne 13 = .ok (.ireturn, 1) := dk_172 (dk_at dksX6_isOne_0 13 rfl rfl)
theorem dX6_isOne_14 : decode cX6_isOne 14 = .ok (.iload_n 2, 1) := dk_28 (dk_at dksX6_isOne_0 14 rfl rfl)
theorem dX6_isOne_15 : decode cX6_isOne 15 = .ok (.iconst 2, 1) := dk_5 (dk_at dksX6_isOne_0 15 rfl rfl)
theorem dX6_isOne_16 : decode cX6_isOne 16 = .ok (.iconst 3, 1) := dk_6 (dk_at dksX6_isOne_0 16 rfl rfl)
theorem dX6_isOne_17 : decode cX6_isOne 17 = .ok (.invokestatic 145, 3) := dk_184 0 145 (dk_at dksX6_isOne_0 17 rfl rfl)
theorem dX6_isOne_20 : decode cX6_isOne 20 = .ok (.ifCond .eq 9, 3) := dk_153 0 9 (dk_at dksX6_isOne_0 20 rfl rfl)
theorem dX6_isOne_23 : decode cX6_isOne 23 = .ok (.aload_n 0, 1) := dk_42 (dk_at dksX6_isOne_0 23 rfl rfl)
theorem dX6_isOne_24 : decode cX6_isOne 24 = .ok (.iload_n 1, 1) := dk_27 (dk_at dksX6_isOne_1 0 rfl rfl)
theorem dX6_isOne_25 : decode cX6_isOne 25 = .ok (.invokevirtual 186, 3) := dk_182 0 186 (dk_at dksX6_isOne_1 1 rfl rfl)
theorem dX6_isOne_28 : decode cX6_isOne 28 = .ok (.ireturn, 1) := dk_172 (dk_at dksX6_isOne_1 4 rfl rfl)
theorem dX6_isOne_29 : decode cX6_isOne 29 = .ok (.iload_n 2, 1) := dk_28 (dk_at dksX6_isOne_1 5 rfl rfl)
theorem dX6_isOne_30 : decode cX6_isOne 30 = .ok (.iconst 4, 1) := dk_7 (dk_at dksX6_isOne_1 6 rfl rfl)
theorem dX6_isOne_31 : decode cX6_isOne 31 = .ok (.iconst 5, 1) := dk_8 (dk_at dksX6_isOne_1 7 rfl rfl)
theorem dX6_isOne_32 : decode cX6_isOne 32 = .ok (.invokestatic 145, 3) := dk_184 0 145 (dk_at dksX6_isOne_1 8 rfl rfl)
theorem dX6_isOne_35 : decode cX6_isOne 35 = .ok (.ifCond .eq 11, 3) := dk_153 0 11 (dk_at dksX6_isOne_1 11 rfl rfl)
theorem dX6_isOne_38 : decode cX6_isOne 38 = .ok (.aload_n 0, 1) := dk_42 (dk_at dksX6_isOne_1 14 rfl rfl)
theorem dX6_isOne_39 : decode cX6_isOne 39 = .ok (.iload_n 1, 1) := dk_27 (dk_at dksX6_isOne_1 15 rfl rfl)
theorem dX6_isOne_40 : decode cX6_isOne 40 = .ok (.invokevirtual 152, 3) := dk_182 0 152 (dk_at dksX6_isOne_1 16 rfl rfl)
theorem dX6_isOne_43 : decode cX6_isOne 43 = .ok (.goto 23, 3) := dk_167 0 23 (dk_at dksX6_isOne_1 19 rfl rfl)
theorem dX6_isOne_46 : decode cX6_isOne 46 = .ok (.iload_n 2, 1) := dk_28 (dk_at dksX6_isOne_1 22 rfl rfl)
theorem dX6_isOne_47 : decode cX6_isOne 47 = .ok (.bipush 6, 2) := dk_16 6 (dk_at dksX6_isOne_2 0 rfl rfl)
theorem dX6_isOne_49 : decode cX6_isOne 49 = .ok (.bipush 8, 2) := dk_16 8 (dk_at dksX6_isOne_2 2 rfl rfl)
theorem dX6_isOne_51 : decode cX6_isOne 51 = .ok (.invokestatic 145, 3) := dk_184 0 145 (dk_at dksX6_isOne_2 4 rfl rfl)
theorem dX6_isOne_54 : decode cX6_isOne 54 = .ok (.ifCond .eq 11, 3) := dk_153 0 11 (dk_at dksX6_isOne_2 7 rfl rfl)
theorem dX6_isOne_57 : decode cX6_isOne 57 = .ok (.iload_n 1, 1) := dk_27 (dk_at dksX6_isOne_2 10 rfl rfl)
theorem dX6_isOne_58 : decode cX6_isOne 58 = .ok (.ifCond .ne 7, 3) := dk_154 0 7 (dk_at dksX6_isOne_2 11 rfl rfl)
theorem dX6_isOne_61 : decode cX6_isOne 61 = .ok (.iconst 1, 1) := dk_4 (dk_at dksX6_isOne_2 14 rfl rfl)
theorem dX6_isOne_62 : decode cX6_isOne 62 = .ok (.goto 4, 3) := dk_167 0 4 (dk_at dksX6_isOne_2 15 rfl rfl)
theorem dX6_isOne_65 : decode cX6_isOne 65 = .ok (.iconst 0, 1) := dk_3 (dk_at dksX6_isOne_2 18 rfl rfl)
theorem dX6_isOne_66 : decode cX6_isOne 66 = .ok (.ireturn, 1) := dk_172 (dk_at dksX6_isOne_2 19 rfl rfl)
abbrev cX6_isThing : ByteArray := prog_25_method_4_code
def yX6_isThing : MethodName := ⟨RX6, "isThing", "(I)Z"⟩
def dkwX6_isThing_0 : List UInt8 := [26, 3, 6, 184, 0, 145, 172]
abbrev dktX6_isThing_0 : List UInt8 := dkwX6_isThing_0 ++ []
theorem dksX6_isThing_0 : cX6_isThing.data.toList.drop 0 = dktX6_isThing_0 := by decide +kernel
theorem dX6_isThing_0 : decode cX6_isThing 0 = .ok (.iload_n 0, 1) := dk_26 (dk_at dksX6_isThing_0 0 rfl rfl)
theorem dX6_isThing_1 : decode cX6_isThing 1 = .ok (.iconst 0, 1) := dk_3 (dk_at dksX6_isThing_0 1 rfl rfl)
theorem dX6_isThing_2 : decode cX6_isThing 2 = .ok (.iconst 3, 1) := dk_6 (dk_at dksX6_isThing_0 2 rfl rfl)
theorem dX6_isThing_3 : decode cX6_isThing 3 = .ok (.invokestatic 145, 3) := dk_184 0 145 (dk_at dksX6_isThing_0 3 rfl rfl)
theorem dX6_isThing_6 : decode cX6_isThing 6 = .ok (.ireturn, 1) := dk_172 (dk_at dksX6_isThing_0 6 rfl rfl)
abbrev cX6_areTwo : ByteArray := prog_25_method_6_code
def yX6_areTwo : MethodName := ⟨RX6, "areTwo", "(I)Z"⟩
def dkwX6_areTwo_1 : List UInt8 := [153, 0, 7, 4, 167, 0, 4, 3, 172]
abbrev dktX6_areTwo_1 : List UInt8 := dkwX6_areTwo_1 ++ []
def dkwX6_areTwo_0 : List UInt8 := [27, 155, 0, 28, 42, 27, 16, 10, 108, 182, 0, 152, 153, 0, 17, 27, 16, 10, 112, 184, 0, 156]
abbrev dktX6_areTwo_0 : List UInt8 := dkwX6_areTwo_0 ++ dktX6_areTwo_1
theorem dksX6_areTwo_0 : cX6_areTwo.data.toList.drop 0 = dktX6_areTwo_0 := by decide +kernel
theorem dksX6_areTwo_1 : cX6_areTwo.data.toList.drop 22 = dktX6_areTwo_1 := dk_seg dksX6_areTwo_0 22 rfl rfl
theorem dX6_areTwo_0 : decode cX6_areTwo 0 = .ok (.iload_n 1, 1) := dk_27 (dk_at dksX6_areTwo_0 0 rfl rfl)
theorem dX6_areTwo_1 : decode cX6_areTwo 1 = .ok (.ifCond .lt 28, 3) := dk_155 0 28 (dk_at dksX6_areTwo_0 1 rfl rfl)
theorem dX6_areTwo_4 : decode cX6_areTwo 4 = .ok (.aload_n 0, 1) := dk_42 (dk_at dksX6_areTwo_0 4 rfl rfl)
theorem dX6_areTwo_5 : decode cX6_areTwo 5 = .ok (.iload_n 1, 1) := dk_27 (dk_at dksX6_areTwo_0 5 rfl rfl)
theorem dX6_areTwo_6 : decode cX6_areTwo 6 = .ok (.bipush 10, 2) := dk_16 10 (dk_at dksX6_areTwo_0 6 rfl rfl)
theorem dX6_areTwo_8 : decode cX6_areTwo 8 = .ok (.idiv, 1) := dk_108 (dk_at dksX6_areTwo_0 8 rfl rfl)
theorem dX6_areTwo_9 : decode cX6_areTwo 9 = .ok (.invokevirtual 152, 3) := dk_182 0 152 (dk_at dksX6_areTwo_0 9 rfl rfl)
theorem dX6_areTwo_12 : decode cX6_areTwo 12 = .ok (.ifCond .eq 17, 3) := dk_153 0 17 (dk_at dksX6_areTwo_0 12 rfl rfl)
theorem dX6_areTwo_15 : decode cX6_areTwo 15 = .ok (.iload_n 1, 1) := dk_27 (dk_at dksX6_areTwo_0 15 rfl rfl)
theorem dX6_areTwo_16 : decode cX6_areTwo 16 = .ok (.bipush 10, 2) := dk_16 10 (dk_at dksX6_areTwo_0 16 rfl rfl)
theorem dX6_areTwo_18 : decode cX6_areTwo 18 = .ok (.irem, 1) := dk_112 (dk_at dksX6_areTwo_0 18 rfl rfl)
theorem dX6_areTwo_19 : decode cX6_areTwo 19 = .ok (.invokestatic 156, 3) := dk_184 0 156 (dk_at dksX6_areTwo_0 19 rfl rfl)
theorem dX6_areTwo_22 : decode cX6_areTwo 22 = .ok (.ifCond .eq 7, 3) := dk_153 0 7 (dk_at dksX6_areTwo_1 0 rfl rfl)
theorem dX6_areTwo_25 : decode cX6_areTwo 25 = .ok (.iconst 1, 1) := dk_4 (dk_at dksX6_areTwo_1 3 rfl rfl)
theorem dX6_areTwo_26 : decode cX6_areTwo 26 = .ok (.goto 4, 3) := dk_167 0 4 (dk_at dksX6_areTwo_1 4 rfl rfl)
theorem dX6_areTwo_29 : decode cX6_areTwo 29 = .ok (.iconst 0, 1) := dk_3 (dk_at dksX6_areTwo_1 7 rfl rfl)
theorem dX6_areTwo_30 : decode cX6_areTwo 30 = .ok (.ireturn, 1) := dk_172 (dk_at dksX6_areTwo_1 8 rfl rfl)
abbrev cX6_isGuest : ByteArray := prog_25_method_5_code
def yX6_isGuest : MethodName := ⟨RX6, "isGuest", "(I)Z"⟩
def dkwX6_isGuest_0 : List UInt8 := [27, 3, 42, 180, 0, 149, 4, 100, 184, 0, 145, 172]
abbrev dktX6_isGuest_0 : List UInt8 := dkwX6_isGuest_0 ++ []
theorem dksX6_isGuest_0 : cX6_isGuest.data.toList.drop 0 = dktX6_isGuest_0 := by decide +kernel
theorem dX6_isGuest_0 : decode cX6_isGuest 0 = .ok (.iload_n 1, 1) := dk_27 (dk_at dksX6_isGuest_0 0 rfl rfl)
theorem dX6_isGuest_1 : decode cX6_isGuest 1 = .ok (.iconst 0, 1) := dk_3 (dk_at dksX6_isGuest_0 1 rfl rfl)
theorem dX6_isGuest_2 : decode cX6_isGuest 2 = .ok (.aload_n 0, 1) := dk_42 (dk_at dksX6_isGuest_0 2 rfl rfl)
theorem dX6_isGuest_3 : decode cX6_isGuest 3 = .ok (.getfield 149, 3) := dk_180 0 149 (dk_at dksX6_isGuest_0 3 rfl rfl)
theorem dX6_isGuest_6 : decode cX6_isGuest 6 = .ok (.iconst 1, 1) := dk_4 (dk_at dksX6_isGuest_0 6 rfl rfl)
theorem dX6_isGuest_7 : decode cX6_isGuest 7 = .ok (.isub, 1) := dk_100 (dk_at dksX6_isGuest_0 7 rfl rfl)
theorem dX6_isGuest_8 : decode cX6_isGuest 8 = .ok (.invokestatic 145, 3) := dk_184 0 145 (dk_at dksX6_isGuest_0 8 rfl rfl)
theorem dX6_isGuest_11 : decode cX6_isGuest 11 = .ok (.ireturn, 1) := dk_172 (dk_at dksX6_isGuest_0 11 rfl rfl)
abbrev cX6_mayBe : ByteArray := prog_25_method_17_code
def yX6_mayBe : MethodName := ⟨RX6, "mayBe", "(II)Z"⟩
def dkwX6_mayBe_4 : List UInt8 := [3, 16, 50, 184, 0, 145, 172, 27, 3, 17, 3, 231, 184, 0, 145, 172, 27, 3, 16, 12, 184, 0, 145, 172]
abbrev dktX6_mayBe_4 : List UInt8 := dkwX6_mayBe_4 ++ []
def dkwX6_mayBe_3 : List UInt8 := [27, 3, 16, 20, 184, 0, 145, 172, 27, 3, 16, 50, 184, 0, 145, 172, 27, 3, 6, 184, 0, 145, 172, 27]
abbrev dktX6_mayBe_3 : List UInt8 := dkwX6_mayBe_3 ++ dktX6_mayBe_4
def dkwX6_mayBe_2 : List UInt8 := [27, 3, 16, 99, 184, 0, 145, 172, 27, 3, 16, 9, 184, 0, 145, 172, 27, 3, 16, 9, 184, 0, 145, 172]
abbrev dktX6_mayBe_2 : List UInt8 := dkwX6_mayBe_2 ++ dktX6_mayBe_3
def dkwX6_mayBe_1 : List UInt8 := [170, 0, 0, 0, 0, 0, 111, 0, 0, 0, 0, 0, 0, 0, 7, 0, 0, 0, 47, 0, 0, 0, 55, 0, 0, 0, 63, 0, 0, 0, 71, 0, 0, 0, 79, 0, 0, 0, 87, 0, 0, 0, 94, 0, 0, 0, 102]
abbrev dktX6_mayBe_1 : List UInt8 := dkwX6_mayBe_1 ++ dktX6_mayBe_2
def dkwX6_mayBe_0 : List UInt8 := [26]
abbrev dktX6_mayBe_0 : List UInt8 := dkwX6_mayBe_0 ++ dktX6_mayBe_1
theorem dksX6_mayBe_0 : cX6_mayBe.data.toList.drop 0 = dktX6_mayBe_0 := by decide +kernel
theorem dksX6_mayBe_1 : cX6_mayBe.data.toList.drop 1 = dktX6_mayBe_1 := dk_seg dksX6_mayBe_0 1 rfl rfl
theorem dksX6_mayBe_2 : cX6_mayBe.data.toList.drop 48 = dktX6_mayBe_2 := dk_seg dksX6_mayBe_1 47 rfl rfl
theorem dksX6_mayBe_3 : cX6_mayBe.data.toList.drop 72 = dktX6_mayBe_3 := dk_seg dksX6_mayBe_2 24 rfl rfl
theorem dksX6_mayBe_4 : cX6_mayBe.data.toList.drop 96 = dktX6_mayBe_4 := dk_seg dksX6_mayBe_3 24 rfl rfl
theorem dX6_mayBe_0 : decode cX6_mayBe 0 = .ok (.iload_n 0, 1) := dk_26 (dk_at dksX6_mayBe_0 0 rfl rfl)
theorem dX6_mayBe_1 : decode cX6_mayBe 1 = .ok (.tableswitch 111 0 7 #[47, 55, 63, 71, 79, 87, 94, 102], 47) := by decide +kernel
theorem dX6_mayBe_48 : decode cX6_mayBe 48 = .ok (.iload_n 1, 1) := dk_27 (dk_at dksX6_mayBe_2 0 rfl rfl)
theorem dX6_mayBe_49 : decode cX6_mayBe 49 = .ok (.iconst 0, 1) := dk_3 (dk_at dksX6_mayBe_2 1 rfl rfl)
theorem dX6_mayBe_50 : decode cX6_mayBe 50 = .ok (.bipush 99, 2) := dk_16 99 (dk_at dksX6_mayBe_2 2 rfl rfl)
theorem dX6_mayBe_52 : decode cX6_mayBe 52 = .ok (.invokestatic 145, 3) := dk_184 0 145 (dk_at dksX6_mayBe_2 4 rfl rfl)
theorem dX6_mayBe_55 : decode cX6_mayBe 55 = .ok (.ireturn, 1) := dk_172 (dk_at dksX6_mayBe_2 7 rfl rfl)
theorem dX6_mayBe_56 : decode cX6_mayBe 56 = .ok (.iload_n 1, 1) := dk_27 (dk_at dksX6_mayBe_2 8 rfl rfl)
theorem dX6_mayBe_57 : decode cX6_mayBe 57 = .ok (.iconst 0, 1) := dk_3 (dk_at dksX6_mayBe_2 9 rfl rfl)
theorem dX6_mayBe_58 : decode cX6_mayBe 58 = .ok (.bipush 9, 2) := dk_16 9 (dk_at dksX6_mayBe_2 10 rfl rfl)
theorem dX6_mayBe_60 : decode cX6_mayBe 60 = .ok (.invokestatic 145, 3) := dk_184 0 145 (dk_at dksX6_mayBe_2 12 rfl rfl)
theorem dX6_mayBe_63 : decode cX6_mayBe 63 = .ok (.ireturn, 1) := dk_172 (dk_at dksX6_mayBe_2 15 rfl rfl)
theorem dX6_mayBe_64 : decode cX6_mayBe 64 = .ok (.iload_n 1, 1) := dk_27 (dk_at dksX6_mayBe_2 16 rfl rfl)
theorem dX6_mayBe_65 : decode cX6_mayBe 65 = .ok (.iconst 0, 1) := dk_3 (dk_at dksX6_mayBe_2 17 rfl rfl)
theorem dX6_mayBe_66 : decode cX6_mayBe 66 = .ok (.bipush 9, 2) := dk_16 9 (dk_at dksX6_mayBe_2 18 rfl rfl)
theorem dX6_mayBe_68 : decode cX6_mayBe 68 = .ok (.invokestatic 145, 3) := dk_184 0 145 (dk_at dksX6_mayBe_2 20 rfl rfl)
theorem dX6_mayBe_71 : decode cX6_mayBe 71 = .ok (.ireturn, 1) := dk_172 (dk_at dksX6_mayBe_2 23 rfl rfl)
theorem dX6_mayBe_72 : decode cX6_mayBe 72 = .ok (.iload_n 1, 1) := dk_27 (dk_at dksX6_mayBe_3 0 rfl rfl)
theorem dX6_mayBe_73 : decode cX6_mayBe 73 = .ok (.iconst 0, 1) := dk_3 (dk_at dksX6_mayBe_3 1 rfl rfl)
theorem dX6_mayBe_74 : decode cX6_mayBe 74 = .ok (.bipush 20, 2) := dk_16 20 (dk_at dksX6_mayBe_3 2 rfl rfl)
theorem dX6_mayBe_76 : decode cX6_mayBe 76 = .ok (.invokestatic 145, 3) := dk_184 0 145 (dk_at dksX6_mayBe_3 4 rfl rfl)
theorem dX6_mayBe_79 : decode cX6_mayBe 79 = .ok (.ireturn, 1) := dk_172 (dk_at dksX6_mayBe_3 7 rfl rfl)
theorem dX6_mayBe_80 : decode cX6_mayBe 80 = .ok (.iload_n 1, 1) := dk_27 (dk_at dksX6_mayBe_3 8 rfl rfl)
theorem dX6_mayBe_81 : decode cX6_mayBe 81 = .ok (.iconst 0, 1) := dk_3 (dk_at dksX6_mayBe_3 9 rfl rfl)
theorem dX6_mayBe_82 : decode cX6_mayBe 82 = .ok (.bipush 50, 2) := dk_16 50 (dk_at dksX6_mayBe_3 10 rfl rfl)
theorem dX6_mayBe_84 : decode cX6_mayBe 84 = .ok (.invokestatic 145, 3) := dk_184 0 145 (dk_at dksX6_mayBe_3 12 rfl rfl)
theorem dX6_mayBe_87 : decode cX6_mayBe 87 = .ok (.ireturn, 1) := dk_172 (dk_at dksX6_mayBe_3 15 rfl rfl)
theorem dX6_mayBe_88 : decode cX6_mayBe 88 = .ok (.iload_n 1, 1) := dk_27 (dk_at dksX6_mayBe_3 16 rfl rfl)
theorem dX6_mayBe_89 : decode cX6_mayBe 89 = .ok (.iconst 0, 1) := dk_3 (dk_at dksX6_mayBe_3 17 rfl rfl)
theorem dX6_mayBe_90 : decode cX6_mayBe 90 = .ok (.iconst 3, 1) := dk_6 (dk_at dksX6_mayBe_3 18 rfl rfl)
theorem dX6_mayBe_91 : decode cX6_mayBe 91 = .ok (.invokestatic 145, 3) := dk_184 0 145 (dk_at dksX6_mayBe_3 19 rfl rfl)
theorem dX6_mayBe_94 : decode cX6_mayBe 94 = .ok (.ireturn, 1) := dk_172 (dk_at dksX6_mayBe_3 22 rfl rfl)
theorem dX6_mayBe_95 : decode cX6_mayBe 95 = .ok (.iload_n 1, 1) := dk_27 (dk_at dksX6_mayBe_3 23 rfl rfl)
theorem dX6_mayBe_96 : decode cX6_mayBe 96 = .ok (.iconst 0, 1) := dk_3 (dk_at dksX6_mayBe_4 0 rfl rfl)
theorem dX6_mayBe_97 : decode cX6_mayBe 97 = .ok (.bipush 50, 2) := dk_16 50 (dk_at dksX6_mayBe_4 1 rfl rfl)
theorem dX6_mayBe_99 : decode cX6_mayBe 99 = .ok (.invokestatic 145, 3) := dk_184 0 145 (dk_at dksX6_mayBe_4 3 rfl rfl)
theorem dX6_mayBe_102 : decode cX6_mayBe 102 = .ok (.ireturn, 1) := dk_172 (dk_at dksX6_mayBe_4 6 rfl rfl)
theorem dX6_mayBe_103 : decode cX6_mayBe 103 = .ok (.iload_n 1, 1) := dk_27 (dk_at dksX6_mayBe_4 7 rfl rfl)
theorem dX6_mayBe_104 : decode cX6_mayBe 104 = .ok (.iconst 0, 1) := dk_3 (dk_at dksX6_mayBe_4 8 rfl rfl)
theorem dX6_mayBe_105 : decode cX6_mayBe 105 = .ok (.sipush 999, 3) := dk_17 3 231 (dk_at dksX6_mayBe_4 9 rfl rfl)
theorem dX6_mayBe_108 : decode cX6_mayBe 108 = .ok (.invokestatic 145, 3) := dk_184 0 145 (dk_at dksX6_mayBe_4 12 rfl rfl)
theorem dX6_mayBe_111 : decode cX6_mayBe 111 = .ok (.ireturn, 1) := dk_172 (dk_at dksX6_mayBe_4 15 rfl rfl)
theorem dX6_mayBe_112 : decode cX6_mayBe 112 = .ok (.iload_n 1, 1) := dk_27 (dk_at dksX6_mayBe_4 16 rfl rfl)
theorem dX6_mayBe_113 : decode cX6_mayBe 113 = .ok (.iconst 0, 1) := dk_3 (dk_at dksX6_mayBe_4 17 rfl rfl)
theorem dX6_mayBe_114 : decode cX6_mayBe 114 = .ok (.bipush 12, 2) := dk_16 12 (dk_at dksX6_mayBe_4 18 rfl rfl)
theorem dX6_mayBe_116 : decode cX6_mayBe 116 = .ok (.invokestatic 145, 3) := dk_184 0 145 (dk_at dksX6_mayBe_4 20 rfl rfl)
theorem dX6_mayBe_119 : decode cX6_mayBe 119 = .ok (.ireturn, 1) := dk_172 (dk_at dksX6_mayBe_4 23 rfl rfl)
abbrev cX6_changes : ByteArray := prog_25_method_13_code
def yX6_changes : MethodName := ⟨RX6, "changes", "(III)I"⟩
def dkwX6_changes_7 : List UInt8 := [180, 0, 179, 4, 96, 181, 0, 179, 42, 27, 28, 29, 182, 0, 182, 21, 4, 172]
abbrev dktX6_changes_7 : List UInt8 := dkwX6_changes_7 ++ []
def dkwX6_changes_6 : List UInt8 := [180, 0, 49, 42, 180, 0, 179, 21, 4, 79, 42, 180, 0, 52, 42, 180, 0, 179, 29, 79, 42, 89]
abbrev dktX6_changes_6 : List UInt8 := dkwX6_changes_6 ++ dktX6_changes_7
def dkwX6_changes_5 : List UInt8 := [181, 0, 179, 42, 180, 0, 43, 42, 180, 0, 179, 27, 79, 42, 180, 0, 46, 42, 180, 0, 179, 28, 79, 42]
abbrev dktX6_changes_5 : List UInt8 := dkwX6_changes_5 ++ dktX6_changes_6
def dkwX6_changes_4 : List UInt8 := [4, 100, 42, 180, 0, 52, 21, 5, 46, 79, 132, 5, 1, 167, 255, 182, 42, 89, 180, 0, 179, 4, 100]
abbrev dktX6_changes_4 : List UInt8 := dkwX6_changes_4 ++ dktX6_changes_5
def dkwX6_changes_3 : List UInt8 := [46, 79, 42, 180, 0, 49, 21, 5, 4, 100, 42, 180, 0, 49, 21, 5, 46, 79, 42, 180, 0, 52, 21, 5]
abbrev dktX6_changes_3 : List UInt8 := dkwX6_changes_3 ++ dktX6_changes_4
def dkwX6_changes_2 : List UInt8 := [4, 100, 42, 180, 0, 43, 21, 5, 46, 79, 42, 180, 0, 46, 21, 5, 4, 100, 42, 180, 0, 46, 21, 5]
abbrev dktX6_changes_2 : List UInt8 := dkwX6_changes_2 ++ dktX6_changes_3
def dkwX6_changes_1 : List UInt8 := [180, 0, 179, 16, 40, 160, 0, 93, 4, 54, 5, 21, 5, 16, 40, 162, 0, 73, 42, 180, 0, 43, 21, 5]
abbrev dktX6_changes_1 : List UInt8 := dkwX6_changes_1 ++ dktX6_changes_2
def dkwX6_changes_0 : List UInt8 := [42, 27, 28, 182, 0, 172, 54, 4, 21, 4, 29, 160, 0, 6, 21, 4, 172, 42, 3, 181, 0, 176, 42]
abbrev dktX6_changes_0 : List UInt8 := dkwX6_changes_0 ++ dktX6_changes_1
theorem dksX6_changes_0 : cX6_changes.data.toList.drop 0 = dktX6_changes_0 := by decide +kernel
theorem dksX6_changes_1 : cX6_changes.data.toList.drop 23 = dktX6_changes_1 := dk_seg dksX6_changes_0 23 rfl rfl
theorem dksX6_changes_2 : cX6_changes.data.toList.drop 47 = dktX6_changes_2 := dk_seg dksX6_changes_1 24 rfl rfl
theorem dksX6_changes_3 : cX6_changes.data.toList.drop 71 = dktX6_changes_3 := dk_seg dksX6_changes_2 24 rfl rfl
theorem dksX6_changes_4 : cX6_changes.data.toList.drop 95 = dktX6_changes_4 := dk_seg dksX6_changes_3 24 rfl rfl
theorem dksX6_changes_5 : cX6_changes.data.toList.drop 118 = dktX6_changes_5 := dk_seg dksX6_changes_4 23 rfl rfl
theorem dksX6_changes_6 : cX6_changes.data.toList.drop 142 = dktX6_changes_6 := dk_seg dksX6_changes_5 24 rfl rfl
theorem dksX6_changes_7 : cX6_changes.data.toList.drop 164 = dktX6_changes_7 := dk_seg dksX6_changes_6 22 rfl rfl
theorem dX6_changes_0 : decode cX6_changes 0 = .ok (.aload_n 0, 1) := dk_42 (dk_at dksX6_changes_0 0 rfl rfl)
theorem dX6_changes_1 : decode cX6_changes 1 = .ok (.iload_n 1, 1) := dk_27 (dk_at dksX6_changes_0 1 rfl rfl)
theorem dX6_changes_2 : decode cX6_changes 2 = .ok (.iload_n 2, 1) := dk_28 (dk_at dksX6_changes_0 2 rfl rfl)
theorem dX6_changes_3 : decode cX6_changes 3 = .ok (.invokevirtual 172, 3) := dk_182 0 172 (dk_at dksX6_changes_0 3 rfl rfl)
theorem dX6_changes_6 : decode cX6_changes 6 = .ok (.istore 4, 2) := dk_54 4 (dk_at dksX6_changes_0 6 rfl rfl)
theorem dX6_changes_8 : decode cX6_changes 8 = .ok (.iload 4, 2) := dk_21 4 (dk_at dksX6_changes_0 8 rfl rfl)
theorem dX6_changes_10 : decode cX6_changes 10 = .ok (.iload_n 3, 1) := dk_29 (dk_at dksX6_changes_0 10 rfl rfl)
theorem dX6_changes_11 : decode cX6_changes 11 = .ok (.if_icmp .ne 6, 3) := dk_160 0 6 (dk_at dksX6_changes_0 11 rfl rfl)
theorem dX6_changes_14 : decode cX6_changes 14 = .ok (.iload 4, 2) := dk_21 4 (dk_at dksX6_changes_0 14 rfl rfl)
theorem dX6_changes_16 : decode cX6_changes 16 = .ok (.ireturn, 1) := dk_172 (dk_at dksX6_changes_0 16 rfl rfl)
theorem dX6_changes_17 : decode cX6_changes 17 = .ok (.aload_n 0, 1) := dk_42 (dk_at dksX6_changes_0 17 rfl rfl)
theorem dX6_changes_18 : decode cX6_changes 18 = .ok (.iconst 0, 1) := dk_3 (dk_at dksX6_changes_0 18 rfl rfl)
theorem dX6_changes_19 : decode cX6_changes 19 = .ok (.putfield 176, 3) := dk_181 0 176 (dk_at dksX6_changes_0 19 rfl rfl)
theorem dX6_changes_22 : decode cX6_changes 22 = .ok (.aload_n 0, 1) := dk_42 (dk_at dksX6_changes_0 22 rfl rfl)
theorem dX6_changes_23 : decode cX6_changes 23 = .ok (.getfield 179, 3) := dk_180 0 179 (dk_at dksX6_changes_1 0 rfl rfl)
theorem dX6_changes_26 : decode cX6_changes 26 = .ok (.bipush 40, 2) := dk_16 40 (dk_at dksX6_changes_1 3 rfl rfl)
theorem dX6_changes_28 : decode cX6_changes 28 = .ok (.if_icmp .ne 93, 3) := dk_160 0 93 (dk_at dksX6_changes_1 5 rfl rfl)
theorem dX6_changes_31 : decode cX6_changes 31 = .ok (.iconst 1, 1) := dk_4 (dk_at dksX6_changes_1 8 rfl rfl)
theorem dX6_changes_32 : decode cX6_changes 32 = .ok (.istore 5, 2) := dk_54 5 (dk_at dksX6_changes_1 9 rfl rfl)
theorem dX6_changes_34 : decode cX6_changes 34 = .ok (.iload 5, 2) := dk_21 5 (dk_at dksX6_changes_1 11 rfl rfl)
theorem dX6_changes_36 : decode cX6_changes 36 = .ok (.bipush 40, 2) := dk_16 40 (dk_at dksX6_changes_1 13 rfl rfl)
theorem dX6_changes_38 : decode cX6_changes 38 = .ok (.if_icmp .ge 73, 3) := dk_162 0 73 (dk_at dksX6_changes_1 15 rfl rfl)
theorem dX6_changes_41 : decode cX6_changes 41 = .ok (.aload_n 0, 1) := dk_42 (dk_at dksX6_changes_1 18 rfl rfl)
theorem dX6_changes_42 : decode cX6_changes 42 = .ok (.getfield 43, 3) := dk_180 0 43 (dk_at dksX6_changes_1 19 rfl rfl)
theorem dX6_changes_45 : decode cX6_changes 45 = .ok (.iload 5, 2) := dk_21 5 (dk_at dksX6_changes_1 22 rfl rfl)
theorem dX6_changes_47 : decode cX6_changes 47 = .ok (.iconst 1, 1) := dk_4 (dk_at dksX6_changes_2 0 rfl rfl)
theorem dX6_changes_48 : decode cX6_changes 48 = .ok (.isub, 1) := dk_100 (dk_at dksX6_changes_2 1 rfl rfl)
theorem dX6_changes_49 : decode cX6_changes 49 = .ok (.aload_n 0, 1) := dk_42 (dk_at dksX6_changes_2 2 rfl rfl)
theorem dX6_changes_50 : decode cX6_changes 50 = .ok (.getfield 43, 3) := dk_180 0 43 (dk_at dksX6_changes_2 3 rfl rfl)
theorem dX6_changes_53 : decode cX6_changes 53 = .ok (.iload 5, 2) := dk_21 5 (dk_at dksX6_changes_2 6 rfl rfl)
theorem dX6_changes_55 : decode cX6_changes 55 = .ok (.iaload, 1) := dk_46 (dk_at dksX6_changes_2 8 rfl rfl)
theorem dX6_changes_56 : decode cX6_changes 56 = .ok (.iastore, 1) := dk_79 (dk_at dksX6_changes_2 9 rfl rfl)
theorem dX6_changes_57 : decode cX6_changes 57 = .ok (.aload_n 0, 1) := dk_42 (dk_at dksX6_changes_2 10 rfl rfl)
theorem dX6_changes_58 : decode cX6_changes 58 = .ok (.getfield 46, 3) := dk_180 0 46 (dk_at dksX6_changes_2 11 rfl rfl)
theorem dX6_changes_61 : decode cX6_changes 61 = .ok (.iload 5, 2) := dk_21 5 (dk_at dksX6_changes_2 14 rfl rfl)
theorem dX6_changes_63 : decode cX6_changes 63 = .ok (.iconst 1, 1) := dk_4 (dk_at dksX6_changes_2 16 rfl rfl)
theorem dX6_changes_64 : decode cX6_changes 64 = .ok (.isub, 1) := dk_100 (dk_at dksX6_changes_2 17 rfl rfl)
theorem dX6_changes_65 : decode cX6_changes 65 = .ok (.aload_n 0, 1) := dk_42 (dk_at dksX6_changes_2 18 rfl rfl)
theorem dX6_changes_66 : decode cX6_changes 66 = .ok (.getfield 46, 3) := dk_180 0 46 (dk_at dksX6_changes_2 19 rfl rfl)
theorem dX6_changes_69 : decode cX6_changes 69 = .ok (.iload 5, 2) := dk_21 5 (dk_at dksX6_changes_2 22 rfl rfl)
theorem dX6_changes_71 : decode cX6_changes 71 = .ok (.iaload, 1) := dk_46 (dk_at dksX6_changes_3 0 rfl rfl)
theorem dX6_changes_72 : decode cX6_changes 72 = .ok (.iastore, 1) := dk_79 (dk_at dksX6_changes_3 1 rfl rfl)
theorem dX6_changes_73 : decode cX6_changes 73 = .ok (.aload_n 0, 1) := dk_42 (dk_at dksX6_changes_3 2 rfl rfl)
theorem dX6_changes_74 : decode cX6_changes 74 = .ok (.getfield 49, 3) := dk_180 0 49 (dk_at dksX6_changes_3 3 rfl rfl)
theorem dX6_changes_77 : decode cX6_changes 77 = .ok (.iload 5, 2) := dk_21 5 (dk_at dksX6_changes_3 6 rfl rfl)
theorem dX6_changes_79 : decode cX6_changes 79 = .ok (.iconst 1, 1) := dk_4 (dk_at dksX6_changes_3 8 rfl rfl)
theorem dX6_changes_80 : decode cX6_changes 80 = .ok (.isub, 1) := dk_100 (dk_at dksX6_changes_3 9 rfl rfl)
theorem dX6_changes_81 : decode cX6_changes 81 = .ok (.aload_n 0, 1) := dk_42 (dk_at dksX6_changes_3 10 rfl rfl)
theorem dX6_changes_82 : decode cX6_changes 82 = .ok (.getfield 49, 3) := dk_180 0 49 (dk_at dksX6_changes_3 11 rfl rfl)
theorem dX6_changes_85 : decode cX6_changes 85 = .ok (.iload 5, 2) := dk_21 5 (dk_at dksX6_changes_3 14 rfl rfl)
theorem dX6_changes_87 : decode cX6_changes 87 = .ok (.iaload, 1) := dk_46 (dk_at dksX6_changes_3 16 rfl rfl)
theorem dX6_changes_88 : decode cX6_changes 88 = .ok (.iastore, 1) := dk_79 (dk_at dksX6_changes_3 17 rfl rfl)
theorem dX6_changes_89 : decode cX6_changes 89 = .ok (.aload_n 0, 1) := dk_42 (dk_at dksX6_changes_3 18 rfl rfl)
theorem dX6_changes_90 : decode cX6_changes 90 = .ok (.getfield 52, 3) := dk_180 0 52 (dk_at dksX6_changes_3 19 rfl rfl)
theorem dX6_changes_93 : decode cX6_changes 93 = .ok (.iload 5, 2) := dk_21 5 (dk_at dksX6_changes_3 22 rfl rfl)
theorem dX6_changes_95 : decode cX6_changes 95 = .ok (.iconst 1, 1) := dk_4 (dk_at dksX6_changes_4 0 rfl rfl)
theorem dX6_changes_96 : decode cX6_changes 96 = .ok (.isub, 1) := dk_100 (dk_at dksX6_changes_4 1 rfl rfl)
theorem dX6_changes_97 : decode cX6_changes 97 = .ok (.aload_n 0, 1) := dk_42 (dk_at dksX6_changes_4 2 rfl rfl)
theorem dX6_changes_98 : decode cX6_changes 98 = .ok (.getfield 52, 3) := dk_180 0 52 (dk_at dksX6_changes_4 3 rfl rfl)
theorem dX6_changes_101 : decode cX6_changes 101 = .ok (.iload 5, 2) := dk_21 5 (dk_at dksX6_changes_4 6 rfl rfl)
theorem dX6_changes_103 : decode cX6_changes 103 = .ok (.iaload, 1) := dk_46 (dk_at dksX6_changes_4 8 rfl rfl)
theorem dX6_changes_104 : decode cX6_changes 104 = .ok (.iastore, 1) := dk_79 (dk_at dksX6_changes_4 9 rfl rfl)
theorem dX6_changes_105 : decode cX6_changes 105 = .ok (.iinc 5 1, 3) := dk_132 5 1 (dk_at dksX6_changes_4 10 rfl rfl)
theorem dX6_changes_108 : decode cX6_changes 108 = .ok (.goto (-74), 3) := dk_167 255 182 (dk_at dksX6_changes_4 13 rfl rfl)
theorem dX6_changes_111 : decode cX6_changes 111 = .ok (.aload_n 0, 1) := dk_42 (dk_at dksX6_changes_4 16 rfl rfl)
theorem dX6_changes_112 : decode cX6_changes 112 = .ok (.dup, 1) := dk_89 (dk_at dksX6_changes_4 17 rfl rfl)
theorem dX6_changes_113 : decode cX6_changes 113 = .ok (.getfield 179, 3) := dk_180 0 179 (dk_at dksX6_changes_4 18 rfl rfl)
theorem dX6_changes_116 : decode cX6_changes 116 = .ok (.iconst 1, 1) := dk_4 (dk_at dksX6_changes_4 21 rfl rfl)
theorem dX6_changes_117 : decode cX6_changes 117 = .ok (.isub, 1) := dk_100 (dk_at dksX6_changes_4 22 rfl rfl)
theorem dX6_changes_118 : decode cX6_changes 118 = .ok (.putfield 179, 3) := dk_181 0 179 (dk_at dksX6_changes_5 0 rfl rfl)
theorem dX6_changes_121 : decode cX6_changes 121 = .ok (.aload_n 0, 1) := dk_42 (dk_at dksX6_changes_5 3 rfl rfl)
theorem dX6_changes_122 : decode cX6_changes 122 = .ok (.getfield 43, 3) := dk_180 0 43 (dk_at dksX6_changes_5 4 rfl rfl)
theorem dX6_changes_125 : decode cX6_changes 125 = .ok (.aload_n 0, 1) := dk_42 (dk_at dksX6_changes_5 7 rfl rfl)
theorem dX6_changes_126 : decode cX6_changes 126 = .ok (.getfield 179, 3) := dk_180 0 179 (dk_at dksX6_changes_5 8 rfl rfl)
theorem dX6_changes_129 : decode cX6_changes 129 = .ok (.iload_n 1, 1) := dk_27 (dk_at dksX6_changes_5 11 rfl rfl)
theorem dX6_changes_130 : decode cX6_changes 130 = .ok (.iastore, 1) := dk_79 (dk_at dksX6_changes_5 12 rfl rfl)
theorem dX6_changes_131 : decode cX6_changes 131 = .ok (.aload_n 0, 1) := dk_42 (dk_at dksX6_changes_5 13 rfl rfl)
theorem dX6_changes_132 : decode cX6_changes 132 = .ok (.getfield 46, 3) := dk_180 0 46 (dk_at dksX6_changes_5 14 rfl rfl)
theorem dX6_changes_135 : decode cX6_changes 135 = .ok (.aload_n 0, 1) := dk_42 (dk_at dksX6_changes_5 17 rfl rfl)
theorem dX6_changes_136 : decode cX6_changes 136 = .ok (.getfield 179, 3) := dk_180 0 179 (dk_at dksX6_changes_5 18 rfl rfl)
theorem dX6_changes_139 : decode cX6_changes 139 = .ok (.iload_n 2, 1) := dk_28 (dk_at dksX6_changes_5 21 rfl rfl)
theorem dX6_changes_140 : decode cX6_changes 140 = .ok (.iastore, 1) := dk_79 (dk_at dksX6_changes_5 22 rfl rfl)
theorem dX6_changes_141 : decode cX6_changes 141 = .ok (.aload_n 0, 1) := dk_42 (dk_at dksX6_changes_5 23 rfl rfl)
theorem dX6_changes_142 : decode cX6_changes 142 = .ok (.getfield 49, 3) := dk_180 0 49 (dk_at dksX6_changes_6 0 rfl rfl)
theorem dX6_changes_145 : decode cX6_changes 145 = .ok (.aload_n 0, 1) := dk_42 (dk_at dksX6_changes_6 3 rfl rfl)
theorem dX6_changes_146 : decode cX6_changes 146 = .ok (.getfield 179, 3) := dk_180 0 179 (dk_at dksX6_changes_6 4 rfl rfl)
theorem dX6_changes_149 : decode cX6_changes 149 = .ok (.iload 4, 2) := dk_21 4 (dk_at dksX6_changes_6 7 rfl rfl)
theorem dX6_changes_151 : decode cX6_changes 151 = .ok (.iastore, 1) := dk_79 (dk_at dksX6_changes_6 9 rfl rfl)
theorem dX6_changes_152 : decode cX6_changes 152 = .ok (.aload_n 0, 1) := dk_42 (dk_at dksX6_changes_6 10 rfl rfl)
theorem dX6_changes_153 : decode cX6_changes 153 = .ok (.getfield 52, 3) := dk_180 0 52 (dk_at dksX6_changes_6 11 rfl rfl)
theorem dX6_changes_156 : decode cX6_changes 156 = .ok (.aload_n 0, 1) := dk_42 (dk_at dksX6_changes_6 14 rfl rfl)
theorem dX6_changes_157 : decode cX6_changes 157 = .ok (.getfield 179, 3) := dk_180 0 179 (dk_at dksX6_changes_6 15 rfl rfl)
theorem dX6_changes_160 : decode cX6_changes 160 = .ok (.iload_n 3, 1) := dk_29 (dk_at dksX6_changes_6 18 rfl rfl)
theorem dX6_changes_161 : decode cX6_changes 161 = .ok (.iastore, 1) := dk_79 (dk_at dksX6_changes_6 19 rfl rfl)
theorem dX6_changes_162 : decode cX6_changes 162 = .ok (.aload_n 0, 1) := dk_42 (dk_at dksX6_changes_6 20 rfl rfl)
theorem dX6_changes_163 : decode cX6_changes 163 = .ok (.dup, 1) := dk_89 (dk_at dksX6_changes_6 21 rfl rfl)
theorem dX6_changes_164 : decode cX6_changes 164 = .ok (.getfield 179, 3) := dk_180 0 179 (dk_at dksX6_changes_7 0 rfl rfl)
theorem dX6_changes_167 : decode cX6_changes 167 = .ok (.iconst 1, 1) := dk_4 (dk_at dksX6_changes_7 3 rfl rfl)
theorem dX6_changes_168 : decode cX6_changes 168 = .ok (.iadd, 1) := dk_96 (dk_at dksX6_changes_7 4 rfl rfl)
theorem dX6_changes_169 : decode cX6_changes 169 = .ok (.putfield 179, 3) := dk_181 0 179 (dk_at dksX6_changes_7 5 rfl rfl)
theorem dX6_changes_172 : decode cX6_changes 172 = .ok (.aload_n 0, 1) := dk_42 (dk_at dksX6_changes_7 8 rfl rfl)
theorem dX6_changes_173 : decode cX6_changes 173 = .ok (.iload_n 1, 1) := dk_27 (dk_at dksX6_changes_7 9 rfl rfl)
theorem dX6_changes_174 : decode cX6_changes 174 = .ok (.iload_n 2, 1) := dk_28 (dk_at dksX6_changes_7 10 rfl rfl)
theorem dX6_changes_175 : decode cX6_changes 175 = .ok (.iload_n 3, 1) := dk_29 (dk_at dksX6_changes_7 11 rfl rfl)
theorem dX6_changes_176 : decode cX6_changes 176 = .ok (.invokevirtual 182, 3) := dk_182 0 182 (dk_at dksX6_changes_7 12 rfl rfl)
theorem dX6_changes_179 : decode cX6_changes 179 = .ok (.iload 4, 2) := dk_21 4 (dk_at dksX6_changes_7 15 rfl rfl)
theorem dX6_changes_181 : decode cX6_changes 181 = .ok (.ireturn, 1) := dk_172 (dk_at dksX6_changes_7 17 rfl rfl)
abbrev cX6_valueAt : ByteArray := prog_25_method_11_code
def yX6_valueAt : MethodName := ⟨RX6, "valueAt", "(II)I"⟩
def dkwX6_valueAt_4 : List UInt8 := [42, 180, 0, 30, 172, 42, 180, 0, 34, 172, 42, 180, 0, 37, 172]
abbrev dktX6_valueAt_4 : List UInt8 := dkwX6_valueAt_4 ++ []
def dkwX6_valueAt_3 : List UInt8 := [42, 180, 0, 21, 28, 184, 0, 168, 46, 172, 42, 180, 0, 24, 28, 46, 172, 42, 180, 0, 27, 28, 46, 172]
abbrev dktX6_valueAt_3 : List UInt8 := dkwX6_valueAt_3 ++ dktX6_valueAt_4
def dkwX6_valueAt_2 : List UInt8 := [42, 180, 0, 9, 28, 46, 172, 42, 180, 0, 15, 28, 46, 172, 42, 180, 0, 18, 28, 184, 0, 168, 46, 172]
abbrev dktX6_valueAt_2 : List UInt8 := dkwX6_valueAt_2 ++ dktX6_valueAt_3
def dkwX6_valueAt_1 : List UInt8 := [170, 0, 0, 0, 0, 0, 105, 0, 0, 0, 0, 0, 0, 0, 7, 0, 0, 0, 47, 0, 0, 0, 54, 0, 0, 0, 61, 0, 0, 0, 71, 0, 0, 0, 81, 0, 0, 0, 88, 0, 0, 0, 95, 0, 0, 0, 100]
abbrev dktX6_valueAt_1 : List UInt8 := dkwX6_valueAt_1 ++ dktX6_valueAt_2
def dkwX6_valueAt_0 : List UInt8 := [27]
abbrev dktX6_valueAt_0 : List UInt8 := dkwX6_valueAt_0 ++ dktX6_valueAt_1
theorem dksX6_valueAt_0 : cX6_valueAt.data.toList.drop 0 = dktX6_valueAt_0 := by decide +kernel
theorem dksX6_valueAt_1 : cX6_valueAt.data.toList.drop 1 = dktX6_valueAt_1 := dk_seg dksX6_valueAt_0 1 rfl rfl
theorem dksX6_valueAt_2 : cX6_valueAt.data.toList.drop 48 = dktX6_valueAt_2 := dk_seg dksX6_valueAt_1 47 rfl rfl
theorem dksX6_valueAt_3 : cX6_valueAt.data.toList.drop 72 = dktX6_valueAt_3 := dk_seg dksX6_valueAt_2 24 rfl rfl
theorem dksX6_valueAt_4 : cX6_valueAt.data.toList.drop 96 = dktX6_valueAt_4 := dk_seg dksX6_valueAt_3 24 rfl rfl
theorem dX6_valueAt_0 : decode cX6_valueAt 0 = .ok (.iload_n 1, 1) := dk_27 (dk_at dksX6_valueAt_0 0 rfl rfl)
theorem dX6_valueAt_1 : decode cX6_valueAt 1 = .ok (.tableswitch 105 0 7 #[47, 54, 61, 71, 81, 88, 95, 100], 47) := by decide +kernel
theorem dX6_valueAt_48 : decode cX6_valueAt 48 = .ok (.aload_n 0, 1) := dk_42 (dk_at dksX6_valueAt_2 0 rfl rfl)
theorem dX6_valueAt_49 : decode cX6_valueAt 49 = .ok (.getfield 9, 3) := dk_180 0 9 (dk_at dksX6_valueAt_2 1 rfl rfl)
theorem dX6_valueAt_52 : decode cX6_valueAt 52 = .ok (.iload_n 2, 1) := dk_28 (dk_at dksX6_valueAt_2 4 rfl rfl)
theorem dX6_valueAt_53 : decode cX6_valueAt 53 = .ok (.iaload, 1) := dk_46 (dk_at dksX6_valueAt_2 5 rfl rfl)
theorem dX6_valueAt_54 : decode cX6_valueAt 54 = .ok (.ireturn, 1) := dk_172 (dk_at dksX6_valueAt_2 6 rfl rfl)
theorem dX6_valueAt_55 : decode cX6_valueAt 55 = .ok (.aload_n 0, 1) := dk_42 (dk_at dksX6_valueAt_2 7 rfl rfl)
theorem dX6_valueAt_56 : decode cX6_valueAt 56 = .ok (.getfield 15, 3) := dk_180 0 15 (dk_at dksX6_valueAt_2 8 rfl rfl)
theorem dX6_valueAt_59 : decode cX6_valueAt 59 = .ok (.iload_n 2, 1) := dk_28 (dk_at dksX6_valueAt_2 11 rfl rfl)
theorem dX6_valueAt_60 : decode cX6_valueAt 60 = .ok (.iaload, 1) := dk_46 (dk_at dksX6_valueAt_2 12 rfl rfl)
theorem dX6_valueAt_61 : decode cX6_valueAt 61 = .ok (.ireturn, 1) := dk_172 (dk_at dksX6_valueAt_2 13 rfl rfl)
theorem dX6_valueAt_62 : decode cX6_valueAt 62 = .ok (.aload_n 0, 1) := dk_42 (dk_at dksX6_valueAt_2 14 rfl rfl)
theorem dX6_valueAt_63 : decode cX6_valueAt 63 = .ok (.getfield 18, 3) := dk_180 0 18 (dk_at dksX6_valueAt_2 15 rfl rfl)
theorem dX6_valueAt_66 : decode cX6_valueAt 66 = .ok (.iload_n 2, 1) := dk_28 (dk_at dksX6_valueAt_2 18 rfl rfl)
theorem dX6_valueAt_67 : decode cX6_valueAt 67 = .ok (.invokestatic 168, 3) := dk_184 0 168 (dk_at dksX6_valueAt_2 19 rfl rfl)
theorem dX6_valueAt_70 : decode cX6_valueAt 70 = .ok (.iaload, 1) := dk_46 (dk_at dksX6_valueAt_2 22 rfl rfl)
theorem dX6_valueAt_71 : decode cX6_valueAt 71 = .ok (.ireturn, 1) := dk_172 (dk_at dksX6_valueAt_2 23 rfl rfl)
theorem dX6_valueAt_72 : decode cX6_valueAt 72 = .ok (.aload_n 0, 1) := dk_42 (dk_at dksX6_valueAt_3 0 rfl rfl)
theorem dX6_valueAt_73 : decode cX6_valueAt 73 = .ok (.getfield 21, 3) := dk_180 0 21 (dk_at dksX6_valueAt_3 1 rfl rfl)
theorem dX6_valueAt_76 : decode cX6_valueAt 76 = .ok (.iload_n 2, 1) := dk_28 (dk_at dksX6_valueAt_3 4 rfl rfl)
theorem dX6_valueAt_77 : decode cX6_valueAt 77 = .ok (.invokestatic 168, 3) := dk_184 0 168 (dk_at dksX6_valueAt_3 5 rfl rfl)
theorem dX6_valueAt_80 : decode cX6_valueAt 80 = .ok (.iaload, 1) := dk_46 (dk_at dksX6_valueAt_3 8 rfl rfl)
theorem dX6_valueAt_81 : decode cX6_valueAt 81 = .ok (.ireturn, 1) := dk_172 (dk_at dksX6_valueAt_3 9 rfl rfl)
theorem dX6_valueAt_82 : decode cX6_valueAt 82 = .ok (.aload_n 0, 1) := dk_42 (dk_at dksX6_valueAt_3 10 rfl rfl)
theorem dX6_valueAt_83 : decode cX6_valueAt 83 = .ok (.getfield 24, 3) := dk_180 0 24 (dk_at dksX6_valueAt_3 11 rfl rfl)
theorem dX6_valueAt_86 : decode cX6_valueAt 86 = .ok (.iload_n 2, 1) := dk_28 (dk_at dksX6_valueAt_3 14 rfl rfl)
theorem dX6_valueAt_87 : decode cX6_valueAt 87 = .ok (.iaload, 1) := dk_46 (dk_at dksX6_valueAt_3 15 rfl rfl)
theorem dX6_valueAt_88 : decode cX6_valueAt 88 = .ok (.ireturn, 1) := dk_172 (dk_at dksX6_valueAt_3 16 rfl rfl)
theorem dX6_valueAt_89 : decode cX6_valueAt 89 = .ok (.aload_n 0, 1) := dk_42 (dk_at dksX6_valueAt_3 17 rfl rfl)
theorem dX6_valueAt_90 : decode cX6_valueAt 90 = .ok (.getfield 27, 3) := dk_180 0 27 (dk_at dksX6_valueAt_3 18 rfl rfl)
theorem dX6_valueAt_93 : decode cX6_valueAt 93 = .ok (.iload_n 2, 1) := dk_28 (dk_at dksX6_valueAt_3 21 rfl rfl)
theorem dX6_valueAt_94 : decode cX6_valueAt 94 = .ok (.iaload, 1) := dk_46 (dk_at dksX6_valueAt_3 22 rfl rfl)
theorem dX6_valueAt_95 : decode cX6_valueAt 95 = .ok (.ireturn, 1) := dk_172 (dk_at dksX6_valueAt_3 23 rfl rfl)
theorem dX6_valueAt_96 : decode cX6_valueAt 96 = .ok (.aload_n 0, 1) := dk_42 (dk_at dksX6_valueAt_4 0 rfl rfl)
theorem dX6_valueAt_97 : decode cX6_valueAt 97 = .ok (.getfield 30, 3) := dk_180 0 30 (dk_at dksX6_valueAt_4 1 rfl rfl)
theorem dX6_valueAt_100 : decode cX6_valueAt 100 = .ok (.ireturn, 1) := dk_172 (dk_at dksX6_valueAt_4 4 rfl rfl)
theorem dX6_valueAt_101 : decode cX6_valueAt 101 = .ok (.aload_n 0, 1) := dk_42 (dk_at dksX6_valueAt_4 5 rfl rfl)
theorem dX6_valueAt_102 : decode cX6_valueAt 102 = .ok (.getfield 34, 3) := dk_180 0 34 (dk_at dksX6_valueAt_4 6 rfl rfl)
theorem dX6_valueAt_105 : decode cX6_valueAt 105 = .ok (.ireturn, 1) := dk_172 (dk_at dksX6_valueAt_4 9 rfl rfl)
theorem dX6_valueAt_106 : decode cX6_valueAt 106 = .ok (.aload_n 0, 1) := dk_42 (dk_at dksX6_valueAt_4 10 rfl rfl)
theorem dX6_valueAt_107 : decode cX6_valueAt 107 = .ok (.getfield 37, 3) := dk_180 0 37 (dk_at dksX6_valueAt_4 11 rfl rfl)
theorem dX6_valueAt_110 : decode cX6_valueAt 110 = .ok (.ireturn, 1) := dk_172 (dk_at dksX6_valueAt_4 14 rfl rfl)
abbrev cX6_of : ByteArray := prog_25_method_19_code
def yX6_of : MethodName := ⟨RX6, "of", "(II)I"⟩
def dkwX6_of_5 : List UInt8 := [96, 46, 172]
abbrev dktX6_of_5 : List UInt8 := dkwX6_of_5 ++ []
def dkwX6_of_4 : List UInt8 := [27, 16, 10, 108, 96, 46, 154, 0, 8, 16, 254, 167, 0, 15, 42, 180, 0, 40, 16, 20, 27, 184, 0, 168]
abbrev dktX6_of_4 : List UInt8 := dkwX6_of_4 ++ dktX6_of_5
def dkwX6_of_3 : List UInt8 := [2, 172, 28, 16, 12, 160, 0, 11, 42, 27, 182, 0, 186, 154, 0, 5, 2, 172, 42, 180, 0, 40, 16, 13]
abbrev dktX6_of_3 : List UInt8 := dkwX6_of_3 ++ dktX6_of_4
def dkwX6_of_2 : List UInt8 := [153, 0, 24, 42, 180, 0, 40, 27, 28, 16, 11, 160, 0, 7, 7, 167, 0, 4, 3, 96, 46, 167, 0, 4]
abbrev dktX6_of_2 : List UInt8 := dkwX6_of_2 ++ dktX6_of_3
def dkwX6_of_1 : List UInt8 := [182, 0, 172, 167, 0, 4, 2, 172, 28, 16, 10, 16, 11, 184, 0, 145, 153, 0, 33, 27, 184, 0, 156]
abbrev dktX6_of_1 : List UInt8 := dkwX6_of_1 ++ dktX6_of_2
def dkwX6_of_0 : List UInt8 := [28, 3, 16, 8, 184, 0, 145, 153, 0, 23, 42, 27, 28, 182, 0, 189, 153, 0, 12, 42, 28, 27]
abbrev dktX6_of_0 : List UInt8 := dkwX6_of_0 ++ dktX6_of_1
theorem dksX6_of_0 : cX6_of.data.toList.drop 0 = dktX6_of_0 := by decide +kernel
theorem dksX6_of_1 : cX6_of.data.toList.drop 22 = dktX6_of_1 := dk_seg dksX6_of_0 22 rfl rfl
theorem dksX6_of_2 : cX6_of.data.toList.drop 45 = dktX6_of_2 := dk_seg dksX6_of_1 23 rfl rfl
theorem dksX6_of_3 : cX6_of.data.toList.drop 69 = dktX6_of_3 := dk_seg dksX6_of_2 24 rfl rfl
theorem dksX6_of_4 : cX6_of.data.toList.drop 93 = dktX6_of_4 := dk_seg dksX6_of_3 24 rfl rfl
theorem dksX6_of_5 : cX6_of.data.toList.drop 117 = dktX6_of_5 := dk_seg dksX6_of_4 24 rfl rfl
theorem dX6_of_0 : decode cX6_of 0 = .ok (.iload_n 2, 1) := dk_28 (dk_at dksX6_of_0 0 rfl rfl)
theorem dX6_of_1 : decode cX6_of 1 = .ok (.iconst 0, 1) := dk_3 (dk_at dksX6_of_0 1 rfl rfl)
theorem dX6_of_2 : decode cX6_of 2 = .ok (.bipush 8, 2) := dk_16 8 (dk_at dksX6_of_0 2 rfl rfl)
theorem dX6_of_4 : decode cX6_of 4 = .ok (.invokestatic 145, 3) := dk_184 0 145 (dk_at dksX6_of_0 4 rfl rfl)
theorem dX6_of_7 : decode cX6_of 7 = .ok (.ifCond .eq 23, 3) := dk_153 0 23 (dk_at dksX6_of_0 7 rfl rfl)
theorem dX6_of_10 : decode cX6_of 10 = .ok (.aload_n 0, 1) := dk_42 (dk_at dksX6_of_0 10 rfl rfl)
theorem dX6_of_11 : decode cX6_of 11 = .ok (.iload_n 1, 1) := dk_27 (dk_at dksX6_of_0 11 rfl rfl)
theorem dX6_of_12 : decode cX6_of 12 = .ok (.iload_n 2, 1) := dk_28 (dk_at dksX6_of_0 12 rfl rfl)
theorem dX6_of_13 : decode cX6_of 13 = .ok (.invokevirtual 189, 3) := dk_182 0 189 (dk_at dksX6_of_0 13 rfl rfl)
theorem dX6_of_16 : decode cX6_of 16 = .ok (.ifCond .eq 12, 3) := dk_153 0 12 (dk_at dksX6_of_0 16 rfl rfl)
theorem dX6_of_19 : decode cX6_of 19 = .ok (.aload_n 0, 1) := dk_42 (dk_at dksX6_of_0 19 rfl rfl)
theorem dX6_of_20 : decode cX6_of 20 = .ok (.iload_n 2, 1) := dk_28 (dk_at dksX6_of_0 20 rfl rfl)
theorem dX6_of_21 : decode cX6_of 21 = .ok (.iload_n 1, 1) := dk_27 (dk_at dksX6_of_0 21 rfl rfl)
theorem dX6_of_22 : decode cX6_of 22 = .ok (.invokevirtual 172, 3) := dk_182 0 172 (dk_at dksX6_of_1 0 rfl rfl)
theorem dX6_of_25 : decode cX6_of 25 = .ok (.goto 4, 3) := dk_167 0 4 (dk_at dksX6_of_1 3 rfl rfl)
theorem dX6_of_28 : decode cX6_of 28 = .ok (.iconst (-1), 1) := dk_2 (dk_at dksX6_of_1 6 rfl rfl)
theorem dX6_of_29 : decode cX6_of 29 = .ok (.ireturn, 1) := dk_172 (dk_at dksX6_of_1 7 rfl rfl)
theorem dX6_of_30 : decode cX6_of 30 = .ok (.iload_n 2, 1) := dk_28 (dk_at dksX6_of_1 8 rfl rfl)
theorem dX6_of_31 : decode cX6_of 31 = .ok (.bipush 10, 2) := dk_16 10 (dk_at dksX6_of_1 9 rfl rfl)
theorem dX6_of_33 : decode cX6_of 33 = .ok (.bipush 11, 2) := dk_16 11 (dk_at dksX6_of_1 11 rfl rfl)
theorem dX6_of_35 : decode cX6_of 35 = .ok (.invokestatic 145, 3) := dk_184 0 145 (dk_at dksX6_of_1 13 rfl rfl)
theorem dX6_of_38 : decode cX6_of 38 = .ok (.ifCond .eq 33, 3) := dk_153 0 33 (dk_at dksX6_of_1 16 rfl rfl)
theorem dX6_of_41 : decode cX6_of 41 = .ok (.iload_n 1, 1) := dk_27 (dk_at dksX6_of_1 19 rfl rfl)
theorem dX6_of_42 : decode cX6_of 42 = .ok (.invokestatic 156, 3) := dk_184 0 156 (dk_at dksX6_of_1 20 rfl rfl)
theorem dX6_of_45 : decode cX6_of 45 = .ok (.ifCond .eq 24, 3) := dk_153 0 24 (dk_at dksX6_of_2 0 rfl rfl)
theorem dX6_of_48 : decode cX6_of 48 = .ok (.aload_n 0, 1) := dk_42 (dk_at dksX6_of_2 3 rfl rfl)
theorem dX6_of_49 : decode cX6_of 49 = .ok (.getfield 40, 3) := dk_180 0 40 (dk_at dksX6_of_2 4 rfl rfl)
theorem dX6_of_52 : decode cX6_of 52 = .ok (.iload_n 1, 1) := dk_27 (dk_at dksX6_of_2 7 rfl rfl)
theorem dX6_of_53 : decode cX6_of 53 = .ok (.iload_n 2, 1) := dk_28 (dk_at dksX6_of_2 8 rfl rfl)
theorem dX6_of_54 : decode cX6_of 54 = .ok (.bipush 11, 2) := dk_16 11 (dk_at dksX6_of_2 9 rfl rfl)
theorem dX6_of_56 : decode cX6_of 56 = .ok (.if_icmp .ne 7, 3) := dk_160 0 7 (dk_at dksX6_of_2 11 rfl rfl)
theorem dX6_of_59 : decode cX6_of 59 = .ok (.iconst 4, 1) := dk_7 (dk_at dksX6_of_2 14 rfl rfl)
theorem dX6_of_60 : decode cX6_of 60 = .ok (.goto 4, 3) := dk_167 0 4 (dk_at dksX6_of_2 15 rfl rfl)
theorem dX6_of_63 : decode cX6_of 63 = .ok (.iconst 0, 1) := dk_3 (dk_at dksX6_of_2 18 rfl rfl)
theorem dX6_of_64 : decode cX6_of 64 = .ok (.iadd, 1) := dk_96 (dk_at dksX6_of_2 19 rfl rfl)
theorem dX6_of_65 : decode cX6_of 65 = .ok (.iaload, 1) := dk_46 (dk_at dksX6_of_2 20 rfl rfl)
theorem dX6_of_66 : decode cX6_of 66 = .ok (.goto 4, 3) := dk_167 0 4 (dk_at dksX6_of_2 21 rfl rfl)
theorem dX6_of_69 : decode cX6_of 69 = .ok (.iconst (-1), 1) := dk_2 (dk_at dksX6_of_3 0 rfl rfl)
theorem dX6_of_70 : decode cX6_of 70 = .ok (.ireturn, 1) := dk_172 (dk_at dksX6_of_3 1 rfl rfl)
theorem dX6_of_71 : decode cX6_of 71 = .ok (.iload_n 2, 1) := dk_28 (dk_at dksX6_of_3 2 rfl rfl)
theorem dX6_of_72 : decode cX6_of 72 = .ok (.bipush 12, 2) := dk_16 12 (dk_at dksX6_of_3 3 rfl rfl)
theorem dX6_of_74 : decode cX6_of 74 = .ok (.if_icmp .ne 11, 3) := dk_160 0 11 (dk_at dksX6_of_3 5 rfl rfl)
theorem dX6_of_77 : decode cX6_of 77 = .ok (.aload_n 0, 1) := dk_42 (dk_at dksX6_of_3 8 rfl rfl)
theorem dX6_of_78 : decode cX6_of 78 = .ok (.iload_n 1, 1) := dk_27 (dk_at dksX6_of_3 9 rfl rfl)
theorem dX6_of_79 : decode cX6_of 79 = .ok (.invokevirtual 186, 3) := dk_182 0 186 (dk_at dksX6_of_3 10 rfl rfl)
theorem dX6_of_82 : decode cX6_of 82 = .ok (.ifCond .ne 5, 3) := dk_154 0 5 (dk_at dksX6_of_3 13 rfl rfl)
theorem dX6_of_85 : decode cX6_of 85 = .ok (.iconst (-1), 1) := dk_2 (dk_at dksX6_of_3 16 rfl rfl)
theorem dX6_of_86 : decode cX6_of 86 = .ok (.ireturn, 1) := dk_172 (dk_at dksX6_of_3 17 rfl rfl)
theorem dX6_of_87 : decode cX6_of 87 = .ok (.aload_n 0, 1) := dk_42 (dk_at dksX6_of_3 18 rfl rfl)
theorem dX6_of_88 : decode cX6_of 88 = .ok (.getfield 40, 3) := dk_180 0 40 (dk_at dksX6_of_3 19 rfl rfl)
theorem dX6_of_91 : decode cX6_of 91 = .ok (.bipush 13, 2) := dk_16 13 (dk_at dksX6_of_3 22 rfl rfl)
theorem dX6_of_93 : decode cX6_of 93 = .ok (.iload_n 1, 1) := dk_27 (dk_at dksX6_of_4 0 rfl rfl)
theorem dX6_of_94 : decode cX6_of 94 = .ok (.bipush 10, 2) := dk_16 10 (dk_at dksX6_of_4 1 rfl rfl)
theorem dX6_of_96 : decode cX6_of 96 = .ok (.idiv, 1) := dk_108 (dk_at dksX6_of_4 3 rfl rfl)
theorem dX6_of_97 : decode cX6_of 97 = .ok (.iadd, 1) := dk_96 (dk_at dksX6_of_4 4 rfl rfl)
theorem dX6_of_98 : decode cX6_of 98 = .ok (.iaload, 1) := dk_46 (dk_at dksX6_of_4 5 rfl rfl)
theorem dX6_of_99 : decode cX6_of 99 = .ok (.ifCond .ne 8, 3) := dk_154 0 8 (dk_at dksX6_of_4 6 rfl rfl)
theorem dX6_of_102 : decode cX6_of 102 = .ok (.bipush (-2), 2) := dk_16 254 (dk_at dksX6_of_4 9 rfl rfl)
theorem dX6_of_104 : decode cX6_of 104 = .ok (.goto 15, 3) := dk_167 0 15 (dk_at dksX6_of_4 11 rfl rfl)
theorem dX6_of_107 : decode cX6_of 107 = .ok (.aload_n 0, 1) := dk_42 (dk_at dksX6_of_4 14 rfl rfl)
theorem dX6_of_108 : decode cX6_of 108 = .ok (.getfield 40, 3) := dk_180 0 40 (dk_at dksX6_of_4 15 rfl rfl)
theorem dX6_of_111 : decode cX6_of 111 = .ok (.bipush 20, 2) := dk_16 20 (dk_at dksX6_of_4 18 rfl rfl)
theorem dX6_of_113 : decode cX6_of 113 = .ok (.iload_n 1, 1) := dk_27 (dk_at dksX6_of_4 20 rfl rfl)
theorem dX6_of_114 : decode cX6_of 114 = .ok (.invokestatic 168, 3) := dk_184 0 168 (dk_at dksX6_of_4 21 rfl rfl)
theorem dX6_of_117 : decode cX6_of 117 = .ok (.iadd, 1) := dk_96 (dk_at dksX6_of_5 0 rfl rfl)
theorem dX6_of_118 : decode cX6_of 118 = .ok (.iaload, 1) := dk_46 (dk_at dksX6_of_5 1 rfl rfl)
theorem dX6_of_119 : decode cX6_of 119 = .ok (.ireturn, 1) := dk_172 (dk_at dksX6_of_5 2 rfl rfl)
abbrev cX6_feed : ByteArray := prog_25_method_20_code
def yX6_feed : MethodName := ⟨RX6, "feed", "(I)I"⟩
def dkwX6_feed_2 : List UInt8 := [180, 0, 199, 172]
abbrev dktX6_feed_2 : List UInt8 := dkwX6_feed_2 ++ []
def dkwX6_feed_1 : List UInt8 := [172, 42, 180, 0, 55, 42, 180, 0, 199, 27, 145, 84, 42, 89, 180, 0, 199, 4, 96, 181, 0, 199, 42]
abbrev dktX6_feed_1 : List UInt8 := dkwX6_feed_1 ++ dktX6_feed_2
def dkwX6_feed_0 : List UInt8 := [27, 3, 17, 0, 255, 184, 0, 145, 154, 0, 5, 2, 172, 42, 180, 0, 199, 16, 120, 160, 0, 6, 16, 253]
abbrev dktX6_feed_0 : List UInt8 := dkwX6_feed_0 ++ dktX6_feed_1
theorem dksX6_feed_0 : cX6_feed.data.toList.drop 0 = dktX6_feed_0 := by decide +kernel
theorem dksX6_feed_1 : cX6_feed.data.toList.drop 24 = dktX6_feed_1 := dk_seg dksX6_feed_0 24 rfl rfl
theorem dksX6_feed_2 : cX6_feed.data.toList.drop 47 = dktX6_feed_2 := dk_seg dksX6_feed_1 23 rfl rfl
theorem dX6_feed_0 : decode cX6_feed 0 = .ok (.iload_n 1, 1) := dk_27 (dk_at dksX6_feed_0 0 rfl rfl)
theorem dX6_feed_1 : decode cX6_feed 1 = .ok (.iconst 0, 1) := dk_3 (dk_at dksX6_feed_0 1 rfl rfl)
theorem dX6_feed_2 : decode cX6_feed 2 = .ok (.sipush 255, 3) := dk_17 0 255 (dk_at dksX6_feed_0 2 rfl rfl)
theorem dX6_feed_5 : decode cX6_feed 5 = .ok (.invokestatic 145, 3) := dk_184 0 145 (dk_at dksX6_feed_0 5 rfl rfl)
theorem dX6_feed_8 : decode cX6_feed 8 = .ok (.ifCond .ne 5, 3) := dk_154 0 5 (dk_at dksX6_feed_0 8 rfl rfl)
theorem dX6_feed_11 : decode cX6_feed 11 = .ok (.iconst (-1), 1) := dk_2 (dk_at dksX6_feed_0 11 rfl rfl)
theorem dX6_feed_12 : decode cX6_feed 12 = .ok (.ireturn, 1) := dk_172 (dk_at dksX6_feed_0 12 rfl rfl)
theorem dX6_feed_13 : decode cX6_feed 13 = .ok (.aload_n 0, 1) := dk_42 (dk_at dksX6_feed_0 13 rfl rfl)
theorem dX6_feed_14 : decode cX6_feed 14 = .ok (.getfield 199, 3) := dk_180 0 199 (dk_at dksX6_feed_0 14 rfl rfl)
theorem dX6_feed_17 : decode cX6_feed 17 = .ok (.bipush 120, 2) := dk_16 120 (dk_at dksX6_feed_0 17 rfl rfl)
theorem dX6_feed_19 : decode cX6_feed 19 = .ok (.if_icmp .ne 6, 3) := dk_160 0 6 (dk_at dksX6_feed_0 19 rfl rfl)
theorem dX6_feed_22 : decode cX6_feed 22 = .ok (.bipush (-3), 2) := dk_16 253 (dk_at dksX6_feed_0 22 rfl rfl)
theorem dX6_feed_24 : decode cX6_feed 24 = .ok (.ireturn, 1) := dk_172 (dk_at dksX6_feed_1 0 rfl rfl)
theorem dX6_feed_25 : decode cX6_feed 25 = .ok (.aload_n 0, 1) := dk_42 (dk_at dksX6_feed_1 1 rfl rfl)
theorem dX6_feed_26 : decode cX6_feed 26 = .ok (.getfield 55, 3) := dk_180 0 55 (dk_at dksX6_feed_1 2 rfl rfl)
theorem dX6_feed_29 : decode cX6_feed 29 = .ok (.aload_n 0, 1) := dk_42 (dk_at dksX6_feed_1 5 rfl rfl)
theorem dX6_feed_30 : decode cX6_feed 30 = .ok (.getfield 199, 3) := dk_180 0 199 (dk_at dksX6_feed_1 6 rfl rfl)
theorem dX6_feed_33 : decode cX6_feed 33 = .ok (.iload_n 1, 1) := dk_27 (dk_at dksX6_feed_1 9 rfl rfl)
theorem dX6_feed_34 : decode cX6_feed 34 = .ok (.i2b, 1) := dk_145 (dk_at dksX6_feed_1 10 rfl rfl)
theorem dX6_feed_35 : decode cX6_feed 35 = .ok (.bastore, 1) := dk_84 (dk_at dksX6_feed_1 11 rfl rfl)
theorem dX6_feed_36 : decode cX6_feed 36 = .ok (.aload_n 0, 1) := dk_42 (dk_at dksX6_feed_1 12 rfl rfl)
theorem dX6_feed_37 : decode cX6_feed 37 = .ok (.dup, 1) := dk_89 (dk_at dksX6_feed_1 13 rfl rfl)
theorem dX6_feed_38 : decode cX6_feed 38 = .ok (.getfield 199, 3) := dk_180 0 199 (dk_at dksX6_feed_1 14 rfl rfl)
theorem dX6_feed_41 : decode cX6_feed 41 = .ok (.iconst 1, 1) := dk_4 (dk_at dksX6_feed_1 17 rfl rfl)
theorem dX6_feed_42 : decode cX6_feed 42 = .ok (.iadd, 1) := dk_96 (dk_at dksX6_feed_1 18 rfl rfl)
theorem dX6_feed_43 : decode cX6_feed 43 = .ok (.putfield 199, 3) := dk_181 0 199 (dk_at dksX6_feed_1 19 rfl rfl)
theorem dX6_feed_46 : decode cX6_feed 46 = .ok (.aload_n 0, 1) := dk_42 (dk_at dksX6_feed_1 22 rfl rfl)
theorem dX6_feed_47 : decode cX6_feed 47 = .ok (.getfield 199, 3) := dk_180 0 199 (dk_at dksX6_feed_2 0 rfl rfl)
theorem dX6_feed_50 : decode cX6_feed 50 = .ok (.ireturn, 1) := dk_172 (dk_at dksX6_feed_2 3 rfl rfl)
abbrev cX6_law : ByteArray := prog_25_method_38_code
def yX6_law : MethodName := ⟨RX6, "law", "()I"⟩
def dkwX6_law_0 : List UInt8 := [42, 3, 182, 1, 6, 60, 27, 155, 0, 8, 16, 156, 27, 100, 172, 42, 4, 181, 1, 9, 4, 172]
abbrev dktX6_law_0 : List UInt8 := dkwX6_law_0 ++ []
theorem dksX6_law_0 : cX6_law.data.toList.drop 0 = dktX6_law_0 := by decide +kernel
theorem dX6_law_0 : decode cX6_law 0 = .ok (.aload_n 0, 1) := dk_42 (dk_at dksX6_law_0 0 rfl rfl)
theorem dX6_law_1 : decode cX6_law 1 = .ok (.iconst 0, 1) := dk_3 (dk_at dksX6_law_0 1 rfl rfl)
theorem dX6_law_2 : decode cX6_law 2 = .ok (.invokevirtual 262, 3) := dk_182 1 6 (dk_at dksX6_law_0 2 rfl rfl)
theorem dX6_law_5 : decode cX6_law 5 = .ok (.istore_n 1, 1) := dk_60 (dk_at dksX6_law_0 5 rfl rfl)
theorem dX6_law_6 : decode cX6_law 6 = .ok (.iload_n 1, 1) := dk_27 (dk_at dksX6_law_0 6 rfl rfl)
theorem dX6_law_7 : decode cX6_law 7 = .ok (.ifCond .lt 8, 3) := dk_155 0 8 (dk_at dksX6_law_0 7 rfl rfl)
theorem dX6_law_10 : decode cX6_law 10 = .ok (.bipush (-100), 2) := dk_16 156 (dk_at dksX6_law_0 10 rfl rfl)
theorem dX6_law_12 : decode cX6_law 12 = .ok (.iload_n 1, 1) := dk_27 (dk_at dksX6_law_0 12 rfl rfl)
theorem dX6_law_13 : decode cX6_law 13 = .ok (.isub, 1) := dk_100 (dk_at dksX6_law_0 13 rfl rfl)
theorem dX6_law_14 : decode cX6_law 14 = .ok (.ireturn, 1) := dk_172 (dk_at dksX6_law_0 14 rfl rfl)
theorem dX6_law_15 : decode cX6_law 15 = .ok (.aload_n 0, 1) := dk_42 (dk_at dksX6_law_0 15 rfl rfl)
theorem dX6_law_16 : decode cX6_law 16 = .ok (.iconst 1, 1) := dk_4 (dk_at dksX6_law_0 16 rfl rfl)
theorem dX6_law_17 : decode cX6_law 17 = .ok (.putfield 265, 3) := dk_181 1 9 (dk_at dksX6_law_0 17 rfl rfl)
theorem dX6_law_20 : decode cX6_law 20 = .ok (.iconst 1, 1) := dk_4 (dk_at dksX6_law_0 20 rfl rfl)
theorem dX6_law_21 : decode cX6_law 21 = .ok (.ireturn, 1) := dk_172 (dk_at dksX6_law_0 21 rfl rfl)
abbrev cX6_readText : ByteArray := prog_25_method_34_code
def yX6_readText : MethodName := ⟨RX6, "readText", "(I)I"⟩
def dkwX6_readText_9 : List UInt8 := [16, 61, 27, 104, 28, 96, 42, 180, 0, 72, 16, 61, 28, 96, 53, 86, 132, 2, 1, 167, 255, 203, 2, 172]
abbrev dktX6_readText_9 : List UInt8 := dkwX6_readText_9 ++ []
def dkwX6_readText_8 : List UInt8 := [42, 180, 0, 68, 16, 61, 27, 104, 28, 96, 42, 180, 0, 68, 16, 61, 28, 96, 53, 86, 42, 180, 0, 72]
abbrev dktX6_readText_8 : List UInt8 := dkwX6_readText_8 ++ dktX6_readText_9
def dkwX6_readText_7 : List UInt8 := [42, 180, 0, 65, 27, 42, 180, 0, 65, 4, 46, 79, 3, 61, 28, 42, 180, 0, 65, 27, 46, 162, 0, 49]
abbrev dktX6_readText_7 : List UInt8 := dkwX6_readText_7 ++ dktX6_readText_8
def dkwX6_readText_6 : List UInt8 := [17, 0, 130, 27, 104, 28, 96, 42, 180, 0, 62, 17, 0, 130, 28, 96, 46, 79, 132, 2, 1, 167, 255, 201]
abbrev dktX6_readText_6 : List UInt8 := dkwX6_readText_6 ++ dktX6_readText_7
def dkwX6_readText_5 : List UInt8 := [17, 0, 130, 27, 104, 28, 96, 42, 180, 0, 59, 17, 0, 130, 28, 96, 51, 84, 42, 180, 0, 62]
abbrev dktX6_readText_5 : List UInt8 := dkwX6_readText_5 ++ dktX6_readText_6
def dkwX6_readText_4 : List UInt8 := [155, 0, 8, 42, 180, 0, 205, 172, 3, 61, 28, 42, 180, 0, 208, 162, 0, 53, 42, 180, 0, 59]
abbrev dktX6_readText_4 : List UInt8 := dkwX6_readText_4 ++ dktX6_readText_5
def dkwX6_readText_3 : List UInt8 := [180, 0, 202, 42, 180, 0, 199, 162, 0, 7, 42, 182, 0, 214, 42, 3, 181, 0, 199, 42, 180, 0, 205]
abbrev dktX6_readText_3 : List UInt8 := dkwX6_readText_3 ++ dktX6_readText_4
def dkwX6_readText_2 : List UInt8 := [89, 180, 0, 202, 4, 96, 181, 0, 202, 42, 182, 0, 253, 167, 255, 226, 42, 180, 0, 205, 156, 0, 18, 42]
abbrev dktX6_readText_2 : List UInt8 := dkwX6_readText_2 ++ dktX6_readText_3
def dkwX6_readText_1 : List UInt8 := [4, 3, 79, 42, 182, 0, 253, 42, 180, 0, 205, 156, 0, 29, 42, 182, 0, 217, 16, 59, 160, 0, 20, 42]
abbrev dktX6_readText_1 : List UInt8 := dkwX6_readText_1 ++ dktX6_readText_2
def dkwX6_readText_0 : List UInt8 := [42, 3, 181, 0, 202, 42, 2, 181, 0, 205, 42, 3, 181, 0, 211, 42, 3, 181, 0, 208, 42, 180, 0, 65]
abbrev dktX6_readText_0 : List UInt8 := dkwX6_readText_0 ++ dktX6_readText_1
theorem dksX6_readText_0 : cX6_readText.data.toList.drop 0 = dktX6_readText_0 := by decide +kernel
theorem dksX6_readText_1 : cX6_readText.data.toList.drop 24 = dktX6_readText_1 := dk_seg dksX6_readText_0 24 rfl rfl
theorem dksX6_readText_2 : cX6_readText.data.toList.drop 48 = dktX6_readText_2 := dk_seg dksX6_readText_1 24 rfl rfl
theorem dksX6_readText_3 : cX6_readText.data.toList.drop 72 = dktX6_readText_3 := dk_seg dksX6_readText_2 24 rfl rfl
theorem dksX6_readText_4 : cX6_readText.data.toList.drop 95 = dktX6_readText_4 := dk_seg dksX6_readText_3 23 rfl rfl
theorem dksX6_readText_5 : cX6_readText.data.toList.drop 117 = dktX6_readText_5 := dk_seg dksX6_readText_4 22 rfl rfl
theorem dksX6_readText_6 : cX6_readText.data.toList.drop 139 = dktX6_readText_6 := dk_seg dksX6_readText_5 22 rfl rfl
theorem dksX6_readText_7 : cX6_readText.data.toList.drop 163 = dktX6_readText_7 := dk_seg dksX6_readText_6 24 rfl rfl
theorem dksX6_readText_8 : cX6_readText.data.toList.drop 187 = dktX6_readText_8 := dk_seg dksX6_readText_7 24 rfl rfl
theorem dksX6_readText_9 : cX6_readText.data.toList.drop 211 = dktX6_readText_9 := dk_seg dksX6_readText_8 24 rfl rfl
theorem dX6_readText_0 : decode cX6_readText 0 = .ok (.aload_n 0, 1) := dk_42 (dk_at dksX6_readText_0 0 rfl rfl)
theorem dX6_readText_1 : decode cX6_readText 1 = .ok (.iconst 0, 1) := dk_3 (dk_at dksX6_readText_0 1 rfl rfl)
theorem dX6_readText_2 : decode cX6_readText 2 = .ok (.putfield 202, 3) := dk_181 0 202 (dk_at dksX6_readText_0 2 rfl rfl)
theorem dX6_readText_5 : decode cX6_readText 5 = .ok (.aload_n 0, 1) := dk_42 (dk_at dksX6_readText_0 5 rfl rfl)
theorem dX6_readText_6 : decode cX6_readText 6 = .ok (.iconst (-1), 1) := dk_2 (dk_at dksX6_readText_0 6 rfl rfl)
theorem dX6_readText_7 : decode cX6_readText 7 = .ok (.putfield 205, 3) := dk_181 0 205 (dk_at dksX6_readText_0 7 rfl rfl)
theorem dX6_readText_10 : decode cX6_readText 10 = .ok (.aload_n 0, 1) := dk_42 (dk_at dksX6_readText_0 10 rfl rfl)
theorem dX6_readText_11 : decode cX6_readText 11 = .ok (.iconst 0, 1) := dk_3 (dk_at dksX6_readText_0 11 rfl rfl)
theorem dX6_readText_12 : decode cX6_readText 12 = .ok (.putfield 211, 3) := dk_181 0 211 (dk_at dksX6_readText_0 12 rfl rfl)
theorem dX6_readText_15 : decode cX6_readText 15 = .ok (.aload_n 0, 1) := dk_42 (dk_at dksX6_readText_0 15 rfl rfl)
theorem dX6_readText_16 : decode cX6_readText 16 = .ok (.iconst 0, 1) := dk_3 (dk_at dksX6_readText_0 16 rfl rfl)
theorem dX6_readText_17 : decode cX6_readText 17 = .ok (.putfield 208, 3) := dk_181 0 208 (dk_at dksX6_readText_0 17 rfl rfl)
theorem dX6_readText_20 : decode cX6_readText 20 = .ok (.aload_n 0, 1) := dk_42 (dk_at dksX6_readText_0 20 rfl rfl)
theorem dX6_readText_21 : decode cX6_readText 21 = .ok (.getfield 65, 3) := dk_180 0 65 (dk_at dksX6_readText_0 21 rfl rfl)
theorem dX6_readText_24 : decode cX6_readText 24 = .ok (.iconst 1, 1) := dk_4 (dk_at dksX6_readText_1 0 rfl rfl)
theorem dX6_readText_25 : decode cX6_readText 25 = .ok (.iconst 0, 1) := dk_3 (dk_at dksX6_readText_1 1 rfl rfl)
theorem dX6_readText_26 : decode cX6_readText 26 = .ok (.iastore, 1) := dk_79 (dk_at dksX6_readText_1 2 rfl rfl)
theorem dX6_readText_27 : decode cX6_readText 27 = .ok (.aload_n 0, 1) := dk_42 (dk_at dksX6_readText_1 3 rfl rfl)
theorem dX6_readText_28 : decode cX6_readText 28 = .ok (.invokevirtual 253, 3) := dk_182 0 253 (dk_at dksX6_readText_1 4 rfl rfl)
theorem dX6_readText_31 : decode cX6_readText 31 = .ok (.aload_n 0, 1) := dk_42 (dk_at dksX6_readText_1 7 rfl rfl)
theorem dX6_readText_32 : decode cX6_readText 32 = .ok (.getfield 205, 3) := dk_180 0 205 (dk_at dksX6_readText_1 8 rfl rfl)
theorem dX6_readText_35 : decode cX6_readText 35 = .ok (.ifCond .ge 29, 3) := dk_156 0 29 (dk_at dksX6_readText_1 11 rfl rfl)
theorem dX6_readText_38 : decode cX6_readText 38 = .ok (.aload_n 0, 1) := dk_42 (dk_at dksX6_readText_1 14 rfl rfl)
theorem dX6_readText_39 : decode cX6_readText 39 = .ok (.invokevirtual 217, 3) := dk_182 0 217 (dk_at dksX6_readText_1 15 rfl rfl)
theorem dX6_readText_42 : decode cX6_readText 42 = .ok (.bipush 59, 2) := dk_16 59 (dk_at dksX6_readText_1 18 rfl rfl)
theorem dX6_readText_44 : decode cX6_readText 44 = .ok (.if_icmp .ne 20, 3) := dk_160 0 20 (dk_at dksX6_readText_1 20 rfl rfl)
theorem dX6_readText_47 : decode cX6_readText 47 = .ok (.aload_n 0, 1) := dk_42 (dk_at dksX6_readText_1 23 rfl rfl)
theorem dX6_readText_48 : decode cX6_readText 48 = .ok (.dup, 1) := dk_89 (dk_at dksX6_readText_2 0 rfl rfl)
theorem dX6_readText_49 : decode cX6_readText 49 = .ok (.getfield 202, 3) := dk_180 0 202 (dk_at dksX6_readText_2 1 rfl rfl)
theorem dX6_readText_52 : decode cX6_readText 52 = .ok (.iconst 1, 1) := dk_4 (dk_at dksX6_readText_2 4 rfl rfl)
theorem dX6_readText_53 : decode cX6_readText 53 = .ok (.iadd, 1) := dk_96 (dk_at dksX6_readText_2 5 rfl rfl)
theorem dX6_readText_54 : decode cX6_readText 54 = .ok (.putfield 202, 3) := dk_181 0 202 (dk_at dksX6_readText_2 6 rfl rfl)
theorem dX6_readText_57 : decode cX6_readText 57 = .ok (.aload_n 0, 1) := dk_42 (dk_at dksX6_readText_2 9 rfl rfl)
theorem dX6_readText_58 : decode cX6_readText 58 = .ok (.invokevirtual 253, 3) := dk_182 0 253 (dk_at dksX6_readText_2 10 rfl rfl)
theorem dX6_readText_61 : decode cX6_readText 61 = .ok (.goto (-30), 3) := dk_167 255 226 (dk_at dksX6_readText_2 13 rfl rfl)
theorem dX6_readText_64 : decode cX6_readText 64 = .ok (.aload_n 0, 1) := dk_42 (dk_at dksX6_readText_2 16 rfl rfl)
theorem dX6_readText_65 : decode cX6_readText 65 = .ok (.getfield 205, 3) := dk_180 0 205 (dk_at dksX6_readText_2 17 rfl rfl)
theorem dX6_readText_68 : decode cX6_readText 68 = .ok (.ifCond .ge 18, 3) := dk_156 0 18 (dk_at dksX6_readText_2 20 rfl rfl)
theorem dX6_readText_71 : decode cX6_readText 71 = .ok (.aload_n 0, 1) := dk_42 (dk_at dksX6_readText_2 23 rfl rfl)
theorem dX6_readText_72 : decode cX6_readText 72 = .ok (.getfield 202, 3) := dk_180 0 202 (dk_at dksX6_readText_3 0 rfl rfl)
theorem dX6_readText_75 : decode cX6_readText 75 = .ok (.aload_n 0, 1) := dk_42 (dk_at dksX6_readText_3 3 rfl rfl)
theorem dX6_readText_76 : decode cX6_readText 76 = .ok (.getfield 199, 3) := dk_180 0 199 (dk_at dksX6_readText_3 4 rfl rfl)
theorem dX6_readText_79 : decode cX6_readText 79 = .ok (.if_icmp .ge 7, 3) := dk_162 0 7 (dk_at dksX6_readText_3 7 rfl rfl)
theorem dX6_readText_82 : decode cX6_readText 82 = .ok (.aload_n 0, 1) := dk_42 (dk_at dksX6_readText_3 10 rfl rfl)
theorem dX6_readText_83 : decode cX6_readText 83 = .ok (.invokevirtual 214, 3) := dk_182 0 214 (dk_at dksX6_readText_3 11 rfl rfl)
theorem dX6_readText_86 : decode cX6_readText 86 = .ok (.aload_n 0, 1) := dk_42 (dk_at dksX6_readText_3 14 rfl rfl)
theorem dX6_readText_87 : decode cX6_readText 87 = .ok (.iconst 0, 1) := dk_3 (dk_at dksX6_readText_3 15 rfl rfl)
theorem dX6_readText_88 : decode cX6_readText 88 = .ok (.putfield 199, 3) := dk_181 0 199 (dk_at dksX6_readText_3 16 rfl rfl)
theorem dX6_readText_91 : decode cX6_readText 91 = .ok (.aload_n 0, 1) := dk_42 (dk_at dksX6_readText_3 19 rfl rfl)
theorem dX6_readText_92 : decode cX6_readText 92 = .ok (.getfield 205, 3) := dk_180 0 205 (dk_at dksX6_readText_3 20 rfl rfl)
theorem dX6_readText_95 : decode cX6_readText 95 = .ok (.ifCond .lt 8, 3) := dk_155 0 8 (dk_at dksX6_readText_4 0 rfl rfl)
theorem dX6_readText_98 : decode cX6_readText 98 = .ok (.aload_n 0, 1) := dk_42 (dk_at dksX6_readText_4 3 rfl rfl)
theorem dX6_readText_99 : decode cX6_readText 99 = .ok (.getfield 205, 3) := dk_180 0 205 (dk_at dksX6_readText_4 4 rfl rfl)
theorem dX6_readText_102 : decode cX6_readText 102 = .ok (.ireturn, 1) := dk_172 (dk_at dksX6_readText_4 7 rfl rfl)
theorem dX6_readText_103 : decode cX6_readText 103 = .ok (.iconst 0, 1) := dk_3 (dk_at dksX6_readText_4 8 rfl rfl)
theorem dX6_readText_104 : decode cX6_readText 104 = .ok (.istore_n 2, 1) := dk_61 (dk_at dksX6_readText_4 9 rfl rfl)
theorem dX6_readText_105 : decode cX6_readText 105 = .ok (.iload_n 2, 1) := dk_28 (dk_at dksX6_readText_4 10 rfl rfl)
theorem dX6_readText_106 : decode cX6_readText 106 = .ok (.aload_n 0, 1) := dk_42 (dk_at dksX6_readText_4 11 rfl rfl)
theorem dX6_readText_107 : decode cX6_readText 107 = .ok (.getfield 208, 3) := dk_180 0 208 (dk_at dksX6_readText_4 12 rfl rfl)
theorem dX6_readText_110 : decode cX6_readText 110 = .ok (.if_icmp .ge 53, 3) := dk_162 0 53 (dk_at dksX6_readText_4 15 rfl rfl)
theorem dX6_readText_113 : decode cX6_readText 113 = .ok (.aload_n 0, 1) := dk_42 (dk_at dksX6_readText_4 18 rfl rfl)
theorem dX6_readText_114 : decode cX6_readText 114 = .ok (.getfield 59, 3) := dk_180 0 59 (dk_at dksX6_readText_4 19 rfl rfl)
theorem dX6_readText_117 : decode cX6_readText 117 = .ok (.sipush 130, 3) := dk_17 0 130 (dk_at dksX6_readText_5 0 rfl rfl)
theorem dX6_readText_120 : decode cX6_readText 120 = .ok (.iload_n 1, 1) := dk_27 (dk_at dksX6_readText_5 3 rfl rfl)
theorem dX6_readText_121 : decode cX6_readText 121 = .ok (.imul, 1) := dk_104 (dk_at dksX6_readText_5 4 rfl rfl)
theorem dX6_readText_122 : decode cX6_readText 122 = .ok (.iload_n 2, 1) := dk_28 (dk_at dksX6_readText_5 5 rfl rfl)
theorem dX6_readText_123 : decode cX6_readText 123 = .ok (.iadd, 1) := dk_96 (dk_at dksX6_readText_5 6 rfl rfl)
theorem dX6_readText_124 : decode cX6_readText 124 = .ok (.aload_n 0, 1) := dk_42 (dk_at dksX6_readText_5 7 rfl rfl)
theorem dX6_readText_125 : decode cX6_readText 125 = .ok (.getfield 59, 3) := dk_180 0 59 (dk_at dksX6_readText_5 8 rfl rfl)
theorem dX6_readText_128 : decode cX6_readText 128 = .ok (.sipush 130, 3) := dk_17 0 130 (dk_at dksX6_readText_5 11 rfl rfl)
theorem dX6_readText_131 : decode cX6_readText 131 = .ok (.iload_n 2, 1) := dk_28 (dk_at dksX6_readText_5 14 rfl rfl)
theorem dX6_readText_132 : decode cX6_readText 132 = .ok (.iadd, 1) := dk_96 (dk_at dksX6_readText_5 15 rfl rfl)
theorem dX6_readText_133 : decode cX6_readText 133 = .ok (.baload, 1) := dk_51 (dk_at dksX6_readText_5 16 rfl rfl)
theorem dX6_readText_134 : decode cX6_readText 134 = .ok (.bastore, 1) := dk_84 (dk_at dksX6_readText_5 17 rfl rfl)
theorem dX6_readText_135 : decode cX6_readText 135 = .ok (.aload_n 0, 1) := dk_42 (dk_at dksX6_readText_5 18 rfl rfl)
theorem dX6_readText_136 : decode cX6_readText 136 = .ok (.getfield 62, 3) := dk_180 0 62 (dk_at dksX6_readText_5 19 rfl rfl)
theorem dX6_readText_139 : decode cX6_readText 139 = .ok (.sipush 130, 3) := dk_17 0 130 (dk_at dksX6_readText_6 0 rfl rfl)
theorem dX6_readText_142 : decode cX6_readText 142 = .ok (.iload_n 1, 1) := dk_27 (dk_at dksX6_readText_6 3 rfl rfl)
theorem dX6_readText_143 : decode cX6_readText 143 = .ok (.imul, 1) := dk_104 (dk_at dksX6_readText_6 4 rfl rfl)
theorem dX6_readText_144 : decode cX6_readText 144 = .ok (.iload_n 2, 1) := dk_28 (dk_at dksX6_readText_6 5 rfl rfl)
theorem dX6_readText_145 : decode cX6_readText 145 = .ok (.iadd, 1) := dk_96 (dk_at dksX6_readText_6 6 rfl rfl)
theorem dX6_readText_146 : decode cX6_readText 146 = .ok (.aload_n 0, 1) := dk_42 (dk_at dksX6_readText_6 7 rfl rfl)
theorem dX6_readText_147 : decode cX6_readText 147 = .ok (.getfield 62, 3) := dk_180 0 62 (dk_at dksX6_readText_6 8 rfl rfl)
theorem dX6_readText_150 : decode cX6_readText 150 = .ok (.sipush 130, 3) := dk_17 0 130 (dk_at dksX6_readText_6 11 rfl rfl)
theorem dX6_readText_153 : decode cX6_readText 153 = .ok (.iload_n 2, 1) := dk_28 (dk_at dksX6_readText_6 14 rfl rfl)
theorem dX6_readText_154 : decode cX6_readText 154 = .ok (.iadd, 1) := dk_96 (dk_at dksX6_readText_6 15 rfl rfl)
theorem dX6_readText_155 : decode cX6_readText 155 = .ok (.iaload, 1) := dk_46 (dk_at dksX6_readText_6 16 rfl rfl)
theorem dX6_readText_156 : decode cX6_readText 156 = .ok (.iastore, 1) := dk_79 (dk_at dksX6_readText_6 17 rfl rfl)
theorem dX6_readText_157 : decode cX6_readText 157 = .ok (.iinc 2 1, 3) := dk_132 2 1 (dk_at dksX6_readText_6 18 rfl rfl)
theorem dX6_readText_160 : decode cX6_readText 160 = .ok (.goto (-55), 3) := dk_167 255 201 (dk_at dksX6_readText_6 21 rfl rfl)
theorem dX6_readText_163 : decode cX6_readText 163 = .ok (.aload_n 0, 1) := dk_42 (dk_at dksX6_readText_7 0 rfl rfl)
theorem dX6_readText_164 : decode cX6_readText 164 = .ok (.getfield 65, 3) := dk_180 0 65 (dk_at dksX6_readText_7 1 rfl rfl)
theorem dX6_readText_167 : decode cX6_readText 167 = .ok (.iload_n 1, 1) := dk_27 (dk_at dksX6_readText_7 4 rfl rfl)
theorem dX6_readText_168 : decode cX6_readText 168 = .ok (.aload_n 0, 1) := dk_42 (dk_at dksX6_readText_7 5 rfl rfl)
theorem dX6_readText_169 : decode cX6_readText 169 = .ok (.getfield 65, 3) := dk_180 0 65 (dk_at dksX6_readText_7 6 rfl rfl)
theorem dX6_readText_172 : decode cX6_readText 172 = .ok (.iconst 1, 1) := dk_4 (dk_at dksX6_readText_7 9 rfl rfl)
theorem dX6_readText_173 : decode cX6_readText 173 = .ok (.iaload, 1) := dk_46 (dk_at dksX6_readText_7 10 rfl rfl)
theorem dX6_readText_174 : decode cX6_readText 174 = .ok (.iastore, 1) := dk_79 (dk_at dksX6_readText_7 11 rfl rfl)
theorem dX6_readText_175 : decode cX6_readText 175 = .ok (.iconst 0, 1) := dk_3 (dk_at dksX6_readText_7 12 rfl rfl)
theorem dX6_readText_176 : decode cX6_readText 176 = .ok (.istore_n 2, 1) := dk_61 (dk_at dksX6_readText_7 13 rfl rfl)
theorem dX6_readText_177 : decode cX6_readText 177 = .ok (.iload_n 2, 1) := dk_28 (dk_at dksX6_readText_7 14 rfl rfl)
theorem dX6_readText_178 : decode cX6_readText 178 = .ok (.aload_n 0, 1) := dk_42 (dk_at dksX6_readText_7 15 rfl rfl)
theorem dX6_readText_179 : decode cX6_readText 179 = .ok (.getfield 65, 3) := dk_180 0 65 (dk_at dksX6_readText_7 16 rfl rfl)
theorem dX6_readText_182 : decode cX6_readText 182 = .ok (.iload_n 1, 1) := dk_27 (dk_at dksX6_readText_7 19 rfl rfl)
theorem dX6_readText_183 : decode cX6_readText 183 = .ok (.iaload, 1) := dk_46 (dk_at dksX6_readText_7 20 rfl rfl)
theorem dX6_readText_184 : decode cX6_readText 184 = .ok (.if_icmp .ge 49, 3) := dk_162 0 49 (dk_at dksX6_readText_7 21 rfl rfl)
theorem dX6_readText_187 : decode cX6_readText 187 = .ok (.aload_n 0, 1) := dk_42 (dk_at dksX6_readText_8 0 rfl rfl)
theorem dX6_readText_188 : decode cX6_readText 188 = .ok (.getfield 68, 3) := dk_180 0 68 (dk_at dksX6_readText_8 1 rfl rfl)
theorem dX6_readText_191 : decode cX6_readText 191 = .ok (.bipush 61, 2) := dk_16 61 (dk_at dksX6_readText_8 4 rfl rfl)
theorem dX6_readText_193 : decode cX6_readText 193 = .ok (.iload_n 1, 1) := dk_27 (dk_at dksX6_readText_8 6 rfl rfl)
theorem dX6_readText_194 : decode cX6_readText 194 = .ok (.imul, 1) := dk_104 (dk_at dksX6_readText_8 7 rfl rfl)
theorem dX6_readText_195 : decode cX6_readText 195 = .ok (.iload_n 2, 1) := dk_28 (dk_at dksX6_readText_8 8 rfl rfl)
theorem dX6_readText_196 : decode cX6_readText 196 = .ok (.iadd, 1) := dk_96 (dk_at dksX6_readText_8 9 rfl rfl)
theorem dX6_readText_197 : decode cX6_readText 197 = .ok (.aload_n 0, 1) := dk_42 (dk_at dksX6_readText_8 10 rfl rfl)
theorem dX6_readText_198 : decode cX6_readText 198 = .ok (.getfield 68, 3) := dk_180 0 68 (dk_at dksX6_readText_8 11 rfl rfl)
theorem dX6_readText_201 : decode cX6_readText 201 = .ok (.bipush 61, 2) := dk_16 61 (dk_at dksX6_readText_8 14 rfl rfl)
theorem dX6_readText_203 : decode cX6_readText 203 = .ok (.iload_n 2, 1) := dk_28 (dk_at dksX6_readText_8 16 rfl rfl)
theorem dX6_readText_204 : decode cX6_readText 204 = .ok (.iadd, 1) := dk_96 (dk_at dksX6_readText_8 17 rfl rfl)
theorem dX6_readText_205 : decode cX6_readText 205 = .ok (.saload, 1) := dk_53 (dk_at dksX6_readText_8 18 rfl rfl)
theorem dX6_readText_206 : decode cX6_readText 206 = .ok (.sastore, 1) := dk_86 (dk_at dksX6_readText_8 19 rfl rfl)
theorem dX6_readText_207 : decode cX6_readText 207 = .ok (.aload_n 0, 1) := dk_42 (dk_at dksX6_readText_8 20 rfl rfl)
theorem dX6_readText_208 : decode cX6_readText 208 = .ok (.getfield 72, 3) := dk_180 0 72 (dk_at dksX6_readText_8 21 rfl rfl)
theorem dX6_readText_211 : decode cX6_readText 211 = .ok (.bipush 61, 2) := dk_16 61 (dk_at dksX6_readText_9 0 rfl rfl)
theorem dX6_readText_213 : decode cX6_readText 213 = .ok (.iload_n 1, 1) := dk_27 (dk_at dksX6_readText_9 2 rfl rfl)
theorem dX6_readText_214 : decode cX6_readText 214 = .ok (.imul, 1) := dk_104 (dk_at dksX6_readText_9 3 rfl rfl)
theorem dX6_readText_215 : decode cX6_readText 215 = .ok (.iload_n 2, 1) := dk_28 (dk_at dksX6_readText_9 4 rfl rfl)
theorem dX6_readText_216 : decode cX6_readText 216 = .ok (.iadd, 1) := dk_96 (dk_at dksX6_readText_9 5 rfl rfl)
theorem dX6_readText_217 : decode cX6_readText 217 = .ok (.aload_n 0, 1) := dk_42 (dk_at dksX6_readText_9 6 rfl rfl)
theorem dX6_readText_218 : decode cX6_readText 218 = .ok (.getfield 72, 3) := dk_180 0 72 (dk_at dksX6_readText_9 7 rfl rfl)
theorem dX6_readText_221 : decode cX6_readText 221 = .ok (.bipush 61, 2) := dk_16 61 (dk_at dksX6_readText_9 10 rfl rfl)
theorem dX6_readText_223 : decode cX6_readText 223 = .ok (.iload_n 2, 1) := dk_28 (dk_at dksX6_readText_9 12 rfl rfl)
theorem dX6_readText_224 : decode cX6_readText 224 = .ok (.iadd, 1) := dk_96 (dk_at dksX6_readText_9 13 rfl rfl)
theorem dX6_readText_225 : decode cX6_readText 225 = .ok (.saload, 1) := dk_53 (dk_at dksX6_readText_9 14 rfl rfl)
theorem dX6_readText_226 : decode cX6_readText 226 = .ok (.sastore, 1) := dk_86 (dk_at dksX6_readText_9 15 rfl rfl)
theorem dX6_readText_227 : decode cX6_readText 227 = .ok (.iinc 2 1, 3) := dk_132 2 1 (dk_at dksX6_readText_9 16 rfl rfl)
theorem dX6_readText_230 : decode cX6_readText 230 = .ok (.goto (-53), 3) := dk_167 255 203 (dk_at dksX6_readText_9 19 rfl rfl)
theorem dX6_readText_233 : decode cX6_readText 233 = .ok (.iconst (-1), 1) := dk_2 (dk_at dksX6_readText_9 22 rfl rfl)
theorem dX6_readText_234 : decode cX6_readText 234 = .ok (.ireturn, 1) := dk_172 (dk_at dksX6_readText_9 23 rfl rfl)
abbrev cX6_line : ByteArray := prog_25_method_33_code
def yX6_line : MethodName := ⟨RX6, "line", "()V"⟩
def dkwX6_line_3 : List UInt8 := [27, 42, 180, 0, 208, 147, 86, 42, 180, 0, 65, 4, 92, 46, 4, 96, 79, 177]
abbrev dktX6_line_3 : List UInt8 := dkwX6_line_3 ++ []
def dkwX6_line_2 : List UInt8 := [4, 96, 181, 0, 202, 42, 180, 0, 68, 27, 42, 180, 0, 208, 147, 86, 42, 182, 0, 235, 42, 180, 0, 72]
abbrev dktX6_line_2 : List UInt8 := dkwX6_line_2 ++ dktX6_line_3
def dkwX6_line_1 : List UInt8 := [182, 0, 235, 42, 180, 0, 205, 156, 0, 37, 42, 182, 0, 217, 16, 63, 160, 0, 28, 42, 89, 180, 0, 202]
abbrev dktX6_line_1 : List UInt8 := dkwX6_line_1 ++ dktX6_line_2
def dkwX6_line_0 : List UInt8 := [16, 61, 42, 180, 0, 65, 4, 46, 96, 60, 42, 180, 0, 68, 27, 42, 180, 0, 208, 147, 86, 42]
abbrev dktX6_line_0 : List UInt8 := dkwX6_line_0 ++ dktX6_line_1
theorem dksX6_line_0 : cX6_line.data.toList.drop 0 = dktX6_line_0 := by decide +kernel
theorem dksX6_line_1 : cX6_line.data.toList.drop 22 = dktX6_line_1 := dk_seg dksX6_line_0 22 rfl rfl
theorem dksX6_line_2 : cX6_line.data.toList.drop 46 = dktX6_line_2 := dk_seg dksX6_line_1 24 rfl rfl
theorem dksX6_line_3 : cX6_line.data.toList.drop 70 = dktX6_line_3 := dk_seg dksX6_line_2 24 rfl rfl
theorem dX6_line_0 : decode cX6_line 0 = .ok (.bipush 61, 2) := dk_16 61 (dk_at dksX6_line_0 0 rfl rfl)
theorem dX6_line_2 : decode cX6_line 2 = .ok (.aload_n 0, 1) := dk_42 (dk_at dksX6_line_0 2 rfl rfl)
theorem dX6_line_3 : decode cX6_line 3 = .ok (.getfield 65, 3) := dk_180 0 65 (dk_at dksX6_line_0 3 rfl rfl)
theorem dX6_line_6 : decode cX6_line 6 = .ok (.iconst 1, 1) := dk_4 (dk_at dksX6_line_0 6 rfl rfl)
theorem dX6_line_7 : decode cX6_line 7 = .ok (.iaload, 1) := dk_46 (dk_at dksX6_line_0 7 rfl rfl)
theorem dX6_line_8 : decode cX6_line 8 = .ok (.iadd, 1) := dk_96 (dk_at dksX6_line_0 8 rfl rfl)
theorem dX6_line_9 : decode cX6_line 9 = .ok (.istore_n 1, 1) := dk_60 (dk_at dksX6_line_0 9 rfl rfl)
theorem dX6_line_10 : decode cX6_line 10 = .ok (.aload_n 0, 1) := dk_42 (dk_at dksX6_line_0 10 rfl rfl)
theorem dX6_line_11 : decode cX6_line 11 = .ok (.getfield 68, 3) := dk_180 0 68 (dk_at dksX6_line_0 11 rfl rfl)
theorem dX6_line_14 : decode cX6_line 14 = .ok (.iload_n 1, 1) := dk_27 (dk_at dksX6_line_0 14 rfl rfl)
theorem dX6_line_15 : decode cX6_line 15 = .ok (.aload_n 0, 1) := dk_42 (dk_at dksX6_line_0 15 rfl rfl)
theorem dX6_line_16 : decode cX6_line 16 = .ok (.getfield 208, 3) := dk_180 0 208 (dk_at dksX6_line_0 16 rfl rfl)
theorem dX6_line_19 : decode cX6_line 19 = .ok (.i2s, 1) := dk_147 (dk_at dksX6_line_0 19 rfl rfl)
theorem dX6_line_20 : decode cX6_line 20 = .ok (.sastore, 1) := dk_86 (dk_at dksX6_line_0 20 rfl rfl)
theorem dX6_line_21 : decode cX6_line 21 = .ok (.aload_n 0, 1) := dk_42 (dk_at dksX6_line_0 21 rfl rfl)
theorem dX6_line_22 : decode cX6_line 22 = .ok (.invokevirtual 235, 3) := dk_182 0 235 (dk_at dksX6_line_1 0 rfl rfl)
theorem dX6_line_25 : decode cX6_line 25 = .ok (.aload_n 0, 1) := dk_42 (dk_at dksX6_line_1 3 rfl rfl)
theorem dX6_line_26 : decode cX6_line 26 = .ok (.getfield 205, 3) := dk_180 0 205 (dk_at dksX6_line_1 4 rfl rfl)
theorem dX6_line_29 : decode cX6_line 29 = .ok (.ifCond .ge 37, 3) := dk_156 0 37 (dk_at dksX6_line_1 7 rfl rfl)
theorem dX6_line_32 : decode cX6_line 32 = .ok (.aload_n 0, 1) := dk_42 (dk_at dksX6_line_1 10 rfl rfl)
theorem dX6_line_33 : decode cX6_line 33 = .ok (.invokevirtual 217, 3) := dk_182 0 217 (dk_at dksX6_line_1 11 rfl rfl)
theorem dX6_line_36 : decode cX6_line 36 = .ok (.bipush 63, 2) := dk_16 63 (dk_at dksX6_line_1 14 rfl rfl)
theorem dX6_line_38 : decode cX6_line 38 = .ok (.if_icmp .ne 28, 3) := dk_160 0 28 (dk_at dksX6_line_1 16 rfl rfl)
theorem dX6_line_41 : decode cX6_line 41 = .ok (.aload_n 0, 1) := dk_42 (dk_at dksX6_line_1 19 rfl rfl)
theorem dX6_line_42 : decode cX6_line 42 = .ok (.dup, 1) := dk_89 (dk_at dksX6_line_1 20 rfl rfl)
theorem dX6_line_43 : decode cX6_line 43 = .ok (.getfield 202, 3) := dk_180 0 202 (dk_at dksX6_line_1 21 rfl rfl)
theorem dX6_line_46 : decode cX6_line 46 = .ok (.iconst 1, 1) := dk_4 (dk_at dksX6_line_2 0 rfl rfl)
theorem dX6_line_47 : decode cX6_line 47 = .ok (.iadd, 1) := dk_96 (dk_at dksX6_line_2 1 rfl rfl)
theorem dX6_line_48 : decode cX6_line 48 = .ok (.putfield 202, 3) := dk_181 0 202 (dk_at dksX6_line_2 2 rfl rfl)
theorem dX6_line_51 : decode cX6_line 51 = .ok (.aload_n 0, 1) := dk_42 (dk_at dksX6_line_2 5 rfl rfl)
theorem dX6_line_52 : decode cX6_line 52 = .ok (.getfield 68, 3) := dk_180 0 68 (dk_at dksX6_line_2 6 rfl rfl)
theorem dX6_line_55 : decode cX6_line 55 = .ok (.iload_n 1, 1) := dk_27 (dk_at dksX6_line_2 9 rfl rfl)
theorem dX6_line_56 : decode cX6_line 56 = .ok (.aload_n 0, 1) := dk_42 (dk_at dksX6_line_2 10 rfl rfl)
theorem dX6_line_57 : decode cX6_line 57 = .ok (.getfield 208, 3) := dk_180 0 208 (dk_at dksX6_line_2 11 rfl rfl)
theorem dX6_line_60 : decode cX6_line 60 = .ok (.i2s, 1) := dk_147 (dk_at dksX6_line_2 14 rfl rfl)
theorem dX6_line_61 : decode cX6_line 61 = .ok (.sastore, 1) := dk_86 (dk_at dksX6_line_2 15 rfl rfl)
theorem dX6_line_62 : decode cX6_line 62 = .ok (.aload_n 0, 1) := dk_42 (dk_at dksX6_line_2 16 rfl rfl)
theorem dX6_line_63 : decode cX6_line 63 = .ok (.invokevirtual 235, 3) := dk_182 0 235 (dk_at dksX6_line_2 17 rfl rfl)
theorem dX6_line_66 : decode cX6_line 66 = .ok (.aload_n 0, 1) := dk_42 (dk_at dksX6_line_2 20 rfl rfl)
theorem dX6_line_67 : decode cX6_line 67 = .ok (.getfield 72, 3) := dk_180 0 72 (dk_at dksX6_line_2 21 rfl rfl)
theorem dX6_line_70 : decode cX6_line 70 = .ok (.iload_n 1, 1) := dk_27 (dk_at dksX6_line_3 0 rfl rfl)
theorem dX6_line_71 : decode cX6_line 71 = .ok (.aload_n 0, 1) := dk_42 (dk_at dksX6_line_3 1 rfl rfl)
theorem dX6_line_72 : decode cX6_line 72 = .ok (.getfield 208, 3) := dk_180 0 208 (dk_at dksX6_line_3 2 rfl rfl)
theorem dX6_line_75 : decode cX6_line 75 = .ok (.i2s, 1) := dk_147 (dk_at dksX6_line_3 5 rfl rfl)
theorem dX6_line_76 : decode cX6_line 76 = .ok (.sastore, 1) := dk_86 (dk_at dksX6_line_3 6 rfl rfl)
theorem dX6_line_77 : decode cX6_line 77 = .ok (.aload_n 0, 1) := dk_42 (dk_at dksX6_line_3 7 rfl rfl)
theorem dX6_line_78 : decode cX6_line 78 = .ok (.getfield 65, 3) := dk_180 0 65 (dk_at dksX6_line_3 8 rfl rfl)
theorem dX6_line_81 : decode cX6_line 81 = .ok (.iconst 1, 1) := dk_4 (dk_at dksX6_line_3 11 rfl rfl)
theorem dX6_line_82 : decode cX6_line 82 = .ok (.dup2, 1) := dk_92 (dk_at dksX6_line_3 12 rfl rfl)
theorem dX6_line_83 : decode cX6_line 83 = .ok (.iaload, 1) := dk_46 (dk_at dksX6_line_3 13 rfl rfl)
theorem dX6_line_84 : decode cX6_line 84 = .ok (.iconst 1, 1) := dk_4 (dk_at dksX6_line_3 14 rfl rfl)
theorem dX6_line_85 : decode cX6_line 85 = .ok (.iadd, 1) := dk_96 (dk_at dksX6_line_3 15 rfl rfl)
theorem dX6_line_86 : decode cX6_line 86 = .ok (.iastore, 1) := dk_79 (dk_at dksX6_line_3 16 rfl rfl)
theorem dX6_line_87 : decode cX6_line 87 = .ok (.return_, 1) := dk_177 (dk_at dksX6_line_3 17 rfl rfl)
abbrev cX6_either : ByteArray := prog_25_method_32_code
def yX6_either : MethodName := ⟨RX6, "either", "()V"⟩
def dkwX6_either_1 : List UInt8 := [180, 0, 202, 4, 96, 181, 0, 202, 42, 182, 0, 250, 42, 16, 124, 3, 182, 0, 221, 167, 255, 219, 177]
abbrev dktX6_either_1 : List UInt8 := dkwX6_either_1 ++ []
def dkwX6_either_0 : List UInt8 := [42, 182, 0, 250, 42, 180, 0, 205, 156, 0, 36, 42, 182, 0, 217, 16, 124, 160, 0, 27, 42, 89]
abbrev dktX6_either_0 : List UInt8 := dkwX6_either_0 ++ dktX6_either_1
theorem dksX6_either_0 : cX6_either.data.toList.drop 0 = dktX6_either_0 := by decide +kernel
theorem dksX6_either_1 : cX6_either.data.toList.drop 22 = dktX6_either_1 := dk_seg dksX6_either_0 22 rfl rfl
theorem dX6_either_0 : decode cX6_either 0 = .ok (.aload_n 0, 1) := dk_42 (dk_at dksX6_either_0 0 rfl rfl)
theorem dX6_either_1 : decode cX6_either 1 = .ok (.invokevirtual 250, 3) := dk_182 0 250 (dk_at dksX6_either_0 1 rfl rfl)
theorem dX6_either_4 : decode cX6_either 4 = .ok (.aload_n 0, 1) := dk_42 (dk_at dksX6_either_0 4 rfl rfl)
theorem dX6_either_5 : decode cX6_either 5 = .ok (.getfield 205, 3) := dk_180 0 205 (dk_at dksX6_either_0 5 rfl rfl)
theorem dX6_either_8 : decode cX6_either 8 = .ok (.ifCond .ge 36, 3) := dk_156 0 36 (dk_at dksX6_either_0 8 rfl rfl)
theorem dX6_either_11 : decode cX6_either 11 = .ok (.aload_n 0, 1) := dk_42 (dk_at dksX6_either_0 11 rfl rfl)
theorem dX6_either_12 : decode cX6_either 12 = .ok (.invokevirtual 217, 3) := dk_182 0 217 (dk_at dksX6_either_0 12 rfl rfl)
theorem dX6_either_15 : decode cX6_either 15 = .ok (.bipush 124, 2) := dk_16 124 (dk_at dksX6_either_0 15 rfl rfl)
theorem dX6_either_17 : decode cX6_either 17 = .ok (.if_icmp .ne 27, 3) := dk_160 0 27 (dk_at dksX6_either_0 17 rfl rfl)
theorem dX6_either_20 : decode cX6_either 20 = .ok (.aload_n 0, 1) := dk_42 (dk_at dksX6_either_0 20 rfl rfl)
theorem dX6_either_21 : decode cX6_either 21 = .ok (.dup, 1) := dk_89 (dk_at dksX6_either_0 21 rfl rfl)
theorem dX6_either_22 : decode cX6_either 22 = .ok (.getfield 202, 3) := dk_180 0 202 (dk_at dksX6_either_1 0 rfl rfl)
theorem dX6_either_25 : decode cX6_either 25 = .ok (.iconst 1, 1) := dk_4 (dk_at dksX6_either_1 3 rfl rfl)
theorem dX6_either_26 : decode cX6_either 26 = .ok (.iadd, 1) := dk_96 (dk_at dksX6_either_1 4 rfl rfl)
theorem dX6_either_27 : decode cX6_either 27 = .ok (.putfield 202, 3) := dk_181 0 202 (dk_at dksX6_either_1 5 rfl rfl)
theorem dX6_either_30 : decode cX6_either 30 = .ok (.aload_n 0, 1) := dk_42 (dk_at dksX6_either_1 8 rfl rfl)
theorem dX6_either_31 : decode cX6_either 31 = .ok (.invokevirtual 250, 3) := dk_182 0 250 (dk_at dksX6_either_1 9 rfl rfl)
theorem dX6_either_34 : decode cX6_either 34 = .ok (.aload_n 0, 1) := dk_42 (dk_at dksX6_either_1 12 rfl rfl)
theorem dX6_either_35 : decode cX6_either 35 = .ok (.bipush 124, 2) := dk_16 124 (dk_at dksX6_either_1 13 rfl rfl)
theorem dX6_either_37 : decode cX6_either 37 = .ok (.iconst 0, 1) := dk_3 (dk_at dksX6_either_1 15 rfl rfl)
theorem dX6_either_38 : decode cX6_either 38 = .ok (.invokevirtual 221, 3) := dk_182 0 221 (dk_at dksX6_either_1 16 rfl rfl)
theorem dX6_either_41 : decode cX6_either 41 = .ok (.goto (-37), 3) := dk_167 255 219 (dk_at dksX6_either_1 19 rfl rfl)
theorem dX6_either_44 : decode cX6_either 44 = .ok (.return_, 1) := dk_177 (dk_at dksX6_either_1 22 rfl rfl)
abbrev cX6_both : ByteArray := prog_25_method_31_code
def yX6_both : MethodName := ⟨RX6, "both", "()V"⟩
def dkwX6_both_1 : List UInt8 := [180, 0, 202, 4, 96, 181, 0, 202, 42, 182, 0, 247, 42, 16, 38, 3, 182, 0, 221, 167, 255, 219, 177]
abbrev dktX6_both_1 : List UInt8 := dkwX6_both_1 ++ []
def dkwX6_both_0 : List UInt8 := [42, 182, 0, 247, 42, 180, 0, 205, 156, 0, 36, 42, 182, 0, 217, 16, 38, 160, 0, 27, 42, 89]
abbrev dktX6_both_0 : List UInt8 := dkwX6_both_0 ++ dktX6_both_1
theorem dksX6_both_0 : cX6_both.data.toList.drop 0 = dktX6_both_0 := by decide +kernel
theorem dksX6_both_1 : cX6_both.data.toList.drop 22 = dktX6_both_1 := dk_seg dksX6_both_0 22 rfl rfl
theorem dX6_both_0 : decode cX6_both 0 = .ok (.aload_n 0, 1) := dk_42 (dk_at dksX6_both_0 0 rfl rfl)
theorem dX6_both_1 : decode cX6_both 1 = .ok (.invokevirtual 247, 3) := dk_182 0 247 (dk_at dksX6_both_0 1 rfl rfl)
theorem dX6_both_4 : decode cX6_both 4 = .ok (.aload_n 0, 1) := dk_42 (dk_at dksX6_both_0 4 rfl rfl)
theorem dX6_both_5 : decode cX6_both 5 = .ok (.getfield 205, 3) := dk_180 0 205 (dk_at dksX6_both_0 5 rfl rfl)
theorem dX6_both_8 : decode cX6_both 8 = .ok (.ifCond .ge 36, 3) := dk_156 0 36 (dk_at dksX6_both_0 8 rfl rfl)
theorem dX6_both_11 : decode cX6_both 11 = .ok (.aload_n 0, 1) := dk_42 (dk_at dksX6_both_0 11 rfl rfl)
theorem dX6_both_12 : decode cX6_both 12 = .ok (.invokevirtual 217, 3) := dk_182 0 217 (dk_at dksX6_both_0 12 rfl rfl)
theorem dX6_both_15 : decode cX6_both 15 = .ok (.bipush 38, 2) := dk_16 38 (dk_at dksX6_both_0 15 rfl rfl)
theorem dX6_both_17 : decode cX6_both 17 = .ok (.if_icmp .ne 27, 3) := dk_160 0 27 (dk_at dksX6_both_0 17 rfl rfl)
theorem dX6_both_20 : decode cX6_both 20 = .ok (.aload_n 0, 1) := dk_42 (dk_at dksX6_both_0 20 rfl rfl)
theorem dX6_both_21 : decode cX6_both 21 = .ok (.dup, 1) := dk_89 (dk_at dksX6_both_0 21 rfl rfl)
theorem dX6_both_22 : decode cX6_both 22 = .ok (.getfield 202, 3) := dk_180 0 202 (dk_at dksX6_both_1 0 rfl rfl)
theorem dX6_both_25 : decode cX6_both 25 = .ok (.iconst 1, 1) := dk_4 (dk_at dksX6_both_1 3 rfl rfl)
theorem dX6_both_26 : decode cX6_both 26 = .ok (.iadd, 1) := dk_96 (dk_at dksX6_both_1 4 rfl rfl)
theorem dX6_both_27 : decode cX6_both 27 = .ok (.putfield 202, 3) := dk_181 0 202 (dk_at dksX6_both_1 5 rfl rfl)
theorem dX6_both_30 : decode cX6_both 30 = .ok (.aload_n 0, 1) := dk_42 (dk_at dksX6_both_1 8 rfl rfl)
theorem dX6_both_31 : decode cX6_both 31 = .ok (.invokevirtual 247, 3) := dk_182 0 247 (dk_at dksX6_both_1 9 rfl rfl)
theorem dX6_both_34 : decode cX6_both 34 = .ok (.aload_n 0, 1) := dk_42 (dk_at dksX6_both_1 12 rfl rfl)
theorem dX6_both_35 : decode cX6_both 35 = .ok (.bipush 38, 2) := dk_16 38 (dk_at dksX6_both_1 13 rfl rfl)
theorem dX6_both_37 : decode cX6_both 37 = .ok (.iconst 0, 1) := dk_3 (dk_at dksX6_both_1 15 rfl rfl)
theorem dX6_both_38 : decode cX6_both 38 = .ok (.invokevirtual 221, 3) := dk_182 0 221 (dk_at dksX6_both_1 16 rfl rfl)
theorem dX6_both_41 : decode cX6_both 41 = .ok (.goto (-37), 3) := dk_167 255 219 (dk_at dksX6_both_1 19 rfl rfl)
theorem dX6_both_44 : decode cX6_both 44 = .ok (.return_, 1) := dk_177 (dk_at dksX6_both_1 22 rfl rfl)
abbrev cX6_compared : ByteArray := prog_25_method_30_code
def yX6_compared : MethodName := ⟨RX6, "compared", "()V"⟩
def dkwX6_compared_2 : List UInt8 := [182, 0, 244, 42, 27, 3, 182, 0, 221, 177]
abbrev dktX6_compared_2 : List UInt8 := dkwX6_compared_2 ++ []
def dkwX6_compared_1 : List UInt8 := [16, 61, 159, 0, 10, 27, 16, 62, 159, 0, 4, 177, 42, 89, 180, 0, 202, 4, 96, 181, 0, 202, 42]
abbrev dktX6_compared_1 : List UInt8 := dkwX6_compared_1 ++ dktX6_compared_2
def dkwX6_compared_0 : List UInt8 := [42, 182, 0, 244, 42, 182, 0, 217, 60, 42, 180, 0, 205, 156, 0, 21, 27, 16, 60, 159, 0, 16, 27]
abbrev dktX6_compared_0 : List UInt8 := dkwX6_compared_0 ++ dktX6_compared_1
theorem dksX6_compared_0 : cX6_compared.data.toList.drop 0 = dktX6_compared_0 := by decide +kernel
theorem dksX6_compared_1 : cX6_compared.data.toList.drop 23 = dktX6_compared_1 := dk_seg dksX6_compared_0 23 rfl rfl
theorem dksX6_compared_2 : cX6_compared.data.toList.drop 46 = dktX6_compared_2 := dk_seg dksX6_compared_1 23 rfl rfl
theorem dX6_compared_0 : decode cX6_compared 0 = .ok (.aload_n 0, 1) := dk_42 (dk_at dksX6_compared_0 0 rfl rfl)
theorem dX6_compared_1 : decode cX6_compared 1 = .ok (.invokevirtual 244, 3) := dk_182 0 244 (dk_at dksX6_compared_0 1 rfl rfl)
theorem dX6_compared_4 : decode cX6_compared 4 = .ok (.aload_n 0, 1) := dk_42 (dk_at dksX6_compared_0 4 rfl rfl)
theorem dX6_compared_5 : decode cX6_compared 5 = .ok (.invokevirtual 217, 3) := dk_182 0 217 (dk_at dksX6_compared_0 5 rfl rfl)
theorem dX6_compared_8 : decode cX6_compared 8 = .ok (.istore_n 1, 1) := dk_60 (dk_at dksX6_compared_0 8 rfl rfl)
theorem dX6_compared_9 : decode cX6_compared 9 = .ok (.aload_n 0, 1) := dk_42 (dk_at dksX6_compared_0 9 rfl rfl)
theorem dX6_compared_10 : decode cX6_compared 10 = .ok (.getfield 205, 3) := dk_180 0 205 (dk_at dksX6_compared_0 10 rfl rfl)
theorem dX6_compared_13 : decode cX6_compared 13 = .ok (.ifCond .ge 21, 3) := dk_156 0 21 (dk_at dksX6_compared_0 13 rfl rfl)
theorem dX6_compared_16 : decode cX6_compared 16 = .ok (.iload_n 1, 1) := dk_27 (dk_at dksX6_compared_0 16 rfl rfl)
theorem dX6_compared_17 : decode cX6_compared 17 = .ok (.bipush 60, 2) := dk_16 60 (dk_at dksX6_compared_0 17 rfl rfl)
theorem dX6_compared_19 : decode cX6_compared 19 = .ok (.if_icmp .eq 16, 3) := dk_159 0 16 (dk_at dksX6_compared_0 19 rfl rfl)
theorem dX6_compared_22 : decode cX6_compared 22 = .ok (.iload_n 1, 1) := dk_27 (dk_at dksX6_compared_0 22 rfl rfl)
theorem dX6_compared_23 : decode cX6_compared 23 = .ok (.bipush 61, 2) := dk_16 61 (dk_at dksX6_compared_1 0 rfl rfl)
theorem dX6_compared_25 : decode cX6_compared 25 = .ok (.if_icmp .eq 10, 3) := dk_159 0 10 (dk_at dksX6_compared_1 2 rfl rfl)
theorem dX6_compared_28 : decode cX6_compared 28 = .ok (.iload_n 1, 1) := dk_27 (dk_at dksX6_compared_1 5 rfl rfl)
theorem dX6_compared_29 : decode cX6_compared 29 = .ok (.bipush 62, 2) := dk_16 62 (dk_at dksX6_compared_1 6 rfl rfl)
theorem dX6_compared_31 : decode cX6_compared 31 = .ok (.if_icmp .eq 4, 3) := dk_159 0 4 (dk_at dksX6_compared_1 8 rfl rfl)
theorem dX6_compared_34 : decode cX6_compared 34 = .ok (.return_, 1) := dk_177 (dk_at dksX6_compared_1 11 rfl rfl)
theorem dX6_compared_35 : decode cX6_compared 35 = .ok (.aload_n 0, 1) := dk_42 (dk_at dksX6_compared_1 12 rfl rfl)
theorem dX6_compared_36 : decode cX6_compared 36 = .ok (.dup, 1) := dk_89 (dk_at dksX6_compared_1 13 rfl rfl)
theorem dX6_compared_37 : decode cX6_compared 37 = .ok (.getfield 202, 3) := dk_180 0 202 (dk_at dksX6_compared_1 14 rfl rfl)
theorem dX6_compared_40 : decode cX6_compared 40 = .ok (.iconst 1, 1) := dk_4 (dk_at dksX6_compared_1 17 rfl rfl)
theorem dX6_compared_41 : decode cX6_compared 41 = .ok (.iadd, 1) := dk_96 (dk_at dksX6_compared_1 18 rfl rfl)
theorem dX6_compared_42 : decode cX6_compared 42 = .ok (.putfield 202, 3) := dk_181 0 202 (dk_at dksX6_compared_1 19 rfl rfl)
theorem dX6_compared_45 : decode cX6_compared 45 = .ok (.aload_n 0, 1) := dk_42 (dk_at dksX6_compared_1 22 rfl rfl)
theorem dX6_compared_46 : decode cX6_compared 46 = .ok (.invokevirtual 244, 3) := dk_182 0 244 (dk_at dksX6_compared_2 0 rfl rfl)
theorem dX6_compared_49 : decode cX6_compared 49 = .ok (.aload_n 0, 1) := dk_42 (dk_at dksX6_compared_2 3 rfl rfl)
theorem dX6_compared_50 : decode cX6_compared 50 = .ok (.iload_n 1, 1) := dk_27 (dk_at dksX6_compared_2 4 rfl rfl)
theorem dX6_compared_51 : decode cX6_compared 51 = .ok (.iconst 0, 1) := dk_3 (dk_at dksX6_compared_2 5 rfl rfl)
theorem dX6_compared_52 : decode cX6_compared 52 = .ok (.invokevirtual 221, 3) := dk_182 0 221 (dk_at dksX6_compared_2 6 rfl rfl)
theorem dX6_compared_55 : decode cX6_compared 55 = .ok (.return_, 1) := dk_177 (dk_at dksX6_compared_2 9 rfl rfl)
abbrev cX6_sum : ByteArray := prog_25_method_29_code
def yX6_sum : MethodName := ⟨RX6, "sum", "()V"⟩
def dkwX6_sum_2 : List UInt8 := [42, 27, 3, 182, 0, 221, 167, 255, 206, 177]
abbrev dktX6_sum_2 : List UInt8 := dkwX6_sum_2 ++ []
def dkwX6_sum_1 : List UInt8 := [16, 45, 160, 0, 31, 42, 182, 0, 217, 60, 42, 89, 180, 0, 202, 4, 96, 181, 0, 202, 42, 182, 0, 241]
abbrev dktX6_sum_1 : List UInt8 := dkwX6_sum_1 ++ dktX6_sum_2
def dkwX6_sum_0 : List UInt8 := [42, 182, 0, 241, 42, 180, 0, 205, 156, 0, 49, 42, 182, 0, 217, 16, 43, 159, 0, 12, 42, 182, 0, 217]
abbrev dktX6_sum_0 : List UInt8 := dkwX6_sum_0 ++ dktX6_sum_1
theorem dksX6_sum_0 : cX6_sum.data.toList.drop 0 = dktX6_sum_0 := by decide +kernel
theorem dksX6_sum_1 : cX6_sum.data.toList.drop 24 = dktX6_sum_1 := dk_seg dksX6_sum_0 24 rfl rfl
theorem dksX6_sum_2 : cX6_sum.data.toList.drop 48 = dktX6_sum_2 := dk_seg dksX6_sum_1 24 rfl rfl
theorem dX6_sum_0 : decode cX6_sum 0 = .ok (.aload_n 0, 1) := dk_42 (dk_at dksX6_sum_0 0 rfl rfl)
theorem dX6_sum_1 : decode cX6_sum 1 = .ok (.invokevirtual 241, 3) := dk_182 0 241 (dk_at dksX6_sum_0 1 rfl rfl)
theorem dX6_sum_4 : decode cX6_sum 4 = .ok (.aload_n 0, 1) := dk_42 (dk_at dksX6_sum_0 4 rfl rfl)
theorem dX6_sum_5 : decode cX6_sum 5 = .ok (.getfield 205, 3) := dk_180 0 205 (dk_at dksX6_sum_0 5 rfl rfl)
theorem dX6_sum_8 : decode cX6_sum 8 = .ok (.ifCond .ge 49, 3) := dk_156 0 49 (dk_at dksX6_sum_0 8 rfl rfl)
theorem dX6_sum_11 : decode cX6_sum 11 = .ok (.aload_n 0, 1) := dk_42 (dk_at dksX6_sum_0 11 rfl rfl)
theorem dX6_sum_12 : decode cX6_sum 12 = .ok (.invokevirtual 217, 3) := dk_182 0 217 (dk_at dksX6_sum_0 12 rfl rfl)
theorem dX6_sum_15 : decode cX6_sum 15 = .ok (.bipush 43, 2) := dk_16 43 (dk_at dksX6_sum_0 15 rfl rfl)
theorem dX6_sum_17 : decode cX6_sum 17 = .ok (.if_icmp .eq 12, 3) := dk_159 0 12 (dk_at dksX6_sum_0 17 rfl rfl)
theorem dX6_sum_20 : decode cX6_sum 20 = .ok (.aload_n 0, 1) := dk_42 (dk_at dksX6_sum_0 20 rfl rfl)
theorem dX6_sum_21 : decode cX6_sum 21 = .ok (.invokevirtual 217, 3) := dk_182 0 217 (dk_at dksX6_sum_0 21 rfl rfl)
theorem dX6_sum_24 : decode cX6_sum 24 = .ok (.bipush 45, 2) := dk_16 45 (dk_at dksX6_sum_1 0 rfl rfl)
theorem dX6_sum_26 : decode cX6_sum 26 = .ok (.if_icmp .ne 31, 3) := dk_160 0 31 (dk_at dksX6_sum_1 2 rfl rfl)
theorem dX6_sum_29 : decode cX6_sum 29 = .ok (.aload_n 0, 1) := dk_42 (dk_at dksX6_sum_1 5 rfl rfl)
theorem dX6_sum_30 : decode cX6_sum 30 = .ok (.invokevirtual 217, 3) := dk_182 0 217 (dk_at dksX6_sum_1 6 rfl rfl)
theorem dX6_sum_33 : decode cX6_sum 33 = .ok (.istore_n 1, 1) := dk_60 (dk_at dksX6_sum_1 9 rfl rfl)
theorem dX6_sum_34 : decode cX6_sum 34 = .ok (.aload_n 0, 1) := dk_42 (dk_at dksX6_sum_1 10 rfl rfl)
theorem dX6_sum_35 : decode cX6_sum 35 = .ok (.dup, 1) := dk_89 (dk_at dksX6_sum_1 11 rfl rfl)
theorem dX6_sum_36 : decode cX6_sum 36 = .ok (.getfield 202, 3) := dk_180 0 202 (dk_at dksX6_sum_1 12 rfl rfl)
theorem dX6_sum_39 : decode cX6_sum 39 = .ok (.iconst 1, 1) := dk_4 (dk_at dksX6_sum_1 15 rfl rfl)
theorem dX6_sum_40 : decode cX6_sum 40 = .ok (.iadd, 1) := dk_96 (dk_at dksX6_sum_1 16 rfl rfl)
theorem dX6_sum_41 : decode cX6_sum 41 = .ok (.putfield 202, 3) := dk_181 0 202 (dk_at dksX6_sum_1 17 rfl rfl)
theorem dX6_sum_44 : decode cX6_sum 44 = .ok (.aload_n 0, 1) := dk_42 (dk_at dksX6_sum_1 20 rfl rfl)
theorem dX6_sum_45 : decode cX6_sum 45 = .ok (.invokevirtual 241, 3) := dk_182 0 241 (dk_at dksX6_sum_1 21 rfl rfl)
theorem dX6_sum_48 : decode cX6_sum 48 = .ok (.aload_n 0, 1) := dk_42 (dk_at dksX6_sum_2 0 rfl rfl)
theorem dX6_sum_49 : decode cX6_sum 49 = .ok (.iload_n 1, 1) := dk_27 (dk_at dksX6_sum_2 1 rfl rfl)
theorem dX6_sum_50 : decode cX6_sum 50 = .ok (.iconst 0, 1) := dk_3 (dk_at dksX6_sum_2 2 rfl rfl)
theorem dX6_sum_51 : decode cX6_sum 51 = .ok (.invokevirtual 221, 3) := dk_182 0 221 (dk_at dksX6_sum_2 3 rfl rfl)
theorem dX6_sum_54 : decode cX6_sum 54 = .ok (.goto (-50), 3) := dk_167 255 206 (dk_at dksX6_sum_2 6 rfl rfl)
theorem dX6_sum_57 : decode cX6_sum 57 = .ok (.return_, 1) := dk_177 (dk_at dksX6_sum_2 9 rfl rfl)
abbrev cX6_product : ByteArray := prog_25_method_28_code
def yX6_product : MethodName := ⟨RX6, "product", "()V"⟩
def dkwX6_product_2 : List UInt8 := [4, 96, 181, 0, 202, 42, 182, 0, 232, 42, 27, 3, 182, 0, 221, 167, 255, 197, 177]
abbrev dktX6_product_2 : List UInt8 := dkwX6_product_2 ++ []
def dkwX6_product_1 : List UInt8 := [16, 47, 159, 0, 12, 42, 182, 0, 217, 16, 37, 160, 0, 31, 42, 182, 0, 217, 60, 42, 89, 180, 0, 202]
abbrev dktX6_product_1 : List UInt8 := dkwX6_product_1 ++ dktX6_product_2
def dkwX6_product_0 : List UInt8 := [42, 182, 0, 232, 42, 180, 0, 205, 156, 0, 58, 42, 182, 0, 217, 16, 42, 159, 0, 21, 42, 182, 0, 217]
abbrev dktX6_product_0 : List UInt8 := dkwX6_product_0 ++ dktX6_product_1
theorem dksX6_product_0 : cX6_product.data.toList.drop 0 = dktX6_product_0 := by decide +kernel
theorem dksX6_product_1 : cX6_product.data.toList.drop 24 = dktX6_product_1 := dk_seg dksX6_product_0 24 rfl rfl
theorem dksX6_product_2 : cX6_product.data.toList.drop 48 = dktX6_product_2 := dk_seg dksX6_product_1 24 rfl rfl
theorem dX6_product_0 : decode cX6_product 0 = .ok (.aload_n 0, 1) := dk_42 (dk_at dksX6_product_0 0 rfl rfl)
theorem dX6_product_1 : decode cX6_product 1 = .ok (.invokevirtual 232, 3) := dk_182 0 232 (dk_at dksX6_product_0 1 rfl rfl)
theorem dX6_product_4 : decode cX6_product 4 = .ok (.aload_n 0, 1) := dk_42 (dk_at dksX6_product_0 4 rfl rfl)
theorem dX6_product_5 : decode cX6_product 5 = .ok (.getfield 205, 3) := dk_180 0 205 (dk_at dksX6_product_0 5 rfl rfl)
theorem dX6_product_8 : decode cX6_product 8 = .ok (.ifCond .ge 58, 3) := dk_156 0 58 (dk_at dksX6_product_0 8 rfl rfl)
theorem dX6_product_11 : decode cX6_product 11 = .ok (.aload_n 0, 1) := dk_42 (dk_at dksX6_product_0 11 rfl rfl)
theorem dX6_product_12 : decode cX6_product 12 = .ok (.invokevirtual 217, 3) := dk_182 0 217 (dk_at dksX6_product_0 12 rfl rfl)
theorem dX6_product_15 : decode cX6_product 15 = .ok (.bipush 42, 2) := dk_16 42 (dk_at dksX6_product_0 15 rfl rfl)
theorem dX6_product_17 : decode cX6_product 17 = .ok (.if_icmp .eq 21, 3) := dk_159 0 21 (dk_at dksX6_product_0 17 rfl rfl)
theorem dX6_product_20 : decode cX6_product 20 = .ok (.aload_n 0, 1) := dk_42 (dk_at dksX6_product_0 20 rfl rfl)
theorem dX6_product_21 : decode cX6_product 21 = .ok (.invokevirtual 217, 3) := dk_182 0 217 (dk_at dksX6_product_0 21 rfl rfl)
theorem dX6_product_24 : decode cX6_product 24 = .ok (.bipush 47, 2) := dk_16 47 (dk_at dksX6_product_1 0 rfl rfl)
theorem dX6_product_26 : decode cX6_product 26 = .ok (.if_icmp .eq 12, 3) := dk_159 0 12 (dk_at dksX6_product_1 2 rfl rfl)
theorem dX6_product_29 : decode cX6_product 29 = .ok (.aload_n 0, 1) := dk_42 (dk_at dksX6_product_1 5 rfl rfl)
theorem dX6_product_30 : decode cX6_product 30 = .ok (.invokevirtual 217, 3) := dk_182 0 217 (dk_at dksX6_product_1 6 rfl rfl)
theorem dX6_product_33 : decode cX6_product 33 = .ok (.bipush 37, 2) := dk_16 37 (dk_at dksX6_product_1 9 rfl rfl)
theorem dX6_product_35 : decode cX6_product 35 = .ok (.if_icmp .ne 31, 3) := dk_160 0 31 (dk_at dksX6_product_1 11 rfl rfl)
theorem dX6_product_38 : decode cX6_product 38 = .ok (.aload_n 0, 1) := dk_42 (dk_at dksX6_product_1 14 rfl rfl)
theorem dX6_product_39 : decode cX6_product 39 = .ok (.invokevirtual 217, 3) := dk_182 0 217 (dk_at dksX6_product_1 15 rfl rfl)
theorem dX6_product_42 : decode cX6_product 42 = .ok (.istore_n 1, 1) := dk_60 (dk_at dksX6_product_1 18 rfl rfl)
theorem dX6_product_43 : decode cX6_product 43 = .ok (.aload_n 0, 1) := dk_42 (dk_at dksX6_product_1 19 rfl rfl)
theorem dX6_product_44 : decode cX6_product 44 = .ok (.dup, 1) := dk_89 (dk_at dksX6_product_1 20 rfl rfl)
theorem dX6_product_45 : decode cX6_product 45 = .ok (.getfield 202, 3) := dk_180 0 202 (dk_at dksX6_product_1 21 rfl rfl)
theorem dX6_product_48 : decode cX6_product 48 = .ok (.iconst 1, 1) := dk_4 (dk_at dksX6_product_2 0 rfl rfl)
theorem dX6_product_49 : decode cX6_product 49 = .ok (.iadd, 1) := dk_96 (dk_at dksX6_product_2 1 rfl rfl)
theorem dX6_product_50 : decode cX6_product 50 = .ok (.putfield 202, 3) := dk_181 0 202 (dk_at dksX6_product_2 2 rfl rfl)
theorem dX6_product_53 : decode cX6_product 53 = .ok (.aload_n 0, 1) := dk_42 (dk_at dksX6_product_2 5 rfl rfl)
theorem dX6_product_54 : decode cX6_product 54 = .ok (.invokevirtual 232, 3) := dk_182 0 232 (dk_at dksX6_product_2 6 rfl rfl)
theorem dX6_product_57 : decode cX6_product 57 = .ok (.aload_n 0, 1) := dk_42 (dk_at dksX6_product_2 9 rfl rfl)
theorem dX6_product_58 : decode cX6_product 58 = .ok (.iload_n 1, 1) := dk_27 (dk_at dksX6_product_2 10 rfl rfl)
theorem dX6_product_59 : decode cX6_product 59 = .ok (.iconst 0, 1) := dk_3 (dk_at dksX6_product_2 11 rfl rfl)
theorem dX6_product_60 : decode cX6_product 60 = .ok (.invokevirtual 221, 3) := dk_182 0 221 (dk_at dksX6_product_2 12 rfl rfl)
theorem dX6_product_63 : decode cX6_product 63 = .ok (.goto (-59), 3) := dk_167 255 197 (dk_at dksX6_product_2 15 rfl rfl)
theorem dX6_product_66 : decode cX6_product 66 = .ok (.return_, 1) := dk_177 (dk_at dksX6_product_2 18 rfl rfl)
abbrev cX6_operand : ByteArray := prog_25_method_27_code
def yX6_operand : MethodName := ⟨RX6, "operand", "()V"⟩
def dkwX6_operand_6 : List UInt8 := [180, 0, 211, 4, 100, 181, 0, 211, 167, 0, 7, 42, 182, 0, 238, 177]
abbrev dktX6_operand_6 : List UInt8 := dkwX6_operand_6 ++ []
def dkwX6_operand_5 : List UInt8 := [16, 41, 159, 0, 8, 42, 182, 0, 214, 177, 42, 89, 180, 0, 202, 4, 96, 181, 0, 202, 42, 89]
abbrev dktX6_operand_5 : List UInt8 := dkwX6_operand_5 ++ dktX6_operand_6
def dkwX6_operand_4 : List UInt8 := [182, 0, 228, 154, 0, 4, 177, 42, 182, 0, 235, 42, 180, 0, 205, 155, 0, 4, 177, 42, 182, 0, 217]
abbrev dktX6_operand_4 : List UInt8 := dkwX6_operand_4 ++ dktX6_operand_5
def dkwX6_operand_3 : List UInt8 := [16, 33, 160, 0, 7, 6, 167, 0, 4, 7, 3, 182, 0, 221, 167, 0, 70, 27, 16, 40, 160, 0, 60, 42]
abbrev dktX6_operand_3 : List UInt8 := dkwX6_operand_3 ++ dktX6_operand_4
def dkwX6_operand_2 : List UInt8 := [182, 0, 228, 154, 0, 4, 177, 42, 182, 0, 232, 42, 89, 180, 0, 211, 4, 100, 181, 0, 211, 42, 27]
abbrev dktX6_operand_2 : List UInt8 := dkwX6_operand_2 ++ dktX6_operand_3
def dkwX6_operand_1 : List UInt8 := [180, 0, 202, 4, 96, 181, 0, 202, 167, 0, 123, 27, 16, 33, 159, 0, 9, 27, 16, 45, 160, 0, 44, 42]
abbrev dktX6_operand_1 : List UInt8 := dkwX6_operand_1 ++ dktX6_operand_2
def dkwX6_operand_0 : List UInt8 := [42, 182, 0, 217, 60, 27, 184, 0, 225, 155, 0, 25, 42, 5, 27, 184, 0, 225, 182, 0, 221, 42, 89]
abbrev dktX6_operand_0 : List UInt8 := dkwX6_operand_0 ++ dktX6_operand_1
theorem dksX6_operand_0 : cX6_operand.data.toList.drop 0 = dktX6_operand_0 := by decide +kernel
theorem dksX6_operand_1 : cX6_operand.data.toList.drop 23 = dktX6_operand_1 := dk_seg dksX6_operand_0 23 rfl rfl
theorem dksX6_operand_2 : cX6_operand.data.toList.drop 47 = dktX6_operand_2 := dk_seg dksX6_operand_1 24 rfl rfl
theorem dksX6_operand_3 : cX6_operand.data.toList.drop 70 = dktX6_operand_3 := dk_seg dksX6_operand_2 23 rfl rfl
theorem dksX6_operand_4 : cX6_operand.data.toList.drop 94 = dktX6_operand_4 := dk_seg dksX6_operand_3 24 rfl rfl
theorem dksX6_operand_5 : cX6_operand.data.toList.drop 117 = dktX6_operand_5 := dk_seg dksX6_operand_4 23 rfl rfl
theorem dksX6_operand_6 : cX6_operand.data.toList.drop 139 = dktX6_operand_6 := dk_seg dksX6_operand_5 22 rfl rfl
theorem dX6_operand_0 : decode cX6_operand 0 = .ok (.aload_n 0, 1) := dk_42 (dk_at dksX6_operand_0 0 rfl rfl)
theorem dX6_operand_1 : decode cX6_operand 1 = .ok (.invokevirtual 217, 3) := dk_182 0 217 (dk_at dksX6_operand_0 1 rfl rfl)
theorem dX6_operand_4 : decode cX6_operand 4 = .ok (.istore_n 1, 1) := dk_60 (dk_at dksX6_operand_0 4 rfl rfl)
theorem dX6_operand_5 : decode cX6_operand 5 = .ok (.iload_n 1, 1) := dk_27 (dk_at dksX6_operand_0 5 rfl rfl)
theorem dX6_operand_6 : decode cX6_operand 6 = .ok (.invokestatic 225, 3) := dk_184 0 225 (dk_at dksX6_operand_0 6 rfl rfl)
theorem dX6_operand_9 : decode cX6_operand 9 = .ok (.ifCond .lt 25, 3) := dk_155 0 25 (dk_at dksX6_operand_0 9 rfl rfl)
theorem dX6_operand_12 : decode cX6_operand 12 = .ok (.aload_n 0, 1) := dk_42 (dk_at dksX6_operand_0 12 rfl rfl)
theorem dX6_operand_13 : decode cX6_operand 13 = .ok (.iconst 2, 1) := dk_5 (dk_at dksX6_operand_0 13 rfl rfl)
theorem dX6_operand_14 : decode cX6_operand 14 = .ok (.iload_n 1, 1) := dk_27 (dk_at dksX6_operand_0 14 rfl rfl)
theorem dX6_operand_15 : decode cX6_operand 15 = .ok (.invokestatic 225, 3) := dk_184 0 225 (dk_at dksX6_operand_0 15 rfl rfl)
theorem dX6_operand_18 : decode cX6_operand 18 = .ok (.invokevirtual 221, 3) := dk_182 0 221 (dk_at dksX6_operand_0 18 rfl rfl)
theorem dX6_operand_21 : decode cX6_operand 21 = .ok (.aload_n 0, 1) := dk_42 (dk_at dksX6_operand_0 21 rfl rfl)
theorem dX6_operand_22 : decode cX6_operand 22 = .ok (.dup, 1) := dk_89 (dk_at dksX6_operand_0 22 rfl rfl)
theorem dX6_operand_23 : decode cX6_operand 23 = .ok (.getfield 202, 3) := dk_180 0 202 (dk_at dksX6_operand_1 0 rfl rfl)
theorem dX6_operand_26 : decode cX6_operand 26 = .ok (.iconst 1, 1) := dk_4 (dk_at dksX6_operand_1 3 rfl rfl)
theorem dX6_operand_27 : decode cX6_operand 27 = .ok (.iadd, 1) := dk_96 (dk_at dksX6_operand_1 4 rfl rfl)
theorem dX6_operand_28 : decode cX6_operand 28 = .ok (.putfield 202, 3) := dk_181 0 202 (dk_at dksX6_operand_1 5 rfl rfl)
theorem dX6_operand_31 : decode cX6_operand 31 = .ok (.goto 123, 3) := dk_167 0 123 (dk_at dksX6_operand_1 8 rfl rfl)
theorem dX6_operand_34 : decode cX6_operand 34 = .ok (.iload_n 1, 1) := dk_27 (dk_at dksX6_operand_1 11 rfl rfl)
theorem dX6_operand_35 : decode cX6_operand 35 = .ok (.bipush 33, 2) := dk_16 33 (dk_at dksX6_operand_1 12 rfl rfl)
theorem dX6_operand_37 : decode cX6_operand 37 = .ok (.if_icmp .eq 9, 3) := dk_159 0 9 (dk_at dksX6_operand_1 14 rfl rfl)
theorem dX6_operand_40 : decode cX6_operand 40 = .ok (.iload_n 1, 1) := dk_27 (dk_at dksX6_operand_1 17 rfl rfl)
theorem dX6_operand_41 : decode cX6_operand 41 = .ok (.bipush 45, 2) := dk_16 45 (dk_at dksX6_operand_1 18 rfl rfl)
theorem dX6_operand_43 : decode cX6_operand 43 = .ok (.if_icmp .ne 44, 3) := dk_160 0 44 (dk_at dksX6_operand_1 20 rfl rfl)
theorem dX6_operand_46 : decode cX6_operand 46 = .ok (.aload_n 0, 1) := dk_42 (dk_at dksX6_operand_1 23 rfl rfl)
theorem dX6_operand_47 : decode cX6_operand 47 = .ok (.invokevirtual 228, 3) := dk_182 0 228 (dk_at dksX6_operand_2 0 rfl rfl)
theorem dX6_operand_50 : decode cX6_operand 50 = .ok (.ifCond .ne 4, 3) := dk_154 0 4 (dk_at dksX6_operand_2 3 rfl rfl)
theorem dX6_operand_53 : decode cX6_operand 53 = .ok (.return_, 1) := dk_177 (dk_at dksX6_operand_2 6 rfl rfl)
theorem dX6_operand_54 : decode cX6_operand 54 = .ok (.aload_n 0, 1) := dk_42 (dk_at dksX6_operand_2 7 rfl rfl)
theorem dX6_operand_55 : decode cX6_operand 55 = .ok (.invokevirtual 232, 3) := dk_182 0 232 (dk_at dksX6_operand_2 8 rfl rfl)
theorem dX6_operand_58 : decode cX6_operand 58 = .ok (.aload_n 0, 1) := dk_42 (dk_at dksX6_operand_2 11 rfl rfl)
theorem dX6_operand_59 : decode cX6_operand 59 = .ok (.dup, 1) := dk_89 (dk_at dksX6_operand_2 12 rfl rfl)
theorem dX6_operand_60 : decode cX6_operand 60 = .ok (.getfield 211, 3) := dk_180 0 211 (dk_at dksX6_operand_2 13 rfl rfl)
theorem dX6_operand_63 : decode cX6_operand 63 = .ok (.iconst 1, 1) := dk_4 (dk_at dksX6_operand_2 16 rfl rfl)
theorem dX6_operand_64 : decode cX6_operand 64 = .ok (.isub, 1) := dk_100 (dk_at dksX6_operand_2 17 rfl rfl)
theorem dX6_operand_65 : decode cX6_operand 65 = .ok (.putfield 211, 3) := dk_181 0 211 (dk_at dksX6_operand_2 18 rfl rfl)
theorem dX6_operand_68 : decode cX6_operand 68 = .ok (.aload_n 0, 1) := dk_42 (dk_at dksX6_operand_2 21 rfl rfl)
theorem dX6_operand_69 : decode cX6_operand 69 = .ok (.iload_n 1, 1) := dk_27 (dk_at dksX6_operand_2 22 rfl rfl)
theorem dX6_operand_70 : decode cX6_operand 70 = .ok (.bipush 33, 2) := dk_16 33 (dk_at dksX6_operand_3 0 rfl rfl)
theorem dX6_operand_72 : decode cX6_operand 72 = .ok (.if_icmp .ne 7, 3) := dk_160 0 7 (dk_at dksX6_operand_3 2 rfl rfl)
theorem dX6_operand_75 : decode cX6_operand 75 = .ok (.iconst 3, 1) := dk_6 (dk_at dksX6_operand_3 5 rfl rfl)
theorem dX6_operand_76 : decode cX6_operand 76 = .ok (.goto 4, 3) := dk_167 0 4 (dk_at dksX6_operand_3 6 rfl rfl)
theorem dX6_operand_79 : decode cX6_operand 79 = .ok (.iconst 4, 1) := dk_7 (dk_at dksX6_operand_3 9 rfl rfl)
theorem dX6_operand_80 : decode cX6_operand 80 = .ok (.iconst 0, 1) := dk_3 (dk_at dksX6_operand_3 10 rfl rfl)
theorem dX6_operand_81 : decode cX6_operand 81 = .ok (.invokevirtual 221, 3) := dk_182 0 221 (dk_at dksX6_operand_3 11 rfl rfl)
theorem dX6_operand_84 : decode cX6_operand 84 = .ok (.goto 70, 3) := dk_167 0 70 (dk_at dksX6_operand_3 14 rfl rfl)
theorem dX6_operand_87 : decode cX6_operand 87 = .ok (.iload_n 1, 1) := dk_27 (dk_at dksX6_operand_3 17 rfl rfl)
theorem dX6_operand_88 : decode cX6_operand 88 = .ok (.bipush 40, 2) := dk_16 40 (dk_at dksX6_operand_3 18 rfl rfl)
theorem dX6_operand_90 : decode cX6_operand 90 = .ok (.if_icmp .ne 60, 3) := dk_160 0 60 (dk_at dksX6_operand_3 20 rfl rfl)
theorem dX6_operand_93 : decode cX6_operand 93 = .ok (.aload_n 0, 1) := dk_42 (dk_at dksX6_operand_3 23 rfl rfl)
theorem dX6_operand_94 : decode cX6_operand 94 = .ok (.invokevirtual 228, 3) := dk_182 0 228 (dk_at dksX6_operand_4 0 rfl rfl)
theorem dX6_operand_97 : decode cX6_operand 97 = .ok (.ifCond .ne 4, 3) := dk_154 0 4 (dk_at dksX6_operand_4 3 rfl rfl)
theorem dX6_operand_100 : decode cX6_operand 100 = .ok (.return_, 1) := dk_177 (dk_at dksX6_operand_4 6 rfl rfl)
theorem dX6_operand_101 : decode cX6_operand 101 = .ok (.aload_n 0, 1) := dk_42 (dk_at dksX6_operand_4 7 rfl rfl)
theorem dX6_operand_102 : decode cX6_operand 102 = .ok (.invokevirtual 235, 3) := dk_182 0 235 (dk_at dksX6_operand_4 8 rfl rfl)
theorem dX6_operand_105 : decode cX6_operand 105 = .ok (.aload_n 0, 1) := dk_42 (dk_at dksX6_operand_4 11 rfl rfl)
theorem dX6_operand_106 : decode cX6_operand 106 = .ok (.getfield 205, 3) := dk_180 0 205 (dk_at dksX6_operand_4 12 rfl rfl)
theorem dX6_operand_109 : decode cX6_operand 109 = .ok (.ifCond .lt 4, 3) := dk_155 0 4 (dk_at dksX6_operand_4 15 rfl rfl)
theorem dX6_operand_112 : decode cX6_operand 112 = .ok (.return_, 1) := dk_177 (dk_at dksX6_operand_4 18 rfl rfl)
theorem dX6_operand_113 : decode cX6_operand 113 = .ok (.aload_n 0, 1) := dk_42 (dk_at dksX6_operand_4 19 rfl rfl)
theorem dX6_operand_114 : decode cX6_operand 114 = .ok (.invokevirtual 217, 3) := dk_182 0 217 (dk_at dksX6_operand_4 20 rfl rfl)
theorem dX6_operand_117 : decode cX6_operand 117 = .ok (.bipush 41, 2) := dk_16 41 (dk_at dksX6_operand_5 0 rfl rfl)
theorem dX6_operand_119 : decode cX6_operand 119 = .ok (.if_icmp .eq 8, 3) := dk_159 0 8 (dk_at dksX6_operand_5 2 rfl rfl)
theorem dX6_operand_122 : decode cX6_operand 122 = .ok (.aload_n 0, 1) := dk_42 (dk_at dksX6_operand_5 5 rfl rfl)
theorem dX6_operand_123 : decode cX6_operand 123 = .ok (.invokevirtual 214, 3) := dk_182 0 214 (dk_at dksX6_operand_5 6 rfl rfl)
theorem dX6_operand_126 : decode cX6_operand 126 = .ok (.return_, 1) := dk_177 (dk_at dksX6_operand_5 9 rfl rfl)
theorem dX6_operand_127 : decode cX6_operand 127 = .ok (.aload_n 0, 1) := dk_42 (dk_at dksX6_operand_5 10 rfl rfl)
theorem dX6_operand_128 : decode cX6_operand 128 = .ok (.dup, 1) := dk_89 (dk_at dksX6_operand_5 11 rfl rfl)
theorem dX6_operand_129 : decode cX6_operand 129 = .ok (.getfield 202, 3) := dk_180 0 202 (dk_at dksX6_operand_5 12 rfl rfl)
theorem dX6_operand_132 : decode cX6_operand 132 = .ok (.iconst 1, 1) := dk_4 (dk_at dksX6_operand_5 15 rfl rfl)
theorem dX6_operand_133 : decode cX6_operand 133 = .ok (.iadd, 1) := dk_96 (dk_at dksX6_operand_5 16 rfl rfl)
theorem dX6_operand_134 : decode cX6_operand 134 = .ok (.putfield 202, 3) := dk_181 0 202 (dk_at dksX6_operand_5 17 rfl rfl)
theorem dX6_operand_137 : decode cX6_operand 137 = .ok (.aload_n 0, 1) := dk_42 (dk_at dksX6_operand_5 20 rfl rfl)
theorem dX6_operand_138 : decode cX6_operand 138 = .ok (.dup, 1) := dk_89 (dk_at dksX6_operand_5 21 rfl rfl)
theorem dX6_operand_139 : decode cX6_operand 139 = .ok (.getfield 211, 3) := dk_180 0 211 (dk_at dksX6_operand_6 0 rfl rfl)
theorem dX6_operand_142 : decode cX6_operand 142 = .ok (.iconst 1, 1) := dk_4 (dk_at dksX6_operand_6 3 rfl rfl)
theorem dX6_operand_143 : decode cX6_operand 143 = .ok (.isub, 1) := dk_100 (dk_at dksX6_operand_6 4 rfl rfl)
theorem dX6_operand_144 : decode cX6_operand 144 = .ok (.putfield 211, 3) := dk_181 0 211 (dk_at dksX6_operand_6 5 rfl rfl)
theorem dX6_operand_147 : decode cX6_operand 147 = .ok (.goto 7, 3) := dk_167 0 7 (dk_at dksX6_operand_6 8 rfl rfl)
theorem dX6_operand_150 : decode cX6_operand 150 = .ok (.aload_n 0, 1) := dk_42 (dk_at dksX6_operand_6 11 rfl rfl)
theorem dX6_operand_151 : decode cX6_operand 151 = .ok (.invokevirtual 238, 3) := dk_182 0 238 (dk_at dksX6_operand_6 12 rfl rfl)
theorem dX6_operand_154 : decode cX6_operand 154 = .ok (.return_, 1) := dk_177 (dk_at dksX6_operand_6 15 rfl rfl)
abbrev cX6_look : ByteArray := prog_25_method_21_code
def yX6_look : MethodName := ⟨RX6, "look", "()I"⟩
def dkwX6_look_1 : List UInt8 := [172]
abbrev dktX6_look_1 : List UInt8 := dkwX6_look_1 ++ []
def dkwX6_look_0 : List UInt8 := [42, 180, 0, 202, 42, 180, 0, 199, 162, 0, 15, 42, 180, 0, 55, 42, 180, 0, 202, 51, 167, 0, 4, 2]
abbrev dktX6_look_0 : List UInt8 := dkwX6_look_0 ++ dktX6_look_1
theorem dksX6_look_0 : cX6_look.data.toList.drop 0 = dktX6_look_0 := by decide +kernel
theorem dksX6_look_1 : cX6_look.data.toList.drop 24 = dktX6_look_1 := dk_seg dksX6_look_0 24 rfl rfl
theorem dX6_look_0 : decode cX6_look 0 = .ok (.aload_n 0, 1) := dk_42 (dk_at dksX6_look_0 0 rfl rfl)
theorem dX6_look_1 : decode cX6_look 1 = .ok (.getfield 202, 3) := dk_180 0 202 (dk_at dksX6_look_0 1 rfl rfl)
theorem dX6_look_4 : decode cX6_look 4 = .ok (.aload_n 0, 1) := dk_42 (dk_at dksX6_look_0 4 rfl rfl)
theorem dX6_look_5 : decode cX6_look 5 = .ok (.getfield 199, 3) := dk_180 0 199 (dk_at dksX6_look_0 5 rfl rfl)
theorem dX6_look_8 : decode cX6_look 8 = .ok (.if_icmp .ge 15, 3) := dk_162 0 15 (dk_at dksX6_look_0 8 rfl rfl)
theorem dX6_look_11 : decode cX6_look 11 = .ok (.aload_n 0, 1) := dk_42 (dk_at dksX6_look_0 11 rfl rfl)
theorem dX6_look_12 : decode cX6_look 12 = .ok (.getfield 55, 3) := dk_180 0 55 (dk_at dksX6_look_0 12 rfl rfl)
theorem dX6_look_15 : decode cX6_look 15 = .ok (.aload_n 0, 1) := dk_42 (dk_at dksX6_look_0 15 rfl rfl)
theorem dX6_look_16 : decode cX6_look 16 = .ok (.getfield 202, 3) := dk_180 0 202 (dk_at dksX6_look_0 16 rfl rfl)
theorem dX6_look_19 : decode cX6_look 19 = .ok (.baload, 1) := dk_51 (dk_at dksX6_look_0 19 rfl rfl)
theorem dX6_look_20 : decode cX6_look 20 = .ok (.goto 4, 3) := dk_167 0 4 (dk_at dksX6_look_0 20 rfl rfl)
theorem dX6_look_23 : decode cX6_look 23 = .ok (.iconst (-1), 1) := dk_2 (dk_at dksX6_look_0 23 rfl rfl)
theorem dX6_look_24 : decode cX6_look 24 = .ok (.ireturn, 1) := dk_172 (dk_at dksX6_look_1 0 rfl rfl)
abbrev cX6_nameOf : ByteArray := prog_25_method_24_code
def yX6_nameOf : MethodName := ⟨RX6, "nameOf", "(I)I"⟩
def dkwX6_nameOf_2 : List UInt8 := [3, 172, 4, 172, 5, 172, 6, 172, 7, 172, 8, 172, 2, 172]
abbrev dktX6_nameOf_2 : List UInt8 := dkwX6_nameOf_2 ++ []
def dkwX6_nameOf_1 : List UInt8 := [170, 0, 0, 0, 0, 0, 103, 0, 0, 0, 98, 0, 0, 0, 116, 0, 0, 0, 97, 0, 0, 0, 103, 0, 0, 0, 103, 0, 0, 0, 103, 0, 0, 0, 91, 0, 0, 0, 103, 0, 0, 0, 103, 0, 0, 0, 103, 0, 0, 0, 103, 0, 0, 0, 101, 0, 0, 0, 103, 0, 0, 0, 103, 0, 0, 0, 103, 0, 0, 0, 93, 0, 0, 0, 103, 0, 0, 0, 103, 0, 0, 0, 103, 0, 0, 0, 99, 0, 0, 0, 95]
abbrev dktX6_nameOf_1 : List UInt8 := dkwX6_nameOf_1 ++ dktX6_nameOf_2
def dkwX6_nameOf_0 : List UInt8 := [26]
abbrev dktX6_nameOf_0 : List UInt8 := dkwX6_nameOf_0 ++ dktX6_nameOf_1
theorem dksX6_nameOf_0 : cX6_nameOf.data.toList.drop 0 = dktX6_nameOf_0 := by decide +kernel
theorem dksX6_nameOf_1 : cX6_nameOf.data.toList.drop 1 = dktX6_nameOf_1 := dk_seg dksX6_nameOf_0 1 rfl rfl
theorem dksX6_nameOf_2 : cX6_nameOf.data.toList.drop 92 = dktX6_nameOf_2 := dk_seg dksX6_nameOf_1 91 rfl rfl
theorem dX6_nameOf_0 : decode cX6_nameOf 0 = .ok (.iload_n 0, 1) := dk_26 (dk_at dksX6_nameOf_0 0 rfl rfl)
theorem dX6_nameOf_1 : decode cX6_nameOf 1 = .ok (.tableswitch 103 98 116 #[97, 103, 103, 103, 91, 103, 103, 103, 103, 101, 103, 103, 103, 93, 103, 103, 103, 99, 95], 91) := by decide +kernel
theorem dX6_nameOf_92 : decode cX6_nameOf 92 = .ok (.iconst 0, 1) := dk_3 (dk_at dksX6_nameOf_2 0 rfl rfl)
theorem dX6_nameOf_93 : decode cX6_nameOf 93 = .ok (.ireturn, 1) := dk_172 (dk_at dksX6_nameOf_2 1 rfl rfl)
theorem dX6_nameOf_94 : decode cX6_nameOf 94 = .ok (.iconst 1, 1) := dk_4 (dk_at dksX6_nameOf_2 2 rfl rfl)
theorem dX6_nameOf_95 : decode cX6_nameOf 95 = .ok (.ireturn, 1) := dk_172 (dk_at dksX6_nameOf_2 3 rfl rfl)
theorem dX6_nameOf_96 : decode cX6_nameOf 96 = .ok (.iconst 2, 1) := dk_5 (dk_at dksX6_nameOf_2 4 rfl rfl)
theorem dX6_nameOf_97 : decode cX6_nameOf 97 = .ok (.ireturn, 1) := dk_172 (dk_at dksX6_nameOf_2 5 rfl rfl)
theorem dX6_nameOf_98 : decode cX6_nameOf 98 = .ok (.iconst 3, 1) := dk_6 (dk_at dksX6_nameOf_2 6 rfl rfl)
theorem dX6_nameOf_99 : decode cX6_nameOf 99 = .ok (.ireturn, 1) := dk_172 (dk_at dksX6_nameOf_2 7 rfl rfl)
theorem dX6_nameOf_100 : decode cX6_nameOf 100 = .ok (.iconst 4, 1) := dk_7 (dk_at dksX6_nameOf_2 8 rfl rfl)
theorem dX6_nameOf_101 : decode cX6_nameOf 101 = .ok (.ireturn, 1) := dk_172 (dk_at dksX6_nameOf_2 9 rfl rfl)
theorem dX6_nameOf_102 : decode cX6_nameOf 102 = .ok (.iconst 5, 1) := dk_8 (dk_at dksX6_nameOf_2 10 rfl rfl)
theorem dX6_nameOf_103 : decode cX6_nameOf 103 = .ok (.ireturn, 1) := dk_172 (dk_at dksX6_nameOf_2 11 rfl rfl)
theorem dX6_nameOf_104 : decode cX6_nameOf 104 = .ok (.iconst (-1), 1) := dk_2 (dk_at dksX6_nameOf_2 12 rfl rfl)
theorem dX6_nameOf_105 : decode cX6_nameOf 105 = .ok (.ireturn, 1) := dk_172 (dk_at dksX6_nameOf_2 13 rfl rfl)
abbrev cX6_addStep : ByteArray := prog_25_method_23_code
def yX6_addStep : MethodName := ⟨RX6, "addStep", "(II)V"⟩
def dkwX6_addStep_1 : List UInt8 := [180, 0, 208, 96, 28, 79, 42, 89, 180, 0, 208, 4, 96, 181, 0, 208, 177]
abbrev dktX6_addStep_1 : List UInt8 := dkwX6_addStep_1 ++ []
def dkwX6_addStep_0 : List UInt8 := [42, 180, 0, 59, 17, 0, 130, 42, 180, 0, 208, 96, 27, 145, 84, 42, 180, 0, 62, 17, 0, 130, 42]
abbrev dktX6_addStep_0 : List UInt8 := dkwX6_addStep_0 ++ dktX6_addStep_1
theorem dksX6_addStep_0 : cX6_addStep.data.toList.drop 0 = dktX6_addStep_0 := by decide +kernel
theorem dksX6_addStep_1 : cX6_addStep.data.toList.drop 23 = dktX6_addStep_1 := dk_seg dksX6_addStep_0 23 rfl rfl
theorem dX6_addStep_0 : decode cX6_addStep 0 = .ok (.aload_n 0, 1) := dk_42 (dk_at dksX6_addStep_0 0 rfl rfl)
theorem dX6_addStep_1 : decode cX6_addStep 1 = .ok (.getfield 59, 3) := dk_180 0 59 (dk_at dksX6_addStep_0 1 rfl rfl)
theorem dX6_addStep_4 : decode cX6_addStep 4 = .ok (.sipush 130, 3) := dk_17 0 130 (dk_at dksX6_addStep_0 4 rfl rfl)
theorem dX6_addStep_7 : decode cX6_addStep 7 = .ok (.aload_n 0, 1) := dk_42 (dk_at dksX6_addStep_0 7 rfl rfl)
theorem dX6_addStep_8 : decode cX6_addStep 8 = .ok (.getfield 208, 3) := dk_180 0 208 (dk_at dksX6_addStep_0 8 rfl rfl)
theorem dX6_addStep_11 : decode cX6_addStep 11 = .ok (.iadd, 1) := dk_96 (dk_at dksX6_addStep_0 11 rfl rfl)
theorem dX6_addStep_12 : decode cX6_addStep 12 = .ok (.iload_n 1, 1) := dk_27 (dk_at dksX6_addStep_0 12 rfl rfl)
theorem dX6_addStep_13 : decode cX6_addStep 13 = .ok (.i2b, 1) := dk_145 (dk_at dksX6_addStep_0 13 rfl rfl)
theorem dX6_addStep_14 : decode cX6_addStep 14 = .ok (.bastore, 1) := dk_84 (dk_at dksX6_addStep_0 14 rfl rfl)
theorem dX6_addStep_15 : decode cX6_addStep 15 = .ok (.aload_n 0, 1) := dk_42 (dk_at dksX6_addStep_0 15 rfl rfl)
theorem dX6_addStep_16 : decode cX6_addStep 16 = .ok (.getfield 62, 3) := dk_180 0 62 (dk_at dksX6_addStep_0 16 rfl rfl)
theorem dX6_addStep_19 : decode cX6_addStep 19 = .ok (.sipush 130, 3) := dk_17 0 130 (dk_at dksX6_addStep_0 19 rfl rfl)
theorem dX6_addStep_22 : decode cX6_addStep 22 = .ok (.aload_n 0, 1) := dk_42 (dk_at dksX6_addStep_0 22 rfl rfl)
theorem dX6_addStep_23 : decode cX6_addStep 23 = .ok (.getfield 208, 3) := dk_180 0 208 (dk_at dksX6_addStep_1 0 rfl rfl)
theorem dX6_addStep_26 : decode cX6_addStep 26 = .ok (.iadd, 1) := dk_96 (dk_at dksX6_addStep_1 3 rfl rfl)
theorem dX6_addStep_27 : decode cX6_addStep 27 = .ok (.iload_n 2, 1) := dk_28 (dk_at dksX6_addStep_1 4 rfl rfl)
theorem dX6_addStep_28 : decode cX6_addStep 28 = .ok (.iastore, 1) := dk_79 (dk_at dksX6_addStep_1 5 rfl rfl)
theorem dX6_addStep_29 : decode cX6_addStep 29 = .ok (.aload_n 0, 1) := dk_42 (dk_at dksX6_addStep_1 6 rfl rfl)
theorem dX6_addStep_30 : decode cX6_addStep 30 = .ok (.dup, 1) := dk_89 (dk_at dksX6_addStep_1 7 rfl rfl)
theorem dX6_addStep_31 : decode cX6_addStep 31 = .ok (.getfield 208, 3) := dk_180 0 208 (dk_at dksX6_addStep_1 8 rfl rfl)
theorem dX6_addStep_34 : decode cX6_addStep 34 = .ok (.iconst 1, 1) := dk_4 (dk_at dksX6_addStep_1 11 rfl rfl)
theorem dX6_addStep_35 : decode cX6_addStep 35 = .ok (.iadd, 1) := dk_96 (dk_at dksX6_addStep_1 12 rfl rfl)
theorem dX6_addStep_36 : decode cX6_addStep 36 = .ok (.putfield 208, 3) := dk_181 0 208 (dk_at dksX6_addStep_1 13 rfl rfl)
theorem dX6_addStep_39 : decode cX6_addStep 39 = .ok (.return_, 1) := dk_177 (dk_at dksX6_addStep_1 16 rfl rfl)
abbrev cX6_opens : ByteArray := prog_25_method_25_code
def yX6_opens : MethodName := ⟨RX6, "opens", "()Z"⟩
def dkwX6_opens_1 : List UInt8 := [181, 0, 211, 42, 89, 180, 0, 202, 4, 96, 181, 0, 202, 4, 172]
abbrev dktX6_opens_1 : List UInt8 := dkwX6_opens_1 ++ []
def dkwX6_opens_0 : List UInt8 := [42, 180, 0, 211, 16, 6, 160, 0, 9, 42, 182, 0, 214, 3, 172, 42, 89, 180, 0, 211, 4, 96]
abbrev dktX6_opens_0 : List UInt8 := dkwX6_opens_0 ++ dktX6_opens_1
theorem dksX6_opens_0 : cX6_opens.data.toList.drop 0 = dktX6_opens_0 := by decide +kernel
theorem dksX6_opens_1 : cX6_opens.data.toList.drop 22 = dktX6_opens_1 := dk_seg dksX6_opens_0 22 rfl rfl
theorem dX6_opens_0 : decode cX6_opens 0 = .ok (.aload_n 0, 1) := dk_42 (dk_at dksX6_opens_0 0 rfl rfl)
theorem dX6_opens_1 : decode cX6_opens 1 = .ok (.getfield 211, 3) := dk_180 0 211 (dk_at dksX6_opens_0 1 rfl rfl)
theorem dX6_opens_4 : decode cX6_opens 4 = .ok (.bipush 6, 2) := dk_16 6 (dk_at dksX6_opens_0 4 rfl rfl)
theorem dX6_opens_6 : decode cX6_opens 6 = .ok (.if_icmp .ne 9, 3) := dk_160 0 9 (dk_at dksX6_opens_0 6 rfl rfl)
theorem dX6_opens_9 : decode cX6_opens 9 = .ok (.aload_n 0, 1) := dk_42 (dk_at dksX6_opens_0 9 rfl rfl)
theorem dX6_opens_10 : decode cX6_opens 10 = .ok (.invokevirtual 214, 3) := dk_182 0 214 (dk_at dksX6_opens_0 10 rfl rfl)
theorem dX6_opens_13 : decode cX6_opens 13 = .ok (.iconst 0, 1) := dk_3 (dk_at dksX6_opens_0 13 rfl rfl)
theorem dX6_opens_14 : decode cX6_opens 14 = .ok (.ireturn, 1) := dk_172 (dk_at dksX6_opens_0 14 rfl rfl)
theorem dX6_opens_15 : decode cX6_opens 15 = .ok (.aload_n 0, 1) := dk_42 (dk_at dksX6_opens_0 15 rfl rfl)
theorem dX6_opens_16 : decode cX6_opens 16 = .ok (.dup, 1) := dk_89 (dk_at dksX6_opens_0 16 rfl rfl)
theorem dX6_opens_17 : decode cX6_opens 17 = .ok (.getfield 211, 3) := dk_180 0 211 (dk_at dksX6_opens_0 17 rfl rfl)
theorem dX6_opens_20 : decode cX6_opens 20 = .ok (.iconst 1, 1) := dk_4 (dk_at dksX6_opens_0 20 rfl rfl)
theorem dX6_opens_21 : decode cX6_opens 21 = .ok (.iadd, 1) := dk_96 (dk_at dksX6_opens_0 21 rfl rfl)
theorem dX6_opens_22 : decode cX6_opens 22 = .ok (.putfield 211, 3) := dk_181 0 211 (dk_at dksX6_opens_1 0 rfl rfl)
theorem dX6_opens_25 : decode cX6_opens 25 = .ok (.aload_n 0, 1) := dk_42 (dk_at dksX6_opens_1 3 rfl rfl)
theorem dX6_opens_26 : decode cX6_opens 26 = .ok (.dup, 1) := dk_89 (dk_at dksX6_opens_1 4 rfl rfl)
theorem dX6_opens_27 : decode cX6_opens 27 = .ok (.getfield 202, 3) := dk_180 0 202 (dk_at dksX6_opens_1 5 rfl rfl)
theorem dX6_opens_30 : decode cX6_opens 30 = .ok (.iconst 1, 1) := dk_4 (dk_at dksX6_opens_1 8 rfl rfl)
theorem dX6_opens_31 : decode cX6_opens 31 = .ok (.iadd, 1) := dk_96 (dk_at dksX6_opens_1 9 rfl rfl)
theorem dX6_opens_32 : decode cX6_opens 32 = .ok (.putfield 202, 3) := dk_181 0 202 (dk_at dksX6_opens_1 10 rfl rfl)
theorem dX6_opens_35 : decode cX6_opens 35 = .ok (.iconst 1, 1) := dk_4 (dk_at dksX6_opens_1 13 rfl rfl)
theorem dX6_opens_36 : decode cX6_opens 36 = .ok (.ireturn, 1) := dk_172 (dk_at dksX6_opens_1 14 rfl rfl)
abbrev cX6_faulty : ByteArray := prog_25_method_22_code
def yX6_faulty : MethodName := ⟨RX6, "faulty", "()V"⟩
def dkwX6_faulty_0 : List UInt8 := [42, 180, 0, 205, 156, 0, 11, 42, 42, 180, 0, 202, 181, 0, 205, 177]
abbrev dktX6_faulty_0 : List UInt8 := dkwX6_faulty_0 ++ []
theorem dksX6_faulty_0 : cX6_faulty.data.toList.drop 0 = dktX6_faulty_0 := by decide +kernel
theorem dX6_faulty_0 : decode cX6_faulty 0 = .ok (.aload_n 0, 1) := dk_42 (dk_at dksX6_faulty_0 0 rfl rfl)
theorem dX6_faulty_1 : decode cX6_faulty 1 = .ok (.getfield 205, 3) := dk_180 0 205 (dk_at dksX6_faulty_0 1 rfl rfl)
theorem dX6_faulty_4 : decode cX6_faulty 4 = .ok (.ifCond .ge 11, 3) := dk_156 0 11 (dk_at dksX6_faulty_0 4 rfl rfl)
theorem dX6_faulty_7 : decode cX6_faulty 7 = .ok (.aload_n 0, 1) := dk_42 (dk_at dksX6_faulty_0 7 rfl rfl)
theorem dX6_faulty_8 : decode cX6_faulty 8 = .ok (.aload_n 0, 1) := dk_42 (dk_at dksX6_faulty_0 8 rfl rfl)
theorem dX6_faulty_9 : decode cX6_faulty 9 = .ok (.getfield 202, 3) := dk_180 0 202 (dk_at dksX6_faulty_0 9 rfl rfl)
theorem dX6_faulty_12 : decode cX6_faulty 12 = .ok (.putfield 205, 3) := dk_181 0 205 (dk_at dksX6_faulty_0 12 rfl rfl)
theorem dX6_faulty_15 : decode cX6_faulty 15 = .ok (.return_, 1) := dk_177 (dk_at dksX6_faulty_0 15 rfl rfl)
abbrev cX6_figure : ByteArray := prog_25_method_26_code
def yX6_figure : MethodName := ⟨RX6, "figure", "()V"⟩
def dkwX6_figure_3 : List UInt8 := [42, 182, 0, 214, 42, 4, 27, 182, 0, 221, 177]
abbrev dktX6_figure_3 : List UInt8 := dkwX6_figure_3 ++ []
def dkwX6_figure_2 : List UInt8 := [181, 0, 202, 167, 255, 211, 28, 153, 0, 17, 42, 182, 0, 217, 16, 48, 16, 57, 184, 0, 145, 153, 0, 7]
abbrev dktX6_figure_2 : List UInt8 := dkwX6_figure_2 ++ dktX6_figure_3
def dkwX6_figure_1 : List UInt8 := [16, 10, 27, 104, 42, 182, 0, 217, 96, 16, 48, 100, 60, 132, 2, 1, 42, 89, 180, 0, 202, 4, 96]
abbrev dktX6_figure_1 : List UInt8 := dkwX6_figure_1 ++ dktX6_figure_2
def dkwX6_figure_0 : List UInt8 := [3, 60, 3, 61, 28, 7, 162, 0, 46, 42, 182, 0, 217, 16, 48, 16, 57, 184, 0, 145, 153, 0, 32]
abbrev dktX6_figure_0 : List UInt8 := dkwX6_figure_0 ++ dktX6_figure_1
theorem dksX6_figure_0 : cX6_figure.data.toList.drop 0 = dktX6_figure_0 := by decide +kernel
theorem dksX6_figure_1 : cX6_figure.data.toList.drop 23 = dktX6_figure_1 := dk_seg dksX6_figure_0 23 rfl rfl
theorem dksX6_figure_2 : cX6_figure.data.toList.drop 46 = dktX6_figure_2 := dk_seg dksX6_figure_1 23 rfl rfl
theorem dksX6_figure_3 : cX6_figure.data.toList.drop 70 = dktX6_figure_3 := dk_seg dksX6_figure_2 24 rfl rfl
theorem dX6_figure_0 : decode cX6_figure 0 = .ok (.iconst 0, 1) := dk_3 (dk_at dksX6_figure_0 0 rfl rfl)
theorem dX6_figure_1 : decode cX6_figure 1 = .ok (.istore_n 1, 1) := dk_60 (dk_at dksX6_figure_0 1 rfl rfl)
theorem dX6_figure_2 : decode cX6_figure 2 = .ok (.iconst 0, 1) := dk_3 (dk_at dksX6_figure_0 2 rfl rfl)
theorem dX6_figure_3 : decode cX6_figure 3 = .ok (.istore_n 2, 1) := dk_61 (dk_at dksX6_figure_0 3 rfl rfl)
theorem dX6_figure_4 : decode cX6_figure 4 = .ok (.iload_n 2, 1) := dk_28 (dk_at dksX6_figure_0 4 rfl rfl)
theorem dX6_figure_5 : decode cX6_figure 5 = .ok (.iconst 4, 1) := dk_7 (dk_at dksX6_figure_0 5 rfl rfl)
theorem dX6_figure_6 : decode cX6_figure 6 = .ok (.if_icmp .ge 46, 3) := dk_162 0 46 (dk_at dksX6_figure_0 6 rfl rfl)
theorem dX6_figure_9 : decode cX6_figure 9 = .ok (.aload_n 0, 1) := dk_42 (dk_at dksX6_figure_0 9 rfl rfl)
theorem dX6_figure_10 : decode cX6_figure 10 = .ok (.invokevirtual 217, 3) := dk_182 0 217 (dk_at dksX6_figure_0 10 rfl rfl)
theorem dX6_figure_13 : decode cX6_figure 13 = .ok (.bipush 48, 2) := dk_16 48 (dk_at dksX6_figure_0 13 rfl rfl)
theorem dX6_figure_15 : decode cX6_figure 15 = .ok (.bipush 57, 2) := dk_16 57 (dk_at dksX6_figure_0 15 rfl rfl)
theorem dX6_figure_17 : decode cX6_figure 17 = .ok (.invokestatic 145, 3) := dk_184 0 145 (dk_at dksX6_figure_0 17 rfl rfl)
theorem dX6_figure_20 : decode cX6_figure 20 = .ok (.ifCond .eq 32, 3) := dk_153 0 32 (dk_at dksX6_figure_0 20 rfl rfl)
theorem dX6_figure_23 : decode cX6_figure 23 = .ok (.bipush 10, 2) := dk_16 10 (dk_at dksX6_figure_1 0 rfl rfl)
theorem dX6_figure_25 : decode cX6_figure 25 = .ok (.iload_n 1, 1) := dk_27 (dk_at dksX6_figure_1 2 rfl rfl)
theorem dX6_figure_26 : decode cX6_figure 26 = .ok (.imul, 1) := dk_104 (dk_at dksX6_figure_1 3 rfl rfl)
theorem dX6_figure_27 : decode cX6_figure 27 = .ok (.aload_n 0, 1) := dk_42 (dk_at dksX6_figure_1 4 rfl rfl)
theorem dX6_figure_28 : decode cX6_figure 28 = .ok (.invokevirtual 217, 3) := dk_182 0 217 (dk_at dksX6_figure_1 5 rfl rfl)
theorem dX6_figure_31 : decode cX6_figure 31 = .ok (.iadd, 1) := dk_96 (dk_at dksX6_figure_1 8 rfl rfl)
theorem dX6_figure_32 : decode cX6_figure 32 = .ok (.bipush 48, 2) := dk_16 48 (dk_at dksX6_figure_1 9 rfl rfl)
theorem dX6_figure_34 : decode cX6_figure 34 = .ok (.isub, 1) := dk_100 (dk_at dksX6_figure_1 11 rfl rfl)
theorem dX6_figure_35 : decode cX6_figure 35 = .ok (.istore_n 1, 1) := dk_60 (dk_at dksX6_figure_1 12 rfl rfl)
theorem dX6_figure_36 : decode cX6_figure 36 = .ok (.iinc 2 1, 3) := dk_132 2 1 (dk_at dksX6_figure_1 13 rfl rfl)
theorem dX6_figure_39 : decode cX6_figure 39 = .ok (.aload_n 0, 1) := dk_42 (dk_at dksX6_figure_1 16 rfl rfl)
theorem dX6_figure_40 : decode cX6_figure 40 = .ok (.dup, 1) := dk_89 (dk_at dksX6_figure_1 17 rfl rfl)
theorem dX6_figure_41 : decode cX6_figure 41 = .ok (.getfield 202, 3) := dk_180 0 202 (dk_at dksX6_figure_1 18 rfl rfl)
theorem dX6_figure_44 : decode cX6_figure 44 = .ok (.iconst 1, 1) := dk_4 (dk_at dksX6_figure_1 21 rfl rfl)
theorem dX6_figure_45 : decode cX6_figure 45 = .ok (.iadd, 1) := dk_96 (dk_at dksX6_figure_1 22 rfl rfl)
theorem dX6_figure_46 : decode cX6_figure 46 = .ok (.putfield 202, 3) := dk_181 0 202 (dk_at dksX6_figure_2 0 rfl rfl)
theorem dX6_figure_49 : decode cX6_figure 49 = .ok (.goto (-45), 3) := dk_167 255 211 (dk_at dksX6_figure_2 3 rfl rfl)
theorem dX6_figure_52 : decode cX6_figure 52 = .ok (.iload_n 2, 1) := dk_28 (dk_at dksX6_figure_2 6 rfl rfl)
theorem dX6_figure_53 : decode cX6_figure 53 = .ok (.ifCond .eq 17, 3) := dk_153 0 17 (dk_at dksX6_figure_2 7 rfl rfl)
theorem dX6_figure_56 : decode cX6_figure 56 = .ok (.aload_n 0, 1) := dk_42 (dk_at dksX6_figure_2 10 rfl rfl)
theorem dX6_figure_57 : decode cX6_figure 57 = .ok (.invokevirtual 217, 3) := dk_182 0 217 (dk_at dksX6_figure_2 11 rfl rfl)
theorem dX6_figure_60 : decode cX6_figure 60 = .ok (.bipush 48, 2) := dk_16 48 (dk_at dksX6_figure_2 14 rfl rfl)
theorem dX6_figure_62 : decode cX6_figure 62 = .ok (.bipush 57, 2) := dk_16 57 (dk_at dksX6_figure_2 16 rfl rfl)
theorem dX6_figure_64 : decode cX6_figure 64 = .ok (.invokestatic 145, 3) := dk_184 0 145 (dk_at dksX6_figure_2 18 rfl rfl)
theorem dX6_figure_67 : decode cX6_figure 67 = .ok (.ifCond .eq 7, 3) := dk_153 0 7 (dk_at dksX6_figure_2 21 rfl rfl)
theorem dX6_figure_70 : decode cX6_figure 70 = .ok (.aload_n 0, 1) := dk_42 (dk_at dksX6_figure_3 0 rfl rfl)
theorem dX6_figure_71 : decode cX6_figure 71 = .ok (.invokevirtual 214, 3) := dk_182 0 214 (dk_at dksX6_figure_3 1 rfl rfl)
theorem dX6_figure_74 : decode cX6_figure 74 = .ok (.aload_n 0, 1) := dk_42 (dk_at dksX6_figure_3 4 rfl rfl)
theorem dX6_figure_75 : decode cX6_figure 75 = .ok (.iconst 1, 1) := dk_4 (dk_at dksX6_figure_3 5 rfl rfl)
theorem dX6_figure_76 : decode cX6_figure 76 = .ok (.iload_n 1, 1) := dk_27 (dk_at dksX6_figure_3 6 rfl rfl)
theorem dX6_figure_77 : decode cX6_figure 77 = .ok (.invokevirtual 221, 3) := dk_182 0 221 (dk_at dksX6_figure_3 7 rfl rfl)
theorem dX6_figure_80 : decode cX6_figure 80 = .ok (.return_, 1) := dk_177 (dk_at dksX6_figure_3 10 rfl rfl)
abbrev cX6_level : ByteArray := prog_25_method_49_code
def yX6_level : MethodName := ⟨RX6, "level", "(III)I"⟩
def dkwX6_level_4 : List UInt8 := [21, 4, 172]
abbrev dktX6_level_4 : List UInt8 := dkwX6_level_4 ++ []
def dkwX6_level_3 : List UInt8 := [21, 4, 46, 182, 1, 41, 132, 4, 1, 167, 255, 236, 42, 180, 0, 40, 28, 46, 54, 4, 42, 182, 1, 44]
abbrev dktX6_level_3 : List UInt8 := dkwX6_level_3 ++ dktX6_level_4
def dkwX6_level_2 : List UInt8 := [164, 0, 5, 2, 172, 42, 182, 1, 38, 3, 54, 4, 21, 4, 29, 162, 0, 20, 42, 42, 180, 0, 90]
abbrev dktX6_level_2 : List UInt8 := dkwX6_level_2 ++ dktX6_level_3
def dkwX6_level_1 : List UInt8 := [182, 1, 32, 156, 0, 9, 42, 27, 182, 1, 32, 172, 42, 27, 182, 1, 35, 29, 42, 180, 1, 29]
abbrev dktX6_level_1 : List UInt8 := dkwX6_level_1 ++ dktX6_level_2
def dkwX6_level_0 : List UInt8 := [27, 184, 0, 163, 153, 0, 14, 28, 184, 0, 156, 153, 0, 7, 29, 156, 0, 5, 2, 172, 42, 27]
abbrev dktX6_level_0 : List UInt8 := dkwX6_level_0 ++ dktX6_level_1
theorem dksX6_level_0 : cX6_level.data.toList.drop 0 = dktX6_level_0 := by decide +kernel
theorem dksX6_level_1 : cX6_level.data.toList.drop 22 = dktX6_level_1 := dk_seg dksX6_level_0 22 rfl rfl
theorem dksX6_level_2 : cX6_level.data.toList.drop 44 = dktX6_level_2 := dk_seg dksX6_level_1 22 rfl rfl
theorem dksX6_level_3 : cX6_level.data.toList.drop 67 = dktX6_level_3 := dk_seg dksX6_level_2 23 rfl rfl
theorem dksX6_level_4 : cX6_level.data.toList.drop 91 = dktX6_level_4 := dk_seg dksX6_level_3 24 rfl rfl
theorem dX6_level_0 : decode cX6_level 0 = .ok (.iload_n 1, 1) := dk_27 (dk_at dksX6_level_0 0 rfl rfl)
theorem dX6_level_1 : decode cX6_level 1 = .ok (.invokestatic 163, 3) := dk_184 0 163 (dk_at dksX6_level_0 1 rfl rfl)
theorem dX6_level_4 : decode cX6_level 4 = .ok (.ifCond .eq 14, 3) := dk_153 0 14 (dk_at dksX6_level_0 4 rfl rfl)
theorem dX6_level_7 : decode cX6_level 7 = .ok (.iload_n 2, 1) := dk_28 (dk_at dksX6_level_0 7 rfl rfl)
theorem dX6_level_8 : decode cX6_level 8 = .ok (.invokestatic 156, 3) := dk_184 0 156 (dk_at dksX6_level_0 8 rfl rfl)
theorem dX6_level_11 : decode cX6_level 11 = .ok (.ifCond .eq 7, 3) := dk_153 0 7 (dk_at dksX6_level_0 11 rfl rfl)
theorem dX6_level_14 : decode cX6_level 14 = .ok (.iload_n 3, 1) := dk_29 (dk_at dksX6_level_0 14 rfl rfl)
theorem dX6_level_15 : decode cX6_level 15 = .ok (.ifCond .ge 5, 3) := dk_156 0 5 (dk_at dksX6_level_0 15 rfl rfl)
theorem dX6_level_18 : decode cX6_level 18 = .ok (.iconst (-1), 1) := dk_2 (dk_at dksX6_level_0 18 rfl rfl)
theorem dX6_level_19 : decode cX6_level 19 = .ok (.ireturn, 1) := dk_172 (dk_at dksX6_level_0 19 rfl rfl)
theorem dX6_level_20 : decode cX6_level 20 = .ok (.aload_n 0, 1) := dk_42 (dk_at dksX6_level_0 20 rfl rfl)
theorem dX6_level_21 : decode cX6_level 21 = .ok (.iload_n 1, 1) := dk_27 (dk_at dksX6_level_0 21 rfl rfl)
theorem dX6_level_22 : decode cX6_level 22 = .ok (.invokevirtual 288, 3) := dk_182 1 32 (dk_at dksX6_level_1 0 rfl rfl)
theorem dX6_level_25 : decode cX6_level 25 = .ok (.ifCond .ge 9, 3) := dk_156 0 9 (dk_at dksX6_level_1 3 rfl rfl)
theorem dX6_level_28 : decode cX6_level 28 = .ok (.aload_n 0, 1) := dk_42 (dk_at dksX6_level_1 6 rfl rfl)
theorem dX6_level_29 : decode cX6_level 29 = .ok (.iload_n 1, 1) := dk_27 (dk_at dksX6_level_1 7 rfl rfl)
theorem dX6_level_30 : decode cX6_level 30 = .ok (.invokevirtual 288, 3) := dk_182 1 32 (dk_at dksX6_level_1 8 rfl rfl)
theorem dX6_level_33 : decode cX6_level 33 = .ok (.ireturn, 1) := dk_172 (dk_at dksX6_level_1 11 rfl rfl)
theorem dX6_level_34 : decode cX6_level 34 = .ok (.aload_n 0, 1) := dk_42 (dk_at dksX6_level_1 12 rfl rfl)
theorem dX6_level_35 : decode cX6_level 35 = .ok (.iload_n 1, 1) := dk_27 (dk_at dksX6_level_1 13 rfl rfl)
theorem dX6_level_36 : decode cX6_level 36 = .ok (.invokevirtual 291, 3) := dk_182 1 35 (dk_at dksX6_level_1 14 rfl rfl)
theorem dX6_level_39 : decode cX6_level 39 = .ok (.iload_n 3, 1) := dk_29 (dk_at dksX6_level_1 17 rfl rfl)
theorem dX6_level_40 : decode cX6_level 40 = .ok (.aload_n 0, 1) := dk_42 (dk_at dksX6_level_1 18 rfl rfl)
theorem dX6_level_41 : decode cX6_level 41 = .ok (.getfield 285, 3) := dk_180 1 29 (dk_at dksX6_level_1 19 rfl rfl)
theorem dX6_level_44 : decode cX6_level 44 = .ok (.if_icmp .le 5, 3) := dk_164 0 5 (dk_at dksX6_level_2 0 rfl rfl)
theorem dX6_level_47 : decode cX6_level 47 = .ok (.iconst (-1), 1) := dk_2 (dk_at dksX6_level_2 3 rfl rfl)
theorem dX6_level_48 : decode cX6_level 48 = .ok (.ireturn, 1) := dk_172 (dk_at dksX6_level_2 4 rfl rfl)
theorem dX6_level_49 : decode cX6_level 49 = .ok (.aload_n 0, 1) := dk_42 (dk_at dksX6_level_2 5 rfl rfl)
theorem dX6_level_50 : decode cX6_level 50 = .ok (.invokevirtual 294, 3) := dk_182 1 38 (dk_at dksX6_level_2 6 rfl rfl)
theorem dX6_level_53 : decode cX6_level 53 = .ok (.iconst 0, 1) := dk_3 (dk_at dksX6_level_2 9 rfl rfl)
theorem dX6_level_54 : decode cX6_level 54 = .ok (.istore 4, 2) := dk_54 4 (dk_at dksX6_level_2 10 rfl rfl)
theorem dX6_level_56 : decode cX6_level 56 = .ok (.iload 4, 2) := dk_21 4 (dk_at dksX6_level_2 12 rfl rfl)
theorem dX6_level_58 : decode cX6_level 58 = .ok (.iload_n 3, 1) := dk_29 (dk_at dksX6_level_2 14 rfl rfl)
theorem dX6_level_59 : decode cX6_level 59 = .ok (.if_icmp .ge 20, 3) := dk_162 0 20 (dk_at dksX6_level_2 15 rfl rfl)
theorem dX6_level_62 : decode cX6_level 62 = .ok (.aload_n 0, 1) := dk_42 (dk_at dksX6_level_2 18 rfl rfl)
theorem dX6_level_63 : decode cX6_level 63 = .ok (.aload_n 0, 1) := dk_42 (dk_at dksX6_level_2 19 rfl rfl)
theorem dX6_level_64 : decode cX6_level 64 = .ok (.getfield 90, 3) := dk_180 0 90 (dk_at dksX6_level_2 20 rfl rfl)
theorem dX6_level_67 : decode cX6_level 67 = .ok (.iload 4, 2) := dk_21 4 (dk_at dksX6_level_3 0 rfl rfl)
theorem dX6_level_69 : decode cX6_level 69 = .ok (.iaload, 1) := dk_46 (dk_at dksX6_level_3 2 rfl rfl)
theorem dX6_level_70 : decode cX6_level 70 = .ok (.invokevirtual 297, 3) := dk_182 1 41 (dk_at dksX6_level_3 3 rfl rfl)
theorem dX6_level_73 : decode cX6_level 73 = .ok (.iinc 4 1, 3) := dk_132 4 1 (dk_at dksX6_level_3 6 rfl rfl)
theorem dX6_level_76 : decode cX6_level 76 = .ok (.goto (-20), 3) := dk_167 255 236 (dk_at dksX6_level_3 9 rfl rfl)
theorem dX6_level_79 : decode cX6_level 79 = .ok (.aload_n 0, 1) := dk_42 (dk_at dksX6_level_3 12 rfl rfl)
theorem dX6_level_80 : decode cX6_level 80 = .ok (.getfield 40, 3) := dk_180 0 40 (dk_at dksX6_level_3 13 rfl rfl)
theorem dX6_level_83 : decode cX6_level 83 = .ok (.iload_n 2, 1) := dk_28 (dk_at dksX6_level_3 16 rfl rfl)
theorem dX6_level_84 : decode cX6_level 84 = .ok (.iaload, 1) := dk_46 (dk_at dksX6_level_3 17 rfl rfl)
theorem dX6_level_85 : decode cX6_level 85 = .ok (.istore 4, 2) := dk_54 4 (dk_at dksX6_level_3 18 rfl rfl)
theorem dX6_level_87 : decode cX6_level 87 = .ok (.aload_n 0, 1) := dk_42 (dk_at dksX6_level_3 20 rfl rfl)
theorem dX6_level_88 : decode cX6_level 88 = .ok (.invokevirtual 300, 3) := dk_182 1 44 (dk_at dksX6_level_3 21 rfl rfl)
theorem dX6_level_91 : decode cX6_level 91 = .ok (.iload 4, 2) := dk_21 4 (dk_at dksX6_level_4 0 rfl rfl)
theorem dX6_level_93 : decode cX6_level 93 = .ok (.ireturn, 1) := dk_172 (dk_at dksX6_level_4 2 rfl rfl)
abbrev cX6_rowFault : ByteArray := prog_25_method_47_code
def yX6_rowFault : MethodName := ⟨RX6, "rowFault", "(I)I"⟩
def dkwX6_rowFault_1 : List UInt8 := [160, 0, 7, 3, 167, 0, 5, 16, 244, 172]
abbrev dktX6_rowFault_1 : List UInt8 := dkwX6_rowFault_1 ++ []
def dkwX6_rowFault_0 : List UInt8 := [42, 180, 0, 129, 27, 46, 2, 160, 0, 8, 16, 245, 167, 0, 20, 42, 180, 0, 129, 27, 46, 16, 254]
abbrev dktX6_rowFault_0 : List UInt8 := dkwX6_rowFault_0 ++ dktX6_rowFault_1
theorem dksX6_rowFault_0 : cX6_rowFault.data.toList.drop 0 = dktX6_rowFault_0 := by decide +kernel
theorem dksX6_rowFault_1 : cX6_rowFault.data.toList.drop 23 = dktX6_rowFault_1 := dk_seg dksX6_rowFault_0 23 rfl rfl
theorem dX6_rowFault_0 : decode cX6_rowFault 0 = .ok (.aload_n 0, 1) := dk_42 (dk_at dksX6_rowFault_0 0 rfl rfl)
theorem dX6_rowFault_1 : decode cX6_rowFault 1 = .ok (.getfield 129, 3) := dk_180 0 129 (dk_at dksX6_rowFault_0 1 rfl rfl)
theorem dX6_rowFault_4 : decode cX6_rowFault 4 = .ok (.iload_n 1, 1) := dk_27 (dk_at dksX6_rowFault_0 4 rfl rfl)
theorem dX6_rowFault_5 : decode cX6_rowFault 5 = .ok (.iaload, 1) := dk_46 (dk_at dksX6_rowFault_0 5 rfl rfl)
theorem dX6_rowFault_6 : decode cX6_rowFault 6 = .ok (.iconst (-1), 1) := dk_2 (dk_at dksX6_rowFault_0 6 rfl rfl)
theorem dX6_rowFault_7 : decode cX6_rowFault 7 = .ok (.if_icmp .ne 8, 3) := dk_160 0 8 (dk_at dksX6_rowFault_0 7 rfl rfl)
theorem dX6_rowFault_10 : decode cX6_rowFault 10 = .ok (.bipush (-11), 2) := dk_16 245 (dk_at dksX6_rowFault_0 10 rfl rfl)
theorem dX6_rowFault_12 : decode cX6_rowFault 12 = .ok (.goto 20, 3) := dk_167 0 20 (dk_at dksX6_rowFault_0 12 rfl rfl)
theorem dX6_rowFault_15 : decode cX6_rowFault 15 = .ok (.aload_n 0, 1) := dk_42 (dk_at dksX6_rowFault_0 15 rfl rfl)
theorem dX6_rowFault_16 : decode cX6_rowFault 16 = .ok (.getfield 129, 3) := dk_180 0 129 (dk_at dksX6_rowFault_0 16 rfl rfl)
theorem dX6_rowFault_19 : decode cX6_rowFault 19 = .ok (.iload_n 1, 1) := dk_27 (dk_at dksX6_rowFault_0 19 rfl rfl)
theorem dX6_rowFault_20 : decode cX6_rowFault 20 = .ok (.iaload, 1) := dk_46 (dk_at dksX6_rowFault_0 20 rfl rfl)
theorem dX6_rowFault_21 : decode cX6_rowFault 21 = .ok (.bipush (-2), 2) := dk_16 254 (dk_at dksX6_rowFault_0 21 rfl rfl)
theorem dX6_rowFault_23 : decode cX6_rowFault 23 = .ok (.if_icmp .ne 7, 3) := dk_160 0 7 (dk_at dksX6_rowFault_1 0 rfl rfl)
theorem dX6_rowFault_26 : decode cX6_rowFault 26 = .ok (.iconst 0, 1) := dk_3 (dk_at dksX6_rowFault_1 3 rfl rfl)
theorem dX6_rowFault_27 : decode cX6_rowFault 27 = .ok (.goto 5, 3) := dk_167 0 5 (dk_at dksX6_rowFault_1 4 rfl rfl)
theorem dX6_rowFault_30 : decode cX6_rowFault 30 = .ok (.bipush (-12), 2) := dk_16 244 (dk_at dksX6_rowFault_1 7 rfl rfl)
theorem dX6_rowFault_32 : decode cX6_rowFault 32 = .ok (.ireturn, 1) := dk_172 (dk_at dksX6_rowFault_1 9 rfl rfl)
abbrev cX6_layStays : ByteArray := prog_25_method_48_code
def yX6_layStays : MethodName := ⟨RX6, "layStays", "(I)V"⟩
def dkwX6_layStays_2 : List UInt8 := [27, 104, 28, 96, 47, 136, 79, 132, 2, 1, 167, 255, 227, 177]
abbrev dktX6_layStays_2 : List UInt8 := dkwX6_layStays_2 ++ []
def dkwX6_layStays_1 : List UInt8 := [181, 1, 29, 3, 61, 28, 42, 180, 1, 29, 162, 0, 27, 42, 180, 0, 90, 28, 42, 180, 0, 135, 16, 60]
abbrev dktX6_layStays_1 : List UInt8 := dkwX6_layStays_1 ++ dktX6_layStays_2
def dkwX6_layStays_0 : List UInt8 := [42, 42, 180, 0, 132, 27, 46, 16, 30, 162, 0, 12, 42, 180, 0, 132, 27, 46, 167, 0, 5, 16, 30]
abbrev dktX6_layStays_0 : List UInt8 := dkwX6_layStays_0 ++ dktX6_layStays_1
theorem dksX6_layStays_0 : cX6_layStays.data.toList.drop 0 = dktX6_layStays_0 := by decide +kernel
theorem dksX6_layStays_1 : cX6_layStays.data.toList.drop 23 = dktX6_layStays_1 := dk_seg dksX6_layStays_0 23 rfl rfl
theorem dksX6_layStays_2 : cX6_layStays.data.toList.drop 47 = dktX6_layStays_2 := dk_seg dksX6_layStays_1 24 rfl rfl
theorem dX6_layStays_0 : decode cX6_layStays 0 = .ok (.aload_n 0, 1) := dk_42 (dk_at dksX6_layStays_0 0 rfl rfl)
theorem dX6_layStays_1 : decode cX6_layStays 1 = .ok (.aload_n 0, 1) := dk_42 (dk_at dksX6_layStays_0 1 rfl rfl)
theorem dX6_layStays_2 : decode cX6_layStays 2 = .ok (.getfield 132, 3) := dk_180 0 132 (dk_at dksX6_layStays_0 2 rfl rfl)
theorem dX6_layStays_5 : decode cX6_layStays 5 = .ok (.iload_n 1, 1) := dk_27 (dk_at dksX6_layStays_0 5 rfl rfl)
theorem dX6_layStays_6 : decode cX6_layStays 6 = .ok (.iaload, 1) := dk_46 (dk_at dksX6_layStays_0 6 rfl rfl)
theorem dX6_layStays_7 : decode cX6_layStays 7 = .ok (.bipush 30, 2) := dk_16 30 (dk_at dksX6_layStays_0 7 rfl rfl)
theorem dX6_layStays_9 : decode cX6_layStays 9 = .ok (.if_icmp .ge 12, 3) := dk_162 0 12 (dk_at dksX6_layStays_0 9 rfl rfl)
theorem dX6_layStays_12 : decode cX6_layStays 12 = .ok (.aload_n 0, 1) := dk_42 (dk_at dksX6_layStays_0 12 rfl rfl)
theorem dX6_layStays_13 : decode cX6_layStays 13 = .ok (.getfield 132, 3) := dk_180 0 132 (dk_at dksX6_layStays_0 13 rfl rfl)
theorem dX6_layStays_16 : decode cX6_layStays 16 = .ok (.iload_n 1, 1) := dk_27 (dk_at dksX6_layStays_0 16 rfl rfl)
theorem dX6_layStays_17 : decode cX6_layStays 17 = .ok (.iaload, 1) := dk_46 (dk_at dksX6_layStays_0 17 rfl rfl)
theorem dX6_layStays_18 : decode cX6_layStays 18 = .ok (.goto 5, 3) := dk_167 0 5 (dk_at dksX6_layStays_0 18 rfl rfl)
theorem dX6_layStays_21 : decode cX6_layStays 21 = .ok (.bipush 30, 2) := dk_16 30 (dk_at dksX6_layStays_0 21 rfl rfl)
theorem dX6_layStays_23 : decode cX6_layStays 23 = .ok (.putfield 285, 3) := dk_181 1 29 (dk_at dksX6_layStays_1 0 rfl rfl)
theorem dX6_layStays_26 : decode cX6_layStays 26 = .ok (.iconst 0, 1) := dk_3 (dk_at dksX6_layStays_1 3 rfl rfl)
theorem dX6_layStays_27 : decode cX6_layStays 27 = .ok (.istore_n 2, 1) := dk_61 (dk_at dksX6_layStays_1 4 rfl rfl)
theorem dX6_layStays_28 : decode cX6_layStays 28 = .ok (.iload_n 2, 1) := dk_28 (dk_at dksX6_layStays_1 5 rfl rfl)
theorem dX6_layStays_29 : decode cX6_layStays 29 = .ok (.aload_n 0, 1) := dk_42 (dk_at dksX6_layStays_1 6 rfl rfl)
theorem dX6_layStays_30 : decode cX6_layStays 30 = .ok (.getfield 285, 3) := dk_180 1 29 (dk_at dksX6_layStays_1 7 rfl rfl)
theorem dX6_layStays_33 : decode cX6_layStays 33 = .ok (.if_icmp .ge 27, 3) := dk_162 0 27 (dk_at dksX6_layStays_1 10 rfl rfl)
theorem dX6_layStays_36 : decode cX6_layStays 36 = .ok (.aload_n 0, 1) := dk_42 (dk_at dksX6_layStays_1 13 rfl rfl)
theorem dX6_layStays_37 : decode cX6_layStays 37 = .ok (.getfield 90, 3) := dk_180 0 90 (dk_at dksX6_layStays_1 14 rfl rfl)
theorem dX6_layStays_40 : decode cX6_layStays 40 = .ok (.iload_n 2, 1) := dk_28 (dk_at dksX6_layStays_1 17 rfl rfl)
theorem dX6_layStays_41 : decode cX6_layStays 41 = .ok (.aload_n 0, 1) := dk_42 (dk_at dksX6_layStays_1 18 rfl rfl)
theorem dX6_layStays_42 : decode cX6_layStays 42 = .ok (.getfield 135, 3) := dk_180 0 135 (dk_at dksX6_layStays_1 19 rfl rfl)
theorem dX6_layStays_45 : decode cX6_layStays 45 = .ok (.bipush 60, 2) := dk_16 60 (dk_at dksX6_layStays_1 22 rfl rfl)
theorem dX6_layStays_47 : decode cX6_layStays 47 = .ok (.iload_n 1, 1) := dk_27 (dk_at dksX6_layStays_2 0 rfl rfl)
theorem dX6_layStays_48 : decode cX6_layStays 48 = .ok (.imul, 1) := dk_104 (dk_at dksX6_layStays_2 1 rfl rfl)
theorem dX6_layStays_49 : decode cX6_layStays 49 = .ok (.iload_n 2, 1) := dk_28 (dk_at dksX6_layStays_2 2 rfl rfl)
theorem dX6_layStays_50 : decode cX6_layStays 50 = .ok (.iadd, 1) := dk_96 (dk_at dksX6_layStays_2 3 rfl rfl)
theorem dX6_layStays_51 : decode cX6_layStays 51 = .ok (.laload, 1) := dk_47 (dk_at dksX6_layStays_2 4 rfl rfl)
theorem dX6_layStays_52 : decode cX6_layStays 52 = .ok (.l2i, 1) := dk_136 (dk_at dksX6_layStays_2 5 rfl rfl)
theorem dX6_layStays_53 : decode cX6_layStays 53 = .ok (.iastore, 1) := dk_79 (dk_at dksX6_layStays_2 6 rfl rfl)
theorem dX6_layStays_54 : decode cX6_layStays 54 = .ok (.iinc 2 1, 3) := dk_132 2 1 (dk_at dksX6_layStays_2 7 rfl rfl)
theorem dX6_layStays_57 : decode cX6_layStays 57 = .ok (.goto (-29), 3) := dk_167 255 227 (dk_at dksX6_layStays_2 10 rfl rfl)
theorem dX6_layStays_60 : decode cX6_layStays 60 = .ok (.return_, 1) := dk_177 (dk_at dksX6_layStays_2 13 rfl rfl)
abbrev cX6_keepHut : ByteArray := prog_25_method_45_code
def yX6_keepHut : MethodName := ⟨RX6, "keepHut", "()V"⟩
def dkwX6_keepHut_1 : List UInt8 := [167, 255, 235, 177]
abbrev dktX6_keepHut_1 : List UInt8 := dkwX6_keepHut_1 ++ []
def dkwX6_keepHut_0 : List UInt8 := [3, 60, 27, 16, 48, 162, 0, 21, 42, 180, 0, 87, 27, 42, 180, 0, 40, 27, 46, 79, 132, 1, 1]
abbrev dktX6_keepHut_0 : List UInt8 := dkwX6_keepHut_0 ++ dktX6_keepHut_1
theorem dksX6_keepHut_0 : cX6_keepHut.data.toList.drop 0 = dktX6_keepHut_0 := by decide +kernel
theorem dksX6_keepHut_1 : cX6_keepHut.data.toList.drop 23 = dktX6_keepHut_1 := dk_seg dksX6_keepHut_0 23 rfl rfl
theorem dX6_keepHut_0 : decode cX6_keepHut 0 = .ok (.iconst 0, 1) := dk_3 (dk_at dksX6_keepHut_0 0 rfl rfl)
theorem dX6_keepHut_1 : decode cX6_keepHut 1 = .ok (.istore_n 1, 1) := dk_60 (dk_at dksX6_keepHut_0 1 rfl rfl)
theorem dX6_keepHut_2 : decode cX6_keepHut 2 = .ok (.iload_n 1, 1) := dk_27 (dk_at dksX6_keepHut_0 2 rfl rfl)
theorem dX6_keepHut_3 : decode cX6_keepHut 3 = .ok (.bipush 48, 2) := dk_16 48 (dk_at dksX6_keepHut_0 3 rfl rfl)
theorem dX6_keepHut_5 : decode cX6_keepHut 5 = .ok (.if_icmp .ge 21, 3) := dk_162 0 21 (dk_at dksX6_keepHut_0 5 rfl rfl)
theorem dX6_keepHut_8 : decode cX6_keepHut 8 = .ok (.aload_n 0, 1) := dk_42 (dk_at dksX6_keepHut_0 8 rfl rfl)
theorem dX6_keepHut_9 : decode cX6_keepHut 9 = .ok (.getfield 87, 3) := dk_180 0 87 (dk_at dksX6_keepHut_0 9 rfl rfl)
theorem dX6_keepHut_12 : decode cX6_keepHut 12 = .ok (.iload_n 1, 1) := dk_27 (dk_at dksX6_keepHut_0 12 rfl rfl)
theorem dX6_keepHut_13 : decode cX6_keepHut 13 = .ok (.aload_n 0, 1) := dk_42 (dk_at dksX6_keepHut_0 13 rfl rfl)
theorem dX6_keepHut_14 : decode cX6_keepHut 14 = .ok (.getfield 40, 3) := dk_180 0 40 (dk_at dksX6_keepHut_0 14 rfl rfl)
theorem dX6_keepHut_17 : decode cX6_keepHut 17 = .ok (.iload_n 1, 1) := dk_27 (dk_at dksX6_keepHut_0 17 rfl rfl)
theorem dX6_keepHut_18 : decode cX6_keepHut 18 = .ok (.iaload, 1) := dk_46 (dk_at dksX6_keepHut_0 18 rfl rfl)
theorem dX6_keepHut_19 : decode cX6_keepHut 19 = .ok (.iastore, 1) := dk_79 (dk_at dksX6_keepHut_0 19 rfl rfl)
theorem dX6_keepHut_20 : decode cX6_keepHut 20 = .ok (.iinc 1 1, 3) := dk_132 1 1 (dk_at dksX6_keepHut_0 20 rfl rfl)
theorem dX6_keepHut_23 : decode cX6_keepHut 23 = .ok (.goto (-21), 3) := dk_167 255 235 (dk_at dksX6_keepHut_1 0 rfl rfl)
theorem dX6_keepHut_26 : decode cX6_keepHut 26 = .ok (.return_, 1) := dk_177 (dk_at dksX6_keepHut_1 3 rfl rfl)
abbrev cX6_goNight : ByteArray := prog_25_method_42_code
def yX6_goNight : MethodName := ⟨RX6, "goNight", "(I)V"⟩
def dkwX6_goNight_0 : List UInt8 := [42, 27, 182, 0, 152, 153, 0, 8, 42, 27, 182, 1, 22, 177]
abbrev dktX6_goNight_0 : List UInt8 := dkwX6_goNight_0 ++ []
theorem dksX6_goNight_0 : cX6_goNight.data.toList.drop 0 = dktX6_goNight_0 := by decide +kernel
theorem dX6_goNight_0 : decode cX6_goNight 0 = .ok (.aload_n 0, 1) := dk_42 (dk_at dksX6_goNight_0 0 rfl rfl)
theorem dX6_goNight_1 : decode cX6_goNight 1 = .ok (.iload_n 1, 1) := dk_27 (dk_at dksX6_goNight_0 1 rfl rfl)
theorem dX6_goNight_2 : decode cX6_goNight 2 = .ok (.invokevirtual 152, 3) := dk_182 0 152 (dk_at dksX6_goNight_0 2 rfl rfl)
theorem dX6_goNight_5 : decode cX6_goNight 5 = .ok (.ifCond .eq 8, 3) := dk_153 0 8 (dk_at dksX6_goNight_0 5 rfl rfl)
theorem dX6_goNight_8 : decode cX6_goNight 8 = .ok (.aload_n 0, 1) := dk_42 (dk_at dksX6_goNight_0 8 rfl rfl)
theorem dX6_goNight_9 : decode cX6_goNight 9 = .ok (.iload_n 1, 1) := dk_27 (dk_at dksX6_goNight_0 9 rfl rfl)
theorem dX6_goNight_10 : decode cX6_goNight 10 = .ok (.invokevirtual 278, 3) := dk_182 1 22 (dk_at dksX6_goNight_0 10 rfl rfl)
theorem dX6_goNight_13 : decode cX6_goNight 13 = .ok (.return_, 1) := dk_177 (dk_at dksX6_goNight_0 13 rfl rfl)
abbrev cX6_nightOf : ByteArray := prog_25_method_41_code
def yX6_nightOf : MethodName := ⟨RX6, "nightOf", "(I)V"⟩
def dkwX6_nightOf_6 : List UInt8 := [16, 13, 27, 96, 4, 79, 42, 180, 0, 40, 16, 12, 4, 79, 177]
abbrev dktX6_nightOf_6 : List UInt8 := dkwX6_nightOf_6 ++ []
def dkwX6_nightOf_5 : List UInt8 := [42, 180, 0, 40, 7, 28, 96, 42, 180, 0, 81, 28, 46, 79, 132, 2, 1, 167, 255, 166, 42, 180, 0, 40]
abbrev dktX6_nightOf_5 : List UInt8 := dkwX6_nightOf_5 ++ dktX6_nightOf_6
def dkwX6_nightOf_4 : List UInt8 := [180, 0, 40, 16, 8, 28, 96, 42, 180, 0, 84, 28, 46, 79, 42, 180, 0, 27, 27, 46, 4, 160, 0, 17]
abbrev dktX6_nightOf_4 : List UInt8 := dkwX6_nightOf_4 ++ dktX6_nightOf_5
def dkwX6_nightOf_3 : List UInt8 := [96, 28, 96, 42, 180, 0, 40, 28, 46, 79, 42, 180, 0, 40, 28, 42, 180, 0, 81, 28, 46, 79, 42]
abbrev dktX6_nightOf_3 : List UInt8 := dkwX6_nightOf_3 ++ dktX6_nightOf_4
def dkwX6_nightOf_2 : List UInt8 := [162, 0, 91, 42, 180, 0, 40, 16, 13, 27, 96, 46, 154, 0, 22, 42, 180, 0, 40, 16, 20, 7, 27, 104]
abbrev dktX6_nightOf_2 : List UInt8 := dkwX6_nightOf_2 ++ dktX6_nightOf_3
def dkwX6_nightOf_1 : List UInt8 := [42, 27, 28, 42, 180, 0, 84, 28, 46, 182, 1, 19, 79, 132, 2, 1, 167, 255, 218, 3, 61, 28, 7]
abbrev dktX6_nightOf_1 : List UInt8 := dkwX6_nightOf_1 ++ dktX6_nightOf_2
def dkwX6_nightOf_0 : List UInt8 := [3, 61, 28, 7, 162, 0, 39, 42, 180, 0, 84, 28, 42, 27, 28, 182, 1, 16, 79, 42, 180, 0, 81, 28]
abbrev dktX6_nightOf_0 : List UInt8 := dkwX6_nightOf_0 ++ dktX6_nightOf_1
theorem dksX6_nightOf_0 : cX6_nightOf.data.toList.drop 0 = dktX6_nightOf_0 := by decide +kernel
theorem dksX6_nightOf_1 : cX6_nightOf.data.toList.drop 24 = dktX6_nightOf_1 := dk_seg dksX6_nightOf_0 24 rfl rfl
theorem dksX6_nightOf_2 : cX6_nightOf.data.toList.drop 47 = dktX6_nightOf_2 := dk_seg dksX6_nightOf_1 23 rfl rfl
theorem dksX6_nightOf_3 : cX6_nightOf.data.toList.drop 71 = dktX6_nightOf_3 := dk_seg dksX6_nightOf_2 24 rfl rfl
theorem dksX6_nightOf_4 : cX6_nightOf.data.toList.drop 94 = dktX6_nightOf_4 := dk_seg dksX6_nightOf_3 23 rfl rfl
theorem dksX6_nightOf_5 : cX6_nightOf.data.toList.drop 118 = dktX6_nightOf_5 := dk_seg dksX6_nightOf_4 24 rfl rfl
theorem dksX6_nightOf_6 : cX6_nightOf.data.toList.drop 142 = dktX6_nightOf_6 := dk_seg dksX6_nightOf_5 24 rfl rfl
theorem dX6_nightOf_0 : decode cX6_nightOf 0 = .ok (.iconst 0, 1) := dk_3 (dk_at dksX6_nightOf_0 0 rfl rfl)
theorem dX6_nightOf_1 : decode cX6_nightOf 1 = .ok (.istore_n 2, 1) := dk_61 (dk_at dksX6_nightOf_0 1 rfl rfl)
theorem dX6_nightOf_2 : decode cX6_nightOf 2 = .ok (.iload_n 2, 1) := dk_28 (dk_at dksX6_nightOf_0 2 rfl rfl)
theorem dX6_nightOf_3 : decode cX6_nightOf 3 = .ok (.iconst 4, 1) := dk_7 (dk_at dksX6_nightOf_0 3 rfl rfl)
theorem dX6_nightOf_4 : decode cX6_nightOf 4 = .ok (.if_icmp .ge 39, 3) := dk_162 0 39 (dk_at dksX6_nightOf_0 4 rfl rfl)
theorem dX6_nightOf_7 : decode cX6_nightOf 7 = .ok (.aload_n 0, 1) := dk_42 (dk_at dksX6_nightOf_0 7 rfl rfl)
theorem dX6_nightOf_8 : decode cX6_nightOf 8 = .ok (.getfield 84, 3) := dk_180 0 84 (dk_at dksX6_nightOf_0 8 rfl rfl)
theorem dX6_nightOf_11 : decode cX6_nightOf 11 = .ok (.iload_n 2, 1) := dk_28 (dk_at dksX6_nightOf_0 11 rfl rfl)
theorem dX6_nightOf_12 : decode cX6_nightOf 12 = .ok (.aload_n 0, 1) := dk_42 (dk_at dksX6_nightOf_0 12 rfl rfl)
theorem dX6_nightOf_13 : decode cX6_nightOf 13 = .ok (.iload_n 1, 1) := dk_27 (dk_at dksX6_nightOf_0 13 rfl rfl)
theorem dX6_nightOf_14 : decode cX6_nightOf 14 = .ok (.iload_n 2, 1) := dk_28 (dk_at dksX6_nightOf_0 14 rfl rfl)
theorem dX6_nightOf_15 : decode cX6_nightOf 15 = .ok (.invokevirtual 272, 3) := dk_182 1 16 (dk_at dksX6_nightOf_0 15 rfl rfl)
theorem dX6_nightOf_18 : decode cX6_nightOf 18 = .ok (.iastore, 1) := dk_79 (dk_at dksX6_nightOf_0 18 rfl rfl)
theorem dX6_nightOf_19 : decode cX6_nightOf 19 = .ok (.aload_n 0, 1) := dk_42 (dk_at dksX6_nightOf_0 19 rfl rfl)
theorem dX6_nightOf_20 : decode cX6_nightOf 20 = .ok (.getfield 81, 3) := dk_180 0 81 (dk_at dksX6_nightOf_0 20 rfl rfl)
theorem dX6_nightOf_23 : decode cX6_nightOf 23 = .ok (.iload_n 2, 1) := dk_28 (dk_at dksX6_nightOf_0 23 rfl rfl)
theorem dX6_nightOf_24 : decode cX6_nightOf 24 = .ok (.aload_n 0, 1) := dk_42 (dk_at dksX6_nightOf_1 0 rfl rfl)
theorem dX6_nightOf_25 : decode cX6_nightOf 25 = .ok (.iload_n 1, 1) := dk_27 (dk_at dksX6_nightOf_1 1 rfl rfl)
theorem dX6_nightOf_26 : decode cX6_nightOf 26 = .ok (.iload_n 2, 1) := dk_28 (dk_at dksX6_nightOf_1 2 rfl rfl)
theorem dX6_nightOf_27 : decode cX6_nightOf 27 = .ok (.aload_n 0, 1) := dk_42 (dk_at dksX6_nightOf_1 3 rfl rfl)
theorem dX6_nightOf_28 : decode cX6_nightOf 28 = .ok (.getfield 84, 3) := dk_180 0 84 (dk_at dksX6_nightOf_1 4 rfl rfl)
theorem dX6_nightOf_31 : decode cX6_nightOf 31 = .ok (.iload_n 2, 1) := dk_28 (dk_at dksX6_nightOf_1 7 rfl rfl)
theorem dX6_nightOf_32 : decode cX6_nightOf 32 = .ok (.iaload, 1) := dk_46 (dk_at dksX6_nightOf_1 8 rfl rfl)
theorem dX6_nightOf_33 : decode cX6_nightOf 33 = .ok (.invokevirtual 275, 3) := dk_182 1 19 (dk_at dksX6_nightOf_1 9 rfl rfl)
theorem dX6_nightOf_36 : decode cX6_nightOf 36 = .ok (.iastore, 1) := dk_79 (dk_at dksX6_nightOf_1 12 rfl rfl)
theorem dX6_nightOf_37 : decode cX6_nightOf 37 = .ok (.iinc 2 1, 3) := dk_132 2 1 (dk_at dksX6_nightOf_1 13 rfl rfl)
theorem dX6_nightOf_40 : decode cX6_nightOf 40 = .ok (.goto (-38), 3) := dk_167 255 218 (dk_at dksX6_nightOf_1 16 rfl rfl)
theorem dX6_nightOf_43 : decode cX6_nightOf 43 = .ok (.iconst 0, 1) := dk_3 (dk_at dksX6_nightOf_1 19 rfl rfl)
theorem dX6_nightOf_44 : decode cX6_nightOf 44 = .ok (.istore_n 2, 1) := dk_61 (dk_at dksX6_nightOf_1 20 rfl rfl)
theorem dX6_nightOf_45 : decode cX6_nightOf 45 = .ok (.iload_n 2, 1) := dk_28 (dk_at dksX6_nightOf_1 21 rfl rfl)
theorem dX6_nightOf_46 : decode cX6_nightOf 46 = .ok (.iconst 4, 1) := dk_7 (dk_at dksX6_nightOf_1 22 rfl rfl)
theorem dX6_nightOf_47 : decode cX6_nightOf 47 = .ok (.if_icmp .ge 91, 3) := dk_162 0 91 (dk_at dksX6_nightOf_2 0 rfl rfl)
theorem dX6_nightOf_50 : decode cX6_nightOf 50 = .ok (.aload_n 0, 1) := dk_42 (dk_at dksX6_nightOf_2 3 rfl rfl)
theorem dX6_nightOf_51 : decode cX6_nightOf 51 = .ok (.getfield 40, 3) := dk_180 0 40 (dk_at dksX6_nightOf_2 4 rfl rfl)
theorem dX6_nightOf_54 : decode cX6_nightOf 54 = .ok (.bipush 13, 2) := dk_16 13 (dk_at dksX6_nightOf_2 7 rfl rfl)
theorem dX6_nightOf_56 : decode cX6_nightOf 56 = .ok (.iload_n 1, 1) := dk_27 (dk_at dksX6_nightOf_2 9 rfl rfl)
theorem dX6_nightOf_57 : decode cX6_nightOf 57 = .ok (.iadd, 1) := dk_96 (dk_at dksX6_nightOf_2 10 rfl rfl)
theorem dX6_nightOf_58 : decode cX6_nightOf 58 = .ok (.iaload, 1) := dk_46 (dk_at dksX6_nightOf_2 11 rfl rfl)
theorem dX6_nightOf_59 : decode cX6_nightOf 59 = .ok (.ifCond .ne 22, 3) := dk_154 0 22 (dk_at dksX6_nightOf_2 12 rfl rfl)
theorem dX6_nightOf_62 : decode cX6_nightOf 62 = .ok (.aload_n 0, 1) := dk_42 (dk_at dksX6_nightOf_2 15 rfl rfl)
theorem dX6_nightOf_63 : decode cX6_nightOf 63 = .ok (.getfield 40, 3) := dk_180 0 40 (dk_at dksX6_nightOf_2 16 rfl rfl)
theorem dX6_nightOf_66 : decode cX6_nightOf 66 = .ok (.bipush 20, 2) := dk_16 20 (dk_at dksX6_nightOf_2 19 rfl rfl)
theorem dX6_nightOf_68 : decode cX6_nightOf 68 = .ok (.iconst 4, 1) := dk_7 (dk_at dksX6_nightOf_2 21 rfl rfl)
theorem dX6_nightOf_69 : decode cX6_nightOf 69 = .ok (.iload_n 1, 1) := dk_27 (dk_at dksX6_nightOf_2 22 rfl rfl)
theorem dX6_nightOf_70 : decode cX6_nightOf 70 = .ok (.imul, 1) := dk_104 (dk_at dksX6_nightOf_2 23 rfl rfl)
theorem dX6_nightOf_71 : decode cX6_nightOf 71 = .ok (.iadd, 1) := dk_96 (dk_at dksX6_nightOf_3 0 rfl rfl)
theorem dX6_nightOf_72 : decode cX6_nightOf 72 = .ok (.iload_n 2, 1) := dk_28 (dk_at dksX6_nightOf_3 1 rfl rfl)
theorem dX6_nightOf_73 : decode cX6_nightOf 73 = .ok (.iadd, 1) := dk_96 (dk_at dksX6_nightOf_3 2 rfl rfl)
theorem dX6_nightOf_74 : decode cX6_nightOf 74 = .ok (.aload_n 0, 1) := dk_42 (dk_at dksX6_nightOf_3 3 rfl rfl)
theorem dX6_nightOf_75 : decode cX6_nightOf 75 = .ok (.getfield 40, 3) := dk_180 0 40 (dk_at dksX6_nightOf_3 4 rfl rfl)
theorem dX6_nightOf_78 : decode cX6_nightOf 78 = .ok (.iload_n 2, 1) := dk_28 (dk_at dksX6_nightOf_3 7 rfl rfl)
theorem dX6_nightOf_79 : decode cX6_nightOf 79 = .ok (.iaload, 1) := dk_46 (dk_at dksX6_nightOf_3 8 rfl rfl)
theorem dX6_nightOf_80 : decode cX6_nightOf 80 = .ok (.iastore, 1) := dk_79 (dk_at dksX6_nightOf_3 9 rfl rfl)
theorem dX6_nightOf_81 : decode cX6_nightOf 81 = .ok (.aload_n 0, 1) := dk_42 (dk_at dksX6_nightOf_3 10 rfl rfl)
theorem dX6_nightOf_82 : decode cX6_nightOf 82 = .ok (.getfield 40, 3) := dk_180 0 40 (dk_at dksX6_nightOf_3 11 rfl rfl)
theorem dX6_nightOf_85 : decode cX6_nightOf 85 = .ok (.iload_n 2, 1) := dk_28 (dk_at dksX6_nightOf_3 14 rfl rfl)
theorem dX6_nightOf_86 : decode cX6_nightOf 86 = .ok (.aload_n 0, 1) := dk_42 (dk_at dksX6_nightOf_3 15 rfl rfl)
theorem dX6_nightOf_87 : decode cX6_nightOf 87 = .ok (.getfield 81, 3) := dk_180 0 81 (dk_at dksX6_nightOf_3 16 rfl rfl)
theorem dX6_nightOf_90 : decode cX6_nightOf 90 = .ok (.iload_n 2, 1) := dk_28 (dk_at dksX6_nightOf_3 19 rfl rfl)
theorem dX6_nightOf_91 : decode cX6_nightOf 91 = .ok (.iaload, 1) := dk_46 (dk_at dksX6_nightOf_3 20 rfl rfl)
theorem dX6_nightOf_92 : decode cX6_nightOf 92 = .ok (.iastore, 1) := dk_79 (dk_at dksX6_nightOf_3 21 rfl rfl)
theorem dX6_nightOf_93 : decode cX6_nightOf 93 = .ok (.aload_n 0, 1) := dk_42 (dk_at dksX6_nightOf_3 22 rfl rfl)
theorem dX6_nightOf_94 : decode cX6_nightOf 94 = .ok (.getfield 40, 3) := dk_180 0 40 (dk_at dksX6_nightOf_4 0 rfl rfl)
theorem dX6_nightOf_97 : decode cX6_nightOf 97 = .ok (.bipush 8, 2) := dk_16 8 (dk_at dksX6_nightOf_4 3 rfl rfl)
theorem dX6_nightOf_99 : decode cX6_nightOf 99 = .ok (.iload_n 2, 1) := dk_28 (dk_at dksX6_nightOf_4 5 rfl rfl)
theorem dX6_nightOf_100 : decode cX6_nightOf 100 = .ok (.iadd, 1) := dk_96 (dk_at dksX6_nightOf_4 6 rfl rfl)
theorem dX6_nightOf_101 : decode cX6_nightOf 101 = .ok (.aload_n 0, 1) := dk_42 (dk_at dksX6_nightOf_4 7 rfl rfl)
theorem dX6_nightOf_102 : decode cX6_nightOf 102 = .ok (.getfield 84, 3) := dk_180 0 84 (dk_at dksX6_nightOf_4 8 rfl rfl)
theorem dX6_nightOf_105 : decode cX6_nightOf 105 = .ok (.iload_n 2, 1) := dk_28 (dk_at dksX6_nightOf_4 11 rfl rfl)
theorem dX6_nightOf_106 : decode cX6_nightOf 106 = .ok (.iaload, 1) := dk_46 (dk_at dksX6_nightOf_4 12 rfl rfl)
theorem dX6_nightOf_107 : decode cX6_nightOf 107 = .ok (.iastore, 1) := dk_79 (dk_at dksX6_nightOf_4 13 rfl rfl)
theorem dX6_nightOf_108 : decode cX6_nightOf 108 = .ok (.aload_n 0, 1) := dk_42 (dk_at dksX6_nightOf_4 14 rfl rfl)
theorem dX6_nightOf_109 : decode cX6_nightOf 109 = .ok (.getfield 27, 3) := dk_180 0 27 (dk_at dksX6_nightOf_4 15 rfl rfl)
theorem dX6_nightOf_112 : decode cX6_nightOf 112 = .ok (.iload_n 1, 1) := dk_27 (dk_at dksX6_nightOf_4 18 rfl rfl)
theorem dX6_nightOf_113 : decode cX6_nightOf 113 = .ok (.iaload, 1) := dk_46 (dk_at dksX6_nightOf_4 19 rfl rfl)
theorem dX6_nightOf_114 : decode cX6_nightOf 114 = .ok (.iconst 1, 1) := dk_4 (dk_at dksX6_nightOf_4 20 rfl rfl)
theorem dX6_nightOf_115 : decode cX6_nightOf 115 = .ok (.if_icmp .ne 17, 3) := dk_160 0 17 (dk_at dksX6_nightOf_4 21 rfl rfl)
theorem dX6_nightOf_118 : decode cX6_nightOf 118 = .ok (.aload_n 0, 1) := dk_42 (dk_at dksX6_nightOf_5 0 rfl rfl)
theorem dX6_nightOf_119 : decode cX6_nightOf 119 = .ok (.getfield 40, 3) := dk_180 0 40 (dk_at dksX6_nightOf_5 1 rfl rfl)
theorem dX6_nightOf_122 : decode cX6_nightOf 122 = .ok (.iconst 4, 1) := dk_7 (dk_at dksX6_nightOf_5 4 rfl rfl)
theorem dX6_nightOf_123 : decode cX6_nightOf 123 = .ok (.iload_n 2, 1) := dk_28 (dk_at dksX6_nightOf_5 5 rfl rfl)
theorem dX6_nightOf_124 : decode cX6_nightOf 124 = .ok (.iadd, 1) := dk_96 (dk_at dksX6_nightOf_5 6 rfl rfl)
theorem dX6_nightOf_125 : decode cX6_nightOf 125 = .ok (.aload_n 0, 1) := dk_42 (dk_at dksX6_nightOf_5 7 rfl rfl)
theorem dX6_nightOf_126 : decode cX6_nightOf 126 = .ok (.getfield 81, 3) := dk_180 0 81 (dk_at dksX6_nightOf_5 8 rfl rfl)
theorem dX6_nightOf_129 : decode cX6_nightOf 129 = .ok (.iload_n 2, 1) := dk_28 (dk_at dksX6_nightOf_5 11 rfl rfl)
theorem dX6_nightOf_130 : decode cX6_nightOf 130 = .ok (.iaload, 1) := dk_46 (dk_at dksX6_nightOf_5 12 rfl rfl)
theorem dX6_nightOf_131 : decode cX6_nightOf 131 = .ok (.iastore, 1) := dk_79 (dk_at dksX6_nightOf_5 13 rfl rfl)
theorem dX6_nightOf_132 : decode cX6_nightOf 132 = .ok (.iinc 2 1, 3) := dk_132 2 1 (dk_at dksX6_nightOf_5 14 rfl rfl)
theorem dX6_nightOf_135 : decode cX6_nightOf 135 = .ok (.goto (-90), 3) := dk_167 255 166 (dk_at dksX6_nightOf_5 17 rfl rfl)
theorem dX6_nightOf_138 : decode cX6_nightOf 138 = .ok (.aload_n 0, 1) := dk_42 (dk_at dksX6_nightOf_5 20 rfl rfl)
theorem dX6_nightOf_139 : decode cX6_nightOf 139 = .ok (.getfield 40, 3) := dk_180 0 40 (dk_at dksX6_nightOf_5 21 rfl rfl)
theorem dX6_nightOf_142 : decode cX6_nightOf 142 = .ok (.bipush 13, 2) := dk_16 13 (dk_at dksX6_nightOf_6 0 rfl rfl)
theorem dX6_nightOf_144 : decode cX6_nightOf 144 = .ok (.iload_n 1, 1) := dk_27 (dk_at dksX6_nightOf_6 2 rfl rfl)
theorem dX6_nightOf_145 : decode cX6_nightOf 145 = .ok (.iadd, 1) := dk_96 (dk_at dksX6_nightOf_6 3 rfl rfl)
theorem dX6_nightOf_146 : decode cX6_nightOf 146 = .ok (.iconst 1, 1) := dk_4 (dk_at dksX6_nightOf_6 4 rfl rfl)
theorem dX6_nightOf_147 : decode cX6_nightOf 147 = .ok (.iastore, 1) := dk_79 (dk_at dksX6_nightOf_6 5 rfl rfl)
theorem dX6_nightOf_148 : decode cX6_nightOf 148 = .ok (.aload_n 0, 1) := dk_42 (dk_at dksX6_nightOf_6 6 rfl rfl)
theorem dX6_nightOf_149 : decode cX6_nightOf 149 = .ok (.getfield 40, 3) := dk_180 0 40 (dk_at dksX6_nightOf_6 7 rfl rfl)
theorem dX6_nightOf_152 : decode cX6_nightOf 152 = .ok (.bipush 12, 2) := dk_16 12 (dk_at dksX6_nightOf_6 10 rfl rfl)
theorem dX6_nightOf_154 : decode cX6_nightOf 154 = .ok (.iconst 1, 1) := dk_4 (dk_at dksX6_nightOf_6 12 rfl rfl)
theorem dX6_nightOf_155 : decode cX6_nightOf 155 = .ok (.iastore, 1) := dk_79 (dk_at dksX6_nightOf_6 13 rfl rfl)
theorem dX6_nightOf_156 : decode cX6_nightOf 156 = .ok (.return_, 1) := dk_177 (dk_at dksX6_nightOf_6 14 rfl rfl)
abbrev cX6_oughtBy : ByteArray := prog_25_method_39_code
def yX6_oughtBy : MethodName := ⟨RX6, "oughtBy", "(II)I"⟩
def dkwX6_oughtBy_5 : List UInt8 := [167, 0, 12, 42, 180, 0, 40, 16, 8, 28, 96, 46, 172]
abbrev dktX6_oughtBy_5 : List UInt8 := dkwX6_oughtBy_5 ++ []
def dkwX6_oughtBy_4 : List UInt8 := [180, 0, 9, 28, 46, 172, 42, 180, 0, 40, 16, 12, 46, 154, 0, 12, 42, 180, 0, 9, 28, 46]
abbrev dktX6_oughtBy_4 : List UInt8 := dkwX6_oughtBy_4 ++ dktX6_oughtBy_5
def dkwX6_oughtBy_3 : List UInt8 := [180, 0, 40, 16, 20, 7, 27, 104, 96, 28, 96, 46, 172, 42, 180, 0, 40, 7, 28, 96, 46, 172, 42]
abbrev dktX6_oughtBy_3 : List UInt8 := dkwX6_oughtBy_3 ++ dktX6_oughtBy_4
def dkwX6_oughtBy_2 : List UInt8 := [42, 180, 0, 40, 16, 13, 27, 96, 46, 154, 0, 12, 42, 180, 0, 40, 28, 46, 167, 0, 16, 42]
abbrev dktX6_oughtBy_2 : List UInt8 := dkwX6_oughtBy_2 ++ dktX6_oughtBy_3
def dkwX6_oughtBy_1 : List UInt8 := [170, 0, 0, 0, 0, 77, 0, 0, 0, 0, 0, 0, 0, 2, 0, 0, 0, 26, 0, 0, 0, 61, 0, 0, 0, 70]
abbrev dktX6_oughtBy_1 : List UInt8 := dkwX6_oughtBy_1 ++ dktX6_oughtBy_2
def dkwX6_oughtBy_0 : List UInt8 := [42, 180, 0, 27, 27, 46]
abbrev dktX6_oughtBy_0 : List UInt8 := dkwX6_oughtBy_0 ++ dktX6_oughtBy_1
theorem dksX6_oughtBy_0 : cX6_oughtBy.data.toList.drop 0 = dktX6_oughtBy_0 := by decide +kernel
theorem dksX6_oughtBy_1 : cX6_oughtBy.data.toList.drop 6 = dktX6_oughtBy_1 := dk_seg dksX6_oughtBy_0 6 rfl rfl
theorem dksX6_oughtBy_2 : cX6_oughtBy.data.toList.drop 32 = dktX6_oughtBy_2 := dk_seg dksX6_oughtBy_1 26 rfl rfl
theorem dksX6_oughtBy_3 : cX6_oughtBy.data.toList.drop 54 = dktX6_oughtBy_3 := dk_seg dksX6_oughtBy_2 22 rfl rfl
theorem dksX6_oughtBy_4 : cX6_oughtBy.data.toList.drop 77 = dktX6_oughtBy_4 := dk_seg dksX6_oughtBy_3 23 rfl rfl
theorem dksX6_oughtBy_5 : cX6_oughtBy.data.toList.drop 99 = dktX6_oughtBy_5 := dk_seg dksX6_oughtBy_4 22 rfl rfl
theorem dX6_oughtBy_0 : decode cX6_oughtBy 0 = .ok (.aload_n 0, 1) := dk_42 (dk_at dksX6_oughtBy_0 0 rfl rfl)
theorem dX6_oughtBy_1 : decode cX6_oughtBy 1 = .ok (.getfield 27, 3) := dk_180 0 27 (dk_at dksX6_oughtBy_0 1 rfl rfl)
theorem dX6_oughtBy_4 : decode cX6_oughtBy 4 = .ok (.iload_n 1, 1) := dk_27 (dk_at dksX6_oughtBy_0 4 rfl rfl)
theorem dX6_oughtBy_5 : decode cX6_oughtBy 5 = .ok (.iaload, 1) := dk_46 (dk_at dksX6_oughtBy_0 5 rfl rfl)
theorem dX6_oughtBy_6 : decode cX6_oughtBy 6 = .ok (.tableswitch 77 0 2 #[26, 61, 70], 26) := by decide +kernel
theorem dX6_oughtBy_32 : decode cX6_oughtBy 32 = .ok (.aload_n 0, 1) := dk_42 (dk_at dksX6_oughtBy_2 0 rfl rfl)
theorem dX6_oughtBy_33 : decode cX6_oughtBy 33 = .ok (.getfield 40, 3) := dk_180 0 40 (dk_at dksX6_oughtBy_2 1 rfl rfl)
theorem dX6_oughtBy_36 : decode cX6_oughtBy 36 = .ok (.bipush 13, 2) := dk_16 13 (dk_at dksX6_oughtBy_2 4 rfl rfl)
theorem dX6_oughtBy_38 : decode cX6_oughtBy 38 = .ok (.iload_n 1, 1) := dk_27 (dk_at dksX6_oughtBy_2 6 rfl rfl)
theorem dX6_oughtBy_39 : decode cX6_oughtBy 39 = .ok (.iadd, 1) := dk_96 (dk_at dksX6_oughtBy_2 7 rfl rfl)
theorem dX6_oughtBy_40 : decode cX6_oughtBy 40 = .ok (.iaload, 1) := dk_46 (dk_at dksX6_oughtBy_2 8 rfl rfl)
theorem dX6_oughtBy_41 : decode cX6_oughtBy 41 = .ok (.ifCond .ne 12, 3) := dk_154 0 12 (dk_at dksX6_oughtBy_2 9 rfl rfl)
theorem dX6_oughtBy_44 : decode cX6_oughtBy 44 = .ok (.aload_n 0, 1) := dk_42 (dk_at dksX6_oughtBy_2 12 rfl rfl)
theorem dX6_oughtBy_45 : decode cX6_oughtBy 45 = .ok (.getfield 40, 3) := dk_180 0 40 (dk_at dksX6_oughtBy_2 13 rfl rfl)
theorem dX6_oughtBy_48 : decode cX6_oughtBy 48 = .ok (.iload_n 2, 1) := dk_28 (dk_at dksX6_oughtBy_2 16 rfl rfl)
theorem dX6_oughtBy_49 : decode cX6_oughtBy 49 = .ok (.iaload, 1) := dk_46 (dk_at dksX6_oughtBy_2 17 rfl rfl)
theorem dX6_oughtBy_50 : decode cX6_oughtBy 50 = .ok (.goto 16, 3) := dk_167 0 16 (dk_at dksX6_oughtBy_2 18 rfl rfl)
theorem dX6_oughtBy_53 : decode cX6_oughtBy 53 = .ok (.aload_n 0, 1) := dk_42 (dk_at dksX6_oughtBy_2 21 rfl rfl)
theorem dX6_oughtBy_54 : decode cX6_oughtBy 54 = .ok (.getfield 40, 3) := dk_180 0 40 (dk_at dksX6_oughtBy_3 0 rfl rfl)
theorem dX6_oughtBy_57 : decode cX6_oughtBy 57 = .ok (.bipush 20, 2) := dk_16 20 (dk_at dksX6_oughtBy_3 3 rfl rfl)
theorem dX6_oughtBy_59 : decode cX6_oughtBy 59 = .ok (.iconst 4, 1) := dk_7 (dk_at dksX6_oughtBy_3 5 rfl rfl)
theorem dX6_oughtBy_60 : decode cX6_oughtBy 60 = .ok (.iload_n 1, 1) := dk_27 (dk_at dksX6_oughtBy_3 6 rfl rfl)
theorem dX6_oughtBy_61 : decode cX6_oughtBy 61 = .ok (.imul, 1) := dk_104 (dk_at dksX6_oughtBy_3 7 rfl rfl)
theorem dX6_oughtBy_62 : decode cX6_oughtBy 62 = .ok (.iadd, 1) := dk_96 (dk_at dksX6_oughtBy_3 8 rfl rfl)
theorem dX6_oughtBy_63 : decode cX6_oughtBy 63 = .ok (.iload_n 2, 1) := dk_28 (dk_at dksX6_oughtBy_3 9 rfl rfl)
theorem dX6_oughtBy_64 : decode cX6_oughtBy 64 = .ok (.iadd, 1) := dk_96 (dk_at dksX6_oughtBy_3 10 rfl rfl)
theorem dX6_oughtBy_65 : decode cX6_oughtBy 65 = .ok (.iaload, 1) := dk_46 (dk_at dksX6_oughtBy_3 11 rfl rfl)
theorem dX6_oughtBy_66 : decode cX6_oughtBy 66 = .ok (.ireturn, 1) := dk_172 (dk_at dksX6_oughtBy_3 12 rfl rfl)
theorem dX6_oughtBy_67 : decode cX6_oughtBy 67 = .ok (.aload_n 0, 1) := dk_42 (dk_at dksX6_oughtBy_3 13 rfl rfl)
theorem dX6_oughtBy_68 : decode cX6_oughtBy 68 = .ok (.getfield 40, 3) := dk_180 0 40 (dk_at dksX6_oughtBy_3 14 rfl rfl)
theorem dX6_oughtBy_71 : decode cX6_oughtBy 71 = .ok (.iconst 4, 1) := dk_7 (dk_at dksX6_oughtBy_3 17 rfl rfl)
theorem dX6_oughtBy_72 : decode cX6_oughtBy 72 = .ok (.iload_n 2, 1) := dk_28 (dk_at dksX6_oughtBy_3 18 rfl rfl)
theorem dX6_oughtBy_73 : decode cX6_oughtBy 73 = .ok (.iadd, 1) := dk_96 (dk_at dksX6_oughtBy_3 19 rfl rfl)
theorem dX6_oughtBy_74 : decode cX6_oughtBy 74 = .ok (.iaload, 1) := dk_46 (dk_at dksX6_oughtBy_3 20 rfl rfl)
theorem dX6_oughtBy_75 : decode cX6_oughtBy 75 = .ok (.ireturn, 1) := dk_172 (dk_at dksX6_oughtBy_3 21 rfl rfl)
theorem dX6_oughtBy_76 : decode cX6_oughtBy 76 = .ok (.aload_n 0, 1) := dk_42 (dk_at dksX6_oughtBy_3 22 rfl rfl)
theorem dX6_oughtBy_77 : decode cX6_oughtBy 77 = .ok (.getfield 9, 3) := dk_180 0 9 (dk_at dksX6_oughtBy_4 0 rfl rfl)
theorem dX6_oughtBy_80 : decode cX6_oughtBy 80 = .ok (.iload_n 2, 1) := dk_28 (dk_at dksX6_oughtBy_4 3 rfl rfl)
theorem dX6_oughtBy_81 : decode cX6_oughtBy 81 = .ok (.iaload, 1) := dk_46 (dk_at dksX6_oughtBy_4 4 rfl rfl)
theorem dX6_oughtBy_82 : decode cX6_oughtBy 82 = .ok (.ireturn, 1) := dk_172 (dk_at dksX6_oughtBy_4 5 rfl rfl)
theorem dX6_oughtBy_83 : decode cX6_oughtBy 83 = .ok (.aload_n 0, 1) := dk_42 (dk_at dksX6_oughtBy_4 6 rfl rfl)
theorem dX6_oughtBy_84 : decode cX6_oughtBy 84 = .ok (.getfield 40, 3) := dk_180 0 40 (dk_at dksX6_oughtBy_4 7 rfl rfl)
theorem dX6_oughtBy_87 : decode cX6_oughtBy 87 = .ok (.bipush 12, 2) := dk_16 12 (dk_at dksX6_oughtBy_4 10 rfl rfl)
theorem dX6_oughtBy_89 : decode cX6_oughtBy 89 = .ok (.iaload, 1) := dk_46 (dk_at dksX6_oughtBy_4 12 rfl rfl)
theorem dX6_oughtBy_90 : decode cX6_oughtBy 90 = .ok (.ifCond .ne 12, 3) := dk_154 0 12 (dk_at dksX6_oughtBy_4 13 rfl rfl)
theorem dX6_oughtBy_93 : decode cX6_oughtBy 93 = .ok (.aload_n 0, 1) := dk_42 (dk_at dksX6_oughtBy_4 16 rfl rfl)
theorem dX6_oughtBy_94 : decode cX6_oughtBy 94 = .ok (.getfield 9, 3) := dk_180 0 9 (dk_at dksX6_oughtBy_4 17 rfl rfl)
theorem dX6_oughtBy_97 : decode cX6_oughtBy 97 = .ok (.iload_n 2, 1) := dk_28 (dk_at dksX6_oughtBy_4 20 rfl rfl)
theorem dX6_oughtBy_98 : decode cX6_oughtBy 98 = .ok (.iaload, 1) := dk_46 (dk_at dksX6_oughtBy_4 21 rfl rfl)
theorem dX6_oughtBy_99 : decode cX6_oughtBy 99 = .ok (.goto 12, 3) := dk_167 0 12 (dk_at dksX6_oughtBy_5 0 rfl rfl)
theorem dX6_oughtBy_102 : decode cX6_oughtBy 102 = .ok (.aload_n 0, 1) := dk_42 (dk_at dksX6_oughtBy_5 3 rfl rfl)
theorem dX6_oughtBy_103 : decode cX6_oughtBy 103 = .ok (.getfield 40, 3) := dk_180 0 40 (dk_at dksX6_oughtBy_5 4 rfl rfl)
theorem dX6_oughtBy_106 : decode cX6_oughtBy 106 = .ok (.bipush 8, 2) := dk_16 8 (dk_at dksX6_oughtBy_5 7 rfl rfl)
theorem dX6_oughtBy_108 : decode cX6_oughtBy 108 = .ok (.iload_n 2, 1) := dk_28 (dk_at dksX6_oughtBy_5 9 rfl rfl)
theorem dX6_oughtBy_109 : decode cX6_oughtBy 109 = .ok (.iadd, 1) := dk_96 (dk_at dksX6_oughtBy_5 10 rfl rfl)
theorem dX6_oughtBy_110 : decode cX6_oughtBy 110 = .ok (.iaload, 1) := dk_46 (dk_at dksX6_oughtBy_5 11 rfl rfl)
theorem dX6_oughtBy_111 : decode cX6_oughtBy 111 = .ok (.ireturn, 1) := dk_172 (dk_at dksX6_oughtBy_5 12 rfl rfl)
abbrev cX6_levelBehind : ByteArray := prog_25_method_40_code
def yX6_levelBehind : MethodName := ⟨RX6, "levelBehind", "(III)I"⟩
def dkwX6_levelBehind_9 : List UInt8 := [21, 8, 16, 99, 164, 0, 8, 16, 99, 167, 0, 5, 21, 8, 172]
abbrev dktX6_levelBehind_9 : List UInt8 := dkwX6_levelBehind_9 ++ []
def dkwX6_levelBehind_8 : List UInt8 := [167, 0, 5, 21, 6, 54, 7, 21, 4, 21, 7, 96, 54, 8, 21, 8, 156, 0, 7, 3, 167, 0, 17]
abbrev dktX6_levelBehind_8 : List UInt8 := dkwX6_levelBehind_8 ++ dktX6_levelBehind_9
def dkwX6_levelBehind_7 : List UInt8 := [100, 54, 6, 21, 6, 16, 236, 162, 0, 8, 16, 236, 167, 0, 17, 21, 6, 16, 20, 164, 0, 8, 16, 20]
abbrev dktX6_levelBehind_7 : List UInt8 := dkwX6_levelBehind_7 ++ dktX6_levelBehind_8
def dkwX6_levelBehind_6 : List UInt8 := [180, 0, 21, 7, 27, 104, 28, 96, 46, 96, 54, 6, 21, 4, 21, 6, 96, 29, 164, 0, 9, 29, 21, 4]
abbrev dktX6_levelBehind_6 : List UInt8 := dkwX6_levelBehind_6 ++ dktX6_levelBehind_7
def dkwX6_levelBehind_5 : List UInt8 := [79, 42, 3, 182, 1, 13, 54, 6, 167, 0, 42, 29, 21, 4, 100, 21, 5, 164, 0, 33, 21, 6, 42]
abbrev dktX6_levelBehind_5 : List UInt8 := dkwX6_levelBehind_5 ++ dktX6_levelBehind_6
def dkwX6_levelBehind_4 : List UInt8 := [180, 0, 21, 7, 27, 104, 28, 96, 46, 79, 42, 180, 0, 75, 7, 21, 5, 79, 42, 180, 0, 75, 8, 28]
abbrev dktX6_levelBehind_4 : List UInt8 := dkwX6_levelBehind_4 ++ dktX6_levelBehind_5
def dkwX6_levelBehind_3 : List UInt8 := [79, 42, 180, 0, 75, 5, 42, 180, 0, 18, 7, 27, 104, 28, 96, 46, 79, 42, 180, 0, 75, 6, 42]
abbrev dktX6_levelBehind_3 : List UInt8 := dkwX6_levelBehind_3 ++ dktX6_levelBehind_4
def dkwX6_levelBehind_2 : List UInt8 := [116, 54, 6, 42, 180, 1, 9, 153, 0, 75, 42, 180, 0, 75, 3, 21, 4, 79, 42, 180, 0, 75, 4, 29]
abbrev dktX6_levelBehind_2 : List UInt8 := dkwX6_levelBehind_2 ++ dktX6_levelBehind_3
def dkwX6_levelBehind_1 : List UInt8 := [180, 0, 24, 27, 46, 167, 0, 7, 42, 180, 0, 30, 54, 5, 42, 180, 0, 18, 7, 27, 104, 28, 96, 46]
abbrev dktX6_levelBehind_1 : List UInt8 := dkwX6_levelBehind_1 ++ dktX6_levelBehind_2
def dkwX6_levelBehind_0 : List UInt8 := [42, 180, 0, 40, 28, 46, 54, 4, 42, 180, 0, 24, 27, 46, 42, 180, 0, 30, 162, 0, 12, 42]
abbrev dktX6_levelBehind_0 : List UInt8 := dkwX6_levelBehind_0 ++ dktX6_levelBehind_1
theorem dksX6_levelBehind_0 : cX6_levelBehind.data.toList.drop 0 = dktX6_levelBehind_0 := by decide +kernel
theorem dksX6_levelBehind_1 : cX6_levelBehind.data.toList.drop 22 = dktX6_levelBehind_1 := dk_seg dksX6_levelBehind_0 22 rfl rfl
theorem dksX6_levelBehind_2 : cX6_levelBehind.data.toList.drop 46 = dktX6_levelBehind_2 := dk_seg dksX6_levelBehind_1 24 rfl rfl
theorem dksX6_levelBehind_3 : cX6_levelBehind.data.toList.drop 70 = dktX6_levelBehind_3 := dk_seg dksX6_levelBehind_2 24 rfl rfl
theorem dksX6_levelBehind_4 : cX6_levelBehind.data.toList.drop 93 = dktX6_levelBehind_4 := dk_seg dksX6_levelBehind_3 23 rfl rfl
theorem dksX6_levelBehind_5 : cX6_levelBehind.data.toList.drop 117 = dktX6_levelBehind_5 := dk_seg dksX6_levelBehind_4 24 rfl rfl
theorem dksX6_levelBehind_6 : cX6_levelBehind.data.toList.drop 140 = dktX6_levelBehind_6 := dk_seg dksX6_levelBehind_5 23 rfl rfl
theorem dksX6_levelBehind_7 : cX6_levelBehind.data.toList.drop 164 = dktX6_levelBehind_7 := dk_seg dksX6_levelBehind_6 24 rfl rfl
theorem dksX6_levelBehind_8 : cX6_levelBehind.data.toList.drop 188 = dktX6_levelBehind_8 := dk_seg dksX6_levelBehind_7 24 rfl rfl
theorem dksX6_levelBehind_9 : cX6_levelBehind.data.toList.drop 211 = dktX6_levelBehind_9 := dk_seg dksX6_levelBehind_8 23 rfl rfl
theorem dX6_levelBehind_0 : decode cX6_levelBehind 0 = .ok (.aload_n 0, 1) := dk_42 (dk_at dksX6_levelBehind_0 0 rfl rfl)
theorem dX6_levelBehind_1 : decode cX6_levelBehind 1 = .ok (.getfield 40, 3) := dk_180 0 40 (dk_at dksX6_levelBehind_0 1 rfl rfl)
theorem dX6_levelBehind_4 : decode cX6_levelBehind 4 = .ok (.iload_n 2, 1) := dk_28 (dk_at dksX6_levelBehind_0 4 rfl rfl)
theorem dX6_levelBehind_5 : decode cX6_levelBehind 5 = .ok (.iaload, 1) := dk_46 (dk_at dksX6_levelBehind_0 5 rfl rfl)
theorem dX6_levelBehind_6 : decode cX6_levelBehind 6 = .ok (.istore 4, 2) := dk_54 4 (dk_at dksX6_levelBehind_0 6 rfl rfl)
theorem dX6_levelBehind_8 : decode cX6_levelBehind 8 = .ok (.aload_n 0, 1) := dk_42 (dk_at dksX6_levelBehind_0 8 rfl rfl)
theorem dX6_levelBehind_9 : decode cX6_levelBehind 9 = .ok (.getfield 24, 3) := dk_180 0 24 (dk_at dksX6_levelBehind_0 9 rfl rfl)
theorem dX6_levelBehind_12 : decode cX6_levelBehind 12 = .ok (.iload_n 1, 1) := dk_27 (dk_at dksX6_levelBehind_0 12 rfl rfl)
theorem dX6_levelBehind_13 : decode cX6_levelBehind 13 = .ok (.iaload, 1) := dk_46 (dk_at dksX6_levelBehind_0 13 rfl rfl)
theorem dX6_levelBehind_14 : decode cX6_levelBehind 14 = .ok (.aload_n 0, 1) := dk_42 (dk_at dksX6_levelBehind_0 14 rfl rfl)
theorem dX6_levelBehind_15 : decode cX6_levelBehind 15 = .ok (.getfield 30, 3) := dk_180 0 30 (dk_at dksX6_levelBehind_0 15 rfl rfl)
theorem dX6_levelBehind_18 : decode cX6_levelBehind 18 = .ok (.if_icmp .ge 12, 3) := dk_162 0 12 (dk_at dksX6_levelBehind_0 18 rfl rfl)
theorem dX6_levelBehind_21 : decode cX6_levelBehind 21 = .ok (.aload_n 0, 1) := dk_42 (dk_at dksX6_levelBehind_0 21 rfl rfl)
theorem dX6_levelBehind_22 : decode cX6_levelBehind 22 = .ok (.getfield 24, 3) := dk_180 0 24 (dk_at dksX6_levelBehind_1 0 rfl rfl)
theorem dX6_levelBehind_25 : decode cX6_levelBehind 25 = .ok (.iload_n 1, 1) := dk_27 (dk_at dksX6_levelBehind_1 3 rfl rfl)
theorem dX6_levelBehind_26 : decode cX6_levelBehind 26 = .ok (.iaload, 1) := dk_46 (dk_at dksX6_levelBehind_1 4 rfl rfl)
theorem dX6_levelBehind_27 : decode cX6_levelBehind 27 = .ok (.goto 7, 3) := dk_167 0 7 (dk_at dksX6_levelBehind_1 5 rfl rfl)
theorem dX6_levelBehind_30 : decode cX6_levelBehind 30 = .ok (.aload_n 0, 1) := dk_42 (dk_at dksX6_levelBehind_1 8 rfl rfl)
theorem dX6_levelBehind_31 : decode cX6_levelBehind 31 = .ok (.getfield 30, 3) := dk_180 0 30 (dk_at dksX6_levelBehind_1 9 rfl rfl)
theorem dX6_levelBehind_34 : decode cX6_levelBehind 34 = .ok (.istore 5, 2) := dk_54 5 (dk_at dksX6_levelBehind_1 12 rfl rfl)
theorem dX6_levelBehind_36 : decode cX6_levelBehind 36 = .ok (.aload_n 0, 1) := dk_42 (dk_at dksX6_levelBehind_1 14 rfl rfl)
theorem dX6_levelBehind_37 : decode cX6_levelBehind 37 = .ok (.getfield 18, 3) := dk_180 0 18 (dk_at dksX6_levelBehind_1 15 rfl rfl)
theorem dX6_levelBehind_40 : decode cX6_levelBehind 40 = .ok (.iconst 4, 1) := dk_7 (dk_at dksX6_levelBehind_1 18 rfl rfl)
theorem dX6_levelBehind_41 : decode cX6_levelBehind 41 = .ok (.iload_n 1, 1) := dk_27 (dk_at dksX6_levelBehind_1 19 rfl rfl)
theorem dX6_levelBehind_42 : decode cX6_levelBehind 42 = .ok (.imul, 1) := dk_104 (dk_at dksX6_levelBehind_1 20 rfl rfl)
theorem dX6_levelBehind_43 : decode cX6_levelBehind 43 = .ok (.iload_n 2, 1) := dk_28 (dk_at dksX6_levelBehind_1 21 rfl rfl)
theorem dX6_levelBehind_44 : decode cX6_levelBehind 44 = .ok (.iadd, 1) := dk_96 (dk_at dksX6_levelBehind_1 22 rfl rfl)
theorem dX6_levelBehind_45 : decode cX6_levelBehind 45 = .ok (.iaload, 1) := dk_46 (dk_at dksX6_levelBehind_1 23 rfl rfl)
theorem dX6_levelBehind_46 : decode cX6_levelBehind 46 = .ok (.ineg, 1) := dk_116 (dk_at dksX6_levelBehind_2 0 rfl rfl)
theorem dX6_levelBehind_47 : decode cX6_levelBehind 47 = .ok (.istore 6, 2) := dk_54 6 (dk_at dksX6_levelBehind_2 1 rfl rfl)
theorem dX6_levelBehind_49 : decode cX6_levelBehind 49 = .ok (.aload_n 0, 1) := dk_42 (dk_at dksX6_levelBehind_2 3 rfl rfl)
theorem dX6_levelBehind_50 : decode cX6_levelBehind 50 = .ok (.getfield 265, 3) := dk_180 1 9 (dk_at dksX6_levelBehind_2 4 rfl rfl)
theorem dX6_levelBehind_53 : decode cX6_levelBehind 53 = .ok (.ifCond .eq 75, 3) := dk_153 0 75 (dk_at dksX6_levelBehind_2 7 rfl rfl)
theorem dX6_levelBehind_56 : decode cX6_levelBehind 56 = .ok (.aload_n 0, 1) := dk_42 (dk_at dksX6_levelBehind_2 10 rfl rfl)
theorem dX6_levelBehind_57 : decode cX6_levelBehind 57 = .ok (.getfield 75, 3) := dk_180 0 75 (dk_at dksX6_levelBehind_2 11 rfl rfl)
theorem dX6_levelBehind_60 : decode cX6_levelBehind 60 = .ok (.iconst 0, 1) := dk_3 (dk_at dksX6_levelBehind_2 14 rfl rfl)
theorem dX6_levelBehind_61 : decode cX6_levelBehind 61 = .ok (.iload 4, 2) := dk_21 4 (dk_at dksX6_levelBehind_2 15 rfl rfl)
theorem dX6_levelBehind_63 : decode cX6_levelBehind 63 = .ok (.iastore, 1) := dk_79 (dk_at dksX6_levelBehind_2 17 rfl rfl)
theorem dX6_levelBehind_64 : decode cX6_levelBehind 64 = .ok (.aload_n 0, 1) := dk_42 (dk_at dksX6_levelBehind_2 18 rfl rfl)
theorem dX6_levelBehind_65 : decode cX6_levelBehind 65 = .ok (.getfield 75, 3) := dk_180 0 75 (dk_at dksX6_levelBehind_2 19 rfl rfl)
theorem dX6_levelBehind_68 : decode cX6_levelBehind 68 = .ok (.iconst 1, 1) := dk_4 (dk_at dksX6_levelBehind_2 22 rfl rfl)
theorem dX6_levelBehind_69 : decode cX6_levelBehind 69 = .ok (.iload_n 3, 1) := dk_29 (dk_at dksX6_levelBehind_2 23 rfl rfl)
theorem dX6_levelBehind_70 : decode cX6_levelBehind 70 = .ok (.iastore, 1) := dk_79 (dk_at dksX6_levelBehind_3 0 rfl rfl)
theorem dX6_levelBehind_71 : decode cX6_levelBehind 71 = .ok (.aload_n 0, 1) := dk_42 (dk_at dksX6_levelBehind_3 1 rfl rfl)
theorem dX6_levelBehind_72 : decode cX6_levelBehind 72 = .ok (.getfield 75, 3) := dk_180 0 75 (dk_at dksX6_levelBehind_3 2 rfl rfl)
theorem dX6_levelBehind_75 : decode cX6_levelBehind 75 = .ok (.iconst 2, 1) := dk_5 (dk_at dksX6_levelBehind_3 5 rfl rfl)
theorem dX6_levelBehind_76 : decode cX6_levelBehind 76 = .ok (.aload_n 0, 1) := dk_42 (dk_at dksX6_levelBehind_3 6 rfl rfl)
theorem dX6_levelBehind_77 : decode cX6_levelBehind 77 = .ok (.getfield 18, 3) := dk_180 0 18 (dk_at dksX6_levelBehind_3 7 rfl rfl)
theorem dX6_levelBehind_80 : decode cX6_levelBehind 80 = .ok (.iconst 4, 1) := dk_7 (dk_at dksX6_levelBehind_3 10 rfl rfl)
theorem dX6_levelBehind_81 : decode cX6_levelBehind 81 = .ok (.iload_n 1, 1) := dk_27 (dk_at dksX6_levelBehind_3 11 rfl rfl)
theorem dX6_levelBehind_82 : decode cX6_levelBehind 82 = .ok (.imul, 1) := dk_104 (dk_at dksX6_levelBehind_3 12 rfl rfl)
theorem dX6_levelBehind_83 : decode cX6_levelBehind 83 = .ok (.iload_n 2, 1) := dk_28 (dk_at dksX6_levelBehind_3 13 rfl rfl)
theorem dX6_levelBehind_84 : decode cX6_levelBehind 84 = .ok (.iadd, 1) := dk_96 (dk_at dksX6_levelBehind_3 14 rfl rfl)
theorem dX6_levelBehind_85 : decode cX6_levelBehind 85 = .ok (.iaload, 1) := dk_46 (dk_at dksX6_levelBehind_3 15 rfl rfl)
theorem dX6_levelBehind_86 : decode cX6_levelBehind 86 = .ok (.iastore, 1) := dk_79 (dk_at dksX6_levelBehind_3 16 rfl rfl)
theorem dX6_levelBehind_87 : decode cX6_levelBehind 87 = .ok (.aload_n 0, 1) := dk_42 (dk_at dksX6_levelBehind_3 17 rfl rfl)
theorem dX6_levelBehind_88 : decode cX6_levelBehind 88 = .ok (.getfield 75, 3) := dk_180 0 75 (dk_at dksX6_levelBehind_3 18 rfl rfl)
theorem dX6_levelBehind_91 : decode cX6_levelBehind 91 = .ok (.iconst 3, 1) := dk_6 (dk_at dksX6_levelBehind_3 21 rfl rfl)
theorem dX6_levelBehind_92 : decode cX6_levelBehind 92 = .ok (.aload_n 0, 1) := dk_42 (dk_at dksX6_levelBehind_3 22 rfl rfl)
theorem dX6_levelBehind_93 : decode cX6_levelBehind 93 = .ok (.getfield 21, 3) := dk_180 0 21 (dk_at dksX6_levelBehind_4 0 rfl rfl)
theorem dX6_levelBehind_96 : decode cX6_levelBehind 96 = .ok (.iconst 4, 1) := dk_7 (dk_at dksX6_levelBehind_4 3 rfl rfl)
theorem dX6_levelBehind_97 : decode cX6_levelBehind 97 = .ok (.iload_n 1, 1) := dk_27 (dk_at dksX6_levelBehind_4 4 rfl rfl)
theorem dX6_levelBehind_98 : decode cX6_levelBehind 98 = .ok (.imul, 1) := dk_104 (dk_at dksX6_levelBehind_4 5 rfl rfl)
theorem dX6_levelBehind_99 : decode cX6_levelBehind 99 = .ok (.iload_n 2, 1) := dk_28 (dk_at dksX6_levelBehind_4 6 rfl rfl)
theorem dX6_levelBehind_100 : decode cX6_levelBehind 100 = .ok (.iadd, 1) := dk_96 (dk_at dksX6_levelBehind_4 7 rfl rfl)
theorem dX6_levelBehind_101 : decode cX6_levelBehind 101 = .ok (.iaload, 1) := dk_46 (dk_at dksX6_levelBehind_4 8 rfl rfl)
theorem dX6_levelBehind_102 : decode cX6_levelBehind 102 = .ok (.iastore, 1) := dk_79 (dk_at dksX6_levelBehind_4 9 rfl rfl)
theorem dX6_levelBehind_103 : decode cX6_levelBehind 103 = .ok (.aload_n 0, 1) := dk_42 (dk_at dksX6_levelBehind_4 10 rfl rfl)
theorem dX6_levelBehind_104 : decode cX6_levelBehind 104 = .ok (.getfield 75, 3) := dk_180 0 75 (dk_at dksX6_levelBehind_4 11 rfl rfl)
theorem dX6_levelBehind_107 : decode cX6_levelBehind 107 = .ok (.iconst 4, 1) := dk_7 (dk_at dksX6_levelBehind_4 14 rfl rfl)
theorem dX6_levelBehind_108 : decode cX6_levelBehind 108 = .ok (.iload 5, 2) := dk_21 5 (dk_at dksX6_levelBehind_4 15 rfl rfl)
theorem dX6_levelBehind_110 : decode cX6_levelBehind 110 = .ok (.iastore, 1) := dk_79 (dk_at dksX6_levelBehind_4 17 rfl rfl)
theorem dX6_levelBehind_111 : decode cX6_levelBehind 111 = .ok (.aload_n 0, 1) := dk_42 (dk_at dksX6_levelBehind_4 18 rfl rfl)
theorem dX6_levelBehind_112 : decode cX6_levelBehind 112 = .ok (.getfield 75, 3) := dk_180 0 75 (dk_at dksX6_levelBehind_4 19 rfl rfl)
theorem dX6_levelBehind_115 : decode cX6_levelBehind 115 = .ok (.iconst 5, 1) := dk_8 (dk_at dksX6_levelBehind_4 22 rfl rfl)
theorem dX6_levelBehind_116 : decode cX6_levelBehind 116 = .ok (.iload_n 2, 1) := dk_28 (dk_at dksX6_levelBehind_4 23 rfl rfl)
theorem dX6_levelBehind_117 : decode cX6_levelBehind 117 = .ok (.iastore, 1) := dk_79 (dk_at dksX6_levelBehind_5 0 rfl rfl)
theorem dX6_levelBehind_118 : decode cX6_levelBehind 118 = .ok (.aload_n 0, 1) := dk_42 (dk_at dksX6_levelBehind_5 1 rfl rfl)
theorem dX6_levelBehind_119 : decode cX6_levelBehind 119 = .ok (.iconst 0, 1) := dk_3 (dk_at dksX6_levelBehind_5 2 rfl rfl)
theorem dX6_levelBehind_120 : decode cX6_levelBehind 120 = .ok (.invokevirtual 269, 3) := dk_182 1 13 (dk_at dksX6_levelBehind_5 3 rfl rfl)
theorem dX6_levelBehind_123 : decode cX6_levelBehind 123 = .ok (.istore 6, 2) := dk_54 6 (dk_at dksX6_levelBehind_5 6 rfl rfl)
theorem dX6_levelBehind_125 : decode cX6_levelBehind 125 = .ok (.goto 42, 3) := dk_167 0 42 (dk_at dksX6_levelBehind_5 8 rfl rfl)
theorem dX6_levelBehind_128 : decode cX6_levelBehind 128 = .ok (.iload_n 3, 1) := dk_29 (dk_at dksX6_levelBehind_5 11 rfl rfl)
theorem dX6_levelBehind_129 : decode cX6_levelBehind 129 = .ok (.iload 4, 2) := dk_21 4 (dk_at dksX6_levelBehind_5 12 rfl rfl)
theorem dX6_levelBehind_131 : decode cX6_levelBehind 131 = .ok (.isub, 1) := dk_100 (dk_at dksX6_levelBehind_5 14 rfl rfl)
theorem dX6_levelBehind_132 : decode cX6_levelBehind 132 = .ok (.iload 5, 2) := dk_21 5 (dk_at dksX6_levelBehind_5 15 rfl rfl)
theorem dX6_levelBehind_134 : decode cX6_levelBehind 134 = .ok (.if_icmp .le 33, 3) := dk_164 0 33 (dk_at dksX6_levelBehind_5 17 rfl rfl)
theorem dX6_levelBehind_137 : decode cX6_levelBehind 137 = .ok (.iload 6, 2) := dk_21 6 (dk_at dksX6_levelBehind_5 20 rfl rfl)
theorem dX6_levelBehind_139 : decode cX6_levelBehind 139 = .ok (.aload_n 0, 1) := dk_42 (dk_at dksX6_levelBehind_5 22 rfl rfl)
theorem dX6_levelBehind_140 : decode cX6_levelBehind 140 = .ok (.getfield 21, 3) := dk_180 0 21 (dk_at dksX6_levelBehind_6 0 rfl rfl)
theorem dX6_levelBehind_143 : decode cX6_levelBehind 143 = .ok (.iconst 4, 1) := dk_7 (dk_at dksX6_levelBehind_6 3 rfl rfl)
theorem dX6_levelBehind_144 : decode cX6_levelBehind 144 = .ok (.iload_n 1, 1) := dk_27 (dk_at dksX6_levelBehind_6 4 rfl rfl)
theorem dX6_levelBehind_145 : decode cX6_levelBehind 145 = .ok (.imul, 1) := dk_104 (dk_at dksX6_levelBehind_6 5 rfl rfl)
theorem dX6_levelBehind_146 : decode cX6_levelBehind 146 = .ok (.iload_n 2, 1) := dk_28 (dk_at dksX6_levelBehind_6 6 rfl rfl)
theorem dX6_levelBehind_147 : decode cX6_levelBehind 147 = .ok (.iadd, 1) := dk_96 (dk_at dksX6_levelBehind_6 7 rfl rfl)
theorem dX6_levelBehind_148 : decode cX6_levelBehind 148 = .ok (.iaload, 1) := dk_46 (dk_at dksX6_levelBehind_6 8 rfl rfl)
theorem dX6_levelBehind_149 : decode cX6_levelBehind 149 = .ok (.iadd, 1) := dk_96 (dk_at dksX6_levelBehind_6 9 rfl rfl)
theorem dX6_levelBehind_150 : decode cX6_levelBehind 150 = .ok (.istore 6, 2) := dk_54 6 (dk_at dksX6_levelBehind_6 10 rfl rfl)
theorem dX6_levelBehind_152 : decode cX6_levelBehind 152 = .ok (.iload 4, 2) := dk_21 4 (dk_at dksX6_levelBehind_6 12 rfl rfl)
theorem dX6_levelBehind_154 : decode cX6_levelBehind 154 = .ok (.iload 6, 2) := dk_21 6 (dk_at dksX6_levelBehind_6 14 rfl rfl)
theorem dX6_levelBehind_156 : decode cX6_levelBehind 156 = .ok (.iadd, 1) := dk_96 (dk_at dksX6_levelBehind_6 16 rfl rfl)
theorem dX6_levelBehind_157 : decode cX6_levelBehind 157 = .ok (.iload_n 3, 1) := dk_29 (dk_at dksX6_levelBehind_6 17 rfl rfl)
theorem dX6_levelBehind_158 : decode cX6_levelBehind 158 = .ok (.if_icmp .le 9, 3) := dk_164 0 9 (dk_at dksX6_levelBehind_6 18 rfl rfl)
theorem dX6_levelBehind_161 : decode cX6_levelBehind 161 = .ok (.iload_n 3, 1) := dk_29 (dk_at dksX6_levelBehind_6 21 rfl rfl)
theorem dX6_levelBehind_162 : decode cX6_levelBehind 162 = .ok (.iload 4, 2) := dk_21 4 (dk_at dksX6_levelBehind_6 22 rfl rfl)
theorem dX6_levelBehind_164 : decode cX6_levelBehind 164 = .ok (.isub, 1) := dk_100 (dk_at dksX6_levelBehind_7 0 rfl rfl)
theorem dX6_levelBehind_165 : decode cX6_levelBehind 165 = .ok (.istore 6, 2) := dk_54 6 (dk_at dksX6_levelBehind_7 1 rfl rfl)
theorem dX6_levelBehind_167 : decode cX6_levelBehind 167 = .ok (.iload 6, 2) := dk_21 6 (dk_at dksX6_levelBehind_7 3 rfl rfl)
theorem dX6_levelBehind_169 : decode cX6_levelBehind 169 = .ok (.bipush (-20), 2) := dk_16 236 (dk_at dksX6_levelBehind_7 5 rfl rfl)
theorem dX6_levelBehind_171 : decode cX6_levelBehind 171 = .ok (.if_icmp .ge 8, 3) := dk_162 0 8 (dk_at dksX6_levelBehind_7 7 rfl rfl)
theorem dX6_levelBehind_174 : decode cX6_levelBehind 174 = .ok (.bipush (-20), 2) := dk_16 236 (dk_at dksX6_levelBehind_7 10 rfl rfl)
theorem dX6_levelBehind_176 : decode cX6_levelBehind 176 = .ok (.goto 17, 3) := dk_167 0 17 (dk_at dksX6_levelBehind_7 12 rfl rfl)
theorem dX6_levelBehind_179 : decode cX6_levelBehind 179 = .ok (.iload 6, 2) := dk_21 6 (dk_at dksX6_levelBehind_7 15 rfl rfl)
theorem dX6_levelBehind_181 : decode cX6_levelBehind 181 = .ok (.bipush 20, 2) := dk_16 20 (dk_at dksX6_levelBehind_7 17 rfl rfl)
theorem dX6_levelBehind_183 : decode cX6_levelBehind 183 = .ok (.if_icmp .le 8, 3) := dk_164 0 8 (dk_at dksX6_levelBehind_7 19 rfl rfl)
theorem dX6_levelBehind_186 : decode cX6_levelBehind 186 = .ok (.bipush 20, 2) := dk_16 20 (dk_at dksX6_levelBehind_7 22 rfl rfl)
theorem dX6_levelBehind_188 : decode cX6_levelBehind 188 = .ok (.goto 5, 3) := dk_167 0 5 (dk_at dksX6_levelBehind_8 0 rfl rfl)
theorem dX6_levelBehind_191 : decode cX6_levelBehind 191 = .ok (.iload 6, 2) := dk_21 6 (dk_at dksX6_levelBehind_8 3 rfl rfl)
theorem dX6_levelBehind_193 : decode cX6_levelBehind 193 = .ok (.istore 7, 2) := dk_54 7 (dk_at dksX6_levelBehind_8 5 rfl rfl)
theorem dX6_levelBehind_195 : decode cX6_levelBehind 195 = .ok (.iload 4, 2) := dk_21 4 (dk_at dksX6_levelBehind_8 7 rfl rfl)
theorem dX6_levelBehind_197 : decode cX6_levelBehind 197 = .ok (.iload 7, 2) := dk_21 7 (dk_at dksX6_levelBehind_8 9 rfl rfl)
theorem dX6_levelBehind_199 : decode cX6_levelBehind 199 = .ok (.iadd, 1) := dk_96 (dk_at dksX6_levelBehind_8 11 rfl rfl)
theorem dX6_levelBehind_200 : decode cX6_levelBehind 200 = .ok (.istore 8, 2) := dk_54 8 (dk_at dksX6_levelBehind_8 12 rfl rfl)
theorem dX6_levelBehind_202 : decode cX6_levelBehind 202 = .ok (.iload 8, 2) := dk_21 8 (dk_at dksX6_levelBehind_8 14 rfl rfl)
theorem dX6_levelBehind_204 : decode cX6_levelBehind 204 = .ok (.ifCond .ge 7, 3) := dk_156 0 7 (dk_at dksX6_levelBehind_8 16 rfl rfl)
theorem dX6_levelBehind_207 : decode cX6_levelBehind 207 = .ok (.iconst 0, 1) := dk_3 (dk_at dksX6_levelBehind_8 19 rfl rfl)
theorem dX6_levelBehind_208 : decode cX6_levelBehind 208 = .ok (.goto 17, 3) := dk_167 0 17 (dk_at dksX6_levelBehind_8 20 rfl rfl)
theorem dX6_levelBehind_211 : decode cX6_levelBehind 211 = .ok (.iload 8, 2) := dk_21 8 (dk_at dksX6_levelBehind_9 0 rfl rfl)
theorem dX6_levelBehind_213 : decode cX6_levelBehind 213 = .ok (.bipush 99, 2) := dk_16 99 (dk_at dksX6_levelBehind_9 2 rfl rfl)
theorem dX6_levelBehind_215 : decode cX6_levelBehind 215 = .ok (.if_icmp .le 8, 3) := dk_164 0 8 (dk_at dksX6_levelBehind_9 4 rfl rfl)
theorem dX6_levelBehind_218 : decode cX6_levelBehind 218 = .ok (.bipush 99, 2) := dk_16 99 (dk_at dksX6_levelBehind_9 7 rfl rfl)
theorem dX6_levelBehind_220 : decode cX6_levelBehind 220 = .ok (.goto 5, 3) := dk_167 0 5 (dk_at dksX6_levelBehind_9 9 rfl rfl)
theorem dX6_levelBehind_223 : decode cX6_levelBehind 223 = .ok (.iload 8, 2) := dk_21 8 (dk_at dksX6_levelBehind_9 12 rfl rfl)
theorem dX6_levelBehind_225 : decode cX6_levelBehind 225 = .ok (.ireturn, 1) := dk_172 (dk_at dksX6_levelBehind_9 14 rfl rfl)
abbrev cX6_gives : ByteArray := prog_25_method_37_code
def yX6_gives : MethodName := ⟨RX6, "gives", "(I)I"⟩
def dkwX6_gives_3 : List UInt8 := [61, 132, 3, 1, 167, 255, 188, 3, 172]
abbrev dktX6_gives_3 : List UInt8 := dkwX6_gives_3 ++ []
def dkwX6_gives_2 : List UInt8 := [42, 27, 42, 180, 0, 68, 29, 53, 42, 180, 0, 72, 29, 53, 182, 1, 3, 172, 42, 180, 0, 72, 29, 53]
abbrev dktX6_gives_2 : List UInt8 := dkwX6_gives_2 ++ dktX6_gives_3
def dkwX6_gives_1 : List UInt8 := [180, 0, 68, 29, 53, 28, 159, 0, 18, 42, 27, 28, 42, 180, 0, 68, 29, 53, 182, 1, 3, 153, 0, 21]
abbrev dktX6_gives_1 : List UInt8 := dkwX6_gives_1 ++ dktX6_gives_2
def dkwX6_gives_0 : List UInt8 := [3, 61, 16, 61, 27, 104, 62, 29, 16, 61, 27, 104, 42, 180, 0, 65, 27, 46, 96, 162, 0, 59, 42]
abbrev dktX6_gives_0 : List UInt8 := dkwX6_gives_0 ++ dktX6_gives_1
theorem dksX6_gives_0 : cX6_gives.data.toList.drop 0 = dktX6_gives_0 := by decide +kernel
theorem dksX6_gives_1 : cX6_gives.data.toList.drop 23 = dktX6_gives_1 := dk_seg dksX6_gives_0 23 rfl rfl
theorem dksX6_gives_2 : cX6_gives.data.toList.drop 47 = dktX6_gives_2 := dk_seg dksX6_gives_1 24 rfl rfl
theorem dksX6_gives_3 : cX6_gives.data.toList.drop 71 = dktX6_gives_3 := dk_seg dksX6_gives_2 24 rfl rfl
theorem dX6_gives_0 : decode cX6_gives 0 = .ok (.iconst 0, 1) := dk_3 (dk_at dksX6_gives_0 0 rfl rfl)
theorem dX6_gives_1 : decode cX6_gives 1 = .ok (.istore_n 2, 1) := dk_61 (dk_at dksX6_gives_0 1 rfl rfl)
theorem dX6_gives_2 : decode cX6_gives 2 = .ok (.bipush 61, 2) := dk_16 61 (dk_at dksX6_gives_0 2 rfl rfl)
theorem dX6_gives_4 : decode cX6_gives 4 = .ok (.iload_n 1, 1) := dk_27 (dk_at dksX6_gives_0 4 rfl rfl)
theorem dX6_gives_5 : decode cX6_gives 5 = .ok (.imul, 1) := dk_104 (dk_at dksX6_gives_0 5 rfl rfl)
theorem dX6_gives_6 : decode cX6_gives 6 = .ok (.istore_n 3, 1) := dk_62 (dk_at dksX6_gives_0 6 rfl rfl)
theorem dX6_gives_7 : decode cX6_gives 7 = .ok (.iload_n 3, 1) := dk_29 (dk_at dksX6_gives_0 7 rfl rfl)
theorem dX6_gives_8 : decode cX6_gives 8 = .ok (.bipush 61, 2) := dk_16 61 (dk_at dksX6_gives_0 8 rfl rfl)
theorem dX6_gives_10 : decode cX6_gives 10 = .ok (.iload_n 1, 1) := dk_27 (dk_at dksX6_gives_0 10 rfl rfl)
theorem dX6_gives_11 : decode cX6_gives 11 = .ok (.imul, 1) := dk_104 (dk_at dksX6_gives_0 11 rfl rfl)
theorem dX6_gives_12 : decode cX6_gives 12 = .ok (.aload_n 0, 1) := dk_42 (dk_at dksX6_gives_0 12 rfl rfl)
theorem dX6_gives_13 : decode cX6_gives 13 = .ok (.getfield 65, 3) := dk_180 0 65 (dk_at dksX6_gives_0 13 rfl rfl)
theorem dX6_gives_16 : decode cX6_gives 16 = .ok (.iload_n 1, 1) := dk_27 (dk_at dksX6_gives_0 16 rfl rfl)
theorem dX6_gives_17 : decode cX6_gives 17 = .ok (.iaload, 1) := dk_46 (dk_at dksX6_gives_0 17 rfl rfl)
theorem dX6_gives_18 : decode cX6_gives 18 = .ok (.iadd, 1) := dk_96 (dk_at dksX6_gives_0 18 rfl rfl)
theorem dX6_gives_19 : decode cX6_gives 19 = .ok (.if_icmp .ge 59, 3) := dk_162 0 59 (dk_at dksX6_gives_0 19 rfl rfl)
theorem dX6_gives_22 : decode cX6_gives 22 = .ok (.aload_n 0, 1) := dk_42 (dk_at dksX6_gives_0 22 rfl rfl)
theorem dX6_gives_23 : decode cX6_gives 23 = .ok (.getfield 68, 3) := dk_180 0 68 (dk_at dksX6_gives_1 0 rfl rfl)
theorem dX6_gives_26 : decode cX6_gives 26 = .ok (.iload_n 3, 1) := dk_29 (dk_at dksX6_gives_1 3 rfl rfl)
theorem dX6_gives_27 : decode cX6_gives 27 = .ok (.saload, 1) := dk_53 (dk_at dksX6_gives_1 4 rfl rfl)
theorem dX6_gives_28 : decode cX6_gives 28 = .ok (.iload_n 2, 1) := dk_28 (dk_at dksX6_gives_1 5 rfl rfl)
theorem dX6_gives_29 : decode cX6_gives 29 = .ok (.if_icmp .eq 18, 3) := dk_159 0 18 (dk_at dksX6_gives_1 6 rfl rfl)
theorem dX6_gives_32 : decode cX6_gives 32 = .ok (.aload_n 0, 1) := dk_42 (dk_at dksX6_gives_1 9 rfl rfl)
theorem dX6_gives_33 : decode cX6_gives 33 = .ok (.iload_n 1, 1) := dk_27 (dk_at dksX6_gives_1 10 rfl rfl)
theorem dX6_gives_34 : decode cX6_gives 34 = .ok (.iload_n 2, 1) := dk_28 (dk_at dksX6_gives_1 11 rfl rfl)
theorem dX6_gives_35 : decode cX6_gives 35 = .ok (.aload_n 0, 1) := dk_42 (dk_at dksX6_gives_1 12 rfl rfl)
theorem dX6_gives_36 : decode cX6_gives 36 = .ok (.getfield 68, 3) := dk_180 0 68 (dk_at dksX6_gives_1 13 rfl rfl)
theorem dX6_gives_39 : decode cX6_gives 39 = .ok (.iload_n 3, 1) := dk_29 (dk_at dksX6_gives_1 16 rfl rfl)
theorem dX6_gives_40 : decode cX6_gives 40 = .ok (.saload, 1) := dk_53 (dk_at dksX6_gives_1 17 rfl rfl)
theorem dX6_gives_41 : decode cX6_gives 41 = .ok (.invokevirtual 259, 3) := dk_182 1 3 (dk_at dksX6_gives_1 18 rfl rfl)
theorem dX6_gives_44 : decode cX6_gives 44 = .ok (.ifCond .eq 21, 3) := dk_153 0 21 (dk_at dksX6_gives_1 21 rfl rfl)
theorem dX6_gives_47 : decode cX6_gives 47 = .ok (.aload_n 0, 1) := dk_42 (dk_at dksX6_gives_2 0 rfl rfl)
theorem dX6_gives_48 : decode cX6_gives 48 = .ok (.iload_n 1, 1) := dk_27 (dk_at dksX6_gives_2 1 rfl rfl)
theorem dX6_gives_49 : decode cX6_gives 49 = .ok (.aload_n 0, 1) := dk_42 (dk_at dksX6_gives_2 2 rfl rfl)
theorem dX6_gives_50 : decode cX6_gives 50 = .ok (.getfield 68, 3) := dk_180 0 68 (dk_at dksX6_gives_2 3 rfl rfl)
theorem dX6_gives_53 : decode cX6_gives 53 = .ok (.iload_n 3, 1) := dk_29 (dk_at dksX6_gives_2 6 rfl rfl)
theorem dX6_gives_54 : decode cX6_gives 54 = .ok (.saload, 1) := dk_53 (dk_at dksX6_gives_2 7 rfl rfl)
theorem dX6_gives_55 : decode cX6_gives 55 = .ok (.aload_n 0, 1) := dk_42 (dk_at dksX6_gives_2 8 rfl rfl)
theorem dX6_gives_56 : decode cX6_gives 56 = .ok (.getfield 72, 3) := dk_180 0 72 (dk_at dksX6_gives_2 9 rfl rfl)
theorem dX6_gives_59 : decode cX6_gives 59 = .ok (.iload_n 3, 1) := dk_29 (dk_at dksX6_gives_2 12 rfl rfl)
theorem dX6_gives_60 : decode cX6_gives 60 = .ok (.saload, 1) := dk_53 (dk_at dksX6_gives_2 13 rfl rfl)
theorem dX6_gives_61 : decode cX6_gives 61 = .ok (.invokevirtual 259, 3) := dk_182 1 3 (dk_at dksX6_gives_2 14 rfl rfl)
theorem dX6_gives_64 : decode cX6_gives 64 = .ok (.ireturn, 1) := dk_172 (dk_at dksX6_gives_2 17 rfl rfl)
theorem dX6_gives_65 : decode cX6_gives 65 = .ok (.aload_n 0, 1) := dk_42 (dk_at dksX6_gives_2 18 rfl rfl)
theorem dX6_gives_66 : decode cX6_gives 66 = .ok (.getfield 72, 3) := dk_180 0 72 (dk_at dksX6_gives_2 19 rfl rfl)
theorem dX6_gives_69 : decode cX6_gives 69 = .ok (.iload_n 3, 1) := dk_29 (dk_at dksX6_gives_2 22 rfl rfl)
theorem dX6_gives_70 : decode cX6_gives 70 = .ok (.saload, 1) := dk_53 (dk_at dksX6_gives_2 23 rfl rfl)
theorem dX6_gives_71 : decode cX6_gives 71 = .ok (.istore_n 2, 1) := dk_61 (dk_at dksX6_gives_3 0 rfl rfl)
theorem dX6_gives_72 : decode cX6_gives 72 = .ok (.iinc 3 1, 3) := dk_132 3 1 (dk_at dksX6_gives_3 1 rfl rfl)
theorem dX6_gives_75 : decode cX6_gives 75 = .ok (.goto (-68), 3) := dk_167 255 188 (dk_at dksX6_gives_3 4 rfl rfl)
theorem dX6_gives_78 : decode cX6_gives 78 = .ok (.iconst 0, 1) := dk_3 (dk_at dksX6_gives_3 7 rfl rfl)
theorem dX6_gives_79 : decode cX6_gives 79 = .ok (.ireturn, 1) := dk_172 (dk_at dksX6_gives_3 8 rfl rfl)
abbrev cX6_worked : ByteArray := prog_25_method_36_code
def yX6_worked : MethodName := ⟨RX6, "worked", "(III)I"⟩
def dkwX6_worked_8 : List UInt8 := [167, 255, 83, 42, 180, 0, 78, 3, 46, 172]
abbrev dktX6_worked_8 : List UInt8 := dkwX6_worked_8 ++ []
def dkwX6_worked_7 : List UInt8 := [180, 0, 78, 21, 4, 4, 100, 46, 42, 180, 0, 78, 21, 4, 46, 184, 1, 0, 79, 132, 5, 1]
abbrev dktX6_worked_7 : List UInt8 := dkwX6_worked_7 ++ dktX6_worked_8
def dkwX6_worked_6 : List UInt8 := [21, 4, 4, 100, 46, 116, 79, 167, 0, 36, 132, 4, 255, 42, 180, 0, 78, 21, 4, 4, 100, 21, 6, 42]
abbrev dktX6_worked_6 : List UInt8 := dkwX6_worked_6 ++ dktX6_worked_7
def dkwX6_worked_5 : List UInt8 := [3, 79, 167, 0, 64, 21, 6, 7, 160, 0, 25, 42, 180, 0, 78, 21, 4, 4, 100, 42, 180, 0, 78]
abbrev dktX6_worked_5 : List UInt8 := dkwX6_worked_5 ++ dktX6_worked_6
def dkwX6_worked_4 : List UInt8 := [42, 180, 0, 78, 21, 4, 4, 100, 42, 180, 0, 78, 21, 4, 4, 100, 46, 154, 0, 7, 4, 167, 0, 4]
abbrev dktX6_worked_4 : List UInt8 := dkwX6_worked_4 ++ dktX6_worked_5
def dkwX6_worked_3 : List UInt8 := [180, 0, 75, 42, 180, 0, 62, 21, 5, 46, 46, 79, 132, 4, 1, 167, 0, 99, 21, 6, 6, 160, 0, 32]
abbrev dktX6_worked_3 : List UInt8 := dkwX6_worked_3 ++ dktX6_worked_4
def dkwX6_worked_2 : List UInt8 := [180, 0, 78, 21, 4, 21, 6, 4, 160, 0, 13, 42, 180, 0, 62, 21, 5, 46, 167, 0, 15, 42]
abbrev dktX6_worked_2 : List UInt8 := dkwX6_worked_2 ++ dktX6_worked_3
def dkwX6_worked_1 : List UInt8 := [42, 180, 0, 59, 21, 5, 51, 54, 6, 21, 6, 4, 159, 0, 9, 21, 6, 5, 160, 0, 44, 42]
abbrev dktX6_worked_1 : List UInt8 := dkwX6_worked_1 ++ dktX6_worked_2
def dkwX6_worked_0 : List UInt8 := [3, 54, 4, 17, 0, 130, 27, 104, 28, 96, 54, 5, 21, 5, 17, 0, 130, 27, 104, 29, 96, 162, 0, 167]
abbrev dktX6_worked_0 : List UInt8 := dkwX6_worked_0 ++ dktX6_worked_1
theorem dksX6_worked_0 : cX6_worked.data.toList.drop 0 = dktX6_worked_0 := by decide +kernel
theorem dksX6_worked_1 : cX6_worked.data.toList.drop 24 = dktX6_worked_1 := dk_seg dksX6_worked_0 24 rfl rfl
theorem dksX6_worked_2 : cX6_worked.data.toList.drop 46 = dktX6_worked_2 := dk_seg dksX6_worked_1 22 rfl rfl
theorem dksX6_worked_3 : cX6_worked.data.toList.drop 68 = dktX6_worked_3 := dk_seg dksX6_worked_2 22 rfl rfl
theorem dksX6_worked_4 : cX6_worked.data.toList.drop 92 = dktX6_worked_4 := dk_seg dksX6_worked_3 24 rfl rfl
theorem dksX6_worked_5 : cX6_worked.data.toList.drop 116 = dktX6_worked_5 := dk_seg dksX6_worked_4 24 rfl rfl
theorem dksX6_worked_6 : cX6_worked.data.toList.drop 139 = dktX6_worked_6 := dk_seg dksX6_worked_5 23 rfl rfl
theorem dksX6_worked_7 : cX6_worked.data.toList.drop 163 = dktX6_worked_7 := dk_seg dksX6_worked_6 24 rfl rfl
theorem dksX6_worked_8 : cX6_worked.data.toList.drop 185 = dktX6_worked_8 := dk_seg dksX6_worked_7 22 rfl rfl
theorem dX6_worked_0 : decode cX6_worked 0 = .ok (.iconst 0, 1) := dk_3 (dk_at dksX6_worked_0 0 rfl rfl)
theorem dX6_worked_1 : decode cX6_worked 1 = .ok (.istore 4, 2) := dk_54 4 (dk_at dksX6_worked_0 1 rfl rfl)
theorem dX6_worked_3 : decode cX6_worked 3 = .ok (.sipush 130, 3) := dk_17 0 130 (dk_at dksX6_worked_0 3 rfl rfl)
theorem dX6_worked_6 : decode cX6_worked 6 = .ok (.iload_n 1, 1) := dk_27 (dk_at dksX6_worked_0 6 rfl rfl)
theorem dX6_worked_7 : decode cX6_worked 7 = .ok (.imul, 1) := dk_104 (dk_at dksX6_worked_0 7 rfl rfl)
theorem dX6_worked_8 : decode cX6_worked 8 = .ok (.iload_n 2, 1) := dk_28 (dk_at dksX6_worked_0 8 rfl rfl)
theorem dX6_worked_9 : decode cX6_worked 9 = .ok (.iadd, 1) := dk_96 (dk_at dksX6_worked_0 9 rfl rfl)
theorem dX6_worked_10 : decode cX6_worked 10 = .ok (.istore 5, 2) := dk_54 5 (dk_at dksX6_worked_0 10 rfl rfl)
theorem dX6_worked_12 : decode cX6_worked 12 = .ok (.iload 5, 2) := dk_21 5 (dk_at dksX6_worked_0 12 rfl rfl)
theorem dX6_worked_14 : decode cX6_worked 14 = .ok (.sipush 130, 3) := dk_17 0 130 (dk_at dksX6_worked_0 14 rfl rfl)
theorem dX6_worked_17 : decode cX6_worked 17 = .ok (.iload_n 1, 1) := dk_27 (dk_at dksX6_worked_0 17 rfl rfl)
theorem dX6_worked_18 : decode cX6_worked 18 = .ok (.imul, 1) := dk_104 (dk_at dksX6_worked_0 18 rfl rfl)
theorem dX6_worked_19 : decode cX6_worked 19 = .ok (.iload_n 3, 1) := dk_29 (dk_at dksX6_worked_0 19 rfl rfl)
theorem dX6_worked_20 : decode cX6_worked 20 = .ok (.iadd, 1) := dk_96 (dk_at dksX6_worked_0 20 rfl rfl)
theorem dX6_worked_21 : decode cX6_worked 21 = .ok (.if_icmp .ge 167, 3) := dk_162 0 167 (dk_at dksX6_worked_0 21 rfl rfl)
theorem dX6_worked_24 : decode cX6_worked 24 = .ok (.aload_n 0, 1) := dk_42 (dk_at dksX6_worked_1 0 rfl rfl)
theorem dX6_worked_25 : decode cX6_worked 25 = .ok (.getfield 59, 3) := dk_180 0 59 (dk_at dksX6_worked_1 1 rfl rfl)
theorem dX6_worked_28 : decode cX6_worked 28 = .ok (.iload 5, 2) := dk_21 5 (dk_at dksX6_worked_1 4 rfl rfl)
theorem dX6_worked_30 : decode cX6_worked 30 = .ok (.baload, 1) := dk_51 (dk_at dksX6_worked_1 6 rfl rfl)
theorem dX6_worked_31 : decode cX6_worked 31 = .ok (.istore 6, 2) := dk_54 6 (dk_at dksX6_worked_1 7 rfl rfl)
theorem dX6_worked_33 : decode cX6_worked 33 = .ok (.iload 6, 2) := dk_21 6 (dk_at dksX6_worked_1 9 rfl rfl)
theorem dX6_worked_35 : decode cX6_worked 35 = .ok (.iconst 1, 1) := dk_4 (dk_at dksX6_worked_1 11 rfl rfl)
theorem dX6_worked_36 : decode cX6_worked 36 = .ok (.if_icmp .eq 9, 3) := dk_159 0 9 (dk_at dksX6_worked_1 12 rfl rfl)
theorem dX6_worked_39 : decode cX6_worked 39 = .ok (.iload 6, 2) := dk_21 6 (dk_at dksX6_worked_1 15 rfl rfl)
theorem dX6_worked_41 : decode cX6_worked 41 = .ok (.iconst 2, 1) := dk_5 (dk_at dksX6_worked_1 17 rfl rfl)
theorem dX6_worked_42 : decode cX6_worked 42 = .ok (.if_icmp .ne 44, 3) := dk_160 0 44 (dk_at dksX6_worked_1 18 rfl rfl)
theorem dX6_worked_45 : decode cX6_worked 45 = .ok (.aload_n 0, 1) := dk_42 (dk_at dksX6_worked_1 21 rfl rfl)
theorem dX6_worked_46 : decode cX6_worked 46 = .ok (.getfield 78, 3) := dk_180 0 78 (dk_at dksX6_worked_2 0 rfl rfl)
theorem dX6_worked_49 : decode cX6_worked 49 = .ok (.iload 4, 2) := dk_21 4 (dk_at dksX6_worked_2 3 rfl rfl)
theorem dX6_worked_51 : decode cX6_worked 51 = .ok (.iload 6, 2) := dk_21 6 (dk_at dksX6_worked_2 5 rfl rfl)
theorem dX6_worked_53 : decode cX6_worked 53 = .ok (.iconst 1, 1) := dk_4 (dk_at dksX6_worked_2 7 rfl rfl)
theorem dX6_worked_54 : decode cX6_worked 54 = .ok (.if_icmp .ne 13, 3) := dk_160 0 13 (dk_at dksX6_worked_2 8 rfl rfl)
theorem dX6_worked_57 : decode cX6_worked 57 = .ok (.aload_n 0, 1) := dk_42 (dk_at dksX6_worked_2 11 rfl rfl)
theorem dX6_worked_58 : decode cX6_worked 58 = .ok (.getfield 62, 3) := dk_180 0 62 (dk_at dksX6_worked_2 12 rfl rfl)
theorem dX6_worked_61 : decode cX6_worked 61 = .ok (.iload 5, 2) := dk_21 5 (dk_at dksX6_worked_2 15 rfl rfl)
theorem dX6_worked_63 : decode cX6_worked 63 = .ok (.iaload, 1) := dk_46 (dk_at dksX6_worked_2 17 rfl rfl)
theorem dX6_worked_64 : decode cX6_worked 64 = .ok (.goto 15, 3) := dk_167 0 15 (dk_at dksX6_worked_2 18 rfl rfl)
theorem dX6_worked_67 : decode cX6_worked 67 = .ok (.aload_n 0, 1) := dk_42 (dk_at dksX6_worked_2 21 rfl rfl)
theorem dX6_worked_68 : decode cX6_worked 68 = .ok (.getfield 75, 3) := dk_180 0 75 (dk_at dksX6_worked_3 0 rfl rfl)
theorem dX6_worked_71 : decode cX6_worked 71 = .ok (.aload_n 0, 1) := dk_42 (dk_at dksX6_worked_3 3 rfl rfl)
theorem dX6_worked_72 : decode cX6_worked 72 = .ok (.getfield 62, 3) := dk_180 0 62 (dk_at dksX6_worked_3 4 rfl rfl)
theorem dX6_worked_75 : decode cX6_worked 75 = .ok (.iload 5, 2) := dk_21 5 (dk_at dksX6_worked_3 7 rfl rfl)
theorem dX6_worked_77 : decode cX6_worked 77 = .ok (.iaload, 1) := dk_46 (dk_at dksX6_worked_3 9 rfl rfl)
theorem dX6_worked_78 : decode cX6_worked 78 = .ok (.iaload, 1) := dk_46 (dk_at dksX6_worked_3 10 rfl rfl)
theorem dX6_worked_79 : decode cX6_worked 79 = .ok (.iastore, 1) := dk_79 (dk_at dksX6_worked_3 11 rfl rfl)
theorem dX6_worked_80 : decode cX6_worked 80 = .ok (.iinc 4 1, 3) := dk_132 4 1 (dk_at dksX6_worked_3 12 rfl rfl)
theorem dX6_worked_83 : decode cX6_worked 83 = .ok (.goto 99, 3) := dk_167 0 99 (dk_at dksX6_worked_3 15 rfl rfl)
theorem dX6_worked_86 : decode cX6_worked 86 = .ok (.iload 6, 2) := dk_21 6 (dk_at dksX6_worked_3 18 rfl rfl)
theorem dX6_worked_88 : decode cX6_worked 88 = .ok (.iconst 3, 1) := dk_6 (dk_at dksX6_worked_3 20 rfl rfl)
theorem dX6_worked_89 : decode cX6_worked 89 = .ok (.if_icmp .ne 32, 3) := dk_160 0 32 (dk_at dksX6_worked_3 21 rfl rfl)
theorem dX6_worked_92 : decode cX6_worked 92 = .ok (.aload_n 0, 1) := dk_42 (dk_at dksX6_worked_4 0 rfl rfl)
theorem dX6_worked_93 : decode cX6_worked 93 = .ok (.getfield 78, 3) := dk_180 0 78 (dk_at dksX6_worked_4 1 rfl rfl)
theorem dX6_worked_96 : decode cX6_worked 96 = .ok (.iload 4, 2) := dk_21 4 (dk_at dksX6_worked_4 4 rfl rfl)
theorem dX6_worked_98 : decode cX6_worked 98 = .ok (.iconst 1, 1) := dk_4 (dk_at dksX6_worked_4 6 rfl rfl)
theorem dX6_worked_99 : decode cX6_worked 99 = .ok (.isub, 1) := dk_100 (dk_at dksX6_worked_4 7 rfl rfl)
theorem dX6_worked_100 : decode cX6_worked 100 = .ok (.aload_n 0, 1) := dk_42 (dk_at dksX6_worked_4 8 rfl rfl)
theorem dX6_worked_101 : decode cX6_worked 101 = .ok (.getfield 78, 3) := dk_180 0 78 (dk_at dksX6_worked_4 9 rfl rfl)
theorem dX6_worked_104 : decode cX6_worked 104 = .ok (.iload 4, 2) := dk_21 4 (dk_at dksX6_worked_4 12 rfl rfl)
theorem dX6_worked_106 : decode cX6_worked 106 = .ok (.iconst 1, 1) := dk_4 (dk_at dksX6_worked_4 14 rfl rfl)
theorem dX6_worked_107 : decode cX6_worked 107 = .ok (.isub, 1) := dk_100 (dk_at dksX6_worked_4 15 rfl rfl)
theorem dX6_worked_108 : decode cX6_worked 108 = .ok (.iaload, 1) := dk_46 (dk_at dksX6_worked_4 16 rfl rfl)
theorem dX6_worked_109 : decode cX6_worked 109 = .ok (.ifCond .ne 7, 3) := dk_154 0 7 (dk_at dksX6_worked_4 17 rfl rfl)
theorem dX6_worked_112 : decode cX6_worked 112 = .ok (.iconst 1, 1) := dk_4 (dk_at dksX6_worked_4 20 rfl rfl)
theorem dX6_worked_113 : decode cX6_worked 113 = .ok (.goto 4, 3) := dk_167 0 4 (dk_at dksX6_worked_4 21 rfl rfl)
theorem dX6_worked_116 : decode cX6_worked 116 = .ok (.iconst 0, 1) := dk_3 (dk_at dksX6_worked_5 0 rfl rfl)
theorem dX6_worked_117 : decode cX6_worked 117 = .ok (.iastore, 1) := dk_79 (dk_at dksX6_worked_5 1 rfl rfl)
theorem dX6_worked_118 : decode cX6_worked 118 = .ok (.goto 64, 3) := dk_167 0 64 (dk_at dksX6_worked_5 2 rfl rfl)
theorem dX6_worked_121 : decode cX6_worked 121 = .ok (.iload 6, 2) := dk_21 6 (dk_at dksX6_worked_5 5 rfl rfl)
theorem dX6_worked_123 : decode cX6_worked 123 = .ok (.iconst 4, 1) := dk_7 (dk_at dksX6_worked_5 7 rfl rfl)
theorem dX6_worked_124 : decode cX6_worked 124 = .ok (.if_icmp .ne 25, 3) := dk_160 0 25 (dk_at dksX6_worked_5 8 rfl rfl)
theorem dX6_worked_127 : decode cX6_worked 127 = .ok (.aload_n 0, 1) := dk_42 (dk_at dksX6_worked_5 11 rfl rfl)
theorem dX6_worked_128 : decode cX6_worked 128 = .ok (.getfield 78, 3) := dk_180 0 78 (dk_at dksX6_worked_5 12 rfl rfl)
theorem dX6_worked_131 : decode cX6_worked 131 = .ok (.iload 4, 2) := dk_21 4 (dk_at dksX6_worked_5 15 rfl rfl)
theorem dX6_worked_133 : decode cX6_worked 133 = .ok (.iconst 1, 1) := dk_4 (dk_at dksX6_worked_5 17 rfl rfl)
theorem dX6_worked_134 : decode cX6_worked 134 = .ok (.isub, 1) := dk_100 (dk_at dksX6_worked_5 18 rfl rfl)
theorem dX6_worked_135 : decode cX6_worked 135 = .ok (.aload_n 0, 1) := dk_42 (dk_at dksX6_worked_5 19 rfl rfl)
theorem dX6_worked_136 : decode cX6_worked 136 = .ok (.getfield 78, 3) := dk_180 0 78 (dk_at dksX6_worked_5 20 rfl rfl)
theorem dX6_worked_139 : decode cX6_worked 139 = .ok (.iload 4, 2) := dk_21 4 (dk_at dksX6_worked_6 0 rfl rfl)
theorem dX6_worked_141 : decode cX6_worked 141 = .ok (.iconst 1, 1) := dk_4 (dk_at dksX6_worked_6 2 rfl rfl)
theorem dX6_worked_142 : decode cX6_worked 142 = .ok (.isub, 1) := dk_100 (dk_at dksX6_worked_6 3 rfl rfl)
theorem dX6_worked_143 : decode cX6_worked 143 = .ok (.iaload, 1) := dk_46 (dk_at dksX6_worked_6 4 rfl rfl)
theorem dX6_worked_144 : decode cX6_worked 144 = .ok (.ineg, 1) := dk_116 (dk_at dksX6_worked_6 5 rfl rfl)
theorem dX6_worked_145 : decode cX6_worked 145 = .ok (.iastore, 1) := dk_79 (dk_at dksX6_worked_6 6 rfl rfl)
theorem dX6_worked_146 : decode cX6_worked 146 = .ok (.goto 36, 3) := dk_167 0 36 (dk_at dksX6_worked_6 7 rfl rfl)
theorem dX6_worked_149 : decode cX6_worked 149 = .ok (.iinc 4 (-1), 3) := dk_132 4 255 (dk_at dksX6_worked_6 10 rfl rfl)
theorem dX6_worked_152 : decode cX6_worked 152 = .ok (.aload_n 0, 1) := dk_42 (dk_at dksX6_worked_6 13 rfl rfl)
theorem dX6_worked_153 : decode cX6_worked 153 = .ok (.getfield 78, 3) := dk_180 0 78 (dk_at dksX6_worked_6 14 rfl rfl)
theorem dX6_worked_156 : decode cX6_worked 156 = .ok (.iload 4, 2) := dk_21 4 (dk_at dksX6_worked_6 17 rfl rfl)
theorem dX6_worked_158 : decode cX6_worked 158 = .ok (.iconst 1, 1) := dk_4 (dk_at dksX6_worked_6 19 rfl rfl)
theorem dX6_worked_159 : decode cX6_worked 159 = .ok (.isub, 1) := dk_100 (dk_at dksX6_worked_6 20 rfl rfl)
theorem dX6_worked_160 : decode cX6_worked 160 = .ok (.iload 6, 2) := dk_21 6 (dk_at dksX6_worked_6 21 rfl rfl)
theorem dX6_worked_162 : decode cX6_worked 162 = .ok (.aload_n 0, 1) := dk_42 (dk_at dksX6_worked_6 23 rfl rfl)
theorem dX6_worked_163 : decode cX6_worked 163 = .ok (.getfield 78, 3) := dk_180 0 78 (dk_at dksX6_worked_7 0 rfl rfl)
theorem dX6_worked_166 : decode cX6_worked 166 = .ok (.iload 4, 2) := dk_21 4 (dk_at dksX6_worked_7 3 rfl rfl)
theorem dX6_worked_168 : decode cX6_worked 168 = .ok (.iconst 1, 1) := dk_4 (dk_at dksX6_worked_7 5 rfl rfl)
theorem dX6_worked_169 : decode cX6_worked 169 = .ok (.isub, 1) := dk_100 (dk_at dksX6_worked_7 6 rfl rfl)
theorem dX6_worked_170 : decode cX6_worked 170 = .ok (.iaload, 1) := dk_46 (dk_at dksX6_worked_7 7 rfl rfl)
theorem dX6_worked_171 : decode cX6_worked 171 = .ok (.aload_n 0, 1) := dk_42 (dk_at dksX6_worked_7 8 rfl rfl)
theorem dX6_worked_172 : decode cX6_worked 172 = .ok (.getfield 78, 3) := dk_180 0 78 (dk_at dksX6_worked_7 9 rfl rfl)
theorem dX6_worked_175 : decode cX6_worked 175 = .ok (.iload 4, 2) := dk_21 4 (dk_at dksX6_worked_7 12 rfl rfl)
theorem dX6_worked_177 : decode cX6_worked 177 = .ok (.iaload, 1) := dk_46 (dk_at dksX6_worked_7 14 rfl rfl)
theorem dX6_worked_178 : decode cX6_worked 178 = .ok (.invokestatic 256, 3) := dk_184 1 0 (dk_at dksX6_worked_7 15 rfl rfl)
theorem dX6_worked_181 : decode cX6_worked 181 = .ok (.iastore, 1) := dk_79 (dk_at dksX6_worked_7 18 rfl rfl)
theorem dX6_worked_182 : decode cX6_worked 182 = .ok (.iinc 5 1, 3) := dk_132 5 1 (dk_at dksX6_worked_7 19 rfl rfl)
theorem dX6_worked_185 : decode cX6_worked 185 = .ok (.goto (-173), 3) := dk_167 255 83 (dk_at dksX6_worked_8 0 rfl rfl)
theorem dX6_worked_188 : decode cX6_worked 188 = .ok (.aload_n 0, 1) := dk_42 (dk_at dksX6_worked_8 3 rfl rfl)
theorem dX6_worked_189 : decode cX6_worked 189 = .ok (.getfield 78, 3) := dk_180 0 78 (dk_at dksX6_worked_8 4 rfl rfl)
theorem dX6_worked_192 : decode cX6_worked 192 = .ok (.iconst 0, 1) := dk_3 (dk_at dksX6_worked_8 7 rfl rfl)
theorem dX6_worked_193 : decode cX6_worked 193 = .ok (.iaload, 1) := dk_46 (dk_at dksX6_worked_8 8 rfl rfl)
theorem dX6_worked_194 : decode cX6_worked 194 = .ok (.ireturn, 1) := dk_172 (dk_at dksX6_worked_8 9 rfl rfl)
abbrev cX6_twoOf : ByteArray := prog_25_method_35_code
def yX6_twoOf : MethodName := ⟨RX6, "twoOf", "(III)I"⟩
def dkwX6_twoOf_6 : List UInt8 := [4, 167, 0, 4, 3, 172, 27, 154, 0, 7, 28, 153, 0, 7, 4, 167, 0, 4, 3, 172]
abbrev dktX6_twoOf_6 : List UInt8 := dkwX6_twoOf_6 ++ []
def dkwX6_twoOf_5 : List UInt8 := [167, 0, 4, 3, 172, 27, 28, 164, 0, 7, 4, 167, 0, 4, 3, 172, 27, 153, 0, 11, 28, 153, 0, 7]
abbrev dktX6_twoOf_5 : List UInt8 := dkwX6_twoOf_5 ++ dktX6_twoOf_6
def dkwX6_twoOf_4 : List UInt8 := [167, 0, 6, 27, 28, 112, 172, 27, 28, 162, 0, 7, 4, 167, 0, 4, 3, 172, 27, 28, 160, 0, 7, 4]
abbrev dktX6_twoOf_4 : List UInt8 := dkwX6_twoOf_4 ++ dktX6_twoOf_5
def dkwX6_twoOf_3 : List UInt8 := [160, 0, 8, 27, 116, 167, 0, 6, 27, 28, 108, 172, 28, 153, 0, 8, 28, 2, 160, 0, 7, 3]
abbrev dktX6_twoOf_3 : List UInt8 := dkwX6_twoOf_3 ++ dktX6_twoOf_4
def dkwX6_twoOf_2 : List UInt8 := [27, 28, 96, 172, 27, 28, 100, 172, 27, 28, 104, 172, 28, 154, 0, 7, 3, 167, 0, 16, 28, 2]
abbrev dktX6_twoOf_2 : List UInt8 := dkwX6_twoOf_2 ++ dktX6_twoOf_3
def dkwX6_twoOf_1 : List UInt8 := [170, 0, 0, 0, 0, 0, 217, 0, 0, 0, 37, 0, 0, 0, 62, 0, 0, 0, 153, 0, 0, 0, 203, 0, 0, 0, 217, 0, 0, 0, 217, 0, 0, 0, 217, 0, 0, 0, 127, 0, 0, 0, 119, 0, 0, 0, 217, 0, 0, 0, 123, 0, 0, 0, 217, 0, 0, 0, 131, 0, 0, 0, 217, 0, 0, 0, 217, 0, 0, 0, 217, 0, 0, 0, 217, 0, 0, 0, 217, 0, 0, 0, 217, 0, 0, 0, 217, 0, 0, 0, 217, 0, 0, 0, 217, 0, 0, 0, 217, 0, 0, 0, 217, 0, 0, 0, 217, 0, 0, 0, 170, 0, 0, 0, 181, 0, 0, 0, 192]
abbrev dktX6_twoOf_1 : List UInt8 := dkwX6_twoOf_1 ++ dktX6_twoOf_2
def dkwX6_twoOf_0 : List UInt8 := [26]
abbrev dktX6_twoOf_0 : List UInt8 := dkwX6_twoOf_0 ++ dktX6_twoOf_1
theorem dksX6_twoOf_0 : cX6_twoOf.data.toList.drop 0 = dktX6_twoOf_0 := by decide +kernel
theorem dksX6_twoOf_1 : cX6_twoOf.data.toList.drop 1 = dktX6_twoOf_1 := dk_seg dksX6_twoOf_0 1 rfl rfl
theorem dksX6_twoOf_2 : cX6_twoOf.data.toList.drop 120 = dktX6_twoOf_2 := dk_seg dksX6_twoOf_1 119 rfl rfl
theorem dksX6_twoOf_3 : cX6_twoOf.data.toList.drop 142 = dktX6_twoOf_3 := dk_seg dksX6_twoOf_2 22 rfl rfl
theorem dksX6_twoOf_4 : cX6_twoOf.data.toList.drop 164 = dktX6_twoOf_4 := dk_seg dksX6_twoOf_3 22 rfl rfl
theorem dksX6_twoOf_5 : cX6_twoOf.data.toList.drop 188 = dktX6_twoOf_5 := dk_seg dksX6_twoOf_4 24 rfl rfl
theorem dksX6_twoOf_6 : cX6_twoOf.data.toList.drop 212 = dktX6_twoOf_6 := dk_seg dksX6_twoOf_5 24 rfl rfl
theorem dX6_twoOf_0 : decode cX6_twoOf 0 = .ok (.iload_n 0, 1) := dk_26 (dk_at dksX6_twoOf_0 0 rfl rfl)
theorem dX6_twoOf_1 : decode cX6_twoOf 1 = .ok (.tableswitch 217 37 62 #[153, 203, 217, 217, 217, 127, 119, 217, 123, 217, 131, 217, 217, 217, 217, 217, 217, 217, 217, 217, 217, 217, 217, 170, 181, 192], 119) := by decide +kernel
theorem dX6_twoOf_120 : decode cX6_twoOf 120 = .ok (.iload_n 1, 1) := dk_27 (dk_at dksX6_twoOf_2 0 rfl rfl)
theorem dX6_twoOf_121 : decode cX6_twoOf 121 = .ok (.iload_n 2, 1) := dk_28 (dk_at dksX6_twoOf_2 1 rfl rfl)
theorem dX6_twoOf_122 : decode cX6_twoOf 122 = .ok (.iadd, 1) := dk_96 (dk_at dksX6_twoOf_2 2 rfl rfl)
theorem dX6_twoOf_123 : decode cX6_twoOf 123 = .ok (.ireturn, 1) := dk_172 (dk_at dksX6_twoOf_2 3 rfl rfl)
theorem dX6_twoOf_124 : decode cX6_twoOf 124 = .ok (.iload_n 1, 1) := dk_27 (dk_at dksX6_twoOf_2 4 rfl rfl)
theorem dX6_twoOf_125 : decode cX6_twoOf 125 = .ok (.iload_n 2, 1) := dk_28 (dk_at dksX6_twoOf_2 5 rfl rfl)
theorem dX6_twoOf_126 : decode cX6_twoOf 126 = .ok (.isub, 1) := dk_100 (dk_at dksX6_twoOf_2 6 rfl rfl)
theorem dX6_twoOf_127 : decode cX6_twoOf 127 = .ok (.ireturn, 1) := dk_172 (dk_at dksX6_twoOf_2 7 rfl rfl)
theorem dX6_twoOf_128 : decode cX6_twoOf 128 = .ok (.iload_n 1, 1) := dk_27 (dk_at dksX6_twoOf_2 8 rfl rfl)
theorem dX6_twoOf_129 : decode cX6_twoOf 129 = .ok (.iload_n 2, 1) := dk_28 (dk_at dksX6_twoOf_2 9 rfl rfl)
theorem dX6_twoOf_130 : decode cX6_twoOf 130 = .ok (.imul, 1) := dk_104 (dk_at dksX6_twoOf_2 10 rfl rfl)
theorem dX6_twoOf_131 : decode cX6_twoOf 131 = .ok (.ireturn, 1) := dk_172 (dk_at dksX6_twoOf_2 11 rfl rfl)
theorem dX6_twoOf_132 : decode cX6_twoOf 132 = .ok (.iload_n 2, 1) := dk_28 (dk_at dksX6_twoOf_2 12 rfl rfl)
theorem dX6_twoOf_133 : decode cX6_twoOf 133 = .ok (.ifCond .ne 7, 3) := dk_154 0 7 (dk_at dksX6_twoOf_2 13 rfl rfl)
theorem dX6_twoOf_136 : decode cX6_twoOf 136 = .ok (.iconst 0, 1) := dk_3 (dk_at dksX6_twoOf_2 16 rfl rfl)
theorem dX6_twoOf_137 : decode cX6_twoOf 137 = .ok (.goto 16, 3) := dk_167 0 16 (dk_at dksX6_twoOf_2 17 rfl rfl)
theorem dX6_twoOf_140 : decode cX6_twoOf 140 = .ok (.iload_n 2, 1) := dk_28 (dk_at dksX6_twoOf_2 20 rfl rfl)
theorem dX6_twoOf_141 : decode cX6_twoOf 141 = .ok (.iconst (-1), 1) := dk_2 (dk_at dksX6_twoOf_2 21 rfl rfl)
theorem dX6_twoOf_142 : decode cX6_twoOf 142 = .ok (.if_icmp .ne 8, 3) := dk_160 0 8 (dk_at dksX6_twoOf_3 0 rfl rfl)
theorem dX6_twoOf_145 : decode cX6_twoOf 145 = .ok (.iload_n 1, 1) := dk_27 (dk_at dksX6_twoOf_3 3 rfl rfl)
theorem dX6_twoOf_146 : decode cX6_twoOf 146 = .ok (.ineg, 1) := dk_116 (dk_at dksX6_twoOf_3 4 rfl rfl)
theorem dX6_twoOf_147 : decode cX6_twoOf 147 = .ok (.goto 6, 3) := dk_167 0 6 (dk_at dksX6_twoOf_3 5 rfl rfl)
theorem dX6_twoOf_150 : decode cX6_twoOf 150 = .ok (.iload_n 1, 1) := dk_27 (dk_at dksX6_twoOf_3 8 rfl rfl)
theorem dX6_twoOf_151 : decode cX6_twoOf 151 = .ok (.iload_n 2, 1) := dk_28 (dk_at dksX6_twoOf_3 9 rfl rfl)
theorem dX6_twoOf_152 : decode cX6_twoOf 152 = .ok (.idiv, 1) := dk_108 (dk_at dksX6_twoOf_3 10 rfl rfl)
theorem dX6_twoOf_153 : decode cX6_twoOf 153 = .ok (.ireturn, 1) := dk_172 (dk_at dksX6_twoOf_3 11 rfl rfl)
theorem dX6_twoOf_154 : decode cX6_twoOf 154 = .ok (.iload_n 2, 1) := dk_28 (dk_at dksX6_twoOf_3 12 rfl rfl)
theorem dX6_twoOf_155 : decode cX6_twoOf 155 = .ok (.ifCond .eq 8, 3) := dk_153 0 8 (dk_at dksX6_twoOf_3 13 rfl rfl)
theorem dX6_twoOf_158 : decode cX6_twoOf 158 = .ok (.iload_n 2, 1) := dk_28 (dk_at dksX6_twoOf_3 16 rfl rfl)
theorem dX6_twoOf_159 : decode cX6_twoOf 159 = .ok (.iconst (-1), 1) := dk_2 (dk_at dksX6_twoOf_3 17 rfl rfl)
theorem dX6_twoOf_160 : decode cX6_twoOf 160 = .ok (.if_icmp .ne 7, 3) := dk_160 0 7 (dk_at dksX6_twoOf_3 18 rfl rfl)
theorem dX6_twoOf_163 : decode cX6_twoOf 163 = .ok (.iconst 0, 1) := dk_3 (dk_at dksX6_twoOf_3 21 rfl rfl)
theorem dX6_twoOf_164 : decode cX6_twoOf 164 = .ok (.goto 6, 3) := dk_167 0 6 (dk_at dksX6_twoOf_4 0 rfl rfl)
theorem dX6_twoOf_167 : decode cX6_twoOf 167 = .ok (.iload_n 1, 1) := dk_27 (dk_at dksX6_twoOf_4 3 rfl rfl)
theorem dX6_twoOf_168 : decode cX6_twoOf 168 = .ok (.iload_n 2, 1) := dk_28 (dk_at dksX6_twoOf_4 4 rfl rfl)
theorem dX6_twoOf_169 : decode cX6_twoOf 169 = .ok (.irem, 1) := dk_112 (dk_at dksX6_twoOf_4 5 rfl rfl)
theorem dX6_twoOf_170 : decode cX6_twoOf 170 = .ok (.ireturn, 1) := dk_172 (dk_at dksX6_twoOf_4 6 rfl rfl)
theorem dX6_twoOf_171 : decode cX6_twoOf 171 = .ok (.iload_n 1, 1) := dk_27 (dk_at dksX6_twoOf_4 7 rfl rfl)
theorem dX6_twoOf_172 : decode cX6_twoOf 172 = .ok (.iload_n 2, 1) := dk_28 (dk_at dksX6_twoOf_4 8 rfl rfl)
theorem dX6_twoOf_173 : decode cX6_twoOf 173 = .ok (.if_icmp .ge 7, 3) := dk_162 0 7 (dk_at dksX6_twoOf_4 9 rfl rfl)
theorem dX6_twoOf_176 : decode cX6_twoOf 176 = .ok (.iconst 1, 1) := dk_4 (dk_at dksX6_twoOf_4 12 rfl rfl)
theorem dX6_twoOf_177 : decode cX6_twoOf 177 = .ok (.goto 4, 3) := dk_167 0 4 (dk_at dksX6_twoOf_4 13 rfl rfl)
theorem dX6_twoOf_180 : decode cX6_twoOf 180 = .ok (.iconst 0, 1) := dk_3 (dk_at dksX6_twoOf_4 16 rfl rfl)
theorem dX6_twoOf_181 : decode cX6_twoOf 181 = .ok (.ireturn, 1) := dk_172 (dk_at dksX6_twoOf_4 17 rfl rfl)
theorem dX6_twoOf_182 : decode cX6_twoOf 182 = .ok (.iload_n 1, 1) := dk_27 (dk_at dksX6_twoOf_4 18 rfl rfl)
theorem dX6_twoOf_183 : decode cX6_twoOf 183 = .ok (.iload_n 2, 1) := dk_28 (dk_at dksX6_twoOf_4 19 rfl rfl)
theorem dX6_twoOf_184 : decode cX6_twoOf 184 = .ok (.if_icmp .ne 7, 3) := dk_160 0 7 (dk_at dksX6_twoOf_4 20 rfl rfl)
theorem dX6_twoOf_187 : decode cX6_twoOf 187 = .ok (.iconst 1, 1) := dk_4 (dk_at dksX6_twoOf_4 23 rfl rfl)
theorem dX6_twoOf_188 : decode cX6_twoOf 188 = .ok (.goto 4, 3) := dk_167 0 4 (dk_at dksX6_twoOf_5 0 rfl rfl)
theorem dX6_twoOf_191 : decode cX6_twoOf 191 = .ok (.iconst 0, 1) := dk_3 (dk_at dksX6_twoOf_5 3 rfl rfl)
theorem dX6_twoOf_192 : decode cX6_twoOf 192 = .ok (.ireturn, 1) := dk_172 (dk_at dksX6_twoOf_5 4 rfl rfl)
theorem dX6_twoOf_193 : decode cX6_twoOf 193 = .ok (.iload_n 1, 1) := dk_27 (dk_at dksX6_twoOf_5 5 rfl rfl)
theorem dX6_twoOf_194 : decode cX6_twoOf 194 = .ok (.iload_n 2, 1) := dk_28 (dk_at dksX6_twoOf_5 6 rfl rfl)
theorem dX6_twoOf_195 : decode cX6_twoOf 195 = .ok (.if_icmp .le 7, 3) := dk_164 0 7 (dk_at dksX6_twoOf_5 7 rfl rfl)
theorem dX6_twoOf_198 : decode cX6_twoOf 198 = .ok (.iconst 1, 1) := dk_4 (dk_at dksX6_twoOf_5 10 rfl rfl)
theorem dX6_twoOf_199 : decode cX6_twoOf 199 = .ok (.goto 4, 3) := dk_167 0 4 (dk_at dksX6_twoOf_5 11 rfl rfl)
theorem dX6_twoOf_202 : decode cX6_twoOf 202 = .ok (.iconst 0, 1) := dk_3 (dk_at dksX6_twoOf_5 14 rfl rfl)
theorem dX6_twoOf_203 : decode cX6_twoOf 203 = .ok (.ireturn, 1) := dk_172 (dk_at dksX6_twoOf_5 15 rfl rfl)
theorem dX6_twoOf_204 : decode cX6_twoOf 204 = .ok (.iload_n 1, 1) := dk_27 (dk_at dksX6_twoOf_5 16 rfl rfl)
theorem dX6_twoOf_205 : decode cX6_twoOf 205 = .ok (.ifCond .eq 11, 3) := dk_153 0 11 (dk_at dksX6_twoOf_5 17 rfl rfl)
theorem dX6_twoOf_208 : decode cX6_twoOf 208 = .ok (.iload_n 2, 1) := dk_28 (dk_at dksX6_twoOf_5 20 rfl rfl)
theorem dX6_twoOf_209 : decode cX6_twoOf 209 = .ok (.ifCond .eq 7, 3) := dk_153 0 7 (dk_at dksX6_twoOf_5 21 rfl rfl)
theorem dX6_twoOf_212 : decode cX6_twoOf 212 = .ok (.iconst 1, 1) := dk_4 (dk_at dksX6_twoOf_6 0 rfl rfl)
theorem dX6_twoOf_213 : decode cX6_twoOf 213 = .ok (.goto 4, 3) := dk_167 0 4 (dk_at dksX6_twoOf_6 1 rfl rfl)
theorem dX6_twoOf_216 : decode cX6_twoOf 216 = .ok (.iconst 0, 1) := dk_3 (dk_at dksX6_twoOf_6 4 rfl rfl)
theorem dX6_twoOf_217 : decode cX6_twoOf 217 = .ok (.ireturn, 1) := dk_172 (dk_at dksX6_twoOf_6 5 rfl rfl)
theorem dX6_twoOf_218 : decode cX6_twoOf 218 = .ok (.iload_n 1, 1) := dk_27 (dk_at dksX6_twoOf_6 6 rfl rfl)
theorem dX6_twoOf_219 : decode cX6_twoOf 219 = .ok (.ifCond .ne 7, 3) := dk_154 0 7 (dk_at dksX6_twoOf_6 7 rfl rfl)
theorem dX6_twoOf_222 : decode cX6_twoOf 222 = .ok (.iload_n 2, 1) := dk_28 (dk_at dksX6_twoOf_6 10 rfl rfl)
theorem dX6_twoOf_223 : decode cX6_twoOf 223 = .ok (.ifCond .eq 7, 3) := dk_153 0 7 (dk_at dksX6_twoOf_6 11 rfl rfl)
theorem dX6_twoOf_226 : decode cX6_twoOf 226 = .ok (.iconst 1, 1) := dk_4 (dk_at dksX6_twoOf_6 14 rfl rfl)
theorem dX6_twoOf_227 : decode cX6_twoOf 227 = .ok (.goto 4, 3) := dk_167 0 4 (dk_at dksX6_twoOf_6 15 rfl rfl)
theorem dX6_twoOf_230 : decode cX6_twoOf 230 = .ok (.iconst 0, 1) := dk_3 (dk_at dksX6_twoOf_6 18 rfl rfl)
theorem dX6_twoOf_231 : decode cX6_twoOf 231 = .ok (.ireturn, 1) := dk_172 (dk_at dksX6_twoOf_6 19 rfl rfl)
abbrev cX6_layHut : ByteArray := prog_25_method_46_code
def yX6_layHut : MethodName := ⟨RX6, "layHut", "()V"⟩
def dkwX6_layHut_1 : List UInt8 := [167, 255, 235, 177]
abbrev dktX6_layHut_1 : List UInt8 := dkwX6_layHut_1 ++ []
def dkwX6_layHut_0 : List UInt8 := [3, 60, 27, 16, 48, 162, 0, 21, 42, 180, 0, 40, 27, 42, 180, 0, 87, 27, 46, 79, 132, 1, 1]
abbrev dktX6_layHut_0 : List UInt8 := dkwX6_layHut_0 ++ dktX6_layHut_1
theorem dksX6_layHut_0 : cX6_layHut.data.toList.drop 0 = dktX6_layHut_0 := by decide +kernel
theorem dksX6_layHut_1 : cX6_layHut.data.toList.drop 23 = dktX6_layHut_1 := dk_seg dksX6_layHut_0 23 rfl rfl
theorem dX6_layHut_0 : decode cX6_layHut 0 = .ok (.iconst 0, 1) := dk_3 (dk_at dksX6_layHut_0 0 rfl rfl)
theorem dX6_layHut_1 : decode cX6_layHut 1 = .ok (.istore_n 1, 1) := dk_60 (dk_at dksX6_layHut_0 1 rfl rfl)
theorem dX6_layHut_2 : decode cX6_layHut 2 = .ok (.iload_n 1, 1) := dk_27 (dk_at dksX6_layHut_0 2 rfl rfl)
theorem dX6_layHut_3 : decode cX6_layHut 3 = .ok (.bipush 48, 2) := dk_16 48 (dk_at dksX6_layHut_0 3 rfl rfl)
theorem dX6_layHut_5 : decode cX6_layHut 5 = .ok (.if_icmp .ge 21, 3) := dk_162 0 21 (dk_at dksX6_layHut_0 5 rfl rfl)
theorem dX6_layHut_8 : decode cX6_layHut 8 = .ok (.aload_n 0, 1) := dk_42 (dk_at dksX6_layHut_0 8 rfl rfl)
theorem dX6_layHut_9 : decode cX6_layHut 9 = .ok (.getfield 40, 3) := dk_180 0 40 (dk_at dksX6_layHut_0 9 rfl rfl)
theorem dX6_layHut_12 : decode cX6_layHut 12 = .ok (.iload_n 1, 1) := dk_27 (dk_at dksX6_layHut_0 12 rfl rfl)
theorem dX6_layHut_13 : decode cX6_layHut 13 = .ok (.aload_n 0, 1) := dk_42 (dk_at dksX6_layHut_0 13 rfl rfl)
theorem dX6_layHut_14 : decode cX6_layHut 14 = .ok (.getfield 87, 3) := dk_180 0 87 (dk_at dksX6_layHut_0 14 rfl rfl)
theorem dX6_layHut_17 : decode cX6_layHut 17 = .ok (.iload_n 1, 1) := dk_27 (dk_at dksX6_layHut_0 17 rfl rfl)
theorem dX6_layHut_18 : decode cX6_layHut 18 = .ok (.iaload, 1) := dk_46 (dk_at dksX6_layHut_0 18 rfl rfl)
theorem dX6_layHut_19 : decode cX6_layHut 19 = .ok (.iastore, 1) := dk_79 (dk_at dksX6_layHut_0 19 rfl rfl)
theorem dX6_layHut_20 : decode cX6_layHut 20 = .ok (.iinc 1 1, 3) := dk_132 1 1 (dk_at dksX6_layHut_0 20 rfl rfl)
theorem dX6_layHut_23 : decode cX6_layHut 23 = .ok (.goto (-21), 3) := dk_167 255 235 (dk_at dksX6_layHut_1 0 rfl rfl)
theorem dX6_layHut_26 : decode cX6_layHut 26 = .ok (.return_, 1) := dk_177 (dk_at dksX6_layHut_1 3 rfl rfl)
abbrev cX6_lowest : ByteArray := prog_25_method_50_code
def yX6_lowest : MethodName := ⟨RX6, "lowest", "(II)I"⟩
def dkwX6_lowest_4 : List UInt8 := [28, 46, 62, 132, 4, 1, 167, 255, 216, 42, 182, 1, 44, 29, 172]
abbrev dktX6_lowest_4 : List UInt8 := dkwX6_lowest_4 ++ []
def dkwX6_lowest_3 : List UInt8 := [42, 180, 0, 90, 21, 4, 46, 182, 1, 41, 42, 180, 0, 40, 28, 46, 29, 162, 0, 10, 42, 180, 0, 40]
abbrev dktX6_lowest_3 : List UInt8 := dkwX6_lowest_3 ++ dktX6_lowest_4
def dkwX6_lowest_2 : List UInt8 := [180, 0, 40, 28, 46, 167, 0, 5, 16, 99, 62, 3, 54, 4, 21, 4, 42, 180, 1, 29, 162, 0, 37, 42]
abbrev dktX6_lowest_2 : List UInt8 := dkwX6_lowest_2 ++ dktX6_lowest_3
def dkwX6_lowest_1 : List UInt8 := [42, 27, 182, 1, 32, 172, 42, 27, 182, 1, 35, 42, 182, 1, 38, 42, 180, 1, 29, 154, 0, 12, 42]
abbrev dktX6_lowest_1 : List UInt8 := dkwX6_lowest_1 ++ dktX6_lowest_2
def dkwX6_lowest_0 : List UInt8 := [27, 184, 0, 163, 153, 0, 10, 28, 184, 0, 156, 154, 0, 5, 2, 172, 42, 27, 182, 1, 32, 156, 0, 9]
abbrev dktX6_lowest_0 : List UInt8 := dkwX6_lowest_0 ++ dktX6_lowest_1
theorem dksX6_lowest_0 : cX6_lowest.data.toList.drop 0 = dktX6_lowest_0 := by decide +kernel
theorem dksX6_lowest_1 : cX6_lowest.data.toList.drop 24 = dktX6_lowest_1 := dk_seg dksX6_lowest_0 24 rfl rfl
theorem dksX6_lowest_2 : cX6_lowest.data.toList.drop 47 = dktX6_lowest_2 := dk_seg dksX6_lowest_1 23 rfl rfl
theorem dksX6_lowest_3 : cX6_lowest.data.toList.drop 71 = dktX6_lowest_3 := dk_seg dksX6_lowest_2 24 rfl rfl
theorem dksX6_lowest_4 : cX6_lowest.data.toList.drop 95 = dktX6_lowest_4 := dk_seg dksX6_lowest_3 24 rfl rfl
theorem dX6_lowest_0 : decode cX6_lowest 0 = .ok (.iload_n 1, 1) := dk_27 (dk_at dksX6_lowest_0 0 rfl rfl)
theorem dX6_lowest_1 : decode cX6_lowest 1 = .ok (.invokestatic 163, 3) := dk_184 0 163 (dk_at dksX6_lowest_0 1 rfl rfl)
theorem dX6_lowest_4 : decode cX6_lowest 4 = .ok (.ifCond .eq 10, 3) := dk_153 0 10 (dk_at dksX6_lowest_0 4 rfl rfl)
theorem dX6_lowest_7 : decode cX6_lowest 7 = .ok (.iload_n 2, 1) := dk_28 (dk_at dksX6_lowest_0 7 rfl rfl)
theorem dX6_lowest_8 : decode cX6_lowest 8 = .ok (.invokestatic 156, 3) := dk_184 0 156 (dk_at dksX6_lowest_0 8 rfl rfl)
theorem dX6_lowest_11 : decode cX6_lowest 11 = .ok (.ifCond .ne 5, 3) := dk_154 0 5 (dk_at dksX6_lowest_0 11 rfl rfl)
theorem dX6_lowest_14 : decode cX6_lowest 14 = .ok (.iconst (-1), 1) := dk_2 (dk_at dksX6_lowest_0 14 rfl rfl)
theorem dX6_lowest_15 : decode cX6_lowest 15 = .ok (.ireturn, 1) := dk_172 (dk_at dksX6_lowest_0 15 rfl rfl)
theorem dX6_lowest_16 : decode cX6_lowest 16 = .ok (.aload_n 0, 1) := dk_42 (dk_at dksX6_lowest_0 16 rfl rfl)
theorem dX6_lowest_17 : decode cX6_lowest 17 = .ok (.iload_n 1, 1) := dk_27 (dk_at dksX6_lowest_0 17 rfl rfl)
theorem dX6_lowest_18 : decode cX6_lowest 18 = .ok (.invokevirtual 288, 3) := dk_182 1 32 (dk_at dksX6_lowest_0 18 rfl rfl)
theorem dX6_lowest_21 : decode cX6_lowest 21 = .ok (.ifCond .ge 9, 3) := dk_156 0 9 (dk_at dksX6_lowest_0 21 rfl rfl)
theorem dX6_lowest_24 : decode cX6_lowest 24 = .ok (.aload_n 0, 1) := dk_42 (dk_at dksX6_lowest_1 0 rfl rfl)
theorem dX6_lowest_25 : decode cX6_lowest 25 = .ok (.iload_n 1, 1) := dk_27 (dk_at dksX6_lowest_1 1 rfl rfl)
theorem dX6_lowest_26 : decode cX6_lowest 26 = .ok (.invokevirtual 288, 3) := dk_182 1 32 (dk_at dksX6_lowest_1 2 rfl rfl)
theorem dX6_lowest_29 : decode cX6_lowest 29 = .ok (.ireturn, 1) := dk_172 (dk_at dksX6_lowest_1 5 rfl rfl)
theorem dX6_lowest_30 : decode cX6_lowest 30 = .ok (.aload_n 0, 1) := dk_42 (dk_at dksX6_lowest_1 6 rfl rfl)
theorem dX6_lowest_31 : decode cX6_lowest 31 = .ok (.iload_n 1, 1) := dk_27 (dk_at dksX6_lowest_1 7 rfl rfl)
theorem dX6_lowest_32 : decode cX6_lowest 32 = .ok (.invokevirtual 291, 3) := dk_182 1 35 (dk_at dksX6_lowest_1 8 rfl rfl)
theorem dX6_lowest_35 : decode cX6_lowest 35 = .ok (.aload_n 0, 1) := dk_42 (dk_at dksX6_lowest_1 11 rfl rfl)
theorem dX6_lowest_36 : decode cX6_lowest 36 = .ok (.invokevirtual 294, 3) := dk_182 1 38 (dk_at dksX6_lowest_1 12 rfl rfl)
theorem dX6_lowest_39 : decode cX6_lowest 39 = .ok (.aload_n 0, 1) := dk_42 (dk_at dksX6_lowest_1 15 rfl rfl)
theorem dX6_lowest_40 : decode cX6_lowest 40 = .ok (.getfield 285, 3) := dk_180 1 29 (dk_at dksX6_lowest_1 16 rfl rfl)
theorem dX6_lowest_43 : decode cX6_lowest 43 = .ok (.ifCond .ne 12, 3) := dk_154 0 12 (dk_at dksX6_lowest_1 19 rfl rfl)
theorem dX6_lowest_46 : decode cX6_lowest 46 = .ok (.aload_n 0, 1) := dk_42 (dk_at dksX6_lowest_1 22 rfl rfl)
theorem dX6_lowest_47 : decode cX6_lowest 47 = .ok (.getfield 40, 3) := dk_180 0 40 (dk_at dksX6_lowest_2 0 rfl rfl)
theorem dX6_lowest_50 : decode cX6_lowest 50 = .ok (.iload_n 2, 1) := dk_28 (dk_at dksX6_lowest_2 3 rfl rfl)
theorem dX6_lowest_51 : decode cX6_lowest 51 = .ok (.iaload, 1) := dk_46 (dk_at dksX6_lowest_2 4 rfl rfl)
theorem dX6_lowest_52 : decode cX6_lowest 52 = .ok (.goto 5, 3) := dk_167 0 5 (dk_at dksX6_lowest_2 5 rfl rfl)
theorem dX6_lowest_55 : decode cX6_lowest 55 = .ok (.bipush 99, 2) := dk_16 99 (dk_at dksX6_lowest_2 8 rfl rfl)
theorem dX6_lowest_57 : decode cX6_lowest 57 = .ok (.istore_n 3, 1) := dk_62 (dk_at dksX6_lowest_2 10 rfl rfl)
theorem dX6_lowest_58 : decode cX6_lowest 58 = .ok (.iconst 0, 1) := dk_3 (dk_at dksX6_lowest_2 11 rfl rfl)
theorem dX6_lowest_59 : decode cX6_lowest 59 = .ok (.istore 4, 2) := dk_54 4 (dk_at dksX6_lowest_2 12 rfl rfl)
theorem dX6_lowest_61 : decode cX6_lowest 61 = .ok (.iload 4, 2) := dk_21 4 (dk_at dksX6_lowest_2 14 rfl rfl)
theorem dX6_lowest_63 : decode cX6_lowest 63 = .ok (.aload_n 0, 1) := dk_42 (dk_at dksX6_lowest_2 16 rfl rfl)
theorem dX6_lowest_64 : decode cX6_lowest 64 = .ok (.getfield 285, 3) := dk_180 1 29 (dk_at dksX6_lowest_2 17 rfl rfl)
theorem dX6_lowest_67 : decode cX6_lowest 67 = .ok (.if_icmp .ge 37, 3) := dk_162 0 37 (dk_at dksX6_lowest_2 20 rfl rfl)
theorem dX6_lowest_70 : decode cX6_lowest 70 = .ok (.aload_n 0, 1) := dk_42 (dk_at dksX6_lowest_2 23 rfl rfl)
theorem dX6_lowest_71 : decode cX6_lowest 71 = .ok (.aload_n 0, 1) := dk_42 (dk_at dksX6_lowest_3 0 rfl rfl)
theorem dX6_lowest_72 : decode cX6_lowest 72 = .ok (.getfield 90, 3) := dk_180 0 90 (dk_at dksX6_lowest_3 1 rfl rfl)
theorem dX6_lowest_75 : decode cX6_lowest 75 = .ok (.iload 4, 2) := dk_21 4 (dk_at dksX6_lowest_3 4 rfl rfl)
theorem dX6_lowest_77 : decode cX6_lowest 77 = .ok (.iaload, 1) := dk_46 (dk_at dksX6_lowest_3 6 rfl rfl)
theorem dX6_lowest_78 : decode cX6_lowest 78 = .ok (.invokevirtual 297, 3) := dk_182 1 41 (dk_at dksX6_lowest_3 7 rfl rfl)
theorem dX6_lowest_81 : decode cX6_lowest 81 = .ok (.aload_n 0, 1) := dk_42 (dk_at dksX6_lowest_3 10 rfl rfl)
theorem dX6_lowest_82 : decode cX6_lowest 82 = .ok (.getfield 40, 3) := dk_180 0 40 (dk_at dksX6_lowest_3 11 rfl rfl)
theorem dX6_lowest_85 : decode cX6_lowest 85 = .ok (.iload_n 2, 1) := dk_28 (dk_at dksX6_lowest_3 14 rfl rfl)
theorem dX6_lowest_86 : decode cX6_lowest 86 = .ok (.iaload, 1) := dk_46 (dk_at dksX6_lowest_3 15 rfl rfl)
theorem dX6_lowest_87 : decode cX6_lowest 87 = .ok (.iload_n 3, 1) := dk_29 (dk_at dksX6_lowest_3 16 rfl rfl)
theorem dX6_lowest_88 : decode cX6_lowest 88 = .ok (.if_icmp .ge 10, 3) := dk_162 0 10 (dk_at dksX6_lowest_3 17 rfl rfl)
theorem dX6_lowest_91 : decode cX6_lowest 91 = .ok (.aload_n 0, 1) := dk_42 (dk_at dksX6_lowest_3 20 rfl rfl)
theorem dX6_lowest_92 : decode cX6_lowest 92 = .ok (.getfield 40, 3) := dk_180 0 40 (dk_at dksX6_lowest_3 21 rfl rfl)
theorem dX6_lowest_95 : decode cX6_lowest 95 = .ok (.iload_n 2, 1) := dk_28 (dk_at dksX6_lowest_4 0 rfl rfl)
theorem dX6_lowest_96 : decode cX6_lowest 96 = .ok (.iaload, 1) := dk_46 (dk_at dksX6_lowest_4 1 rfl rfl)
theorem dX6_lowest_97 : decode cX6_lowest 97 = .ok (.istore_n 3, 1) := dk_62 (dk_at dksX6_lowest_4 2 rfl rfl)
theorem dX6_lowest_98 : decode cX6_lowest 98 = .ok (.iinc 4 1, 3) := dk_132 4 1 (dk_at dksX6_lowest_4 3 rfl rfl)
theorem dX6_lowest_101 : decode cX6_lowest 101 = .ok (.goto (-40), 3) := dk_167 255 216 (dk_at dksX6_lowest_4 6 rfl rfl)
theorem dX6_lowest_104 : decode cX6_lowest 104 = .ok (.aload_n 0, 1) := dk_42 (dk_at dksX6_lowest_4 9 rfl rfl)
theorem dX6_lowest_105 : decode cX6_lowest 105 = .ok (.invokevirtual 300, 3) := dk_182 1 44 (dk_at dksX6_lowest_4 10 rfl rfl)
theorem dX6_lowest_108 : decode cX6_lowest 108 = .ok (.iload_n 3, 1) := dk_29 (dk_at dksX6_lowest_4 13 rfl rfl)
theorem dX6_lowest_109 : decode cX6_lowest 109 = .ok (.ireturn, 1) := dk_172 (dk_at dksX6_lowest_4 14 rfl rfl)
abbrev cX6_below : ByteArray := prog_25_method_51_code
def yX6_below : MethodName := ⟨RX6, "below", "(III)I"⟩
def dkwX6_below_4 : List UInt8 := [54, 4, 132, 5, 1, 167, 255, 214, 42, 182, 1, 44, 21, 4, 172]
abbrev dktX6_below_4 : List UInt8 := dkwX6_below_4 ++ []
def dkwX6_below_3 : List UInt8 := [42, 42, 180, 0, 90, 21, 5, 46, 182, 1, 41, 42, 180, 0, 40, 28, 46, 29, 162, 0, 7, 21, 5]
abbrev dktX6_below_3 : List UInt8 := dkwX6_below_3 ++ dktX6_below_4
def dkwX6_below_2 : List UInt8 := [182, 1, 38, 16, 254, 54, 4, 3, 54, 5, 21, 5, 42, 180, 1, 29, 162, 0, 39, 21, 4, 156, 0, 34]
abbrev dktX6_below_2 : List UInt8 := dkwX6_below_2 ++ dktX6_below_3
def dkwX6_below_1 : List UInt8 := [2, 172, 42, 27, 182, 1, 32, 156, 0, 9, 42, 27, 182, 1, 32, 172, 42, 27, 182, 1, 35, 42]
abbrev dktX6_below_1 : List UInt8 := dkwX6_below_1 ++ dktX6_below_2
def dkwX6_below_0 : List UInt8 := [27, 184, 0, 163, 153, 0, 20, 28, 184, 0, 156, 153, 0, 13, 29, 3, 16, 99, 184, 0, 145, 154, 0, 5]
abbrev dktX6_below_0 : List UInt8 := dkwX6_below_0 ++ dktX6_below_1
theorem dksX6_below_0 : cX6_below.data.toList.drop 0 = dktX6_below_0 := by decide +kernel
theorem dksX6_below_1 : cX6_below.data.toList.drop 24 = dktX6_below_1 := dk_seg dksX6_below_0 24 rfl rfl
theorem dksX6_below_2 : cX6_below.data.toList.drop 46 = dktX6_below_2 := dk_seg dksX6_below_1 22 rfl rfl
theorem dksX6_below_3 : cX6_below.data.toList.drop 70 = dktX6_below_3 := dk_seg dksX6_below_2 24 rfl rfl
theorem dksX6_below_4 : cX6_below.data.toList.drop 93 = dktX6_below_4 := dk_seg dksX6_below_3 23 rfl rfl
theorem dX6_below_0 : decode cX6_below 0 = .ok (.iload_n 1, 1) := dk_27 (dk_at dksX6_below_0 0 rfl rfl)
theorem dX6_below_1 : decode cX6_below 1 = .ok (.invokestatic 163, 3) := dk_184 0 163 (dk_at dksX6_below_0 1 rfl rfl)
theorem dX6_below_4 : decode cX6_below 4 = .ok (.ifCond .eq 20, 3) := dk_153 0 20 (dk_at dksX6_below_0 4 rfl rfl)
theorem dX6_below_7 : decode cX6_below 7 = .ok (.iload_n 2, 1) := dk_28 (dk_at dksX6_below_0 7 rfl rfl)
theorem dX6_below_8 : decode cX6_below 8 = .ok (.invokestatic 156, 3) := dk_184 0 156 (dk_at dksX6_below_0 8 rfl rfl)
theorem dX6_below_11 : decode cX6_below 11 = .ok (.ifCond .eq 13, 3) := dk_153 0 13 (dk_at dksX6_below_0 11 rfl rfl)
theorem dX6_below_14 : decode cX6_below 14 = .ok (.iload_n 3, 1) := dk_29 (dk_at dksX6_below_0 14 rfl rfl)
theorem dX6_below_15 : decode cX6_below 15 = .ok (.iconst 0, 1) := dk_3 (dk_at dksX6_below_0 15 rfl rfl)
theorem dX6_below_16 : decode cX6_below 16 = .ok (.bipush 99, 2) := dk_16 99 (dk_at dksX6_below_0 16 rfl rfl)
theorem dX6_below_18 : decode cX6_below 18 = .ok (.invokestatic 145, 3) := dk_184 0 145 (dk_at dksX6_below_0 18 rfl rfl)
theorem dX6_below_21 : decode cX6_below 21 = .ok (.ifCond .ne 5, 3) := dk_154 0 5 (dk_at dksX6_below_0 21 rfl rfl)
theorem dX6_below_24 : decode cX6_below 24 = .ok (.iconst (-1), 1) := dk_2 (dk_at dksX6_below_1 0 rfl rfl)
theorem dX6_below_25 : decode cX6_below 25 = .ok (.ireturn, 1) := dk_172 (dk_at dksX6_below_1 1 rfl rfl)
theorem dX6_below_26 : decode cX6_below 26 = .ok (.aload_n 0, 1) := dk_42 (dk_at dksX6_below_1 2 rfl rfl)
theorem dX6_below_27 : decode cX6_below 27 = .ok (.iload_n 1, 1) := dk_27 (dk_at dksX6_below_1 3 rfl rfl)
theorem dX6_below_28 : decode cX6_below 28 = .ok (.invokevirtual 288, 3) := dk_182 1 32 (dk_at dksX6_below_1 4 rfl rfl)
theorem dX6_below_31 : decode cX6_below 31 = .ok (.ifCond .ge 9, 3) := dk_156 0 9 (dk_at dksX6_below_1 7 rfl rfl)
theorem dX6_below_34 : decode cX6_below 34 = .ok (.aload_n 0, 1) := dk_42 (dk_at dksX6_below_1 10 rfl rfl)
theorem dX6_below_35 : decode cX6_below 35 = .ok (.iload_n 1, 1) := dk_27 (dk_at dksX6_below_1 11 rfl rfl)
theorem dX6_below_36 : decode cX6_below 36 = .ok (.invokevirtual 288, 3) := dk_182 1 32 (dk_at dksX6_below_1 12 rfl rfl)
theorem dX6_below_39 : decode cX6_below 39 = .ok (.ireturn, 1) := dk_172 (dk_at dksX6_below_1 15 rfl rfl)
theorem dX6_below_40 : decode cX6_below 40 = .ok (.aload_n 0, 1) := dk_42 (dk_at dksX6_below_1 16 rfl rfl)
theorem dX6_below_41 : decode cX6_below 41 = .ok (.iload_n 1, 1) := dk_27 (dk_at dksX6_below_1 17 rfl rfl)
theorem dX6_below_42 : decode cX6_below 42 = .ok (.invokevirtual 291, 3) := dk_182 1 35 (dk_at dksX6_below_1 18 rfl rfl)
theorem dX6_below_45 : decode cX6_below 45 = .ok (.aload_n 0, 1) := dk_42 (dk_at dksX6_below_1 21 rfl rfl)
theorem dX6_below_46 : decode cX6_below 46 = .ok (.invokevirtual 294, 3) := dk_182 1 38 (dk_at dksX6_below_2 0 rfl rfl)
theorem dX6_below_49 : decode cX6_below 49 = .ok (.bipush (-2), 2) := dk_16 254 (dk_at dksX6_below_2 3 rfl rfl)
theorem dX6_below_51 : decode cX6_below 51 = .ok (.istore 4, 2) := dk_54 4 (dk_at dksX6_below_2 5 rfl rfl)
theorem dX6_below_53 : decode cX6_below 53 = .ok (.iconst 0, 1) := dk_3 (dk_at dksX6_below_2 7 rfl rfl)
theorem dX6_below_54 : decode cX6_below 54 = .ok (.istore 5, 2) := dk_54 5 (dk_at dksX6_below_2 8 rfl rfl)
theorem dX6_below_56 : decode cX6_below 56 = .ok (.iload 5, 2) := dk_21 5 (dk_at dksX6_below_2 10 rfl rfl)
theorem dX6_below_58 : decode cX6_below 58 = .ok (.aload_n 0, 1) := dk_42 (dk_at dksX6_below_2 12 rfl rfl)
theorem dX6_below_59 : decode cX6_below 59 = .ok (.getfield 285, 3) := dk_180 1 29 (dk_at dksX6_below_2 13 rfl rfl)
theorem dX6_below_62 : decode cX6_below 62 = .ok (.if_icmp .ge 39, 3) := dk_162 0 39 (dk_at dksX6_below_2 16 rfl rfl)
theorem dX6_below_65 : decode cX6_below 65 = .ok (.iload 4, 2) := dk_21 4 (dk_at dksX6_below_2 19 rfl rfl)
theorem dX6_below_67 : decode cX6_below 67 = .ok (.ifCond .ge 34, 3) := dk_156 0 34 (dk_at dksX6_below_2 21 rfl rfl)
theorem dX6_below_70 : decode cX6_below 70 = .ok (.aload_n 0, 1) := dk_42 (dk_at dksX6_below_3 0 rfl rfl)
theorem dX6_below_71 : decode cX6_below 71 = .ok (.aload_n 0, 1) := dk_42 (dk_at dksX6_below_3 1 rfl rfl)
theorem dX6_below_72 : decode cX6_below 72 = .ok (.getfield 90, 3) := dk_180 0 90 (dk_at dksX6_below_3 2 rfl rfl)
theorem dX6_below_75 : decode cX6_below 75 = .ok (.iload 5, 2) := dk_21 5 (dk_at dksX6_below_3 5 rfl rfl)
theorem dX6_below_77 : decode cX6_below 77 = .ok (.iaload, 1) := dk_46 (dk_at dksX6_below_3 7 rfl rfl)
theorem dX6_below_78 : decode cX6_below 78 = .ok (.invokevirtual 297, 3) := dk_182 1 41 (dk_at dksX6_below_3 8 rfl rfl)
theorem dX6_below_81 : decode cX6_below 81 = .ok (.aload_n 0, 1) := dk_42 (dk_at dksX6_below_3 11 rfl rfl)
theorem dX6_below_82 : decode cX6_below 82 = .ok (.getfield 40, 3) := dk_180 0 40 (dk_at dksX6_below_3 12 rfl rfl)
theorem dX6_below_85 : decode cX6_below 85 = .ok (.iload_n 2, 1) := dk_28 (dk_at dksX6_below_3 15 rfl rfl)
theorem dX6_below_86 : decode cX6_below 86 = .ok (.iaload, 1) := dk_46 (dk_at dksX6_below_3 16 rfl rfl)
theorem dX6_below_87 : decode cX6_below 87 = .ok (.iload_n 3, 1) := dk_29 (dk_at dksX6_below_3 17 rfl rfl)
theorem dX6_below_88 : decode cX6_below 88 = .ok (.if_icmp .ge 7, 3) := dk_162 0 7 (dk_at dksX6_below_3 18 rfl rfl)
theorem dX6_below_91 : decode cX6_below 91 = .ok (.iload 5, 2) := dk_21 5 (dk_at dksX6_below_3 21 rfl rfl)
theorem dX6_below_93 : decode cX6_below 93 = .ok (.istore 4, 2) := dk_54 4 (dk_at dksX6_below_4 0 rfl rfl)
theorem dX6_below_95 : decode cX6_below 95 = .ok (.iinc 5 1, 3) := dk_132 5 1 (dk_at dksX6_below_4 2 rfl rfl)
theorem dX6_below_98 : decode cX6_below 98 = .ok (.goto (-42), 3) := dk_167 255 214 (dk_at dksX6_below_4 5 rfl rfl)
theorem dX6_below_101 : decode cX6_below 101 = .ok (.aload_n 0, 1) := dk_42 (dk_at dksX6_below_4 8 rfl rfl)
theorem dX6_below_102 : decode cX6_below 102 = .ok (.invokevirtual 300, 3) := dk_182 1 44 (dk_at dksX6_below_4 9 rfl rfl)
theorem dX6_below_105 : decode cX6_below 105 = .ok (.iload 4, 2) := dk_21 4 (dk_at dksX6_below_4 12 rfl rfl)
theorem dX6_below_107 : decode cX6_below 107 = .ok (.ireturn, 1) := dk_172 (dk_at dksX6_below_4 14 rfl rfl)
abbrev cX6_loss : ByteArray := prog_25_method_53_code
def yX6_loss : MethodName := ⟨RX6, "loss", "(I)I"⟩
def dkwX6_loss_1 : List UInt8 := [27, 182, 1, 35, 42, 182, 1, 50, 172]
abbrev dktX6_loss_1 : List UInt8 := dkwX6_loss_1 ++ []
def dkwX6_loss_0 : List UInt8 := [27, 184, 0, 163, 154, 0, 5, 2, 172, 42, 27, 182, 1, 32, 156, 0, 9, 42, 27, 182, 1, 32, 172, 42]
abbrev dktX6_loss_0 : List UInt8 := dkwX6_loss_0 ++ dktX6_loss_1
theorem dksX6_loss_0 : cX6_loss.data.toList.drop 0 = dktX6_loss_0 := by decide +kernel
theorem dksX6_loss_1 : cX6_loss.data.toList.drop 24 = dktX6_loss_1 := dk_seg dksX6_loss_0 24 rfl rfl
theorem dX6_loss_0 : decode cX6_loss 0 = .ok (.iload_n 1, 1) := dk_27 (dk_at dksX6_loss_0 0 rfl rfl)
theorem dX6_loss_1 : decode cX6_loss 1 = .ok (.invokestatic 163, 3) := dk_184 0 163 (dk_at dksX6_loss_0 1 rfl rfl)
theorem dX6_loss_4 : decode cX6_loss 4 = .ok (.ifCond .ne 5, 3) := dk_154 0 5 (dk_at dksX6_loss_0 4 rfl rfl)
theorem dX6_loss_7 : decode cX6_loss 7 = .ok (.iconst (-1), 1) := dk_2 (dk_at dksX6_loss_0 7 rfl rfl)
theorem dX6_loss_8 : decode cX6_loss 8 = .ok (.ireturn, 1) := dk_172 (dk_at dksX6_loss_0 8 rfl rfl)
theorem dX6_loss_9 : decode cX6_loss 9 = .ok (.aload_n 0, 1) := dk_42 (dk_at dksX6_loss_0 9 rfl rfl)
theorem dX6_loss_10 : decode cX6_loss 10 = .ok (.iload_n 1, 1) := dk_27 (dk_at dksX6_loss_0 10 rfl rfl)
theorem dX6_loss_11 : decode cX6_loss 11 = .ok (.invokevirtual 288, 3) := dk_182 1 32 (dk_at dksX6_loss_0 11 rfl rfl)
theorem dX6_loss_14 : decode cX6_loss 14 = .ok (.ifCond .ge 9, 3) := dk_156 0 9 (dk_at dksX6_loss_0 14 rfl rfl)
theorem dX6_loss_17 : decode cX6_loss 17 = .ok (.aload_n 0, 1) := dk_42 (dk_at dksX6_loss_0 17 rfl rfl)
theorem dX6_loss_18 : decode cX6_loss 18 = .ok (.iload_n 1, 1) := dk_27 (dk_at dksX6_loss_0 18 rfl rfl)
theorem dX6_loss_19 : decode cX6_loss 19 = .ok (.invokevirtual 288, 3) := dk_182 1 32 (dk_at dksX6_loss_0 19 rfl rfl)
theorem dX6_loss_22 : decode cX6_loss 22 = .ok (.ireturn, 1) := dk_172 (dk_at dksX6_loss_0 22 rfl rfl)
theorem dX6_loss_23 : decode cX6_loss 23 = .ok (.aload_n 0, 1) := dk_42 (dk_at dksX6_loss_0 23 rfl rfl)
theorem dX6_loss_24 : decode cX6_loss 24 = .ok (.iload_n 1, 1) := dk_27 (dk_at dksX6_loss_1 0 rfl rfl)
theorem dX6_loss_25 : decode cX6_loss 25 = .ok (.invokevirtual 291, 3) := dk_182 1 35 (dk_at dksX6_loss_1 1 rfl rfl)
theorem dX6_loss_28 : decode cX6_loss 28 = .ok (.aload_n 0, 1) := dk_42 (dk_at dksX6_loss_1 4 rfl rfl)
theorem dX6_loss_29 : decode cX6_loss 29 = .ok (.invokevirtual 306, 3) := dk_182 1 50 (dk_at dksX6_loss_1 5 rfl rfl)
theorem dX6_loss_32 : decode cX6_loss 32 = .ok (.ireturn, 1) := dk_172 (dk_at dksX6_loss_1 8 rfl rfl)
abbrev cX6_lossOf : ByteArray := prog_25_method_52_code
def yX6_lossOf : MethodName := ⟨RX6, "lossOf", "()I"⟩
def dkwX6_lossOf_1 : List UInt8 := [182, 1, 41, 27, 42, 182, 1, 47, 96, 60, 132, 2, 1, 167, 255, 228, 42, 182, 1, 44, 27, 172]
abbrev dktX6_lossOf_1 : List UInt8 := dkwX6_lossOf_1 ++ []
def dkwX6_lossOf_0 : List UInt8 := [42, 182, 1, 38, 3, 60, 3, 61, 28, 42, 180, 1, 29, 162, 0, 26, 42, 42, 180, 0, 90, 28, 46]
abbrev dktX6_lossOf_0 : List UInt8 := dkwX6_lossOf_0 ++ dktX6_lossOf_1
theorem dksX6_lossOf_0 : cX6_lossOf.data.toList.drop 0 = dktX6_lossOf_0 := by decide +kernel
theorem dksX6_lossOf_1 : cX6_lossOf.data.toList.drop 23 = dktX6_lossOf_1 := dk_seg dksX6_lossOf_0 23 rfl rfl
theorem dX6_lossOf_0 : decode cX6_lossOf 0 = .ok (.aload_n 0, 1) := dk_42 (dk_at dksX6_lossOf_0 0 rfl rfl)
theorem dX6_lossOf_1 : decode cX6_lossOf 1 = .ok (.invokevirtual 294, 3) := dk_182 1 38 (dk_at dksX6_lossOf_0 1 rfl rfl)
theorem dX6_lossOf_4 : decode cX6_lossOf 4 = .ok (.iconst 0, 1) := dk_3 (dk_at dksX6_lossOf_0 4 rfl rfl)
theorem dX6_lossOf_5 : decode cX6_lossOf 5 = .ok (.istore_n 1, 1) := dk_60 (dk_at dksX6_lossOf_0 5 rfl rfl)
theorem dX6_lossOf_6 : decode cX6_lossOf 6 = .ok (.iconst 0, 1) := dk_3 (dk_at dksX6_lossOf_0 6 rfl rfl)
theorem dX6_lossOf_7 : decode cX6_lossOf 7 = .ok (.istore_n 2, 1) := dk_61 (dk_at dksX6_lossOf_0 7 rfl rfl)
theorem dX6_lossOf_8 : decode cX6_lossOf 8 = .ok (.iload_n 2, 1) := dk_28 (dk_at dksX6_lossOf_0 8 rfl rfl)
theorem dX6_lossOf_9 : decode cX6_lossOf 9 = .ok (.aload_n 0, 1) := dk_42 (dk_at dksX6_lossOf_0 9 rfl rfl)
theorem dX6_lossOf_10 : decode cX6_lossOf 10 = .ok (.getfield 285, 3) := dk_180 1 29 (dk_at dksX6_lossOf_0 10 rfl rfl)
theorem dX6_lossOf_13 : decode cX6_lossOf 13 = .ok (.if_icmp .ge 26, 3) := dk_162 0 26 (dk_at dksX6_lossOf_0 13 rfl rfl)
theorem dX6_lossOf_16 : decode cX6_lossOf 16 = .ok (.aload_n 0, 1) := dk_42 (dk_at dksX6_lossOf_0 16 rfl rfl)
theorem dX6_lossOf_17 : decode cX6_lossOf 17 = .ok (.aload_n 0, 1) := dk_42 (dk_at dksX6_lossOf_0 17 rfl rfl)
theorem dX6_lossOf_18 : decode cX6_lossOf 18 = .ok (.getfield 90, 3) := dk_180 0 90 (dk_at dksX6_lossOf_0 18 rfl rfl)
theorem dX6_lossOf_21 : decode cX6_lossOf 21 = .ok (.iload_n 2, 1) := dk_28 (dk_at dksX6_lossOf_0 21 rfl rfl)
theorem dX6_lossOf_22 : decode cX6_lossOf 22 = .ok (.iaload, 1) := dk_46 (dk_at dksX6_lossOf_0 22 rfl rfl)
theorem dX6_lossOf_23 : decode cX6_lossOf 23 = .ok (.invokevirtual 297, 3) := dk_182 1 41 (dk_at dksX6_lossOf_1 0 rfl rfl)
theorem dX6_lossOf_26 : decode cX6_lossOf 26 = .ok (.iload_n 1, 1) := dk_27 (dk_at dksX6_lossOf_1 3 rfl rfl)
theorem dX6_lossOf_27 : decode cX6_lossOf 27 = .ok (.aload_n 0, 1) := dk_42 (dk_at dksX6_lossOf_1 4 rfl rfl)
theorem dX6_lossOf_28 : decode cX6_lossOf 28 = .ok (.invokevirtual 303, 3) := dk_182 1 47 (dk_at dksX6_lossOf_1 5 rfl rfl)
theorem dX6_lossOf_31 : decode cX6_lossOf 31 = .ok (.iadd, 1) := dk_96 (dk_at dksX6_lossOf_1 8 rfl rfl)
theorem dX6_lossOf_32 : decode cX6_lossOf 32 = .ok (.istore_n 1, 1) := dk_60 (dk_at dksX6_lossOf_1 9 rfl rfl)
theorem dX6_lossOf_33 : decode cX6_lossOf 33 = .ok (.iinc 2 1, 3) := dk_132 2 1 (dk_at dksX6_lossOf_1 10 rfl rfl)
theorem dX6_lossOf_36 : decode cX6_lossOf 36 = .ok (.goto (-28), 3) := dk_167 255 228 (dk_at dksX6_lossOf_1 13 rfl rfl)
theorem dX6_lossOf_39 : decode cX6_lossOf 39 = .ok (.aload_n 0, 1) := dk_42 (dk_at dksX6_lossOf_1 16 rfl rfl)
theorem dX6_lossOf_40 : decode cX6_lossOf 40 = .ok (.invokevirtual 300, 3) := dk_182 1 44 (dk_at dksX6_lossOf_1 17 rfl rfl)
theorem dX6_lossOf_43 : decode cX6_lossOf 43 = .ok (.iload_n 1, 1) := dk_27 (dk_at dksX6_lossOf_1 20 rfl rfl)
theorem dX6_lossOf_44 : decode cX6_lossOf 44 = .ok (.ireturn, 1) := dk_172 (dk_at dksX6_lossOf_1 21 rfl rfl)
abbrev cX6_lossNow : ByteArray := prog_25_method_44_code
def yX6_lossNow : MethodName := ⟨RX6, "lossNow", "()I"⟩
def dkwX6_lossNow_1 : List UInt8 := [132, 2, 1, 167, 255, 233, 27, 172]
abbrev dktX6_lossNow_1 : List UInt8 := dkwX6_lossNow_1 ++ []
def dkwX6_lossNow_0 : List UInt8 := [3, 60, 3, 61, 28, 7, 162, 0, 24, 27, 42, 28, 182, 1, 26, 42, 180, 0, 15, 28, 46, 104, 96, 60]
abbrev dktX6_lossNow_0 : List UInt8 := dkwX6_lossNow_0 ++ dktX6_lossNow_1
theorem dksX6_lossNow_0 : cX6_lossNow.data.toList.drop 0 = dktX6_lossNow_0 := by decide +kernel
theorem dksX6_lossNow_1 : cX6_lossNow.data.toList.drop 24 = dktX6_lossNow_1 := dk_seg dksX6_lossNow_0 24 rfl rfl
theorem dX6_lossNow_0 : decode cX6_lossNow 0 = .ok (.iconst 0, 1) := dk_3 (dk_at dksX6_lossNow_0 0 rfl rfl)
theorem dX6_lossNow_1 : decode cX6_lossNow 1 = .ok (.istore_n 1, 1) := dk_60 (dk_at dksX6_lossNow_0 1 rfl rfl)
theorem dX6_lossNow_2 : decode cX6_lossNow 2 = .ok (.iconst 0, 1) := dk_3 (dk_at dksX6_lossNow_0 2 rfl rfl)
theorem dX6_lossNow_3 : decode cX6_lossNow 3 = .ok (.istore_n 2, 1) := dk_61 (dk_at dksX6_lossNow_0 3 rfl rfl)
theorem dX6_lossNow_4 : decode cX6_lossNow 4 = .ok (.iload_n 2, 1) := dk_28 (dk_at dksX6_lossNow_0 4 rfl rfl)
theorem dX6_lossNow_5 : decode cX6_lossNow 5 = .ok (.iconst 4, 1) := dk_7 (dk_at dksX6_lossNow_0 5 rfl rfl)
theorem dX6_lossNow_6 : decode cX6_lossNow 6 = .ok (.if_icmp .ge 24, 3) := dk_162 0 24 (dk_at dksX6_lossNow_0 6 rfl rfl)
theorem dX6_lossNow_9 : decode cX6_lossNow 9 = .ok (.iload_n 1, 1) := dk_27 (dk_at dksX6_lossNow_0 9 rfl rfl)
theorem dX6_lossNow_10 : decode cX6_lossNow 10 = .ok (.aload_n 0, 1) := dk_42 (dk_at dksX6_lossNow_0 10 rfl rfl)
theorem dX6_lossNow_11 : decode cX6_lossNow 11 = .ok (.iload_n 2, 1) := dk_28 (dk_at dksX6_lossNow_0 11 rfl rfl)
theorem dX6_lossNow_12 : decode cX6_lossNow 12 = .ok (.invokevirtual 282, 3) := dk_182 1 26 (dk_at dksX6_lossNow_0 12 rfl rfl)
theorem dX6_lossNow_15 : decode cX6_lossNow 15 = .ok (.aload_n 0, 1) := dk_42 (dk_at dksX6_lossNow_0 15 rfl rfl)
theorem dX6_lossNow_16 : decode cX6_lossNow 16 = .ok (.getfield 15, 3) := dk_180 0 15 (dk_at dksX6_lossNow_0 16 rfl rfl)
theorem dX6_lossNow_19 : decode cX6_lossNow 19 = .ok (.iload_n 2, 1) := dk_28 (dk_at dksX6_lossNow_0 19 rfl rfl)
theorem dX6_lossNow_20 : decode cX6_lossNow 20 = .ok (.iaload, 1) := dk_46 (dk_at dksX6_lossNow_0 20 rfl rfl)
theorem dX6_lossNow_21 : decode cX6_lossNow 21 = .ok (.imul, 1) := dk_104 (dk_at dksX6_lossNow_0 21 rfl rfl)
theorem dX6_lossNow_22 : decode cX6_lossNow 22 = .ok (.iadd, 1) := dk_96 (dk_at dksX6_lossNow_0 22 rfl rfl)
theorem dX6_lossNow_23 : decode cX6_lossNow 23 = .ok (.istore_n 1, 1) := dk_60 (dk_at dksX6_lossNow_0 23 rfl rfl)
theorem dX6_lossNow_24 : decode cX6_lossNow 24 = .ok (.iinc 2 1, 3) := dk_132 2 1 (dk_at dksX6_lossNow_1 0 rfl rfl)
theorem dX6_lossNow_27 : decode cX6_lossNow 27 = .ok (.goto (-23), 3) := dk_167 255 233 (dk_at dksX6_lossNow_1 3 rfl rfl)
theorem dX6_lossNow_30 : decode cX6_lossNow 30 = .ok (.iload_n 1, 1) := dk_27 (dk_at dksX6_lossNow_1 6 rfl rfl)
theorem dX6_lossNow_31 : decode cX6_lossNow 31 = .ok (.ireturn, 1) := dk_172 (dk_at dksX6_lossNow_1 7 rfl rfl)
abbrev cX6_lacksOf : ByteArray := prog_25_method_43_code
def yX6_lacksOf : MethodName := ⟨RX6, "lacksOf", "(I)I"⟩
def dkwX6_lacksOf_1 : List UInt8 := [180, 0, 40, 27, 46, 100, 167, 0, 4, 3, 172]
abbrev dktX6_lacksOf_1 : List UInt8 := dkwX6_lacksOf_1 ++ []
def dkwX6_lacksOf_0 : List UInt8 := [42, 180, 0, 40, 27, 46, 42, 180, 0, 9, 27, 46, 162, 0, 19, 42, 180, 0, 9, 27, 46, 42]
abbrev dktX6_lacksOf_0 : List UInt8 := dkwX6_lacksOf_0 ++ dktX6_lacksOf_1
theorem dksX6_lacksOf_0 : cX6_lacksOf.data.toList.drop 0 = dktX6_lacksOf_0 := by decide +kernel
theorem dksX6_lacksOf_1 : cX6_lacksOf.data.toList.drop 22 = dktX6_lacksOf_1 := dk_seg dksX6_lacksOf_0 22 rfl rfl
theorem dX6_lacksOf_0 : decode cX6_lacksOf 0 = .ok (.aload_n 0, 1) := dk_42 (dk_at dksX6_lacksOf_0 0 rfl rfl)
theorem dX6_lacksOf_1 : decode cX6_lacksOf 1 = .ok (.getfield 40, 3) := dk_180 0 40 (dk_at dksX6_lacksOf_0 1 rfl rfl)
theorem dX6_lacksOf_4 : decode cX6_lacksOf 4 = .ok (.iload_n 1, 1) := dk_27 (dk_at dksX6_lacksOf_0 4 rfl rfl)
theorem dX6_lacksOf_5 : decode cX6_lacksOf 5 = .ok (.iaload, 1) := dk_46 (dk_at dksX6_lacksOf_0 5 rfl rfl)
theorem dX6_lacksOf_6 : decode cX6_lacksOf 6 = .ok (.aload_n 0, 1) := dk_42 (dk_at dksX6_lacksOf_0 6 rfl rfl)
theorem dX6_lacksOf_7 : decode cX6_lacksOf 7 = .ok (.getfield 9, 3) := dk_180 0 9 (dk_at dksX6_lacksOf_0 7 rfl rfl)
theorem dX6_lacksOf_10 : decode cX6_lacksOf 10 = .ok (.iload_n 1, 1) := dk_27 (dk_at dksX6_lacksOf_0 10 rfl rfl)
theorem dX6_lacksOf_11 : decode cX6_lacksOf 11 = .ok (.iaload, 1) := dk_46 (dk_at dksX6_lacksOf_0 11 rfl rfl)
theorem dX6_lacksOf_12 : decode cX6_lacksOf 12 = .ok (.if_icmp .ge 19, 3) := dk_162 0 19 (dk_at dksX6_lacksOf_0 12 rfl rfl)
theorem dX6_lacksOf_15 : decode cX6_lacksOf 15 = .ok (.aload_n 0, 1) := dk_42 (dk_at dksX6_lacksOf_0 15 rfl rfl)
theorem dX6_lacksOf_16 : decode cX6_lacksOf 16 = .ok (.getfield 9, 3) := dk_180 0 9 (dk_at dksX6_lacksOf_0 16 rfl rfl)
theorem dX6_lacksOf_19 : decode cX6_lacksOf 19 = .ok (.iload_n 1, 1) := dk_27 (dk_at dksX6_lacksOf_0 19 rfl rfl)
theorem dX6_lacksOf_20 : decode cX6_lacksOf 20 = .ok (.iaload, 1) := dk_46 (dk_at dksX6_lacksOf_0 20 rfl rfl)
theorem dX6_lacksOf_21 : decode cX6_lacksOf 21 = .ok (.aload_n 0, 1) := dk_42 (dk_at dksX6_lacksOf_0 21 rfl rfl)
theorem dX6_lacksOf_22 : decode cX6_lacksOf 22 = .ok (.getfield 40, 3) := dk_180 0 40 (dk_at dksX6_lacksOf_1 0 rfl rfl)
theorem dX6_lacksOf_25 : decode cX6_lacksOf 25 = .ok (.iload_n 1, 1) := dk_27 (dk_at dksX6_lacksOf_1 3 rfl rfl)
theorem dX6_lacksOf_26 : decode cX6_lacksOf 26 = .ok (.iaload, 1) := dk_46 (dk_at dksX6_lacksOf_1 4 rfl rfl)
theorem dX6_lacksOf_27 : decode cX6_lacksOf 27 = .ok (.isub, 1) := dk_100 (dk_at dksX6_lacksOf_1 5 rfl rfl)
theorem dX6_lacksOf_28 : decode cX6_lacksOf 28 = .ok (.goto 4, 3) := dk_167 0 4 (dk_at dksX6_lacksOf_1 6 rfl rfl)
theorem dX6_lacksOf_31 : decode cX6_lacksOf 31 = .ok (.iconst 0, 1) := dk_3 (dk_at dksX6_lacksOf_1 9 rfl rfl)
theorem dX6_lacksOf_32 : decode cX6_lacksOf 32 = .ok (.ireturn, 1) := dk_172 (dk_at dksX6_lacksOf_1 10 rfl rfl)
abbrev cX6_rest : ByteArray := prog_25_method_55_code
def yX6_rest : MethodName := ⟨RX6, "rest", "(II)I"⟩
def dkwX6_rest_9 : List UInt8 := [180, 0, 93, 16, 48, 29, 104, 28, 96, 5, 100, 46, 172]
abbrev dktX6_rest_9 : List UInt8 := dkwX6_rest_9 ++ []
def dkwX6_rest_8 : List UInt8 := [16, 254, 172, 28, 154, 0, 7, 29, 167, 0, 26, 28, 4, 160, 0, 8, 21, 4, 167, 0, 16, 42]
abbrev dktX6_rest_8 : List UInt8 := dkwX6_rest_8 ++ dktX6_rest_9
def dkwX6_rest_7 : List UInt8 := [182, 1, 41, 132, 6, 1, 167, 255, 233, 132, 5, 1, 167, 255, 134, 42, 182, 1, 44, 29, 156, 0, 6]
abbrev dktX6_rest_7 : List UInt8 := dkwX6_rest_7 ++ dktX6_rest_8
def dkwX6_rest_6 : List UInt8 := [167, 255, 220, 3, 54, 6, 21, 6, 42, 180, 1, 29, 162, 0, 20, 42, 42, 180, 0, 90, 21, 6, 46]
abbrev dktX6_rest_6 : List UInt8 := dkwX6_rest_6 ++ dktX6_rest_7
def dkwX6_rest_5 : List UInt8 := [182, 1, 53, 154, 0, 6, 167, 0, 13, 21, 6, 62, 21, 5, 21, 6, 100, 54, 4, 132, 6, 1]
abbrev dktX6_rest_5 : List UInt8 := dkwX6_rest_5 ++ dktX6_rest_6
def dkwX6_rest_4 : List UInt8 := [132, 6, 1, 167, 255, 226, 3, 54, 6, 21, 6, 21, 5, 162, 0, 35, 29, 156, 0, 31, 42, 21, 6]
abbrev dktX6_rest_4 : List UInt8 := dkwX6_rest_4 ++ dktX6_rest_5
def dkwX6_rest_3 : List UInt8 := [162, 0, 29, 42, 180, 0, 93, 16, 48, 21, 5, 104, 21, 6, 96, 42, 180, 0, 40, 21, 6, 46, 79]
abbrev dktX6_rest_3 : List UInt8 := dkwX6_rest_3 ++ dktX6_rest_4
def dkwX6_rest_2 : List UInt8 := [54, 4, 3, 54, 5, 21, 5, 17, 0, 200, 163, 0, 120, 29, 156, 0, 116, 3, 54, 6, 21, 6, 16, 48]
abbrev dktX6_rest_2 : List UInt8 := dkwX6_rest_2 ++ dktX6_rest_3
def dkwX6_rest_1 : List UInt8 := [156, 0, 9, 42, 27, 182, 1, 32, 172, 42, 27, 182, 1, 35, 42, 182, 1, 38, 16, 254, 62, 16, 254]
abbrev dktX6_rest_1 : List UInt8 := dkwX6_rest_1 ++ dktX6_rest_2
def dkwX6_rest_0 : List UInt8 := [27, 184, 0, 163, 153, 0, 12, 28, 3, 8, 184, 0, 145, 154, 0, 5, 2, 172, 42, 27, 182, 1, 32]
abbrev dktX6_rest_0 : List UInt8 := dkwX6_rest_0 ++ dktX6_rest_1
theorem dksX6_rest_0 : cX6_rest.data.toList.drop 0 = dktX6_rest_0 := by decide +kernel
theorem dksX6_rest_1 : cX6_rest.data.toList.drop 23 = dktX6_rest_1 := dk_seg dksX6_rest_0 23 rfl rfl
theorem dksX6_rest_2 : cX6_rest.data.toList.drop 46 = dktX6_rest_2 := dk_seg dksX6_rest_1 23 rfl rfl
theorem dksX6_rest_3 : cX6_rest.data.toList.drop 70 = dktX6_rest_3 := dk_seg dksX6_rest_2 24 rfl rfl
theorem dksX6_rest_4 : cX6_rest.data.toList.drop 93 = dktX6_rest_4 := dk_seg dksX6_rest_3 23 rfl rfl
theorem dksX6_rest_5 : cX6_rest.data.toList.drop 116 = dktX6_rest_5 := dk_seg dksX6_rest_4 23 rfl rfl
theorem dksX6_rest_6 : cX6_rest.data.toList.drop 138 = dktX6_rest_6 := dk_seg dksX6_rest_5 22 rfl rfl
theorem dksX6_rest_7 : cX6_rest.data.toList.drop 161 = dktX6_rest_7 := dk_seg dksX6_rest_6 23 rfl rfl
theorem dksX6_rest_8 : cX6_rest.data.toList.drop 184 = dktX6_rest_8 := dk_seg dksX6_rest_7 23 rfl rfl
theorem dksX6_rest_9 : cX6_rest.data.toList.drop 206 = dktX6_rest_9 := dk_seg dksX6_rest_8 22 rfl rfl
theorem dX6_rest_0 : decode cX6_rest 0 = .ok (.iload_n 1, 1) := dk_27 (dk_at dksX6_rest_0 0 rfl rfl)
theorem dX6_rest_1 : decode cX6_rest 1 = .ok (.invokestatic 163, 3) := dk_184 0 163 (dk_at dksX6_rest_0 1 rfl rfl)
theorem dX6_rest_4 : decode cX6_rest 4 = .ok (.ifCond .eq 12, 3) := dk_153 0 12 (dk_at dksX6_rest_0 4 rfl rfl)
theorem dX6_rest_7 : decode cX6_rest 7 = .ok (.iload_n 2, 1) := dk_28 (dk_at dksX6_rest_0 7 rfl rfl)
theorem dX6_rest_8 : decode cX6_rest 8 = .ok (.iconst 0, 1) := dk_3 (dk_at dksX6_rest_0 8 rfl rfl)
theorem dX6_rest_9 : decode cX6_rest 9 = .ok (.iconst 5, 1) := dk_8 (dk_at dksX6_rest_0 9 rfl rfl)
theorem dX6_rest_10 : decode cX6_rest 10 = .ok (.invokestatic 145, 3) := dk_184 0 145 (dk_at dksX6_rest_0 10 rfl rfl)
theorem dX6_rest_13 : decode cX6_rest 13 = .ok (.ifCond .ne 5, 3) := dk_154 0 5 (dk_at dksX6_rest_0 13 rfl rfl)
theorem dX6_rest_16 : decode cX6_rest 16 = .ok (.iconst (-1), 1) := dk_2 (dk_at dksX6_rest_0 16 rfl rfl)
theorem dX6_rest_17 : decode cX6_rest 17 = .ok (.ireturn, 1) := dk_172 (dk_at dksX6_rest_0 17 rfl rfl)
theorem dX6_rest_18 : decode cX6_rest 18 = .ok (.aload_n 0, 1) := dk_42 (dk_at dksX6_rest_0 18 rfl rfl)
theorem dX6_rest_19 : decode cX6_rest 19 = .ok (.iload_n 1, 1) := dk_27 (dk_at dksX6_rest_0 19 rfl rfl)
theorem dX6_rest_20 : decode cX6_rest 20 = .ok (.invokevirtual 288, 3) := dk_182 1 32 (dk_at dksX6_rest_0 20 rfl rfl)
theorem dX6_rest_23 : decode cX6_rest 23 = .ok (.ifCond .ge 9, 3) := dk_156 0 9 (dk_at dksX6_rest_1 0 rfl rfl)
theorem dX6_rest_26 : decode cX6_rest 26 = .ok (.aload_n 0, 1) := dk_42 (dk_at dksX6_rest_1 3 rfl rfl)
theorem dX6_rest_27 : decode cX6_rest 27 = .ok (.iload_n 1, 1) := dk_27 (dk_at dksX6_rest_1 4 rfl rfl)
theorem dX6_rest_28 : decode cX6_rest 28 = .ok (.invokevirtual 288, 3) := dk_182 1 32 (dk_at dksX6_rest_1 5 rfl rfl)
theorem dX6_rest_31 : decode cX6_rest 31 = .ok (.ireturn, 1) := dk_172 (dk_at dksX6_rest_1 8 rfl rfl)
theorem dX6_rest_32 : decode cX6_rest 32 = .ok (.aload_n 0, 1) := dk_42 (dk_at dksX6_rest_1 9 rfl rfl)
theorem dX6_rest_33 : decode cX6_rest 33 = .ok (.iload_n 1, 1) := dk_27 (dk_at dksX6_rest_1 10 rfl rfl)
theorem dX6_rest_34 : decode cX6_rest 34 = .ok (.invokevirtual 291, 3) := dk_182 1 35 (dk_at dksX6_rest_1 11 rfl rfl)
theorem dX6_rest_37 : decode cX6_rest 37 = .ok (.aload_n 0, 1) := dk_42 (dk_at dksX6_rest_1 14 rfl rfl)
theorem dX6_rest_38 : decode cX6_rest 38 = .ok (.invokevirtual 294, 3) := dk_182 1 38 (dk_at dksX6_rest_1 15 rfl rfl)
theorem dX6_rest_41 : decode cX6_rest 41 = .ok (.bipush (-2), 2) := dk_16 254 (dk_at dksX6_rest_1 18 rfl rfl)
theorem dX6_rest_43 : decode cX6_rest 43 = .ok (.istore_n 3, 1) := dk_62 (dk_at dksX6_rest_1 20 rfl rfl)
theorem dX6_rest_44 : decode cX6_rest 44 = .ok (.bipush (-2), 2) := dk_16 254 (dk_at dksX6_rest_1 21 rfl rfl)
theorem dX6_rest_46 : decode cX6_rest 46 = .ok (.istore 4, 2) := dk_54 4 (dk_at dksX6_rest_2 0 rfl rfl)
theorem dX6_rest_48 : decode cX6_rest 48 = .ok (.iconst 0, 1) := dk_3 (dk_at dksX6_rest_2 2 rfl rfl)
theorem dX6_rest_49 : decode cX6_rest 49 = .ok (.istore 5, 2) := dk_54 5 (dk_at dksX6_rest_2 3 rfl rfl)
theorem dX6_rest_51 : decode cX6_rest 51 = .ok (.iload 5, 2) := dk_21 5 (dk_at dksX6_rest_2 5 rfl rfl)
theorem dX6_rest_53 : decode cX6_rest 53 = .ok (.sipush 200, 3) := dk_17 0 200 (dk_at dksX6_rest_2 7 rfl rfl)
theorem dX6_rest_56 : decode cX6_rest 56 = .ok (.if_icmp .gt 120, 3) := dk_163 0 120 (dk_at dksX6_rest_2 10 rfl rfl)
theorem dX6_rest_59 : decode cX6_rest 59 = .ok (.iload_n 3, 1) := dk_29 (dk_at dksX6_rest_2 13 rfl rfl)
theorem dX6_rest_60 : decode cX6_rest 60 = .ok (.ifCond .ge 116, 3) := dk_156 0 116 (dk_at dksX6_rest_2 14 rfl rfl)
theorem dX6_rest_63 : decode cX6_rest 63 = .ok (.iconst 0, 1) := dk_3 (dk_at dksX6_rest_2 17 rfl rfl)
theorem dX6_rest_64 : decode cX6_rest 64 = .ok (.istore 6, 2) := dk_54 6 (dk_at dksX6_rest_2 18 rfl rfl)
theorem dX6_rest_66 : decode cX6_rest 66 = .ok (.iload 6, 2) := dk_21 6 (dk_at dksX6_rest_2 20 rfl rfl)
theorem dX6_rest_68 : decode cX6_rest 68 = .ok (.bipush 48, 2) := dk_16 48 (dk_at dksX6_rest_2 22 rfl rfl)
theorem dX6_rest_70 : decode cX6_rest 70 = .ok (.if_icmp .ge 29, 3) := dk_162 0 29 (dk_at dksX6_rest_3 0 rfl rfl)
theorem dX6_rest_73 : decode cX6_rest 73 = .ok (.aload_n 0, 1) := dk_42 (dk_at dksX6_rest_3 3 rfl rfl)
theorem dX6_rest_74 : decode cX6_rest 74 = .ok (.getfield 93, 3) := dk_180 0 93 (dk_at dksX6_rest_3 4 rfl rfl)
theorem dX6_rest_77 : decode cX6_rest 77 = .ok (.bipush 48, 2) := dk_16 48 (dk_at dksX6_rest_3 7 rfl rfl)
theorem dX6_rest_79 : decode cX6_rest 79 = .ok (.iload 5, 2) := dk_21 5 (dk_at dksX6_rest_3 9 rfl rfl)
theorem dX6_rest_81 : decode cX6_rest 81 = .ok (.imul, 1) := dk_104 (dk_at dksX6_rest_3 11 rfl rfl)
theorem dX6_rest_82 : decode cX6_rest 82 = .ok (.iload 6, 2) := dk_21 6 (dk_at dksX6_rest_3 12 rfl rfl)
theorem dX6_rest_84 : decode cX6_rest 84 = .ok (.iadd, 1) := dk_96 (dk_at dksX6_rest_3 14 rfl rfl)
theorem dX6_rest_85 : decode cX6_rest 85 = .ok (.aload_n 0, 1) := dk_42 (dk_at dksX6_rest_3 15 rfl rfl)
theorem dX6_rest_86 : decode cX6_rest 86 = .ok (.getfield 40, 3) := dk_180 0 40 (dk_at dksX6_rest_3 16 rfl rfl)
theorem dX6_rest_89 : decode cX6_rest 89 = .ok (.iload 6, 2) := dk_21 6 (dk_at dksX6_rest_3 19 rfl rfl)
theorem dX6_rest_91 : decode cX6_rest 91 = .ok (.iaload, 1) := dk_46 (dk_at dksX6_rest_3 21 rfl rfl)
theorem dX6_rest_92 : decode cX6_rest 92 = .ok (.iastore, 1) := dk_79 (dk_at dksX6_rest_3 22 rfl rfl)
theorem dX6_rest_93 : decode cX6_rest 93 = .ok (.iinc 6 1, 3) := dk_132 6 1 (dk_at dksX6_rest_4 0 rfl rfl)
theorem dX6_rest_96 : decode cX6_rest 96 = .ok (.goto (-30), 3) := dk_167 255 226 (dk_at dksX6_rest_4 3 rfl rfl)
theorem dX6_rest_99 : decode cX6_rest 99 = .ok (.iconst 0, 1) := dk_3 (dk_at dksX6_rest_4 6 rfl rfl)
theorem dX6_rest_100 : decode cX6_rest 100 = .ok (.istore 6, 2) := dk_54 6 (dk_at dksX6_rest_4 7 rfl rfl)
theorem dX6_rest_102 : decode cX6_rest 102 = .ok (.iload 6, 2) := dk_21 6 (dk_at dksX6_rest_4 9 rfl rfl)
theorem dX6_rest_104 : decode cX6_rest 104 = .ok (.iload 5, 2) := dk_21 5 (dk_at dksX6_rest_4 11 rfl rfl)
theorem dX6_rest_106 : decode cX6_rest 106 = .ok (.if_icmp .ge 35, 3) := dk_162 0 35 (dk_at dksX6_rest_4 13 rfl rfl)
theorem dX6_rest_109 : decode cX6_rest 109 = .ok (.iload_n 3, 1) := dk_29 (dk_at dksX6_rest_4 16 rfl rfl)
theorem dX6_rest_110 : decode cX6_rest 110 = .ok (.ifCond .ge 31, 3) := dk_156 0 31 (dk_at dksX6_rest_4 17 rfl rfl)
theorem dX6_rest_113 : decode cX6_rest 113 = .ok (.aload_n 0, 1) := dk_42 (dk_at dksX6_rest_4 20 rfl rfl)
theorem dX6_rest_114 : decode cX6_rest 114 = .ok (.iload 6, 2) := dk_21 6 (dk_at dksX6_rest_4 21 rfl rfl)
theorem dX6_rest_116 : decode cX6_rest 116 = .ok (.invokevirtual 309, 3) := dk_182 1 53 (dk_at dksX6_rest_5 0 rfl rfl)
theorem dX6_rest_119 : decode cX6_rest 119 = .ok (.ifCond .ne 6, 3) := dk_154 0 6 (dk_at dksX6_rest_5 3 rfl rfl)
theorem dX6_rest_122 : decode cX6_rest 122 = .ok (.goto 13, 3) := dk_167 0 13 (dk_at dksX6_rest_5 6 rfl rfl)
theorem dX6_rest_125 : decode cX6_rest 125 = .ok (.iload 6, 2) := dk_21 6 (dk_at dksX6_rest_5 9 rfl rfl)
theorem dX6_rest_127 : decode cX6_rest 127 = .ok (.istore_n 3, 1) := dk_62 (dk_at dksX6_rest_5 11 rfl rfl)
theorem dX6_rest_128 : decode cX6_rest 128 = .ok (.iload 5, 2) := dk_21 5 (dk_at dksX6_rest_5 12 rfl rfl)
theorem dX6_rest_130 : decode cX6_rest 130 = .ok (.iload 6, 2) := dk_21 6 (dk_at dksX6_rest_5 14 rfl rfl)
theorem dX6_rest_132 : decode cX6_rest 132 = .ok (.isub, 1) := dk_100 (dk_at dksX6_rest_5 16 rfl rfl)
theorem dX6_rest_133 : decode cX6_rest 133 = .ok (.istore 4, 2) := dk_54 4 (dk_at dksX6_rest_5 17 rfl rfl)
theorem dX6_rest_135 : decode cX6_rest 135 = .ok (.iinc 6 1, 3) := dk_132 6 1 (dk_at dksX6_rest_5 19 rfl rfl)
theorem dX6_rest_138 : decode cX6_rest 138 = .ok (.goto (-36), 3) := dk_167 255 220 (dk_at dksX6_rest_6 0 rfl rfl)
theorem dX6_rest_141 : decode cX6_rest 141 = .ok (.iconst 0, 1) := dk_3 (dk_at dksX6_rest_6 3 rfl rfl)
theorem dX6_rest_142 : decode cX6_rest 142 = .ok (.istore 6, 2) := dk_54 6 (dk_at dksX6_rest_6 4 rfl rfl)
theorem dX6_rest_144 : decode cX6_rest 144 = .ok (.iload 6, 2) := dk_21 6 (dk_at dksX6_rest_6 6 rfl rfl)
theorem dX6_rest_146 : decode cX6_rest 146 = .ok (.aload_n 0, 1) := dk_42 (dk_at dksX6_rest_6 8 rfl rfl)
theorem dX6_rest_147 : decode cX6_rest 147 = .ok (.getfield 285, 3) := dk_180 1 29 (dk_at dksX6_rest_6 9 rfl rfl)
theorem dX6_rest_150 : decode cX6_rest 150 = .ok (.if_icmp .ge 20, 3) := dk_162 0 20 (dk_at dksX6_rest_6 12 rfl rfl)
theorem dX6_rest_153 : decode cX6_rest 153 = .ok (.aload_n 0, 1) := dk_42 (dk_at dksX6_rest_6 15 rfl rfl)
theorem dX6_rest_154 : decode cX6_rest 154 = .ok (.aload_n 0, 1) := dk_42 (dk_at dksX6_rest_6 16 rfl rfl)
theorem dX6_rest_155 : decode cX6_rest 155 = .ok (.getfield 90, 3) := dk_180 0 90 (dk_at dksX6_rest_6 17 rfl rfl)
theorem dX6_rest_158 : decode cX6_rest 158 = .ok (.iload 6, 2) := dk_21 6 (dk_at dksX6_rest_6 20 rfl rfl)
theorem dX6_rest_160 : decode cX6_rest 160 = .ok (.iaload, 1) := dk_46 (dk_at dksX6_rest_6 22 rfl rfl)
theorem dX6_rest_161 : decode cX6_rest 161 = .ok (.invokevirtual 297, 3) := dk_182 1 41 (dk_at dksX6_rest_7 0 rfl rfl)
theorem dX6_rest_164 : decode cX6_rest 164 = .ok (.iinc 6 1, 3) := dk_132 6 1 (dk_at dksX6_rest_7 3 rfl rfl)
theorem dX6_rest_167 : decode cX6_rest 167 = .ok (.goto (-23), 3) := dk_167 255 233 (dk_at dksX6_rest_7 6 rfl rfl)
theorem dX6_rest_170 : decode cX6_rest 170 = .ok (.iinc 5 1, 3) := dk_132 5 1 (dk_at dksX6_rest_7 9 rfl rfl)
theorem dX6_rest_173 : decode cX6_rest 173 = .ok (.goto (-122), 3) := dk_167 255 134 (dk_at dksX6_rest_7 12 rfl rfl)
theorem dX6_rest_176 : decode cX6_rest 176 = .ok (.aload_n 0, 1) := dk_42 (dk_at dksX6_rest_7 15 rfl rfl)
theorem dX6_rest_177 : decode cX6_rest 177 = .ok (.invokevirtual 300, 3) := dk_182 1 44 (dk_at dksX6_rest_7 16 rfl rfl)
theorem dX6_rest_180 : decode cX6_rest 180 = .ok (.iload_n 3, 1) := dk_29 (dk_at dksX6_rest_7 19 rfl rfl)
theorem dX6_rest_181 : decode cX6_rest 181 = .ok (.ifCond .ge 6, 3) := dk_156 0 6 (dk_at dksX6_rest_7 20 rfl rfl)
theorem dX6_rest_184 : decode cX6_rest 184 = .ok (.bipush (-2), 2) := dk_16 254 (dk_at dksX6_rest_8 0 rfl rfl)
theorem dX6_rest_186 : decode cX6_rest 186 = .ok (.ireturn, 1) := dk_172 (dk_at dksX6_rest_8 2 rfl rfl)
theorem dX6_rest_187 : decode cX6_rest 187 = .ok (.iload_n 2, 1) := dk_28 (dk_at dksX6_rest_8 3 rfl rfl)
theorem dX6_rest_188 : decode cX6_rest 188 = .ok (.ifCond .ne 7, 3) := dk_154 0 7 (dk_at dksX6_rest_8 4 rfl rfl)
theorem dX6_rest_191 : decode cX6_rest 191 = .ok (.iload_n 3, 1) := dk_29 (dk_at dksX6_rest_8 7 rfl rfl)
theorem dX6_rest_192 : decode cX6_rest 192 = .ok (.goto 26, 3) := dk_167 0 26 (dk_at dksX6_rest_8 8 rfl rfl)
theorem dX6_rest_195 : decode cX6_rest 195 = .ok (.iload_n 2, 1) := dk_28 (dk_at dksX6_rest_8 11 rfl rfl)
theorem dX6_rest_196 : decode cX6_rest 196 = .ok (.iconst 1, 1) := dk_4 (dk_at dksX6_rest_8 12 rfl rfl)
theorem dX6_rest_197 : decode cX6_rest 197 = .ok (.if_icmp .ne 8, 3) := dk_160 0 8 (dk_at dksX6_rest_8 13 rfl rfl)
theorem dX6_rest_200 : decode cX6_rest 200 = .ok (.iload 4, 2) := dk_21 4 (dk_at dksX6_rest_8 16 rfl rfl)
theorem dX6_rest_202 : decode cX6_rest 202 = .ok (.goto 16, 3) := dk_167 0 16 (dk_at dksX6_rest_8 18 rfl rfl)
theorem dX6_rest_205 : decode cX6_rest 205 = .ok (.aload_n 0, 1) := dk_42 (dk_at dksX6_rest_8 21 rfl rfl)
theorem dX6_rest_206 : decode cX6_rest 206 = .ok (.getfield 93, 3) := dk_180 0 93 (dk_at dksX6_rest_9 0 rfl rfl)
theorem dX6_rest_209 : decode cX6_rest 209 = .ok (.bipush 48, 2) := dk_16 48 (dk_at dksX6_rest_9 3 rfl rfl)
theorem dX6_rest_211 : decode cX6_rest 211 = .ok (.iload_n 3, 1) := dk_29 (dk_at dksX6_rest_9 5 rfl rfl)
theorem dX6_rest_212 : decode cX6_rest 212 = .ok (.imul, 1) := dk_104 (dk_at dksX6_rest_9 6 rfl rfl)
theorem dX6_rest_213 : decode cX6_rest 213 = .ok (.iload_n 2, 1) := dk_28 (dk_at dksX6_rest_9 7 rfl rfl)
theorem dX6_rest_214 : decode cX6_rest 214 = .ok (.iadd, 1) := dk_96 (dk_at dksX6_rest_9 8 rfl rfl)
theorem dX6_rest_215 : decode cX6_rest 215 = .ok (.iconst 2, 1) := dk_5 (dk_at dksX6_rest_9 9 rfl rfl)
theorem dX6_rest_216 : decode cX6_rest 216 = .ok (.isub, 1) := dk_100 (dk_at dksX6_rest_9 10 rfl rfl)
theorem dX6_rest_217 : decode cX6_rest 217 = .ok (.iaload, 1) := dk_46 (dk_at dksX6_rest_9 11 rfl rfl)
theorem dX6_rest_218 : decode cX6_rest 218 = .ok (.ireturn, 1) := dk_172 (dk_at dksX6_rest_9 12 rfl rfl)
abbrev cX6_isAs : ByteArray := prog_25_method_54_code
def yX6_isAs : MethodName := ⟨RX6, "isAs", "(I)Z"⟩
def dkwX6_isAs_2 : List UInt8 := [167, 255, 210, 4, 172]
abbrev dktX6_isAs_2 : List UInt8 := dkwX6_isAs_2 ++ []
def dkwX6_isAs_1 : List UInt8 := [180, 0, 93, 16, 48, 27, 104, 28, 96, 46, 42, 180, 0, 40, 28, 46, 159, 0, 5, 3, 172, 132, 2, 1]
abbrev dktX6_isAs_1 : List UInt8 := dkwX6_isAs_1 ++ dktX6_isAs_2
def dkwX6_isAs_0 : List UInt8 := [3, 61, 28, 16, 48, 162, 0, 46, 28, 16, 8, 161, 0, 12, 28, 16, 12, 163, 0, 6, 167, 0, 25, 42]
abbrev dktX6_isAs_0 : List UInt8 := dkwX6_isAs_0 ++ dktX6_isAs_1
theorem dksX6_isAs_0 : cX6_isAs.data.toList.drop 0 = dktX6_isAs_0 := by decide +kernel
theorem dksX6_isAs_1 : cX6_isAs.data.toList.drop 24 = dktX6_isAs_1 := dk_seg dksX6_isAs_0 24 rfl rfl
theorem dksX6_isAs_2 : cX6_isAs.data.toList.drop 48 = dktX6_isAs_2 := dk_seg dksX6_isAs_1 24 rfl rfl
theorem dX6_isAs_0 : decode cX6_isAs 0 = .ok (.iconst 0, 1) := dk_3 (dk_at dksX6_isAs_0 0 rfl rfl)
theorem dX6_isAs_1 : decode cX6_isAs 1 = .ok (.istore_n 2, 1) := dk_61 (dk_at dksX6_isAs_0 1 rfl rfl)
theorem dX6_isAs_2 : decode cX6_isAs 2 = .ok (.iload_n 2, 1) := dk_28 (dk_at dksX6_isAs_0 2 rfl rfl)
theorem dX6_isAs_3 : decode cX6_isAs 3 = .ok (.bipush 48, 2) := dk_16 48 (dk_at dksX6_isAs_0 3 rfl rfl)
theorem dX6_isAs_5 : decode cX6_isAs 5 = .ok (.if_icmp .ge 46, 3) := dk_162 0 46 (dk_at dksX6_isAs_0 5 rfl rfl)
theorem dX6_isAs_8 : decode cX6_isAs 8 = .ok (.iload_n 2, 1) := dk_28 (dk_at dksX6_isAs_0 8 rfl rfl)
theorem dX6_isAs_9 : decode cX6_isAs 9 = .ok (.bipush 8, 2) := dk_16 8 (dk_at dksX6_isAs_0 9 rfl rfl)
theorem dX6_isAs_11 : decode cX6_isAs 11 = .ok (.if_icmp .lt 12, 3) := dk_161 0 12 (dk_at dksX6_isAs_0 11 rfl rfl)
theorem dX6_isAs_14 : decode cX6_isAs 14 = .ok (.iload_n 2, 1) := dk_28 (dk_at dksX6_isAs_0 14 rfl rfl)
theorem dX6_isAs_15 : decode cX6_isAs 15 = .ok (.bipush 12, 2) := dk_16 12 (dk_at dksX6_isAs_0 15 rfl rfl)
theorem dX6_isAs_17 : decode cX6_isAs 17 = .ok (.if_icmp .gt 6, 3) := dk_163 0 6 (dk_at dksX6_isAs_0 17 rfl rfl)
theorem dX6_isAs_20 : decode cX6_isAs 20 = .ok (.goto 25, 3) := dk_167 0 25 (dk_at dksX6_isAs_0 20 rfl rfl)
theorem dX6_isAs_23 : decode cX6_isAs 23 = .ok (.aload_n 0, 1) := dk_42 (dk_at dksX6_isAs_0 23 rfl rfl)
theorem dX6_isAs_24 : decode cX6_isAs 24 = .ok (.getfield 93, 3) := dk_180 0 93 (dk_at dksX6_isAs_1 0 rfl rfl)
theorem dX6_isAs_27 : decode cX6_isAs 27 = .ok (.bipush 48, 2) := dk_16 48 (dk_at dksX6_isAs_1 3 rfl rfl)
theorem dX6_isAs_29 : decode cX6_isAs 29 = .ok (.iload_n 1, 1) := dk_27 (dk_at dksX6_isAs_1 5 rfl rfl)
theorem dX6_isAs_30 : decode cX6_isAs 30 = .ok (.imul, 1) := dk_104 (dk_at dksX6_isAs_1 6 rfl rfl)
theorem dX6_isAs_31 : decode cX6_isAs 31 = .ok (.iload_n 2, 1) := dk_28 (dk_at dksX6_isAs_1 7 rfl rfl)
theorem dX6_isAs_32 : decode cX6_isAs 32 = .ok (.iadd, 1) := dk_96 (dk_at dksX6_isAs_1 8 rfl rfl)
theorem dX6_isAs_33 : decode cX6_isAs 33 = .ok (.iaload, 1) := dk_46 (dk_at dksX6_isAs_1 9 rfl rfl)
theorem dX6_isAs_34 : decode cX6_isAs 34 = .ok (.aload_n 0, 1) := dk_42 (dk_at dksX6_isAs_1 10 rfl rfl)
theorem dX6_isAs_35 : decode cX6_isAs 35 = .ok (.getfield 40, 3) := dk_180 0 40 (dk_at dksX6_isAs_1 11 rfl rfl)
theorem dX6_isAs_38 : decode cX6_isAs 38 = .ok (.iload_n 2, 1) := dk_28 (dk_at dksX6_isAs_1 14 rfl rfl)
theorem dX6_isAs_39 : decode cX6_isAs 39 = .ok (.iaload, 1) := dk_46 (dk_at dksX6_isAs_1 15 rfl rfl)
theorem dX6_isAs_40 : decode cX6_isAs 40 = .ok (.if_icmp .eq 5, 3) := dk_159 0 5 (dk_at dksX6_isAs_1 16 rfl rfl)
theorem dX6_isAs_43 : decode cX6_isAs 43 = .ok (.iconst 0, 1) := dk_3 (dk_at dksX6_isAs_1 19 rfl rfl)
theorem dX6_isAs_44 : decode cX6_isAs 44 = .ok (.ireturn, 1) := dk_172 (dk_at dksX6_isAs_1 20 rfl rfl)
theorem dX6_isAs_45 : decode cX6_isAs 45 = .ok (.iinc 2 1, 3) := dk_132 2 1 (dk_at dksX6_isAs_1 21 rfl rfl)
theorem dX6_isAs_48 : decode cX6_isAs 48 = .ok (.goto (-46), 3) := dk_167 255 210 (dk_at dksX6_isAs_2 0 rfl rfl)
theorem dX6_isAs_51 : decode cX6_isAs 51 = .ok (.iconst 1, 1) := dk_4 (dk_at dksX6_isAs_2 3 rfl rfl)
theorem dX6_isAs_52 : decode cX6_isAs 52 = .ok (.ireturn, 1) := dk_172 (dk_at dksX6_isAs_2 4 rfl rfl)
abbrev cX6_often : ByteArray := prog_25_method_58_code
def yX6_often : MethodName := ⟨RX6, "often", "(III)I"⟩
def dkwX6_often_3 : List UInt8 := [182, 1, 59, 153, 0, 6, 21, 4, 172, 132, 4, 255, 167, 255, 226, 16, 254, 172]
abbrev dktX6_often_3 : List UInt8 := dkwX6_often_3 ++ []
def dkwX6_often_2 : List UInt8 := [16, 12, 54, 4, 21, 4, 4, 161, 0, 30, 42, 28, 16, 10, 108, 28, 16, 10, 112, 21, 4, 29]
abbrev dktX6_often_2 : List UInt8 := dkwX6_often_2 ++ dktX6_often_3
def dkwX6_often_1 : List UInt8 := [154, 0, 5, 2, 172, 42, 27, 182, 1, 32, 156, 0, 9, 42, 27, 182, 1, 32, 172, 42, 27, 182, 1, 35]
abbrev dktX6_often_1 : List UInt8 := dkwX6_often_1 ++ dktX6_often_2
def dkwX6_often_0 : List UInt8 := [27, 184, 0, 163, 153, 0, 21, 42, 28, 182, 0, 186, 153, 0, 13, 29, 3, 16, 99, 184, 0, 145]
abbrev dktX6_often_0 : List UInt8 := dkwX6_often_0 ++ dktX6_often_1
theorem dksX6_often_0 : cX6_often.data.toList.drop 0 = dktX6_often_0 := by decide +kernel
theorem dksX6_often_1 : cX6_often.data.toList.drop 22 = dktX6_often_1 := dk_seg dksX6_often_0 22 rfl rfl
theorem dksX6_often_2 : cX6_often.data.toList.drop 46 = dktX6_often_2 := dk_seg dksX6_often_1 24 rfl rfl
theorem dksX6_often_3 : cX6_often.data.toList.drop 68 = dktX6_often_3 := dk_seg dksX6_often_2 22 rfl rfl
theorem dX6_often_0 : decode cX6_often 0 = .ok (.iload_n 1, 1) := dk_27 (dk_at dksX6_often_0 0 rfl rfl)
theorem dX6_often_1 : decode cX6_often 1 = .ok (.invokestatic 163, 3) := dk_184 0 163 (dk_at dksX6_often_0 1 rfl rfl)
theorem dX6_often_4 : decode cX6_often 4 = .ok (.ifCond .eq 21, 3) := dk_153 0 21 (dk_at dksX6_often_0 4 rfl rfl)
theorem dX6_often_7 : decode cX6_often 7 = .ok (.aload_n 0, 1) := dk_42 (dk_at dksX6_often_0 7 rfl rfl)
theorem dX6_often_8 : decode cX6_often 8 = .ok (.iload_n 2, 1) := dk_28 (dk_at dksX6_often_0 8 rfl rfl)
theorem dX6_often_9 : decode cX6_often 9 = .ok (.invokevirtual 186, 3) := dk_182 0 186 (dk_at dksX6_often_0 9 rfl rfl)
theorem dX6_often_12 : decode cX6_often 12 = .ok (.ifCond .eq 13, 3) := dk_153 0 13 (dk_at dksX6_often_0 12 rfl rfl)
theorem dX6_often_15 : decode cX6_often 15 = .ok (.iload_n 3, 1) := dk_29 (dk_at dksX6_often_0 15 rfl rfl)
theorem dX6_often_16 : decode cX6_often 16 = .ok (.iconst 0, 1) := dk_3 (dk_at dksX6_often_0 16 rfl rfl)
theorem dX6_often_17 : decode cX6_often 17 = .ok (.bipush 99, 2) := dk_16 99 (dk_at dksX6_often_0 17 rfl rfl)
theorem dX6_often_19 : decode cX6_often 19 = .ok (.invokestatic 145, 3) := dk_184 0 145 (dk_at dksX6_often_0 19 rfl rfl)
theorem dX6_often_22 : decode cX6_often 22 = .ok (.ifCond .ne 5, 3) := dk_154 0 5 (dk_at dksX6_often_1 0 rfl rfl)
theorem dX6_often_25 : decode cX6_often 25 = .ok (.iconst (-1), 1) := dk_2 (dk_at dksX6_often_1 3 rfl rfl)
theorem dX6_often_26 : decode cX6_often 26 = .ok (.ireturn, 1) := dk_172 (dk_at dksX6_often_1 4 rfl rfl)
theorem dX6_often_27 : decode cX6_often 27 = .ok (.aload_n 0, 1) := dk_42 (dk_at dksX6_often_1 5 rfl rfl)
theorem dX6_often_28 : decode cX6_often 28 = .ok (.iload_n 1, 1) := dk_27 (dk_at dksX6_often_1 6 rfl rfl)
theorem dX6_often_29 : decode cX6_often 29 = .ok (.invokevirtual 288, 3) := dk_182 1 32 (dk_at dksX6_often_1 7 rfl rfl)
theorem dX6_often_32 : decode cX6_often 32 = .ok (.ifCond .ge 9, 3) := dk_156 0 9 (dk_at dksX6_often_1 10 rfl rfl)
theorem dX6_often_35 : decode cX6_often 35 = .ok (.aload_n 0, 1) := dk_42 (dk_at dksX6_often_1 13 rfl rfl)
theorem dX6_often_36 : decode cX6_often 36 = .ok (.iload_n 1, 1) := dk_27 (dk_at dksX6_often_1 14 rfl rfl)
theorem dX6_often_37 : decode cX6_often 37 = .ok (.invokevirtual 288, 3) := dk_182 1 32 (dk_at dksX6_often_1 15 rfl rfl)
theorem dX6_often_40 : decode cX6_often 40 = .ok (.ireturn, 1) := dk_172 (dk_at dksX6_often_1 18 rfl rfl)
theorem dX6_often_41 : decode cX6_often 41 = .ok (.aload_n 0, 1) := dk_42 (dk_at dksX6_often_1 19 rfl rfl)
theorem dX6_often_42 : decode cX6_often 42 = .ok (.iload_n 1, 1) := dk_27 (dk_at dksX6_often_1 20 rfl rfl)
theorem dX6_often_43 : decode cX6_often 43 = .ok (.invokevirtual 291, 3) := dk_182 1 35 (dk_at dksX6_often_1 21 rfl rfl)
theorem dX6_often_46 : decode cX6_often 46 = .ok (.bipush 12, 2) := dk_16 12 (dk_at dksX6_often_2 0 rfl rfl)
theorem dX6_often_48 : decode cX6_often 48 = .ok (.istore 4, 2) := dk_54 4 (dk_at dksX6_often_2 2 rfl rfl)
theorem dX6_often_50 : decode cX6_often 50 = .ok (.iload 4, 2) := dk_21 4 (dk_at dksX6_often_2 4 rfl rfl)
theorem dX6_often_52 : decode cX6_often 52 = .ok (.iconst 1, 1) := dk_4 (dk_at dksX6_often_2 6 rfl rfl)
theorem dX6_often_53 : decode cX6_often 53 = .ok (.if_icmp .lt 30, 3) := dk_161 0 30 (dk_at dksX6_often_2 7 rfl rfl)
theorem dX6_often_56 : decode cX6_often 56 = .ok (.aload_n 0, 1) := dk_42 (dk_at dksX6_often_2 10 rfl rfl)
theorem dX6_often_57 : decode cX6_often 57 = .ok (.iload_n 2, 1) := dk_28 (dk_at dksX6_often_2 11 rfl rfl)
theorem dX6_often_58 : decode cX6_often 58 = .ok (.bipush 10, 2) := dk_16 10 (dk_at dksX6_often_2 12 rfl rfl)
theorem dX6_often_60 : decode cX6_often 60 = .ok (.idiv, 1) := dk_108 (dk_at dksX6_often_2 14 rfl rfl)
theorem dX6_often_61 : decode cX6_often 61 = .ok (.iload_n 2, 1) := dk_28 (dk_at dksX6_often_2 15 rfl rfl)
theorem dX6_often_62 : decode cX6_often 62 = .ok (.bipush 10, 2) := dk_16 10 (dk_at dksX6_often_2 16 rfl rfl)
theorem dX6_often_64 : decode cX6_often 64 = .ok (.irem, 1) := dk_112 (dk_at dksX6_often_2 18 rfl rfl)
theorem dX6_often_65 : decode cX6_often 65 = .ok (.iload 4, 2) := dk_21 4 (dk_at dksX6_often_2 19 rfl rfl)
theorem dX6_often_67 : decode cX6_often 67 = .ok (.iload_n 3, 1) := dk_29 (dk_at dksX6_often_2 21 rfl rfl)
theorem dX6_often_68 : decode cX6_often 68 = .ok (.invokevirtual 315, 3) := dk_182 1 59 (dk_at dksX6_often_3 0 rfl rfl)
theorem dX6_often_71 : decode cX6_often 71 = .ok (.ifCond .eq 6, 3) := dk_153 0 6 (dk_at dksX6_often_3 3 rfl rfl)
theorem dX6_often_74 : decode cX6_often 74 = .ok (.iload 4, 2) := dk_21 4 (dk_at dksX6_often_3 6 rfl rfl)
theorem dX6_often_76 : decode cX6_often 76 = .ok (.ireturn, 1) := dk_172 (dk_at dksX6_often_3 8 rfl rfl)
theorem dX6_often_77 : decode cX6_often 77 = .ok (.iinc 4 (-1), 3) := dk_132 4 255 (dk_at dksX6_often_3 9 rfl rfl)
theorem dX6_often_80 : decode cX6_often 80 = .ok (.goto (-30), 3) := dk_167 255 226 (dk_at dksX6_often_3 12 rfl rfl)
theorem dX6_often_83 : decode cX6_often 83 = .ok (.bipush (-2), 2) := dk_16 254 (dk_at dksX6_often_3 15 rfl rfl)
theorem dX6_often_85 : decode cX6_often 85 = .ok (.ireturn, 1) := dk_172 (dk_at dksX6_often_3 17 rfl rfl)
abbrev cX6_holds60 : ByteArray := prog_25_method_57_code
def yX6_holds60 : MethodName := ⟨RX6, "holds60", "(IIII)Z"⟩
def dkwX6_holds60_3 : List UInt8 := [132, 8, 1, 167, 255, 199, 42, 182, 1, 44, 21, 7, 172]
abbrev dktX6_holds60_3 : List UInt8 := dkwX6_holds60_3 ++ []
def dkwX6_holds60_2 : List UInt8 := [182, 1, 41, 132, 5, 1, 132, 6, 1, 42, 180, 0, 40, 28, 46, 21, 4, 162, 0, 6, 3, 54, 7]
abbrev dktX6_holds60_2 : List UInt8 := dkwX6_holds60_2 ++ dktX6_holds60_3
def dkwX6_holds60_1 : List UInt8 := [21, 6, 29, 160, 0, 14, 42, 27, 182, 1, 41, 3, 54, 6, 167, 0, 19, 42, 42, 21, 5, 182, 1, 56]
abbrev dktX6_holds60_1 : List UInt8 := dkwX6_holds60_1 ++ dktX6_holds60_2
def dkwX6_holds60_0 : List UInt8 := [42, 182, 1, 38, 3, 54, 5, 3, 54, 6, 4, 54, 7, 3, 54, 8, 21, 8, 16, 60, 162, 0, 56]
abbrev dktX6_holds60_0 : List UInt8 := dkwX6_holds60_0 ++ dktX6_holds60_1
theorem dksX6_holds60_0 : cX6_holds60.data.toList.drop 0 = dktX6_holds60_0 := by decide +kernel
theorem dksX6_holds60_1 : cX6_holds60.data.toList.drop 23 = dktX6_holds60_1 := dk_seg dksX6_holds60_0 23 rfl rfl
theorem dksX6_holds60_2 : cX6_holds60.data.toList.drop 47 = dktX6_holds60_2 := dk_seg dksX6_holds60_1 24 rfl rfl
theorem dksX6_holds60_3 : cX6_holds60.data.toList.drop 70 = dktX6_holds60_3 := dk_seg dksX6_holds60_2 23 rfl rfl
theorem dX6_holds60_0 : decode cX6_holds60 0 = .ok (.aload_n 0, 1) := dk_42 (dk_at dksX6_holds60_0 0 rfl rfl)
theorem dX6_holds60_1 : decode cX6_holds60 1 = .ok (.invokevirtual 294, 3) := dk_182 1 38 (dk_at dksX6_holds60_0 1 rfl rfl)
theorem dX6_holds60_4 : decode cX6_holds60 4 = .ok (.iconst 0, 1) := dk_3 (dk_at dksX6_holds60_0 4 rfl rfl)
theorem dX6_holds60_5 : decode cX6_holds60 5 = .ok (.istore 5, 2) := dk_54 5 (dk_at dksX6_holds60_0 5 rfl rfl)
theorem dX6_holds60_7 : decode cX6_holds60 7 = .ok (.iconst 0, 1) := dk_3 (dk_at dksX6_holds60_0 7 rfl rfl)
theorem dX6_holds60_8 : decode cX6_holds60 8 = .ok (.istore 6, 2) := dk_54 6 (dk_at dksX6_holds60_0 8 rfl rfl)
theorem dX6_holds60_10 : decode cX6_holds60 10 = .ok (.iconst 1, 1) := dk_4 (dk_at dksX6_holds60_0 10 rfl rfl)
theorem dX6_holds60_11 : decode cX6_holds60 11 = .ok (.istore 7, 2) := dk_54 7 (dk_at dksX6_holds60_0 11 rfl rfl)
theorem dX6_holds60_13 : decode cX6_holds60 13 = .ok (.iconst 0, 1) := dk_3 (dk_at dksX6_holds60_0 13 rfl rfl)
theorem dX6_holds60_14 : decode cX6_holds60 14 = .ok (.istore 8, 2) := dk_54 8 (dk_at dksX6_holds60_0 14 rfl rfl)
theorem dX6_holds60_16 : decode cX6_holds60 16 = .ok (.iload 8, 2) := dk_21 8 (dk_at dksX6_holds60_0 16 rfl rfl)
theorem dX6_holds60_18 : decode cX6_holds60 18 = .ok (.bipush 60, 2) := dk_16 60 (dk_at dksX6_holds60_0 18 rfl rfl)
theorem dX6_holds60_20 : decode cX6_holds60 20 = .ok (.if_icmp .ge 56, 3) := dk_162 0 56 (dk_at dksX6_holds60_0 20 rfl rfl)
theorem dX6_holds60_23 : decode cX6_holds60 23 = .ok (.iload 6, 2) := dk_21 6 (dk_at dksX6_holds60_1 0 rfl rfl)
theorem dX6_holds60_25 : decode cX6_holds60 25 = .ok (.iload_n 3, 1) := dk_29 (dk_at dksX6_holds60_1 2 rfl rfl)
theorem dX6_holds60_26 : decode cX6_holds60 26 = .ok (.if_icmp .ne 14, 3) := dk_160 0 14 (dk_at dksX6_holds60_1 3 rfl rfl)
theorem dX6_holds60_29 : decode cX6_holds60 29 = .ok (.aload_n 0, 1) := dk_42 (dk_at dksX6_holds60_1 6 rfl rfl)
theorem dX6_holds60_30 : decode cX6_holds60 30 = .ok (.iload_n 1, 1) := dk_27 (dk_at dksX6_holds60_1 7 rfl rfl)
theorem dX6_holds60_31 : decode cX6_holds60 31 = .ok (.invokevirtual 297, 3) := dk_182 1 41 (dk_at dksX6_holds60_1 8 rfl rfl)
theorem dX6_holds60_34 : decode cX6_holds60 34 = .ok (.iconst 0, 1) := dk_3 (dk_at dksX6_holds60_1 11 rfl rfl)
theorem dX6_holds60_35 : decode cX6_holds60 35 = .ok (.istore 6, 2) := dk_54 6 (dk_at dksX6_holds60_1 12 rfl rfl)
theorem dX6_holds60_37 : decode cX6_holds60 37 = .ok (.goto 19, 3) := dk_167 0 19 (dk_at dksX6_holds60_1 14 rfl rfl)
theorem dX6_holds60_40 : decode cX6_holds60 40 = .ok (.aload_n 0, 1) := dk_42 (dk_at dksX6_holds60_1 17 rfl rfl)
theorem dX6_holds60_41 : decode cX6_holds60 41 = .ok (.aload_n 0, 1) := dk_42 (dk_at dksX6_holds60_1 18 rfl rfl)
theorem dX6_holds60_42 : decode cX6_holds60 42 = .ok (.iload 5, 2) := dk_21 5 (dk_at dksX6_holds60_1 19 rfl rfl)
theorem dX6_holds60_44 : decode cX6_holds60 44 = .ok (.invokevirtual 312, 3) := dk_182 1 56 (dk_at dksX6_holds60_1 21 rfl rfl)
theorem dX6_holds60_47 : decode cX6_holds60 47 = .ok (.invokevirtual 297, 3) := dk_182 1 41 (dk_at dksX6_holds60_2 0 rfl rfl)
theorem dX6_holds60_50 : decode cX6_holds60 50 = .ok (.iinc 5 1, 3) := dk_132 5 1 (dk_at dksX6_holds60_2 3 rfl rfl)
theorem dX6_holds60_53 : decode cX6_holds60 53 = .ok (.iinc 6 1, 3) := dk_132 6 1 (dk_at dksX6_holds60_2 6 rfl rfl)
theorem dX6_holds60_56 : decode cX6_holds60 56 = .ok (.aload_n 0, 1) := dk_42 (dk_at dksX6_holds60_2 9 rfl rfl)
theorem dX6_holds60_57 : decode cX6_holds60 57 = .ok (.getfield 40, 3) := dk_180 0 40 (dk_at dksX6_holds60_2 10 rfl rfl)
theorem dX6_holds60_60 : decode cX6_holds60 60 = .ok (.iload_n 2, 1) := dk_28 (dk_at dksX6_holds60_2 13 rfl rfl)
theorem dX6_holds60_61 : decode cX6_holds60 61 = .ok (.iaload, 1) := dk_46 (dk_at dksX6_holds60_2 14 rfl rfl)
theorem dX6_holds60_62 : decode cX6_holds60 62 = .ok (.iload 4, 2) := dk_21 4 (dk_at dksX6_holds60_2 15 rfl rfl)
theorem dX6_holds60_64 : decode cX6_holds60 64 = .ok (.if_icmp .ge 6, 3) := dk_162 0 6 (dk_at dksX6_holds60_2 17 rfl rfl)
theorem dX6_holds60_67 : decode cX6_holds60 67 = .ok (.iconst 0, 1) := dk_3 (dk_at dksX6_holds60_2 20 rfl rfl)
theorem dX6_holds60_68 : decode cX6_holds60 68 = .ok (.istore 7, 2) := dk_54 7 (dk_at dksX6_holds60_2 21 rfl rfl)
theorem dX6_holds60_70 : decode cX6_holds60 70 = .ok (.iinc 8 1, 3) := dk_132 8 1 (dk_at dksX6_holds60_3 0 rfl rfl)
theorem dX6_holds60_73 : decode cX6_holds60 73 = .ok (.goto (-57), 3) := dk_167 255 199 (dk_at dksX6_holds60_3 3 rfl rfl)
theorem dX6_holds60_76 : decode cX6_holds60 76 = .ok (.aload_n 0, 1) := dk_42 (dk_at dksX6_holds60_3 6 rfl rfl)
theorem dX6_holds60_77 : decode cX6_holds60 77 = .ok (.invokevirtual 300, 3) := dk_182 1 44 (dk_at dksX6_holds60_3 7 rfl rfl)
theorem dX6_holds60_80 : decode cX6_holds60 80 = .ok (.iload 7, 2) := dk_21 7 (dk_at dksX6_holds60_3 10 rfl rfl)
theorem dX6_holds60_82 : decode cX6_holds60 82 = .ok (.ireturn, 1) := dk_172 (dk_at dksX6_holds60_3 12 rfl rfl)
abbrev cX6_againAt : ByteArray := prog_25_method_56_code
def yX6_againAt : MethodName := ⟨RX6, "againAt", "(I)I"⟩
def dkwX6_againAt_0 : List UInt8 := [42, 180, 1, 29, 154, 0, 7, 2, 167, 0, 14, 42, 180, 0, 90, 27, 42, 180, 1, 29, 112, 46, 172]
abbrev dktX6_againAt_0 : List UInt8 := dkwX6_againAt_0 ++ []
theorem dksX6_againAt_0 : cX6_againAt.data.toList.drop 0 = dktX6_againAt_0 := by decide +kernel
theorem dX6_againAt_0 : decode cX6_againAt 0 = .ok (.aload_n 0, 1) := dk_42 (dk_at dksX6_againAt_0 0 rfl rfl)
theorem dX6_againAt_1 : decode cX6_againAt 1 = .ok (.getfield 285, 3) := dk_180 1 29 (dk_at dksX6_againAt_0 1 rfl rfl)
theorem dX6_againAt_4 : decode cX6_againAt 4 = .ok (.ifCond .ne 7, 3) := dk_154 0 7 (dk_at dksX6_againAt_0 4 rfl rfl)
theorem dX6_againAt_7 : decode cX6_againAt 7 = .ok (.iconst (-1), 1) := dk_2 (dk_at dksX6_againAt_0 7 rfl rfl)
theorem dX6_againAt_8 : decode cX6_againAt 8 = .ok (.goto 14, 3) := dk_167 0 14 (dk_at dksX6_againAt_0 8 rfl rfl)
theorem dX6_againAt_11 : decode cX6_againAt 11 = .ok (.aload_n 0, 1) := dk_42 (dk_at dksX6_againAt_0 11 rfl rfl)
theorem dX6_againAt_12 : decode cX6_againAt 12 = .ok (.getfield 90, 3) := dk_180 0 90 (dk_at dksX6_againAt_0 12 rfl rfl)
theorem dX6_againAt_15 : decode cX6_againAt 15 = .ok (.iload_n 1, 1) := dk_27 (dk_at dksX6_againAt_0 15 rfl rfl)
theorem dX6_againAt_16 : decode cX6_againAt 16 = .ok (.aload_n 0, 1) := dk_42 (dk_at dksX6_againAt_0 16 rfl rfl)
theorem dX6_againAt_17 : decode cX6_againAt 17 = .ok (.getfield 285, 3) := dk_180 1 29 (dk_at dksX6_againAt_0 17 rfl rfl)
theorem dX6_againAt_20 : decode cX6_againAt 20 = .ok (.irem, 1) := dk_112 (dk_at dksX6_againAt_0 20 rfl rfl)
theorem dX6_againAt_21 : decode cX6_againAt 21 = .ok (.iaload, 1) := dk_46 (dk_at dksX6_againAt_0 21 rfl rfl)
theorem dX6_againAt_22 : decode cX6_againAt 22 = .ok (.ireturn, 1) := dk_172 (dk_at dksX6_againAt_0 22 rfl rfl)
abbrev cX6_warden : ByteArray := prog_25_method_60_code
def yX6_warden : MethodName := ⟨RX6, "warden", "(II)I"⟩
def dkwX6_warden_4 : List UInt8 := [160, 0, 8, 21, 4, 167, 0, 11, 42, 3, 182, 1, 64, 21, 4, 100, 172]
abbrev dktX6_warden_4 : List UInt8 := dkwX6_warden_4 ++ []
def dkwX6_warden_3 : List UInt8 := [21, 5, 62, 21, 6, 54, 4, 132, 5, 255, 167, 255, 222, 28, 154, 0, 7, 29, 167, 0, 21, 28, 4]
abbrev dktX6_warden_3 : List UInt8 := dkwX6_warden_3 ++ dktX6_warden_4
def dkwX6_warden_2 : List UInt8 := [21, 5, 4, 161, 0, 34, 42, 21, 5, 182, 1, 64, 54, 6, 21, 6, 21, 4, 161, 0, 6, 167, 0, 10]
abbrev dktX6_warden_2 : List UInt8 := dkwX6_warden_2 ++ dktX6_warden_3
def dkwX6_warden_1 : List UInt8 := [19, 1, 63, 172, 42, 27, 182, 1, 35, 16, 20, 62, 42, 16, 20, 182, 1, 64, 54, 4, 16, 19, 54, 5]
abbrev dktX6_warden_1 : List UInt8 := dkwX6_warden_1 ++ dktX6_warden_2
def dkwX6_warden_0 : List UInt8 := [27, 184, 0, 163, 153, 0, 20, 28, 3, 5, 184, 0, 145, 153, 0, 11, 42, 27, 182, 1, 32, 156, 0, 7]
abbrev dktX6_warden_0 : List UInt8 := dkwX6_warden_0 ++ dktX6_warden_1
theorem dksX6_warden_0 : cX6_warden.data.toList.drop 0 = dktX6_warden_0 := by decide +kernel
theorem dksX6_warden_1 : cX6_warden.data.toList.drop 24 = dktX6_warden_1 := dk_seg dksX6_warden_0 24 rfl rfl
theorem dksX6_warden_2 : cX6_warden.data.toList.drop 48 = dktX6_warden_2 := dk_seg dksX6_warden_1 24 rfl rfl
theorem dksX6_warden_3 : cX6_warden.data.toList.drop 72 = dktX6_warden_3 := dk_seg dksX6_warden_2 24 rfl rfl
theorem dksX6_warden_4 : cX6_warden.data.toList.drop 95 = dktX6_warden_4 := dk_seg dksX6_warden_3 23 rfl rfl
theorem dX6_warden_0 : decode cX6_warden 0 = .ok (.iload_n 1, 1) := dk_27 (dk_at dksX6_warden_0 0 rfl rfl)
theorem dX6_warden_1 : decode cX6_warden 1 = .ok (.invokestatic 163, 3) := dk_184 0 163 (dk_at dksX6_warden_0 1 rfl rfl)
theorem dX6_warden_4 : decode cX6_warden 4 = .ok (.ifCond .eq 20, 3) := dk_153 0 20 (dk_at dksX6_warden_0 4 rfl rfl)
theorem dX6_warden_7 : decode cX6_warden 7 = .ok (.iload_n 2, 1) := dk_28 (dk_at dksX6_warden_0 7 rfl rfl)
theorem dX6_warden_8 : decode cX6_warden 8 = .ok (.iconst 0, 1) := dk_3 (dk_at dksX6_warden_0 8 rfl rfl)
theorem dX6_warden_9 : decode cX6_warden 9 = .ok (.iconst 2, 1) := dk_5 (dk_at dksX6_warden_0 9 rfl rfl)
theorem dX6_warden_10 : decode cX6_warden 10 = .ok (.invokestatic 145, 3) := dk_184 0 145 (dk_at dksX6_warden_0 10 rfl rfl)
theorem dX6_warden_13 : decode cX6_warden 13 = .ok (.ifCond .eq 11, 3) := dk_153 0 11 (dk_at dksX6_warden_0 13 rfl rfl)
theorem dX6_warden_16 : decode cX6_warden 16 = .ok (.aload_n 0, 1) := dk_42 (dk_at dksX6_warden_0 16 rfl rfl)
theorem dX6_warden_17 : decode cX6_warden 17 = .ok (.iload_n 1, 1) := dk_27 (dk_at dksX6_warden_0 17 rfl rfl)
theorem dX6_warden_18 : decode cX6_warden 18 = .ok (.invokevirtual 288, 3) := dk_182 1 32 (dk_at dksX6_warden_0 18 rfl rfl)
theorem dX6_warden_21 : decode cX6_warden 21 = .ok (.ifCond .ge 7, 3) := dk_156 0 7 (dk_at dksX6_warden_0 21 rfl rfl)
theorem dX6_warden_24 : decode cX6_warden 24 = .ok (.ldc_w 319, 3) := dk_19 1 63 (dk_at dksX6_warden_1 0 rfl rfl)
theorem dX6_warden_27 : decode cX6_warden 27 = .ok (.ireturn, 1) := dk_172 (dk_at dksX6_warden_1 3 rfl rfl)
theorem dX6_warden_28 : decode cX6_warden 28 = .ok (.aload_n 0, 1) := dk_42 (dk_at dksX6_warden_1 4 rfl rfl)
theorem dX6_warden_29 : decode cX6_warden 29 = .ok (.iload_n 1, 1) := dk_27 (dk_at dksX6_warden_1 5 rfl rfl)
theorem dX6_warden_30 : decode cX6_warden 30 = .ok (.invokevirtual 291, 3) := dk_182 1 35 (dk_at dksX6_warden_1 6 rfl rfl)
theorem dX6_warden_33 : decode cX6_warden 33 = .ok (.bipush 20, 2) := dk_16 20 (dk_at dksX6_warden_1 9 rfl rfl)
theorem dX6_warden_35 : decode cX6_warden 35 = .ok (.istore_n 3, 1) := dk_62 (dk_at dksX6_warden_1 11 rfl rfl)
theorem dX6_warden_36 : decode cX6_warden 36 = .ok (.aload_n 0, 1) := dk_42 (dk_at dksX6_warden_1 12 rfl rfl)
theorem dX6_warden_37 : decode cX6_warden 37 = .ok (.bipush 20, 2) := dk_16 20 (dk_at dksX6_warden_1 13 rfl rfl)
theorem dX6_warden_39 : decode cX6_warden 39 = .ok (.invokevirtual 320, 3) := dk_182 1 64 (dk_at dksX6_warden_1 15 rfl rfl)
theorem dX6_warden_42 : decode cX6_warden 42 = .ok (.istore 4, 2) := dk_54 4 (dk_at dksX6_warden_1 18 rfl rfl)
theorem dX6_warden_44 : decode cX6_warden 44 = .ok (.bipush 19, 2) := dk_16 19 (dk_at dksX6_warden_1 20 rfl rfl)
theorem dX6_warden_46 : decode cX6_warden 46 = .ok (.istore 5, 2) := dk_54 5 (dk_at dksX6_warden_1 22 rfl rfl)
theorem dX6_warden_48 : decode cX6_warden 48 = .ok (.iload 5, 2) := dk_21 5 (dk_at dksX6_warden_2 0 rfl rfl)
theorem dX6_warden_50 : decode cX6_warden 50 = .ok (.iconst 1, 1) := dk_4 (dk_at dksX6_warden_2 2 rfl rfl)
theorem dX6_warden_51 : decode cX6_warden 51 = .ok (.if_icmp .lt 34, 3) := dk_161 0 34 (dk_at dksX6_warden_2 3 rfl rfl)
theorem dX6_warden_54 : decode cX6_warden 54 = .ok (.aload_n 0, 1) := dk_42 (dk_at dksX6_warden_2 6 rfl rfl)
theorem dX6_warden_55 : decode cX6_warden 55 = .ok (.iload 5, 2) := dk_21 5 (dk_at dksX6_warden_2 7 rfl rfl)
theorem dX6_warden_57 : decode cX6_warden 57 = .ok (.invokevirtual 320, 3) := dk_182 1 64 (dk_at dksX6_warden_2 9 rfl rfl)
theorem dX6_warden_60 : decode cX6_warden 60 = .ok (.istore 6, 2) := dk_54 6 (dk_at dksX6_warden_2 12 rfl rfl)
theorem dX6_warden_62 : decode cX6_warden 62 = .ok (.iload 6, 2) := dk_21 6 (dk_at dksX6_warden_2 14 rfl rfl)
theorem dX6_warden_64 : decode cX6_warden 64 = .ok (.iload 4, 2) := dk_21 4 (dk_at dksX6_warden_2 16 rfl rfl)
theorem dX6_warden_66 : decode cX6_warden 66 = .ok (.if_icmp .lt 6, 3) := dk_161 0 6 (dk_at dksX6_warden_2 18 rfl rfl)
theorem dX6_warden_69 : decode cX6_warden 69 = .ok (.goto 10, 3) := dk_167 0 10 (dk_at dksX6_warden_2 21 rfl rfl)
theorem dX6_warden_72 : decode cX6_warden 72 = .ok (.iload 5, 2) := dk_21 5 (dk_at dksX6_warden_3 0 rfl rfl)
theorem dX6_warden_74 : decode cX6_warden 74 = .ok (.istore_n 3, 1) := dk_62 (dk_at dksX6_warden_3 2 rfl rfl)
theorem dX6_warden_75 : decode cX6_warden 75 = .ok (.iload 6, 2) := dk_21 6 (dk_at dksX6_warden_3 3 rfl rfl)
theorem dX6_warden_77 : decode cX6_warden 77 = .ok (.istore 4, 2) := dk_54 4 (dk_at dksX6_warden_3 5 rfl rfl)
theorem dX6_warden_79 : decode cX6_warden 79 = .ok (.iinc 5 (-1), 3) := dk_132 5 255 (dk_at dksX6_warden_3 7 rfl rfl)
theorem dX6_warden_82 : decode cX6_warden 82 = .ok (.goto (-34), 3) := dk_167 255 222 (dk_at dksX6_warden_3 10 rfl rfl)
theorem dX6_warden_85 : decode cX6_warden 85 = .ok (.iload_n 2, 1) := dk_28 (dk_at dksX6_warden_3 13 rfl rfl)
theorem dX6_warden_86 : decode cX6_warden 86 = .ok (.ifCond .ne 7, 3) := dk_154 0 7 (dk_at dksX6_warden_3 14 rfl rfl)
theorem dX6_warden_89 : decode cX6_warden 89 = .ok (.iload_n 3, 1) := dk_29 (dk_at dksX6_warden_3 17 rfl rfl)
theorem dX6_warden_90 : decode cX6_warden 90 = .ok (.goto 21, 3) := dk_167 0 21 (dk_at dksX6_warden_3 18 rfl rfl)
theorem dX6_warden_93 : decode cX6_warden 93 = .ok (.iload_n 2, 1) := dk_28 (dk_at dksX6_warden_3 21 rfl rfl)
theorem dX6_warden_94 : decode cX6_warden 94 = .ok (.iconst 1, 1) := dk_4 (dk_at dksX6_warden_3 22 rfl rfl)
theorem dX6_warden_95 : decode cX6_warden 95 = .ok (.if_icmp .ne 8, 3) := dk_160 0 8 (dk_at dksX6_warden_4 0 rfl rfl)
theorem dX6_warden_98 : decode cX6_warden 98 = .ok (.iload 4, 2) := dk_21 4 (dk_at dksX6_warden_4 3 rfl rfl)
theorem dX6_warden_100 : decode cX6_warden 100 = .ok (.goto 11, 3) := dk_167 0 11 (dk_at dksX6_warden_4 5 rfl rfl)
theorem dX6_warden_103 : decode cX6_warden 103 = .ok (.aload_n 0, 1) := dk_42 (dk_at dksX6_warden_4 8 rfl rfl)
theorem dX6_warden_104 : decode cX6_warden 104 = .ok (.iconst 0, 1) := dk_3 (dk_at dksX6_warden_4 9 rfl rfl)
theorem dX6_warden_105 : decode cX6_warden 105 = .ok (.invokevirtual 320, 3) := dk_182 1 64 (dk_at dksX6_warden_4 10 rfl rfl)
theorem dX6_warden_108 : decode cX6_warden 108 = .ok (.iload 4, 2) := dk_21 4 (dk_at dksX6_warden_4 13 rfl rfl)
theorem dX6_warden_110 : decode cX6_warden 110 = .ok (.isub, 1) := dk_100 (dk_at dksX6_warden_4 15 rfl rfl)
theorem dX6_warden_111 : decode cX6_warden 111 = .ok (.ireturn, 1) := dk_172 (dk_at dksX6_warden_4 16 rfl rfl)
abbrev cX6_wardenCost : ByteArray := prog_25_method_59_code
def yX6_wardenCost : MethodName := ⟨RX6, "wardenCost", "(I)I"⟩
def dkwX6_wardenCost_3 : List UInt8 := [21, 4, 46, 79, 132, 4, 1, 167, 255, 233, 132, 3, 1, 167, 255, 180, 42, 182, 1, 44, 28, 172]
abbrev dktX6_wardenCost_3 : List UInt8 := dkwX6_wardenCost_3 ++ []
def dkwX6_wardenCost_2 : List UInt8 := [180, 0, 34, 96, 61, 3, 54, 4, 21, 4, 7, 162, 0, 23, 42, 180, 0, 40, 21, 4, 42, 180, 0, 9]
abbrev dktX6_wardenCost_2 : List UInt8 := dkwX6_wardenCost_2 ++ dktX6_wardenCost_3
def dkwX6_wardenCost_1 : List UInt8 := [42, 182, 1, 47, 96, 61, 27, 153, 0, 50, 29, 4, 96, 27, 112, 153, 0, 6, 167, 0, 39, 28, 42]
abbrev dktX6_wardenCost_1 : List UInt8 := dkwX6_wardenCost_1 ++ dktX6_wardenCost_2
def dkwX6_wardenCost_0 : List UInt8 := [42, 182, 1, 38, 3, 61, 3, 62, 29, 16, 60, 162, 0, 76, 42, 42, 29, 182, 1, 56, 182, 1, 41, 28]
abbrev dktX6_wardenCost_0 : List UInt8 := dkwX6_wardenCost_0 ++ dktX6_wardenCost_1
theorem dksX6_wardenCost_0 : cX6_wardenCost.data.toList.drop 0 = dktX6_wardenCost_0 := by decide +kernel
theorem dksX6_wardenCost_1 : cX6_wardenCost.data.toList.drop 24 = dktX6_wardenCost_1 := dk_seg dksX6_wardenCost_0 24 rfl rfl
theorem dksX6_wardenCost_2 : cX6_wardenCost.data.toList.drop 47 = dktX6_wardenCost_2 := dk_seg dksX6_wardenCost_1 23 rfl rfl
theorem dksX6_wardenCost_3 : cX6_wardenCost.data.toList.drop 71 = dktX6_wardenCost_3 := dk_seg dksX6_wardenCost_2 24 rfl rfl
theorem dX6_wardenCost_0 : decode cX6_wardenCost 0 = .ok (.aload_n 0, 1) := dk_42 (dk_at dksX6_wardenCost_0 0 rfl rfl)
theorem dX6_wardenCost_1 : decode cX6_wardenCost 1 = .ok (.invokevirtual 294, 3) := dk_182 1 38 (dk_at dksX6_wardenCost_0 1 rfl rfl)
theorem dX6_wardenCost_4 : decode cX6_wardenCost 4 = .ok (.iconst 0, 1) := dk_3 (dk_at dksX6_wardenCost_0 4 rfl rfl)
theorem dX6_wardenCost_5 : decode cX6_wardenCost 5 = .ok (.istore_n 2, 1) := dk_61 (dk_at dksX6_wardenCost_0 5 rfl rfl)
theorem dX6_wardenCost_6 : decode cX6_wardenCost 6 = .ok (.iconst 0, 1) := dk_3 (dk_at dksX6_wardenCost_0 6 rfl rfl)
theorem dX6_wardenCost_7 : decode cX6_wardenCost 7 = .ok (.istore_n 3, 1) := dk_62 (dk_at dksX6_wardenCost_0 7 rfl rfl)
theorem dX6_wardenCost_8 : decode cX6_wardenCost 8 = .ok (.iload_n 3, 1) := dk_29 (dk_at dksX6_wardenCost_0 8 rfl rfl)
theorem dX6_wardenCost_9 : decode cX6_wardenCost 9 = .ok (.bipush 60, 2) := dk_16 60 (dk_at dksX6_wardenCost_0 9 rfl rfl)
theorem dX6_wardenCost_11 : decode cX6_wardenCost 11 = .ok (.if_icmp .ge 76, 3) := dk_162 0 76 (dk_at dksX6_wardenCost_0 11 rfl rfl)
theorem dX6_wardenCost_14 : decode cX6_wardenCost 14 = .ok (.aload_n 0, 1) := dk_42 (dk_at dksX6_wardenCost_0 14 rfl rfl)
theorem dX6_wardenCost_15 : decode cX6_wardenCost 15 = .ok (.aload_n 0, 1) := dk_42 (dk_at dksX6_wardenCost_0 15 rfl rfl)
theorem dX6_wardenCost_16 : decode cX6_wardenCost 16 = .ok (.iload_n 3, 1) := dk_29 (dk_at dksX6_wardenCost_0 16 rfl rfl)
theorem dX6_wardenCost_17 : decode cX6_wardenCost 17 = .ok (.invokevirtual 312, 3) := dk_182 1 56 (dk_at dksX6_wardenCost_0 17 rfl rfl)
theorem dX6_wardenCost_20 : decode cX6_wardenCost 20 = .ok (.invokevirtual 297, 3) := dk_182 1 41 (dk_at dksX6_wardenCost_0 20 rfl rfl)
theorem dX6_wardenCost_23 : decode cX6_wardenCost 23 = .ok (.iload_n 2, 1) := dk_28 (dk_at dksX6_wardenCost_0 23 rfl rfl)
theorem dX6_wardenCost_24 : decode cX6_wardenCost 24 = .ok (.aload_n 0, 1) := dk_42 (dk_at dksX6_wardenCost_1 0 rfl rfl)
theorem dX6_wardenCost_25 : decode cX6_wardenCost 25 = .ok (.invokevirtual 303, 3) := dk_182 1 47 (dk_at dksX6_wardenCost_1 1 rfl rfl)
theorem dX6_wardenCost_28 : decode cX6_wardenCost 28 = .ok (.iadd, 1) := dk_96 (dk_at dksX6_wardenCost_1 4 rfl rfl)
theorem dX6_wardenCost_29 : decode cX6_wardenCost 29 = .ok (.istore_n 2, 1) := dk_61 (dk_at dksX6_wardenCost_1 5 rfl rfl)
theorem dX6_wardenCost_30 : decode cX6_wardenCost 30 = .ok (.iload_n 1, 1) := dk_27 (dk_at dksX6_wardenCost_1 6 rfl rfl)
theorem dX6_wardenCost_31 : decode cX6_wardenCost 31 = .ok (.ifCond .eq 50, 3) := dk_153 0 50 (dk_at dksX6_wardenCost_1 7 rfl rfl)
theorem dX6_wardenCost_34 : decode cX6_wardenCost 34 = .ok (.iload_n 3, 1) := dk_29 (dk_at dksX6_wardenCost_1 10 rfl rfl)
theorem dX6_wardenCost_35 : decode cX6_wardenCost 35 = .ok (.iconst 1, 1) := dk_4 (dk_at dksX6_wardenCost_1 11 rfl rfl)
theorem dX6_wardenCost_36 : decode cX6_wardenCost 36 = .ok (.iadd, 1) := dk_96 (dk_at dksX6_wardenCost_1 12 rfl rfl)
theorem dX6_wardenCost_37 : decode cX6_wardenCost 37 = .ok (.iload_n 1, 1) := dk_27 (dk_at dksX6_wardenCost_1 13 rfl rfl)
theorem dX6_wardenCost_38 : decode cX6_wardenCost 38 = .ok (.irem, 1) := dk_112 (dk_at dksX6_wardenCost_1 14 rfl rfl)
theorem dX6_wardenCost_39 : decode cX6_wardenCost 39 = .ok (.ifCond .eq 6, 3) := dk_153 0 6 (dk_at dksX6_wardenCost_1 15 rfl rfl)
theorem dX6_wardenCost_42 : decode cX6_wardenCost 42 = .ok (.goto 39, 3) := dk_167 0 39 (dk_at dksX6_wardenCost_1 18 rfl rfl)
theorem dX6_wardenCost_45 : decode cX6_wardenCost 45 = .ok (.iload_n 2, 1) := dk_28 (dk_at dksX6_wardenCost_1 21 rfl rfl)
theorem dX6_wardenCost_46 : decode cX6_wardenCost 46 = .ok (.aload_n 0, 1) := dk_42 (dk_at dksX6_wardenCost_1 22 rfl rfl)
theorem dX6_wardenCost_47 : decode cX6_wardenCost 47 = .ok (.getfield 34, 3) := dk_180 0 34 (dk_at dksX6_wardenCost_2 0 rfl rfl)
theorem dX6_wardenCost_50 : decode cX6_wardenCost 50 = .ok (.iadd, 1) := dk_96 (dk_at dksX6_wardenCost_2 3 rfl rfl)
theorem dX6_wardenCost_51 : decode cX6_wardenCost 51 = .ok (.istore_n 2, 1) := dk_61 (dk_at dksX6_wardenCost_2 4 rfl rfl)
theorem dX6_wardenCost_52 : decode cX6_wardenCost 52 = .ok (.iconst 0, 1) := dk_3 (dk_at dksX6_wardenCost_2 5 rfl rfl)
theorem dX6_wardenCost_53 : decode cX6_wardenCost 53 = .ok (.istore 4, 2) := dk_54 4 (dk_at dksX6_wardenCost_2 6 rfl rfl)
theorem dX6_wardenCost_55 : decode cX6_wardenCost 55 = .ok (.iload 4, 2) := dk_21 4 (dk_at dksX6_wardenCost_2 8 rfl rfl)
theorem dX6_wardenCost_57 : decode cX6_wardenCost 57 = .ok (.iconst 4, 1) := dk_7 (dk_at dksX6_wardenCost_2 10 rfl rfl)
theorem dX6_wardenCost_58 : decode cX6_wardenCost 58 = .ok (.if_icmp .ge 23, 3) := dk_162 0 23 (dk_at dksX6_wardenCost_2 11 rfl rfl)
theorem dX6_wardenCost_61 : decode cX6_wardenCost 61 = .ok (.aload_n 0, 1) := dk_42 (dk_at dksX6_wardenCost_2 14 rfl rfl)
theorem dX6_wardenCost_62 : decode cX6_wardenCost 62 = .ok (.getfield 40, 3) := dk_180 0 40 (dk_at dksX6_wardenCost_2 15 rfl rfl)
theorem dX6_wardenCost_65 : decode cX6_wardenCost 65 = .ok (.iload 4, 2) := dk_21 4 (dk_at dksX6_wardenCost_2 18 rfl rfl)
theorem dX6_wardenCost_67 : decode cX6_wardenCost 67 = .ok (.aload_n 0, 1) := dk_42 (dk_at dksX6_wardenCost_2 20 rfl rfl)
theorem dX6_wardenCost_68 : decode cX6_wardenCost 68 = .ok (.getfield 9, 3) := dk_180 0 9 (dk_at dksX6_wardenCost_2 21 rfl rfl)
theorem dX6_wardenCost_71 : decode cX6_wardenCost 71 = .ok (.iload 4, 2) := dk_21 4 (dk_at dksX6_wardenCost_3 0 rfl rfl)
theorem dX6_wardenCost_73 : decode cX6_wardenCost 73 = .ok (.iaload, 1) := dk_46 (dk_at dksX6_wardenCost_3 2 rfl rfl)
theorem dX6_wardenCost_74 : decode cX6_wardenCost 74 = .ok (.iastore, 1) := dk_79 (dk_at dksX6_wardenCost_3 3 rfl rfl)
theorem dX6_wardenCost_75 : decode cX6_wardenCost 75 = .ok (.iinc 4 1, 3) := dk_132 4 1 (dk_at dksX6_wardenCost_3 4 rfl rfl)
theorem dX6_wardenCost_78 : decode cX6_wardenCost 78 = .ok (.goto (-23), 3) := dk_167 255 233 (dk_at dksX6_wardenCost_3 7 rfl rfl)
theorem dX6_wardenCost_81 : decode cX6_wardenCost 81 = .ok (.iinc 3 1, 3) := dk_132 3 1 (dk_at dksX6_wardenCost_3 10 rfl rfl)
theorem dX6_wardenCost_84 : decode cX6_wardenCost 84 = .ok (.goto (-76), 3) := dk_167 255 180 (dk_at dksX6_wardenCost_3 13 rfl rfl)
theorem dX6_wardenCost_87 : decode cX6_wardenCost 87 = .ok (.aload_n 0, 1) := dk_42 (dk_at dksX6_wardenCost_3 16 rfl rfl)
theorem dX6_wardenCost_88 : decode cX6_wardenCost 88 = .ok (.invokevirtual 300, 3) := dk_182 1 44 (dk_at dksX6_wardenCost_3 17 rfl rfl)
theorem dX6_wardenCost_91 : decode cX6_wardenCost 91 = .ok (.iload_n 2, 1) := dk_28 (dk_at dksX6_wardenCost_3 20 rfl rfl)
theorem dX6_wardenCost_92 : decode cX6_wardenCost 92 = .ok (.ireturn, 1) := dk_172 (dk_at dksX6_wardenCost_3 21 rfl rfl)
abbrev cX6_spoils : ByteArray := prog_25_method_62_code
def yX6_spoils : MethodName := ⟨RX6, "spoils", "(II)I"⟩
def dkwX6_spoils_8 : List UInt8 := [21, 4, 172]
abbrev dktX6_spoils_8 : List UInt8 := dkwX6_spoils_8 ++ []
def dkwX6_spoils_7 : List UInt8 := [54, 4, 132, 5, 1, 167, 255, 137, 29, 156, 0, 6, 16, 254, 172, 28, 154, 0, 7, 29, 167, 0, 5]
abbrev dktX6_spoils_7 : List UInt8 := dkwX6_spoils_7 ++ dktX6_spoils_8
def dkwX6_spoils_6 : List UInt8 := [21, 6, 153, 0, 24, 29, 155, 0, 13, 21, 7, 21, 4, 161, 0, 6, 167, 0, 10, 21, 5, 62, 21, 7]
abbrev dktX6_spoils_6 : List UInt8 := dkwX6_spoils_6 ++ dktX6_spoils_7
def dkwX6_spoils_5 : List UInt8 := [54, 6, 132, 7, 1, 167, 255, 199, 21, 6, 153, 0, 10, 42, 182, 1, 50, 167, 0, 4, 3, 54, 7]
abbrev dktX6_spoils_5 : List UInt8 := dkwX6_spoils_5 ++ dktX6_spoils_6
def dkwX6_spoils_4 : List UInt8 := [167, 0, 10, 42, 180, 0, 96, 21, 7, 46, 79, 42, 180, 0, 96, 21, 7, 46, 21, 5, 160, 0, 6, 4]
abbrev dktX6_spoils_4 : List UInt8 := dkwX6_spoils_4 ++ dktX6_spoils_5
def dkwX6_spoils_3 : List UInt8 := [162, 0, 54, 42, 180, 0, 90, 21, 7, 42, 180, 0, 96, 21, 7, 46, 21, 5, 160, 0, 7, 2]
abbrev dktX6_spoils_3 : List UInt8 := dkwX6_spoils_3 ++ dktX6_spoils_4
def dkwX6_spoils_2 : List UInt8 := [3, 54, 5, 21, 5, 42, 180, 0, 149, 162, 0, 116, 3, 54, 6, 3, 54, 7, 21, 7, 42, 180, 1, 29]
abbrev dktX6_spoils_2 : List UInt8 := dkwX6_spoils_2 ++ dktX6_spoils_3
def dkwX6_spoils_1 : List UInt8 := [156, 0, 9, 42, 27, 182, 1, 32, 172, 42, 27, 182, 1, 35, 42, 182, 1, 67, 16, 254, 62, 3, 54, 4]
abbrev dktX6_spoils_1 : List UInt8 := dkwX6_spoils_1 ++ dktX6_spoils_2
def dkwX6_spoils_0 : List UInt8 := [27, 184, 0, 163, 153, 0, 12, 28, 3, 4, 184, 0, 145, 154, 0, 5, 2, 172, 42, 27, 182, 1, 32]
abbrev dktX6_spoils_0 : List UInt8 := dkwX6_spoils_0 ++ dktX6_spoils_1
theorem dksX6_spoils_0 : cX6_spoils.data.toList.drop 0 = dktX6_spoils_0 := by decide +kernel
theorem dksX6_spoils_1 : cX6_spoils.data.toList.drop 23 = dktX6_spoils_1 := dk_seg dksX6_spoils_0 23 rfl rfl
theorem dksX6_spoils_2 : cX6_spoils.data.toList.drop 47 = dktX6_spoils_2 := dk_seg dksX6_spoils_1 24 rfl rfl
theorem dksX6_spoils_3 : cX6_spoils.data.toList.drop 71 = dktX6_spoils_3 := dk_seg dksX6_spoils_2 24 rfl rfl
theorem dksX6_spoils_4 : cX6_spoils.data.toList.drop 93 = dktX6_spoils_4 := dk_seg dksX6_spoils_3 22 rfl rfl
theorem dksX6_spoils_5 : cX6_spoils.data.toList.drop 117 = dktX6_spoils_5 := dk_seg dksX6_spoils_4 24 rfl rfl
theorem dksX6_spoils_6 : cX6_spoils.data.toList.drop 140 = dktX6_spoils_6 := dk_seg dksX6_spoils_5 23 rfl rfl
theorem dksX6_spoils_7 : cX6_spoils.data.toList.drop 164 = dktX6_spoils_7 := dk_seg dksX6_spoils_6 24 rfl rfl
theorem dksX6_spoils_8 : cX6_spoils.data.toList.drop 187 = dktX6_spoils_8 := dk_seg dksX6_spoils_7 23 rfl rfl
theorem dX6_spoils_0 : decode cX6_spoils 0 = .ok (.iload_n 1, 1) := dk_27 (dk_at dksX6_spoils_0 0 rfl rfl)
theorem dX6_spoils_1 : decode cX6_spoils 1 = .ok (.invokestatic 163, 3) := dk_184 0 163 (dk_at dksX6_spoils_0 1 rfl rfl)
theorem dX6_spoils_4 : decode cX6_spoils 4 = .ok (.ifCond .eq 12, 3) := dk_153 0 12 (dk_at dksX6_spoils_0 4 rfl rfl)
theorem dX6_spoils_7 : decode cX6_spoils 7 = .ok (.iload_n 2, 1) := dk_28 (dk_at dksX6_spoils_0 7 rfl rfl)
theorem dX6_spoils_8 : decode cX6_spoils 8 = .ok (.iconst 0, 1) := dk_3 (dk_at dksX6_spoils_0 8 rfl rfl)
theorem dX6_spoils_9 : decode cX6_spoils 9 = .ok (.iconst 1, 1) := dk_4 (dk_at dksX6_spoils_0 9 rfl rfl)
theorem dX6_spoils_10 : decode cX6_spoils 10 = .ok (.invokestatic 145, 3) := dk_184 0 145 (dk_at dksX6_spoils_0 10 rfl rfl)
theorem dX6_spoils_13 : decode cX6_spoils 13 = .ok (.ifCond .ne 5, 3) := dk_154 0 5 (dk_at dksX6_spoils_0 13 rfl rfl)
theorem dX6_spoils_16 : decode cX6_spoils 16 = .ok (.iconst (-1), 1) := dk_2 (dk_at dksX6_spoils_0 16 rfl rfl)
theorem dX6_spoils_17 : decode cX6_spoils 17 = .ok (.ireturn, 1) := dk_172 (dk_at dksX6_spoils_0 17 rfl rfl)
theorem dX6_spoils_18 : decode cX6_spoils 18 = .ok (.aload_n 0, 1) := dk_42 (dk_at dksX6_spoils_0 18 rfl rfl)
theorem dX6_spoils_19 : decode cX6_spoils 19 = .ok (.iload_n 1, 1) := dk_27 (dk_at dksX6_spoils_0 19 rfl rfl)
theorem dX6_spoils_20 : decode cX6_spoils 20 = .ok (.invokevirtual 288, 3) := dk_182 1 32 (dk_at dksX6_spoils_0 20 rfl rfl)
theorem dX6_spoils_23 : decode cX6_spoils 23 = .ok (.ifCond .ge 9, 3) := dk_156 0 9 (dk_at dksX6_spoils_1 0 rfl rfl)
theorem dX6_spoils_26 : decode cX6_spoils 26 = .ok (.aload_n 0, 1) := dk_42 (dk_at dksX6_spoils_1 3 rfl rfl)
theorem dX6_spoils_27 : decode cX6_spoils 27 = .ok (.iload_n 1, 1) := dk_27 (dk_at dksX6_spoils_1 4 rfl rfl)
theorem dX6_spoils_28 : decode cX6_spoils 28 = .ok (.invokevirtual 288, 3) := dk_182 1 32 (dk_at dksX6_spoils_1 5 rfl rfl)
theorem dX6_spoils_31 : decode cX6_spoils 31 = .ok (.ireturn, 1) := dk_172 (dk_at dksX6_spoils_1 8 rfl rfl)
theorem dX6_spoils_32 : decode cX6_spoils 32 = .ok (.aload_n 0, 1) := dk_42 (dk_at dksX6_spoils_1 9 rfl rfl)
theorem dX6_spoils_33 : decode cX6_spoils 33 = .ok (.iload_n 1, 1) := dk_27 (dk_at dksX6_spoils_1 10 rfl rfl)
theorem dX6_spoils_34 : decode cX6_spoils 34 = .ok (.invokevirtual 291, 3) := dk_182 1 35 (dk_at dksX6_spoils_1 11 rfl rfl)
theorem dX6_spoils_37 : decode cX6_spoils 37 = .ok (.aload_n 0, 1) := dk_42 (dk_at dksX6_spoils_1 14 rfl rfl)
theorem dX6_spoils_38 : decode cX6_spoils 38 = .ok (.invokevirtual 323, 3) := dk_182 1 67 (dk_at dksX6_spoils_1 15 rfl rfl)
theorem dX6_spoils_41 : decode cX6_spoils 41 = .ok (.bipush (-2), 2) := dk_16 254 (dk_at dksX6_spoils_1 18 rfl rfl)
theorem dX6_spoils_43 : decode cX6_spoils 43 = .ok (.istore_n 3, 1) := dk_62 (dk_at dksX6_spoils_1 20 rfl rfl)
theorem dX6_spoils_44 : decode cX6_spoils 44 = .ok (.iconst 0, 1) := dk_3 (dk_at dksX6_spoils_1 21 rfl rfl)
theorem dX6_spoils_45 : decode cX6_spoils 45 = .ok (.istore 4, 2) := dk_54 4 (dk_at dksX6_spoils_1 22 rfl rfl)
theorem dX6_spoils_47 : decode cX6_spoils 47 = .ok (.iconst 0, 1) := dk_3 (dk_at dksX6_spoils_2 0 rfl rfl)
theorem dX6_spoils_48 : decode cX6_spoils 48 = .ok (.istore 5, 2) := dk_54 5 (dk_at dksX6_spoils_2 1 rfl rfl)
theorem dX6_spoils_50 : decode cX6_spoils 50 = .ok (.iload 5, 2) := dk_21 5 (dk_at dksX6_spoils_2 3 rfl rfl)
theorem dX6_spoils_52 : decode cX6_spoils 52 = .ok (.aload_n 0, 1) := dk_42 (dk_at dksX6_spoils_2 5 rfl rfl)
theorem dX6_spoils_53 : decode cX6_spoils 53 = .ok (.getfield 149, 3) := dk_180 0 149 (dk_at dksX6_spoils_2 6 rfl rfl)
theorem dX6_spoils_56 : decode cX6_spoils 56 = .ok (.if_icmp .ge 116, 3) := dk_162 0 116 (dk_at dksX6_spoils_2 9 rfl rfl)
theorem dX6_spoils_59 : decode cX6_spoils 59 = .ok (.iconst 0, 1) := dk_3 (dk_at dksX6_spoils_2 12 rfl rfl)
theorem dX6_spoils_60 : decode cX6_spoils 60 = .ok (.istore 6, 2) := dk_54 6 (dk_at dksX6_spoils_2 13 rfl rfl)
theorem dX6_spoils_62 : decode cX6_spoils 62 = .ok (.iconst 0, 1) := dk_3 (dk_at dksX6_spoils_2 15 rfl rfl)
theorem dX6_spoils_63 : decode cX6_spoils 63 = .ok (.istore 7, 2) := dk_54 7 (dk_at dksX6_spoils_2 16 rfl rfl)
theorem dX6_spoils_65 : decode cX6_spoils 65 = .ok (.iload 7, 2) := dk_21 7 (dk_at dksX6_spoils_2 18 rfl rfl)
theorem dX6_spoils_67 : decode cX6_spoils 67 = .ok (.aload_n 0, 1) := dk_42 (dk_at dksX6_spoils_2 20 rfl rfl)
theorem dX6_spoils_68 : decode cX6_spoils 68 = .ok (.getfield 285, 3) := dk_180 1 29 (dk_at dksX6_spoils_2 21 rfl rfl)
theorem dX6_spoils_71 : decode cX6_spoils 71 = .ok (.if_icmp .ge 54, 3) := dk_162 0 54 (dk_at dksX6_spoils_3 0 rfl rfl)
theorem dX6_spoils_74 : decode cX6_spoils 74 = .ok (.aload_n 0, 1) := dk_42 (dk_at dksX6_spoils_3 3 rfl rfl)
theorem dX6_spoils_75 : decode cX6_spoils 75 = .ok (.getfield 90, 3) := dk_180 0 90 (dk_at dksX6_spoils_3 4 rfl rfl)
theorem dX6_spoils_78 : decode cX6_spoils 78 = .ok (.iload 7, 2) := dk_21 7 (dk_at dksX6_spoils_3 7 rfl rfl)
theorem dX6_spoils_80 : decode cX6_spoils 80 = .ok (.aload_n 0, 1) := dk_42 (dk_at dksX6_spoils_3 9 rfl rfl)
theorem dX6_spoils_81 : decode cX6_spoils 81 = .ok (.getfield 96, 3) := dk_180 0 96 (dk_at dksX6_spoils_3 10 rfl rfl)
theorem dX6_spoils_84 : decode cX6_spoils 84 = .ok (.iload 7, 2) := dk_21 7 (dk_at dksX6_spoils_3 13 rfl rfl)
theorem dX6_spoils_86 : decode cX6_spoils 86 = .ok (.iaload, 1) := dk_46 (dk_at dksX6_spoils_3 15 rfl rfl)
theorem dX6_spoils_87 : decode cX6_spoils 87 = .ok (.iload 5, 2) := dk_21 5 (dk_at dksX6_spoils_3 16 rfl rfl)
theorem dX6_spoils_89 : decode cX6_spoils 89 = .ok (.if_icmp .ne 7, 3) := dk_160 0 7 (dk_at dksX6_spoils_3 18 rfl rfl)
theorem dX6_spoils_92 : decode cX6_spoils 92 = .ok (.iconst (-1), 1) := dk_2 (dk_at dksX6_spoils_3 21 rfl rfl)
theorem dX6_spoils_93 : decode cX6_spoils 93 = .ok (.goto 10, 3) := dk_167 0 10 (dk_at dksX6_spoils_4 0 rfl rfl)
theorem dX6_spoils_96 : decode cX6_spoils 96 = .ok (.aload_n 0, 1) := dk_42 (dk_at dksX6_spoils_4 3 rfl rfl)
theorem dX6_spoils_97 : decode cX6_spoils 97 = .ok (.getfield 96, 3) := dk_180 0 96 (dk_at dksX6_spoils_4 4 rfl rfl)
theorem dX6_spoils_100 : decode cX6_spoils 100 = .ok (.iload 7, 2) := dk_21 7 (dk_at dksX6_spoils_4 7 rfl rfl)
theorem dX6_spoils_102 : decode cX6_spoils 102 = .ok (.iaload, 1) := dk_46 (dk_at dksX6_spoils_4 9 rfl rfl)
theorem dX6_spoils_103 : decode cX6_spoils 103 = .ok (.iastore, 1) := dk_79 (dk_at dksX6_spoils_4 10 rfl rfl)
theorem dX6_spoils_104 : decode cX6_spoils 104 = .ok (.aload_n 0, 1) := dk_42 (dk_at dksX6_spoils_4 11 rfl rfl)
theorem dX6_spoils_105 : decode cX6_spoils 105 = .ok (.getfield 96, 3) := dk_180 0 96 (dk_at dksX6_spoils_4 12 rfl rfl)
theorem dX6_spoils_108 : decode cX6_spoils 108 = .ok (.iload 7, 2) := dk_21 7 (dk_at dksX6_spoils_4 15 rfl rfl)
theorem dX6_spoils_110 : decode cX6_spoils 110 = .ok (.iaload, 1) := dk_46 (dk_at dksX6_spoils_4 17 rfl rfl)
theorem dX6_spoils_111 : decode cX6_spoils 111 = .ok (.iload 5, 2) := dk_21 5 (dk_at dksX6_spoils_4 18 rfl rfl)
theorem dX6_spoils_113 : decode cX6_spoils 113 = .ok (.if_icmp .ne 6, 3) := dk_160 0 6 (dk_at dksX6_spoils_4 20 rfl rfl)
theorem dX6_spoils_116 : decode cX6_spoils 116 = .ok (.iconst 1, 1) := dk_4 (dk_at dksX6_spoils_4 23 rfl rfl)
theorem dX6_spoils_117 : decode cX6_spoils 117 = .ok (.istore 6, 2) := dk_54 6 (dk_at dksX6_spoils_5 0 rfl rfl)
theorem dX6_spoils_119 : decode cX6_spoils 119 = .ok (.iinc 7 1, 3) := dk_132 7 1 (dk_at dksX6_spoils_5 2 rfl rfl)
theorem dX6_spoils_122 : decode cX6_spoils 122 = .ok (.goto (-57), 3) := dk_167 255 199 (dk_at dksX6_spoils_5 5 rfl rfl)
theorem dX6_spoils_125 : decode cX6_spoils 125 = .ok (.iload 6, 2) := dk_21 6 (dk_at dksX6_spoils_5 8 rfl rfl)
theorem dX6_spoils_127 : decode cX6_spoils 127 = .ok (.ifCond .eq 10, 3) := dk_153 0 10 (dk_at dksX6_spoils_5 10 rfl rfl)
theorem dX6_spoils_130 : decode cX6_spoils 130 = .ok (.aload_n 0, 1) := dk_42 (dk_at dksX6_spoils_5 13 rfl rfl)
theorem dX6_spoils_131 : decode cX6_spoils 131 = .ok (.invokevirtual 306, 3) := dk_182 1 50 (dk_at dksX6_spoils_5 14 rfl rfl)
theorem dX6_spoils_134 : decode cX6_spoils 134 = .ok (.goto 4, 3) := dk_167 0 4 (dk_at dksX6_spoils_5 17 rfl rfl)
theorem dX6_spoils_137 : decode cX6_spoils 137 = .ok (.iconst 0, 1) := dk_3 (dk_at dksX6_spoils_5 20 rfl rfl)
theorem dX6_spoils_138 : decode cX6_spoils 138 = .ok (.istore 7, 2) := dk_54 7 (dk_at dksX6_spoils_5 21 rfl rfl)
theorem dX6_spoils_140 : decode cX6_spoils 140 = .ok (.iload 6, 2) := dk_21 6 (dk_at dksX6_spoils_6 0 rfl rfl)
theorem dX6_spoils_142 : decode cX6_spoils 142 = .ok (.ifCond .eq 24, 3) := dk_153 0 24 (dk_at dksX6_spoils_6 2 rfl rfl)
theorem dX6_spoils_145 : decode cX6_spoils 145 = .ok (.iload_n 3, 1) := dk_29 (dk_at dksX6_spoils_6 5 rfl rfl)
theorem dX6_spoils_146 : decode cX6_spoils 146 = .ok (.ifCond .lt 13, 3) := dk_155 0 13 (dk_at dksX6_spoils_6 6 rfl rfl)
theorem dX6_spoils_149 : decode cX6_spoils 149 = .ok (.iload 7, 2) := dk_21 7 (dk_at dksX6_spoils_6 9 rfl rfl)
theorem dX6_spoils_151 : decode cX6_spoils 151 = .ok (.iload 4, 2) := dk_21 4 (dk_at dksX6_spoils_6 11 rfl rfl)
theorem dX6_spoils_153 : decode cX6_spoils 153 = .ok (.if_icmp .lt 6, 3) := dk_161 0 6 (dk_at dksX6_spoils_6 13 rfl rfl)
theorem dX6_spoils_156 : decode cX6_spoils 156 = .ok (.goto 10, 3) := dk_167 0 10 (dk_at dksX6_spoils_6 16 rfl rfl)
theorem dX6_spoils_159 : decode cX6_spoils 159 = .ok (.iload 5, 2) := dk_21 5 (dk_at dksX6_spoils_6 19 rfl rfl)
theorem dX6_spoils_161 : decode cX6_spoils 161 = .ok (.istore_n 3, 1) := dk_62 (dk_at dksX6_spoils_6 21 rfl rfl)
theorem dX6_spoils_162 : decode cX6_spoils 162 = .ok (.iload 7, 2) := dk_21 7 (dk_at dksX6_spoils_6 22 rfl rfl)
theorem dX6_spoils_164 : decode cX6_spoils 164 = .ok (.istore 4, 2) := dk_54 4 (dk_at dksX6_spoils_7 0 rfl rfl)
theorem dX6_spoils_166 : decode cX6_spoils 166 = .ok (.iinc 5 1, 3) := dk_132 5 1 (dk_at dksX6_spoils_7 2 rfl rfl)
theorem dX6_spoils_169 : decode cX6_spoils 169 = .ok (.goto (-119), 3) := dk_167 255 137 (dk_at dksX6_spoils_7 5 rfl rfl)
theorem dX6_spoils_172 : decode cX6_spoils 172 = .ok (.iload_n 3, 1) := dk_29 (dk_at dksX6_spoils_7 8 rfl rfl)
theorem dX6_spoils_173 : decode cX6_spoils 173 = .ok (.ifCond .ge 6, 3) := dk_156 0 6 (dk_at dksX6_spoils_7 9 rfl rfl)
theorem dX6_spoils_176 : decode cX6_spoils 176 = .ok (.bipush (-2), 2) := dk_16 254 (dk_at dksX6_spoils_7 12 rfl rfl)
theorem dX6_spoils_178 : decode cX6_spoils 178 = .ok (.ireturn, 1) := dk_172 (dk_at dksX6_spoils_7 14 rfl rfl)
theorem dX6_spoils_179 : decode cX6_spoils 179 = .ok (.iload_n 2, 1) := dk_28 (dk_at dksX6_spoils_7 15 rfl rfl)
theorem dX6_spoils_180 : decode cX6_spoils 180 = .ok (.ifCond .ne 7, 3) := dk_154 0 7 (dk_at dksX6_spoils_7 16 rfl rfl)
theorem dX6_spoils_183 : decode cX6_spoils 183 = .ok (.iload_n 3, 1) := dk_29 (dk_at dksX6_spoils_7 19 rfl rfl)
theorem dX6_spoils_184 : decode cX6_spoils 184 = .ok (.goto 5, 3) := dk_167 0 5 (dk_at dksX6_spoils_7 20 rfl rfl)
theorem dX6_spoils_187 : decode cX6_spoils 187 = .ok (.iload 4, 2) := dk_21 4 (dk_at dksX6_spoils_8 0 rfl rfl)
theorem dX6_spoils_189 : decode cX6_spoils 189 = .ok (.ireturn, 1) := dk_172 (dk_at dksX6_spoils_8 2 rfl rfl)
abbrev cX6_keepStays : ByteArray := prog_25_method_61_code
def yX6_keepStays : MethodName := ⟨RX6, "keepStays", "()V"⟩
def dkwX6_keepStays_1 : List UInt8 := [132, 1, 1, 167, 255, 233, 177]
abbrev dktX6_keepStays_1 : List UInt8 := dkwX6_keepStays_1 ++ []
def dkwX6_keepStays_0 : List UInt8 := [3, 60, 27, 42, 180, 1, 29, 162, 0, 21, 42, 180, 0, 96, 27, 42, 180, 0, 90, 27, 46, 79]
abbrev dktX6_keepStays_0 : List UInt8 := dkwX6_keepStays_0 ++ dktX6_keepStays_1
theorem dksX6_keepStays_0 : cX6_keepStays.data.toList.drop 0 = dktX6_keepStays_0 := by decide +kernel
theorem dksX6_keepStays_1 : cX6_keepStays.data.toList.drop 22 = dktX6_keepStays_1 := dk_seg dksX6_keepStays_0 22 rfl rfl
theorem dX6_keepStays_0 : decode cX6_keepStays 0 = .ok (.iconst 0, 1) := dk_3 (dk_at dksX6_keepStays_0 0 rfl rfl)
theorem dX6_keepStays_1 : decode cX6_keepStays 1 = .ok (.istore_n 1, 1) := dk_60 (dk_at dksX6_keepStays_0 1 rfl rfl)
theorem dX6_keepStays_2 : decode cX6_keepStays 2 = .ok (.iload_n 1, 1) := dk_27 (dk_at dksX6_keepStays_0 2 rfl rfl)
theorem dX6_keepStays_3 : decode cX6_keepStays 3 = .ok (.aload_n 0, 1) := dk_42 (dk_at dksX6_keepStays_0 3 rfl rfl)
theorem dX6_keepStays_4 : decode cX6_keepStays 4 = .ok (.getfield 285, 3) := dk_180 1 29 (dk_at dksX6_keepStays_0 4 rfl rfl)
theorem dX6_keepStays_7 : decode cX6_keepStays 7 = .ok (.if_icmp .ge 21, 3) := dk_162 0 21 (dk_at dksX6_keepStays_0 7 rfl rfl)
theorem dX6_keepStays_10 : decode cX6_keepStays 10 = .ok (.aload_n 0, 1) := dk_42 (dk_at dksX6_keepStays_0 10 rfl rfl)
theorem dX6_keepStays_11 : decode cX6_keepStays 11 = .ok (.getfield 96, 3) := dk_180 0 96 (dk_at dksX6_keepStays_0 11 rfl rfl)
theorem dX6_keepStays_14 : decode cX6_keepStays 14 = .ok (.iload_n 1, 1) := dk_27 (dk_at dksX6_keepStays_0 14 rfl rfl)
theorem dX6_keepStays_15 : decode cX6_keepStays 15 = .ok (.aload_n 0, 1) := dk_42 (dk_at dksX6_keepStays_0 15 rfl rfl)
theorem dX6_keepStays_16 : decode cX6_keepStays 16 = .ok (.getfield 90, 3) := dk_180 0 90 (dk_at dksX6_keepStays_0 16 rfl rfl)
theorem dX6_keepStays_19 : decode cX6_keepStays 19 = .ok (.iload_n 1, 1) := dk_27 (dk_at dksX6_keepStays_0 19 rfl rfl)
theorem dX6_keepStays_20 : decode cX6_keepStays 20 = .ok (.iaload, 1) := dk_46 (dk_at dksX6_keepStays_0 20 rfl rfl)
theorem dX6_keepStays_21 : decode cX6_keepStays 21 = .ok (.iastore, 1) := dk_79 (dk_at dksX6_keepStays_0 21 rfl rfl)
theorem dX6_keepStays_22 : decode cX6_keepStays 22 = .ok (.iinc 1 1, 3) := dk_132 1 1 (dk_at dksX6_keepStays_1 0 rfl rfl)
theorem dX6_keepStays_25 : decode cX6_keepStays 25 = .ok (.goto (-23), 3) := dk_167 255 233 (dk_at dksX6_keepStays_1 3 rfl rfl)
theorem dX6_keepStays_28 : decode cX6_keepStays 28 = .ok (.return_, 1) := dk_177 (dk_at dksX6_keepStays_1 6 rfl rfl)
abbrev cX6_order : ByteArray := prog_25_method_64_code
def yX6_order : MethodName := ⟨RX6, "order", "(II)I"⟩
def dkwX6_order_3 : List UInt8 := [42, 180, 1, 70, 167, 0, 19, 28, 29, 162, 0, 12, 42, 180, 0, 102, 28, 46, 167, 0, 5, 16, 254, 172]
abbrev dktX6_order_3 : List UInt8 := dkwX6_order_3 ++ []
def dkwX6_order_2 : List UInt8 := [180, 1, 29, 167, 0, 4, 8, 62, 42, 2, 181, 1, 70, 42, 3, 29, 3, 182, 1, 73, 28, 156, 0, 10]
abbrev dktX6_order_2 : List UInt8 := dkwX6_order_2 ++ dktX6_order_3
def dkwX6_order_1 : List UInt8 := [182, 1, 32, 172, 42, 27, 182, 1, 35, 42, 182, 1, 67, 42, 180, 1, 29, 8, 162, 0, 10, 42]
abbrev dktX6_order_1 : List UInt8 := dkwX6_order_1 ++ dktX6_order_2
def dkwX6_order_0 : List UInt8 := [27, 184, 0, 163, 153, 0, 8, 28, 2, 162, 0, 5, 2, 172, 42, 27, 182, 1, 32, 156, 0, 9, 42, 27]
abbrev dktX6_order_0 : List UInt8 := dkwX6_order_0 ++ dktX6_order_1
theorem dksX6_order_0 : cX6_order.data.toList.drop 0 = dktX6_order_0 := by decide +kernel
theorem dksX6_order_1 : cX6_order.data.toList.drop 24 = dktX6_order_1 := dk_seg dksX6_order_0 24 rfl rfl
theorem dksX6_order_2 : cX6_order.data.toList.drop 46 = dktX6_order_2 := dk_seg dksX6_order_1 22 rfl rfl
theorem dksX6_order_3 : cX6_order.data.toList.drop 70 = dktX6_order_3 := dk_seg dksX6_order_2 24 rfl rfl
theorem dX6_order_0 : decode cX6_order 0 = .ok (.iload_n 1, 1) := dk_27 (dk_at dksX6_order_0 0 rfl rfl)
theorem dX6_order_1 : decode cX6_order 1 = .ok (.invokestatic 163, 3) := dk_184 0 163 (dk_at dksX6_order_0 1 rfl rfl)
theorem dX6_order_4 : decode cX6_order 4 = .ok (.ifCond .eq 8, 3) := dk_153 0 8 (dk_at dksX6_order_0 4 rfl rfl)
theorem dX6_order_7 : decode cX6_order 7 = .ok (.iload_n 2, 1) := dk_28 (dk_at dksX6_order_0 7 rfl rfl)
theorem dX6_order_8 : decode cX6_order 8 = .ok (.iconst (-1), 1) := dk_2 (dk_at dksX6_order_0 8 rfl rfl)
theorem dX6_order_9 : decode cX6_order 9 = .ok (.if_icmp .ge 5, 3) := dk_162 0 5 (dk_at dksX6_order_0 9 rfl rfl)
theorem dX6_order_12 : decode cX6_order 12 = .ok (.iconst (-1), 1) := dk_2 (dk_at dksX6_order_0 12 rfl rfl)
theorem dX6_order_13 : decode cX6_order 13 = .ok (.ireturn, 1) := dk_172 (dk_at dksX6_order_0 13 rfl rfl)
theorem dX6_order_14 : decode cX6_order 14 = .ok (.aload_n 0, 1) := dk_42 (dk_at dksX6_order_0 14 rfl rfl)
theorem dX6_order_15 : decode cX6_order 15 = .ok (.iload_n 1, 1) := dk_27 (dk_at dksX6_order_0 15 rfl rfl)
theorem dX6_order_16 : decode cX6_order 16 = .ok (.invokevirtual 288, 3) := dk_182 1 32 (dk_at dksX6_order_0 16 rfl rfl)
theorem dX6_order_19 : decode cX6_order 19 = .ok (.ifCond .ge 9, 3) := dk_156 0 9 (dk_at dksX6_order_0 19 rfl rfl)
theorem dX6_order_22 : decode cX6_order 22 = .ok (.aload_n 0, 1) := dk_42 (dk_at dksX6_order_0 22 rfl rfl)
theorem dX6_order_23 : decode cX6_order 23 = .ok (.iload_n 1, 1) := dk_27 (dk_at dksX6_order_0 23 rfl rfl)
theorem dX6_order_24 : decode cX6_order 24 = .ok (.invokevirtual 288, 3) := dk_182 1 32 (dk_at dksX6_order_1 0 rfl rfl)
theorem dX6_order_27 : decode cX6_order 27 = .ok (.ireturn, 1) := dk_172 (dk_at dksX6_order_1 3 rfl rfl)
theorem dX6_order_28 : decode cX6_order 28 = .ok (.aload_n 0, 1) := dk_42 (dk_at dksX6_order_1 4 rfl rfl)
theorem dX6_order_29 : decode cX6_order 29 = .ok (.iload_n 1, 1) := dk_27 (dk_at dksX6_order_1 5 rfl rfl)
theorem dX6_order_30 : decode cX6_order 30 = .ok (.invokevirtual 291, 3) := dk_182 1 35 (dk_at dksX6_order_1 6 rfl rfl)
theorem dX6_order_33 : decode cX6_order 33 = .ok (.aload_n 0, 1) := dk_42 (dk_at dksX6_order_1 9 rfl rfl)
theorem dX6_order_34 : decode cX6_order 34 = .ok (.invokevirtual 323, 3) := dk_182 1 67 (dk_at dksX6_order_1 10 rfl rfl)
theorem dX6_order_37 : decode cX6_order 37 = .ok (.aload_n 0, 1) := dk_42 (dk_at dksX6_order_1 13 rfl rfl)
theorem dX6_order_38 : decode cX6_order 38 = .ok (.getfield 285, 3) := dk_180 1 29 (dk_at dksX6_order_1 14 rfl rfl)
theorem dX6_order_41 : decode cX6_order 41 = .ok (.iconst 5, 1) := dk_8 (dk_at dksX6_order_1 17 rfl rfl)
theorem dX6_order_42 : decode cX6_order 42 = .ok (.if_icmp .ge 10, 3) := dk_162 0 10 (dk_at dksX6_order_1 18 rfl rfl)
theorem dX6_order_45 : decode cX6_order 45 = .ok (.aload_n 0, 1) := dk_42 (dk_at dksX6_order_1 21 rfl rfl)
theorem dX6_order_46 : decode cX6_order 46 = .ok (.getfield 285, 3) := dk_180 1 29 (dk_at dksX6_order_2 0 rfl rfl)
theorem dX6_order_49 : decode cX6_order 49 = .ok (.goto 4, 3) := dk_167 0 4 (dk_at dksX6_order_2 3 rfl rfl)
theorem dX6_order_52 : decode cX6_order 52 = .ok (.iconst 5, 1) := dk_8 (dk_at dksX6_order_2 6 rfl rfl)
theorem dX6_order_53 : decode cX6_order 53 = .ok (.istore_n 3, 1) := dk_62 (dk_at dksX6_order_2 7 rfl rfl)
theorem dX6_order_54 : decode cX6_order 54 = .ok (.aload_n 0, 1) := dk_42 (dk_at dksX6_order_2 8 rfl rfl)
theorem dX6_order_55 : decode cX6_order 55 = .ok (.iconst (-1), 1) := dk_2 (dk_at dksX6_order_2 9 rfl rfl)
theorem dX6_order_56 : decode cX6_order 56 = .ok (.putfield 326, 3) := dk_181 1 70 (dk_at dksX6_order_2 10 rfl rfl)
theorem dX6_order_59 : decode cX6_order 59 = .ok (.aload_n 0, 1) := dk_42 (dk_at dksX6_order_2 13 rfl rfl)
theorem dX6_order_60 : decode cX6_order 60 = .ok (.iconst 0, 1) := dk_3 (dk_at dksX6_order_2 14 rfl rfl)
theorem dX6_order_61 : decode cX6_order 61 = .ok (.iload_n 3, 1) := dk_29 (dk_at dksX6_order_2 15 rfl rfl)
theorem dX6_order_62 : decode cX6_order 62 = .ok (.iconst 0, 1) := dk_3 (dk_at dksX6_order_2 16 rfl rfl)
theorem dX6_order_63 : decode cX6_order 63 = .ok (.invokevirtual 329, 3) := dk_182 1 73 (dk_at dksX6_order_2 17 rfl rfl)
theorem dX6_order_66 : decode cX6_order 66 = .ok (.iload_n 2, 1) := dk_28 (dk_at dksX6_order_2 20 rfl rfl)
theorem dX6_order_67 : decode cX6_order 67 = .ok (.ifCond .ge 10, 3) := dk_156 0 10 (dk_at dksX6_order_2 21 rfl rfl)
theorem dX6_order_70 : decode cX6_order 70 = .ok (.aload_n 0, 1) := dk_42 (dk_at dksX6_order_3 0 rfl rfl)
theorem dX6_order_71 : decode cX6_order 71 = .ok (.getfield 326, 3) := dk_180 1 70 (dk_at dksX6_order_3 1 rfl rfl)
theorem dX6_order_74 : decode cX6_order 74 = .ok (.goto 19, 3) := dk_167 0 19 (dk_at dksX6_order_3 4 rfl rfl)
theorem dX6_order_77 : decode cX6_order 77 = .ok (.iload_n 2, 1) := dk_28 (dk_at dksX6_order_3 7 rfl rfl)
theorem dX6_order_78 : decode cX6_order 78 = .ok (.iload_n 3, 1) := dk_29 (dk_at dksX6_order_3 8 rfl rfl)
theorem dX6_order_79 : decode cX6_order 79 = .ok (.if_icmp .ge 12, 3) := dk_162 0 12 (dk_at dksX6_order_3 9 rfl rfl)
theorem dX6_order_82 : decode cX6_order 82 = .ok (.aload_n 0, 1) := dk_42 (dk_at dksX6_order_3 12 rfl rfl)
theorem dX6_order_83 : decode cX6_order 83 = .ok (.getfield 102, 3) := dk_180 0 102 (dk_at dksX6_order_3 13 rfl rfl)
theorem dX6_order_86 : decode cX6_order 86 = .ok (.iload_n 2, 1) := dk_28 (dk_at dksX6_order_3 16 rfl rfl)
theorem dX6_order_87 : decode cX6_order 87 = .ok (.iaload, 1) := dk_46 (dk_at dksX6_order_3 17 rfl rfl)
theorem dX6_order_88 : decode cX6_order 88 = .ok (.goto 5, 3) := dk_167 0 5 (dk_at dksX6_order_3 18 rfl rfl)
theorem dX6_order_91 : decode cX6_order 91 = .ok (.bipush (-2), 2) := dk_16 254 (dk_at dksX6_order_3 21 rfl rfl)
theorem dX6_order_93 : decode cX6_order 93 = .ok (.ireturn, 1) := dk_172 (dk_at dksX6_order_3 23 rfl rfl)
abbrev cX6_goOrders : ByteArray := prog_25_method_63_code
def yX6_goOrders : MethodName := ⟨RX6, "goOrders", "(III)V"⟩
def dkwX6_goOrders_6 : List UInt8 := [128, 182, 1, 73, 132, 4, 1, 167, 255, 212, 177]
abbrev dktX6_goOrders_6 : List UInt8 := dkwX6_goOrders_6 ++ []
def dkwX6_goOrders_5 : List UInt8 := [160, 0, 6, 167, 0, 25, 42, 180, 0, 99, 27, 21, 4, 79, 42, 27, 4, 96, 28, 29, 4, 21, 4, 120]
abbrev dktX6_goOrders_5 : List UInt8 := dkwX6_goOrders_5 ++ dktX6_goOrders_6
def dkwX6_goOrders_4 : List UInt8 := [132, 5, 1, 167, 255, 233, 177, 3, 54, 4, 21, 4, 28, 162, 0, 44, 29, 21, 4, 122, 4, 126, 4]
abbrev dktX6_goOrders_4 : List UInt8 := dkwX6_goOrders_4 ++ dktX6_goOrders_5
def dkwX6_goOrders_3 : List UInt8 := [54, 5, 21, 5, 28, 162, 0, 23, 42, 180, 0, 102, 21, 5, 42, 180, 0, 99, 21, 5, 46, 79]
abbrev dktX6_goOrders_3 : List UInt8 := dkwX6_goOrders_3 ++ dktX6_goOrders_4
def dkwX6_goOrders_2 : List UInt8 := [180, 1, 70, 155, 0, 13, 21, 4, 42, 180, 1, 70, 161, 0, 4, 177, 42, 21, 4, 181, 1, 70, 3]
abbrev dktX6_goOrders_2 : List UInt8 := dkwX6_goOrders_2 ++ dktX6_goOrders_3
def dkwX6_goOrders_1 : List UInt8 := [42, 180, 0, 99, 21, 4, 46, 46, 79, 132, 4, 1, 167, 255, 228, 42, 182, 1, 50, 54, 4, 42]
abbrev dktX6_goOrders_1 : List UInt8 := dkwX6_goOrders_1 ++ dktX6_goOrders_2
def dkwX6_goOrders_0 : List UInt8 := [27, 28, 160, 0, 96, 3, 54, 4, 21, 4, 28, 162, 0, 28, 42, 180, 0, 90, 21, 4, 42, 180, 0, 96]
abbrev dktX6_goOrders_0 : List UInt8 := dkwX6_goOrders_0 ++ dktX6_goOrders_1
theorem dksX6_goOrders_0 : cX6_goOrders.data.toList.drop 0 = dktX6_goOrders_0 := by decide +kernel
theorem dksX6_goOrders_1 : cX6_goOrders.data.toList.drop 24 = dktX6_goOrders_1 := dk_seg dksX6_goOrders_0 24 rfl rfl
theorem dksX6_goOrders_2 : cX6_goOrders.data.toList.drop 46 = dktX6_goOrders_2 := dk_seg dksX6_goOrders_1 22 rfl rfl
theorem dksX6_goOrders_3 : cX6_goOrders.data.toList.drop 69 = dktX6_goOrders_3 := dk_seg dksX6_goOrders_2 23 rfl rfl
theorem dksX6_goOrders_4 : cX6_goOrders.data.toList.drop 91 = dktX6_goOrders_4 := dk_seg dksX6_goOrders_3 22 rfl rfl
theorem dksX6_goOrders_5 : cX6_goOrders.data.toList.drop 114 = dktX6_goOrders_5 := dk_seg dksX6_goOrders_4 23 rfl rfl
theorem dksX6_goOrders_6 : cX6_goOrders.data.toList.drop 138 = dktX6_goOrders_6 := dk_seg dksX6_goOrders_5 24 rfl rfl
theorem dX6_goOrders_0 : decode cX6_goOrders 0 = .ok (.iload_n 1, 1) := dk_27 (dk_at dksX6_goOrders_0 0 rfl rfl)
theorem dX6_goOrders_1 : decode cX6_goOrders 1 = .ok (.iload_n 2, 1) := dk_28 (dk_at dksX6_goOrders_0 1 rfl rfl)
theorem dX6_goOrders_2 : decode cX6_goOrders 2 = .ok (.if_icmp .ne 96, 3) := dk_160 0 96 (dk_at dksX6_goOrders_0 2 rfl rfl)
theorem dX6_goOrders_5 : decode cX6_goOrders 5 = .ok (.iconst 0, 1) := dk_3 (dk_at dksX6_goOrders_0 5 rfl rfl)
theorem dX6_goOrders_6 : decode cX6_goOrders 6 = .ok (.istore 4, 2) := dk_54 4 (dk_at dksX6_goOrders_0 6 rfl rfl)
theorem dX6_goOrders_8 : decode cX6_goOrders 8 = .ok (.iload 4, 2) := dk_21 4 (dk_at dksX6_goOrders_0 8 rfl rfl)
theorem dX6_goOrders_10 : decode cX6_goOrders 10 = .ok (.iload_n 2, 1) := dk_28 (dk_at dksX6_goOrders_0 10 rfl rfl)
theorem dX6_goOrders_11 : decode cX6_goOrders 11 = .ok (.if_icmp .ge 28, 3) := dk_162 0 28 (dk_at dksX6_goOrders_0 11 rfl rfl)
theorem dX6_goOrders_14 : decode cX6_goOrders 14 = .ok (.aload_n 0, 1) := dk_42 (dk_at dksX6_goOrders_0 14 rfl rfl)
theorem dX6_goOrders_15 : decode cX6_goOrders 15 = .ok (.getfield 90, 3) := dk_180 0 90 (dk_at dksX6_goOrders_0 15 rfl rfl)
theorem dX6_goOrders_18 : decode cX6_goOrders 18 = .ok (.iload 4, 2) := dk_21 4 (dk_at dksX6_goOrders_0 18 rfl rfl)
theorem dX6_goOrders_20 : decode cX6_goOrders 20 = .ok (.aload_n 0, 1) := dk_42 (dk_at dksX6_goOrders_0 20 rfl rfl)
theorem dX6_goOrders_21 : decode cX6_goOrders 21 = .ok (.getfield 96, 3) := dk_180 0 96 (dk_at dksX6_goOrders_0 21 rfl rfl)
theorem dX6_goOrders_24 : decode cX6_goOrders 24 = .ok (.aload_n 0, 1) := dk_42 (dk_at dksX6_goOrders_1 0 rfl rfl)
theorem dX6_goOrders_25 : decode cX6_goOrders 25 = .ok (.getfield 99, 3) := dk_180 0 99 (dk_at dksX6_goOrders_1 1 rfl rfl)
theorem dX6_goOrders_28 : decode cX6_goOrders 28 = .ok (.iload 4, 2) := dk_21 4 (dk_at dksX6_goOrders_1 4 rfl rfl)
theorem dX6_goOrders_30 : decode cX6_goOrders 30 = .ok (.iaload, 1) := dk_46 (dk_at dksX6_goOrders_1 6 rfl rfl)
theorem dX6_goOrders_31 : decode cX6_goOrders 31 = .ok (.iaload, 1) := dk_46 (dk_at dksX6_goOrders_1 7 rfl rfl)
theorem dX6_goOrders_32 : decode cX6_goOrders 32 = .ok (.iastore, 1) := dk_79 (dk_at dksX6_goOrders_1 8 rfl rfl)
theorem dX6_goOrders_33 : decode cX6_goOrders 33 = .ok (.iinc 4 1, 3) := dk_132 4 1 (dk_at dksX6_goOrders_1 9 rfl rfl)
theorem dX6_goOrders_36 : decode cX6_goOrders 36 = .ok (.goto (-28), 3) := dk_167 255 228 (dk_at dksX6_goOrders_1 12 rfl rfl)
theorem dX6_goOrders_39 : decode cX6_goOrders 39 = .ok (.aload_n 0, 1) := dk_42 (dk_at dksX6_goOrders_1 15 rfl rfl)
theorem dX6_goOrders_40 : decode cX6_goOrders 40 = .ok (.invokevirtual 306, 3) := dk_182 1 50 (dk_at dksX6_goOrders_1 16 rfl rfl)
theorem dX6_goOrders_43 : decode cX6_goOrders 43 = .ok (.istore 4, 2) := dk_54 4 (dk_at dksX6_goOrders_1 19 rfl rfl)
theorem dX6_goOrders_45 : decode cX6_goOrders 45 = .ok (.aload_n 0, 1) := dk_42 (dk_at dksX6_goOrders_1 21 rfl rfl)
theorem dX6_goOrders_46 : decode cX6_goOrders 46 = .ok (.getfield 326, 3) := dk_180 1 70 (dk_at dksX6_goOrders_2 0 rfl rfl)
theorem dX6_goOrders_49 : decode cX6_goOrders 49 = .ok (.ifCond .lt 13, 3) := dk_155 0 13 (dk_at dksX6_goOrders_2 3 rfl rfl)
theorem dX6_goOrders_52 : decode cX6_goOrders 52 = .ok (.iload 4, 2) := dk_21 4 (dk_at dksX6_goOrders_2 6 rfl rfl)
theorem dX6_goOrders_54 : decode cX6_goOrders 54 = .ok (.aload_n 0, 1) := dk_42 (dk_at dksX6_goOrders_2 8 rfl rfl)
theorem dX6_goOrders_55 : decode cX6_goOrders 55 = .ok (.getfield 326, 3) := dk_180 1 70 (dk_at dksX6_goOrders_2 9 rfl rfl)
theorem dX6_goOrders_58 : decode cX6_goOrders 58 = .ok (.if_icmp .lt 4, 3) := dk_161 0 4 (dk_at dksX6_goOrders_2 12 rfl rfl)
theorem dX6_goOrders_61 : decode cX6_goOrders 61 = .ok (.return_, 1) := dk_177 (dk_at dksX6_goOrders_2 15 rfl rfl)
theorem dX6_goOrders_62 : decode cX6_goOrders 62 = .ok (.aload_n 0, 1) := dk_42 (dk_at dksX6_goOrders_2 16 rfl rfl)
theorem dX6_goOrders_63 : decode cX6_goOrders 63 = .ok (.iload 4, 2) := dk_21 4 (dk_at dksX6_goOrders_2 17 rfl rfl)
theorem dX6_goOrders_65 : decode cX6_goOrders 65 = .ok (.putfield 326, 3) := dk_181 1 70 (dk_at dksX6_goOrders_2 19 rfl rfl)
theorem dX6_goOrders_68 : decode cX6_goOrders 68 = .ok (.iconst 0, 1) := dk_3 (dk_at dksX6_goOrders_2 22 rfl rfl)
theorem dX6_goOrders_69 : decode cX6_goOrders 69 = .ok (.istore 5, 2) := dk_54 5 (dk_at dksX6_goOrders_3 0 rfl rfl)
theorem dX6_goOrders_71 : decode cX6_goOrders 71 = .ok (.iload 5, 2) := dk_21 5 (dk_at dksX6_goOrders_3 2 rfl rfl)
theorem dX6_goOrders_73 : decode cX6_goOrders 73 = .ok (.iload_n 2, 1) := dk_28 (dk_at dksX6_goOrders_3 4 rfl rfl)
theorem dX6_goOrders_74 : decode cX6_goOrders 74 = .ok (.if_icmp .ge 23, 3) := dk_162 0 23 (dk_at dksX6_goOrders_3 5 rfl rfl)
theorem dX6_goOrders_77 : decode cX6_goOrders 77 = .ok (.aload_n 0, 1) := dk_42 (dk_at dksX6_goOrders_3 8 rfl rfl)
theorem dX6_goOrders_78 : decode cX6_goOrders 78 = .ok (.getfield 102, 3) := dk_180 0 102 (dk_at dksX6_goOrders_3 9 rfl rfl)
theorem dX6_goOrders_81 : decode cX6_goOrders 81 = .ok (.iload 5, 2) := dk_21 5 (dk_at dksX6_goOrders_3 12 rfl rfl)
theorem dX6_goOrders_83 : decode cX6_goOrders 83 = .ok (.aload_n 0, 1) := dk_42 (dk_at dksX6_goOrders_3 14 rfl rfl)
theorem dX6_goOrders_84 : decode cX6_goOrders 84 = .ok (.getfield 99, 3) := dk_180 0 99 (dk_at dksX6_goOrders_3 15 rfl rfl)
theorem dX6_goOrders_87 : decode cX6_goOrders 87 = .ok (.iload 5, 2) := dk_21 5 (dk_at dksX6_goOrders_3 18 rfl rfl)
theorem dX6_goOrders_89 : decode cX6_goOrders 89 = .ok (.iaload, 1) := dk_46 (dk_at dksX6_goOrders_3 20 rfl rfl)
theorem dX6_goOrders_90 : decode cX6_goOrders 90 = .ok (.iastore, 1) := dk_79 (dk_at dksX6_goOrders_3 21 rfl rfl)
theorem dX6_goOrders_91 : decode cX6_goOrders 91 = .ok (.iinc 5 1, 3) := dk_132 5 1 (dk_at dksX6_goOrders_4 0 rfl rfl)
theorem dX6_goOrders_94 : decode cX6_goOrders 94 = .ok (.goto (-23), 3) := dk_167 255 233 (dk_at dksX6_goOrders_4 3 rfl rfl)
theorem dX6_goOrders_97 : decode cX6_goOrders 97 = .ok (.return_, 1) := dk_177 (dk_at dksX6_goOrders_4 6 rfl rfl)
theorem dX6_goOrders_98 : decode cX6_goOrders 98 = .ok (.iconst 0, 1) := dk_3 (dk_at dksX6_goOrders_4 7 rfl rfl)
theorem dX6_goOrders_99 : decode cX6_goOrders 99 = .ok (.istore 4, 2) := dk_54 4 (dk_at dksX6_goOrders_4 8 rfl rfl)
theorem dX6_goOrders_101 : decode cX6_goOrders 101 = .ok (.iload 4, 2) := dk_21 4 (dk_at dksX6_goOrders_4 10 rfl rfl)
theorem dX6_goOrders_103 : decode cX6_goOrders 103 = .ok (.iload_n 2, 1) := dk_28 (dk_at dksX6_goOrders_4 12 rfl rfl)
theorem dX6_goOrders_104 : decode cX6_goOrders 104 = .ok (.if_icmp .ge 44, 3) := dk_162 0 44 (dk_at dksX6_goOrders_4 13 rfl rfl)
theorem dX6_goOrders_107 : decode cX6_goOrders 107 = .ok (.iload_n 3, 1) := dk_29 (dk_at dksX6_goOrders_4 16 rfl rfl)
theorem dX6_goOrders_108 : decode cX6_goOrders 108 = .ok (.iload 4, 2) := dk_21 4 (dk_at dksX6_goOrders_4 17 rfl rfl)
theorem dX6_goOrders_110 : decode cX6_goOrders 110 = .ok (.ishr, 1) := dk_122 (dk_at dksX6_goOrders_4 19 rfl rfl)
theorem dX6_goOrders_111 : decode cX6_goOrders 111 = .ok (.iconst 1, 1) := dk_4 (dk_at dksX6_goOrders_4 20 rfl rfl)
theorem dX6_goOrders_112 : decode cX6_goOrders 112 = .ok (.iand, 1) := dk_126 (dk_at dksX6_goOrders_4 21 rfl rfl)
theorem dX6_goOrders_113 : decode cX6_goOrders 113 = .ok (.iconst 1, 1) := dk_4 (dk_at dksX6_goOrders_4 22 rfl rfl)
theorem dX6_goOrders_114 : decode cX6_goOrders 114 = .ok (.if_icmp .ne 6, 3) := dk_160 0 6 (dk_at dksX6_goOrders_5 0 rfl rfl)
theorem dX6_goOrders_117 : decode cX6_goOrders 117 = .ok (.goto 25, 3) := dk_167 0 25 (dk_at dksX6_goOrders_5 3 rfl rfl)
theorem dX6_goOrders_120 : decode cX6_goOrders 120 = .ok (.aload_n 0, 1) := dk_42 (dk_at dksX6_goOrders_5 6 rfl rfl)
theorem dX6_goOrders_121 : decode cX6_goOrders 121 = .ok (.getfield 99, 3) := dk_180 0 99 (dk_at dksX6_goOrders_5 7 rfl rfl)
theorem dX6_goOrders_124 : decode cX6_goOrders 124 = .ok (.iload_n 1, 1) := dk_27 (dk_at dksX6_goOrders_5 10 rfl rfl)
theorem dX6_goOrders_125 : decode cX6_goOrders 125 = .ok (.iload 4, 2) := dk_21 4 (dk_at dksX6_goOrders_5 11 rfl rfl)
theorem dX6_goOrders_127 : decode cX6_goOrders 127 = .ok (.iastore, 1) := dk_79 (dk_at dksX6_goOrders_5 13 rfl rfl)
theorem dX6_goOrders_128 : decode cX6_goOrders 128 = .ok (.aload_n 0, 1) := dk_42 (dk_at dksX6_goOrders_5 14 rfl rfl)
theorem dX6_goOrders_129 : decode cX6_goOrders 129 = .ok (.iload_n 1, 1) := dk_27 (dk_at dksX6_goOrders_5 15 rfl rfl)
theorem dX6_goOrders_130 : decode cX6_goOrders 130 = .ok (.iconst 1, 1) := dk_4 (dk_at dksX6_goOrders_5 16 rfl rfl)
theorem dX6_goOrders_131 : decode cX6_goOrders 131 = .ok (.iadd, 1) := dk_96 (dk_at dksX6_goOrders_5 17 rfl rfl)
theorem dX6_goOrders_132 : decode cX6_goOrders 132 = .ok (.iload_n 2, 1) := dk_28 (dk_at dksX6_goOrders_5 18 rfl rfl)
theorem dX6_goOrders_133 : decode cX6_goOrders 133 = .ok (.iload_n 3, 1) := dk_29 (dk_at dksX6_goOrders_5 19 rfl rfl)
theorem dX6_goOrders_134 : decode cX6_goOrders 134 = .ok (.iconst 1, 1) := dk_4 (dk_at dksX6_goOrders_5 20 rfl rfl)
theorem dX6_goOrders_135 : decode cX6_goOrders 135 = .ok (.iload 4, 2) := dk_21 4 (dk_at dksX6_goOrders_5 21 rfl rfl)
theorem dX6_goOrders_137 : decode cX6_goOrders 137 = .ok (.ishl, 1) := dk_120 (dk_at dksX6_goOrders_5 23 rfl rfl)
theorem dX6_goOrders_138 : decode cX6_goOrders 138 = .ok (.ior, 1) := dk_128 (dk_at dksX6_goOrders_6 0 rfl rfl)
theorem dX6_goOrders_139 : decode cX6_goOrders 139 = .ok (.invokevirtual 329, 3) := dk_182 1 73 (dk_at dksX6_goOrders_6 1 rfl rfl)
theorem dX6_goOrders_142 : decode cX6_goOrders 142 = .ok (.iinc 4 1, 3) := dk_132 4 1 (dk_at dksX6_goOrders_6 4 rfl rfl)
theorem dX6_goOrders_145 : decode cX6_goOrders 145 = .ok (.goto (-44), 3) := dk_167 255 212 (dk_at dksX6_goOrders_6 7 rfl rfl)
theorem dX6_goOrders_148 : decode cX6_goOrders 148 = .ok (.return_, 1) := dk_177 (dk_at dksX6_goOrders_6 10 rfl rfl)
abbrev cX6_tin : ByteArray := prog_25_method_66_code
def yX6_tin : MethodName := ⟨RX6, "tin", "(II)J"⟩
def dkwX6_tin_7 : List UInt8 := [28, 184, 1, 80, 173]
abbrev dktX6_tin_7 : List UInt8 := dkwX6_tin_7 ++ []
def dkwX6_tin_6 : List UInt8 := [167, 255, 206, 132, 4, 1, 167, 255, 149, 42, 182, 1, 44, 29, 133, 42, 180, 0, 37, 133, 105, 20, 1, 78]
abbrev dktX6_tin_6 : List UInt8 := dkwX6_tin_6 ++ dktX6_tin_7
def dkwX6_tin_5 : List UInt8 := [182, 1, 26, 42, 180, 0, 105, 21, 5, 46, 100, 42, 180, 0, 15, 21, 5, 46, 104, 96, 62, 132, 5, 1]
abbrev dktX6_tin_5 : List UInt8 := dkwX6_tin_5 ++ dktX6_tin_6
def dkwX6_tin_4 : List UInt8 := [162, 0, 50, 42, 21, 5, 182, 1, 26, 42, 180, 0, 105, 21, 5, 46, 164, 0, 28, 29, 42, 21, 5]
abbrev dktX6_tin_4 : List UInt8 := dkwX6_tin_4 ++ dktX6_tin_5
def dkwX6_tin_3 : List UInt8 := [79, 132, 5, 1, 167, 255, 234, 42, 42, 180, 0, 90, 21, 4, 46, 182, 1, 41, 3, 54, 5, 21, 5, 7]
abbrev dktX6_tin_3 : List UInt8 := dkwX6_tin_3 ++ dktX6_tin_4
def dkwX6_tin_2 : List UInt8 := [162, 0, 104, 3, 54, 5, 21, 5, 7, 162, 0, 22, 42, 180, 0, 105, 21, 5, 42, 21, 5, 182, 1, 26]
abbrev dktX6_tin_2 : List UInt8 := dkwX6_tin_2 ++ dktX6_tin_3
def dkwX6_tin_1 : List UInt8 := [20, 1, 76, 173, 42, 27, 182, 1, 35, 42, 182, 1, 38, 3, 62, 3, 54, 4, 21, 4, 42, 180, 1, 29]
abbrev dktX6_tin_1 : List UInt8 := dkwX6_tin_1 ++ dktX6_tin_2
def dkwX6_tin_0 : List UInt8 := [27, 184, 0, 163, 153, 0, 20, 28, 3, 4, 184, 0, 145, 153, 0, 11, 42, 27, 182, 1, 32, 156, 0, 7]
abbrev dktX6_tin_0 : List UInt8 := dkwX6_tin_0 ++ dktX6_tin_1
theorem dksX6_tin_0 : cX6_tin.data.toList.drop 0 = dktX6_tin_0 := by decide +kernel
theorem dksX6_tin_1 : cX6_tin.data.toList.drop 24 = dktX6_tin_1 := dk_seg dksX6_tin_0 24 rfl rfl
theorem dksX6_tin_2 : cX6_tin.data.toList.drop 48 = dktX6_tin_2 := dk_seg dksX6_tin_1 24 rfl rfl
theorem dksX6_tin_3 : cX6_tin.data.toList.drop 72 = dktX6_tin_3 := dk_seg dksX6_tin_2 24 rfl rfl
theorem dksX6_tin_4 : cX6_tin.data.toList.drop 96 = dktX6_tin_4 := dk_seg dksX6_tin_3 24 rfl rfl
theorem dksX6_tin_5 : cX6_tin.data.toList.drop 119 = dktX6_tin_5 := dk_seg dksX6_tin_4 23 rfl rfl
theorem dksX6_tin_6 : cX6_tin.data.toList.drop 143 = dktX6_tin_6 := dk_seg dksX6_tin_5 24 rfl rfl
theorem dksX6_tin_7 : cX6_tin.data.toList.drop 167 = dktX6_tin_7 := dk_seg dksX6_tin_6 24 rfl rfl
theorem dX6_tin_0 : decode cX6_tin 0 = .ok (.iload_n 1, 1) := dk_27 (dk_at dksX6_tin_0 0 rfl rfl)
theorem dX6_tin_1 : decode cX6_tin 1 = .ok (.invokestatic 163, 3) := dk_184 0 163 (dk_at dksX6_tin_0 1 rfl rfl)
theorem dX6_tin_4 : decode cX6_tin 4 = .ok (.ifCond .eq 20, 3) := dk_153 0 20 (dk_at dksX6_tin_0 4 rfl rfl)
theorem dX6_tin_7 : decode cX6_tin 7 = .ok (.iload_n 2, 1) := dk_28 (dk_at dksX6_tin_0 7 rfl rfl)
theorem dX6_tin_8 : decode cX6_tin 8 = .ok (.iconst 0, 1) := dk_3 (dk_at dksX6_tin_0 8 rfl rfl)
theorem dX6_tin_9 : decode cX6_tin 9 = .ok (.iconst 1, 1) := dk_4 (dk_at dksX6_tin_0 9 rfl rfl)
theorem dX6_tin_10 : decode cX6_tin 10 = .ok (.invokestatic 145, 3) := dk_184 0 145 (dk_at dksX6_tin_0 10 rfl rfl)
theorem dX6_tin_13 : decode cX6_tin 13 = .ok (.ifCond .eq 11, 3) := dk_153 0 11 (dk_at dksX6_tin_0 13 rfl rfl)
theorem dX6_tin_16 : decode cX6_tin 16 = .ok (.aload_n 0, 1) := dk_42 (dk_at dksX6_tin_0 16 rfl rfl)
theorem dX6_tin_17 : decode cX6_tin 17 = .ok (.iload_n 1, 1) := dk_27 (dk_at dksX6_tin_0 17 rfl rfl)
theorem dX6_tin_18 : decode cX6_tin 18 = .ok (.invokevirtual 288, 3) := dk_182 1 32 (dk_at dksX6_tin_0 18 rfl rfl)
theorem dX6_tin_21 : decode cX6_tin 21 = .ok (.ifCond .ge 7, 3) := dk_156 0 7 (dk_at dksX6_tin_0 21 rfl rfl)
theorem dX6_tin_24 : decode cX6_tin 24 = .ok (.ldc2_w 332, 3) := dk_20 1 76 (dk_at dksX6_tin_1 0 rfl rfl)
theorem dX6_tin_27 : decode cX6_tin 27 = .ok (.lreturn, 1) := dk_173 (dk_at dksX6_tin_1 3 rfl rfl)
theorem dX6_tin_28 : decode cX6_tin 28 = .ok (.aload_n 0, 1) := dk_42 (dk_at dksX6_tin_1 4 rfl rfl)
theorem dX6_tin_29 : decode cX6_tin 29 = .ok (.iload_n 1, 1) := dk_27 (dk_at dksX6_tin_1 5 rfl rfl)
theorem dX6_tin_30 : decode cX6_tin 30 = .ok (.invokevirtual 291, 3) := dk_182 1 35 (dk_at dksX6_tin_1 6 rfl rfl)
theorem dX6_tin_33 : decode cX6_tin 33 = .ok (.aload_n 0, 1) := dk_42 (dk_at dksX6_tin_1 9 rfl rfl)
theorem dX6_tin_34 : decode cX6_tin 34 = .ok (.invokevirtual 294, 3) := dk_182 1 38 (dk_at dksX6_tin_1 10 rfl rfl)
theorem dX6_tin_37 : decode cX6_tin 37 = .ok (.iconst 0, 1) := dk_3 (dk_at dksX6_tin_1 13 rfl rfl)
theorem dX6_tin_38 : decode cX6_tin 38 = .ok (.istore_n 3, 1) := dk_62 (dk_at dksX6_tin_1 14 rfl rfl)
theorem dX6_tin_39 : decode cX6_tin 39 = .ok (.iconst 0, 1) := dk_3 (dk_at dksX6_tin_1 15 rfl rfl)
theorem dX6_tin_40 : decode cX6_tin 40 = .ok (.istore 4, 2) := dk_54 4 (dk_at dksX6_tin_1 16 rfl rfl)
theorem dX6_tin_42 : decode cX6_tin 42 = .ok (.iload 4, 2) := dk_21 4 (dk_at dksX6_tin_1 18 rfl rfl)
theorem dX6_tin_44 : decode cX6_tin 44 = .ok (.aload_n 0, 1) := dk_42 (dk_at dksX6_tin_1 20 rfl rfl)
theorem dX6_tin_45 : decode cX6_tin 45 = .ok (.getfield 285, 3) := dk_180 1 29 (dk_at dksX6_tin_1 21 rfl rfl)
theorem dX6_tin_48 : decode cX6_tin 48 = .ok (.if_icmp .ge 104, 3) := dk_162 0 104 (dk_at dksX6_tin_2 0 rfl rfl)
theorem dX6_tin_51 : decode cX6_tin 51 = .ok (.iconst 0, 1) := dk_3 (dk_at dksX6_tin_2 3 rfl rfl)
theorem dX6_tin_52 : decode cX6_tin 52 = .ok (.istore 5, 2) := dk_54 5 (dk_at dksX6_tin_2 4 rfl rfl)
theorem dX6_tin_54 : decode cX6_tin 54 = .ok (.iload 5, 2) := dk_21 5 (dk_at dksX6_tin_2 6 rfl rfl)
theorem dX6_tin_56 : decode cX6_tin 56 = .ok (.iconst 4, 1) := dk_7 (dk_at dksX6_tin_2 8 rfl rfl)
theorem dX6_tin_57 : decode cX6_tin 57 = .ok (.if_icmp .ge 22, 3) := dk_162 0 22 (dk_at dksX6_tin_2 9 rfl rfl)
theorem dX6_tin_60 : decode cX6_tin 60 = .ok (.aload_n 0, 1) := dk_42 (dk_at dksX6_tin_2 12 rfl rfl)
theorem dX6_tin_61 : decode cX6_tin 61 = .ok (.getfield 105, 3) := dk_180 0 105 (dk_at dksX6_tin_2 13 rfl rfl)
theorem dX6_tin_64 : decode cX6_tin 64 = .ok (.iload 5, 2) := dk_21 5 (dk_at dksX6_tin_2 16 rfl rfl)
theorem dX6_tin_66 : decode cX6_tin 66 = .ok (.aload_n 0, 1) := dk_42 (dk_at dksX6_tin_2 18 rfl rfl)
theorem dX6_tin_67 : decode cX6_tin 67 = .ok (.iload 5, 2) := dk_21 5 (dk_at dksX6_tin_2 19 rfl rfl)
theorem dX6_tin_69 : decode cX6_tin 69 = .ok (.invokevirtual 282, 3) := dk_182 1 26 (dk_at dksX6_tin_2 21 rfl rfl)
theorem dX6_tin_72 : decode cX6_tin 72 = .ok (.iastore, 1) := dk_79 (dk_at dksX6_tin_3 0 rfl rfl)
theorem dX6_tin_73 : decode cX6_tin 73 = .ok (.iinc 5 1, 3) := dk_132 5 1 (dk_at dksX6_tin_3 1 rfl rfl)
theorem dX6_tin_76 : decode cX6_tin 76 = .ok (.goto (-22), 3) := dk_167 255 234 (dk_at dksX6_tin_3 4 rfl rfl)
theorem dX6_tin_79 : decode cX6_tin 79 = .ok (.aload_n 0, 1) := dk_42 (dk_at dksX6_tin_3 7 rfl rfl)
theorem dX6_tin_80 : decode cX6_tin 80 = .ok (.aload_n 0, 1) := dk_42 (dk_at dksX6_tin_3 8 rfl rfl)
theorem dX6_tin_81 : decode cX6_tin 81 = .ok (.getfield 90, 3) := dk_180 0 90 (dk_at dksX6_tin_3 9 rfl rfl)
theorem dX6_tin_84 : decode cX6_tin 84 = .ok (.iload 4, 2) := dk_21 4 (dk_at dksX6_tin_3 12 rfl rfl)
theorem dX6_tin_86 : decode cX6_tin 86 = .ok (.iaload, 1) := dk_46 (dk_at dksX6_tin_3 14 rfl rfl)
theorem dX6_tin_87 : decode cX6_tin 87 = .ok (.invokevirtual 297, 3) := dk_182 1 41 (dk_at dksX6_tin_3 15 rfl rfl)
theorem dX6_tin_90 : decode cX6_tin 90 = .ok (.iconst 0, 1) := dk_3 (dk_at dksX6_tin_3 18 rfl rfl)
theorem dX6_tin_91 : decode cX6_tin 91 = .ok (.istore 5, 2) := dk_54 5 (dk_at dksX6_tin_3 19 rfl rfl)
theorem dX6_tin_93 : decode cX6_tin 93 = .ok (.iload 5, 2) := dk_21 5 (dk_at dksX6_tin_3 21 rfl rfl)
theorem dX6_tin_95 : decode cX6_tin 95 = .ok (.iconst 4, 1) := dk_7 (dk_at dksX6_tin_3 23 rfl rfl)
theorem dX6_tin_96 : decode cX6_tin 96 = .ok (.if_icmp .ge 50, 3) := dk_162 0 50 (dk_at dksX6_tin_4 0 rfl rfl)
theorem dX6_tin_99 : decode cX6_tin 99 = .ok (.aload_n 0, 1) := dk_42 (dk_at dksX6_tin_4 3 rfl rfl)
theorem dX6_tin_100 : decode cX6_tin 100 = .ok (.iload 5, 2) := dk_21 5 (dk_at dksX6_tin_4 4 rfl rfl)
theorem dX6_tin_102 : decode cX6_tin 102 = .ok (.invokevirtual 282, 3) := dk_182 1 26 (dk_at dksX6_tin_4 6 rfl rfl)
theorem dX6_tin_105 : decode cX6_tin 105 = .ok (.aload_n 0, 1) := dk_42 (dk_at dksX6_tin_4 9 rfl rfl)
theorem dX6_tin_106 : decode cX6_tin 106 = .ok (.getfield 105, 3) := dk_180 0 105 (dk_at dksX6_tin_4 10 rfl rfl)
theorem dX6_tin_109 : decode cX6_tin 109 = .ok (.iload 5, 2) := dk_21 5 (dk_at dksX6_tin_4 13 rfl rfl)
theorem dX6_tin_111 : decode cX6_tin 111 = .ok (.iaload, 1) := dk_46 (dk_at dksX6_tin_4 15 rfl rfl)
theorem dX6_tin_112 : decode cX6_tin 112 = .ok (.if_icmp .le 28, 3) := dk_164 0 28 (dk_at dksX6_tin_4 16 rfl rfl)
theorem dX6_tin_115 : decode cX6_tin 115 = .ok (.iload_n 3, 1) := dk_29 (dk_at dksX6_tin_4 19 rfl rfl)
theorem dX6_tin_116 : decode cX6_tin 116 = .ok (.aload_n 0, 1) := dk_42 (dk_at dksX6_tin_4 20 rfl rfl)
theorem dX6_tin_117 : decode cX6_tin 117 = .ok (.iload 5, 2) := dk_21 5 (dk_at dksX6_tin_4 21 rfl rfl)
theorem dX6_tin_119 : decode cX6_tin 119 = .ok (.invokevirtual 282, 3) := dk_182 1 26 (dk_at dksX6_tin_5 0 rfl rfl)
theorem dX6_tin_122 : decode cX6_tin 122 = .ok (.aload_n 0, 1) := dk_42 (dk_at dksX6_tin_5 3 rfl rfl)
theorem dX6_tin_123 : decode cX6_tin 123 = .ok (.getfield 105, 3) := dk_180 0 105 (dk_at dksX6_tin_5 4 rfl rfl)
theorem dX6_tin_126 : decode cX6_tin 126 = .ok (.iload 5, 2) := dk_21 5 (dk_at dksX6_tin_5 7 rfl rfl)
theorem dX6_tin_128 : decode cX6_tin 128 = .ok (.iaload, 1) := dk_46 (dk_at dksX6_tin_5 9 rfl rfl)
theorem dX6_tin_129 : decode cX6_tin 129 = .ok (.isub, 1) := dk_100 (dk_at dksX6_tin_5 10 rfl rfl)
theorem dX6_tin_130 : decode cX6_tin 130 = .ok (.aload_n 0, 1) := dk_42 (dk_at dksX6_tin_5 11 rfl rfl)
theorem dX6_tin_131 : decode cX6_tin 131 = .ok (.getfield 15, 3) := dk_180 0 15 (dk_at dksX6_tin_5 12 rfl rfl)
theorem dX6_tin_134 : decode cX6_tin 134 = .ok (.iload 5, 2) := dk_21 5 (dk_at dksX6_tin_5 15 rfl rfl)
theorem dX6_tin_136 : decode cX6_tin 136 = .ok (.iaload, 1) := dk_46 (dk_at dksX6_tin_5 17 rfl rfl)
theorem dX6_tin_137 : decode cX6_tin 137 = .ok (.imul, 1) := dk_104 (dk_at dksX6_tin_5 18 rfl rfl)
theorem dX6_tin_138 : decode cX6_tin 138 = .ok (.iadd, 1) := dk_96 (dk_at dksX6_tin_5 19 rfl rfl)
theorem dX6_tin_139 : decode cX6_tin 139 = .ok (.istore_n 3, 1) := dk_62 (dk_at dksX6_tin_5 20 rfl rfl)
theorem dX6_tin_140 : decode cX6_tin 140 = .ok (.iinc 5 1, 3) := dk_132 5 1 (dk_at dksX6_tin_5 21 rfl rfl)
theorem dX6_tin_143 : decode cX6_tin 143 = .ok (.goto (-50), 3) := dk_167 255 206 (dk_at dksX6_tin_6 0 rfl rfl)
theorem dX6_tin_146 : decode cX6_tin 146 = .ok (.iinc 4 1, 3) := dk_132 4 1 (dk_at dksX6_tin_6 3 rfl rfl)
theorem dX6_tin_149 : decode cX6_tin 149 = .ok (.goto (-107), 3) := dk_167 255 149 (dk_at dksX6_tin_6 6 rfl rfl)
theorem dX6_tin_152 : decode cX6_tin 152 = .ok (.aload_n 0, 1) := dk_42 (dk_at dksX6_tin_6 9 rfl rfl)
theorem dX6_tin_153 : decode cX6_tin 153 = .ok (.invokevirtual 300, 3) := dk_182 1 44 (dk_at dksX6_tin_6 10 rfl rfl)
theorem dX6_tin_156 : decode cX6_tin 156 = .ok (.iload_n 3, 1) := dk_29 (dk_at dksX6_tin_6 13 rfl rfl)
theorem dX6_tin_157 : decode cX6_tin 157 = .ok (.i2l, 1) := dk_133 (dk_at dksX6_tin_6 14 rfl rfl)
theorem dX6_tin_158 : decode cX6_tin 158 = .ok (.aload_n 0, 1) := dk_42 (dk_at dksX6_tin_6 15 rfl rfl)
theorem dX6_tin_159 : decode cX6_tin 159 = .ok (.getfield 37, 3) := dk_180 0 37 (dk_at dksX6_tin_6 16 rfl rfl)
theorem dX6_tin_162 : decode cX6_tin 162 = .ok (.i2l, 1) := dk_133 (dk_at dksX6_tin_6 19 rfl rfl)
theorem dX6_tin_163 : decode cX6_tin 163 = .ok (.lmul, 1) := dk_105 (dk_at dksX6_tin_6 20 rfl rfl)
theorem dX6_tin_164 : decode cX6_tin 164 = .ok (.ldc2_w 334, 3) := dk_20 1 78 (dk_at dksX6_tin_6 21 rfl rfl)
theorem dX6_tin_167 : decode cX6_tin 167 = .ok (.iload_n 2, 1) := dk_28 (dk_at dksX6_tin_7 0 rfl rfl)
theorem dX6_tin_168 : decode cX6_tin 168 = .ok (.invokestatic 336, 3) := dk_184 1 80 (dk_at dksX6_tin_7 1 rfl rfl)
theorem dX6_tin_171 : decode cX6_tin 171 = .ok (.lreturn, 1) := dk_173 (dk_at dksX6_tin_7 4 rfl rfl)
abbrev cX6_asPart : ByteArray := prog_25_method_65_code
def yX6_asPart : MethodName := ⟨RX6, "asPart", "(JJI)J"⟩
def dkwX6_asPart_1 : List UInt8 := [22, 9, 55, 7, 167, 255, 234, 21, 4, 154, 0, 10, 30, 22, 5, 109, 167, 0, 7, 32, 22, 5, 109, 173]
abbrev dktX6_asPart_1 : List UInt8 := dkwX6_asPart_1 ++ []
def dkwX6_asPart_0 : List UInt8 := [30, 55, 5, 32, 55, 7, 22, 7, 9, 148, 153, 0, 21, 22, 5, 22, 7, 113, 55, 9, 22, 7, 55, 5]
abbrev dktX6_asPart_0 : List UInt8 := dkwX6_asPart_0 ++ dktX6_asPart_1
theorem dksX6_asPart_0 : cX6_asPart.data.toList.drop 0 = dktX6_asPart_0 := by decide +kernel
theorem dksX6_asPart_1 : cX6_asPart.data.toList.drop 24 = dktX6_asPart_1 := dk_seg dksX6_asPart_0 24 rfl rfl
theorem dX6_asPart_0 : decode cX6_asPart 0 = .ok (.lload_n 0, 1) := dk_30 (dk_at dksX6_asPart_0 0 rfl rfl)
theorem dX6_asPart_1 : decode cX6_asPart 1 = .ok (.lstore 5, 2) := dk_55 5 (dk_at dksX6_asPart_0 1 rfl rfl)
theorem dX6_asPart_3 : decode cX6_asPart 3 = .ok (.lload_n 2, 1) := dk_32 (dk_at dksX6_asPart_0 3 rfl rfl)
theorem dX6_asPart_4 : decode cX6_asPart 4 = .ok (.lstore 7, 2) := dk_55 7 (dk_at dksX6_asPart_0 4 rfl rfl)
theorem dX6_asPart_6 : decode cX6_asPart 6 = .ok (.lload 7, 2) := dk_22 7 (dk_at dksX6_asPart_0 6 rfl rfl)
theorem dX6_asPart_8 : decode cX6_asPart 8 = .ok (.lconst 0, 1) := dk_9 (dk_at dksX6_asPart_0 8 rfl rfl)
theorem dX6_asPart_9 : decode cX6_asPart 9 = .ok (.lcmp, 1) := dk_148 (dk_at dksX6_asPart_0 9 rfl rfl)
theorem dX6_asPart_10 : decode cX6_asPart 10 = .ok (.ifCond .eq 21, 3) := dk_153 0 21 (dk_at dksX6_asPart_0 10 rfl rfl)
theorem dX6_asPart_13 : decode cX6_asPart 13 = .ok (.lload 5, 2) := dk_22 5 (dk_at dksX6_asPart_0 13 rfl rfl)
theorem dX6_asPart_15 : decode cX6_asPart 15 = .ok (.lload 7, 2) := dk_22 7 (dk_at dksX6_asPart_0 15 rfl rfl)
theorem dX6_asPart_17 : decode cX6_asPart 17 = .ok (.lrem, 1) := dk_113 (dk_at dksX6_asPart_0 17 rfl rfl)
theorem dX6_asPart_18 : decode cX6_asPart 18 = .ok (.lstore 9, 2) := dk_55 9 (dk_at dksX6_asPart_0 18 rfl rfl)
theorem dX6_asPart_20 : decode cX6_asPart 20 = .ok (.lload 7, 2) := dk_22 7 (dk_at dksX6_asPart_0 20 rfl rfl)
theorem dX6_asPart_22 : decode cX6_asPart 22 = .ok (.lstore 5, 2) := dk_55 5 (dk_at dksX6_asPart_0 22 rfl rfl)
theorem dX6_asPart_24 : decode cX6_asPart 24 = .ok (.lload 9, 2) := dk_22 9 (dk_at dksX6_asPart_1 0 rfl rfl)
theorem dX6_asPart_26 : decode cX6_asPart 26 = .ok (.lstore 7, 2) := dk_55 7 (dk_at dksX6_asPart_1 2 rfl rfl)
theorem dX6_asPart_28 : decode cX6_asPart 28 = .ok (.goto (-22), 3) := dk_167 255 234 (dk_at dksX6_asPart_1 4 rfl rfl)
theorem dX6_asPart_31 : decode cX6_asPart 31 = .ok (.iload 4, 2) := dk_21 4 (dk_at dksX6_asPart_1 7 rfl rfl)
theorem dX6_asPart_33 : decode cX6_asPart 33 = .ok (.ifCond .ne 10, 3) := dk_154 0 10 (dk_at dksX6_asPart_1 9 rfl rfl)
theorem dX6_asPart_36 : decode cX6_asPart 36 = .ok (.lload_n 0, 1) := dk_30 (dk_at dksX6_asPart_1 12 rfl rfl)
theorem dX6_asPart_37 : decode cX6_asPart 37 = .ok (.lload 5, 2) := dk_22 5 (dk_at dksX6_asPart_1 13 rfl rfl)
theorem dX6_asPart_39 : decode cX6_asPart 39 = .ok (.ldiv, 1) := dk_109 (dk_at dksX6_asPart_1 15 rfl rfl)
theorem dX6_asPart_40 : decode cX6_asPart 40 = .ok (.goto 7, 3) := dk_167 0 7 (dk_at dksX6_asPart_1 16 rfl rfl)
theorem dX6_asPart_43 : decode cX6_asPart 43 = .ok (.lload_n 2, 1) := dk_32 (dk_at dksX6_asPart_1 19 rfl rfl)
theorem dX6_asPart_44 : decode cX6_asPart 44 = .ok (.lload 5, 2) := dk_22 5 (dk_at dksX6_asPart_1 20 rfl rfl)
theorem dX6_asPart_46 : decode cX6_asPart 46 = .ok (.ldiv, 1) := dk_109 (dk_at dksX6_asPart_1 22 rfl rfl)
theorem dX6_asPart_47 : decode cX6_asPart 47 = .ok (.lreturn, 1) := dk_173 (dk_at dksX6_asPart_1 23 rfl rfl)
abbrev cX6_who : ByteArray := prog_25_method_70_code
def yX6_who : MethodName := ⟨RX6, "who", "(III)I"⟩
def dkwX6_who_5 : List UInt8 := [21, 6, 120, 128, 54, 5, 132, 6, 1, 167, 255, 207, 21, 5, 172]
abbrev dktX6_who_5 : List UInt8 := dkwX6_who_5 ++ []
def dkwX6_who_4 : List UInt8 := [182, 1, 99, 158, 0, 27, 21, 5, 21, 6, 42, 180, 0, 149, 160, 0, 9, 17, 0, 128, 167, 0, 7, 4]
abbrev dktX6_who_4 : List UInt8 := dkwX6_who_4 ++ dktX6_who_5
def dkwX6_who_3 : List UInt8 := [3, 54, 5, 3, 54, 6, 21, 6, 42, 180, 0, 149, 163, 0, 46, 42, 21, 4, 28, 29, 21, 6]
abbrev dktX6_who_3 : List UInt8 := dkwX6_who_3 ++ dktX6_who_4
def dkwX6_who_2 : List UInt8 := [16, 6, 162, 0, 10, 42, 180, 1, 84, 167, 0, 5, 16, 6, 54, 4, 29, 21, 4, 161, 0, 5, 2, 172]
abbrev dktX6_who_2 : List UInt8 := dkwX6_who_2 ++ dktX6_who_3
def dkwX6_who_1 : List UInt8 := [172, 42, 27, 182, 1, 32, 156, 0, 9, 42, 27, 182, 1, 32, 172, 42, 27, 182, 1, 96, 42, 180, 1, 84]
abbrev dktX6_who_1 : List UInt8 := dkwX6_who_1 ++ dktX6_who_2
def dkwX6_who_0 : List UInt8 := [27, 184, 0, 163, 153, 0, 19, 28, 184, 0, 156, 153, 0, 12, 29, 3, 8, 184, 0, 145, 154, 0, 5, 2]
abbrev dktX6_who_0 : List UInt8 := dkwX6_who_0 ++ dktX6_who_1
theorem dksX6_who_0 : cX6_who.data.toList.drop 0 = dktX6_who_0 := by decide +kernel
theorem dksX6_who_1 : cX6_who.data.toList.drop 24 = dktX6_who_1 := dk_seg dksX6_who_0 24 rfl rfl
theorem dksX6_who_2 : cX6_who.data.toList.drop 48 = dktX6_who_2 := dk_seg dksX6_who_1 24 rfl rfl
theorem dksX6_who_3 : cX6_who.data.toList.drop 72 = dktX6_who_3 := dk_seg dksX6_who_2 24 rfl rfl
theorem dksX6_who_4 : cX6_who.data.toList.drop 94 = dktX6_who_4 := dk_seg dksX6_who_3 22 rfl rfl
theorem dksX6_who_5 : cX6_who.data.toList.drop 118 = dktX6_who_5 := dk_seg dksX6_who_4 24 rfl rfl
theorem dX6_who_0 : decode cX6_who 0 = .ok (.iload_n 1, 1) := dk_27 (dk_at dksX6_who_0 0 rfl rfl)
theorem dX6_who_1 : decode cX6_who 1 = .ok (.invokestatic 163, 3) := dk_184 0 163 (dk_at dksX6_who_0 1 rfl rfl)
theorem dX6_who_4 : decode cX6_who 4 = .ok (.ifCond .eq 19, 3) := dk_153 0 19 (dk_at dksX6_who_0 4 rfl rfl)
theorem dX6_who_7 : decode cX6_who 7 = .ok (.iload_n 2, 1) := dk_28 (dk_at dksX6_who_0 7 rfl rfl)
theorem dX6_who_8 : decode cX6_who 8 = .ok (.invokestatic 156, 3) := dk_184 0 156 (dk_at dksX6_who_0 8 rfl rfl)
theorem dX6_who_11 : decode cX6_who 11 = .ok (.ifCond .eq 12, 3) := dk_153 0 12 (dk_at dksX6_who_0 11 rfl rfl)
theorem dX6_who_14 : decode cX6_who 14 = .ok (.iload_n 3, 1) := dk_29 (dk_at dksX6_who_0 14 rfl rfl)
theorem dX6_who_15 : decode cX6_who 15 = .ok (.iconst 0, 1) := dk_3 (dk_at dksX6_who_0 15 rfl rfl)
theorem dX6_who_16 : decode cX6_who 16 = .ok (.iconst 5, 1) := dk_8 (dk_at dksX6_who_0 16 rfl rfl)
theorem dX6_who_17 : decode cX6_who 17 = .ok (.invokestatic 145, 3) := dk_184 0 145 (dk_at dksX6_who_0 17 rfl rfl)
theorem dX6_who_20 : decode cX6_who 20 = .ok (.ifCond .ne 5, 3) := dk_154 0 5 (dk_at dksX6_who_0 20 rfl rfl)
theorem dX6_who_23 : decode cX6_who 23 = .ok (.iconst (-1), 1) := dk_2 (dk_at dksX6_who_0 23 rfl rfl)
theorem dX6_who_24 : decode cX6_who 24 = .ok (.ireturn, 1) := dk_172 (dk_at dksX6_who_1 0 rfl rfl)
theorem dX6_who_25 : decode cX6_who 25 = .ok (.aload_n 0, 1) := dk_42 (dk_at dksX6_who_1 1 rfl rfl)
theorem dX6_who_26 : decode cX6_who 26 = .ok (.iload_n 1, 1) := dk_27 (dk_at dksX6_who_1 2 rfl rfl)
theorem dX6_who_27 : decode cX6_who 27 = .ok (.invokevirtual 288, 3) := dk_182 1 32 (dk_at dksX6_who_1 3 rfl rfl)
theorem dX6_who_30 : decode cX6_who 30 = .ok (.ifCond .ge 9, 3) := dk_156 0 9 (dk_at dksX6_who_1 6 rfl rfl)
theorem dX6_who_33 : decode cX6_who 33 = .ok (.aload_n 0, 1) := dk_42 (dk_at dksX6_who_1 9 rfl rfl)
theorem dX6_who_34 : decode cX6_who 34 = .ok (.iload_n 1, 1) := dk_27 (dk_at dksX6_who_1 10 rfl rfl)
theorem dX6_who_35 : decode cX6_who 35 = .ok (.invokevirtual 288, 3) := dk_182 1 32 (dk_at dksX6_who_1 11 rfl rfl)
theorem dX6_who_38 : decode cX6_who 38 = .ok (.ireturn, 1) := dk_172 (dk_at dksX6_who_1 14 rfl rfl)
theorem dX6_who_39 : decode cX6_who 39 = .ok (.aload_n 0, 1) := dk_42 (dk_at dksX6_who_1 15 rfl rfl)
theorem dX6_who_40 : decode cX6_who 40 = .ok (.iload_n 1, 1) := dk_27 (dk_at dksX6_who_1 16 rfl rfl)
theorem dX6_who_41 : decode cX6_who 41 = .ok (.invokevirtual 352, 3) := dk_182 1 96 (dk_at dksX6_who_1 17 rfl rfl)
theorem dX6_who_44 : decode cX6_who 44 = .ok (.aload_n 0, 1) := dk_42 (dk_at dksX6_who_1 20 rfl rfl)
theorem dX6_who_45 : decode cX6_who 45 = .ok (.getfield 340, 3) := dk_180 1 84 (dk_at dksX6_who_1 21 rfl rfl)
theorem dX6_who_48 : decode cX6_who 48 = .ok (.bipush 6, 2) := dk_16 6 (dk_at dksX6_who_2 0 rfl rfl)
theorem dX6_who_50 : decode cX6_who 50 = .ok (.if_icmp .ge 10, 3) := dk_162 0 10 (dk_at dksX6_who_2 2 rfl rfl)
theorem dX6_who_53 : decode cX6_who 53 = .ok (.aload_n 0, 1) := dk_42 (dk_at dksX6_who_2 5 rfl rfl)
theorem dX6_who_54 : decode cX6_who 54 = .ok (.getfield 340, 3) := dk_180 1 84 (dk_at dksX6_who_2 6 rfl rfl)
theorem dX6_who_57 : decode cX6_who 57 = .ok (.goto 5, 3) := dk_167 0 5 (dk_at dksX6_who_2 9 rfl rfl)
theorem dX6_who_60 : decode cX6_who 60 = .ok (.bipush 6, 2) := dk_16 6 (dk_at dksX6_who_2 12 rfl rfl)
theorem dX6_who_62 : decode cX6_who 62 = .ok (.istore 4, 2) := dk_54 4 (dk_at dksX6_who_2 14 rfl rfl)
theorem dX6_who_64 : decode cX6_who 64 = .ok (.iload_n 3, 1) := dk_29 (dk_at dksX6_who_2 16 rfl rfl)
theorem dX6_who_65 : decode cX6_who 65 = .ok (.iload 4, 2) := dk_21 4 (dk_at dksX6_who_2 17 rfl rfl)
theorem dX6_who_67 : decode cX6_who 67 = .ok (.if_icmp .lt 5, 3) := dk_161 0 5 (dk_at dksX6_who_2 19 rfl rfl)
theorem dX6_who_70 : decode cX6_who 70 = .ok (.iconst (-1), 1) := dk_2 (dk_at dksX6_who_2 22 rfl rfl)
theorem dX6_who_71 : decode cX6_who 71 = .ok (.ireturn, 1) := dk_172 (dk_at dksX6_who_2 23 rfl rfl)
theorem dX6_who_72 : decode cX6_who 72 = .ok (.iconst 0, 1) := dk_3 (dk_at dksX6_who_3 0 rfl rfl)
theorem dX6_who_73 : decode cX6_who 73 = .ok (.istore 5, 2) := dk_54 5 (dk_at dksX6_who_3 1 rfl rfl)
theorem dX6_who_75 : decode cX6_who 75 = .ok (.iconst 0, 1) := dk_3 (dk_at dksX6_who_3 3 rfl rfl)
theorem dX6_who_76 : decode cX6_who 76 = .ok (.istore 6, 2) := dk_54 6 (dk_at dksX6_who_3 4 rfl rfl)
theorem dX6_who_78 : decode cX6_who 78 = .ok (.iload 6, 2) := dk_21 6 (dk_at dksX6_who_3 6 rfl rfl)
theorem dX6_who_80 : decode cX6_who 80 = .ok (.aload_n 0, 1) := dk_42 (dk_at dksX6_who_3 8 rfl rfl)
theorem dX6_who_81 : decode cX6_who 81 = .ok (.getfield 149, 3) := dk_180 0 149 (dk_at dksX6_who_3 9 rfl rfl)
theorem dX6_who_84 : decode cX6_who 84 = .ok (.if_icmp .gt 46, 3) := dk_163 0 46 (dk_at dksX6_who_3 12 rfl rfl)
theorem dX6_who_87 : decode cX6_who 87 = .ok (.aload_n 0, 1) := dk_42 (dk_at dksX6_who_3 15 rfl rfl)
theorem dX6_who_88 : decode cX6_who 88 = .ok (.iload 4, 2) := dk_21 4 (dk_at dksX6_who_3 16 rfl rfl)
theorem dX6_who_90 : decode cX6_who 90 = .ok (.iload_n 2, 1) := dk_28 (dk_at dksX6_who_3 18 rfl rfl)
theorem dX6_who_91 : decode cX6_who 91 = .ok (.iload_n 3, 1) := dk_29 (dk_at dksX6_who_3 19 rfl rfl)
theorem dX6_who_92 : decode cX6_who 92 = .ok (.iload 6, 2) := dk_21 6 (dk_at dksX6_who_3 20 rfl rfl)
theorem dX6_who_94 : decode cX6_who 94 = .ok (.invokevirtual 355, 3) := dk_182 1 99 (dk_at dksX6_who_4 0 rfl rfl)
theorem dX6_who_97 : decode cX6_who 97 = .ok (.ifCond .le 27, 3) := dk_158 0 27 (dk_at dksX6_who_4 3 rfl rfl)
theorem dX6_who_100 : decode cX6_who 100 = .ok (.iload 5, 2) := dk_21 5 (dk_at dksX6_who_4 6 rfl rfl)
theorem dX6_who_102 : decode cX6_who 102 = .ok (.iload 6, 2) := dk_21 6 (dk_at dksX6_who_4 8 rfl rfl)
theorem dX6_who_104 : decode cX6_who 104 = .ok (.aload_n 0, 1) := dk_42 (dk_at dksX6_who_4 10 rfl rfl)
theorem dX6_who_105 : decode cX6_who 105 = .ok (.getfield 149, 3) := dk_180 0 149 (dk_at dksX6_who_4 11 rfl rfl)
theorem dX6_who_108 : decode cX6_who 108 = .ok (.if_icmp .ne 9, 3) := dk_160 0 9 (dk_at dksX6_who_4 14 rfl rfl)
theorem dX6_who_111 : decode cX6_who 111 = .ok (.sipush 128, 3) := dk_17 0 128 (dk_at dksX6_who_4 17 rfl rfl)
theorem dX6_who_114 : decode cX6_who 114 = .ok (.goto 7, 3) := dk_167 0 7 (dk_at dksX6_who_4 20 rfl rfl)
theorem dX6_who_117 : decode cX6_who 117 = .ok (.iconst 1, 1) := dk_4 (dk_at dksX6_who_4 23 rfl rfl)
theorem dX6_who_118 : decode cX6_who 118 = .ok (.iload 6, 2) := dk_21 6 (dk_at dksX6_who_5 0 rfl rfl)
theorem dX6_who_120 : decode cX6_who 120 = .ok (.ishl, 1) := dk_120 (dk_at dksX6_who_5 2 rfl rfl)
theorem dX6_who_121 : decode cX6_who 121 = .ok (.ior, 1) := dk_128 (dk_at dksX6_who_5 3 rfl rfl)
theorem dX6_who_122 : decode cX6_who 122 = .ok (.istore 5, 2) := dk_54 5 (dk_at dksX6_who_5 4 rfl rfl)
theorem dX6_who_124 : decode cX6_who 124 = .ok (.iinc 6 1, 3) := dk_132 6 1 (dk_at dksX6_who_5 6 rfl rfl)
theorem dX6_who_127 : decode cX6_who 127 = .ok (.goto (-49), 3) := dk_167 255 207 (dk_at dksX6_who_5 9 rfl rfl)
theorem dX6_who_130 : decode cX6_who 130 = .ok (.iload 5, 2) := dk_21 5 (dk_at dksX6_who_5 12 rfl rfl)
theorem dX6_who_132 : decode cX6_who 132 = .ok (.ireturn, 1) := dk_172 (dk_at dksX6_who_5 14 rfl rfl)
abbrev cX6_laySeen : ByteArray := prog_25_method_67_code
def yX6_laySeen : MethodName := ⟨RX6, "laySeen", "(I)V"⟩
def dkwX6_laySeen_1 : List UInt8 := [28, 42, 180, 0, 135, 16, 60, 27, 104, 28, 96, 47, 136, 79, 132, 2, 1, 167, 255, 227, 177]
abbrev dktX6_laySeen_1 : List UInt8 := dkwX6_laySeen_1 ++ []
def dkwX6_laySeen_0 : List UInt8 := [42, 42, 180, 0, 132, 27, 46, 181, 1, 84, 3, 61, 28, 42, 180, 1, 84, 162, 0, 27, 42, 180, 0, 108]
abbrev dktX6_laySeen_0 : List UInt8 := dkwX6_laySeen_0 ++ dktX6_laySeen_1
theorem dksX6_laySeen_0 : cX6_laySeen.data.toList.drop 0 = dktX6_laySeen_0 := by decide +kernel
theorem dksX6_laySeen_1 : cX6_laySeen.data.toList.drop 24 = dktX6_laySeen_1 := dk_seg dksX6_laySeen_0 24 rfl rfl
theorem dX6_laySeen_0 : decode cX6_laySeen 0 = .ok (.aload_n 0, 1) := dk_42 (dk_at dksX6_laySeen_0 0 rfl rfl)
theorem dX6_laySeen_1 : decode cX6_laySeen 1 = .ok (.aload_n 0, 1) := dk_42 (dk_at dksX6_laySeen_0 1 rfl rfl)
theorem dX6_laySeen_2 : decode cX6_laySeen 2 = .ok (.getfield 132, 3) := dk_180 0 132 (dk_at dksX6_laySeen_0 2 rfl rfl)
theorem dX6_laySeen_5 : decode cX6_laySeen 5 = .ok (.iload_n 1, 1) := dk_27 (dk_at dksX6_laySeen_0 5 rfl rfl)
theorem dX6_laySeen_6 : decode cX6_laySeen 6 = .ok (.iaload, 1) := dk_46 (dk_at dksX6_laySeen_0 6 rfl rfl)
theorem dX6_laySeen_7 : decode cX6_laySeen 7 = .ok (.putfield 340, 3) := dk_181 1 84 (dk_at dksX6_laySeen_0 7 rfl rfl)
theorem dX6_laySeen_10 : decode cX6_laySeen 10 = .ok (.iconst 0, 1) := dk_3 (dk_at dksX6_laySeen_0 10 rfl rfl)
theorem dX6_laySeen_11 : decode cX6_laySeen 11 = .ok (.istore_n 2, 1) := dk_61 (dk_at dksX6_laySeen_0 11 rfl rfl)
theorem dX6_laySeen_12 : decode cX6_laySeen 12 = .ok (.iload_n 2, 1) := dk_28 (dk_at dksX6_laySeen_0 12 rfl rfl)
theorem dX6_laySeen_13 : decode cX6_laySeen 13 = .ok (.aload_n 0, 1) := dk_42 (dk_at dksX6_laySeen_0 13 rfl rfl)
theorem dX6_laySeen_14 : decode cX6_laySeen 14 = .ok (.getfield 340, 3) := dk_180 1 84 (dk_at dksX6_laySeen_0 14 rfl rfl)
theorem dX6_laySeen_17 : decode cX6_laySeen 17 = .ok (.if_icmp .ge 27, 3) := dk_162 0 27 (dk_at dksX6_laySeen_0 17 rfl rfl)
theorem dX6_laySeen_20 : decode cX6_laySeen 20 = .ok (.aload_n 0, 1) := dk_42 (dk_at dksX6_laySeen_0 20 rfl rfl)
theorem dX6_laySeen_21 : decode cX6_laySeen 21 = .ok (.getfield 108, 3) := dk_180 0 108 (dk_at dksX6_laySeen_0 21 rfl rfl)
theorem dX6_laySeen_24 : decode cX6_laySeen 24 = .ok (.iload_n 2, 1) := dk_28 (dk_at dksX6_laySeen_1 0 rfl rfl)
theorem dX6_laySeen_25 : decode cX6_laySeen 25 = .ok (.aload_n 0, 1) := dk_42 (dk_at dksX6_laySeen_1 1 rfl rfl)
theorem dX6_laySeen_26 : decode cX6_laySeen 26 = .ok (.getfield 135, 3) := dk_180 0 135 (dk_at dksX6_laySeen_1 2 rfl rfl)
theorem dX6_laySeen_29 : decode cX6_laySeen 29 = .ok (.bipush 60, 2) := dk_16 60 (dk_at dksX6_laySeen_1 5 rfl rfl)
theorem dX6_laySeen_31 : decode cX6_laySeen 31 = .ok (.iload_n 1, 1) := dk_27 (dk_at dksX6_laySeen_1 7 rfl rfl)
theorem dX6_laySeen_32 : decode cX6_laySeen 32 = .ok (.imul, 1) := dk_104 (dk_at dksX6_laySeen_1 8 rfl rfl)
theorem dX6_laySeen_33 : decode cX6_laySeen 33 = .ok (.iload_n 2, 1) := dk_28 (dk_at dksX6_laySeen_1 9 rfl rfl)
theorem dX6_laySeen_34 : decode cX6_laySeen 34 = .ok (.iadd, 1) := dk_96 (dk_at dksX6_laySeen_1 10 rfl rfl)
theorem dX6_laySeen_35 : decode cX6_laySeen 35 = .ok (.laload, 1) := dk_47 (dk_at dksX6_laySeen_1 11 rfl rfl)
theorem dX6_laySeen_36 : decode cX6_laySeen 36 = .ok (.l2i, 1) := dk_136 (dk_at dksX6_laySeen_1 12 rfl rfl)
theorem dX6_laySeen_37 : decode cX6_laySeen 37 = .ok (.iastore, 1) := dk_79 (dk_at dksX6_laySeen_1 13 rfl rfl)
theorem dX6_laySeen_38 : decode cX6_laySeen 38 = .ok (.iinc 2 1, 3) := dk_132 2 1 (dk_at dksX6_laySeen_1 14 rfl rfl)
theorem dX6_laySeen_41 : decode cX6_laySeen 41 = .ok (.goto (-29), 3) := dk_167 255 227 (dk_at dksX6_laySeen_1 17 rfl rfl)
theorem dX6_laySeen_44 : decode cX6_laySeen 44 = .ok (.return_, 1) := dk_177 (dk_at dksX6_laySeen_1 20 rfl rfl)
abbrev cX6_waysOf : ByteArray := prog_25_method_69_code
def yX6_waysOf : MethodName := ⟨RX6, "waysOf", "(IIII)I"⟩
def dkwX6_waysOf_1 : List UInt8 := [42, 182, 1, 44, 21, 5, 172]
abbrev dktX6_waysOf_1 : List UInt8 := dkwX6_waysOf_1 ++ []
def dkwX6_waysOf_0 : List UInt8 := [42, 29, 181, 1, 87, 42, 21, 4, 181, 1, 90, 42, 182, 1, 38, 42, 3, 27, 28, 182, 1, 93, 54, 5]
abbrev dktX6_waysOf_0 : List UInt8 := dkwX6_waysOf_0 ++ dktX6_waysOf_1
theorem dksX6_waysOf_0 : cX6_waysOf.data.toList.drop 0 = dktX6_waysOf_0 := by decide +kernel
theorem dksX6_waysOf_1 : cX6_waysOf.data.toList.drop 24 = dktX6_waysOf_1 := dk_seg dksX6_waysOf_0 24 rfl rfl
theorem dX6_waysOf_0 : decode cX6_waysOf 0 = .ok (.aload_n 0, 1) := dk_42 (dk_at dksX6_waysOf_0 0 rfl rfl)
theorem dX6_waysOf_1 : decode cX6_waysOf 1 = .ok (.iload_n 3, 1) := dk_29 (dk_at dksX6_waysOf_0 1 rfl rfl)
theorem dX6_waysOf_2 : decode cX6_waysOf 2 = .ok (.putfield 343, 3) := dk_181 1 87 (dk_at dksX6_waysOf_0 2 rfl rfl)
theorem dX6_waysOf_5 : decode cX6_waysOf 5 = .ok (.aload_n 0, 1) := dk_42 (dk_at dksX6_waysOf_0 5 rfl rfl)
theorem dX6_waysOf_6 : decode cX6_waysOf 6 = .ok (.iload 4, 2) := dk_21 4 (dk_at dksX6_waysOf_0 6 rfl rfl)
theorem dX6_waysOf_8 : decode cX6_waysOf 8 = .ok (.putfield 346, 3) := dk_181 1 90 (dk_at dksX6_waysOf_0 8 rfl rfl)
theorem dX6_waysOf_11 : decode cX6_waysOf 11 = .ok (.aload_n 0, 1) := dk_42 (dk_at dksX6_waysOf_0 11 rfl rfl)
theorem dX6_waysOf_12 : decode cX6_waysOf 12 = .ok (.invokevirtual 294, 3) := dk_182 1 38 (dk_at dksX6_waysOf_0 12 rfl rfl)
theorem dX6_waysOf_15 : decode cX6_waysOf 15 = .ok (.aload_n 0, 1) := dk_42 (dk_at dksX6_waysOf_0 15 rfl rfl)
theorem dX6_waysOf_16 : decode cX6_waysOf 16 = .ok (.iconst 0, 1) := dk_3 (dk_at dksX6_waysOf_0 16 rfl rfl)
theorem dX6_waysOf_17 : decode cX6_waysOf 17 = .ok (.iload_n 1, 1) := dk_27 (dk_at dksX6_waysOf_0 17 rfl rfl)
theorem dX6_waysOf_18 : decode cX6_waysOf 18 = .ok (.iload_n 2, 1) := dk_28 (dk_at dksX6_waysOf_0 18 rfl rfl)
theorem dX6_waysOf_19 : decode cX6_waysOf 19 = .ok (.invokevirtual 349, 3) := dk_182 1 93 (dk_at dksX6_waysOf_0 19 rfl rfl)
theorem dX6_waysOf_22 : decode cX6_waysOf 22 = .ok (.istore 5, 2) := dk_54 5 (dk_at dksX6_waysOf_0 22 rfl rfl)
theorem dX6_waysOf_24 : decode cX6_waysOf 24 = .ok (.aload_n 0, 1) := dk_42 (dk_at dksX6_waysOf_1 0 rfl rfl)
theorem dX6_waysOf_25 : decode cX6_waysOf 25 = .ok (.invokevirtual 300, 3) := dk_182 1 44 (dk_at dksX6_waysOf_1 1 rfl rfl)
theorem dX6_waysOf_28 : decode cX6_waysOf 28 = .ok (.iload 5, 2) := dk_21 5 (dk_at dksX6_waysOf_1 4 rfl rfl)
theorem dX6_waysOf_30 : decode cX6_waysOf 30 = .ok (.ireturn, 1) := dk_172 (dk_at dksX6_waysOf_1 6 rfl rfl)
abbrev cX6_waysFrom : ByteArray := prog_25_method_68_code
def yX6_waysFrom : MethodName := ⟨RX6, "waysFrom", "(III)I"⟩
def dkwX6_waysFrom_7 : List UInt8 := [21, 4, 172]
abbrev dktX6_waysFrom_7 : List UInt8 := dkwX6_waysFrom_7 ++ []
def dkwX6_waysFrom_6 : List UInt8 := [160, 0, 17, 21, 4, 42, 27, 4, 96, 28, 29, 182, 1, 93, 96, 54, 4, 132, 5, 1, 167, 255, 144]
abbrev dktX6_waysFrom_6 : List UInt8 := dkwX6_waysFrom_6 ++ dktX6_waysFrom_7
def dkwX6_waysFrom_5 : List UInt8 := [42, 180, 0, 108, 27, 46, 2, 159, 0, 18, 42, 180, 0, 108, 27, 46, 42, 180, 0, 40, 29, 46]
abbrev dktX6_waysFrom_5 : List UInt8 := dkwX6_waysFrom_5 ++ dktX6_waysFrom_6
def dkwX6_waysFrom_4 : List UInt8 := [180, 0, 111, 16, 48, 27, 104, 21, 6, 96, 46, 79, 132, 6, 1, 167, 255, 227, 42, 21, 5, 182, 1, 41]
abbrev dktX6_waysFrom_4 : List UInt8 := dkwX6_waysFrom_4 ++ dktX6_waysFrom_5
def dkwX6_waysFrom_3 : List UInt8 := [159, 0, 6, 167, 0, 83, 3, 54, 6, 21, 6, 16, 48, 162, 0, 28, 42, 180, 0, 40, 21, 6, 42]
abbrev dktX6_waysFrom_3 : List UInt8 := dkwX6_waysFrom_3 ++ dktX6_waysFrom_4
def dkwX6_waysFrom_2 : List UInt8 := [21, 5, 42, 180, 0, 149, 163, 0, 109, 27, 42, 180, 1, 87, 160, 0, 15, 21, 5, 42, 180, 1, 90]
abbrev dktX6_waysFrom_2 : List UInt8 := dkwX6_waysFrom_2 ++ dktX6_waysFrom_3
def dkwX6_waysFrom_1 : List UInt8 := [16, 48, 27, 104, 21, 5, 96, 42, 180, 0, 40, 21, 5, 46, 79, 132, 5, 1, 167, 255, 227, 3, 54, 5]
abbrev dktX6_waysFrom_1 : List UInt8 := dkwX6_waysFrom_1 ++ dktX6_waysFrom_2
def dkwX6_waysFrom_0 : List UInt8 := [27, 28, 160, 0, 5, 4, 172, 3, 54, 4, 3, 54, 5, 21, 5, 16, 48, 162, 0, 28, 42, 180, 0, 111]
abbrev dktX6_waysFrom_0 : List UInt8 := dkwX6_waysFrom_0 ++ dktX6_waysFrom_1
theorem dksX6_waysFrom_0 : cX6_waysFrom.data.toList.drop 0 = dktX6_waysFrom_0 := by decide +kernel
theorem dksX6_waysFrom_1 : cX6_waysFrom.data.toList.drop 24 = dktX6_waysFrom_1 := dk_seg dksX6_waysFrom_0 24 rfl rfl
theorem dksX6_waysFrom_2 : cX6_waysFrom.data.toList.drop 48 = dktX6_waysFrom_2 := dk_seg dksX6_waysFrom_1 24 rfl rfl
theorem dksX6_waysFrom_3 : cX6_waysFrom.data.toList.drop 71 = dktX6_waysFrom_3 := dk_seg dksX6_waysFrom_2 23 rfl rfl
theorem dksX6_waysFrom_4 : cX6_waysFrom.data.toList.drop 94 = dktX6_waysFrom_4 := dk_seg dksX6_waysFrom_3 23 rfl rfl
theorem dksX6_waysFrom_5 : cX6_waysFrom.data.toList.drop 118 = dktX6_waysFrom_5 := dk_seg dksX6_waysFrom_4 24 rfl rfl
theorem dksX6_waysFrom_6 : cX6_waysFrom.data.toList.drop 140 = dktX6_waysFrom_6 := dk_seg dksX6_waysFrom_5 22 rfl rfl
theorem dksX6_waysFrom_7 : cX6_waysFrom.data.toList.drop 163 = dktX6_waysFrom_7 := dk_seg dksX6_waysFrom_6 23 rfl rfl
theorem dX6_waysFrom_0 : decode cX6_waysFrom 0 = .ok (.iload_n 1, 1) := dk_27 (dk_at dksX6_waysFrom_0 0 rfl rfl)
theorem dX6_waysFrom_1 : decode cX6_waysFrom 1 = .ok (.iload_n 2, 1) := dk_28 (dk_at dksX6_waysFrom_0 1 rfl rfl)
theorem dX6_waysFrom_2 : decode cX6_waysFrom 2 = .ok (.if_icmp .ne 5, 3) := dk_160 0 5 (dk_at dksX6_waysFrom_0 2 rfl rfl)
theorem dX6_waysFrom_5 : decode cX6_waysFrom 5 = .ok (.iconst 1, 1) := dk_4 (dk_at dksX6_waysFrom_0 5 rfl rfl)
theorem dX6_waysFrom_6 : decode cX6_waysFrom 6 = .ok (.ireturn, 1) := dk_172 (dk_at dksX6_waysFrom_0 6 rfl rfl)
theorem dX6_waysFrom_7 : decode cX6_waysFrom 7 = .ok (.iconst 0, 1) := dk_3 (dk_at dksX6_waysFrom_0 7 rfl rfl)
theorem dX6_waysFrom_8 : decode cX6_waysFrom 8 = .ok (.istore 4, 2) := dk_54 4 (dk_at dksX6_waysFrom_0 8 rfl rfl)
theorem dX6_waysFrom_10 : decode cX6_waysFrom 10 = .ok (.iconst 0, 1) := dk_3 (dk_at dksX6_waysFrom_0 10 rfl rfl)
theorem dX6_waysFrom_11 : decode cX6_waysFrom 11 = .ok (.istore 5, 2) := dk_54 5 (dk_at dksX6_waysFrom_0 11 rfl rfl)
theorem dX6_waysFrom_13 : decode cX6_waysFrom 13 = .ok (.iload 5, 2) := dk_21 5 (dk_at dksX6_waysFrom_0 13 rfl rfl)
theorem dX6_waysFrom_15 : decode cX6_waysFrom 15 = .ok (.bipush 48, 2) := dk_16 48 (dk_at dksX6_waysFrom_0 15 rfl rfl)
theorem dX6_waysFrom_17 : decode cX6_waysFrom 17 = .ok (.if_icmp .ge 28, 3) := dk_162 0 28 (dk_at dksX6_waysFrom_0 17 rfl rfl)
theorem dX6_waysFrom_20 : decode cX6_waysFrom 20 = .ok (.aload_n 0, 1) := dk_42 (dk_at dksX6_waysFrom_0 20 rfl rfl)
theorem dX6_waysFrom_21 : decode cX6_waysFrom 21 = .ok (.getfield 111, 3) := dk_180 0 111 (dk_at dksX6_waysFrom_0 21 rfl rfl)
theorem dX6_waysFrom_24 : decode cX6_waysFrom 24 = .ok (.bipush 48, 2) := dk_16 48 (dk_at dksX6_waysFrom_1 0 rfl rfl)
theorem dX6_waysFrom_26 : decode cX6_waysFrom 26 = .ok (.iload_n 1, 1) := dk_27 (dk_at dksX6_waysFrom_1 2 rfl rfl)
theorem dX6_waysFrom_27 : decode cX6_waysFrom 27 = .ok (.imul, 1) := dk_104 (dk_at dksX6_waysFrom_1 3 rfl rfl)
theorem dX6_waysFrom_28 : decode cX6_waysFrom 28 = .ok (.iload 5, 2) := dk_21 5 (dk_at dksX6_waysFrom_1 4 rfl rfl)
theorem dX6_waysFrom_30 : decode cX6_waysFrom 30 = .ok (.iadd, 1) := dk_96 (dk_at dksX6_waysFrom_1 6 rfl rfl)
theorem dX6_waysFrom_31 : decode cX6_waysFrom 31 = .ok (.aload_n 0, 1) := dk_42 (dk_at dksX6_waysFrom_1 7 rfl rfl)
theorem dX6_waysFrom_32 : decode cX6_waysFrom 32 = .ok (.getfield 40, 3) := dk_180 0 40 (dk_at dksX6_waysFrom_1 8 rfl rfl)
theorem dX6_waysFrom_35 : decode cX6_waysFrom 35 = .ok (.iload 5, 2) := dk_21 5 (dk_at dksX6_waysFrom_1 11 rfl rfl)
theorem dX6_waysFrom_37 : decode cX6_waysFrom 37 = .ok (.iaload, 1) := dk_46 (dk_at dksX6_waysFrom_1 13 rfl rfl)
theorem dX6_waysFrom_38 : decode cX6_waysFrom 38 = .ok (.iastore, 1) := dk_79 (dk_at dksX6_waysFrom_1 14 rfl rfl)
theorem dX6_waysFrom_39 : decode cX6_waysFrom 39 = .ok (.iinc 5 1, 3) := dk_132 5 1 (dk_at dksX6_waysFrom_1 15 rfl rfl)
theorem dX6_waysFrom_42 : decode cX6_waysFrom 42 = .ok (.goto (-29), 3) := dk_167 255 227 (dk_at dksX6_waysFrom_1 18 rfl rfl)
theorem dX6_waysFrom_45 : decode cX6_waysFrom 45 = .ok (.iconst 0, 1) := dk_3 (dk_at dksX6_waysFrom_1 21 rfl rfl)
theorem dX6_waysFrom_46 : decode cX6_waysFrom 46 = .ok (.istore 5, 2) := dk_54 5 (dk_at dksX6_waysFrom_1 22 rfl rfl)
theorem dX6_waysFrom_48 : decode cX6_waysFrom 48 = .ok (.iload 5, 2) := dk_21 5 (dk_at dksX6_waysFrom_2 0 rfl rfl)
theorem dX6_waysFrom_50 : decode cX6_waysFrom 50 = .ok (.aload_n 0, 1) := dk_42 (dk_at dksX6_waysFrom_2 2 rfl rfl)
theorem dX6_waysFrom_51 : decode cX6_waysFrom 51 = .ok (.getfield 149, 3) := dk_180 0 149 (dk_at dksX6_waysFrom_2 3 rfl rfl)
theorem dX6_waysFrom_54 : decode cX6_waysFrom 54 = .ok (.if_icmp .gt 109, 3) := dk_163 0 109 (dk_at dksX6_waysFrom_2 6 rfl rfl)
theorem dX6_waysFrom_57 : decode cX6_waysFrom 57 = .ok (.iload_n 1, 1) := dk_27 (dk_at dksX6_waysFrom_2 9 rfl rfl)
theorem dX6_waysFrom_58 : decode cX6_waysFrom 58 = .ok (.aload_n 0, 1) := dk_42 (dk_at dksX6_waysFrom_2 10 rfl rfl)
theorem dX6_waysFrom_59 : decode cX6_waysFrom 59 = .ok (.getfield 343, 3) := dk_180 1 87 (dk_at dksX6_waysFrom_2 11 rfl rfl)
theorem dX6_waysFrom_62 : decode cX6_waysFrom 62 = .ok (.if_icmp .ne 15, 3) := dk_160 0 15 (dk_at dksX6_waysFrom_2 14 rfl rfl)
theorem dX6_waysFrom_65 : decode cX6_waysFrom 65 = .ok (.iload 5, 2) := dk_21 5 (dk_at dksX6_waysFrom_2 17 rfl rfl)
theorem dX6_waysFrom_67 : decode cX6_waysFrom 67 = .ok (.aload_n 0, 1) := dk_42 (dk_at dksX6_waysFrom_2 19 rfl rfl)
theorem dX6_waysFrom_68 : decode cX6_waysFrom 68 = .ok (.getfield 346, 3) := dk_180 1 90 (dk_at dksX6_waysFrom_2 20 rfl rfl)
theorem dX6_waysFrom_71 : decode cX6_waysFrom 71 = .ok (.if_icmp .eq 6, 3) := dk_159 0 6 (dk_at dksX6_waysFrom_3 0 rfl rfl)
theorem dX6_waysFrom_74 : decode cX6_waysFrom 74 = .ok (.goto 83, 3) := dk_167 0 83 (dk_at dksX6_waysFrom_3 3 rfl rfl)
theorem dX6_waysFrom_77 : decode cX6_waysFrom 77 = .ok (.iconst 0, 1) := dk_3 (dk_at dksX6_waysFrom_3 6 rfl rfl)
theorem dX6_waysFrom_78 : decode cX6_waysFrom 78 = .ok (.istore 6, 2) := dk_54 6 (dk_at dksX6_waysFrom_3 7 rfl rfl)
theorem dX6_waysFrom_80 : decode cX6_waysFrom 80 = .ok (.iload 6, 2) := dk_21 6 (dk_at dksX6_waysFrom_3 9 rfl rfl)
theorem dX6_waysFrom_82 : decode cX6_waysFrom 82 = .ok (.bipush 48, 2) := dk_16 48 (dk_at dksX6_waysFrom_3 11 rfl rfl)
theorem dX6_waysFrom_84 : decode cX6_waysFrom 84 = .ok (.if_icmp .ge 28, 3) := dk_162 0 28 (dk_at dksX6_waysFrom_3 13 rfl rfl)
theorem dX6_waysFrom_87 : decode cX6_waysFrom 87 = .ok (.aload_n 0, 1) := dk_42 (dk_at dksX6_waysFrom_3 16 rfl rfl)
theorem dX6_waysFrom_88 : decode cX6_waysFrom 88 = .ok (.getfield 40, 3) := dk_180 0 40 (dk_at dksX6_waysFrom_3 17 rfl rfl)
theorem dX6_waysFrom_91 : decode cX6_waysFrom 91 = .ok (.iload 6, 2) := dk_21 6 (dk_at dksX6_waysFrom_3 20 rfl rfl)
theorem dX6_waysFrom_93 : decode cX6_waysFrom 93 = .ok (.aload_n 0, 1) := dk_42 (dk_at dksX6_waysFrom_3 22 rfl rfl)
theorem dX6_waysFrom_94 : decode cX6_waysFrom 94 = .ok (.getfield 111, 3) := dk_180 0 111 (dk_at dksX6_waysFrom_4 0 rfl rfl)
theorem dX6_waysFrom_97 : decode cX6_waysFrom 97 = .ok (.bipush 48, 2) := dk_16 48 (dk_at dksX6_waysFrom_4 3 rfl rfl)
theorem dX6_waysFrom_99 : decode cX6_waysFrom 99 = .ok (.iload_n 1, 1) := dk_27 (dk_at dksX6_waysFrom_4 5 rfl rfl)
theorem dX6_waysFrom_100 : decode cX6_waysFrom 100 = .ok (.imul, 1) := dk_104 (dk_at dksX6_waysFrom_4 6 rfl rfl)
theorem dX6_waysFrom_101 : decode cX6_waysFrom 101 = .ok (.iload 6, 2) := dk_21 6 (dk_at dksX6_waysFrom_4 7 rfl rfl)
theorem dX6_waysFrom_103 : decode cX6_waysFrom 103 = .ok (.iadd, 1) := dk_96 (dk_at dksX6_waysFrom_4 9 rfl rfl)
theorem dX6_waysFrom_104 : decode cX6_waysFrom 104 = .ok (.iaload, 1) := dk_46 (dk_at dksX6_waysFrom_4 10 rfl rfl)
theorem dX6_waysFrom_105 : decode cX6_waysFrom 105 = .ok (.iastore, 1) := dk_79 (dk_at dksX6_waysFrom_4 11 rfl rfl)
theorem dX6_waysFrom_106 : decode cX6_waysFrom 106 = .ok (.iinc 6 1, 3) := dk_132 6 1 (dk_at dksX6_waysFrom_4 12 rfl rfl)
theorem dX6_waysFrom_109 : decode cX6_waysFrom 109 = .ok (.goto (-29), 3) := dk_167 255 227 (dk_at dksX6_waysFrom_4 15 rfl rfl)
theorem dX6_waysFrom_112 : decode cX6_waysFrom 112 = .ok (.aload_n 0, 1) := dk_42 (dk_at dksX6_waysFrom_4 18 rfl rfl)
theorem dX6_waysFrom_113 : decode cX6_waysFrom 113 = .ok (.iload 5, 2) := dk_21 5 (dk_at dksX6_waysFrom_4 19 rfl rfl)
theorem dX6_waysFrom_115 : decode cX6_waysFrom 115 = .ok (.invokevirtual 297, 3) := dk_182 1 41 (dk_at dksX6_waysFrom_4 21 rfl rfl)
theorem dX6_waysFrom_118 : decode cX6_waysFrom 118 = .ok (.aload_n 0, 1) := dk_42 (dk_at dksX6_waysFrom_5 0 rfl rfl)
theorem dX6_waysFrom_119 : decode cX6_waysFrom 119 = .ok (.getfield 108, 3) := dk_180 0 108 (dk_at dksX6_waysFrom_5 1 rfl rfl)
theorem dX6_waysFrom_122 : decode cX6_waysFrom 122 = .ok (.iload_n 1, 1) := dk_27 (dk_at dksX6_waysFrom_5 4 rfl rfl)
theorem dX6_waysFrom_123 : decode cX6_waysFrom 123 = .ok (.iaload, 1) := dk_46 (dk_at dksX6_waysFrom_5 5 rfl rfl)
theorem dX6_waysFrom_124 : decode cX6_waysFrom 124 = .ok (.iconst (-1), 1) := dk_2 (dk_at dksX6_waysFrom_5 6 rfl rfl)
theorem dX6_waysFrom_125 : decode cX6_waysFrom 125 = .ok (.if_icmp .eq 18, 3) := dk_159 0 18 (dk_at dksX6_waysFrom_5 7 rfl rfl)
theorem dX6_waysFrom_128 : decode cX6_waysFrom 128 = .ok (.aload_n 0, 1) := dk_42 (dk_at dksX6_waysFrom_5 10 rfl rfl)
theorem dX6_waysFrom_129 : decode cX6_waysFrom 129 = .ok (.getfield 108, 3) := dk_180 0 108 (dk_at dksX6_waysFrom_5 11 rfl rfl)
theorem dX6_waysFrom_132 : decode cX6_waysFrom 132 = .ok (.iload_n 1, 1) := dk_27 (dk_at dksX6_waysFrom_5 14 rfl rfl)
theorem dX6_waysFrom_133 : decode cX6_waysFrom 133 = .ok (.iaload, 1) := dk_46 (dk_at dksX6_waysFrom_5 15 rfl rfl)
theorem dX6_waysFrom_134 : decode cX6_waysFrom 134 = .ok (.aload_n 0, 1) := dk_42 (dk_at dksX6_waysFrom_5 16 rfl rfl)
theorem dX6_waysFrom_135 : decode cX6_waysFrom 135 = .ok (.getfield 40, 3) := dk_180 0 40 (dk_at dksX6_waysFrom_5 17 rfl rfl)
theorem dX6_waysFrom_138 : decode cX6_waysFrom 138 = .ok (.iload_n 3, 1) := dk_29 (dk_at dksX6_waysFrom_5 20 rfl rfl)
theorem dX6_waysFrom_139 : decode cX6_waysFrom 139 = .ok (.iaload, 1) := dk_46 (dk_at dksX6_waysFrom_5 21 rfl rfl)
theorem dX6_waysFrom_140 : decode cX6_waysFrom 140 = .ok (.if_icmp .ne 17, 3) := dk_160 0 17 (dk_at dksX6_waysFrom_6 0 rfl rfl)
theorem dX6_waysFrom_143 : decode cX6_waysFrom 143 = .ok (.iload 4, 2) := dk_21 4 (dk_at dksX6_waysFrom_6 3 rfl rfl)
theorem dX6_waysFrom_145 : decode cX6_waysFrom 145 = .ok (.aload_n 0, 1) := dk_42 (dk_at dksX6_waysFrom_6 5 rfl rfl)
theorem dX6_waysFrom_146 : decode cX6_waysFrom 146 = .ok (.iload_n 1, 1) := dk_27 (dk_at dksX6_waysFrom_6 6 rfl rfl)
theorem dX6_waysFrom_147 : decode cX6_waysFrom 147 = .ok (.iconst 1, 1) := dk_4 (dk_at dksX6_waysFrom_6 7 rfl rfl)
theorem dX6_waysFrom_148 : decode cX6_waysFrom 148 = .ok (.iadd, 1) := dk_96 (dk_at dksX6_waysFrom_6 8 rfl rfl)
theorem dX6_waysFrom_149 : decode cX6_waysFrom 149 = .ok (.iload_n 2, 1) := dk_28 (dk_at dksX6_waysFrom_6 9 rfl rfl)
theorem dX6_waysFrom_150 : decode cX6_waysFrom 150 = .ok (.iload_n 3, 1) := dk_29 (dk_at dksX6_waysFrom_6 10 rfl rfl)
theorem dX6_waysFrom_151 : decode cX6_waysFrom 151 = .ok (.invokevirtual 349, 3) := dk_182 1 93 (dk_at dksX6_waysFrom_6 11 rfl rfl)
theorem dX6_waysFrom_154 : decode cX6_waysFrom 154 = .ok (.iadd, 1) := dk_96 (dk_at dksX6_waysFrom_6 14 rfl rfl)
theorem dX6_waysFrom_155 : decode cX6_waysFrom 155 = .ok (.istore 4, 2) := dk_54 4 (dk_at dksX6_waysFrom_6 15 rfl rfl)
theorem dX6_waysFrom_157 : decode cX6_waysFrom 157 = .ok (.iinc 5 1, 3) := dk_132 5 1 (dk_at dksX6_waysFrom_6 17 rfl rfl)
theorem dX6_waysFrom_160 : decode cX6_waysFrom 160 = .ok (.goto (-112), 3) := dk_167 255 144 (dk_at dksX6_waysFrom_6 20 rfl rfl)
theorem dX6_waysFrom_163 : decode cX6_waysFrom 163 = .ok (.iload 4, 2) := dk_21 4 (dk_at dksX6_waysFrom_7 0 rfl rfl)
theorem dX6_waysFrom_165 : decode cX6_waysFrom 165 = .ok (.ireturn, 1) := dk_172 (dk_at dksX6_waysFrom_7 2 rfl rfl)
abbrev cX6_ways : ByteArray := prog_25_method_71_code
def yX6_ways : MethodName := ⟨RX6, "ways", "(II)I"⟩
def dkwX6_ways_2 : List UInt8 := [180, 1, 84, 167, 0, 5, 16, 6, 28, 2, 3, 182, 1, 99, 172]
abbrev dktX6_ways_2 : List UInt8 := dkwX6_ways_2 ++ []
def dkwX6_ways_1 : List UInt8 := [42, 27, 182, 1, 32, 172, 42, 27, 182, 1, 96, 42, 42, 180, 1, 84, 16, 6, 162, 0, 10, 42]
abbrev dktX6_ways_1 : List UInt8 := dkwX6_ways_1 ++ dktX6_ways_2
def dkwX6_ways_0 : List UInt8 := [27, 184, 0, 163, 153, 0, 10, 28, 184, 0, 156, 154, 0, 5, 2, 172, 42, 27, 182, 1, 32, 156, 0, 9]
abbrev dktX6_ways_0 : List UInt8 := dkwX6_ways_0 ++ dktX6_ways_1
theorem dksX6_ways_0 : cX6_ways.data.toList.drop 0 = dktX6_ways_0 := by decide +kernel
theorem dksX6_ways_1 : cX6_ways.data.toList.drop 24 = dktX6_ways_1 := dk_seg dksX6_ways_0 24 rfl rfl
theorem dksX6_ways_2 : cX6_ways.data.toList.drop 46 = dktX6_ways_2 := dk_seg dksX6_ways_1 22 rfl rfl
theorem dX6_ways_0 : decode cX6_ways 0 = .ok (.iload_n 1, 1) := dk_27 (dk_at dksX6_ways_0 0 rfl rfl)
theorem dX6_ways_1 : decode cX6_ways 1 = .ok (.invokestatic 163, 3) := dk_184 0 163 (dk_at dksX6_ways_0 1 rfl rfl)
theorem dX6_ways_4 : decode cX6_ways 4 = .ok (.ifCond .eq 10, 3) := dk_153 0 10 (dk_at dksX6_ways_0 4 rfl rfl)
theorem dX6_ways_7 : decode cX6_ways 7 = .ok (.iload_n 2, 1) := dk_28 (dk_at dksX6_ways_0 7 rfl rfl)
theorem dX6_ways_8 : decode cX6_ways 8 = .ok (.invokestatic 156, 3) := dk_184 0 156 (dk_at dksX6_ways_0 8 rfl rfl)
theorem dX6_ways_11 : decode cX6_ways 11 = .ok (.ifCond .ne 5, 3) := dk_154 0 5 (dk_at dksX6_ways_0 11 rfl rfl)
theorem dX6_ways_14 : decode cX6_ways 14 = .ok (.iconst (-1), 1) := dk_2 (dk_at dksX6_ways_0 14 rfl rfl)
theorem dX6_ways_15 : decode cX6_ways 15 = .ok (.ireturn, 1) := dk_172 (dk_at dksX6_ways_0 15 rfl rfl)
theorem dX6_ways_16 : decode cX6_ways 16 = .ok (.aload_n 0, 1) := dk_42 (dk_at dksX6_ways_0 16 rfl rfl)
theorem dX6_ways_17 : decode cX6_ways 17 = .ok (.iload_n 1, 1) := dk_27 (dk_at dksX6_ways_0 17 rfl rfl)
theorem dX6_ways_18 : decode cX6_ways 18 = .ok (.invokevirtual 288, 3) := dk_182 1 32 (dk_at dksX6_ways_0 18 rfl rfl)
theorem dX6_ways_21 : decode cX6_ways 21 = .ok (.ifCond .ge 9, 3) := dk_156 0 9 (dk_at dksX6_ways_0 21 rfl rfl)
theorem dX6_ways_24 : decode cX6_ways 24 = .ok (.aload_n 0, 1) := dk_42 (dk_at dksX6_ways_1 0 rfl rfl)
theorem dX6_ways_25 : decode cX6_ways 25 = .ok (.iload_n 1, 1) := dk_27 (dk_at dksX6_ways_1 1 rfl rfl)
theorem dX6_ways_26 : decode cX6_ways 26 = .ok (.invokevirtual 288, 3) := dk_182 1 32 (dk_at dksX6_ways_1 2 rfl rfl)
theorem dX6_ways_29 : decode cX6_ways 29 = .ok (.ireturn, 1) := dk_172 (dk_at dksX6_ways_1 5 rfl rfl)
theorem dX6_ways_30 : decode cX6_ways 30 = .ok (.aload_n 0, 1) := dk_42 (dk_at dksX6_ways_1 6 rfl rfl)
theorem dX6_ways_31 : decode cX6_ways 31 = .ok (.iload_n 1, 1) := dk_27 (dk_at dksX6_ways_1 7 rfl rfl)
theorem dX6_ways_32 : decode cX6_ways 32 = .ok (.invokevirtual 352, 3) := dk_182 1 96 (dk_at dksX6_ways_1 8 rfl rfl)
theorem dX6_ways_35 : decode cX6_ways 35 = .ok (.aload_n 0, 1) := dk_42 (dk_at dksX6_ways_1 11 rfl rfl)
theorem dX6_ways_36 : decode cX6_ways 36 = .ok (.aload_n 0, 1) := dk_42 (dk_at dksX6_ways_1 12 rfl rfl)
theorem dX6_ways_37 : decode cX6_ways 37 = .ok (.getfield 340, 3) := dk_180 1 84 (dk_at dksX6_ways_1 13 rfl rfl)
theorem dX6_ways_40 : decode cX6_ways 40 = .ok (.bipush 6, 2) := dk_16 6 (dk_at dksX6_ways_1 16 rfl rfl)
theorem dX6_ways_42 : decode cX6_ways 42 = .ok (.if_icmp .ge 10, 3) := dk_162 0 10 (dk_at dksX6_ways_1 18 rfl rfl)
theorem dX6_ways_45 : decode cX6_ways 45 = .ok (.aload_n 0, 1) := dk_42 (dk_at dksX6_ways_1 21 rfl rfl)
theorem dX6_ways_46 : decode cX6_ways 46 = .ok (.getfield 340, 3) := dk_180 1 84 (dk_at dksX6_ways_2 0 rfl rfl)
theorem dX6_ways_49 : decode cX6_ways 49 = .ok (.goto 5, 3) := dk_167 0 5 (dk_at dksX6_ways_2 3 rfl rfl)
theorem dX6_ways_52 : decode cX6_ways 52 = .ok (.bipush 6, 2) := dk_16 6 (dk_at dksX6_ways_2 6 rfl rfl)
theorem dX6_ways_54 : decode cX6_ways 54 = .ok (.iload_n 2, 1) := dk_28 (dk_at dksX6_ways_2 8 rfl rfl)
theorem dX6_ways_55 : decode cX6_ways 55 = .ok (.iconst (-1), 1) := dk_2 (dk_at dksX6_ways_2 9 rfl rfl)
theorem dX6_ways_56 : decode cX6_ways 56 = .ok (.iconst 0, 1) := dk_3 (dk_at dksX6_ways_2 10 rfl rfl)
theorem dX6_ways_57 : decode cX6_ways 57 = .ok (.invokevirtual 355, 3) := dk_182 1 99 (dk_at dksX6_ways_2 11 rfl rfl)
theorem dX6_ways_60 : decode cX6_ways 60 = .ok (.ireturn, 1) := dk_172 (dk_at dksX6_ways_2 14 rfl rfl)
abbrev cX6_judge : ByteArray := prog_25_method_72_code
def yX6_judge : MethodName := ⟨RX6, "judge", "(II)I"⟩
def dkwX6_judge_7 : List UInt8 := [42, 180, 0, 40, 28, 46, 159, 0, 6, 21, 4, 62, 132, 4, 1, 167, 255, 190, 42, 182, 1, 44, 29, 172]
abbrev dktX6_judge_7 : List UInt8 := dkwX6_judge_7 ++ []
def dkwX6_judge_6 : List UInt8 := [21, 4, 46, 182, 1, 41, 42, 180, 0, 108, 21, 4, 46, 2, 159, 0, 22, 42, 180, 0, 108, 21, 4, 46]
abbrev dktX6_judge_6 : List UInt8 := dkwX6_judge_6 ++ dktX6_judge_7
def dkwX6_judge_5 : List UInt8 := [180, 1, 29, 162, 0, 63, 21, 4, 42, 180, 1, 84, 162, 0, 54, 29, 156, 0, 50, 42, 42, 180, 0, 90]
abbrev dktX6_judge_5 : List UInt8 := dkwX6_judge_5 ++ dktX6_judge_6
def dkwX6_judge_4 : List UInt8 := [182, 1, 35, 42, 27, 16, 10, 112, 182, 1, 96, 42, 182, 1, 38, 16, 254, 62, 3, 54, 4, 21, 4, 42]
abbrev dktX6_judge_4 : List UInt8 := dkwX6_judge_4 ++ dktX6_judge_5
def dkwX6_judge_3 : List UInt8 := [155, 0, 14, 42, 27, 16, 10, 112, 182, 1, 32, 156, 0, 6, 16, 244, 172, 42, 27, 16, 10, 108]
abbrev dktX6_judge_3 : List UInt8 := dkwX6_judge_3 ++ dktX6_judge_4
def dkwX6_judge_2 : List UInt8 := [180, 0, 129, 27, 16, 10, 112, 46, 2, 160, 0, 6, 16, 245, 172, 42, 27, 16, 10, 108, 182, 1, 32]
abbrev dktX6_judge_2 : List UInt8 := dkwX6_judge_2 ++ dktX6_judge_3
def dkwX6_judge_1 : List UInt8 := [28, 184, 0, 156, 154, 0, 5, 2, 172, 42, 180, 0, 129, 27, 16, 10, 108, 46, 2, 159, 0, 16, 42]
abbrev dktX6_judge_1 : List UInt8 := dkwX6_judge_1 ++ dktX6_judge_2
def dkwX6_judge_0 : List UInt8 := [27, 155, 0, 30, 27, 16, 10, 108, 184, 0, 163, 153, 0, 20, 27, 16, 10, 112, 184, 0, 163, 153, 0, 10]
abbrev dktX6_judge_0 : List UInt8 := dkwX6_judge_0 ++ dktX6_judge_1
theorem dksX6_judge_0 : cX6_judge.data.toList.drop 0 = dktX6_judge_0 := by decide +kernel
theorem dksX6_judge_1 : cX6_judge.data.toList.drop 24 = dktX6_judge_1 := dk_seg dksX6_judge_0 24 rfl rfl
theorem dksX6_judge_2 : cX6_judge.data.toList.drop 47 = dktX6_judge_2 := dk_seg dksX6_judge_1 23 rfl rfl
theorem dksX6_judge_3 : cX6_judge.data.toList.drop 70 = dktX6_judge_3 := dk_seg dksX6_judge_2 23 rfl rfl
theorem dksX6_judge_4 : cX6_judge.data.toList.drop 92 = dktX6_judge_4 := dk_seg dksX6_judge_3 22 rfl rfl
theorem dksX6_judge_5 : cX6_judge.data.toList.drop 116 = dktX6_judge_5 := dk_seg dksX6_judge_4 24 rfl rfl
theorem dksX6_judge_6 : cX6_judge.data.toList.drop 140 = dktX6_judge_6 := dk_seg dksX6_judge_5 24 rfl rfl
theorem dksX6_judge_7 : cX6_judge.data.toList.drop 164 = dktX6_judge_7 := dk_seg dksX6_judge_6 24 rfl rfl
theorem dX6_judge_0 : decode cX6_judge 0 = .ok (.iload_n 1, 1) := dk_27 (dk_at dksX6_judge_0 0 rfl rfl)
theorem dX6_judge_1 : decode cX6_judge 1 = .ok (.ifCond .lt 30, 3) := dk_155 0 30 (dk_at dksX6_judge_0 1 rfl rfl)
theorem dX6_judge_4 : decode cX6_judge 4 = .ok (.iload_n 1, 1) := dk_27 (dk_at dksX6_judge_0 4 rfl rfl)
theorem dX6_judge_5 : decode cX6_judge 5 = .ok (.bipush 10, 2) := dk_16 10 (dk_at dksX6_judge_0 5 rfl rfl)
theorem dX6_judge_7 : decode cX6_judge 7 = .ok (.idiv, 1) := dk_108 (dk_at dksX6_judge_0 7 rfl rfl)
theorem dX6_judge_8 : decode cX6_judge 8 = .ok (.invokestatic 163, 3) := dk_184 0 163 (dk_at dksX6_judge_0 8 rfl rfl)
theorem dX6_judge_11 : decode cX6_judge 11 = .ok (.ifCond .eq 20, 3) := dk_153 0 20 (dk_at dksX6_judge_0 11 rfl rfl)
theorem dX6_judge_14 : decode cX6_judge 14 = .ok (.iload_n 1, 1) := dk_27 (dk_at dksX6_judge_0 14 rfl rfl)
theorem dX6_judge_15 : decode cX6_judge 15 = .ok (.bipush 10, 2) := dk_16 10 (dk_at dksX6_judge_0 15 rfl rfl)
theorem dX6_judge_17 : decode cX6_judge 17 = .ok (.irem, 1) := dk_112 (dk_at dksX6_judge_0 17 rfl rfl)
theorem dX6_judge_18 : decode cX6_judge 18 = .ok (.invokestatic 163, 3) := dk_184 0 163 (dk_at dksX6_judge_0 18 rfl rfl)
theorem dX6_judge_21 : decode cX6_judge 21 = .ok (.ifCond .eq 10, 3) := dk_153 0 10 (dk_at dksX6_judge_0 21 rfl rfl)
theorem dX6_judge_24 : decode cX6_judge 24 = .ok (.iload_n 2, 1) := dk_28 (dk_at dksX6_judge_1 0 rfl rfl)
theorem dX6_judge_25 : decode cX6_judge 25 = .ok (.invokestatic 156, 3) := dk_184 0 156 (dk_at dksX6_judge_1 1 rfl rfl)
theorem dX6_judge_28 : decode cX6_judge 28 = .ok (.ifCond .ne 5, 3) := dk_154 0 5 (dk_at dksX6_judge_1 4 rfl rfl)
theorem dX6_judge_31 : decode cX6_judge 31 = .ok (.iconst (-1), 1) := dk_2 (dk_at dksX6_judge_1 7 rfl rfl)
theorem dX6_judge_32 : decode cX6_judge 32 = .ok (.ireturn, 1) := dk_172 (dk_at dksX6_judge_1 8 rfl rfl)
theorem dX6_judge_33 : decode cX6_judge 33 = .ok (.aload_n 0, 1) := dk_42 (dk_at dksX6_judge_1 9 rfl rfl)
theorem dX6_judge_34 : decode cX6_judge 34 = .ok (.getfield 129, 3) := dk_180 0 129 (dk_at dksX6_judge_1 10 rfl rfl)
theorem dX6_judge_37 : decode cX6_judge 37 = .ok (.iload_n 1, 1) := dk_27 (dk_at dksX6_judge_1 13 rfl rfl)
theorem dX6_judge_38 : decode cX6_judge 38 = .ok (.bipush 10, 2) := dk_16 10 (dk_at dksX6_judge_1 14 rfl rfl)
theorem dX6_judge_40 : decode cX6_judge 40 = .ok (.idiv, 1) := dk_108 (dk_at dksX6_judge_1 16 rfl rfl)
theorem dX6_judge_41 : decode cX6_judge 41 = .ok (.iaload, 1) := dk_46 (dk_at dksX6_judge_1 17 rfl rfl)
theorem dX6_judge_42 : decode cX6_judge 42 = .ok (.iconst (-1), 1) := dk_2 (dk_at dksX6_judge_1 18 rfl rfl)
theorem dX6_judge_43 : decode cX6_judge 43 = .ok (.if_icmp .eq 16, 3) := dk_159 0 16 (dk_at dksX6_judge_1 19 rfl rfl)
theorem dX6_judge_46 : decode cX6_judge 46 = .ok (.aload_n 0, 1) := dk_42 (dk_at dksX6_judge_1 22 rfl rfl)
theorem dX6_judge_47 : decode cX6_judge 47 = .ok (.getfield 129, 3) := dk_180 0 129 (dk_at dksX6_judge_2 0 rfl rfl)
theorem dX6_judge_50 : decode cX6_judge 50 = .ok (.iload_n 1, 1) := dk_27 (dk_at dksX6_judge_2 3 rfl rfl)
theorem dX6_judge_51 : decode cX6_judge 51 = .ok (.bipush 10, 2) := dk_16 10 (dk_at dksX6_judge_2 4 rfl rfl)
theorem dX6_judge_53 : decode cX6_judge 53 = .ok (.irem, 1) := dk_112 (dk_at dksX6_judge_2 6 rfl rfl)
theorem dX6_judge_54 : decode cX6_judge 54 = .ok (.iaload, 1) := dk_46 (dk_at dksX6_judge_2 7 rfl rfl)
theorem dX6_judge_55 : decode cX6_judge 55 = .ok (.iconst (-1), 1) := dk_2 (dk_at dksX6_judge_2 8 rfl rfl)
theorem dX6_judge_56 : decode cX6_judge 56 = .ok (.if_icmp .ne 6, 3) := dk_160 0 6 (dk_at dksX6_judge_2 9 rfl rfl)
theorem dX6_judge_59 : decode cX6_judge 59 = .ok (.bipush (-11), 2) := dk_16 245 (dk_at dksX6_judge_2 12 rfl rfl)
theorem dX6_judge_61 : decode cX6_judge 61 = .ok (.ireturn, 1) := dk_172 (dk_at dksX6_judge_2 14 rfl rfl)
theorem dX6_judge_62 : decode cX6_judge 62 = .ok (.aload_n 0, 1) := dk_42 (dk_at dksX6_judge_2 15 rfl rfl)
theorem dX6_judge_63 : decode cX6_judge 63 = .ok (.iload_n 1, 1) := dk_27 (dk_at dksX6_judge_2 16 rfl rfl)
theorem dX6_judge_64 : decode cX6_judge 64 = .ok (.bipush 10, 2) := dk_16 10 (dk_at dksX6_judge_2 17 rfl rfl)
theorem dX6_judge_66 : decode cX6_judge 66 = .ok (.idiv, 1) := dk_108 (dk_at dksX6_judge_2 19 rfl rfl)
theorem dX6_judge_67 : decode cX6_judge 67 = .ok (.invokevirtual 288, 3) := dk_182 1 32 (dk_at dksX6_judge_2 20 rfl rfl)
theorem dX6_judge_70 : decode cX6_judge 70 = .ok (.ifCond .lt 14, 3) := dk_155 0 14 (dk_at dksX6_judge_3 0 rfl rfl)
theorem dX6_judge_73 : decode cX6_judge 73 = .ok (.aload_n 0, 1) := dk_42 (dk_at dksX6_judge_3 3 rfl rfl)
theorem dX6_judge_74 : decode cX6_judge 74 = .ok (.iload_n 1, 1) := dk_27 (dk_at dksX6_judge_3 4 rfl rfl)
theorem dX6_judge_75 : decode cX6_judge 75 = .ok (.bipush 10, 2) := dk_16 10 (dk_at dksX6_judge_3 5 rfl rfl)
theorem dX6_judge_77 : decode cX6_judge 77 = .ok (.irem, 1) := dk_112 (dk_at dksX6_judge_3 7 rfl rfl)
theorem dX6_judge_78 : decode cX6_judge 78 = .ok (.invokevirtual 288, 3) := dk_182 1 32 (dk_at dksX6_judge_3 8 rfl rfl)
theorem dX6_judge_81 : decode cX6_judge 81 = .ok (.ifCond .ge 6, 3) := dk_156 0 6 (dk_at dksX6_judge_3 11 rfl rfl)
theorem dX6_judge_84 : decode cX6_judge 84 = .ok (.bipush (-12), 2) := dk_16 244 (dk_at dksX6_judge_3 14 rfl rfl)
theorem dX6_judge_86 : decode cX6_judge 86 = .ok (.ireturn, 1) := dk_172 (dk_at dksX6_judge_3 16 rfl rfl)
theorem dX6_judge_87 : decode cX6_judge 87 = .ok (.aload_n 0, 1) := dk_42 (dk_at dksX6_judge_3 17 rfl rfl)
theorem dX6_judge_88 : decode cX6_judge 88 = .ok (.iload_n 1, 1) := dk_27 (dk_at dksX6_judge_3 18 rfl rfl)
theorem dX6_judge_89 : decode cX6_judge 89 = .ok (.bipush 10, 2) := dk_16 10 (dk_at dksX6_judge_3 19 rfl rfl)
theorem dX6_judge_91 : decode cX6_judge 91 = .ok (.idiv, 1) := dk_108 (dk_at dksX6_judge_3 21 rfl rfl)
theorem dX6_judge_92 : decode cX6_judge 92 = .ok (.invokevirtual 291, 3) := dk_182 1 35 (dk_at dksX6_judge_4 0 rfl rfl)
theorem dX6_judge_95 : decode cX6_judge 95 = .ok (.aload_n 0, 1) := dk_42 (dk_at dksX6_judge_4 3 rfl rfl)
theorem dX6_judge_96 : decode cX6_judge 96 = .ok (.iload_n 1, 1) := dk_27 (dk_at dksX6_judge_4 4 rfl rfl)
theorem dX6_judge_97 : decode cX6_judge 97 = .ok (.bipush 10, 2) := dk_16 10 (dk_at dksX6_judge_4 5 rfl rfl)
theorem dX6_judge_99 : decode cX6_judge 99 = .ok (.irem, 1) := dk_112 (dk_at dksX6_judge_4 7 rfl rfl)
theorem dX6_judge_100 : decode cX6_judge 100 = .ok (.invokevirtual 352, 3) := dk_182 1 96 (dk_at dksX6_judge_4 8 rfl rfl)
theorem dX6_judge_103 : decode cX6_judge 103 = .ok (.aload_n 0, 1) := dk_42 (dk_at dksX6_judge_4 11 rfl rfl)
theorem dX6_judge_104 : decode cX6_judge 104 = .ok (.invokevirtual 294, 3) := dk_182 1 38 (dk_at dksX6_judge_4 12 rfl rfl)
theorem dX6_judge_107 : decode cX6_judge 107 = .ok (.bipush (-2), 2) := dk_16 254 (dk_at dksX6_judge_4 15 rfl rfl)
theorem dX6_judge_109 : decode cX6_judge 109 = .ok (.istore_n 3, 1) := dk_62 (dk_at dksX6_judge_4 17 rfl rfl)
theorem dX6_judge_110 : decode cX6_judge 110 = .ok (.iconst 0, 1) := dk_3 (dk_at dksX6_judge_4 18 rfl rfl)
theorem dX6_judge_111 : decode cX6_judge 111 = .ok (.istore 4, 2) := dk_54 4 (dk_at dksX6_judge_4 19 rfl rfl)
theorem dX6_judge_113 : decode cX6_judge 113 = .ok (.iload 4, 2) := dk_21 4 (dk_at dksX6_judge_4 21 rfl rfl)
theorem dX6_judge_115 : decode cX6_judge 115 = .ok (.aload_n 0, 1) := dk_42 (dk_at dksX6_judge_4 23 rfl rfl)
theorem dX6_judge_116 : decode cX6_judge 116 = .ok (.getfield 285, 3) := dk_180 1 29 (dk_at dksX6_judge_5 0 rfl rfl)
theorem dX6_judge_119 : decode cX6_judge 119 = .ok (.if_icmp .ge 63, 3) := dk_162 0 63 (dk_at dksX6_judge_5 3 rfl rfl)
theorem dX6_judge_122 : decode cX6_judge 122 = .ok (.iload 4, 2) := dk_21 4 (dk_at dksX6_judge_5 6 rfl rfl)
theorem dX6_judge_124 : decode cX6_judge 124 = .ok (.aload_n 0, 1) := dk_42 (dk_at dksX6_judge_5 8 rfl rfl)
theorem dX6_judge_125 : decode cX6_judge 125 = .ok (.getfield 340, 3) := dk_180 1 84 (dk_at dksX6_judge_5 9 rfl rfl)
theorem dX6_judge_128 : decode cX6_judge 128 = .ok (.if_icmp .ge 54, 3) := dk_162 0 54 (dk_at dksX6_judge_5 12 rfl rfl)
theorem dX6_judge_131 : decode cX6_judge 131 = .ok (.iload_n 3, 1) := dk_29 (dk_at dksX6_judge_5 15 rfl rfl)
theorem dX6_judge_132 : decode cX6_judge 132 = .ok (.ifCond .ge 50, 3) := dk_156 0 50 (dk_at dksX6_judge_5 16 rfl rfl)
theorem dX6_judge_135 : decode cX6_judge 135 = .ok (.aload_n 0, 1) := dk_42 (dk_at dksX6_judge_5 19 rfl rfl)
theorem dX6_judge_136 : decode cX6_judge 136 = .ok (.aload_n 0, 1) := dk_42 (dk_at dksX6_judge_5 20 rfl rfl)
theorem dX6_judge_137 : decode cX6_judge 137 = .ok (.getfield 90, 3) := dk_180 0 90 (dk_at dksX6_judge_5 21 rfl rfl)
theorem dX6_judge_140 : decode cX6_judge 140 = .ok (.iload 4, 2) := dk_21 4 (dk_at dksX6_judge_6 0 rfl rfl)
theorem dX6_judge_142 : decode cX6_judge 142 = .ok (.iaload, 1) := dk_46 (dk_at dksX6_judge_6 2 rfl rfl)
theorem dX6_judge_143 : decode cX6_judge 143 = .ok (.invokevirtual 297, 3) := dk_182 1 41 (dk_at dksX6_judge_6 3 rfl rfl)
theorem dX6_judge_146 : decode cX6_judge 146 = .ok (.aload_n 0, 1) := dk_42 (dk_at dksX6_judge_6 6 rfl rfl)
theorem dX6_judge_147 : decode cX6_judge 147 = .ok (.getfield 108, 3) := dk_180 0 108 (dk_at dksX6_judge_6 7 rfl rfl)
theorem dX6_judge_150 : decode cX6_judge 150 = .ok (.iload 4, 2) := dk_21 4 (dk_at dksX6_judge_6 10 rfl rfl)
theorem dX6_judge_152 : decode cX6_judge 152 = .ok (.iaload, 1) := dk_46 (dk_at dksX6_judge_6 12 rfl rfl)
theorem dX6_judge_153 : decode cX6_judge 153 = .ok (.iconst (-1), 1) := dk_2 (dk_at dksX6_judge_6 13 rfl rfl)
theorem dX6_judge_154 : decode cX6_judge 154 = .ok (.if_icmp .eq 22, 3) := dk_159 0 22 (dk_at dksX6_judge_6 14 rfl rfl)
theorem dX6_judge_157 : decode cX6_judge 157 = .ok (.aload_n 0, 1) := dk_42 (dk_at dksX6_judge_6 17 rfl rfl)
theorem dX6_judge_158 : decode cX6_judge 158 = .ok (.getfield 108, 3) := dk_180 0 108 (dk_at dksX6_judge_6 18 rfl rfl)
theorem dX6_judge_161 : decode cX6_judge 161 = .ok (.iload 4, 2) := dk_21 4 (dk_at dksX6_judge_6 21 rfl rfl)
theorem dX6_judge_163 : decode cX6_judge 163 = .ok (.iaload, 1) := dk_46 (dk_at dksX6_judge_6 23 rfl rfl)
theorem dX6_judge_164 : decode cX6_judge 164 = .ok (.aload_n 0, 1) := dk_42 (dk_at dksX6_judge_7 0 rfl rfl)
theorem dX6_judge_165 : decode cX6_judge 165 = .ok (.getfield 40, 3) := dk_180 0 40 (dk_at dksX6_judge_7 1 rfl rfl)
theorem dX6_judge_168 : decode cX6_judge 168 = .ok (.iload_n 2, 1) := dk_28 (dk_at dksX6_judge_7 4 rfl rfl)
theorem dX6_judge_169 : decode cX6_judge 169 = .ok (.iaload, 1) := dk_46 (dk_at dksX6_judge_7 5 rfl rfl)
theorem dX6_judge_170 : decode cX6_judge 170 = .ok (.if_icmp .eq 6, 3) := dk_159 0 6 (dk_at dksX6_judge_7 6 rfl rfl)
theorem dX6_judge_173 : decode cX6_judge 173 = .ok (.iload 4, 2) := dk_21 4 (dk_at dksX6_judge_7 9 rfl rfl)
theorem dX6_judge_175 : decode cX6_judge 175 = .ok (.istore_n 3, 1) := dk_62 (dk_at dksX6_judge_7 11 rfl rfl)
theorem dX6_judge_176 : decode cX6_judge 176 = .ok (.iinc 4 1, 3) := dk_132 4 1 (dk_at dksX6_judge_7 12 rfl rfl)
theorem dX6_judge_179 : decode cX6_judge 179 = .ok (.goto (-66), 3) := dk_167 255 190 (dk_at dksX6_judge_7 15 rfl rfl)
theorem dX6_judge_182 : decode cX6_judge 182 = .ok (.aload_n 0, 1) := dk_42 (dk_at dksX6_judge_7 18 rfl rfl)
theorem dX6_judge_183 : decode cX6_judge 183 = .ok (.invokevirtual 300, 3) := dk_182 1 44 (dk_at dksX6_judge_7 19 rfl rfl)
theorem dX6_judge_186 : decode cX6_judge 186 = .ok (.iload_n 3, 1) := dk_29 (dk_at dksX6_judge_7 22 rfl rfl)
theorem dX6_judge_187 : decode cX6_judge 187 = .ok (.ireturn, 1) := dk_172 (dk_at dksX6_judge_7 23 rfl rfl)
abbrev cX6_since : ByteArray := prog_25_method_73_code
def yX6_since : MethodName := ⟨RX6, "since", "(III)I"⟩
def dkwX6_since_4 : List UInt8 := [167, 255, 220, 42, 182, 1, 44, 21, 4, 172]
abbrev dktX6_since_4 : List UInt8 := dkwX6_since_4 ++ []
def dkwX6_since_3 : List UInt8 := [21, 5, 46, 182, 1, 41, 42, 28, 182, 1, 26, 29, 163, 0, 7, 21, 5, 54, 4, 132, 5, 1]
abbrev dktX6_since_3 : List UInt8 := dkwX6_since_3 ++ dktX6_since_4
def dkwX6_since_2 : List UInt8 := [182, 1, 38, 16, 254, 54, 4, 3, 54, 5, 21, 5, 42, 180, 1, 29, 162, 0, 33, 42, 42, 180, 0, 90]
abbrev dktX6_since_2 : List UInt8 := dkwX6_since_2 ++ dktX6_since_3
def dkwX6_since_1 : List UInt8 := [2, 172, 42, 27, 182, 1, 32, 156, 0, 9, 42, 27, 182, 1, 32, 172, 42, 27, 182, 1, 35, 42]
abbrev dktX6_since_1 : List UInt8 := dkwX6_since_1 ++ dktX6_since_2
def dkwX6_since_0 : List UInt8 := [27, 184, 0, 163, 153, 0, 20, 28, 184, 0, 156, 153, 0, 13, 29, 3, 16, 99, 184, 0, 145, 154, 0, 5]
abbrev dktX6_since_0 : List UInt8 := dkwX6_since_0 ++ dktX6_since_1
theorem dksX6_since_0 : cX6_since.data.toList.drop 0 = dktX6_since_0 := by decide +kernel
theorem dksX6_since_1 : cX6_since.data.toList.drop 24 = dktX6_since_1 := dk_seg dksX6_since_0 24 rfl rfl
theorem dksX6_since_2 : cX6_since.data.toList.drop 46 = dktX6_since_2 := dk_seg dksX6_since_1 22 rfl rfl
theorem dksX6_since_3 : cX6_since.data.toList.drop 70 = dktX6_since_3 := dk_seg dksX6_since_2 24 rfl rfl
theorem dksX6_since_4 : cX6_since.data.toList.drop 92 = dktX6_since_4 := dk_seg dksX6_since_3 22 rfl rfl
theorem dX6_since_0 : decode cX6_since 0 = .ok (.iload_n 1, 1) := dk_27 (dk_at dksX6_since_0 0 rfl rfl)
theorem dX6_since_1 : decode cX6_since 1 = .ok (.invokestatic 163, 3) := dk_184 0 163 (dk_at dksX6_since_0 1 rfl rfl)
theorem dX6_since_4 : decode cX6_since 4 = .ok (.ifCond .eq 20, 3) := dk_153 0 20 (dk_at dksX6_since_0 4 rfl rfl)
theorem dX6_since_7 : decode cX6_since 7 = .ok (.iload_n 2, 1) := dk_28 (dk_at dksX6_since_0 7 rfl rfl)
theorem dX6_since_8 : decode cX6_since 8 = .ok (.invokestatic 156, 3) := dk_184 0 156 (dk_at dksX6_since_0 8 rfl rfl)
theorem dX6_since_11 : decode cX6_since 11 = .ok (.ifCond .eq 13, 3) := dk_153 0 13 (dk_at dksX6_since_0 11 rfl rfl)
theorem dX6_since_14 : decode cX6_since 14 = .ok (.iload_n 3, 1) := dk_29 (dk_at dksX6_since_0 14 rfl rfl)
theorem dX6_since_15 : decode cX6_since 15 = .ok (.iconst 0, 1) := dk_3 (dk_at dksX6_since_0 15 rfl rfl)
theorem dX6_since_16 : decode cX6_since 16 = .ok (.bipush 99, 2) := dk_16 99 (dk_at dksX6_since_0 16 rfl rfl)
theorem dX6_since_18 : decode cX6_since 18 = .ok (.invokestatic 145, 3) := dk_184 0 145 (dk_at dksX6_since_0 18 rfl rfl)
theorem dX6_since_21 : decode cX6_since 21 = .ok (.ifCond .ne 5, 3) := dk_154 0 5 (dk_at dksX6_since_0 21 rfl rfl)
theorem dX6_since_24 : decode cX6_since 24 = .ok (.iconst (-1), 1) := dk_2 (dk_at dksX6_since_1 0 rfl rfl)
theorem dX6_since_25 : decode cX6_since 25 = .ok (.ireturn, 1) := dk_172 (dk_at dksX6_since_1 1 rfl rfl)
theorem dX6_since_26 : decode cX6_since 26 = .ok (.aload_n 0, 1) := dk_42 (dk_at dksX6_since_1 2 rfl rfl)
theorem dX6_since_27 : decode cX6_since 27 = .ok (.iload_n 1, 1) := dk_27 (dk_at dksX6_since_1 3 rfl rfl)
theorem dX6_since_28 : decode cX6_since 28 = .ok (.invokevirtual 288, 3) := dk_182 1 32 (dk_at dksX6_since_1 4 rfl rfl)
theorem dX6_since_31 : decode cX6_since 31 = .ok (.ifCond .ge 9, 3) := dk_156 0 9 (dk_at dksX6_since_1 7 rfl rfl)
theorem dX6_since_34 : decode cX6_since 34 = .ok (.aload_n 0, 1) := dk_42 (dk_at dksX6_since_1 10 rfl rfl)
theorem dX6_since_35 : decode cX6_since 35 = .ok (.iload_n 1, 1) := dk_27 (dk_at dksX6_since_1 11 rfl rfl)
theorem dX6_since_36 : decode cX6_since 36 = .ok (.invokevirtual 288, 3) := dk_182 1 32 (dk_at dksX6_since_1 12 rfl rfl)
theorem dX6_since_39 : decode cX6_since 39 = .ok (.ireturn, 1) := dk_172 (dk_at dksX6_since_1 15 rfl rfl)
theorem dX6_since_40 : decode cX6_since 40 = .ok (.aload_n 0, 1) := dk_42 (dk_at dksX6_since_1 16 rfl rfl)
theorem dX6_since_41 : decode cX6_since 41 = .ok (.iload_n 1, 1) := dk_27 (dk_at dksX6_since_1 17 rfl rfl)
theorem dX6_since_42 : decode cX6_since 42 = .ok (.invokevirtual 291, 3) := dk_182 1 35 (dk_at dksX6_since_1 18 rfl rfl)
theorem dX6_since_45 : decode cX6_since 45 = .ok (.aload_n 0, 1) := dk_42 (dk_at dksX6_since_1 21 rfl rfl)
theorem dX6_since_46 : decode cX6_since 46 = .ok (.invokevirtual 294, 3) := dk_182 1 38 (dk_at dksX6_since_2 0 rfl rfl)
theorem dX6_since_49 : decode cX6_since 49 = .ok (.bipush (-2), 2) := dk_16 254 (dk_at dksX6_since_2 3 rfl rfl)
theorem dX6_since_51 : decode cX6_since 51 = .ok (.istore 4, 2) := dk_54 4 (dk_at dksX6_since_2 5 rfl rfl)
theorem dX6_since_53 : decode cX6_since 53 = .ok (.iconst 0, 1) := dk_3 (dk_at dksX6_since_2 7 rfl rfl)
theorem dX6_since_54 : decode cX6_since 54 = .ok (.istore 5, 2) := dk_54 5 (dk_at dksX6_since_2 8 rfl rfl)
theorem dX6_since_56 : decode cX6_since 56 = .ok (.iload 5, 2) := dk_21 5 (dk_at dksX6_since_2 10 rfl rfl)
theorem dX6_since_58 : decode cX6_since 58 = .ok (.aload_n 0, 1) := dk_42 (dk_at dksX6_since_2 12 rfl rfl)
theorem dX6_since_59 : decode cX6_since 59 = .ok (.getfield 285, 3) := dk_180 1 29 (dk_at dksX6_since_2 13 rfl rfl)
theorem dX6_since_62 : decode cX6_since 62 = .ok (.if_icmp .ge 33, 3) := dk_162 0 33 (dk_at dksX6_since_2 16 rfl rfl)
theorem dX6_since_65 : decode cX6_since 65 = .ok (.aload_n 0, 1) := dk_42 (dk_at dksX6_since_2 19 rfl rfl)
theorem dX6_since_66 : decode cX6_since 66 = .ok (.aload_n 0, 1) := dk_42 (dk_at dksX6_since_2 20 rfl rfl)
theorem dX6_since_67 : decode cX6_since 67 = .ok (.getfield 90, 3) := dk_180 0 90 (dk_at dksX6_since_2 21 rfl rfl)
theorem dX6_since_70 : decode cX6_since 70 = .ok (.iload 5, 2) := dk_21 5 (dk_at dksX6_since_3 0 rfl rfl)
theorem dX6_since_72 : decode cX6_since 72 = .ok (.iaload, 1) := dk_46 (dk_at dksX6_since_3 2 rfl rfl)
theorem dX6_since_73 : decode cX6_since 73 = .ok (.invokevirtual 297, 3) := dk_182 1 41 (dk_at dksX6_since_3 3 rfl rfl)
theorem dX6_since_76 : decode cX6_since 76 = .ok (.aload_n 0, 1) := dk_42 (dk_at dksX6_since_3 6 rfl rfl)
theorem dX6_since_77 : decode cX6_since 77 = .ok (.iload_n 2, 1) := dk_28 (dk_at dksX6_since_3 7 rfl rfl)
theorem dX6_since_78 : decode cX6_since 78 = .ok (.invokevirtual 282, 3) := dk_182 1 26 (dk_at dksX6_since_3 8 rfl rfl)
theorem dX6_since_81 : decode cX6_since 81 = .ok (.iload_n 3, 1) := dk_29 (dk_at dksX6_since_3 11 rfl rfl)
theorem dX6_since_82 : decode cX6_since 82 = .ok (.if_icmp .gt 7, 3) := dk_163 0 7 (dk_at dksX6_since_3 12 rfl rfl)
theorem dX6_since_85 : decode cX6_since 85 = .ok (.iload 5, 2) := dk_21 5 (dk_at dksX6_since_3 15 rfl rfl)
theorem dX6_since_87 : decode cX6_since 87 = .ok (.istore 4, 2) := dk_54 4 (dk_at dksX6_since_3 17 rfl rfl)
theorem dX6_since_89 : decode cX6_since 89 = .ok (.iinc 5 1, 3) := dk_132 5 1 (dk_at dksX6_since_3 19 rfl rfl)
theorem dX6_since_92 : decode cX6_since 92 = .ok (.goto (-36), 3) := dk_167 255 220 (dk_at dksX6_since_4 0 rfl rfl)
theorem dX6_since_95 : decode cX6_since 95 = .ok (.aload_n 0, 1) := dk_42 (dk_at dksX6_since_4 3 rfl rfl)
theorem dX6_since_96 : decode cX6_since 96 = .ok (.invokevirtual 300, 3) := dk_182 1 44 (dk_at dksX6_since_4 4 rfl rfl)
theorem dX6_since_99 : decode cX6_since 99 = .ok (.iload 4, 2) := dk_21 4 (dk_at dksX6_since_4 7 rfl rfl)
theorem dX6_since_101 : decode cX6_since 101 = .ok (.ireturn, 1) := dk_172 (dk_at dksX6_since_4 9 rfl rfl)
abbrev cX6_drawn : ByteArray := prog_25_method_74_code
def yX6_drawn : MethodName := ⟨RX6, "drawn", "(III)I"⟩
def dkwX6_drawn_5 : List UInt8 := [167, 0, 5, 21, 6, 172]
abbrev dktX6_drawn_5 : List UInt8 := dkwX6_drawn_5 ++ []
def dkwX6_drawn_4 : List UInt8 := [180, 0, 40, 3, 46, 54, 6, 132, 7, 1, 167, 255, 191, 42, 182, 1, 44, 29, 154, 0, 8, 21, 5]
abbrev dktX6_drawn_4 : List UInt8 := dkwX6_drawn_4 ++ dktX6_drawn_5
def dkwX6_drawn_3 : List UInt8 := [182, 1, 41, 21, 5, 42, 182, 1, 47, 96, 54, 5, 42, 180, 0, 40, 3, 46, 21, 6, 162, 0, 11, 42]
abbrev dktX6_drawn_3 : List UInt8 := dkwX6_drawn_3 ++ dktX6_drawn_4
def dkwX6_drawn_2 : List UInt8 := [19, 1, 103, 104, 17, 48, 57, 96, 54, 4, 42, 21, 4, 16, 8, 124, 42, 180, 0, 149, 4, 96, 112]
abbrev dktX6_drawn_2 : List UInt8 := dkwX6_drawn_2 ++ dktX6_drawn_3
def dkwX6_drawn_1 : List UInt8 := [182, 1, 38, 27, 54, 4, 3, 54, 5, 16, 99, 54, 6, 3, 54, 7, 21, 7, 28, 162, 0, 65, 21, 4]
abbrev dktX6_drawn_1 : List UInt8 := dkwX6_drawn_1 ++ dktX6_drawn_2
def dkwX6_drawn_0 : List UInt8 := [28, 4, 16, 60, 184, 0, 145, 153, 0, 12, 29, 3, 4, 184, 0, 145, 154, 0, 5, 2, 172, 42]
abbrev dktX6_drawn_0 : List UInt8 := dkwX6_drawn_0 ++ dktX6_drawn_1
theorem dksX6_drawn_0 : cX6_drawn.data.toList.drop 0 = dktX6_drawn_0 := by decide +kernel
theorem dksX6_drawn_1 : cX6_drawn.data.toList.drop 22 = dktX6_drawn_1 := dk_seg dksX6_drawn_0 22 rfl rfl
theorem dksX6_drawn_2 : cX6_drawn.data.toList.drop 46 = dktX6_drawn_2 := dk_seg dksX6_drawn_1 24 rfl rfl
theorem dksX6_drawn_3 : cX6_drawn.data.toList.drop 69 = dktX6_drawn_3 := dk_seg dksX6_drawn_2 23 rfl rfl
theorem dksX6_drawn_4 : cX6_drawn.data.toList.drop 93 = dktX6_drawn_4 := dk_seg dksX6_drawn_3 24 rfl rfl
theorem dksX6_drawn_5 : cX6_drawn.data.toList.drop 116 = dktX6_drawn_5 := dk_seg dksX6_drawn_4 23 rfl rfl
theorem dX6_drawn_0 : decode cX6_drawn 0 = .ok (.iload_n 2, 1) := dk_28 (dk_at dksX6_drawn_0 0 rfl rfl)
theorem dX6_drawn_1 : decode cX6_drawn 1 = .ok (.iconst 1, 1) := dk_4 (dk_at dksX6_drawn_0 1 rfl rfl)
theorem dX6_drawn_2 : decode cX6_drawn 2 = .ok (.bipush 60, 2) := dk_16 60 (dk_at dksX6_drawn_0 2 rfl rfl)
theorem dX6_drawn_4 : decode cX6_drawn 4 = .ok (.invokestatic 145, 3) := dk_184 0 145 (dk_at dksX6_drawn_0 4 rfl rfl)
theorem dX6_drawn_7 : decode cX6_drawn 7 = .ok (.ifCond .eq 12, 3) := dk_153 0 12 (dk_at dksX6_drawn_0 7 rfl rfl)
theorem dX6_drawn_10 : decode cX6_drawn 10 = .ok (.iload_n 3, 1) := dk_29 (dk_at dksX6_drawn_0 10 rfl rfl)
theorem dX6_drawn_11 : decode cX6_drawn 11 = .ok (.iconst 0, 1) := dk_3 (dk_at dksX6_drawn_0 11 rfl rfl)
theorem dX6_drawn_12 : decode cX6_drawn 12 = .ok (.iconst 1, 1) := dk_4 (dk_at dksX6_drawn_0 12 rfl rfl)
theorem dX6_drawn_13 : decode cX6_drawn 13 = .ok (.invokestatic 145, 3) := dk_184 0 145 (dk_at dksX6_drawn_0 13 rfl rfl)
theorem dX6_drawn_16 : decode cX6_drawn 16 = .ok (.ifCond .ne 5, 3) := dk_154 0 5 (dk_at dksX6_drawn_0 16 rfl rfl)
theorem dX6_drawn_19 : decode cX6_drawn 19 = .ok (.iconst (-1), 1) := dk_2 (dk_at dksX6_drawn_0 19 rfl rfl)
theorem dX6_drawn_20 : decode cX6_drawn 20 = .ok (.ireturn, 1) := dk_172 (dk_at dksX6_drawn_0 20 rfl rfl)
theorem dX6_drawn_21 : decode cX6_drawn 21 = .ok (.aload_n 0, 1) := dk_42 (dk_at dksX6_drawn_0 21 rfl rfl)
theorem dX6_drawn_22 : decode cX6_drawn 22 = .ok (.invokevirtual 294, 3) := dk_182 1 38 (dk_at dksX6_drawn_1 0 rfl rfl)
theorem dX6_drawn_25 : decode cX6_drawn 25 = .ok (.iload_n 1, 1) := dk_27 (dk_at dksX6_drawn_1 3 rfl rfl)
theorem dX6_drawn_26 : decode cX6_drawn 26 = .ok (.istore 4, 2) := dk_54 4 (dk_at dksX6_drawn_1 4 rfl rfl)
theorem dX6_drawn_28 : decode cX6_drawn 28 = .ok (.iconst 0, 1) := dk_3 (dk_at dksX6_drawn_1 6 rfl rfl)
theorem dX6_drawn_29 : decode cX6_drawn 29 = .ok (.istore 5, 2) := dk_54 5 (dk_at dksX6_drawn_1 7 rfl rfl)
theorem dX6_drawn_31 : decode cX6_drawn 31 = .ok (.bipush 99, 2) := dk_16 99 (dk_at dksX6_drawn_1 9 rfl rfl)
theorem dX6_drawn_33 : decode cX6_drawn 33 = .ok (.istore 6, 2) := dk_54 6 (dk_at dksX6_drawn_1 11 rfl rfl)
theorem dX6_drawn_35 : decode cX6_drawn 35 = .ok (.iconst 0, 1) := dk_3 (dk_at dksX6_drawn_1 13 rfl rfl)
theorem dX6_drawn_36 : decode cX6_drawn 36 = .ok (.istore 7, 2) := dk_54 7 (dk_at dksX6_drawn_1 14 rfl rfl)
theorem dX6_drawn_38 : decode cX6_drawn 38 = .ok (.iload 7, 2) := dk_21 7 (dk_at dksX6_drawn_1 16 rfl rfl)
theorem dX6_drawn_40 : decode cX6_drawn 40 = .ok (.iload_n 2, 1) := dk_28 (dk_at dksX6_drawn_1 18 rfl rfl)
theorem dX6_drawn_41 : decode cX6_drawn 41 = .ok (.if_icmp .ge 65, 3) := dk_162 0 65 (dk_at dksX6_drawn_1 19 rfl rfl)
theorem dX6_drawn_44 : decode cX6_drawn 44 = .ok (.iload 4, 2) := dk_21 4 (dk_at dksX6_drawn_1 22 rfl rfl)
theorem dX6_drawn_46 : decode cX6_drawn 46 = .ok (.ldc_w 359, 3) := dk_19 1 103 (dk_at dksX6_drawn_2 0 rfl rfl)
theorem dX6_drawn_49 : decode cX6_drawn 49 = .ok (.imul, 1) := dk_104 (dk_at dksX6_drawn_2 3 rfl rfl)
theorem dX6_drawn_50 : decode cX6_drawn 50 = .ok (.sipush 12345, 3) := dk_17 48 57 (dk_at dksX6_drawn_2 4 rfl rfl)
theorem dX6_drawn_53 : decode cX6_drawn 53 = .ok (.iadd, 1) := dk_96 (dk_at dksX6_drawn_2 7 rfl rfl)
theorem dX6_drawn_54 : decode cX6_drawn 54 = .ok (.istore 4, 2) := dk_54 4 (dk_at dksX6_drawn_2 8 rfl rfl)
theorem dX6_drawn_56 : decode cX6_drawn 56 = .ok (.aload_n 0, 1) := dk_42 (dk_at dksX6_drawn_2 10 rfl rfl)
theorem dX6_drawn_57 : decode cX6_drawn 57 = .ok (.iload 4, 2) := dk_21 4 (dk_at dksX6_drawn_2 11 rfl rfl)
theorem dX6_drawn_59 : decode cX6_drawn 59 = .ok (.bipush 8, 2) := dk_16 8 (dk_at dksX6_drawn_2 13 rfl rfl)
theorem dX6_drawn_61 : decode cX6_drawn 61 = .ok (.iushr, 1) := dk_124 (dk_at dksX6_drawn_2 15 rfl rfl)
theorem dX6_drawn_62 : decode cX6_drawn 62 = .ok (.aload_n 0, 1) := dk_42 (dk_at dksX6_drawn_2 16 rfl rfl)
theorem dX6_drawn_63 : decode cX6_drawn 63 = .ok (.getfield 149, 3) := dk_180 0 149 (dk_at dksX6_drawn_2 17 rfl rfl)
theorem dX6_drawn_66 : decode cX6_drawn 66 = .ok (.iconst 1, 1) := dk_4 (dk_at dksX6_drawn_2 20 rfl rfl)
theorem dX6_drawn_67 : decode cX6_drawn 67 = .ok (.iadd, 1) := dk_96 (dk_at dksX6_drawn_2 21 rfl rfl)
theorem dX6_drawn_68 : decode cX6_drawn 68 = .ok (.irem, 1) := dk_112 (dk_at dksX6_drawn_2 22 rfl rfl)
theorem dX6_drawn_69 : decode cX6_drawn 69 = .ok (.invokevirtual 297, 3) := dk_182 1 41 (dk_at dksX6_drawn_3 0 rfl rfl)
theorem dX6_drawn_72 : decode cX6_drawn 72 = .ok (.iload 5, 2) := dk_21 5 (dk_at dksX6_drawn_3 3 rfl rfl)
theorem dX6_drawn_74 : decode cX6_drawn 74 = .ok (.aload_n 0, 1) := dk_42 (dk_at dksX6_drawn_3 5 rfl rfl)
theorem dX6_drawn_75 : decode cX6_drawn 75 = .ok (.invokevirtual 303, 3) := dk_182 1 47 (dk_at dksX6_drawn_3 6 rfl rfl)
theorem dX6_drawn_78 : decode cX6_drawn 78 = .ok (.iadd, 1) := dk_96 (dk_at dksX6_drawn_3 9 rfl rfl)
theorem dX6_drawn_79 : decode cX6_drawn 79 = .ok (.istore 5, 2) := dk_54 5 (dk_at dksX6_drawn_3 10 rfl rfl)
theorem dX6_drawn_81 : decode cX6_drawn 81 = .ok (.aload_n 0, 1) := dk_42 (dk_at dksX6_drawn_3 12 rfl rfl)
theorem dX6_drawn_82 : decode cX6_drawn 82 = .ok (.getfield 40, 3) := dk_180 0 40 (dk_at dksX6_drawn_3 13 rfl rfl)
theorem dX6_drawn_85 : decode cX6_drawn 85 = .ok (.iconst 0, 1) := dk_3 (dk_at dksX6_drawn_3 16 rfl rfl)
theorem dX6_drawn_86 : decode cX6_drawn 86 = .ok (.iaload, 1) := dk_46 (dk_at dksX6_drawn_3 17 rfl rfl)
theorem dX6_drawn_87 : decode cX6_drawn 87 = .ok (.iload 6, 2) := dk_21 6 (dk_at dksX6_drawn_3 18 rfl rfl)
theorem dX6_drawn_89 : decode cX6_drawn 89 = .ok (.if_icmp .ge 11, 3) := dk_162 0 11 (dk_at dksX6_drawn_3 20 rfl rfl)
theorem dX6_drawn_92 : decode cX6_drawn 92 = .ok (.aload_n 0, 1) := dk_42 (dk_at dksX6_drawn_3 23 rfl rfl)
theorem dX6_drawn_93 : decode cX6_drawn 93 = .ok (.getfield 40, 3) := dk_180 0 40 (dk_at dksX6_drawn_4 0 rfl rfl)
theorem dX6_drawn_96 : decode cX6_drawn 96 = .ok (.iconst 0, 1) := dk_3 (dk_at dksX6_drawn_4 3 rfl rfl)
theorem dX6_drawn_97 : decode cX6_drawn 97 = .ok (.iaload, 1) := dk_46 (dk_at dksX6_drawn_4 4 rfl rfl)
theorem dX6_drawn_98 : decode cX6_drawn 98 = .ok (.istore 6, 2) := dk_54 6 (dk_at dksX6_drawn_4 5 rfl rfl)
theorem dX6_drawn_100 : decode cX6_drawn 100 = .ok (.iinc 7 1, 3) := dk_132 7 1 (dk_at dksX6_drawn_4 7 rfl rfl)
theorem dX6_drawn_103 : decode cX6_drawn 103 = .ok (.goto (-65), 3) := dk_167 255 191 (dk_at dksX6_drawn_4 10 rfl rfl)
theorem dX6_drawn_106 : decode cX6_drawn 106 = .ok (.aload_n 0, 1) := dk_42 (dk_at dksX6_drawn_4 13 rfl rfl)
theorem dX6_drawn_107 : decode cX6_drawn 107 = .ok (.invokevirtual 300, 3) := dk_182 1 44 (dk_at dksX6_drawn_4 14 rfl rfl)
theorem dX6_drawn_110 : decode cX6_drawn 110 = .ok (.iload_n 3, 1) := dk_29 (dk_at dksX6_drawn_4 17 rfl rfl)
theorem dX6_drawn_111 : decode cX6_drawn 111 = .ok (.ifCond .ne 8, 3) := dk_154 0 8 (dk_at dksX6_drawn_4 18 rfl rfl)
theorem dX6_drawn_114 : decode cX6_drawn 114 = .ok (.iload 5, 2) := dk_21 5 (dk_at dksX6_drawn_4 21 rfl rfl)
theorem dX6_drawn_116 : decode cX6_drawn 116 = .ok (.goto 5, 3) := dk_167 0 5 (dk_at dksX6_drawn_5 0 rfl rfl)
theorem dX6_drawn_119 : decode cX6_drawn 119 = .ok (.iload 6, 2) := dk_21 6 (dk_at dksX6_drawn_5 3 rfl rfl)
theorem dX6_drawn_121 : decode cX6_drawn 121 = .ok (.ireturn, 1) := dk_172 (dk_at dksX6_drawn_5 5 rfl rfl)
abbrev cX6_night : ByteArray := prog_25_method_75_code
def yX6_night : MethodName := ⟨RX6, "night", "(I)I"⟩
def dkwX6_night_2 : List UInt8 := [164, 0, 17, 42, 180, 0, 114, 5, 28, 79, 42, 180, 0, 114, 6, 27, 79, 28, 172]
abbrev dktX6_night_2 : List UInt8 := dkwX6_night_2 ++ []
def dkwX6_night_1 : List UInt8 := [3, 92, 46, 4, 96, 79, 42, 180, 0, 114, 4, 92, 46, 28, 96, 79, 28, 42, 180, 0, 114, 5, 46]
abbrev dktX6_night_1 : List UInt8 := dkwX6_night_1 ++ dktX6_night_2
def dkwX6_night_0 : List UInt8 := [42, 27, 182, 0, 152, 154, 0, 5, 2, 172, 42, 27, 182, 1, 22, 42, 182, 1, 47, 61, 42, 180, 0, 114]
abbrev dktX6_night_0 : List UInt8 := dkwX6_night_0 ++ dktX6_night_1
theorem dksX6_night_0 : cX6_night.data.toList.drop 0 = dktX6_night_0 := by decide +kernel
theorem dksX6_night_1 : cX6_night.data.toList.drop 24 = dktX6_night_1 := dk_seg dksX6_night_0 24 rfl rfl
theorem dksX6_night_2 : cX6_night.data.toList.drop 47 = dktX6_night_2 := dk_seg dksX6_night_1 23 rfl rfl
theorem dX6_night_0 : decode cX6_night 0 = .ok (.aload_n 0, 1) := dk_42 (dk_at dksX6_night_0 0 rfl rfl)
theorem dX6_night_1 : decode cX6_night 1 = .ok (.iload_n 1, 1) := dk_27 (dk_at dksX6_night_0 1 rfl rfl)
theorem dX6_night_2 : decode cX6_night 2 = .ok (.invokevirtual 152, 3) := dk_182 0 152 (dk_at dksX6_night_0 2 rfl rfl)
theorem dX6_night_5 : decode cX6_night 5 = .ok (.ifCond .ne 5, 3) := dk_154 0 5 (dk_at dksX6_night_0 5 rfl rfl)
theorem dX6_night_8 : decode cX6_night 8 = .ok (.iconst (-1), 1) := dk_2 (dk_at dksX6_night_0 8 rfl rfl)
theorem dX6_night_9 : decode cX6_night 9 = .ok (.ireturn, 1) := dk_172 (dk_at dksX6_night_0 9 rfl rfl)
theorem dX6_night_10 : decode cX6_night 10 = .ok (.aload_n 0, 1) := dk_42 (dk_at dksX6_night_0 10 rfl rfl)
theorem dX6_night_11 : decode cX6_night 11 = .ok (.iload_n 1, 1) := dk_27 (dk_at dksX6_night_0 11 rfl rfl)
theorem dX6_night_12 : decode cX6_night 12 = .ok (.invokevirtual 278, 3) := dk_182 1 22 (dk_at dksX6_night_0 12 rfl rfl)
theorem dX6_night_15 : decode cX6_night 15 = .ok (.aload_n 0, 1) := dk_42 (dk_at dksX6_night_0 15 rfl rfl)
theorem dX6_night_16 : decode cX6_night 16 = .ok (.invokevirtual 303, 3) := dk_182 1 47 (dk_at dksX6_night_0 16 rfl rfl)
theorem dX6_night_19 : decode cX6_night 19 = .ok (.istore_n 2, 1) := dk_61 (dk_at dksX6_night_0 19 rfl rfl)
theorem dX6_night_20 : decode cX6_night 20 = .ok (.aload_n 0, 1) := dk_42 (dk_at dksX6_night_0 20 rfl rfl)
theorem dX6_night_21 : decode cX6_night 21 = .ok (.getfield 114, 3) := dk_180 0 114 (dk_at dksX6_night_0 21 rfl rfl)
theorem dX6_night_24 : decode cX6_night 24 = .ok (.iconst 0, 1) := dk_3 (dk_at dksX6_night_1 0 rfl rfl)
theorem dX6_night_25 : decode cX6_night 25 = .ok (.dup2, 1) := dk_92 (dk_at dksX6_night_1 1 rfl rfl)
theorem dX6_night_26 : decode cX6_night 26 = .ok (.iaload, 1) := dk_46 (dk_at dksX6_night_1 2 rfl rfl)
theorem dX6_night_27 : decode cX6_night 27 = .ok (.iconst 1, 1) := dk_4 (dk_at dksX6_night_1 3 rfl rfl)
theorem dX6_night_28 : decode cX6_night 28 = .ok (.iadd, 1) := dk_96 (dk_at dksX6_night_1 4 rfl rfl)
theorem dX6_night_29 : decode cX6_night 29 = .ok (.iastore, 1) := dk_79 (dk_at dksX6_night_1 5 rfl rfl)
theorem dX6_night_30 : decode cX6_night 30 = .ok (.aload_n 0, 1) := dk_42 (dk_at dksX6_night_1 6 rfl rfl)
theorem dX6_night_31 : decode cX6_night 31 = .ok (.getfield 114, 3) := dk_180 0 114 (dk_at dksX6_night_1 7 rfl rfl)
theorem dX6_night_34 : decode cX6_night 34 = .ok (.iconst 1, 1) := dk_4 (dk_at dksX6_night_1 10 rfl rfl)
theorem dX6_night_35 : decode cX6_night 35 = .ok (.dup2, 1) := dk_92 (dk_at dksX6_night_1 11 rfl rfl)
theorem dX6_night_36 : decode cX6_night 36 = .ok (.iaload, 1) := dk_46 (dk_at dksX6_night_1 12 rfl rfl)
theorem dX6_night_37 : decode cX6_night 37 = .ok (.iload_n 2, 1) := dk_28 (dk_at dksX6_night_1 13 rfl rfl)
theorem dX6_night_38 : decode cX6_night 38 = .ok (.iadd, 1) := dk_96 (dk_at dksX6_night_1 14 rfl rfl)
theorem dX6_night_39 : decode cX6_night 39 = .ok (.iastore, 1) := dk_79 (dk_at dksX6_night_1 15 rfl rfl)
theorem dX6_night_40 : decode cX6_night 40 = .ok (.iload_n 2, 1) := dk_28 (dk_at dksX6_night_1 16 rfl rfl)
theorem dX6_night_41 : decode cX6_night 41 = .ok (.aload_n 0, 1) := dk_42 (dk_at dksX6_night_1 17 rfl rfl)
theorem dX6_night_42 : decode cX6_night 42 = .ok (.getfield 114, 3) := dk_180 0 114 (dk_at dksX6_night_1 18 rfl rfl)
theorem dX6_night_45 : decode cX6_night 45 = .ok (.iconst 2, 1) := dk_5 (dk_at dksX6_night_1 21 rfl rfl)
theorem dX6_night_46 : decode cX6_night 46 = .ok (.iaload, 1) := dk_46 (dk_at dksX6_night_1 22 rfl rfl)
theorem dX6_night_47 : decode cX6_night 47 = .ok (.if_icmp .le 17, 3) := dk_164 0 17 (dk_at dksX6_night_2 0 rfl rfl)
theorem dX6_night_50 : decode cX6_night 50 = .ok (.aload_n 0, 1) := dk_42 (dk_at dksX6_night_2 3 rfl rfl)
theorem dX6_night_51 : decode cX6_night 51 = .ok (.getfield 114, 3) := dk_180 0 114 (dk_at dksX6_night_2 4 rfl rfl)
theorem dX6_night_54 : decode cX6_night 54 = .ok (.iconst 2, 1) := dk_5 (dk_at dksX6_night_2 7 rfl rfl)
theorem dX6_night_55 : decode cX6_night 55 = .ok (.iload_n 2, 1) := dk_28 (dk_at dksX6_night_2 8 rfl rfl)
theorem dX6_night_56 : decode cX6_night 56 = .ok (.iastore, 1) := dk_79 (dk_at dksX6_night_2 9 rfl rfl)
theorem dX6_night_57 : decode cX6_night 57 = .ok (.aload_n 0, 1) := dk_42 (dk_at dksX6_night_2 10 rfl rfl)
theorem dX6_night_58 : decode cX6_night 58 = .ok (.getfield 114, 3) := dk_180 0 114 (dk_at dksX6_night_2 11 rfl rfl)
theorem dX6_night_61 : decode cX6_night 61 = .ok (.iconst 3, 1) := dk_6 (dk_at dksX6_night_2 14 rfl rfl)
theorem dX6_night_62 : decode cX6_night 62 = .ok (.iload_n 1, 1) := dk_27 (dk_at dksX6_night_2 15 rfl rfl)
theorem dX6_night_63 : decode cX6_night 63 = .ok (.iastore, 1) := dk_79 (dk_at dksX6_night_2 16 rfl rfl)
theorem dX6_night_64 : decode cX6_night 64 = .ok (.iload_n 2, 1) := dk_28 (dk_at dksX6_night_2 17 rfl rfl)
theorem dX6_night_65 : decode cX6_night 65 = .ok (.ireturn, 1) := dk_172 (dk_at dksX6_night_2 18 rfl rfl)
abbrev cX6_set : ByteArray := prog_25_method_76_code
def yX6_set : MethodName := ⟨RX6, "set", "(II)I"⟩
def dkwX6_set_1 : List UInt8 := [46, 62, 42, 180, 0, 40, 27, 28, 79, 29, 172]
abbrev dktX6_set_1 : List UInt8 := dkwX6_set_1 ++ []
def dkwX6_set_0 : List UInt8 := [27, 184, 0, 156, 153, 0, 13, 28, 3, 16, 99, 184, 0, 145, 154, 0, 5, 2, 172, 42, 180, 0, 40, 27]
abbrev dktX6_set_0 : List UInt8 := dkwX6_set_0 ++ dktX6_set_1
theorem dksX6_set_0 : cX6_set.data.toList.drop 0 = dktX6_set_0 := by decide +kernel
theorem dksX6_set_1 : cX6_set.data.toList.drop 24 = dktX6_set_1 := dk_seg dksX6_set_0 24 rfl rfl
theorem dX6_set_0 : decode cX6_set 0 = .ok (.iload_n 1, 1) := dk_27 (dk_at dksX6_set_0 0 rfl rfl)
theorem dX6_set_1 : decode cX6_set 1 = .ok (.invokestatic 156, 3) := dk_184 0 156 (dk_at dksX6_set_0 1 rfl rfl)
theorem dX6_set_4 : decode cX6_set 4 = .ok (.ifCond .eq 13, 3) := dk_153 0 13 (dk_at dksX6_set_0 4 rfl rfl)
theorem dX6_set_7 : decode cX6_set 7 = .ok (.iload_n 2, 1) := dk_28 (dk_at dksX6_set_0 7 rfl rfl)
theorem dX6_set_8 : decode cX6_set 8 = .ok (.iconst 0, 1) := dk_3 (dk_at dksX6_set_0 8 rfl rfl)
theorem dX6_set_9 : decode cX6_set 9 = .ok (.bipush 99, 2) := dk_16 99 (dk_at dksX6_set_0 9 rfl rfl)
theorem dX6_set_11 : decode cX6_set 11 = .ok (.invokestatic 145, 3) := dk_184 0 145 (dk_at dksX6_set_0 11 rfl rfl)
theorem dX6_set_14 : decode cX6_set 14 = .ok (.ifCond .ne 5, 3) := dk_154 0 5 (dk_at dksX6_set_0 14 rfl rfl)
theorem dX6_set_17 : decode cX6_set 17 = .ok (.iconst (-1), 1) := dk_2 (dk_at dksX6_set_0 17 rfl rfl)
theorem dX6_set_18 : decode cX6_set 18 = .ok (.ireturn, 1) := dk_172 (dk_at dksX6_set_0 18 rfl rfl)
theorem dX6_set_19 : decode cX6_set 19 = .ok (.aload_n 0, 1) := dk_42 (dk_at dksX6_set_0 19 rfl rfl)
theorem dX6_set_20 : decode cX6_set 20 = .ok (.getfield 40, 3) := dk_180 0 40 (dk_at dksX6_set_0 20 rfl rfl)
theorem dX6_set_23 : decode cX6_set 23 = .ok (.iload_n 1, 1) := dk_27 (dk_at dksX6_set_0 23 rfl rfl)
theorem dX6_set_24 : decode cX6_set 24 = .ok (.iaload, 1) := dk_46 (dk_at dksX6_set_1 0 rfl rfl)
theorem dX6_set_25 : decode cX6_set 25 = .ok (.istore_n 3, 1) := dk_62 (dk_at dksX6_set_1 1 rfl rfl)
theorem dX6_set_26 : decode cX6_set 26 = .ok (.aload_n 0, 1) := dk_42 (dk_at dksX6_set_1 2 rfl rfl)
theorem dX6_set_27 : decode cX6_set 27 = .ok (.getfield 40, 3) := dk_180 0 40 (dk_at dksX6_set_1 3 rfl rfl)
theorem dX6_set_30 : decode cX6_set 30 = .ok (.iload_n 1, 1) := dk_27 (dk_at dksX6_set_1 6 rfl rfl)
theorem dX6_set_31 : decode cX6_set 31 = .ok (.iload_n 2, 1) := dk_28 (dk_at dksX6_set_1 7 rfl rfl)
theorem dX6_set_32 : decode cX6_set 32 = .ok (.iastore, 1) := dk_79 (dk_at dksX6_set_1 8 rfl rfl)
theorem dX6_set_33 : decode cX6_set 33 = .ok (.iload_n 3, 1) := dk_29 (dk_at dksX6_set_1 9 rfl rfl)
theorem dX6_set_34 : decode cX6_set 34 = .ok (.ireturn, 1) := dk_172 (dk_at dksX6_set_1 10 rfl rfl)
abbrev cX6_forget : ByteArray := prog_25_method_77_code
def yX6_forget : MethodName := ⟨RX6, "forget", "(I)I"⟩
def dkwX6_forget_2 : List UInt8 := [96, 3, 79, 132, 3, 1, 167, 255, 234, 28, 172]
abbrev dktX6_forget_2 : List UInt8 := dkwX6_forget_2 ++ []
def dkwX6_forget_1 : List UInt8 := [16, 13, 27, 96, 3, 79, 3, 62, 29, 7, 162, 0, 23, 42, 180, 0, 40, 16, 20, 7, 27, 104, 96, 29]
abbrev dktX6_forget_1 : List UInt8 := dkwX6_forget_1 ++ dktX6_forget_2
def dkwX6_forget_0 : List UInt8 := [42, 27, 182, 0, 152, 154, 0, 5, 2, 172, 42, 180, 0, 40, 16, 13, 27, 96, 46, 61, 42, 180, 0, 40]
abbrev dktX6_forget_0 : List UInt8 := dkwX6_forget_0 ++ dktX6_forget_1
theorem dksX6_forget_0 : cX6_forget.data.toList.drop 0 = dktX6_forget_0 := by decide +kernel
theorem dksX6_forget_1 : cX6_forget.data.toList.drop 24 = dktX6_forget_1 := dk_seg dksX6_forget_0 24 rfl rfl
theorem dksX6_forget_2 : cX6_forget.data.toList.drop 48 = dktX6_forget_2 := dk_seg dksX6_forget_1 24 rfl rfl
theorem dX6_forget_0 : decode cX6_forget 0 = .ok (.aload_n 0, 1) := dk_42 (dk_at dksX6_forget_0 0 rfl rfl)
theorem dX6_forget_1 : decode cX6_forget 1 = .ok (.iload_n 1, 1) := dk_27 (dk_at dksX6_forget_0 1 rfl rfl)
theorem dX6_forget_2 : decode cX6_forget 2 = .ok (.invokevirtual 152, 3) := dk_182 0 152 (dk_at dksX6_forget_0 2 rfl rfl)
theorem dX6_forget_5 : decode cX6_forget 5 = .ok (.ifCond .ne 5, 3) := dk_154 0 5 (dk_at dksX6_forget_0 5 rfl rfl)
theorem dX6_forget_8 : decode cX6_forget 8 = .ok (.iconst (-1), 1) := dk_2 (dk_at dksX6_forget_0 8 rfl rfl)
theorem dX6_forget_9 : decode cX6_forget 9 = .ok (.ireturn, 1) := dk_172 (dk_at dksX6_forget_0 9 rfl rfl)
theorem dX6_forget_10 : decode cX6_forget 10 = .ok (.aload_n 0, 1) := dk_42 (dk_at dksX6_forget_0 10 rfl rfl)
theorem dX6_forget_11 : decode cX6_forget 11 = .ok (.getfield 40, 3) := dk_180 0 40 (dk_at dksX6_forget_0 11 rfl rfl)
theorem dX6_forget_14 : decode cX6_forget 14 = .ok (.bipush 13, 2) := dk_16 13 (dk_at dksX6_forget_0 14 rfl rfl)
theorem dX6_forget_16 : decode cX6_forget 16 = .ok (.iload_n 1, 1) := dk_27 (dk_at dksX6_forget_0 16 rfl rfl)
theorem dX6_forget_17 : decode cX6_forget 17 = .ok (.iadd, 1) := dk_96 (dk_at dksX6_forget_0 17 rfl rfl)
theorem dX6_forget_18 : decode cX6_forget 18 = .ok (.iaload, 1) := dk_46 (dk_at dksX6_forget_0 18 rfl rfl)
theorem dX6_forget_19 : decode cX6_forget 19 = .ok (.istore_n 2, 1) := dk_61 (dk_at dksX6_forget_0 19 rfl rfl)
theorem dX6_forget_20 : decode cX6_forget 20 = .ok (.aload_n 0, 1) := dk_42 (dk_at dksX6_forget_0 20 rfl rfl)
theorem dX6_forget_21 : decode cX6_forget 21 = .ok (.getfield 40, 3) := dk_180 0 40 (dk_at dksX6_forget_0 21 rfl rfl)
theorem dX6_forget_24 : decode cX6_forget 24 = .ok (.bipush 13, 2) := dk_16 13 (dk_at dksX6_forget_1 0 rfl rfl)
theorem dX6_forget_26 : decode cX6_forget 26 = .ok (.iload_n 1, 1) := dk_27 (dk_at dksX6_forget_1 2 rfl rfl)
theorem dX6_forget_27 : decode cX6_forget 27 = .ok (.iadd, 1) := dk_96 (dk_at dksX6_forget_1 3 rfl rfl)
theorem dX6_forget_28 : decode cX6_forget 28 = .ok (.iconst 0, 1) := dk_3 (dk_at dksX6_forget_1 4 rfl rfl)
theorem dX6_forget_29 : decode cX6_forget 29 = .ok (.iastore, 1) := dk_79 (dk_at dksX6_forget_1 5 rfl rfl)
theorem dX6_forget_30 : decode cX6_forget 30 = .ok (.iconst 0, 1) := dk_3 (dk_at dksX6_forget_1 6 rfl rfl)
theorem dX6_forget_31 : decode cX6_forget 31 = .ok (.istore_n 3, 1) := dk_62 (dk_at dksX6_forget_1 7 rfl rfl)
theorem dX6_forget_32 : decode cX6_forget 32 = .ok (.iload_n 3, 1) := dk_29 (dk_at dksX6_forget_1 8 rfl rfl)
theorem dX6_forget_33 : decode cX6_forget 33 = .ok (.iconst 4, 1) := dk_7 (dk_at dksX6_forget_1 9 rfl rfl)
theorem dX6_forget_34 : decode cX6_forget 34 = .ok (.if_icmp .ge 23, 3) := dk_162 0 23 (dk_at dksX6_forget_1 10 rfl rfl)
theorem dX6_forget_37 : decode cX6_forget 37 = .ok (.aload_n 0, 1) := dk_42 (dk_at dksX6_forget_1 13 rfl rfl)
theorem dX6_forget_38 : decode cX6_forget 38 = .ok (.getfield 40, 3) := dk_180 0 40 (dk_at dksX6_forget_1 14 rfl rfl)
theorem dX6_forget_41 : decode cX6_forget 41 = .ok (.bipush 20, 2) := dk_16 20 (dk_at dksX6_forget_1 17 rfl rfl)
theorem dX6_forget_43 : decode cX6_forget 43 = .ok (.iconst 4, 1) := dk_7 (dk_at dksX6_forget_1 19 rfl rfl)
theorem dX6_forget_44 : decode cX6_forget 44 = .ok (.iload_n 1, 1) := dk_27 (dk_at dksX6_forget_1 20 rfl rfl)
theorem dX6_forget_45 : decode cX6_forget 45 = .ok (.imul, 1) := dk_104 (dk_at dksX6_forget_1 21 rfl rfl)
theorem dX6_forget_46 : decode cX6_forget 46 = .ok (.iadd, 1) := dk_96 (dk_at dksX6_forget_1 22 rfl rfl)
theorem dX6_forget_47 : decode cX6_forget 47 = .ok (.iload_n 3, 1) := dk_29 (dk_at dksX6_forget_1 23 rfl rfl)
theorem dX6_forget_48 : decode cX6_forget 48 = .ok (.iadd, 1) := dk_96 (dk_at dksX6_forget_2 0 rfl rfl)
theorem dX6_forget_49 : decode cX6_forget 49 = .ok (.iconst 0, 1) := dk_3 (dk_at dksX6_forget_2 1 rfl rfl)
theorem dX6_forget_50 : decode cX6_forget 50 = .ok (.iastore, 1) := dk_79 (dk_at dksX6_forget_2 2 rfl rfl)
theorem dX6_forget_51 : decode cX6_forget 51 = .ok (.iinc 3 1, 3) := dk_132 3 1 (dk_at dksX6_forget_2 3 rfl rfl)
theorem dX6_forget_54 : decode cX6_forget 54 = .ok (.goto (-22), 3) := dk_167 255 234 (dk_at dksX6_forget_2 6 rfl rfl)
theorem dX6_forget_57 : decode cX6_forget 57 = .ok (.iload_n 2, 1) := dk_28 (dk_at dksX6_forget_2 9 rfl rfl)
theorem dX6_forget_58 : decode cX6_forget 58 = .ok (.ireturn, 1) := dk_172 (dk_at dksX6_forget_2 10 rfl rfl)
abbrev cX6_led : ByteArray := prog_25_method_78_code
def yX6_led : MethodName := ⟨RX6, "led", "(I)I"⟩
def dkwX6_led_0 : List UInt8 := [27, 3, 6, 184, 0, 145, 153, 0, 12, 42, 180, 0, 114, 27, 46, 167, 0, 4, 2, 172]
abbrev dktX6_led_0 : List UInt8 := dkwX6_led_0 ++ []
theorem dksX6_led_0 : cX6_led.data.toList.drop 0 = dktX6_led_0 := by decide +kernel
theorem dX6_led_0 : decode cX6_led 0 = .ok (.iload_n 1, 1) := dk_27 (dk_at dksX6_led_0 0 rfl rfl)
theorem dX6_led_1 : decode cX6_led 1 = .ok (.iconst 0, 1) := dk_3 (dk_at dksX6_led_0 1 rfl rfl)
theorem dX6_led_2 : decode cX6_led 2 = .ok (.iconst 3, 1) := dk_6 (dk_at dksX6_led_0 2 rfl rfl)
theorem dX6_led_3 : decode cX6_led 3 = .ok (.invokestatic 145, 3) := dk_184 0 145 (dk_at dksX6_led_0 3 rfl rfl)
theorem dX6_led_6 : decode cX6_led 6 = .ok (.ifCond .eq 12, 3) := dk_153 0 12 (dk_at dksX6_led_0 6 rfl rfl)
theorem dX6_led_9 : decode cX6_led 9 = .ok (.aload_n 0, 1) := dk_42 (dk_at dksX6_led_0 9 rfl rfl)
theorem dX6_led_10 : decode cX6_led 10 = .ok (.getfield 114, 3) := dk_180 0 114 (dk_at dksX6_led_0 10 rfl rfl)
theorem dX6_led_13 : decode cX6_led 13 = .ok (.iload_n 1, 1) := dk_27 (dk_at dksX6_led_0 13 rfl rfl)
theorem dX6_led_14 : decode cX6_led 14 = .ok (.iaload, 1) := dk_46 (dk_at dksX6_led_0 14 rfl rfl)
theorem dX6_led_15 : decode cX6_led 15 = .ok (.goto 4, 3) := dk_167 0 4 (dk_at dksX6_led_0 15 rfl rfl)
theorem dX6_led_18 : decode cX6_led 18 = .ok (.iconst (-1), 1) := dk_2 (dk_at dksX6_led_0 18 rfl rfl)
theorem dX6_led_19 : decode cX6_led 19 = .ok (.ireturn, 1) := dk_172 (dk_at dksX6_led_0 19 rfl rfl)
abbrev cX6_image : ByteArray := prog_25_method_79_code
def yX6_image : MethodName := ⟨RX6, "image", "()I"⟩
def dkwX6_image_2 : List UInt8 := [46, 79, 132, 1, 1, 167, 255, 236, 42, 180, 0, 114, 3, 46, 172]
abbrev dktX6_image_2 : List UInt8 := dkwX6_image_2 ++ []
def dkwX6_image_1 : List UInt8 := [79, 132, 1, 1, 167, 255, 235, 3, 60, 27, 7, 162, 0, 21, 42, 180, 0, 120, 27, 42, 180, 0, 114, 27]
abbrev dktX6_image_1 : List UInt8 := dkwX6_image_1 ++ dktX6_image_2
def dkwX6_image_0 : List UInt8 := [42, 4, 181, 1, 104, 3, 60, 27, 16, 48, 162, 0, 21, 42, 180, 0, 117, 27, 42, 180, 0, 40, 27, 46]
abbrev dktX6_image_0 : List UInt8 := dkwX6_image_0 ++ dktX6_image_1
theorem dksX6_image_0 : cX6_image.data.toList.drop 0 = dktX6_image_0 := by decide +kernel
theorem dksX6_image_1 : cX6_image.data.toList.drop 24 = dktX6_image_1 := dk_seg dksX6_image_0 24 rfl rfl
theorem dksX6_image_2 : cX6_image.data.toList.drop 48 = dktX6_image_2 := dk_seg dksX6_image_1 24 rfl rfl
theorem dX6_image_0 : decode cX6_image 0 = .ok (.aload_n 0, 1) := dk_42 (dk_at dksX6_image_0 0 rfl rfl)
theorem dX6_image_1 : decode cX6_image 1 = .ok (.iconst 1, 1) := dk_4 (dk_at dksX6_image_0 1 rfl rfl)
theorem dX6_image_2 : decode cX6_image 2 = .ok (.putfield 360, 3) := dk_181 1 104 (dk_at dksX6_image_0 2 rfl rfl)
theorem dX6_image_5 : decode cX6_image 5 = .ok (.iconst 0, 1) := dk_3 (dk_at dksX6_image_0 5 rfl rfl)
theorem dX6_image_6 : decode cX6_image 6 = .ok (.istore_n 1, 1) := dk_60 (dk_at dksX6_image_0 6 rfl rfl)
theorem dX6_image_7 : decode cX6_image 7 = .ok (.iload_n 1, 1) := dk_27 (dk_at dksX6_image_0 7 rfl rfl)
theorem dX6_image_8 : decode cX6_image 8 = .ok (.bipush 48, 2) := dk_16 48 (dk_at dksX6_image_0 8 rfl rfl)
theorem dX6_image_10 : decode cX6_image 10 = .ok (.if_icmp .ge 21, 3) := dk_162 0 21 (dk_at dksX6_image_0 10 rfl rfl)
theorem dX6_image_13 : decode cX6_image 13 = .ok (.aload_n 0, 1) := dk_42 (dk_at dksX6_image_0 13 rfl rfl)
theorem dX6_image_14 : decode cX6_image 14 = .ok (.getfield 117, 3) := dk_180 0 117 (dk_at dksX6_image_0 14 rfl rfl)
theorem dX6_image_17 : decode cX6_image 17 = .ok (.iload_n 1, 1) := dk_27 (dk_at dksX6_image_0 17 rfl rfl)
theorem dX6_image_18 : decode cX6_image 18 = .ok (.aload_n 0, 1) := dk_42 (dk_at dksX6_image_0 18 rfl rfl)
theorem dX6_image_19 : decode cX6_image 19 = .ok (.getfield 40, 3) := dk_180 0 40 (dk_at dksX6_image_0 19 rfl rfl)
theorem dX6_image_22 : decode cX6_image 22 = .ok (.iload_n 1, 1) := dk_27 (dk_at dksX6_image_0 22 rfl rfl)
theorem dX6_image_23 : decode cX6_image 23 = .ok (.iaload, 1) := dk_46 (dk_at dksX6_image_0 23 rfl rfl)
theorem dX6_image_24 : decode cX6_image 24 = .ok (.iastore, 1) := dk_79 (dk_at dksX6_image_1 0 rfl rfl)
theorem dX6_image_25 : decode cX6_image 25 = .ok (.iinc 1 1, 3) := dk_132 1 1 (dk_at dksX6_image_1 1 rfl rfl)
theorem dX6_image_28 : decode cX6_image 28 = .ok (.goto (-21), 3) := dk_167 255 235 (dk_at dksX6_image_1 4 rfl rfl)
theorem dX6_image_31 : decode cX6_image 31 = .ok (.iconst 0, 1) := dk_3 (dk_at dksX6_image_1 7 rfl rfl)
theorem dX6_image_32 : decode cX6_image 32 = .ok (.istore_n 1, 1) := dk_60 (dk_at dksX6_image_1 8 rfl rfl)
theorem dX6_image_33 : decode cX6_image 33 = .ok (.iload_n 1, 1) := dk_27 (dk_at dksX6_image_1 9 rfl rfl)
theorem dX6_image_34 : decode cX6_image 34 = .ok (.iconst 4, 1) := dk_7 (dk_at dksX6_image_1 10 rfl rfl)
theorem dX6_image_35 : decode cX6_image 35 = .ok (.if_icmp .ge 21, 3) := dk_162 0 21 (dk_at dksX6_image_1 11 rfl rfl)
theorem dX6_image_38 : decode cX6_image 38 = .ok (.aload_n 0, 1) := dk_42 (dk_at dksX6_image_1 14 rfl rfl)
theorem dX6_image_39 : decode cX6_image 39 = .ok (.getfield 120, 3) := dk_180 0 120 (dk_at dksX6_image_1 15 rfl rfl)
theorem dX6_image_42 : decode cX6_image 42 = .ok (.iload_n 1, 1) := dk_27 (dk_at dksX6_image_1 18 rfl rfl)
theorem dX6_image_43 : decode cX6_image 43 = .ok (.aload_n 0, 1) := dk_42 (dk_at dksX6_image_1 19 rfl rfl)
theorem dX6_image_44 : decode cX6_image 44 = .ok (.getfield 114, 3) := dk_180 0 114 (dk_at dksX6_image_1 20 rfl rfl)
theorem dX6_image_47 : decode cX6_image 47 = .ok (.iload_n 1, 1) := dk_27 (dk_at dksX6_image_1 23 rfl rfl)
theorem dX6_image_48 : decode cX6_image 48 = .ok (.iaload, 1) := dk_46 (dk_at dksX6_image_2 0 rfl rfl)
theorem dX6_image_49 : decode cX6_image 49 = .ok (.iastore, 1) := dk_79 (dk_at dksX6_image_2 1 rfl rfl)
theorem dX6_image_50 : decode cX6_image 50 = .ok (.iinc 1 1, 3) := dk_132 1 1 (dk_at dksX6_image_2 2 rfl rfl)
theorem dX6_image_53 : decode cX6_image 53 = .ok (.goto (-20), 3) := dk_167 255 236 (dk_at dksX6_image_2 5 rfl rfl)
theorem dX6_image_56 : decode cX6_image 56 = .ok (.aload_n 0, 1) := dk_42 (dk_at dksX6_image_2 8 rfl rfl)
theorem dX6_image_57 : decode cX6_image 57 = .ok (.getfield 114, 3) := dk_180 0 114 (dk_at dksX6_image_2 9 rfl rfl)
theorem dX6_image_60 : decode cX6_image 60 = .ok (.iconst 0, 1) := dk_3 (dk_at dksX6_image_2 12 rfl rfl)
theorem dX6_image_61 : decode cX6_image 61 = .ok (.iaload, 1) := dk_46 (dk_at dksX6_image_2 13 rfl rfl)
theorem dX6_image_62 : decode cX6_image 62 = .ok (.ireturn, 1) := dk_172 (dk_at dksX6_image_2 14 rfl rfl)
abbrev cX6_back : ByteArray := prog_25_method_80_code
def yX6_back : MethodName := ⟨RX6, "back", "()I"⟩
def dkwX6_back_2 : List UInt8 := [42, 180, 0, 120, 27, 46, 79, 132, 1, 1, 167, 255, 236, 42, 180, 0, 114, 3, 46, 172]
abbrev dktX6_back_2 : List UInt8 := dkwX6_back_2 ++ []
def dkwX6_back_1 : List UInt8 := [180, 0, 117, 27, 46, 79, 132, 1, 1, 167, 255, 235, 3, 60, 27, 7, 162, 0, 21, 42, 180, 0, 114, 27]
abbrev dktX6_back_1 : List UInt8 := dkwX6_back_1 ++ dktX6_back_2
def dkwX6_back_0 : List UInt8 := [42, 180, 1, 104, 154, 0, 6, 16, 251, 172, 3, 60, 27, 16, 48, 162, 0, 21, 42, 180, 0, 40, 27, 42]
abbrev dktX6_back_0 : List UInt8 := dkwX6_back_0 ++ dktX6_back_1
theorem dksX6_back_0 : cX6_back.data.toList.drop 0 = dktX6_back_0 := by decide +kernel
theorem dksX6_back_1 : cX6_back.data.toList.drop 24 = dktX6_back_1 := dk_seg dksX6_back_0 24 rfl rfl
theorem dksX6_back_2 : cX6_back.data.toList.drop 48 = dktX6_back_2 := dk_seg dksX6_back_1 24 rfl rfl
theorem dX6_back_0 : decode cX6_back 0 = .ok (.aload_n 0, 1) := dk_42 (dk_at dksX6_back_0 0 rfl rfl)
theorem dX6_back_1 : decode cX6_back 1 = .ok (.getfield 360, 3) := dk_180 1 104 (dk_at dksX6_back_0 1 rfl rfl)
theorem dX6_back_4 : decode cX6_back 4 = .ok (.ifCond .ne 6, 3) := dk_154 0 6 (dk_at dksX6_back_0 4 rfl rfl)
theorem dX6_back_7 : decode cX6_back 7 = .ok (.bipush (-5), 2) := dk_16 251 (dk_at dksX6_back_0 7 rfl rfl)
theorem dX6_back_9 : decode cX6_back 9 = .ok (.ireturn, 1) := dk_172 (dk_at dksX6_back_0 9 rfl rfl)
theorem dX6_back_10 : decode cX6_back 10 = .ok (.iconst 0, 1) := dk_3 (dk_at dksX6_back_0 10 rfl rfl)
theorem dX6_back_11 : decode cX6_back 11 = .ok (.istore_n 1, 1) := dk_60 (dk_at dksX6_back_0 11 rfl rfl)
theorem dX6_back_12 : decode cX6_back 12 = .ok (.iload_n 1, 1) := dk_27 (dk_at dksX6_back_0 12 rfl rfl)
theorem dX6_back_13 : decode cX6_back 13 = .ok (.bipush 48, 2) := dk_16 48 (dk_at dksX6_back_0 13 rfl rfl)
theorem dX6_back_15 : decode cX6_back 15 = .ok (.if_icmp .ge 21, 3) := dk_162 0 21 (dk_at dksX6_back_0 15 rfl rfl)
theorem dX6_back_18 : decode cX6_back 18 = .ok (.aload_n 0, 1) := dk_42 (dk_at dksX6_back_0 18 rfl rfl)
theorem dX6_back_19 : decode cX6_back 19 = .ok (.getfield 40, 3) := dk_180 0 40 (dk_at dksX6_back_0 19 rfl rfl)
theorem dX6_back_22 : decode cX6_back 22 = .ok (.iload_n 1, 1) := dk_27 (dk_at dksX6_back_0 22 rfl rfl)
theorem dX6_back_23 : decode cX6_back 23 = .ok (.aload_n 0, 1) := dk_42 (dk_at dksX6_back_0 23 rfl rfl)
theorem dX6_back_24 : decode cX6_back 24 = .ok (.getfield 117, 3) := dk_180 0 117 (dk_at dksX6_back_1 0 rfl rfl)
theorem dX6_back_27 : decode cX6_back 27 = .ok (.iload_n 1, 1) := dk_27 (dk_at dksX6_back_1 3 rfl rfl)
theorem dX6_back_28 : decode cX6_back 28 = .ok (.iaload, 1) := dk_46 (dk_at dksX6_back_1 4 rfl rfl)
theorem dX6_back_29 : decode cX6_back 29 = .ok (.iastore, 1) := dk_79 (dk_at dksX6_back_1 5 rfl rfl)
theorem dX6_back_30 : decode cX6_back 30 = .ok (.iinc 1 1, 3) := dk_132 1 1 (dk_at dksX6_back_1 6 rfl rfl)
theorem dX6_back_33 : decode cX6_back 33 = .ok (.goto (-21), 3) := dk_167 255 235 (dk_at dksX6_back_1 9 rfl rfl)
theorem dX6_back_36 : decode cX6_back 36 = .ok (.iconst 0, 1) := dk_3 (dk_at dksX6_back_1 12 rfl rfl)
theorem dX6_back_37 : decode cX6_back 37 = .ok (.istore_n 1, 1) := dk_60 (dk_at dksX6_back_1 13 rfl rfl)
theorem dX6_back_38 : decode cX6_back 38 = .ok (.iload_n 1, 1) := dk_27 (dk_at dksX6_back_1 14 rfl rfl)
theorem dX6_back_39 : decode cX6_back 39 = .ok (.iconst 4, 1) := dk_7 (dk_at dksX6_back_1 15 rfl rfl)
theorem dX6_back_40 : decode cX6_back 40 = .ok (.if_icmp .ge 21, 3) := dk_162 0 21 (dk_at dksX6_back_1 16 rfl rfl)
theorem dX6_back_43 : decode cX6_back 43 = .ok (.aload_n 0, 1) := dk_42 (dk_at dksX6_back_1 19 rfl rfl)
theorem dX6_back_44 : decode cX6_back 44 = .ok (.getfield 114, 3) := dk_180 0 114 (dk_at dksX6_back_1 20 rfl rfl)
theorem dX6_back_47 : decode cX6_back 47 = .ok (.iload_n 1, 1) := dk_27 (dk_at dksX6_back_1 23 rfl rfl)
theorem dX6_back_48 : decode cX6_back 48 = .ok (.aload_n 0, 1) := dk_42 (dk_at dksX6_back_2 0 rfl rfl)
theorem dX6_back_49 : decode cX6_back 49 = .ok (.getfield 120, 3) := dk_180 0 120 (dk_at dksX6_back_2 1 rfl rfl)
theorem dX6_back_52 : decode cX6_back 52 = .ok (.iload_n 1, 1) := dk_27 (dk_at dksX6_back_2 4 rfl rfl)
theorem dX6_back_53 : decode cX6_back 53 = .ok (.iaload, 1) := dk_46 (dk_at dksX6_back_2 5 rfl rfl)
theorem dX6_back_54 : decode cX6_back 54 = .ok (.iastore, 1) := dk_79 (dk_at dksX6_back_2 6 rfl rfl)
theorem dX6_back_55 : decode cX6_back 55 = .ok (.iinc 1 1, 3) := dk_132 1 1 (dk_at dksX6_back_2 7 rfl rfl)
theorem dX6_back_58 : decode cX6_back 58 = .ok (.goto (-20), 3) := dk_167 255 236 (dk_at dksX6_back_2 10 rfl rfl)
theorem dX6_back_61 : decode cX6_back 61 = .ok (.aload_n 0, 1) := dk_42 (dk_at dksX6_back_2 13 rfl rfl)
theorem dX6_back_62 : decode cX6_back 62 = .ok (.getfield 114, 3) := dk_180 0 114 (dk_at dksX6_back_2 14 rfl rfl)
theorem dX6_back_65 : decode cX6_back 65 = .ok (.iconst 0, 1) := dk_3 (dk_at dksX6_back_2 17 rfl rfl)
theorem dX6_back_66 : decode cX6_back 66 = .ok (.iaload, 1) := dk_46 (dk_at dksX6_back_2 18 rfl rfl)
theorem dX6_back_67 : decode cX6_back 67 = .ok (.ireturn, 1) := dk_172 (dk_at dksX6_back_2 19 rfl rfl)
abbrev cX6_trace : ByteArray := prog_25_method_84_code
def yX6_trace : MethodName := ⟨RX6, "trace", "(I)I"⟩
def dkwX6_trace_1 : List UInt8 := [167, 0, 4, 2, 172]
abbrev dktX6_trace_1 : List UInt8 := dkwX6_trace_1 ++ []
def dkwX6_trace_0 : List UInt8 := [27, 155, 0, 26, 27, 42, 180, 1, 110, 162, 0, 18, 27, 16, 24, 162, 0, 12, 42, 180, 0, 126, 27, 46]
abbrev dktX6_trace_0 : List UInt8 := dkwX6_trace_0 ++ dktX6_trace_1
theorem dksX6_trace_0 : cX6_trace.data.toList.drop 0 = dktX6_trace_0 := by decide +kernel
theorem dksX6_trace_1 : cX6_trace.data.toList.drop 24 = dktX6_trace_1 := dk_seg dksX6_trace_0 24 rfl rfl
theorem dX6_trace_0 : decode cX6_trace 0 = .ok (.iload_n 1, 1) := dk_27 (dk_at dksX6_trace_0 0 rfl rfl)
theorem dX6_trace_1 : decode cX6_trace 1 = .ok (.ifCond .lt 26, 3) := dk_155 0 26 (dk_at dksX6_trace_0 1 rfl rfl)
theorem dX6_trace_4 : decode cX6_trace 4 = .ok (.iload_n 1, 1) := dk_27 (dk_at dksX6_trace_0 4 rfl rfl)
theorem dX6_trace_5 : decode cX6_trace 5 = .ok (.aload_n 0, 1) := dk_42 (dk_at dksX6_trace_0 5 rfl rfl)
theorem dX6_trace_6 : decode cX6_trace 6 = .ok (.getfield 366, 3) := dk_180 1 110 (dk_at dksX6_trace_0 6 rfl rfl)
theorem dX6_trace_9 : decode cX6_trace 9 = .ok (.if_icmp .ge 18, 3) := dk_162 0 18 (dk_at dksX6_trace_0 9 rfl rfl)
theorem dX6_trace_12 : decode cX6_trace 12 = .ok (.iload_n 1, 1) := dk_27 (dk_at dksX6_trace_0 12 rfl rfl)
theorem dX6_trace_13 : decode cX6_trace 13 = .ok (.bipush 24, 2) := dk_16 24 (dk_at dksX6_trace_0 13 rfl rfl)
theorem dX6_trace_15 : decode cX6_trace 15 = .ok (.if_icmp .ge 12, 3) := dk_162 0 12 (dk_at dksX6_trace_0 15 rfl rfl)
theorem dX6_trace_18 : decode cX6_trace 18 = .ok (.aload_n 0, 1) := dk_42 (dk_at dksX6_trace_0 18 rfl rfl)
theorem dX6_trace_19 : decode cX6_trace 19 = .ok (.getfield 126, 3) := dk_180 0 126 (dk_at dksX6_trace_0 19 rfl rfl)
theorem dX6_trace_22 : decode cX6_trace 22 = .ok (.iload_n 1, 1) := dk_27 (dk_at dksX6_trace_0 22 rfl rfl)
theorem dX6_trace_23 : decode cX6_trace 23 = .ok (.iaload, 1) := dk_46 (dk_at dksX6_trace_0 23 rfl rfl)
theorem dX6_trace_24 : decode cX6_trace 24 = .ok (.goto 4, 3) := dk_167 0 4 (dk_at dksX6_trace_1 0 rfl rfl)
theorem dX6_trace_27 : decode cX6_trace 27 = .ok (.iconst (-1), 1) := dk_2 (dk_at dksX6_trace_1 3 rfl rfl)
theorem dX6_trace_28 : decode cX6_trace 28 = .ok (.ireturn, 1) := dk_172 (dk_at dksX6_trace_1 4 rfl rfl)
abbrev cX6_body : ByteArray := prog_25_method_85_code
def yX6_body : MethodName := ⟨RX6, "body", "(I)I"⟩
def dkwX6_body_2 : List UInt8 := [4, 100, 172]
abbrev dktX6_body_2 : List UInt8 := dkwX6_body_2 ++ []
def dkwX6_body_1 : List UInt8 := [42, 180, 0, 123, 42, 180, 1, 107, 27, 79, 42, 89, 180, 1, 107, 4, 96, 181, 1, 107, 42, 180, 1, 107]
abbrev dktX6_body_1 : List UInt8 := dkwX6_body_1 ++ dktX6_body_2
def dkwX6_body_0 : List UInt8 := [27, 3, 16, 7, 184, 0, 145, 154, 0, 5, 2, 172, 42, 180, 1, 107, 16, 50, 160, 0, 6, 16, 253, 172]
abbrev dktX6_body_0 : List UInt8 := dkwX6_body_0 ++ dktX6_body_1
theorem dksX6_body_0 : cX6_body.data.toList.drop 0 = dktX6_body_0 := by decide +kernel
theorem dksX6_body_1 : cX6_body.data.toList.drop 24 = dktX6_body_1 := dk_seg dksX6_body_0 24 rfl rfl
theorem dksX6_body_2 : cX6_body.data.toList.drop 48 = dktX6_body_2 := dk_seg dksX6_body_1 24 rfl rfl
theorem dX6_body_0 : decode cX6_body 0 = .ok (.iload_n 1, 1) := dk_27 (dk_at dksX6_body_0 0 rfl rfl)
theorem dX6_body_1 : decode cX6_body 1 = .ok (.iconst 0, 1) := dk_3 (dk_at dksX6_body_0 1 rfl rfl)
theorem dX6_body_2 : decode cX6_body 2 = .ok (.bipush 7, 2) := dk_16 7 (dk_at dksX6_body_0 2 rfl rfl)
theorem dX6_body_4 : decode cX6_body 4 = .ok (.invokestatic 145, 3) := dk_184 0 145 (dk_at dksX6_body_0 4 rfl rfl)
theorem dX6_body_7 : decode cX6_body 7 = .ok (.ifCond .ne 5, 3) := dk_154 0 5 (dk_at dksX6_body_0 7 rfl rfl)
theorem dX6_body_10 : decode cX6_body 10 = .ok (.iconst (-1), 1) := dk_2 (dk_at dksX6_body_0 10 rfl rfl)
theorem dX6_body_11 : decode cX6_body 11 = .ok (.ireturn, 1) := dk_172 (dk_at dksX6_body_0 11 rfl rfl)
theorem dX6_body_12 : decode cX6_body 12 = .ok (.aload_n 0, 1) := dk_42 (dk_at dksX6_body_0 12 rfl rfl)
theorem dX6_body_13 : decode cX6_body 13 = .ok (.getfield 363, 3) := dk_180 1 107 (dk_at dksX6_body_0 13 rfl rfl)
theorem dX6_body_16 : decode cX6_body 16 = .ok (.bipush 50, 2) := dk_16 50 (dk_at dksX6_body_0 16 rfl rfl)
theorem dX6_body_18 : decode cX6_body 18 = .ok (.if_icmp .ne 6, 3) := dk_160 0 6 (dk_at dksX6_body_0 18 rfl rfl)
theorem dX6_body_21 : decode cX6_body 21 = .ok (.bipush (-3), 2) := dk_16 253 (dk_at dksX6_body_0 21 rfl rfl)
theorem dX6_body_23 : decode cX6_body 23 = .ok (.ireturn, 1) := dk_172 (dk_at dksX6_body_0 23 rfl rfl)
theorem dX6_body_24 : decode cX6_body 24 = .ok (.aload_n 0, 1) := dk_42 (dk_at dksX6_body_1 0 rfl rfl)
theorem dX6_body_25 : decode cX6_body 25 = .ok (.getfield 123, 3) := dk_180 0 123 (dk_at dksX6_body_1 1 rfl rfl)
theorem dX6_body_28 : decode cX6_body 28 = .ok (.aload_n 0, 1) := dk_42 (dk_at dksX6_body_1 4 rfl rfl)
theorem dX6_body_29 : decode cX6_body 29 = .ok (.getfield 363, 3) := dk_180 1 107 (dk_at dksX6_body_1 5 rfl rfl)
theorem dX6_body_32 : decode cX6_body 32 = .ok (.iload_n 1, 1) := dk_27 (dk_at dksX6_body_1 8 rfl rfl)
theorem dX6_body_33 : decode cX6_body 33 = .ok (.iastore, 1) := dk_79 (dk_at dksX6_body_1 9 rfl rfl)
theorem dX6_body_34 : decode cX6_body 34 = .ok (.aload_n 0, 1) := dk_42 (dk_at dksX6_body_1 10 rfl rfl)
theorem dX6_body_35 : decode cX6_body 35 = .ok (.dup, 1) := dk_89 (dk_at dksX6_body_1 11 rfl rfl)
theorem dX6_body_36 : decode cX6_body 36 = .ok (.getfield 363, 3) := dk_180 1 107 (dk_at dksX6_body_1 12 rfl rfl)
theorem dX6_body_39 : decode cX6_body 39 = .ok (.iconst 1, 1) := dk_4 (dk_at dksX6_body_1 15 rfl rfl)
theorem dX6_body_40 : decode cX6_body 40 = .ok (.iadd, 1) := dk_96 (dk_at dksX6_body_1 16 rfl rfl)
theorem dX6_body_41 : decode cX6_body 41 = .ok (.putfield 363, 3) := dk_181 1 107 (dk_at dksX6_body_1 17 rfl rfl)
theorem dX6_body_44 : decode cX6_body 44 = .ok (.aload_n 0, 1) := dk_42 (dk_at dksX6_body_1 20 rfl rfl)
theorem dX6_body_45 : decode cX6_body 45 = .ok (.getfield 363, 3) := dk_180 1 107 (dk_at dksX6_body_1 21 rfl rfl)
theorem dX6_body_48 : decode cX6_body 48 = .ok (.iconst 1, 1) := dk_4 (dk_at dksX6_body_2 0 rfl rfl)
theorem dX6_body_49 : decode cX6_body 49 = .ok (.isub, 1) := dk_100 (dk_at dksX6_body_2 1 rfl rfl)
theorem dX6_body_50 : decode cX6_body 50 = .ok (.ireturn, 1) := dk_172 (dk_at dksX6_body_2 2 rfl rfl)
abbrev cX6_act : ByteArray := prog_25_method_98_code
def yX6_act : MethodName := ⟨RX6, "act", "(III)I"⟩
def dkwX6_act_2 : List UInt8 := [167, 0, 23, 28, 5, 160, 0, 12, 42, 27, 29, 182, 1, 134, 167, 0, 9, 42, 27, 29, 182, 1, 152, 172]
abbrev dktX6_act_2 : List UInt8 := dkwX6_act_2 ++ []
def dkwX6_act_1 : List UInt8 := [28, 154, 0, 12, 42, 27, 29, 182, 1, 125, 167, 0, 37, 28, 4, 160, 0, 12, 42, 27, 29, 182, 1, 143]
abbrev dktX6_act_1 : List UInt8 := dkwX6_act_1 ++ dktX6_act_2
def dkwX6_act_0 : List UInt8 := [42, 3, 181, 1, 110, 42, 27, 182, 1, 149, 153, 0, 12, 28, 3, 6, 184, 0, 145, 154, 0, 5, 3, 172]
abbrev dktX6_act_0 : List UInt8 := dkwX6_act_0 ++ dktX6_act_1
theorem dksX6_act_0 : cX6_act.data.toList.drop 0 = dktX6_act_0 := by decide +kernel
theorem dksX6_act_1 : cX6_act.data.toList.drop 24 = dktX6_act_1 := dk_seg dksX6_act_0 24 rfl rfl
theorem dksX6_act_2 : cX6_act.data.toList.drop 48 = dktX6_act_2 := dk_seg dksX6_act_1 24 rfl rfl
theorem dX6_act_0 : decode cX6_act 0 = .ok (.aload_n 0, 1) := dk_42 (dk_at dksX6_act_0 0 rfl rfl)
theorem dX6_act_1 : decode cX6_act 1 = .ok (.iconst 0, 1) := dk_3 (dk_at dksX6_act_0 1 rfl rfl)
theorem dX6_act_2 : decode cX6_act 2 = .ok (.putfield 366, 3) := dk_181 1 110 (dk_at dksX6_act_0 2 rfl rfl)
theorem dX6_act_5 : decode cX6_act 5 = .ok (.aload_n 0, 1) := dk_42 (dk_at dksX6_act_0 5 rfl rfl)
theorem dX6_act_6 : decode cX6_act 6 = .ok (.iload_n 1, 1) := dk_27 (dk_at dksX6_act_0 6 rfl rfl)
theorem dX6_act_7 : decode cX6_act 7 = .ok (.invokevirtual 405, 3) := dk_182 1 149 (dk_at dksX6_act_0 7 rfl rfl)
theorem dX6_act_10 : decode cX6_act 10 = .ok (.ifCond .eq 12, 3) := dk_153 0 12 (dk_at dksX6_act_0 10 rfl rfl)
theorem dX6_act_13 : decode cX6_act 13 = .ok (.iload_n 2, 1) := dk_28 (dk_at dksX6_act_0 13 rfl rfl)
theorem dX6_act_14 : decode cX6_act 14 = .ok (.iconst 0, 1) := dk_3 (dk_at dksX6_act_0 14 rfl rfl)
theorem dX6_act_15 : decode cX6_act 15 = .ok (.iconst 3, 1) := dk_6 (dk_at dksX6_act_0 15 rfl rfl)
theorem dX6_act_16 : decode cX6_act 16 = .ok (.invokestatic 145, 3) := dk_184 0 145 (dk_at dksX6_act_0 16 rfl rfl)
theorem dX6_act_19 : decode cX6_act 19 = .ok (.ifCond .ne 5, 3) := dk_154 0 5 (dk_at dksX6_act_0 19 rfl rfl)
theorem dX6_act_22 : decode cX6_act 22 = .ok (.iconst 0, 1) := dk_3 (dk_at dksX6_act_0 22 rfl rfl)
theorem dX6_act_23 : decode cX6_act 23 = .ok (.ireturn, 1) := dk_172 (dk_at dksX6_act_0 23 rfl rfl)
theorem dX6_act_24 : decode cX6_act 24 = .ok (.iload_n 2, 1) := dk_28 (dk_at dksX6_act_1 0 rfl rfl)
theorem dX6_act_25 : decode cX6_act 25 = .ok (.ifCond .ne 12, 3) := dk_154 0 12 (dk_at dksX6_act_1 1 rfl rfl)
theorem dX6_act_28 : decode cX6_act 28 = .ok (.aload_n 0, 1) := dk_42 (dk_at dksX6_act_1 4 rfl rfl)
theorem dX6_act_29 : decode cX6_act 29 = .ok (.iload_n 1, 1) := dk_27 (dk_at dksX6_act_1 5 rfl rfl)
theorem dX6_act_30 : decode cX6_act 30 = .ok (.iload_n 3, 1) := dk_29 (dk_at dksX6_act_1 6 rfl rfl)
theorem dX6_act_31 : decode cX6_act 31 = .ok (.invokevirtual 381, 3) := dk_182 1 125 (dk_at dksX6_act_1 7 rfl rfl)
theorem dX6_act_34 : decode cX6_act 34 = .ok (.goto 37, 3) := dk_167 0 37 (dk_at dksX6_act_1 10 rfl rfl)
theorem dX6_act_37 : decode cX6_act 37 = .ok (.iload_n 2, 1) := dk_28 (dk_at dksX6_act_1 13 rfl rfl)
theorem dX6_act_38 : decode cX6_act 38 = .ok (.iconst 1, 1) := dk_4 (dk_at dksX6_act_1 14 rfl rfl)
theorem dX6_act_39 : decode cX6_act 39 = .ok (.if_icmp .ne 12, 3) := dk_160 0 12 (dk_at dksX6_act_1 15 rfl rfl)
theorem dX6_act_42 : decode cX6_act 42 = .ok (.aload_n 0, 1) := dk_42 (dk_at dksX6_act_1 18 rfl rfl)
theorem dX6_act_43 : decode cX6_act 43 = .ok (.iload_n 1, 1) := dk_27 (dk_at dksX6_act_1 19 rfl rfl)
theorem dX6_act_44 : decode cX6_act 44 = .ok (.iload_n 3, 1) := dk_29 (dk_at dksX6_act_1 20 rfl rfl)
theorem dX6_act_45 : decode cX6_act 45 = .ok (.invokevirtual 399, 3) := dk_182 1 143 (dk_at dksX6_act_1 21 rfl rfl)
theorem dX6_act_48 : decode cX6_act 48 = .ok (.goto 23, 3) := dk_167 0 23 (dk_at dksX6_act_2 0 rfl rfl)
theorem dX6_act_51 : decode cX6_act 51 = .ok (.iload_n 2, 1) := dk_28 (dk_at dksX6_act_2 3 rfl rfl)
theorem dX6_act_52 : decode cX6_act 52 = .ok (.iconst 2, 1) := dk_5 (dk_at dksX6_act_2 4 rfl rfl)
theorem dX6_act_53 : decode cX6_act 53 = .ok (.if_icmp .ne 12, 3) := dk_160 0 12 (dk_at dksX6_act_2 5 rfl rfl)
theorem dX6_act_56 : decode cX6_act 56 = .ok (.aload_n 0, 1) := dk_42 (dk_at dksX6_act_2 8 rfl rfl)
theorem dX6_act_57 : decode cX6_act 57 = .ok (.iload_n 1, 1) := dk_27 (dk_at dksX6_act_2 9 rfl rfl)
theorem dX6_act_58 : decode cX6_act 58 = .ok (.iload_n 3, 1) := dk_29 (dk_at dksX6_act_2 10 rfl rfl)
theorem dX6_act_59 : decode cX6_act 59 = .ok (.invokevirtual 390, 3) := dk_182 1 134 (dk_at dksX6_act_2 11 rfl rfl)
theorem dX6_act_62 : decode cX6_act 62 = .ok (.goto 9, 3) := dk_167 0 9 (dk_at dksX6_act_2 14 rfl rfl)
theorem dX6_act_65 : decode cX6_act 65 = .ok (.aload_n 0, 1) := dk_42 (dk_at dksX6_act_2 17 rfl rfl)
theorem dX6_act_66 : decode cX6_act 66 = .ok (.iload_n 1, 1) := dk_27 (dk_at dksX6_act_2 18 rfl rfl)
theorem dX6_act_67 : decode cX6_act 67 = .ok (.iload_n 3, 1) := dk_29 (dk_at dksX6_act_2 19 rfl rfl)
theorem dX6_act_68 : decode cX6_act 68 = .ok (.invokevirtual 408, 3) := dk_182 1 152 (dk_at dksX6_act_2 20 rfl rfl)
theorem dX6_act_71 : decode cX6_act 71 = .ok (.ireturn, 1) := dk_172 (dk_at dksX6_act_2 23 rfl rfl)
abbrev cX6_isBody : ByteArray := prog_25_method_82_code
def yX6_isBody : MethodName := ⟨RX6, "isBody", "(I)Z"⟩
def dkwX6_isBody_0 : List UInt8 := [27, 3, 42, 180, 1, 107, 4, 100, 184, 0, 145, 172]
abbrev dktX6_isBody_0 : List UInt8 := dkwX6_isBody_0 ++ []
theorem dksX6_isBody_0 : cX6_isBody.data.toList.drop 0 = dktX6_isBody_0 := by decide +kernel
theorem dX6_isBody_0 : decode cX6_isBody 0 = .ok (.iload_n 1, 1) := dk_27 (dk_at dksX6_isBody_0 0 rfl rfl)
theorem dX6_isBody_1 : decode cX6_isBody 1 = .ok (.iconst 0, 1) := dk_3 (dk_at dksX6_isBody_0 1 rfl rfl)
theorem dX6_isBody_2 : decode cX6_isBody 2 = .ok (.aload_n 0, 1) := dk_42 (dk_at dksX6_isBody_0 2 rfl rfl)
theorem dX6_isBody_3 : decode cX6_isBody 3 = .ok (.getfield 363, 3) := dk_180 1 107 (dk_at dksX6_isBody_0 3 rfl rfl)
theorem dX6_isBody_6 : decode cX6_isBody 6 = .ok (.iconst 1, 1) := dk_4 (dk_at dksX6_isBody_0 6 rfl rfl)
theorem dX6_isBody_7 : decode cX6_isBody 7 = .ok (.isub, 1) := dk_100 (dk_at dksX6_isBody_0 7 rfl rfl)
theorem dX6_isBody_8 : decode cX6_isBody 8 = .ok (.invokestatic 145, 3) := dk_184 0 145 (dk_at dksX6_isBody_0 8 rfl rfl)
theorem dX6_isBody_11 : decode cX6_isBody 11 = .ok (.ireturn, 1) := dk_172 (dk_at dksX6_isBody_0 11 rfl rfl)
abbrev cX6_coming : ByteArray := prog_25_method_89_code
def yX6_coming : MethodName := ⟨RX6, "coming", "(II)I"⟩
def dkwX6_coming_3 : List UInt8 := [182, 1, 122, 167, 0, 9, 42, 27, 28, 182, 1, 116, 172]
abbrev dktX6_coming_3 : List UInt8 := dkwX6_coming_3 ++ []
def dkwX6_coming_2 : List UInt8 := [27, 28, 182, 1, 122, 4, 100, 172, 42, 180, 0, 123, 27, 46, 16, 6, 160, 0, 12, 42, 27, 28]
abbrev dktX6_coming_2 : List UInt8 := dkwX6_coming_2 ++ dktX6_coming_3
def dkwX6_coming_1 : List UInt8 := [182, 1, 116, 6, 96, 172, 42, 180, 0, 123, 27, 46, 16, 7, 160, 0, 18, 42, 16, 81, 182, 1, 113, 42]
abbrev dktX6_coming_1 : List UInt8 := dkwX6_coming_1 ++ dktX6_coming_2
def dkwX6_coming_0 : List UInt8 := [42, 180, 0, 123, 27, 46, 4, 184, 1, 119, 153, 0, 18, 42, 16, 20, 182, 1, 113, 42, 27, 28]
abbrev dktX6_coming_0 : List UInt8 := dkwX6_coming_0 ++ dktX6_coming_1
theorem dksX6_coming_0 : cX6_coming.data.toList.drop 0 = dktX6_coming_0 := by decide +kernel
theorem dksX6_coming_1 : cX6_coming.data.toList.drop 22 = dktX6_coming_1 := dk_seg dksX6_coming_0 22 rfl rfl
theorem dksX6_coming_2 : cX6_coming.data.toList.drop 46 = dktX6_coming_2 := dk_seg dksX6_coming_1 24 rfl rfl
theorem dksX6_coming_3 : cX6_coming.data.toList.drop 68 = dktX6_coming_3 := dk_seg dksX6_coming_2 22 rfl rfl
theorem dX6_coming_0 : decode cX6_coming 0 = .ok (.aload_n 0, 1) := dk_42 (dk_at dksX6_coming_0 0 rfl rfl)
theorem dX6_coming_1 : decode cX6_coming 1 = .ok (.getfield 123, 3) := dk_180 0 123 (dk_at dksX6_coming_0 1 rfl rfl)
theorem dX6_coming_4 : decode cX6_coming 4 = .ok (.iload_n 1, 1) := dk_27 (dk_at dksX6_coming_0 4 rfl rfl)
theorem dX6_coming_5 : decode cX6_coming 5 = .ok (.iaload, 1) := dk_46 (dk_at dksX6_coming_0 5 rfl rfl)
theorem dX6_coming_6 : decode cX6_coming 6 = .ok (.iconst 1, 1) := dk_4 (dk_at dksX6_coming_0 6 rfl rfl)
theorem dX6_coming_7 : decode cX6_coming 7 = .ok (.invokestatic 375, 3) := dk_184 1 119 (dk_at dksX6_coming_0 7 rfl rfl)
theorem dX6_coming_10 : decode cX6_coming 10 = .ok (.ifCond .eq 18, 3) := dk_153 0 18 (dk_at dksX6_coming_0 10 rfl rfl)
theorem dX6_coming_13 : decode cX6_coming 13 = .ok (.aload_n 0, 1) := dk_42 (dk_at dksX6_coming_0 13 rfl rfl)
theorem dX6_coming_14 : decode cX6_coming 14 = .ok (.bipush 20, 2) := dk_16 20 (dk_at dksX6_coming_0 14 rfl rfl)
theorem dX6_coming_16 : decode cX6_coming 16 = .ok (.invokevirtual 369, 3) := dk_182 1 113 (dk_at dksX6_coming_0 16 rfl rfl)
theorem dX6_coming_19 : decode cX6_coming 19 = .ok (.aload_n 0, 1) := dk_42 (dk_at dksX6_coming_0 19 rfl rfl)
theorem dX6_coming_20 : decode cX6_coming 20 = .ok (.iload_n 1, 1) := dk_27 (dk_at dksX6_coming_0 20 rfl rfl)
theorem dX6_coming_21 : decode cX6_coming 21 = .ok (.iload_n 2, 1) := dk_28 (dk_at dksX6_coming_0 21 rfl rfl)
theorem dX6_coming_22 : decode cX6_coming 22 = .ok (.invokevirtual 372, 3) := dk_182 1 116 (dk_at dksX6_coming_1 0 rfl rfl)
theorem dX6_coming_25 : decode cX6_coming 25 = .ok (.iconst 3, 1) := dk_6 (dk_at dksX6_coming_1 3 rfl rfl)
theorem dX6_coming_26 : decode cX6_coming 26 = .ok (.iadd, 1) := dk_96 (dk_at dksX6_coming_1 4 rfl rfl)
theorem dX6_coming_27 : decode cX6_coming 27 = .ok (.ireturn, 1) := dk_172 (dk_at dksX6_coming_1 5 rfl rfl)
theorem dX6_coming_28 : decode cX6_coming 28 = .ok (.aload_n 0, 1) := dk_42 (dk_at dksX6_coming_1 6 rfl rfl)
theorem dX6_coming_29 : decode cX6_coming 29 = .ok (.getfield 123, 3) := dk_180 0 123 (dk_at dksX6_coming_1 7 rfl rfl)
theorem dX6_coming_32 : decode cX6_coming 32 = .ok (.iload_n 1, 1) := dk_27 (dk_at dksX6_coming_1 10 rfl rfl)
theorem dX6_coming_33 : decode cX6_coming 33 = .ok (.iaload, 1) := dk_46 (dk_at dksX6_coming_1 11 rfl rfl)
theorem dX6_coming_34 : decode cX6_coming 34 = .ok (.bipush 7, 2) := dk_16 7 (dk_at dksX6_coming_1 12 rfl rfl)
theorem dX6_coming_36 : decode cX6_coming 36 = .ok (.if_icmp .ne 18, 3) := dk_160 0 18 (dk_at dksX6_coming_1 14 rfl rfl)
theorem dX6_coming_39 : decode cX6_coming 39 = .ok (.aload_n 0, 1) := dk_42 (dk_at dksX6_coming_1 17 rfl rfl)
theorem dX6_coming_40 : decode cX6_coming 40 = .ok (.bipush 81, 2) := dk_16 81 (dk_at dksX6_coming_1 18 rfl rfl)
theorem dX6_coming_42 : decode cX6_coming 42 = .ok (.invokevirtual 369, 3) := dk_182 1 113 (dk_at dksX6_coming_1 20 rfl rfl)
theorem dX6_coming_45 : decode cX6_coming 45 = .ok (.aload_n 0, 1) := dk_42 (dk_at dksX6_coming_1 23 rfl rfl)
theorem dX6_coming_46 : decode cX6_coming 46 = .ok (.iload_n 1, 1) := dk_27 (dk_at dksX6_coming_2 0 rfl rfl)
theorem dX6_coming_47 : decode cX6_coming 47 = .ok (.iload_n 2, 1) := dk_28 (dk_at dksX6_coming_2 1 rfl rfl)
theorem dX6_coming_48 : decode cX6_coming 48 = .ok (.invokevirtual 378, 3) := dk_182 1 122 (dk_at dksX6_coming_2 2 rfl rfl)
theorem dX6_coming_51 : decode cX6_coming 51 = .ok (.iconst 1, 1) := dk_4 (dk_at dksX6_coming_2 5 rfl rfl)
theorem dX6_coming_52 : decode cX6_coming 52 = .ok (.isub, 1) := dk_100 (dk_at dksX6_coming_2 6 rfl rfl)
theorem dX6_coming_53 : decode cX6_coming 53 = .ok (.ireturn, 1) := dk_172 (dk_at dksX6_coming_2 7 rfl rfl)
theorem dX6_coming_54 : decode cX6_coming 54 = .ok (.aload_n 0, 1) := dk_42 (dk_at dksX6_coming_2 8 rfl rfl)
theorem dX6_coming_55 : decode cX6_coming 55 = .ok (.getfield 123, 3) := dk_180 0 123 (dk_at dksX6_coming_2 9 rfl rfl)
theorem dX6_coming_58 : decode cX6_coming 58 = .ok (.iload_n 1, 1) := dk_27 (dk_at dksX6_coming_2 12 rfl rfl)
theorem dX6_coming_59 : decode cX6_coming 59 = .ok (.iaload, 1) := dk_46 (dk_at dksX6_coming_2 13 rfl rfl)
theorem dX6_coming_60 : decode cX6_coming 60 = .ok (.bipush 6, 2) := dk_16 6 (dk_at dksX6_coming_2 14 rfl rfl)
theorem dX6_coming_62 : decode cX6_coming 62 = .ok (.if_icmp .ne 12, 3) := dk_160 0 12 (dk_at dksX6_coming_2 16 rfl rfl)
theorem dX6_coming_65 : decode cX6_coming 65 = .ok (.aload_n 0, 1) := dk_42 (dk_at dksX6_coming_2 19 rfl rfl)
theorem dX6_coming_66 : decode cX6_coming 66 = .ok (.iload_n 1, 1) := dk_27 (dk_at dksX6_coming_2 20 rfl rfl)
theorem dX6_coming_67 : decode cX6_coming 67 = .ok (.iload_n 2, 1) := dk_28 (dk_at dksX6_coming_2 21 rfl rfl)
theorem dX6_coming_68 : decode cX6_coming 68 = .ok (.invokevirtual 378, 3) := dk_182 1 122 (dk_at dksX6_coming_3 0 rfl rfl)
theorem dX6_coming_71 : decode cX6_coming 71 = .ok (.goto 9, 3) := dk_167 0 9 (dk_at dksX6_coming_3 3 rfl rfl)
theorem dX6_coming_74 : decode cX6_coming 74 = .ok (.aload_n 0, 1) := dk_42 (dk_at dksX6_coming_3 6 rfl rfl)
theorem dX6_coming_75 : decode cX6_coming 75 = .ok (.iload_n 1, 1) := dk_27 (dk_at dksX6_coming_3 7 rfl rfl)
theorem dX6_coming_76 : decode cX6_coming 76 = .ok (.iload_n 2, 1) := dk_28 (dk_at dksX6_coming_3 8 rfl rfl)
theorem dX6_coming_77 : decode cX6_coming 77 = .ok (.invokevirtual 372, 3) := dk_182 1 116 (dk_at dksX6_coming_3 9 rfl rfl)
theorem dX6_coming_80 : decode cX6_coming 80 = .ok (.ireturn, 1) := dk_172 (dk_at dksX6_coming_3 12 rfl rfl)
abbrev cX6_isUnder : ByteArray := prog_25_method_86_code
def yX6_isUnder : MethodName := ⟨RX6, "isUnder", "(II)Z"⟩
def dkwX6_isUnder_2 : List UInt8 := [160, 0, 13, 26, 16, 7, 160, 0, 7, 4, 167, 0, 4, 3, 172]
abbrev dktX6_isUnder_2 : List UInt8 := dkwX6_isUnder_2 ++ []
def dkwX6_isUnder_1 : List UInt8 := [26, 6, 159, 0, 30, 26, 8, 159, 0, 25, 27, 6, 160, 0, 8, 26, 8, 159, 0, 15, 27, 16, 6]
abbrev dktX6_isUnder_1 : List UInt8 := dkwX6_isUnder_1 ++ dktX6_isUnder_2
def dkwX6_isUnder_0 : List UInt8 := [27, 153, 0, 55, 26, 27, 159, 0, 50, 27, 4, 160, 0, 8, 26, 7, 159, 0, 40, 27, 5, 160, 0, 13]
abbrev dktX6_isUnder_0 : List UInt8 := dkwX6_isUnder_0 ++ dktX6_isUnder_1
theorem dksX6_isUnder_0 : cX6_isUnder.data.toList.drop 0 = dktX6_isUnder_0 := by decide +kernel
theorem dksX6_isUnder_1 : cX6_isUnder.data.toList.drop 24 = dktX6_isUnder_1 := dk_seg dksX6_isUnder_0 24 rfl rfl
theorem dksX6_isUnder_2 : cX6_isUnder.data.toList.drop 47 = dktX6_isUnder_2 := dk_seg dksX6_isUnder_1 23 rfl rfl
theorem dX6_isUnder_0 : decode cX6_isUnder 0 = .ok (.iload_n 1, 1) := dk_27 (dk_at dksX6_isUnder_0 0 rfl rfl)
theorem dX6_isUnder_1 : decode cX6_isUnder 1 = .ok (.ifCond .eq 55, 3) := dk_153 0 55 (dk_at dksX6_isUnder_0 1 rfl rfl)
theorem dX6_isUnder_4 : decode cX6_isUnder 4 = .ok (.iload_n 0, 1) := dk_26 (dk_at dksX6_isUnder_0 4 rfl rfl)
theorem dX6_isUnder_5 : decode cX6_isUnder 5 = .ok (.iload_n 1, 1) := dk_27 (dk_at dksX6_isUnder_0 5 rfl rfl)
theorem dX6_isUnder_6 : decode cX6_isUnder 6 = .ok (.if_icmp .eq 50, 3) := dk_159 0 50 (dk_at dksX6_isUnder_0 6 rfl rfl)
theorem dX6_isUnder_9 : decode cX6_isUnder 9 = .ok (.iload_n 1, 1) := dk_27 (dk_at dksX6_isUnder_0 9 rfl rfl)
theorem dX6_isUnder_10 : decode cX6_isUnder 10 = .ok (.iconst 1, 1) := dk_4 (dk_at dksX6_isUnder_0 10 rfl rfl)
theorem dX6_isUnder_11 : decode cX6_isUnder 11 = .ok (.if_icmp .ne 8, 3) := dk_160 0 8 (dk_at dksX6_isUnder_0 11 rfl rfl)
theorem dX6_isUnder_14 : decode cX6_isUnder 14 = .ok (.iload_n 0, 1) := dk_26 (dk_at dksX6_isUnder_0 14 rfl rfl)
theorem dX6_isUnder_15 : decode cX6_isUnder 15 = .ok (.iconst 4, 1) := dk_7 (dk_at dksX6_isUnder_0 15 rfl rfl)
theorem dX6_isUnder_16 : decode cX6_isUnder 16 = .ok (.if_icmp .eq 40, 3) := dk_159 0 40 (dk_at dksX6_isUnder_0 16 rfl rfl)
theorem dX6_isUnder_19 : decode cX6_isUnder 19 = .ok (.iload_n 1, 1) := dk_27 (dk_at dksX6_isUnder_0 19 rfl rfl)
theorem dX6_isUnder_20 : decode cX6_isUnder 20 = .ok (.iconst 2, 1) := dk_5 (dk_at dksX6_isUnder_0 20 rfl rfl)
theorem dX6_isUnder_21 : decode cX6_isUnder 21 = .ok (.if_icmp .ne 13, 3) := dk_160 0 13 (dk_at dksX6_isUnder_0 21 rfl rfl)
theorem dX6_isUnder_24 : decode cX6_isUnder 24 = .ok (.iload_n 0, 1) := dk_26 (dk_at dksX6_isUnder_1 0 rfl rfl)
theorem dX6_isUnder_25 : decode cX6_isUnder 25 = .ok (.iconst 3, 1) := dk_6 (dk_at dksX6_isUnder_1 1 rfl rfl)
theorem dX6_isUnder_26 : decode cX6_isUnder 26 = .ok (.if_icmp .eq 30, 3) := dk_159 0 30 (dk_at dksX6_isUnder_1 2 rfl rfl)
theorem dX6_isUnder_29 : decode cX6_isUnder 29 = .ok (.iload_n 0, 1) := dk_26 (dk_at dksX6_isUnder_1 5 rfl rfl)
theorem dX6_isUnder_30 : decode cX6_isUnder 30 = .ok (.iconst 5, 1) := dk_8 (dk_at dksX6_isUnder_1 6 rfl rfl)
theorem dX6_isUnder_31 : decode cX6_isUnder 31 = .ok (.if_icmp .eq 25, 3) := dk_159 0 25 (dk_at dksX6_isUnder_1 7 rfl rfl)
theorem dX6_isUnder_34 : decode cX6_isUnder 34 = .ok (.iload_n 1, 1) := dk_27 (dk_at dksX6_isUnder_1 10 rfl rfl)
theorem dX6_isUnder_35 : decode cX6_isUnder 35 = .ok (.iconst 3, 1) := dk_6 (dk_at dksX6_isUnder_1 11 rfl rfl)
theorem dX6_isUnder_36 : decode cX6_isUnder 36 = .ok (.if_icmp .ne 8, 3) := dk_160 0 8 (dk_at dksX6_isUnder_1 12 rfl rfl)
theorem dX6_isUnder_39 : decode cX6_isUnder 39 = .ok (.iload_n 0, 1) := dk_26 (dk_at dksX6_isUnder_1 15 rfl rfl)
theorem dX6_isUnder_40 : decode cX6_isUnder 40 = .ok (.iconst 5, 1) := dk_8 (dk_at dksX6_isUnder_1 16 rfl rfl)
theorem dX6_isUnder_41 : decode cX6_isUnder 41 = .ok (.if_icmp .eq 15, 3) := dk_159 0 15 (dk_at dksX6_isUnder_1 17 rfl rfl)
theorem dX6_isUnder_44 : decode cX6_isUnder 44 = .ok (.iload_n 1, 1) := dk_27 (dk_at dksX6_isUnder_1 20 rfl rfl)
theorem dX6_isUnder_45 : decode cX6_isUnder 45 = .ok (.bipush 6, 2) := dk_16 6 (dk_at dksX6_isUnder_1 21 rfl rfl)
theorem dX6_isUnder_47 : decode cX6_isUnder 47 = .ok (.if_icmp .ne 13, 3) := dk_160 0 13 (dk_at dksX6_isUnder_2 0 rfl rfl)
theorem dX6_isUnder_50 : decode cX6_isUnder 50 = .ok (.iload_n 0, 1) := dk_26 (dk_at dksX6_isUnder_2 3 rfl rfl)
theorem dX6_isUnder_51 : decode cX6_isUnder 51 = .ok (.bipush 7, 2) := dk_16 7 (dk_at dksX6_isUnder_2 4 rfl rfl)
theorem dX6_isUnder_53 : decode cX6_isUnder 53 = .ok (.if_icmp .ne 7, 3) := dk_160 0 7 (dk_at dksX6_isUnder_2 6 rfl rfl)
theorem dX6_isUnder_56 : decode cX6_isUnder 56 = .ok (.iconst 1, 1) := dk_4 (dk_at dksX6_isUnder_2 9 rfl rfl)
theorem dX6_isUnder_57 : decode cX6_isUnder 57 = .ok (.goto 4, 3) := dk_167 0 4 (dk_at dksX6_isUnder_2 10 rfl rfl)
theorem dX6_isUnder_60 : decode cX6_isUnder 60 = .ok (.iconst 0, 1) := dk_3 (dk_at dksX6_isUnder_2 13 rfl rfl)
theorem dX6_isUnder_61 : decode cX6_isUnder 61 = .ok (.ireturn, 1) := dk_172 (dk_at dksX6_isUnder_2 14 rfl rfl)
abbrev cX6_ran : ByteArray := prog_25_method_83_code
def yX6_ran : MethodName := ⟨RX6, "ran", "(I)V"⟩
def dkwX6_ran_1 : List UInt8 := [4, 96, 181, 1, 110, 177]
abbrev dktX6_ran_1 : List UInt8 := dkwX6_ran_1 ++ []
def dkwX6_ran_0 : List UInt8 := [42, 180, 1, 110, 16, 24, 162, 0, 13, 42, 180, 0, 126, 42, 180, 1, 110, 27, 79, 42, 89, 180, 1, 110]
abbrev dktX6_ran_0 : List UInt8 := dkwX6_ran_0 ++ dktX6_ran_1
theorem dksX6_ran_0 : cX6_ran.data.toList.drop 0 = dktX6_ran_0 := by decide +kernel
theorem dksX6_ran_1 : cX6_ran.data.toList.drop 24 = dktX6_ran_1 := dk_seg dksX6_ran_0 24 rfl rfl
theorem dX6_ran_0 : decode cX6_ran 0 = .ok (.aload_n 0, 1) := dk_42 (dk_at dksX6_ran_0 0 rfl rfl)
theorem dX6_ran_1 : decode cX6_ran 1 = .ok (.getfield 366, 3) := dk_180 1 110 (dk_at dksX6_ran_0 1 rfl rfl)
theorem dX6_ran_4 : decode cX6_ran 4 = .ok (.bipush 24, 2) := dk_16 24 (dk_at dksX6_ran_0 4 rfl rfl)
theorem dX6_ran_6 : decode cX6_ran 6 = .ok (.if_icmp .ge 13, 3) := dk_162 0 13 (dk_at dksX6_ran_0 6 rfl rfl)
theorem dX6_ran_9 : decode cX6_ran 9 = .ok (.aload_n 0, 1) := dk_42 (dk_at dksX6_ran_0 9 rfl rfl)
theorem dX6_ran_10 : decode cX6_ran 10 = .ok (.getfield 126, 3) := dk_180 0 126 (dk_at dksX6_ran_0 10 rfl rfl)
theorem dX6_ran_13 : decode cX6_ran 13 = .ok (.aload_n 0, 1) := dk_42 (dk_at dksX6_ran_0 13 rfl rfl)
theorem dX6_ran_14 : decode cX6_ran 14 = .ok (.getfield 366, 3) := dk_180 1 110 (dk_at dksX6_ran_0 14 rfl rfl)
theorem dX6_ran_17 : decode cX6_ran 17 = .ok (.iload_n 1, 1) := dk_27 (dk_at dksX6_ran_0 17 rfl rfl)
theorem dX6_ran_18 : decode cX6_ran 18 = .ok (.iastore, 1) := dk_79 (dk_at dksX6_ran_0 18 rfl rfl)
theorem dX6_ran_19 : decode cX6_ran 19 = .ok (.aload_n 0, 1) := dk_42 (dk_at dksX6_ran_0 19 rfl rfl)
theorem dX6_ran_20 : decode cX6_ran 20 = .ok (.dup, 1) := dk_89 (dk_at dksX6_ran_0 20 rfl rfl)
theorem dX6_ran_21 : decode cX6_ran 21 = .ok (.getfield 366, 3) := dk_180 1 110 (dk_at dksX6_ran_0 21 rfl rfl)
theorem dX6_ran_24 : decode cX6_ran 24 = .ok (.iconst 1, 1) := dk_4 (dk_at dksX6_ran_1 0 rfl rfl)
theorem dX6_ran_25 : decode cX6_ran 25 = .ok (.iadd, 1) := dk_96 (dk_at dksX6_ran_1 1 rfl rfl)
theorem dX6_ran_26 : decode cX6_ran 26 = .ok (.putfield 366, 3) := dk_181 1 110 (dk_at dksX6_ran_1 2 rfl rfl)
theorem dX6_ran_29 : decode cX6_ran 29 = .ok (.return_, 1) := dk_177 (dk_at dksX6_ran_1 5 rfl rfl)
abbrev cX6_plainComes : ByteArray := prog_25_method_87_code
def yX6_plainComes : MethodName := ⟨RX6, "plainComes", "(II)I"⟩
def dkwX6_plainComes_0 : List UInt8 := [42, 4, 182, 1, 113, 28, 27, 96, 172]
abbrev dktX6_plainComes_0 : List UInt8 := dkwX6_plainComes_0 ++ []
theorem dksX6_plainComes_0 : cX6_plainComes.data.toList.drop 0 = dktX6_plainComes_0 := by decide +kernel
theorem dX6_plainComes_0 : decode cX6_plainComes 0 = .ok (.aload_n 0, 1) := dk_42 (dk_at dksX6_plainComes_0 0 rfl rfl)
theorem dX6_plainComes_1 : decode cX6_plainComes 1 = .ok (.iconst 1, 1) := dk_4 (dk_at dksX6_plainComes_0 1 rfl rfl)
theorem dX6_plainComes_2 : decode cX6_plainComes 2 = .ok (.invokevirtual 369, 3) := dk_182 1 113 (dk_at dksX6_plainComes_0 2 rfl rfl)
theorem dX6_plainComes_5 : decode cX6_plainComes 5 = .ok (.iload_n 2, 1) := dk_28 (dk_at dksX6_plainComes_0 5 rfl rfl)
theorem dX6_plainComes_6 : decode cX6_plainComes 6 = .ok (.iload_n 1, 1) := dk_27 (dk_at dksX6_plainComes_0 6 rfl rfl)
theorem dX6_plainComes_7 : decode cX6_plainComes 7 = .ok (.iadd, 1) := dk_96 (dk_at dksX6_plainComes_0 7 rfl rfl)
theorem dX6_plainComes_8 : decode cX6_plainComes 8 = .ok (.ireturn, 1) := dk_172 (dk_at dksX6_plainComes_0 8 rfl rfl)
abbrev cX6_bareComes : ByteArray := prog_25_method_88_code
def yX6_bareComes : MethodName := ⟨RX6, "bareComes", "(II)I"⟩
def dkwX6_bareComes_0 : List UInt8 := [42, 16, 70, 182, 1, 113, 42, 27, 28, 182, 1, 116, 5, 104, 172]
abbrev dktX6_bareComes_0 : List UInt8 := dkwX6_bareComes_0 ++ []
theorem dksX6_bareComes_0 : cX6_bareComes.data.toList.drop 0 = dktX6_bareComes_0 := by decide +kernel
theorem dX6_bareComes_0 : decode cX6_bareComes 0 = .ok (.aload_n 0, 1) := dk_42 (dk_at dksX6_bareComes_0 0 rfl rfl)
theorem dX6_bareComes_1 : decode cX6_bareComes 1 = .ok (.bipush 70, 2) := dk_16 70 (dk_at dksX6_bareComes_0 1 rfl rfl)
theorem dX6_bareComes_3 : decode cX6_bareComes 3 = .ok (.invokevirtual 369, 3) := dk_182 1 113 (dk_at dksX6_bareComes_0 3 rfl rfl)
theorem dX6_bareComes_6 : decode cX6_bareComes 6 = .ok (.aload_n 0, 1) := dk_42 (dk_at dksX6_bareComes_0 6 rfl rfl)
theorem dX6_bareComes_7 : decode cX6_bareComes 7 = .ok (.iload_n 1, 1) := dk_27 (dk_at dksX6_bareComes_0 7 rfl rfl)
theorem dX6_bareComes_8 : decode cX6_bareComes 8 = .ok (.iload_n 2, 1) := dk_28 (dk_at dksX6_bareComes_0 8 rfl rfl)
theorem dX6_bareComes_9 : decode cX6_bareComes 9 = .ok (.invokevirtual 372, 3) := dk_182 1 116 (dk_at dksX6_bareComes_0 9 rfl rfl)
theorem dX6_bareComes_12 : decode cX6_bareComes 12 = .ok (.iconst 2, 1) := dk_5 (dk_at dksX6_bareComes_0 12 rfl rfl)
theorem dX6_bareComes_13 : decode cX6_bareComes 13 = .ok (.imul, 1) := dk_104 (dk_at dksX6_bareComes_0 13 rfl rfl)
theorem dX6_bareComes_14 : decode cX6_bareComes 14 = .ok (.ireturn, 1) := dk_172 (dk_at dksX6_bareComes_0 14 rfl rfl)
abbrev cX6_leaving : ByteArray := prog_25_method_92_code
def yX6_leaving : MethodName := ⟨RX6, "leaving", "(II)I"⟩
def dkwX6_leaving_3 : List UInt8 := [27, 28, 182, 1, 131, 167, 0, 9, 42, 27, 28, 182, 1, 128, 172]
abbrev dktX6_leaving_3 : List UInt8 := dkwX6_leaving_3 ++ []
def dkwX6_leaving_2 : List UInt8 := [182, 1, 128, 62, 29, 42, 27, 5, 182, 1, 134, 96, 172, 42, 180, 0, 123, 27, 46, 5, 160, 0, 12, 42]
abbrev dktX6_leaving_2 : List UInt8 := dkwX6_leaving_2 ++ dktX6_leaving_3
def dkwX6_leaving_1 : List UInt8 := [182, 1, 131, 172, 42, 180, 0, 123, 27, 46, 16, 7, 160, 0, 25, 42, 16, 80, 182, 1, 113, 42, 27, 28]
abbrev dktX6_leaving_1 : List UInt8 := dkwX6_leaving_1 ++ dktX6_leaving_2
def dkwX6_leaving_0 : List UInt8 := [42, 180, 0, 123, 27, 46, 6, 184, 1, 119, 153, 0, 18, 42, 16, 41, 182, 1, 113, 42, 27, 28, 4, 96]
abbrev dktX6_leaving_0 : List UInt8 := dkwX6_leaving_0 ++ dktX6_leaving_1
theorem dksX6_leaving_0 : cX6_leaving.data.toList.drop 0 = dktX6_leaving_0 := by decide +kernel
theorem dksX6_leaving_1 : cX6_leaving.data.toList.drop 24 = dktX6_leaving_1 := dk_seg dksX6_leaving_0 24 rfl rfl
theorem dksX6_leaving_2 : cX6_leaving.data.toList.drop 48 = dktX6_leaving_2 := dk_seg dksX6_leaving_1 24 rfl rfl
theorem dksX6_leaving_3 : cX6_leaving.data.toList.drop 72 = dktX6_leaving_3 := dk_seg dksX6_leaving_2 24 rfl rfl
theorem dX6_leaving_0 : decode cX6_leaving 0 = .ok (.aload_n 0, 1) := dk_42 (dk_at dksX6_leaving_0 0 rfl rfl)
theorem dX6_leaving_1 : decode cX6_leaving 1 = .ok (.getfield 123, 3) := dk_180 0 123 (dk_at dksX6_leaving_0 1 rfl rfl)
theorem dX6_leaving_4 : decode cX6_leaving 4 = .ok (.iload_n 1, 1) := dk_27 (dk_at dksX6_leaving_0 4 rfl rfl)
theorem dX6_leaving_5 : decode cX6_leaving 5 = .ok (.iaload, 1) := dk_46 (dk_at dksX6_leaving_0 5 rfl rfl)
theorem dX6_leaving_6 : decode cX6_leaving 6 = .ok (.iconst 3, 1) := dk_6 (dk_at dksX6_leaving_0 6 rfl rfl)
theorem dX6_leaving_7 : decode cX6_leaving 7 = .ok (.invokestatic 375, 3) := dk_184 1 119 (dk_at dksX6_leaving_0 7 rfl rfl)
theorem dX6_leaving_10 : decode cX6_leaving 10 = .ok (.ifCond .eq 18, 3) := dk_153 0 18 (dk_at dksX6_leaving_0 10 rfl rfl)
theorem dX6_leaving_13 : decode cX6_leaving 13 = .ok (.aload_n 0, 1) := dk_42 (dk_at dksX6_leaving_0 13 rfl rfl)
theorem dX6_leaving_14 : decode cX6_leaving 14 = .ok (.bipush 41, 2) := dk_16 41 (dk_at dksX6_leaving_0 14 rfl rfl)
theorem dX6_leaving_16 : decode cX6_leaving 16 = .ok (.invokevirtual 369, 3) := dk_182 1 113 (dk_at dksX6_leaving_0 16 rfl rfl)
theorem dX6_leaving_19 : decode cX6_leaving 19 = .ok (.aload_n 0, 1) := dk_42 (dk_at dksX6_leaving_0 19 rfl rfl)
theorem dX6_leaving_20 : decode cX6_leaving 20 = .ok (.iload_n 1, 1) := dk_27 (dk_at dksX6_leaving_0 20 rfl rfl)
theorem dX6_leaving_21 : decode cX6_leaving 21 = .ok (.iload_n 2, 1) := dk_28 (dk_at dksX6_leaving_0 21 rfl rfl)
theorem dX6_leaving_22 : decode cX6_leaving 22 = .ok (.iconst 1, 1) := dk_4 (dk_at dksX6_leaving_0 22 rfl rfl)
theorem dX6_leaving_23 : decode cX6_leaving 23 = .ok (.iadd, 1) := dk_96 (dk_at dksX6_leaving_0 23 rfl rfl)
theorem dX6_leaving_24 : decode cX6_leaving 24 = .ok (.invokevirtual 387, 3) := dk_182 1 131 (dk_at dksX6_leaving_1 0 rfl rfl)
theorem dX6_leaving_27 : decode cX6_leaving 27 = .ok (.ireturn, 1) := dk_172 (dk_at dksX6_leaving_1 3 rfl rfl)
theorem dX6_leaving_28 : decode cX6_leaving 28 = .ok (.aload_n 0, 1) := dk_42 (dk_at dksX6_leaving_1 4 rfl rfl)
theorem dX6_leaving_29 : decode cX6_leaving 29 = .ok (.getfield 123, 3) := dk_180 0 123 (dk_at dksX6_leaving_1 5 rfl rfl)
theorem dX6_leaving_32 : decode cX6_leaving 32 = .ok (.iload_n 1, 1) := dk_27 (dk_at dksX6_leaving_1 8 rfl rfl)
theorem dX6_leaving_33 : decode cX6_leaving 33 = .ok (.iaload, 1) := dk_46 (dk_at dksX6_leaving_1 9 rfl rfl)
theorem dX6_leaving_34 : decode cX6_leaving 34 = .ok (.bipush 7, 2) := dk_16 7 (dk_at dksX6_leaving_1 10 rfl rfl)
theorem dX6_leaving_36 : decode cX6_leaving 36 = .ok (.if_icmp .ne 25, 3) := dk_160 0 25 (dk_at dksX6_leaving_1 12 rfl rfl)
theorem dX6_leaving_39 : decode cX6_leaving 39 = .ok (.aload_n 0, 1) := dk_42 (dk_at dksX6_leaving_1 15 rfl rfl)
theorem dX6_leaving_40 : decode cX6_leaving 40 = .ok (.bipush 80, 2) := dk_16 80 (dk_at dksX6_leaving_1 16 rfl rfl)
theorem dX6_leaving_42 : decode cX6_leaving 42 = .ok (.invokevirtual 369, 3) := dk_182 1 113 (dk_at dksX6_leaving_1 18 rfl rfl)
theorem dX6_leaving_45 : decode cX6_leaving 45 = .ok (.aload_n 0, 1) := dk_42 (dk_at dksX6_leaving_1 21 rfl rfl)
theorem dX6_leaving_46 : decode cX6_leaving 46 = .ok (.iload_n 1, 1) := dk_27 (dk_at dksX6_leaving_1 22 rfl rfl)
theorem dX6_leaving_47 : decode cX6_leaving 47 = .ok (.iload_n 2, 1) := dk_28 (dk_at dksX6_leaving_1 23 rfl rfl)
theorem dX6_leaving_48 : decode cX6_leaving 48 = .ok (.invokevirtual 384, 3) := dk_182 1 128 (dk_at dksX6_leaving_2 0 rfl rfl)
theorem dX6_leaving_51 : decode cX6_leaving 51 = .ok (.istore_n 3, 1) := dk_62 (dk_at dksX6_leaving_2 3 rfl rfl)
theorem dX6_leaving_52 : decode cX6_leaving 52 = .ok (.iload_n 3, 1) := dk_29 (dk_at dksX6_leaving_2 4 rfl rfl)
theorem dX6_leaving_53 : decode cX6_leaving 53 = .ok (.aload_n 0, 1) := dk_42 (dk_at dksX6_leaving_2 5 rfl rfl)
theorem dX6_leaving_54 : decode cX6_leaving 54 = .ok (.iload_n 1, 1) := dk_27 (dk_at dksX6_leaving_2 6 rfl rfl)
theorem dX6_leaving_55 : decode cX6_leaving 55 = .ok (.iconst 2, 1) := dk_5 (dk_at dksX6_leaving_2 7 rfl rfl)
theorem dX6_leaving_56 : decode cX6_leaving 56 = .ok (.invokevirtual 390, 3) := dk_182 1 134 (dk_at dksX6_leaving_2 8 rfl rfl)
theorem dX6_leaving_59 : decode cX6_leaving 59 = .ok (.iadd, 1) := dk_96 (dk_at dksX6_leaving_2 11 rfl rfl)
theorem dX6_leaving_60 : decode cX6_leaving 60 = .ok (.ireturn, 1) := dk_172 (dk_at dksX6_leaving_2 12 rfl rfl)
theorem dX6_leaving_61 : decode cX6_leaving 61 = .ok (.aload_n 0, 1) := dk_42 (dk_at dksX6_leaving_2 13 rfl rfl)
theorem dX6_leaving_62 : decode cX6_leaving 62 = .ok (.getfield 123, 3) := dk_180 0 123 (dk_at dksX6_leaving_2 14 rfl rfl)
theorem dX6_leaving_65 : decode cX6_leaving 65 = .ok (.iload_n 1, 1) := dk_27 (dk_at dksX6_leaving_2 17 rfl rfl)
theorem dX6_leaving_66 : decode cX6_leaving 66 = .ok (.iaload, 1) := dk_46 (dk_at dksX6_leaving_2 18 rfl rfl)
theorem dX6_leaving_67 : decode cX6_leaving 67 = .ok (.iconst 2, 1) := dk_5 (dk_at dksX6_leaving_2 19 rfl rfl)
theorem dX6_leaving_68 : decode cX6_leaving 68 = .ok (.if_icmp .ne 12, 3) := dk_160 0 12 (dk_at dksX6_leaving_2 20 rfl rfl)
theorem dX6_leaving_71 : decode cX6_leaving 71 = .ok (.aload_n 0, 1) := dk_42 (dk_at dksX6_leaving_2 23 rfl rfl)
theorem dX6_leaving_72 : decode cX6_leaving 72 = .ok (.iload_n 1, 1) := dk_27 (dk_at dksX6_leaving_3 0 rfl rfl)
theorem dX6_leaving_73 : decode cX6_leaving 73 = .ok (.iload_n 2, 1) := dk_28 (dk_at dksX6_leaving_3 1 rfl rfl)
theorem dX6_leaving_74 : decode cX6_leaving 74 = .ok (.invokevirtual 387, 3) := dk_182 1 131 (dk_at dksX6_leaving_3 2 rfl rfl)
theorem dX6_leaving_77 : decode cX6_leaving 77 = .ok (.goto 9, 3) := dk_167 0 9 (dk_at dksX6_leaving_3 5 rfl rfl)
theorem dX6_leaving_80 : decode cX6_leaving 80 = .ok (.aload_n 0, 1) := dk_42 (dk_at dksX6_leaving_3 8 rfl rfl)
theorem dX6_leaving_81 : decode cX6_leaving 81 = .ok (.iload_n 1, 1) := dk_27 (dk_at dksX6_leaving_3 9 rfl rfl)
theorem dX6_leaving_82 : decode cX6_leaving 82 = .ok (.iload_n 2, 1) := dk_28 (dk_at dksX6_leaving_3 10 rfl rfl)
theorem dX6_leaving_83 : decode cX6_leaving 83 = .ok (.invokevirtual 384, 3) := dk_182 1 128 (dk_at dksX6_leaving_3 11 rfl rfl)
theorem dX6_leaving_86 : decode cX6_leaving 86 = .ok (.ireturn, 1) := dk_172 (dk_at dksX6_leaving_3 14 rfl rfl)
abbrev cX6_takenLeaves : ByteArray := prog_25_method_91_code
def yX6_takenLeaves : MethodName := ⟨RX6, "takenLeaves", "(II)I"⟩
def dkwX6_takenLeaves_0 : List UInt8 := [42, 16, 30, 182, 1, 113, 42, 27, 28, 182, 1, 128, 116, 172]
abbrev dktX6_takenLeaves_0 : List UInt8 := dkwX6_takenLeaves_0 ++ []
theorem dksX6_takenLeaves_0 : cX6_takenLeaves.data.toList.drop 0 = dktX6_takenLeaves_0 := by decide +kernel
theorem dX6_takenLeaves_0 : decode cX6_takenLeaves 0 = .ok (.aload_n 0, 1) := dk_42 (dk_at dksX6_takenLeaves_0 0 rfl rfl)
theorem dX6_takenLeaves_1 : decode cX6_takenLeaves 1 = .ok (.bipush 30, 2) := dk_16 30 (dk_at dksX6_takenLeaves_0 1 rfl rfl)
theorem dX6_takenLeaves_3 : decode cX6_takenLeaves 3 = .ok (.invokevirtual 369, 3) := dk_182 1 113 (dk_at dksX6_takenLeaves_0 3 rfl rfl)
theorem dX6_takenLeaves_6 : decode cX6_takenLeaves 6 = .ok (.aload_n 0, 1) := dk_42 (dk_at dksX6_takenLeaves_0 6 rfl rfl)
theorem dX6_takenLeaves_7 : decode cX6_takenLeaves 7 = .ok (.iload_n 1, 1) := dk_27 (dk_at dksX6_takenLeaves_0 7 rfl rfl)
theorem dX6_takenLeaves_8 : decode cX6_takenLeaves 8 = .ok (.iload_n 2, 1) := dk_28 (dk_at dksX6_takenLeaves_0 8 rfl rfl)
theorem dX6_takenLeaves_9 : decode cX6_takenLeaves 9 = .ok (.invokevirtual 384, 3) := dk_182 1 128 (dk_at dksX6_takenLeaves_0 9 rfl rfl)
theorem dX6_takenLeaves_12 : decode cX6_takenLeaves 12 = .ok (.ineg, 1) := dk_116 (dk_at dksX6_takenLeaves_0 12 rfl rfl)
theorem dX6_takenLeaves_13 : decode cX6_takenLeaves 13 = .ok (.ireturn, 1) := dk_172 (dk_at dksX6_takenLeaves_0 13 rfl rfl)
abbrev cX6_plainLeaves : ByteArray := prog_25_method_90_code
def yX6_plainLeaves : MethodName := ⟨RX6, "plainLeaves", "(II)I"⟩
def dkwX6_plainLeaves_0 : List UInt8 := [42, 16, 10, 182, 1, 113, 42, 27, 28, 182, 1, 125, 5, 104, 172]
abbrev dktX6_plainLeaves_0 : List UInt8 := dkwX6_plainLeaves_0 ++ []
theorem dksX6_plainLeaves_0 : cX6_plainLeaves.data.toList.drop 0 = dktX6_plainLeaves_0 := by decide +kernel
theorem dX6_plainLeaves_0 : decode cX6_plainLeaves 0 = .ok (.aload_n 0, 1) := dk_42 (dk_at dksX6_plainLeaves_0 0 rfl rfl)
theorem dX6_plainLeaves_1 : decode cX6_plainLeaves 1 = .ok (.bipush 10, 2) := dk_16 10 (dk_at dksX6_plainLeaves_0 1 rfl rfl)
theorem dX6_plainLeaves_3 : decode cX6_plainLeaves 3 = .ok (.invokevirtual 369, 3) := dk_182 1 113 (dk_at dksX6_plainLeaves_0 3 rfl rfl)
theorem dX6_plainLeaves_6 : decode cX6_plainLeaves 6 = .ok (.aload_n 0, 1) := dk_42 (dk_at dksX6_plainLeaves_0 6 rfl rfl)
theorem dX6_plainLeaves_7 : decode cX6_plainLeaves 7 = .ok (.iload_n 1, 1) := dk_27 (dk_at dksX6_plainLeaves_0 7 rfl rfl)
theorem dX6_plainLeaves_8 : decode cX6_plainLeaves 8 = .ok (.iload_n 2, 1) := dk_28 (dk_at dksX6_plainLeaves_0 8 rfl rfl)
theorem dX6_plainLeaves_9 : decode cX6_plainLeaves 9 = .ok (.invokevirtual 381, 3) := dk_182 1 125 (dk_at dksX6_plainLeaves_0 9 rfl rfl)
theorem dX6_plainLeaves_12 : decode cX6_plainLeaves 12 = .ok (.iconst 2, 1) := dk_5 (dk_at dksX6_plainLeaves_0 12 rfl rfl)
theorem dX6_plainLeaves_13 : decode cX6_plainLeaves 13 = .ok (.imul, 1) := dk_104 (dk_at dksX6_plainLeaves_0 13 rfl rfl)
theorem dX6_plainLeaves_14 : decode cX6_plainLeaves 14 = .ok (.ireturn, 1) := dk_172 (dk_at dksX6_plainLeaves_0 14 rfl rfl)
abbrev cX6_seeing : ByteArray := prog_25_method_95_code
def yX6_seeing : MethodName := ⟨RX6, "seeing", "(II)I"⟩
def dkwX6_seeing_2 : List UInt8 := [167, 0, 9, 42, 27, 28, 182, 1, 137, 172]
abbrev dktX6_seeing_2 : List UInt8 := dkwX6_seeing_2 ++ []
def dkwX6_seeing_1 : List UInt8 := [42, 27, 5, 182, 1, 125, 100, 172, 42, 180, 0, 123, 27, 46, 6, 160, 0, 12, 42, 27, 28, 182, 1, 140]
abbrev dktX6_seeing_1 : List UInt8 := dkwX6_seeing_1 ++ dktX6_seeing_2
def dkwX6_seeing_0 : List UInt8 := [42, 180, 0, 123, 27, 46, 8, 160, 0, 25, 42, 16, 60, 182, 1, 113, 42, 27, 28, 182, 1, 140, 62, 29]
abbrev dktX6_seeing_0 : List UInt8 := dkwX6_seeing_0 ++ dktX6_seeing_1
theorem dksX6_seeing_0 : cX6_seeing.data.toList.drop 0 = dktX6_seeing_0 := by decide +kernel
theorem dksX6_seeing_1 : cX6_seeing.data.toList.drop 24 = dktX6_seeing_1 := dk_seg dksX6_seeing_0 24 rfl rfl
theorem dksX6_seeing_2 : cX6_seeing.data.toList.drop 48 = dktX6_seeing_2 := dk_seg dksX6_seeing_1 24 rfl rfl
theorem dX6_seeing_0 : decode cX6_seeing 0 = .ok (.aload_n 0, 1) := dk_42 (dk_at dksX6_seeing_0 0 rfl rfl)
theorem dX6_seeing_1 : decode cX6_seeing 1 = .ok (.getfield 123, 3) := dk_180 0 123 (dk_at dksX6_seeing_0 1 rfl rfl)
theorem dX6_seeing_4 : decode cX6_seeing 4 = .ok (.iload_n 1, 1) := dk_27 (dk_at dksX6_seeing_0 4 rfl rfl)
theorem dX6_seeing_5 : decode cX6_seeing 5 = .ok (.iaload, 1) := dk_46 (dk_at dksX6_seeing_0 5 rfl rfl)
theorem dX6_seeing_6 : decode cX6_seeing 6 = .ok (.iconst 5, 1) := dk_8 (dk_at dksX6_seeing_0 6 rfl rfl)
theorem dX6_seeing_7 : decode cX6_seeing 7 = .ok (.if_icmp .ne 25, 3) := dk_160 0 25 (dk_at dksX6_seeing_0 7 rfl rfl)
theorem dX6_seeing_10 : decode cX6_seeing 10 = .ok (.aload_n 0, 1) := dk_42 (dk_at dksX6_seeing_0 10 rfl rfl)
theorem dX6_seeing_11 : decode cX6_seeing 11 = .ok (.bipush 60, 2) := dk_16 60 (dk_at dksX6_seeing_0 11 rfl rfl)
theorem dX6_seeing_13 : decode cX6_seeing 13 = .ok (.invokevirtual 369, 3) := dk_182 1 113 (dk_at dksX6_seeing_0 13 rfl rfl)
theorem dX6_seeing_16 : decode cX6_seeing 16 = .ok (.aload_n 0, 1) := dk_42 (dk_at dksX6_seeing_0 16 rfl rfl)
theorem dX6_seeing_17 : decode cX6_seeing 17 = .ok (.iload_n 1, 1) := dk_27 (dk_at dksX6_seeing_0 17 rfl rfl)
theorem dX6_seeing_18 : decode cX6_seeing 18 = .ok (.iload_n 2, 1) := dk_28 (dk_at dksX6_seeing_0 18 rfl rfl)
theorem dX6_seeing_19 : decode cX6_seeing 19 = .ok (.invokevirtual 396, 3) := dk_182 1 140 (dk_at dksX6_seeing_0 19 rfl rfl)
theorem dX6_seeing_22 : decode cX6_seeing 22 = .ok (.istore_n 3, 1) := dk_62 (dk_at dksX6_seeing_0 22 rfl rfl)
theorem dX6_seeing_23 : decode cX6_seeing 23 = .ok (.iload_n 3, 1) := dk_29 (dk_at dksX6_seeing_0 23 rfl rfl)
theorem dX6_seeing_24 : decode cX6_seeing 24 = .ok (.aload_n 0, 1) := dk_42 (dk_at dksX6_seeing_1 0 rfl rfl)
theorem dX6_seeing_25 : decode cX6_seeing 25 = .ok (.iload_n 1, 1) := dk_27 (dk_at dksX6_seeing_1 1 rfl rfl)
theorem dX6_seeing_26 : decode cX6_seeing 26 = .ok (.iconst 2, 1) := dk_5 (dk_at dksX6_seeing_1 2 rfl rfl)
theorem dX6_seeing_27 : decode cX6_seeing 27 = .ok (.invokevirtual 381, 3) := dk_182 1 125 (dk_at dksX6_seeing_1 3 rfl rfl)
theorem dX6_seeing_30 : decode cX6_seeing 30 = .ok (.isub, 1) := dk_100 (dk_at dksX6_seeing_1 6 rfl rfl)
theorem dX6_seeing_31 : decode cX6_seeing 31 = .ok (.ireturn, 1) := dk_172 (dk_at dksX6_seeing_1 7 rfl rfl)
theorem dX6_seeing_32 : decode cX6_seeing 32 = .ok (.aload_n 0, 1) := dk_42 (dk_at dksX6_seeing_1 8 rfl rfl)
theorem dX6_seeing_33 : decode cX6_seeing 33 = .ok (.getfield 123, 3) := dk_180 0 123 (dk_at dksX6_seeing_1 9 rfl rfl)
theorem dX6_seeing_36 : decode cX6_seeing 36 = .ok (.iload_n 1, 1) := dk_27 (dk_at dksX6_seeing_1 12 rfl rfl)
theorem dX6_seeing_37 : decode cX6_seeing 37 = .ok (.iaload, 1) := dk_46 (dk_at dksX6_seeing_1 13 rfl rfl)
theorem dX6_seeing_38 : decode cX6_seeing 38 = .ok (.iconst 3, 1) := dk_6 (dk_at dksX6_seeing_1 14 rfl rfl)
theorem dX6_seeing_39 : decode cX6_seeing 39 = .ok (.if_icmp .ne 12, 3) := dk_160 0 12 (dk_at dksX6_seeing_1 15 rfl rfl)
theorem dX6_seeing_42 : decode cX6_seeing 42 = .ok (.aload_n 0, 1) := dk_42 (dk_at dksX6_seeing_1 18 rfl rfl)
theorem dX6_seeing_43 : decode cX6_seeing 43 = .ok (.iload_n 1, 1) := dk_27 (dk_at dksX6_seeing_1 19 rfl rfl)
theorem dX6_seeing_44 : decode cX6_seeing 44 = .ok (.iload_n 2, 1) := dk_28 (dk_at dksX6_seeing_1 20 rfl rfl)
theorem dX6_seeing_45 : decode cX6_seeing 45 = .ok (.invokevirtual 396, 3) := dk_182 1 140 (dk_at dksX6_seeing_1 21 rfl rfl)
theorem dX6_seeing_48 : decode cX6_seeing 48 = .ok (.goto 9, 3) := dk_167 0 9 (dk_at dksX6_seeing_2 0 rfl rfl)
theorem dX6_seeing_51 : decode cX6_seeing 51 = .ok (.aload_n 0, 1) := dk_42 (dk_at dksX6_seeing_2 3 rfl rfl)
theorem dX6_seeing_52 : decode cX6_seeing 52 = .ok (.iload_n 1, 1) := dk_27 (dk_at dksX6_seeing_2 4 rfl rfl)
theorem dX6_seeing_53 : decode cX6_seeing 53 = .ok (.iload_n 2, 1) := dk_28 (dk_at dksX6_seeing_2 5 rfl rfl)
theorem dX6_seeing_54 : decode cX6_seeing 54 = .ok (.invokevirtual 393, 3) := dk_182 1 137 (dk_at dksX6_seeing_2 6 rfl rfl)
theorem dX6_seeing_57 : decode cX6_seeing 57 = .ok (.ireturn, 1) := dk_172 (dk_at dksX6_seeing_2 9 rfl rfl)
abbrev cX6_broughtSees : ByteArray := prog_25_method_94_code
def yX6_broughtSees : MethodName := ⟨RX6, "broughtSees", "(II)I"⟩
def dkwX6_broughtSees_0 : List UInt8 := [42, 16, 40, 182, 1, 113, 42, 27, 28, 182, 1, 137, 6, 104, 172]
abbrev dktX6_broughtSees_0 : List UInt8 := dkwX6_broughtSees_0 ++ []
theorem dksX6_broughtSees_0 : cX6_broughtSees.data.toList.drop 0 = dktX6_broughtSees_0 := by decide +kernel
theorem dX6_broughtSees_0 : decode cX6_broughtSees 0 = .ok (.aload_n 0, 1) := dk_42 (dk_at dksX6_broughtSees_0 0 rfl rfl)
theorem dX6_broughtSees_1 : decode cX6_broughtSees 1 = .ok (.bipush 40, 2) := dk_16 40 (dk_at dksX6_broughtSees_0 1 rfl rfl)
theorem dX6_broughtSees_3 : decode cX6_broughtSees 3 = .ok (.invokevirtual 369, 3) := dk_182 1 113 (dk_at dksX6_broughtSees_0 3 rfl rfl)
theorem dX6_broughtSees_6 : decode cX6_broughtSees 6 = .ok (.aload_n 0, 1) := dk_42 (dk_at dksX6_broughtSees_0 6 rfl rfl)
theorem dX6_broughtSees_7 : decode cX6_broughtSees 7 = .ok (.iload_n 1, 1) := dk_27 (dk_at dksX6_broughtSees_0 7 rfl rfl)
theorem dX6_broughtSees_8 : decode cX6_broughtSees 8 = .ok (.iload_n 2, 1) := dk_28 (dk_at dksX6_broughtSees_0 8 rfl rfl)
theorem dX6_broughtSees_9 : decode cX6_broughtSees 9 = .ok (.invokevirtual 393, 3) := dk_182 1 137 (dk_at dksX6_broughtSees_0 9 rfl rfl)
theorem dX6_broughtSees_12 : decode cX6_broughtSees 12 = .ok (.iconst 3, 1) := dk_6 (dk_at dksX6_broughtSees_0 12 rfl rfl)
theorem dX6_broughtSees_13 : decode cX6_broughtSees 13 = .ok (.imul, 1) := dk_104 (dk_at dksX6_broughtSees_0 13 rfl rfl)
theorem dX6_broughtSees_14 : decode cX6_broughtSees 14 = .ok (.ireturn, 1) := dk_172 (dk_at dksX6_broughtSees_0 14 rfl rfl)
abbrev cX6_plainSees : ByteArray := prog_25_method_93_code
def yX6_plainSees : MethodName := ⟨RX6, "plainSees", "(II)I"⟩
def dkwX6_plainSees_0 : List UInt8 := [42, 16, 11, 182, 1, 113, 28, 27, 130, 172]
abbrev dktX6_plainSees_0 : List UInt8 := dkwX6_plainSees_0 ++ []
theorem dksX6_plainSees_0 : cX6_plainSees.data.toList.drop 0 = dktX6_plainSees_0 := by decide +kernel
theorem dX6_plainSees_0 : decode cX6_plainSees 0 = .ok (.aload_n 0, 1) := dk_42 (dk_at dksX6_plainSees_0 0 rfl rfl)
theorem dX6_plainSees_1 : decode cX6_plainSees 1 = .ok (.bipush 11, 2) := dk_16 11 (dk_at dksX6_plainSees_0 1 rfl rfl)
theorem dX6_plainSees_3 : decode cX6_plainSees 3 = .ok (.invokevirtual 369, 3) := dk_182 1 113 (dk_at dksX6_plainSees_0 3 rfl rfl)
theorem dX6_plainSees_6 : decode cX6_plainSees 6 = .ok (.iload_n 2, 1) := dk_28 (dk_at dksX6_plainSees_0 6 rfl rfl)
theorem dX6_plainSees_7 : decode cX6_plainSees 7 = .ok (.iload_n 1, 1) := dk_27 (dk_at dksX6_plainSees_0 7 rfl rfl)
theorem dX6_plainSees_8 : decode cX6_plainSees 8 = .ok (.ixor, 1) := dk_130 (dk_at dksX6_plainSees_0 8 rfl rfl)
theorem dX6_plainSees_9 : decode cX6_plainSees 9 = .ok (.ireturn, 1) := dk_172 (dk_at dksX6_plainSees_0 9 rfl rfl)
abbrev cX6_telling : ByteArray := prog_25_method_97_code
def yX6_telling : MethodName := ⟨RX6, "telling", "(II)I"⟩
def dkwX6_telling_2 : List UInt8 := [96, 172, 42, 27, 28, 182, 1, 146, 172]
abbrev dktX6_telling_2 : List UInt8 := dkwX6_telling_2 ++ []
def dkwX6_telling_1 : List UInt8 := [172, 42, 180, 0, 123, 27, 46, 8, 160, 0, 18, 42, 16, 61, 182, 1, 113, 42, 27, 28, 182, 1, 146, 4]
abbrev dktX6_telling_1 : List UInt8 := dkwX6_telling_1 ++ dktX6_telling_2
def dkwX6_telling_0 : List UInt8 := [42, 180, 0, 123, 27, 46, 7, 160, 0, 18, 42, 16, 50, 182, 1, 113, 42, 27, 28, 182, 1, 146, 8, 130]
abbrev dktX6_telling_0 : List UInt8 := dkwX6_telling_0 ++ dktX6_telling_1
theorem dksX6_telling_0 : cX6_telling.data.toList.drop 0 = dktX6_telling_0 := by decide +kernel
theorem dksX6_telling_1 : cX6_telling.data.toList.drop 24 = dktX6_telling_1 := dk_seg dksX6_telling_0 24 rfl rfl
theorem dksX6_telling_2 : cX6_telling.data.toList.drop 48 = dktX6_telling_2 := dk_seg dksX6_telling_1 24 rfl rfl
theorem dX6_telling_0 : decode cX6_telling 0 = .ok (.aload_n 0, 1) := dk_42 (dk_at dksX6_telling_0 0 rfl rfl)
theorem dX6_telling_1 : decode cX6_telling 1 = .ok (.getfield 123, 3) := dk_180 0 123 (dk_at dksX6_telling_0 1 rfl rfl)
theorem dX6_telling_4 : decode cX6_telling 4 = .ok (.iload_n 1, 1) := dk_27 (dk_at dksX6_telling_0 4 rfl rfl)
theorem dX6_telling_5 : decode cX6_telling 5 = .ok (.iaload, 1) := dk_46 (dk_at dksX6_telling_0 5 rfl rfl)
theorem dX6_telling_6 : decode cX6_telling 6 = .ok (.iconst 4, 1) := dk_7 (dk_at dksX6_telling_0 6 rfl rfl)
theorem dX6_telling_7 : decode cX6_telling 7 = .ok (.if_icmp .ne 18, 3) := dk_160 0 18 (dk_at dksX6_telling_0 7 rfl rfl)
theorem dX6_telling_10 : decode cX6_telling 10 = .ok (.aload_n 0, 1) := dk_42 (dk_at dksX6_telling_0 10 rfl rfl)
theorem dX6_telling_11 : decode cX6_telling 11 = .ok (.bipush 50, 2) := dk_16 50 (dk_at dksX6_telling_0 11 rfl rfl)
theorem dX6_telling_13 : decode cX6_telling 13 = .ok (.invokevirtual 369, 3) := dk_182 1 113 (dk_at dksX6_telling_0 13 rfl rfl)
theorem dX6_telling_16 : decode cX6_telling 16 = .ok (.aload_n 0, 1) := dk_42 (dk_at dksX6_telling_0 16 rfl rfl)
theorem dX6_telling_17 : decode cX6_telling 17 = .ok (.iload_n 1, 1) := dk_27 (dk_at dksX6_telling_0 17 rfl rfl)
theorem dX6_telling_18 : decode cX6_telling 18 = .ok (.iload_n 2, 1) := dk_28 (dk_at dksX6_telling_0 18 rfl rfl)
theorem dX6_telling_19 : decode cX6_telling 19 = .ok (.invokevirtual 402, 3) := dk_182 1 146 (dk_at dksX6_telling_0 19 rfl rfl)
theorem dX6_telling_22 : decode cX6_telling 22 = .ok (.iconst 5, 1) := dk_8 (dk_at dksX6_telling_0 22 rfl rfl)
theorem dX6_telling_23 : decode cX6_telling 23 = .ok (.ixor, 1) := dk_130 (dk_at dksX6_telling_0 23 rfl rfl)
theorem dX6_telling_24 : decode cX6_telling 24 = .ok (.ireturn, 1) := dk_172 (dk_at dksX6_telling_1 0 rfl rfl)
theorem dX6_telling_25 : decode cX6_telling 25 = .ok (.aload_n 0, 1) := dk_42 (dk_at dksX6_telling_1 1 rfl rfl)
theorem dX6_telling_26 : decode cX6_telling 26 = .ok (.getfield 123, 3) := dk_180 0 123 (dk_at dksX6_telling_1 2 rfl rfl)
theorem dX6_telling_29 : decode cX6_telling 29 = .ok (.iload_n 1, 1) := dk_27 (dk_at dksX6_telling_1 5 rfl rfl)
theorem dX6_telling_30 : decode cX6_telling 30 = .ok (.iaload, 1) := dk_46 (dk_at dksX6_telling_1 6 rfl rfl)
theorem dX6_telling_31 : decode cX6_telling 31 = .ok (.iconst 5, 1) := dk_8 (dk_at dksX6_telling_1 7 rfl rfl)
theorem dX6_telling_32 : decode cX6_telling 32 = .ok (.if_icmp .ne 18, 3) := dk_160 0 18 (dk_at dksX6_telling_1 8 rfl rfl)
theorem dX6_telling_35 : decode cX6_telling 35 = .ok (.aload_n 0, 1) := dk_42 (dk_at dksX6_telling_1 11 rfl rfl)
theorem dX6_telling_36 : decode cX6_telling 36 = .ok (.bipush 61, 2) := dk_16 61 (dk_at dksX6_telling_1 12 rfl rfl)
theorem dX6_telling_38 : decode cX6_telling 38 = .ok (.invokevirtual 369, 3) := dk_182 1 113 (dk_at dksX6_telling_1 14 rfl rfl)
theorem dX6_telling_41 : decode cX6_telling 41 = .ok (.aload_n 0, 1) := dk_42 (dk_at dksX6_telling_1 17 rfl rfl)
theorem dX6_telling_42 : decode cX6_telling 42 = .ok (.iload_n 1, 1) := dk_27 (dk_at dksX6_telling_1 18 rfl rfl)
theorem dX6_telling_43 : decode cX6_telling 43 = .ok (.iload_n 2, 1) := dk_28 (dk_at dksX6_telling_1 19 rfl rfl)
theorem dX6_telling_44 : decode cX6_telling 44 = .ok (.invokevirtual 402, 3) := dk_182 1 146 (dk_at dksX6_telling_1 20 rfl rfl)
theorem dX6_telling_47 : decode cX6_telling 47 = .ok (.iconst 1, 1) := dk_4 (dk_at dksX6_telling_1 23 rfl rfl)
theorem dX6_telling_48 : decode cX6_telling 48 = .ok (.iadd, 1) := dk_96 (dk_at dksX6_telling_2 0 rfl rfl)
theorem dX6_telling_49 : decode cX6_telling 49 = .ok (.ireturn, 1) := dk_172 (dk_at dksX6_telling_2 1 rfl rfl)
theorem dX6_telling_50 : decode cX6_telling 50 = .ok (.aload_n 0, 1) := dk_42 (dk_at dksX6_telling_2 2 rfl rfl)
theorem dX6_telling_51 : decode cX6_telling 51 = .ok (.iload_n 1, 1) := dk_27 (dk_at dksX6_telling_2 3 rfl rfl)
theorem dX6_telling_52 : decode cX6_telling 52 = .ok (.iload_n 2, 1) := dk_28 (dk_at dksX6_telling_2 4 rfl rfl)
theorem dX6_telling_53 : decode cX6_telling 53 = .ok (.invokevirtual 402, 3) := dk_182 1 146 (dk_at dksX6_telling_2 5 rfl rfl)
theorem dX6_telling_56 : decode cX6_telling 56 = .ok (.ireturn, 1) := dk_172 (dk_at dksX6_telling_2 8 rfl rfl)
abbrev cX6_plainTells : ByteArray := prog_25_method_96_code
def yX6_plainTells : MethodName := ⟨RX6, "plainTells", "(II)I"⟩
def dkwX6_plainTells_0 : List UInt8 := [42, 5, 182, 1, 113, 42, 27, 28, 182, 1, 143, 62, 29, 42, 27, 4, 182, 1, 134, 100, 172]
abbrev dktX6_plainTells_0 : List UInt8 := dkwX6_plainTells_0 ++ []
theorem dksX6_plainTells_0 : cX6_plainTells.data.toList.drop 0 = dktX6_plainTells_0 := by decide +kernel
theorem dX6_plainTells_0 : decode cX6_plainTells 0 = .ok (.aload_n 0, 1) := dk_42 (dk_at dksX6_plainTells_0 0 rfl rfl)
theorem dX6_plainTells_1 : decode cX6_plainTells 1 = .ok (.iconst 2, 1) := dk_5 (dk_at dksX6_plainTells_0 1 rfl rfl)
theorem dX6_plainTells_2 : decode cX6_plainTells 2 = .ok (.invokevirtual 369, 3) := dk_182 1 113 (dk_at dksX6_plainTells_0 2 rfl rfl)
theorem dX6_plainTells_5 : decode cX6_plainTells 5 = .ok (.aload_n 0, 1) := dk_42 (dk_at dksX6_plainTells_0 5 rfl rfl)
theorem dX6_plainTells_6 : decode cX6_plainTells 6 = .ok (.iload_n 1, 1) := dk_27 (dk_at dksX6_plainTells_0 6 rfl rfl)
theorem dX6_plainTells_7 : decode cX6_plainTells 7 = .ok (.iload_n 2, 1) := dk_28 (dk_at dksX6_plainTells_0 7 rfl rfl)
theorem dX6_plainTells_8 : decode cX6_plainTells 8 = .ok (.invokevirtual 399, 3) := dk_182 1 143 (dk_at dksX6_plainTells_0 8 rfl rfl)
theorem dX6_plainTells_11 : decode cX6_plainTells 11 = .ok (.istore_n 3, 1) := dk_62 (dk_at dksX6_plainTells_0 11 rfl rfl)
theorem dX6_plainTells_12 : decode cX6_plainTells 12 = .ok (.iload_n 3, 1) := dk_29 (dk_at dksX6_plainTells_0 12 rfl rfl)
theorem dX6_plainTells_13 : decode cX6_plainTells 13 = .ok (.aload_n 0, 1) := dk_42 (dk_at dksX6_plainTells_0 13 rfl rfl)
theorem dX6_plainTells_14 : decode cX6_plainTells 14 = .ok (.iload_n 1, 1) := dk_27 (dk_at dksX6_plainTells_0 14 rfl rfl)
theorem dX6_plainTells_15 : decode cX6_plainTells 15 = .ok (.iconst 1, 1) := dk_4 (dk_at dksX6_plainTells_0 15 rfl rfl)
theorem dX6_plainTells_16 : decode cX6_plainTells 16 = .ok (.invokevirtual 390, 3) := dk_182 1 134 (dk_at dksX6_plainTells_0 16 rfl rfl)
theorem dX6_plainTells_19 : decode cX6_plainTells 19 = .ok (.isub, 1) := dk_100 (dk_at dksX6_plainTells_0 19 rfl rfl)
theorem dX6_plainTells_20 : decode cX6_plainTells 20 = .ok (.ireturn, 1) := dk_172 (dk_at dksX6_plainTells_0 20 rfl rfl)
abbrev cX6_count : ByteArray := prog_25_method_99_code
def yX6_count : MethodName := ⟨RX6, "count", "(I)I"⟩
def dkwX6_count_3 : List UInt8 := [172, 42, 180, 1, 110, 172, 2, 172]
abbrev dktX6_count_3 : List UInt8 := dkwX6_count_3 ++ []
def dkwX6_count_2 : List UInt8 := [42, 180, 0, 149, 172, 42, 182, 1, 155, 172, 42, 180, 0, 199, 172, 42, 180, 0, 179, 172, 42, 180, 1, 107]
abbrev dktX6_count_2 : List UInt8 := dkwX6_count_2 ++ dktX6_count_3
def dkwX6_count_1 : List UInt8 := [170, 0, 0, 0, 0, 0, 69, 0, 0, 0, 0, 0, 0, 0, 5, 0, 0, 0, 39, 0, 0, 0, 44, 0, 0, 0, 49, 0, 0, 0, 54, 0, 0, 0, 59, 0, 0, 0, 64]
abbrev dktX6_count_1 : List UInt8 := dkwX6_count_1 ++ dktX6_count_2
def dkwX6_count_0 : List UInt8 := [27]
abbrev dktX6_count_0 : List UInt8 := dkwX6_count_0 ++ dktX6_count_1
theorem dksX6_count_0 : cX6_count.data.toList.drop 0 = dktX6_count_0 := by decide +kernel
theorem dksX6_count_1 : cX6_count.data.toList.drop 1 = dktX6_count_1 := dk_seg dksX6_count_0 1 rfl rfl
theorem dksX6_count_2 : cX6_count.data.toList.drop 40 = dktX6_count_2 := dk_seg dksX6_count_1 39 rfl rfl
theorem dksX6_count_3 : cX6_count.data.toList.drop 64 = dktX6_count_3 := dk_seg dksX6_count_2 24 rfl rfl
theorem dX6_count_0 : decode cX6_count 0 = .ok (.iload_n 1, 1) := dk_27 (dk_at dksX6_count_0 0 rfl rfl)
theorem dX6_count_1 : decode cX6_count 1 = .ok (.tableswitch 69 0 5 #[39, 44, 49, 54, 59, 64], 39) := by decide +kernel
theorem dX6_count_40 : decode cX6_count 40 = .ok (.aload_n 0, 1) := dk_42 (dk_at dksX6_count_2 0 rfl rfl)
theorem dX6_count_41 : decode cX6_count 41 = .ok (.getfield 149, 3) := dk_180 0 149 (dk_at dksX6_count_2 1 rfl rfl)
theorem dX6_count_44 : decode cX6_count 44 = .ok (.ireturn, 1) := dk_172 (dk_at dksX6_count_2 4 rfl rfl)
theorem dX6_count_45 : decode cX6_count 45 = .ok (.aload_n 0, 1) := dk_42 (dk_at dksX6_count_2 5 rfl rfl)
theorem dX6_count_46 : decode cX6_count 46 = .ok (.invokevirtual 411, 3) := dk_182 1 155 (dk_at dksX6_count_2 6 rfl rfl)
theorem dX6_count_49 : decode cX6_count 49 = .ok (.ireturn, 1) := dk_172 (dk_at dksX6_count_2 9 rfl rfl)
theorem dX6_count_50 : decode cX6_count 50 = .ok (.aload_n 0, 1) := dk_42 (dk_at dksX6_count_2 10 rfl rfl)
theorem dX6_count_51 : decode cX6_count 51 = .ok (.getfield 199, 3) := dk_180 0 199 (dk_at dksX6_count_2 11 rfl rfl)
theorem dX6_count_54 : decode cX6_count 54 = .ok (.ireturn, 1) := dk_172 (dk_at dksX6_count_2 14 rfl rfl)
theorem dX6_count_55 : decode cX6_count 55 = .ok (.aload_n 0, 1) := dk_42 (dk_at dksX6_count_2 15 rfl rfl)
theorem dX6_count_56 : decode cX6_count 56 = .ok (.getfield 179, 3) := dk_180 0 179 (dk_at dksX6_count_2 16 rfl rfl)
theorem dX6_count_59 : decode cX6_count 59 = .ok (.ireturn, 1) := dk_172 (dk_at dksX6_count_2 19 rfl rfl)
theorem dX6_count_60 : decode cX6_count 60 = .ok (.aload_n 0, 1) := dk_42 (dk_at dksX6_count_2 20 rfl rfl)
theorem dX6_count_61 : decode cX6_count 61 = .ok (.getfield 363, 3) := dk_180 1 107 (dk_at dksX6_count_2 21 rfl rfl)
theorem dX6_count_64 : decode cX6_count 64 = .ok (.ireturn, 1) := dk_172 (dk_at dksX6_count_3 0 rfl rfl)
theorem dX6_count_65 : decode cX6_count 65 = .ok (.aload_n 0, 1) := dk_42 (dk_at dksX6_count_3 1 rfl rfl)
theorem dX6_count_66 : decode cX6_count 66 = .ok (.getfield 366, 3) := dk_180 1 110 (dk_at dksX6_count_3 2 rfl rfl)
theorem dX6_count_69 : decode cX6_count 69 = .ok (.ireturn, 1) := dk_172 (dk_at dksX6_count_3 5 rfl rfl)
theorem dX6_count_70 : decode cX6_count 70 = .ok (.iconst (-1), 1) := dk_2 (dk_at dksX6_count_3 6 rfl rfl)
theorem dX6_count_71 : decode cX6_count 71 = .ok (.ireturn, 1) := dk_172 (dk_at dksX6_count_3 7 rfl rfl)
abbrev cX6_beenMany : ByteArray := prog_25_method_81_code
def yX6_beenMany : MethodName := ⟨RX6, "beenMany", "()I"⟩
def dkwX6_beenMany_1 : List UInt8 := [132, 2, 1, 167, 255, 233, 27, 172]
abbrev dktX6_beenMany_1 : List UInt8 := dkwX6_beenMany_1 ++ []
def dkwX6_beenMany_0 : List UInt8 := [3, 60, 3, 61, 28, 42, 180, 0, 149, 162, 0, 21, 27, 42, 180, 0, 40, 16, 13, 28, 96, 46, 96, 60]
abbrev dktX6_beenMany_0 : List UInt8 := dkwX6_beenMany_0 ++ dktX6_beenMany_1
theorem dksX6_beenMany_0 : cX6_beenMany.data.toList.drop 0 = dktX6_beenMany_0 := by decide +kernel
theorem dksX6_beenMany_1 : cX6_beenMany.data.toList.drop 24 = dktX6_beenMany_1 := dk_seg dksX6_beenMany_0 24 rfl rfl
theorem dX6_beenMany_0 : decode cX6_beenMany 0 = .ok (.iconst 0, 1) := dk_3 (dk_at dksX6_beenMany_0 0 rfl rfl)
theorem dX6_beenMany_1 : decode cX6_beenMany 1 = .ok (.istore_n 1, 1) := dk_60 (dk_at dksX6_beenMany_0 1 rfl rfl)
theorem dX6_beenMany_2 : decode cX6_beenMany 2 = .ok (.iconst 0, 1) := dk_3 (dk_at dksX6_beenMany_0 2 rfl rfl)
theorem dX6_beenMany_3 : decode cX6_beenMany 3 = .ok (.istore_n 2, 1) := dk_61 (dk_at dksX6_beenMany_0 3 rfl rfl)
theorem dX6_beenMany_4 : decode cX6_beenMany 4 = .ok (.iload_n 2, 1) := dk_28 (dk_at dksX6_beenMany_0 4 rfl rfl)
theorem dX6_beenMany_5 : decode cX6_beenMany 5 = .ok (.aload_n 0, 1) := dk_42 (dk_at dksX6_beenMany_0 5 rfl rfl)
theorem dX6_beenMany_6 : decode cX6_beenMany 6 = .ok (.getfield 149, 3) := dk_180 0 149 (dk_at dksX6_beenMany_0 6 rfl rfl)
theorem dX6_beenMany_9 : decode cX6_beenMany 9 = .ok (.if_icmp .ge 21, 3) := dk_162 0 21 (dk_at dksX6_beenMany_0 9 rfl rfl)
theorem dX6_beenMany_12 : decode cX6_beenMany 12 = .ok (.iload_n 1, 1) := dk_27 (dk_at dksX6_beenMany_0 12 rfl rfl)
theorem dX6_beenMany_13 : decode cX6_beenMany 13 = .ok (.aload_n 0, 1) := dk_42 (dk_at dksX6_beenMany_0 13 rfl rfl)
theorem dX6_beenMany_14 : decode cX6_beenMany 14 = .ok (.getfield 40, 3) := dk_180 0 40 (dk_at dksX6_beenMany_0 14 rfl rfl)
theorem dX6_beenMany_17 : decode cX6_beenMany 17 = .ok (.bipush 13, 2) := dk_16 13 (dk_at dksX6_beenMany_0 17 rfl rfl)
theorem dX6_beenMany_19 : decode cX6_beenMany 19 = .ok (.iload_n 2, 1) := dk_28 (dk_at dksX6_beenMany_0 19 rfl rfl)
theorem dX6_beenMany_20 : decode cX6_beenMany 20 = .ok (.iadd, 1) := dk_96 (dk_at dksX6_beenMany_0 20 rfl rfl)
theorem dX6_beenMany_21 : decode cX6_beenMany 21 = .ok (.iaload, 1) := dk_46 (dk_at dksX6_beenMany_0 21 rfl rfl)
theorem dX6_beenMany_22 : decode cX6_beenMany 22 = .ok (.iadd, 1) := dk_96 (dk_at dksX6_beenMany_0 22 rfl rfl)
theorem dX6_beenMany_23 : decode cX6_beenMany 23 = .ok (.istore_n 1, 1) := dk_60 (dk_at dksX6_beenMany_0 23 rfl rfl)
theorem dX6_beenMany_24 : decode cX6_beenMany 24 = .ok (.iinc 2 1, 3) := dk_132 2 1 (dk_at dksX6_beenMany_1 0 rfl rfl)
theorem dX6_beenMany_27 : decode cX6_beenMany 27 = .ok (.goto (-23), 3) := dk_167 255 233 (dk_at dksX6_beenMany_1 3 rfl rfl)
theorem dX6_beenMany_30 : decode cX6_beenMany 30 = .ok (.iload_n 1, 1) := dk_27 (dk_at dksX6_beenMany_1 6 rfl rfl)
theorem dX6_beenMany_31 : decode cX6_beenMany 31 = .ok (.ireturn, 1) := dk_172 (dk_at dksX6_beenMany_1 7 rfl rfl)
abbrev cX6_keep : ByteArray := prog_25_method_101_code
def yX6_keep : MethodName := ⟨RX6, "keep", "(II)I"⟩
def dkwX6_keep_1 : List UInt8 := [180, 0, 129, 27, 28, 79, 4, 172]
abbrev dktX6_keep_1 : List UInt8 := dkwX6_keep_1 ++ []
def dkwX6_keep_0 : List UInt8 := [27, 184, 0, 163, 153, 0, 16, 28, 2, 159, 0, 13, 42, 28, 182, 1, 149, 154, 0, 5, 2, 172, 42]
abbrev dktX6_keep_0 : List UInt8 := dkwX6_keep_0 ++ dktX6_keep_1
theorem dksX6_keep_0 : cX6_keep.data.toList.drop 0 = dktX6_keep_0 := by decide +kernel
theorem dksX6_keep_1 : cX6_keep.data.toList.drop 23 = dktX6_keep_1 := dk_seg dksX6_keep_0 23 rfl rfl
theorem dX6_keep_0 : decode cX6_keep 0 = .ok (.iload_n 1, 1) := dk_27 (dk_at dksX6_keep_0 0 rfl rfl)
theorem dX6_keep_1 : decode cX6_keep 1 = .ok (.invokestatic 163, 3) := dk_184 0 163 (dk_at dksX6_keep_0 1 rfl rfl)
theorem dX6_keep_4 : decode cX6_keep 4 = .ok (.ifCond .eq 16, 3) := dk_153 0 16 (dk_at dksX6_keep_0 4 rfl rfl)
theorem dX6_keep_7 : decode cX6_keep 7 = .ok (.iload_n 2, 1) := dk_28 (dk_at dksX6_keep_0 7 rfl rfl)
theorem dX6_keep_8 : decode cX6_keep 8 = .ok (.iconst (-1), 1) := dk_2 (dk_at dksX6_keep_0 8 rfl rfl)
theorem dX6_keep_9 : decode cX6_keep 9 = .ok (.if_icmp .eq 13, 3) := dk_159 0 13 (dk_at dksX6_keep_0 9 rfl rfl)
theorem dX6_keep_12 : decode cX6_keep 12 = .ok (.aload_n 0, 1) := dk_42 (dk_at dksX6_keep_0 12 rfl rfl)
theorem dX6_keep_13 : decode cX6_keep 13 = .ok (.iload_n 2, 1) := dk_28 (dk_at dksX6_keep_0 13 rfl rfl)
theorem dX6_keep_14 : decode cX6_keep 14 = .ok (.invokevirtual 405, 3) := dk_182 1 149 (dk_at dksX6_keep_0 14 rfl rfl)
theorem dX6_keep_17 : decode cX6_keep 17 = .ok (.ifCond .ne 5, 3) := dk_154 0 5 (dk_at dksX6_keep_0 17 rfl rfl)
theorem dX6_keep_20 : decode cX6_keep 20 = .ok (.iconst (-1), 1) := dk_2 (dk_at dksX6_keep_0 20 rfl rfl)
theorem dX6_keep_21 : decode cX6_keep 21 = .ok (.ireturn, 1) := dk_172 (dk_at dksX6_keep_0 21 rfl rfl)
theorem dX6_keep_22 : decode cX6_keep 22 = .ok (.aload_n 0, 1) := dk_42 (dk_at dksX6_keep_0 22 rfl rfl)
theorem dX6_keep_23 : decode cX6_keep 23 = .ok (.getfield 129, 3) := dk_180 0 129 (dk_at dksX6_keep_1 0 rfl rfl)
theorem dX6_keep_26 : decode cX6_keep 26 = .ok (.iload_n 1, 1) := dk_27 (dk_at dksX6_keep_1 3 rfl rfl)
theorem dX6_keep_27 : decode cX6_keep 27 = .ok (.iload_n 2, 1) := dk_28 (dk_at dksX6_keep_1 4 rfl rfl)
theorem dX6_keep_28 : decode cX6_keep 28 = .ok (.iastore, 1) := dk_79 (dk_at dksX6_keep_1 5 rfl rfl)
theorem dX6_keep_29 : decode cX6_keep 29 = .ok (.iconst 1, 1) := dk_4 (dk_at dksX6_keep_1 6 rfl rfl)
theorem dX6_keep_30 : decode cX6_keep 30 = .ok (.ireturn, 1) := dk_172 (dk_at dksX6_keep_1 7 rfl rfl)
abbrev cX6_row : ByteArray := prog_25_method_102_code
def yX6_row : MethodName := ⟨RX6, "row", "(III)I"⟩
def dkwX6_row_3 : List UInt8 := [9, 80, 132, 4, 1, 167, 255, 233, 4, 172]
abbrev dktX6_row_3 : List UInt8 := dkwX6_row_3 ++ []
def dkwX6_row_2 : List UInt8 := [16, 60, 27, 104, 54, 4, 21, 4, 16, 60, 27, 104, 16, 60, 96, 162, 0, 17, 42, 180, 0, 135, 21, 4]
abbrev dktX6_row_2 : List UInt8 := dkwX6_row_2 ++ dktX6_row_3
def dkwX6_row_1 : List UInt8 := [29, 156, 0, 6, 16, 242, 172, 42, 180, 0, 129, 27, 16, 254, 28, 100, 79, 42, 180, 0, 132, 27, 29, 79]
abbrev dktX6_row_1 : List UInt8 := dkwX6_row_1 ++ dktX6_row_2
def dkwX6_row_0 : List UInt8 := [27, 184, 0, 163, 153, 0, 18, 28, 3, 7, 184, 0, 145, 153, 0, 9, 29, 16, 60, 164, 0, 5, 2, 172]
abbrev dktX6_row_0 : List UInt8 := dkwX6_row_0 ++ dktX6_row_1
theorem dksX6_row_0 : cX6_row.data.toList.drop 0 = dktX6_row_0 := by decide +kernel
theorem dksX6_row_1 : cX6_row.data.toList.drop 24 = dktX6_row_1 := dk_seg dksX6_row_0 24 rfl rfl
theorem dksX6_row_2 : cX6_row.data.toList.drop 48 = dktX6_row_2 := dk_seg dksX6_row_1 24 rfl rfl
theorem dksX6_row_3 : cX6_row.data.toList.drop 72 = dktX6_row_3 := dk_seg dksX6_row_2 24 rfl rfl
theorem dX6_row_0 : decode cX6_row 0 = .ok (.iload_n 1, 1) := dk_27 (dk_at dksX6_row_0 0 rfl rfl)
theorem dX6_row_1 : decode cX6_row 1 = .ok (.invokestatic 163, 3) := dk_184 0 163 (dk_at dksX6_row_0 1 rfl rfl)
theorem dX6_row_4 : decode cX6_row 4 = .ok (.ifCond .eq 18, 3) := dk_153 0 18 (dk_at dksX6_row_0 4 rfl rfl)
theorem dX6_row_7 : decode cX6_row 7 = .ok (.iload_n 2, 1) := dk_28 (dk_at dksX6_row_0 7 rfl rfl)
theorem dX6_row_8 : decode cX6_row 8 = .ok (.iconst 0, 1) := dk_3 (dk_at dksX6_row_0 8 rfl rfl)
theorem dX6_row_9 : decode cX6_row 9 = .ok (.iconst 4, 1) := dk_7 (dk_at dksX6_row_0 9 rfl rfl)
theorem dX6_row_10 : decode cX6_row 10 = .ok (.invokestatic 145, 3) := dk_184 0 145 (dk_at dksX6_row_0 10 rfl rfl)
theorem dX6_row_13 : decode cX6_row 13 = .ok (.ifCond .eq 9, 3) := dk_153 0 9 (dk_at dksX6_row_0 13 rfl rfl)
theorem dX6_row_16 : decode cX6_row 16 = .ok (.iload_n 3, 1) := dk_29 (dk_at dksX6_row_0 16 rfl rfl)
theorem dX6_row_17 : decode cX6_row 17 = .ok (.bipush 60, 2) := dk_16 60 (dk_at dksX6_row_0 17 rfl rfl)
theorem dX6_row_19 : decode cX6_row 19 = .ok (.if_icmp .le 5, 3) := dk_164 0 5 (dk_at dksX6_row_0 19 rfl rfl)
theorem dX6_row_22 : decode cX6_row 22 = .ok (.iconst (-1), 1) := dk_2 (dk_at dksX6_row_0 22 rfl rfl)
theorem dX6_row_23 : decode cX6_row 23 = .ok (.ireturn, 1) := dk_172 (dk_at dksX6_row_0 23 rfl rfl)
theorem dX6_row_24 : decode cX6_row 24 = .ok (.iload_n 3, 1) := dk_29 (dk_at dksX6_row_1 0 rfl rfl)
theorem dX6_row_25 : decode cX6_row 25 = .ok (.ifCond .ge 6, 3) := dk_156 0 6 (dk_at dksX6_row_1 1 rfl rfl)
theorem dX6_row_28 : decode cX6_row 28 = .ok (.bipush (-14), 2) := dk_16 242 (dk_at dksX6_row_1 4 rfl rfl)
theorem dX6_row_30 : decode cX6_row 30 = .ok (.ireturn, 1) := dk_172 (dk_at dksX6_row_1 6 rfl rfl)
theorem dX6_row_31 : decode cX6_row 31 = .ok (.aload_n 0, 1) := dk_42 (dk_at dksX6_row_1 7 rfl rfl)
theorem dX6_row_32 : decode cX6_row 32 = .ok (.getfield 129, 3) := dk_180 0 129 (dk_at dksX6_row_1 8 rfl rfl)
theorem dX6_row_35 : decode cX6_row 35 = .ok (.iload_n 1, 1) := dk_27 (dk_at dksX6_row_1 11 rfl rfl)
theorem dX6_row_36 : decode cX6_row 36 = .ok (.bipush (-2), 2) := dk_16 254 (dk_at dksX6_row_1 12 rfl rfl)
theorem dX6_row_38 : decode cX6_row 38 = .ok (.iload_n 2, 1) := dk_28 (dk_at dksX6_row_1 14 rfl rfl)
theorem dX6_row_39 : decode cX6_row 39 = .ok (.isub, 1) := dk_100 (dk_at dksX6_row_1 15 rfl rfl)
theorem dX6_row_40 : decode cX6_row 40 = .ok (.iastore, 1) := dk_79 (dk_at dksX6_row_1 16 rfl rfl)
theorem dX6_row_41 : decode cX6_row 41 = .ok (.aload_n 0, 1) := dk_42 (dk_at dksX6_row_1 17 rfl rfl)
theorem dX6_row_42 : decode cX6_row 42 = .ok (.getfield 132, 3) := dk_180 0 132 (dk_at dksX6_row_1 18 rfl rfl)
theorem dX6_row_45 : decode cX6_row 45 = .ok (.iload_n 1, 1) := dk_27 (dk_at dksX6_row_1 21 rfl rfl)
theorem dX6_row_46 : decode cX6_row 46 = .ok (.iload_n 3, 1) := dk_29 (dk_at dksX6_row_1 22 rfl rfl)
theorem dX6_row_47 : decode cX6_row 47 = .ok (.iastore, 1) := dk_79 (dk_at dksX6_row_1 23 rfl rfl)
theorem dX6_row_48 : decode cX6_row 48 = .ok (.bipush 60, 2) := dk_16 60 (dk_at dksX6_row_2 0 rfl rfl)
theorem dX6_row_50 : decode cX6_row 50 = .ok (.iload_n 1, 1) := dk_27 (dk_at dksX6_row_2 2 rfl rfl)
theorem dX6_row_51 : decode cX6_row 51 = .ok (.imul, 1) := dk_104 (dk_at dksX6_row_2 3 rfl rfl)
theorem dX6_row_52 : decode cX6_row 52 = .ok (.istore 4, 2) := dk_54 4 (dk_at dksX6_row_2 4 rfl rfl)
theorem dX6_row_54 : decode cX6_row 54 = .ok (.iload 4, 2) := dk_21 4 (dk_at dksX6_row_2 6 rfl rfl)
theorem dX6_row_56 : decode cX6_row 56 = .ok (.bipush 60, 2) := dk_16 60 (dk_at dksX6_row_2 8 rfl rfl)
theorem dX6_row_58 : decode cX6_row 58 = .ok (.iload_n 1, 1) := dk_27 (dk_at dksX6_row_2 10 rfl rfl)
theorem dX6_row_59 : decode cX6_row 59 = .ok (.imul, 1) := dk_104 (dk_at dksX6_row_2 11 rfl rfl)
theorem dX6_row_60 : decode cX6_row 60 = .ok (.bipush 60, 2) := dk_16 60 (dk_at dksX6_row_2 12 rfl rfl)
theorem dX6_row_62 : decode cX6_row 62 = .ok (.iadd, 1) := dk_96 (dk_at dksX6_row_2 14 rfl rfl)
theorem dX6_row_63 : decode cX6_row 63 = .ok (.if_icmp .ge 17, 3) := dk_162 0 17 (dk_at dksX6_row_2 15 rfl rfl)
theorem dX6_row_66 : decode cX6_row 66 = .ok (.aload_n 0, 1) := dk_42 (dk_at dksX6_row_2 18 rfl rfl)
theorem dX6_row_67 : decode cX6_row 67 = .ok (.getfield 135, 3) := dk_180 0 135 (dk_at dksX6_row_2 19 rfl rfl)
theorem dX6_row_70 : decode cX6_row 70 = .ok (.iload 4, 2) := dk_21 4 (dk_at dksX6_row_2 22 rfl rfl)
theorem dX6_row_72 : decode cX6_row 72 = .ok (.lconst 0, 1) := dk_9 (dk_at dksX6_row_3 0 rfl rfl)
theorem dX6_row_73 : decode cX6_row 73 = .ok (.lastore, 1) := dk_80 (dk_at dksX6_row_3 1 rfl rfl)
theorem dX6_row_74 : decode cX6_row 74 = .ok (.iinc 4 1, 3) := dk_132 4 1 (dk_at dksX6_row_3 2 rfl rfl)
theorem dX6_row_77 : decode cX6_row 77 = .ok (.goto (-23), 3) := dk_167 255 233 (dk_at dksX6_row_3 5 rfl rfl)
theorem dX6_row_80 : decode cX6_row 80 = .ok (.iconst 1, 1) := dk_4 (dk_at dksX6_row_3 8 rfl rfl)
theorem dX6_row_81 : decode cX6_row 81 = .ok (.ireturn, 1) := dk_172 (dk_at dksX6_row_3 9 rfl rfl)
abbrev cX6_put : ByteArray := prog_25_method_104_code
def yX6_put : MethodName := ⟨RX6, "put", "(IIJ)I"⟩
def dkwX6_put_4 : List UInt8 := [9, 80, 4, 172]
abbrev dktX6_put_4 : List UInt8 := dkwX6_put_4 ++ []
def dkwX6_put_3 : List UInt8 := [133, 167, 0, 24, 21, 6, 6, 160, 0, 7, 33, 167, 0, 14, 33, 9, 148, 153, 0, 7, 10, 167, 0, 4]
abbrev dktX6_put_3 : List UInt8 := dkwX6_put_3 ++ dktX6_put_4
def dkwX6_put_2 : List UInt8 := [167, 0, 49, 21, 6, 4, 160, 0, 10, 33, 136, 147, 133, 167, 0, 36, 21, 6, 5, 160, 0, 9, 33, 136]
abbrev dktX6_put_2 : List UInt8 := dkwX6_put_2 ++ dktX6_put_3
def dkwX6_put_1 : List UInt8 := [100, 54, 6, 42, 180, 0, 135, 16, 60, 27, 104, 28, 96, 21, 6, 154, 0, 10, 33, 136, 145, 133]
abbrev dktX6_put_1 : List UInt8 := dkwX6_put_1 ++ dktX6_put_2
def dkwX6_put_0 : List UInt8 := [42, 27, 28, 182, 1, 158, 54, 5, 21, 5, 156, 0, 6, 21, 5, 172, 16, 254, 42, 180, 0, 129, 27, 46]
abbrev dktX6_put_0 : List UInt8 := dkwX6_put_0 ++ dktX6_put_1
theorem dksX6_put_0 : cX6_put.data.toList.drop 0 = dktX6_put_0 := by decide +kernel
theorem dksX6_put_1 : cX6_put.data.toList.drop 24 = dktX6_put_1 := dk_seg dksX6_put_0 24 rfl rfl
theorem dksX6_put_2 : cX6_put.data.toList.drop 46 = dktX6_put_2 := dk_seg dksX6_put_1 22 rfl rfl
theorem dksX6_put_3 : cX6_put.data.toList.drop 70 = dktX6_put_3 := dk_seg dksX6_put_2 24 rfl rfl
theorem dksX6_put_4 : cX6_put.data.toList.drop 94 = dktX6_put_4 := dk_seg dksX6_put_3 24 rfl rfl
theorem dX6_put_0 : decode cX6_put 0 = .ok (.aload_n 0, 1) := dk_42 (dk_at dksX6_put_0 0 rfl rfl)
theorem dX6_put_1 : decode cX6_put 1 = .ok (.iload_n 1, 1) := dk_27 (dk_at dksX6_put_0 1 rfl rfl)
theorem dX6_put_2 : decode cX6_put 2 = .ok (.iload_n 2, 1) := dk_28 (dk_at dksX6_put_0 2 rfl rfl)
theorem dX6_put_3 : decode cX6_put 3 = .ok (.invokevirtual 414, 3) := dk_182 1 158 (dk_at dksX6_put_0 3 rfl rfl)
theorem dX6_put_6 : decode cX6_put 6 = .ok (.istore 5, 2) := dk_54 5 (dk_at dksX6_put_0 6 rfl rfl)
theorem dX6_put_8 : decode cX6_put 8 = .ok (.iload 5, 2) := dk_21 5 (dk_at dksX6_put_0 8 rfl rfl)
theorem dX6_put_10 : decode cX6_put 10 = .ok (.ifCond .ge 6, 3) := dk_156 0 6 (dk_at dksX6_put_0 10 rfl rfl)
theorem dX6_put_13 : decode cX6_put 13 = .ok (.iload 5, 2) := dk_21 5 (dk_at dksX6_put_0 13 rfl rfl)
theorem dX6_put_15 : decode cX6_put 15 = .ok (.ireturn, 1) := dk_172 (dk_at dksX6_put_0 15 rfl rfl)
theorem dX6_put_16 : decode cX6_put 16 = .ok (.bipush (-2), 2) := dk_16 254 (dk_at dksX6_put_0 16 rfl rfl)
theorem dX6_put_18 : decode cX6_put 18 = .ok (.aload_n 0, 1) := dk_42 (dk_at dksX6_put_0 18 rfl rfl)
theorem dX6_put_19 : decode cX6_put 19 = .ok (.getfield 129, 3) := dk_180 0 129 (dk_at dksX6_put_0 19 rfl rfl)
theorem dX6_put_22 : decode cX6_put 22 = .ok (.iload_n 1, 1) := dk_27 (dk_at dksX6_put_0 22 rfl rfl)
theorem dX6_put_23 : decode cX6_put 23 = .ok (.iaload, 1) := dk_46 (dk_at dksX6_put_0 23 rfl rfl)
theorem dX6_put_24 : decode cX6_put 24 = .ok (.isub, 1) := dk_100 (dk_at dksX6_put_1 0 rfl rfl)
theorem dX6_put_25 : decode cX6_put 25 = .ok (.istore 6, 2) := dk_54 6 (dk_at dksX6_put_1 1 rfl rfl)
theorem dX6_put_27 : decode cX6_put 27 = .ok (.aload_n 0, 1) := dk_42 (dk_at dksX6_put_1 3 rfl rfl)
theorem dX6_put_28 : decode cX6_put 28 = .ok (.getfield 135, 3) := dk_180 0 135 (dk_at dksX6_put_1 4 rfl rfl)
theorem dX6_put_31 : decode cX6_put 31 = .ok (.bipush 60, 2) := dk_16 60 (dk_at dksX6_put_1 7 rfl rfl)
theorem dX6_put_33 : decode cX6_put 33 = .ok (.iload_n 1, 1) := dk_27 (dk_at dksX6_put_1 9 rfl rfl)
theorem dX6_put_34 : decode cX6_put 34 = .ok (.imul, 1) := dk_104 (dk_at dksX6_put_1 10 rfl rfl)
theorem dX6_put_35 : decode cX6_put 35 = .ok (.iload_n 2, 1) := dk_28 (dk_at dksX6_put_1 11 rfl rfl)
theorem dX6_put_36 : decode cX6_put 36 = .ok (.iadd, 1) := dk_96 (dk_at dksX6_put_1 12 rfl rfl)
theorem dX6_put_37 : decode cX6_put 37 = .ok (.iload 6, 2) := dk_21 6 (dk_at dksX6_put_1 13 rfl rfl)
theorem dX6_put_39 : decode cX6_put 39 = .ok (.ifCond .ne 10, 3) := dk_154 0 10 (dk_at dksX6_put_1 15 rfl rfl)
theorem dX6_put_42 : decode cX6_put 42 = .ok (.lload_n 3, 1) := dk_33 (dk_at dksX6_put_1 18 rfl rfl)
theorem dX6_put_43 : decode cX6_put 43 = .ok (.l2i, 1) := dk_136 (dk_at dksX6_put_1 19 rfl rfl)
theorem dX6_put_44 : decode cX6_put 44 = .ok (.i2b, 1) := dk_145 (dk_at dksX6_put_1 20 rfl rfl)
theorem dX6_put_45 : decode cX6_put 45 = .ok (.i2l, 1) := dk_133 (dk_at dksX6_put_1 21 rfl rfl)
theorem dX6_put_46 : decode cX6_put 46 = .ok (.goto 49, 3) := dk_167 0 49 (dk_at dksX6_put_2 0 rfl rfl)
theorem dX6_put_49 : decode cX6_put 49 = .ok (.iload 6, 2) := dk_21 6 (dk_at dksX6_put_2 3 rfl rfl)
theorem dX6_put_51 : decode cX6_put 51 = .ok (.iconst 1, 1) := dk_4 (dk_at dksX6_put_2 5 rfl rfl)
theorem dX6_put_52 : decode cX6_put 52 = .ok (.if_icmp .ne 10, 3) := dk_160 0 10 (dk_at dksX6_put_2 6 rfl rfl)
theorem dX6_put_55 : decode cX6_put 55 = .ok (.lload_n 3, 1) := dk_33 (dk_at dksX6_put_2 9 rfl rfl)
theorem dX6_put_56 : decode cX6_put 56 = .ok (.l2i, 1) := dk_136 (dk_at dksX6_put_2 10 rfl rfl)
theorem dX6_put_57 : decode cX6_put 57 = .ok (.i2s, 1) := dk_147 (dk_at dksX6_put_2 11 rfl rfl)
theorem dX6_put_58 : decode cX6_put 58 = .ok (.i2l, 1) := dk_133 (dk_at dksX6_put_2 12 rfl rfl)
theorem dX6_put_59 : decode cX6_put 59 = .ok (.goto 36, 3) := dk_167 0 36 (dk_at dksX6_put_2 13 rfl rfl)
theorem dX6_put_62 : decode cX6_put 62 = .ok (.iload 6, 2) := dk_21 6 (dk_at dksX6_put_2 16 rfl rfl)
theorem dX6_put_64 : decode cX6_put 64 = .ok (.iconst 2, 1) := dk_5 (dk_at dksX6_put_2 18 rfl rfl)
theorem dX6_put_65 : decode cX6_put 65 = .ok (.if_icmp .ne 9, 3) := dk_160 0 9 (dk_at dksX6_put_2 19 rfl rfl)
theorem dX6_put_68 : decode cX6_put 68 = .ok (.lload_n 3, 1) := dk_33 (dk_at dksX6_put_2 22 rfl rfl)
theorem dX6_put_69 : decode cX6_put 69 = .ok (.l2i, 1) := dk_136 (dk_at dksX6_put_2 23 rfl rfl)
theorem dX6_put_70 : decode cX6_put 70 = .ok (.i2l, 1) := dk_133 (dk_at dksX6_put_3 0 rfl rfl)
theorem dX6_put_71 : decode cX6_put 71 = .ok (.goto 24, 3) := dk_167 0 24 (dk_at dksX6_put_3 1 rfl rfl)
theorem dX6_put_74 : decode cX6_put 74 = .ok (.iload 6, 2) := dk_21 6 (dk_at dksX6_put_3 4 rfl rfl)
theorem dX6_put_76 : decode cX6_put 76 = .ok (.iconst 3, 1) := dk_6 (dk_at dksX6_put_3 6 rfl rfl)
theorem dX6_put_77 : decode cX6_put 77 = .ok (.if_icmp .ne 7, 3) := dk_160 0 7 (dk_at dksX6_put_3 7 rfl rfl)
theorem dX6_put_80 : decode cX6_put 80 = .ok (.lload_n 3, 1) := dk_33 (dk_at dksX6_put_3 10 rfl rfl)
theorem dX6_put_81 : decode cX6_put 81 = .ok (.goto 14, 3) := dk_167 0 14 (dk_at dksX6_put_3 11 rfl rfl)
theorem dX6_put_84 : decode cX6_put 84 = .ok (.lload_n 3, 1) := dk_33 (dk_at dksX6_put_3 14 rfl rfl)
theorem dX6_put_85 : decode cX6_put 85 = .ok (.lconst 0, 1) := dk_9 (dk_at dksX6_put_3 15 rfl rfl)
theorem dX6_put_86 : decode cX6_put 86 = .ok (.lcmp, 1) := dk_148 (dk_at dksX6_put_3 16 rfl rfl)
theorem dX6_put_87 : decode cX6_put 87 = .ok (.ifCond .eq 7, 3) := dk_153 0 7 (dk_at dksX6_put_3 17 rfl rfl)
theorem dX6_put_90 : decode cX6_put 90 = .ok (.lconst 1, 1) := dk_10 (dk_at dksX6_put_3 20 rfl rfl)
theorem dX6_put_91 : decode cX6_put 91 = .ok (.goto 4, 3) := dk_167 0 4 (dk_at dksX6_put_3 21 rfl rfl)
theorem dX6_put_94 : decode cX6_put 94 = .ok (.lconst 0, 1) := dk_9 (dk_at dksX6_put_4 0 rfl rfl)
theorem dX6_put_95 : decode cX6_put 95 = .ok (.lastore, 1) := dk_80 (dk_at dksX6_put_4 1 rfl rfl)
theorem dX6_put_96 : decode cX6_put 96 = .ok (.iconst 1, 1) := dk_4 (dk_at dksX6_put_4 2 rfl rfl)
theorem dX6_put_97 : decode cX6_put 97 = .ok (.ireturn, 1) := dk_172 (dk_at dksX6_put_4 3 rfl rfl)
abbrev cX6_whyNoPlace : ByteArray := prog_25_method_103_code
def yX6_whyNoPlace : MethodName := ⟨RX6, "whyNoPlace", "(II)I"⟩
def dkwX6_whyNoPlace_2 : List UInt8 := [153, 0, 7, 3, 167, 0, 5, 16, 243, 172]
abbrev dktX6_whyNoPlace_2 : List UInt8 := dkwX6_whyNoPlace_2 ++ []
def dkwX6_whyNoPlace_1 : List UInt8 := [180, 0, 129, 27, 46, 155, 0, 6, 16, 244, 172, 28, 3, 42, 180, 0, 132, 27, 46, 4, 100, 184, 0, 145]
abbrev dktX6_whyNoPlace_1 : List UInt8 := dkwX6_whyNoPlace_1 ++ dktX6_whyNoPlace_2
def dkwX6_whyNoPlace_0 : List UInt8 := [27, 184, 0, 163, 154, 0, 5, 2, 172, 42, 180, 0, 129, 27, 46, 2, 160, 0, 6, 16, 245, 172, 42]
abbrev dktX6_whyNoPlace_0 : List UInt8 := dkwX6_whyNoPlace_0 ++ dktX6_whyNoPlace_1
theorem dksX6_whyNoPlace_0 : cX6_whyNoPlace.data.toList.drop 0 = dktX6_whyNoPlace_0 := by decide +kernel
theorem dksX6_whyNoPlace_1 : cX6_whyNoPlace.data.toList.drop 23 = dktX6_whyNoPlace_1 := dk_seg dksX6_whyNoPlace_0 23 rfl rfl
theorem dksX6_whyNoPlace_2 : cX6_whyNoPlace.data.toList.drop 47 = dktX6_whyNoPlace_2 := dk_seg dksX6_whyNoPlace_1 24 rfl rfl
theorem dX6_whyNoPlace_0 : decode cX6_whyNoPlace 0 = .ok (.iload_n 1, 1) := dk_27 (dk_at dksX6_whyNoPlace_0 0 rfl rfl)
theorem dX6_whyNoPlace_1 : decode cX6_whyNoPlace 1 = .ok (.invokestatic 163, 3) := dk_184 0 163 (dk_at dksX6_whyNoPlace_0 1 rfl rfl)
theorem dX6_whyNoPlace_4 : decode cX6_whyNoPlace 4 = .ok (.ifCond .ne 5, 3) := dk_154 0 5 (dk_at dksX6_whyNoPlace_0 4 rfl rfl)
theorem dX6_whyNoPlace_7 : decode cX6_whyNoPlace 7 = .ok (.iconst (-1), 1) := dk_2 (dk_at dksX6_whyNoPlace_0 7 rfl rfl)
theorem dX6_whyNoPlace_8 : decode cX6_whyNoPlace 8 = .ok (.ireturn, 1) := dk_172 (dk_at dksX6_whyNoPlace_0 8 rfl rfl)
theorem dX6_whyNoPlace_9 : decode cX6_whyNoPlace 9 = .ok (.aload_n 0, 1) := dk_42 (dk_at dksX6_whyNoPlace_0 9 rfl rfl)
theorem dX6_whyNoPlace_10 : decode cX6_whyNoPlace 10 = .ok (.getfield 129, 3) := dk_180 0 129 (dk_at dksX6_whyNoPlace_0 10 rfl rfl)
theorem dX6_whyNoPlace_13 : decode cX6_whyNoPlace 13 = .ok (.iload_n 1, 1) := dk_27 (dk_at dksX6_whyNoPlace_0 13 rfl rfl)
theorem dX6_whyNoPlace_14 : decode cX6_whyNoPlace 14 = .ok (.iaload, 1) := dk_46 (dk_at dksX6_whyNoPlace_0 14 rfl rfl)
theorem dX6_whyNoPlace_15 : decode cX6_whyNoPlace 15 = .ok (.iconst (-1), 1) := dk_2 (dk_at dksX6_whyNoPlace_0 15 rfl rfl)
theorem dX6_whyNoPlace_16 : decode cX6_whyNoPlace 16 = .ok (.if_icmp .ne 6, 3) := dk_160 0 6 (dk_at dksX6_whyNoPlace_0 16 rfl rfl)
theorem dX6_whyNoPlace_19 : decode cX6_whyNoPlace 19 = .ok (.bipush (-11), 2) := dk_16 245 (dk_at dksX6_whyNoPlace_0 19 rfl rfl)
theorem dX6_whyNoPlace_21 : decode cX6_whyNoPlace 21 = .ok (.ireturn, 1) := dk_172 (dk_at dksX6_whyNoPlace_0 21 rfl rfl)
theorem dX6_whyNoPlace_22 : decode cX6_whyNoPlace 22 = .ok (.aload_n 0, 1) := dk_42 (dk_at dksX6_whyNoPlace_0 22 rfl rfl)
theorem dX6_whyNoPlace_23 : decode cX6_whyNoPlace 23 = .ok (.getfield 129, 3) := dk_180 0 129 (dk_at dksX6_whyNoPlace_1 0 rfl rfl)
theorem dX6_whyNoPlace_26 : decode cX6_whyNoPlace 26 = .ok (.iload_n 1, 1) := dk_27 (dk_at dksX6_whyNoPlace_1 3 rfl rfl)
theorem dX6_whyNoPlace_27 : decode cX6_whyNoPlace 27 = .ok (.iaload, 1) := dk_46 (dk_at dksX6_whyNoPlace_1 4 rfl rfl)
theorem dX6_whyNoPlace_28 : decode cX6_whyNoPlace 28 = .ok (.ifCond .lt 6, 3) := dk_155 0 6 (dk_at dksX6_whyNoPlace_1 5 rfl rfl)
theorem dX6_whyNoPlace_31 : decode cX6_whyNoPlace 31 = .ok (.bipush (-12), 2) := dk_16 244 (dk_at dksX6_whyNoPlace_1 8 rfl rfl)
theorem dX6_whyNoPlace_33 : decode cX6_whyNoPlace 33 = .ok (.ireturn, 1) := dk_172 (dk_at dksX6_whyNoPlace_1 10 rfl rfl)
theorem dX6_whyNoPlace_34 : decode cX6_whyNoPlace 34 = .ok (.iload_n 2, 1) := dk_28 (dk_at dksX6_whyNoPlace_1 11 rfl rfl)
theorem dX6_whyNoPlace_35 : decode cX6_whyNoPlace 35 = .ok (.iconst 0, 1) := dk_3 (dk_at dksX6_whyNoPlace_1 12 rfl rfl)
theorem dX6_whyNoPlace_36 : decode cX6_whyNoPlace 36 = .ok (.aload_n 0, 1) := dk_42 (dk_at dksX6_whyNoPlace_1 13 rfl rfl)
theorem dX6_whyNoPlace_37 : decode cX6_whyNoPlace 37 = .ok (.getfield 132, 3) := dk_180 0 132 (dk_at dksX6_whyNoPlace_1 14 rfl rfl)
theorem dX6_whyNoPlace_40 : decode cX6_whyNoPlace 40 = .ok (.iload_n 1, 1) := dk_27 (dk_at dksX6_whyNoPlace_1 17 rfl rfl)
theorem dX6_whyNoPlace_41 : decode cX6_whyNoPlace 41 = .ok (.iaload, 1) := dk_46 (dk_at dksX6_whyNoPlace_1 18 rfl rfl)
theorem dX6_whyNoPlace_42 : decode cX6_whyNoPlace 42 = .ok (.iconst 1, 1) := dk_4 (dk_at dksX6_whyNoPlace_1 19 rfl rfl)
theorem dX6_whyNoPlace_43 : decode cX6_whyNoPlace 43 = .ok (.isub, 1) := dk_100 (dk_at dksX6_whyNoPlace_1 20 rfl rfl)
theorem dX6_whyNoPlace_44 : decode cX6_whyNoPlace 44 = .ok (.invokestatic 145, 3) := dk_184 0 145 (dk_at dksX6_whyNoPlace_1 21 rfl rfl)
theorem dX6_whyNoPlace_47 : decode cX6_whyNoPlace 47 = .ok (.ifCond .eq 7, 3) := dk_153 0 7 (dk_at dksX6_whyNoPlace_2 0 rfl rfl)
theorem dX6_whyNoPlace_50 : decode cX6_whyNoPlace 50 = .ok (.iconst 0, 1) := dk_3 (dk_at dksX6_whyNoPlace_2 3 rfl rfl)
theorem dX6_whyNoPlace_51 : decode cX6_whyNoPlace 51 = .ok (.goto 5, 3) := dk_167 0 5 (dk_at dksX6_whyNoPlace_2 4 rfl rfl)
theorem dX6_whyNoPlace_54 : decode cX6_whyNoPlace 54 = .ok (.bipush (-13), 2) := dk_16 243 (dk_at dksX6_whyNoPlace_2 7 rfl rfl)
theorem dX6_whyNoPlace_56 : decode cX6_whyNoPlace 56 = .ok (.ireturn, 1) := dk_172 (dk_at dksX6_whyNoPlace_2 9 rfl rfl)
abbrev cX6_element : ByteArray := prog_25_method_105_code
def yX6_element : MethodName := ⟨RX6, "element", "(II)J"⟩
def dkwX6_element_1 : List UInt8 := [96, 47, 173]
abbrev dktX6_element_1 : List UInt8 := dkwX6_element_1 ++ []
def dkwX6_element_0 : List UInt8 := [42, 27, 28, 182, 1, 158, 156, 0, 9, 20, 1, 76, 167, 0, 14, 42, 180, 0, 135, 16, 60, 27, 104, 28]
abbrev dktX6_element_0 : List UInt8 := dkwX6_element_0 ++ dktX6_element_1
theorem dksX6_element_0 : cX6_element.data.toList.drop 0 = dktX6_element_0 := by decide +kernel
theorem dksX6_element_1 : cX6_element.data.toList.drop 24 = dktX6_element_1 := dk_seg dksX6_element_0 24 rfl rfl
theorem dX6_element_0 : decode cX6_element 0 = .ok (.aload_n 0, 1) := dk_42 (dk_at dksX6_element_0 0 rfl rfl)
theorem dX6_element_1 : decode cX6_element 1 = .ok (.iload_n 1, 1) := dk_27 (dk_at dksX6_element_0 1 rfl rfl)
theorem dX6_element_2 : decode cX6_element 2 = .ok (.iload_n 2, 1) := dk_28 (dk_at dksX6_element_0 2 rfl rfl)
theorem dX6_element_3 : decode cX6_element 3 = .ok (.invokevirtual 414, 3) := dk_182 1 158 (dk_at dksX6_element_0 3 rfl rfl)
theorem dX6_element_6 : decode cX6_element 6 = .ok (.ifCond .ge 9, 3) := dk_156 0 9 (dk_at dksX6_element_0 6 rfl rfl)
theorem dX6_element_9 : decode cX6_element 9 = .ok (.ldc2_w 332, 3) := dk_20 1 76 (dk_at dksX6_element_0 9 rfl rfl)
theorem dX6_element_12 : decode cX6_element 12 = .ok (.goto 14, 3) := dk_167 0 14 (dk_at dksX6_element_0 12 rfl rfl)
theorem dX6_element_15 : decode cX6_element 15 = .ok (.aload_n 0, 1) := dk_42 (dk_at dksX6_element_0 15 rfl rfl)
theorem dX6_element_16 : decode cX6_element 16 = .ok (.getfield 135, 3) := dk_180 0 135 (dk_at dksX6_element_0 16 rfl rfl)
theorem dX6_element_19 : decode cX6_element 19 = .ok (.bipush 60, 2) := dk_16 60 (dk_at dksX6_element_0 19 rfl rfl)
theorem dX6_element_21 : decode cX6_element 21 = .ok (.iload_n 1, 1) := dk_27 (dk_at dksX6_element_0 21 rfl rfl)
theorem dX6_element_22 : decode cX6_element 22 = .ok (.imul, 1) := dk_104 (dk_at dksX6_element_0 22 rfl rfl)
theorem dX6_element_23 : decode cX6_element 23 = .ok (.iload_n 2, 1) := dk_28 (dk_at dksX6_element_0 23 rfl rfl)
theorem dX6_element_24 : decode cX6_element 24 = .ok (.iadd, 1) := dk_96 (dk_at dksX6_element_1 0 rfl rfl)
theorem dX6_element_25 : decode cX6_element 25 = .ok (.laload, 1) := dk_47 (dk_at dksX6_element_1 1 rfl rfl)
theorem dX6_element_26 : decode cX6_element 26 = .ok (.lreturn, 1) := dk_173 (dk_at dksX6_element_1 2 rfl rfl)
abbrev cX6_shift : ByteArray := prog_25_method_106_code
def yX6_shift : MethodName := ⟨RX6, "shift", "(IIIII)I"⟩
def dkwX6_shift_8 : List UInt8 := [167, 255, 224, 21, 5, 172]
abbrev dktX6_shift_8 : List UInt8 := dkwX6_shift_8 ++ []
def dkwX6_shift_7 : List UInt8 := [180, 0, 135, 16, 60, 29, 104, 21, 4, 96, 21, 6, 96, 42, 180, 0, 139, 21, 6, 47, 80, 132, 6, 1]
abbrev dktX6_shift_7 : List UInt8 := dkwX6_shift_7 ++ dktX6_shift_8
def dkwX6_shift_6 : List UInt8 := [21, 6, 96, 47, 80, 132, 6, 1, 167, 255, 225, 3, 54, 6, 21, 6, 21, 5, 162, 0, 31, 42]
abbrev dktX6_shift_6 : List UInt8 := dkwX6_shift_6 ++ dktX6_shift_7
def dkwX6_shift_5 : List UInt8 := [21, 6, 21, 5, 162, 0, 30, 42, 180, 0, 139, 21, 6, 42, 180, 0, 135, 16, 60, 27, 104, 28, 96]
abbrev dktX6_shift_5 : List UInt8 := dkwX6_shift_5 ++ dktX6_shift_6
def dkwX6_shift_4 : List UInt8 := [163, 0, 17, 21, 4, 42, 180, 0, 132, 29, 46, 21, 5, 100, 164, 0, 6, 16, 243, 172, 3, 54, 6]
abbrev dktX6_shift_4 : List UInt8 := dkwX6_shift_4 ++ dktX6_shift_5
def dkwX6_shift_3 : List UInt8 := [155, 0, 39, 28, 155, 0, 35, 21, 4, 155, 0, 30, 28, 42, 180, 0, 132, 27, 46, 21, 5, 100]
abbrev dktX6_shift_3 : List UInt8 := dkwX6_shift_3 ++ dktX6_shift_4
def dkwX6_shift_2 : List UInt8 := [156, 0, 18, 42, 180, 0, 129, 27, 46, 42, 180, 0, 129, 29, 46, 159, 0, 6, 16, 244, 172, 21, 5]
abbrev dktX6_shift_2 : List UInt8 := dkwX6_shift_2 ++ dktX6_shift_3
def dkwX6_shift_1 : List UInt8 := [159, 0, 13, 42, 180, 0, 129, 29, 46, 2, 160, 0, 6, 16, 245, 172, 42, 180, 0, 129, 27, 46]
abbrev dktX6_shift_1 : List UInt8 := dkwX6_shift_1 ++ dktX6_shift_2
def dkwX6_shift_0 : List UInt8 := [27, 184, 0, 163, 153, 0, 10, 29, 184, 0, 163, 154, 0, 5, 2, 172, 42, 180, 0, 129, 27, 46, 2]
abbrev dktX6_shift_0 : List UInt8 := dkwX6_shift_0 ++ dktX6_shift_1
theorem dksX6_shift_0 : cX6_shift.data.toList.drop 0 = dktX6_shift_0 := by decide +kernel
theorem dksX6_shift_1 : cX6_shift.data.toList.drop 23 = dktX6_shift_1 := dk_seg dksX6_shift_0 23 rfl rfl
theorem dksX6_shift_2 : cX6_shift.data.toList.drop 45 = dktX6_shift_2 := dk_seg dksX6_shift_1 22 rfl rfl
theorem dksX6_shift_3 : cX6_shift.data.toList.drop 68 = dktX6_shift_3 := dk_seg dksX6_shift_2 23 rfl rfl
theorem dksX6_shift_4 : cX6_shift.data.toList.drop 90 = dktX6_shift_4 := dk_seg dksX6_shift_3 22 rfl rfl
theorem dksX6_shift_5 : cX6_shift.data.toList.drop 113 = dktX6_shift_5 := dk_seg dksX6_shift_4 23 rfl rfl
theorem dksX6_shift_6 : cX6_shift.data.toList.drop 136 = dktX6_shift_6 := dk_seg dksX6_shift_5 23 rfl rfl
theorem dksX6_shift_7 : cX6_shift.data.toList.drop 158 = dktX6_shift_7 := dk_seg dksX6_shift_6 22 rfl rfl
theorem dksX6_shift_8 : cX6_shift.data.toList.drop 182 = dktX6_shift_8 := dk_seg dksX6_shift_7 24 rfl rfl
theorem dX6_shift_0 : decode cX6_shift 0 = .ok (.iload_n 1, 1) := dk_27 (dk_at dksX6_shift_0 0 rfl rfl)
theorem dX6_shift_1 : decode cX6_shift 1 = .ok (.invokestatic 163, 3) := dk_184 0 163 (dk_at dksX6_shift_0 1 rfl rfl)
theorem dX6_shift_4 : decode cX6_shift 4 = .ok (.ifCond .eq 10, 3) := dk_153 0 10 (dk_at dksX6_shift_0 4 rfl rfl)
theorem dX6_shift_7 : decode cX6_shift 7 = .ok (.iload_n 3, 1) := dk_29 (dk_at dksX6_shift_0 7 rfl rfl)
theorem dX6_shift_8 : decode cX6_shift 8 = .ok (.invokestatic 163, 3) := dk_184 0 163 (dk_at dksX6_shift_0 8 rfl rfl)
theorem dX6_shift_11 : decode cX6_shift 11 = .ok (.ifCond .ne 5, 3) := dk_154 0 5 (dk_at dksX6_shift_0 11 rfl rfl)
theorem dX6_shift_14 : decode cX6_shift 14 = .ok (.iconst (-1), 1) := dk_2 (dk_at dksX6_shift_0 14 rfl rfl)
theorem dX6_shift_15 : decode cX6_shift 15 = .ok (.ireturn, 1) := dk_172 (dk_at dksX6_shift_0 15 rfl rfl)
theorem dX6_shift_16 : decode cX6_shift 16 = .ok (.aload_n 0, 1) := dk_42 (dk_at dksX6_shift_0 16 rfl rfl)
theorem dX6_shift_17 : decode cX6_shift 17 = .ok (.getfield 129, 3) := dk_180 0 129 (dk_at dksX6_shift_0 17 rfl rfl)
theorem dX6_shift_20 : decode cX6_shift 20 = .ok (.iload_n 1, 1) := dk_27 (dk_at dksX6_shift_0 20 rfl rfl)
theorem dX6_shift_21 : decode cX6_shift 21 = .ok (.iaload, 1) := dk_46 (dk_at dksX6_shift_0 21 rfl rfl)
theorem dX6_shift_22 : decode cX6_shift 22 = .ok (.iconst (-1), 1) := dk_2 (dk_at dksX6_shift_0 22 rfl rfl)
theorem dX6_shift_23 : decode cX6_shift 23 = .ok (.if_icmp .eq 13, 3) := dk_159 0 13 (dk_at dksX6_shift_1 0 rfl rfl)
theorem dX6_shift_26 : decode cX6_shift 26 = .ok (.aload_n 0, 1) := dk_42 (dk_at dksX6_shift_1 3 rfl rfl)
theorem dX6_shift_27 : decode cX6_shift 27 = .ok (.getfield 129, 3) := dk_180 0 129 (dk_at dksX6_shift_1 4 rfl rfl)
theorem dX6_shift_30 : decode cX6_shift 30 = .ok (.iload_n 3, 1) := dk_29 (dk_at dksX6_shift_1 7 rfl rfl)
theorem dX6_shift_31 : decode cX6_shift 31 = .ok (.iaload, 1) := dk_46 (dk_at dksX6_shift_1 8 rfl rfl)
theorem dX6_shift_32 : decode cX6_shift 32 = .ok (.iconst (-1), 1) := dk_2 (dk_at dksX6_shift_1 9 rfl rfl)
theorem dX6_shift_33 : decode cX6_shift 33 = .ok (.if_icmp .ne 6, 3) := dk_160 0 6 (dk_at dksX6_shift_1 10 rfl rfl)
theorem dX6_shift_36 : decode cX6_shift 36 = .ok (.bipush (-11), 2) := dk_16 245 (dk_at dksX6_shift_1 13 rfl rfl)
theorem dX6_shift_38 : decode cX6_shift 38 = .ok (.ireturn, 1) := dk_172 (dk_at dksX6_shift_1 15 rfl rfl)
theorem dX6_shift_39 : decode cX6_shift 39 = .ok (.aload_n 0, 1) := dk_42 (dk_at dksX6_shift_1 16 rfl rfl)
theorem dX6_shift_40 : decode cX6_shift 40 = .ok (.getfield 129, 3) := dk_180 0 129 (dk_at dksX6_shift_1 17 rfl rfl)
theorem dX6_shift_43 : decode cX6_shift 43 = .ok (.iload_n 1, 1) := dk_27 (dk_at dksX6_shift_1 20 rfl rfl)
theorem dX6_shift_44 : decode cX6_shift 44 = .ok (.iaload, 1) := dk_46 (dk_at dksX6_shift_1 21 rfl rfl)
theorem dX6_shift_45 : decode cX6_shift 45 = .ok (.ifCond .ge 18, 3) := dk_156 0 18 (dk_at dksX6_shift_2 0 rfl rfl)
theorem dX6_shift_48 : decode cX6_shift 48 = .ok (.aload_n 0, 1) := dk_42 (dk_at dksX6_shift_2 3 rfl rfl)
theorem dX6_shift_49 : decode cX6_shift 49 = .ok (.getfield 129, 3) := dk_180 0 129 (dk_at dksX6_shift_2 4 rfl rfl)
theorem dX6_shift_52 : decode cX6_shift 52 = .ok (.iload_n 1, 1) := dk_27 (dk_at dksX6_shift_2 7 rfl rfl)
theorem dX6_shift_53 : decode cX6_shift 53 = .ok (.iaload, 1) := dk_46 (dk_at dksX6_shift_2 8 rfl rfl)
theorem dX6_shift_54 : decode cX6_shift 54 = .ok (.aload_n 0, 1) := dk_42 (dk_at dksX6_shift_2 9 rfl rfl)
theorem dX6_shift_55 : decode cX6_shift 55 = .ok (.getfield 129, 3) := dk_180 0 129 (dk_at dksX6_shift_2 10 rfl rfl)
theorem dX6_shift_58 : decode cX6_shift 58 = .ok (.iload_n 3, 1) := dk_29 (dk_at dksX6_shift_2 13 rfl rfl)
theorem dX6_shift_59 : decode cX6_shift 59 = .ok (.iaload, 1) := dk_46 (dk_at dksX6_shift_2 14 rfl rfl)
theorem dX6_shift_60 : decode cX6_shift 60 = .ok (.if_icmp .eq 6, 3) := dk_159 0 6 (dk_at dksX6_shift_2 15 rfl rfl)
theorem dX6_shift_63 : decode cX6_shift 63 = .ok (.bipush (-12), 2) := dk_16 244 (dk_at dksX6_shift_2 18 rfl rfl)
theorem dX6_shift_65 : decode cX6_shift 65 = .ok (.ireturn, 1) := dk_172 (dk_at dksX6_shift_2 20 rfl rfl)
theorem dX6_shift_66 : decode cX6_shift 66 = .ok (.iload 5, 2) := dk_21 5 (dk_at dksX6_shift_2 21 rfl rfl)
theorem dX6_shift_68 : decode cX6_shift 68 = .ok (.ifCond .lt 39, 3) := dk_155 0 39 (dk_at dksX6_shift_3 0 rfl rfl)
theorem dX6_shift_71 : decode cX6_shift 71 = .ok (.iload_n 2, 1) := dk_28 (dk_at dksX6_shift_3 3 rfl rfl)
theorem dX6_shift_72 : decode cX6_shift 72 = .ok (.ifCond .lt 35, 3) := dk_155 0 35 (dk_at dksX6_shift_3 4 rfl rfl)
theorem dX6_shift_75 : decode cX6_shift 75 = .ok (.iload 4, 2) := dk_21 4 (dk_at dksX6_shift_3 7 rfl rfl)
theorem dX6_shift_77 : decode cX6_shift 77 = .ok (.ifCond .lt 30, 3) := dk_155 0 30 (dk_at dksX6_shift_3 9 rfl rfl)
theorem dX6_shift_80 : decode cX6_shift 80 = .ok (.iload_n 2, 1) := dk_28 (dk_at dksX6_shift_3 12 rfl rfl)
theorem dX6_shift_81 : decode cX6_shift 81 = .ok (.aload_n 0, 1) := dk_42 (dk_at dksX6_shift_3 13 rfl rfl)
theorem dX6_shift_82 : decode cX6_shift 82 = .ok (.getfield 132, 3) := dk_180 0 132 (dk_at dksX6_shift_3 14 rfl rfl)
theorem dX6_shift_85 : decode cX6_shift 85 = .ok (.iload_n 1, 1) := dk_27 (dk_at dksX6_shift_3 17 rfl rfl)
theorem dX6_shift_86 : decode cX6_shift 86 = .ok (.iaload, 1) := dk_46 (dk_at dksX6_shift_3 18 rfl rfl)
theorem dX6_shift_87 : decode cX6_shift 87 = .ok (.iload 5, 2) := dk_21 5 (dk_at dksX6_shift_3 19 rfl rfl)
theorem dX6_shift_89 : decode cX6_shift 89 = .ok (.isub, 1) := dk_100 (dk_at dksX6_shift_3 21 rfl rfl)
theorem dX6_shift_90 : decode cX6_shift 90 = .ok (.if_icmp .gt 17, 3) := dk_163 0 17 (dk_at dksX6_shift_4 0 rfl rfl)
theorem dX6_shift_93 : decode cX6_shift 93 = .ok (.iload 4, 2) := dk_21 4 (dk_at dksX6_shift_4 3 rfl rfl)
theorem dX6_shift_95 : decode cX6_shift 95 = .ok (.aload_n 0, 1) := dk_42 (dk_at dksX6_shift_4 5 rfl rfl)
theorem dX6_shift_96 : decode cX6_shift 96 = .ok (.getfield 132, 3) := dk_180 0 132 (dk_at dksX6_shift_4 6 rfl rfl)
theorem dX6_shift_99 : decode cX6_shift 99 = .ok (.iload_n 3, 1) := dk_29 (dk_at dksX6_shift_4 9 rfl rfl)
theorem dX6_shift_100 : decode cX6_shift 100 = .ok (.iaload, 1) := dk_46 (dk_at dksX6_shift_4 10 rfl rfl)
theorem dX6_shift_101 : decode cX6_shift 101 = .ok (.iload 5, 2) := dk_21 5 (dk_at dksX6_shift_4 11 rfl rfl)
theorem dX6_shift_103 : decode cX6_shift 103 = .ok (.isub, 1) := dk_100 (dk_at dksX6_shift_4 13 rfl rfl)
theorem dX6_shift_104 : decode cX6_shift 104 = .ok (.if_icmp .le 6, 3) := dk_164 0 6 (dk_at dksX6_shift_4 14 rfl rfl)
theorem dX6_shift_107 : decode cX6_shift 107 = .ok (.bipush (-13), 2) := dk_16 243 (dk_at dksX6_shift_4 17 rfl rfl)
theorem dX6_shift_109 : decode cX6_shift 109 = .ok (.ireturn, 1) := dk_172 (dk_at dksX6_shift_4 19 rfl rfl)
theorem dX6_shift_110 : decode cX6_shift 110 = .ok (.iconst 0, 1) := dk_3 (dk_at dksX6_shift_4 20 rfl rfl)
theorem dX6_shift_111 : decode cX6_shift 111 = .ok (.istore 6, 2) := dk_54 6 (dk_at dksX6_shift_4 21 rfl rfl)
theorem dX6_shift_113 : decode cX6_shift 113 = .ok (.iload 6, 2) := dk_21 6 (dk_at dksX6_shift_5 0 rfl rfl)
theorem dX6_shift_115 : decode cX6_shift 115 = .ok (.iload 5, 2) := dk_21 5 (dk_at dksX6_shift_5 2 rfl rfl)
theorem dX6_shift_117 : decode cX6_shift 117 = .ok (.if_icmp .ge 30, 3) := dk_162 0 30 (dk_at dksX6_shift_5 4 rfl rfl)
theorem dX6_shift_120 : decode cX6_shift 120 = .ok (.aload_n 0, 1) := dk_42 (dk_at dksX6_shift_5 7 rfl rfl)
theorem dX6_shift_121 : decode cX6_shift 121 = .ok (.getfield 139, 3) := dk_180 0 139 (dk_at dksX6_shift_5 8 rfl rfl)
theorem dX6_shift_124 : decode cX6_shift 124 = .ok (.iload 6, 2) := dk_21 6 (dk_at dksX6_shift_5 11 rfl rfl)
theorem dX6_shift_126 : decode cX6_shift 126 = .ok (.aload_n 0, 1) := dk_42 (dk_at dksX6_shift_5 13 rfl rfl)
theorem dX6_shift_127 : decode cX6_shift 127 = .ok (.getfield 135, 3) := dk_180 0 135 (dk_at dksX6_shift_5 14 rfl rfl)
theorem dX6_shift_130 : decode cX6_shift 130 = .ok (.bipush 60, 2) := dk_16 60 (dk_at dksX6_shift_5 17 rfl rfl)
theorem dX6_shift_132 : decode cX6_shift 132 = .ok (.iload_n 1, 1) := dk_27 (dk_at dksX6_shift_5 19 rfl rfl)
theorem dX6_shift_133 : decode cX6_shift 133 = .ok (.imul, 1) := dk_104 (dk_at dksX6_shift_5 20 rfl rfl)
theorem dX6_shift_134 : decode cX6_shift 134 = .ok (.iload_n 2, 1) := dk_28 (dk_at dksX6_shift_5 21 rfl rfl)
theorem dX6_shift_135 : decode cX6_shift 135 = .ok (.iadd, 1) := dk_96 (dk_at dksX6_shift_5 22 rfl rfl)
theorem dX6_shift_136 : decode cX6_shift 136 = .ok (.iload 6, 2) := dk_21 6 (dk_at dksX6_shift_6 0 rfl rfl)
theorem dX6_shift_138 : decode cX6_shift 138 = .ok (.iadd, 1) := dk_96 (dk_at dksX6_shift_6 2 rfl rfl)
theorem dX6_shift_139 : decode cX6_shift 139 = .ok (.laload, 1) := dk_47 (dk_at dksX6_shift_6 3 rfl rfl)
theorem dX6_shift_140 : decode cX6_shift 140 = .ok (.lastore, 1) := dk_80 (dk_at dksX6_shift_6 4 rfl rfl)
theorem dX6_shift_141 : decode cX6_shift 141 = .ok (.iinc 6 1, 3) := dk_132 6 1 (dk_at dksX6_shift_6 5 rfl rfl)
theorem dX6_shift_144 : decode cX6_shift 144 = .ok (.goto (-31), 3) := dk_167 255 225 (dk_at dksX6_shift_6 8 rfl rfl)
theorem dX6_shift_147 : decode cX6_shift 147 = .ok (.iconst 0, 1) := dk_3 (dk_at dksX6_shift_6 11 rfl rfl)
theorem dX6_shift_148 : decode cX6_shift 148 = .ok (.istore 6, 2) := dk_54 6 (dk_at dksX6_shift_6 12 rfl rfl)
theorem dX6_shift_150 : decode cX6_shift 150 = .ok (.iload 6, 2) := dk_21 6 (dk_at dksX6_shift_6 14 rfl rfl)
theorem dX6_shift_152 : decode cX6_shift 152 = .ok (.iload 5, 2) := dk_21 5 (dk_at dksX6_shift_6 16 rfl rfl)
theorem dX6_shift_154 : decode cX6_shift 154 = .ok (.if_icmp .ge 31, 3) := dk_162 0 31 (dk_at dksX6_shift_6 18 rfl rfl)
theorem dX6_shift_157 : decode cX6_shift 157 = .ok (.aload_n 0, 1) := dk_42 (dk_at dksX6_shift_6 21 rfl rfl)
theorem dX6_shift_158 : decode cX6_shift 158 = .ok (.getfield 135, 3) := dk_180 0 135 (dk_at dksX6_shift_7 0 rfl rfl)
theorem dX6_shift_161 : decode cX6_shift 161 = .ok (.bipush 60, 2) := dk_16 60 (dk_at dksX6_shift_7 3 rfl rfl)
theorem dX6_shift_163 : decode cX6_shift 163 = .ok (.iload_n 3, 1) := dk_29 (dk_at dksX6_shift_7 5 rfl rfl)
theorem dX6_shift_164 : decode cX6_shift 164 = .ok (.imul, 1) := dk_104 (dk_at dksX6_shift_7 6 rfl rfl)
theorem dX6_shift_165 : decode cX6_shift 165 = .ok (.iload 4, 2) := dk_21 4 (dk_at dksX6_shift_7 7 rfl rfl)
theorem dX6_shift_167 : decode cX6_shift 167 = .ok (.iadd, 1) := dk_96 (dk_at dksX6_shift_7 9 rfl rfl)
theorem dX6_shift_168 : decode cX6_shift 168 = .ok (.iload 6, 2) := dk_21 6 (dk_at dksX6_shift_7 10 rfl rfl)
theorem dX6_shift_170 : decode cX6_shift 170 = .ok (.iadd, 1) := dk_96 (dk_at dksX6_shift_7 12 rfl rfl)
theorem dX6_shift_171 : decode cX6_shift 171 = .ok (.aload_n 0, 1) := dk_42 (dk_at dksX6_shift_7 13 rfl rfl)
theorem dX6_shift_172 : decode cX6_shift 172 = .ok (.getfield 139, 3) := dk_180 0 139 (dk_at dksX6_shift_7 14 rfl rfl)
theorem dX6_shift_175 : decode cX6_shift 175 = .ok (.iload 6, 2) := dk_21 6 (dk_at dksX6_shift_7 17 rfl rfl)
theorem dX6_shift_177 : decode cX6_shift 177 = .ok (.laload, 1) := dk_47 (dk_at dksX6_shift_7 19 rfl rfl)
theorem dX6_shift_178 : decode cX6_shift 178 = .ok (.lastore, 1) := dk_80 (dk_at dksX6_shift_7 20 rfl rfl)
theorem dX6_shift_179 : decode cX6_shift 179 = .ok (.iinc 6 1, 3) := dk_132 6 1 (dk_at dksX6_shift_7 21 rfl rfl)
theorem dX6_shift_182 : decode cX6_shift 182 = .ok (.goto (-32), 3) := dk_167 255 224 (dk_at dksX6_shift_8 0 rfl rfl)
theorem dX6_shift_185 : decode cX6_shift 185 = .ok (.iload 5, 2) := dk_21 5 (dk_at dksX6_shift_8 3 rfl rfl)
theorem dX6_shift_187 : decode cX6_shift 187 = .ok (.ireturn, 1) := dk_172 (dk_at dksX6_shift_8 5 rfl rfl)
abbrev cX6_taken : ByteArray := prog_25_method_107_code
def yX6_taken : MethodName := ⟨RX6, "taken", "(II)I"⟩
def dkwX6_taken_3 : List UInt8 := [167, 0, 5, 16, 244, 172]
abbrev dktX6_taken_3 : List UInt8 := dkwX6_taken_3 ++ []
def dkwX6_taken_2 : List UInt8 := [180, 0, 129, 27, 46, 46, 28, 184, 1, 119, 153, 0, 17, 42, 180, 0, 123, 42, 180, 0, 129, 27, 46, 46]
abbrev dktX6_taken_2 : List UInt8 := dkwX6_taken_2 ++ dktX6_taken_3
def dkwX6_taken_1 : List UInt8 := [46, 2, 160, 0, 6, 16, 245, 172, 42, 180, 0, 129, 27, 46, 155, 0, 35, 42, 180, 0, 123, 42]
abbrev dktX6_taken_1 : List UInt8 := dkwX6_taken_1 ++ dktX6_taken_2
def dkwX6_taken_0 : List UInt8 := [27, 184, 0, 163, 153, 0, 13, 28, 3, 16, 7, 184, 0, 145, 154, 0, 5, 2, 172, 42, 180, 0, 129, 27]
abbrev dktX6_taken_0 : List UInt8 := dkwX6_taken_0 ++ dktX6_taken_1
theorem dksX6_taken_0 : cX6_taken.data.toList.drop 0 = dktX6_taken_0 := by decide +kernel
theorem dksX6_taken_1 : cX6_taken.data.toList.drop 24 = dktX6_taken_1 := dk_seg dksX6_taken_0 24 rfl rfl
theorem dksX6_taken_2 : cX6_taken.data.toList.drop 46 = dktX6_taken_2 := dk_seg dksX6_taken_1 22 rfl rfl
theorem dksX6_taken_3 : cX6_taken.data.toList.drop 70 = dktX6_taken_3 := dk_seg dksX6_taken_2 24 rfl rfl
theorem dX6_taken_0 : decode cX6_taken 0 = .ok (.iload_n 1, 1) := dk_27 (dk_at dksX6_taken_0 0 rfl rfl)
theorem dX6_taken_1 : decode cX6_taken 1 = .ok (.invokestatic 163, 3) := dk_184 0 163 (dk_at dksX6_taken_0 1 rfl rfl)
theorem dX6_taken_4 : decode cX6_taken 4 = .ok (.ifCond .eq 13, 3) := dk_153 0 13 (dk_at dksX6_taken_0 4 rfl rfl)
theorem dX6_taken_7 : decode cX6_taken 7 = .ok (.iload_n 2, 1) := dk_28 (dk_at dksX6_taken_0 7 rfl rfl)
theorem dX6_taken_8 : decode cX6_taken 8 = .ok (.iconst 0, 1) := dk_3 (dk_at dksX6_taken_0 8 rfl rfl)
theorem dX6_taken_9 : decode cX6_taken 9 = .ok (.bipush 7, 2) := dk_16 7 (dk_at dksX6_taken_0 9 rfl rfl)
theorem dX6_taken_11 : decode cX6_taken 11 = .ok (.invokestatic 145, 3) := dk_184 0 145 (dk_at dksX6_taken_0 11 rfl rfl)
theorem dX6_taken_14 : decode cX6_taken 14 = .ok (.ifCond .ne 5, 3) := dk_154 0 5 (dk_at dksX6_taken_0 14 rfl rfl)
theorem dX6_taken_17 : decode cX6_taken 17 = .ok (.iconst (-1), 1) := dk_2 (dk_at dksX6_taken_0 17 rfl rfl)
theorem dX6_taken_18 : decode cX6_taken 18 = .ok (.ireturn, 1) := dk_172 (dk_at dksX6_taken_0 18 rfl rfl)
theorem dX6_taken_19 : decode cX6_taken 19 = .ok (.aload_n 0, 1) := dk_42 (dk_at dksX6_taken_0 19 rfl rfl)
theorem dX6_taken_20 : decode cX6_taken 20 = .ok (.getfield 129, 3) := dk_180 0 129 (dk_at dksX6_taken_0 20 rfl rfl)
theorem dX6_taken_23 : decode cX6_taken 23 = .ok (.iload_n 1, 1) := dk_27 (dk_at dksX6_taken_0 23 rfl rfl)
theorem dX6_taken_24 : decode cX6_taken 24 = .ok (.iaload, 1) := dk_46 (dk_at dksX6_taken_1 0 rfl rfl)
theorem dX6_taken_25 : decode cX6_taken 25 = .ok (.iconst (-1), 1) := dk_2 (dk_at dksX6_taken_1 1 rfl rfl)
theorem dX6_taken_26 : decode cX6_taken 26 = .ok (.if_icmp .ne 6, 3) := dk_160 0 6 (dk_at dksX6_taken_1 2 rfl rfl)
theorem dX6_taken_29 : decode cX6_taken 29 = .ok (.bipush (-11), 2) := dk_16 245 (dk_at dksX6_taken_1 5 rfl rfl)
theorem dX6_taken_31 : decode cX6_taken 31 = .ok (.ireturn, 1) := dk_172 (dk_at dksX6_taken_1 7 rfl rfl)
theorem dX6_taken_32 : decode cX6_taken 32 = .ok (.aload_n 0, 1) := dk_42 (dk_at dksX6_taken_1 8 rfl rfl)
theorem dX6_taken_33 : decode cX6_taken 33 = .ok (.getfield 129, 3) := dk_180 0 129 (dk_at dksX6_taken_1 9 rfl rfl)
theorem dX6_taken_36 : decode cX6_taken 36 = .ok (.iload_n 1, 1) := dk_27 (dk_at dksX6_taken_1 12 rfl rfl)
theorem dX6_taken_37 : decode cX6_taken 37 = .ok (.iaload, 1) := dk_46 (dk_at dksX6_taken_1 13 rfl rfl)
theorem dX6_taken_38 : decode cX6_taken 38 = .ok (.ifCond .lt 35, 3) := dk_155 0 35 (dk_at dksX6_taken_1 14 rfl rfl)
theorem dX6_taken_41 : decode cX6_taken 41 = .ok (.aload_n 0, 1) := dk_42 (dk_at dksX6_taken_1 17 rfl rfl)
theorem dX6_taken_42 : decode cX6_taken 42 = .ok (.getfield 123, 3) := dk_180 0 123 (dk_at dksX6_taken_1 18 rfl rfl)
theorem dX6_taken_45 : decode cX6_taken 45 = .ok (.aload_n 0, 1) := dk_42 (dk_at dksX6_taken_1 21 rfl rfl)
theorem dX6_taken_46 : decode cX6_taken 46 = .ok (.getfield 129, 3) := dk_180 0 129 (dk_at dksX6_taken_2 0 rfl rfl)
theorem dX6_taken_49 : decode cX6_taken 49 = .ok (.iload_n 1, 1) := dk_27 (dk_at dksX6_taken_2 3 rfl rfl)
theorem dX6_taken_50 : decode cX6_taken 50 = .ok (.iaload, 1) := dk_46 (dk_at dksX6_taken_2 4 rfl rfl)
theorem dX6_taken_51 : decode cX6_taken 51 = .ok (.iaload, 1) := dk_46 (dk_at dksX6_taken_2 5 rfl rfl)
theorem dX6_taken_52 : decode cX6_taken 52 = .ok (.iload_n 2, 1) := dk_28 (dk_at dksX6_taken_2 6 rfl rfl)
theorem dX6_taken_53 : decode cX6_taken 53 = .ok (.invokestatic 375, 3) := dk_184 1 119 (dk_at dksX6_taken_2 7 rfl rfl)
theorem dX6_taken_56 : decode cX6_taken 56 = .ok (.ifCond .eq 17, 3) := dk_153 0 17 (dk_at dksX6_taken_2 10 rfl rfl)
theorem dX6_taken_59 : decode cX6_taken 59 = .ok (.aload_n 0, 1) := dk_42 (dk_at dksX6_taken_2 13 rfl rfl)
theorem dX6_taken_60 : decode cX6_taken 60 = .ok (.getfield 123, 3) := dk_180 0 123 (dk_at dksX6_taken_2 14 rfl rfl)
theorem dX6_taken_63 : decode cX6_taken 63 = .ok (.aload_n 0, 1) := dk_42 (dk_at dksX6_taken_2 17 rfl rfl)
theorem dX6_taken_64 : decode cX6_taken 64 = .ok (.getfield 129, 3) := dk_180 0 129 (dk_at dksX6_taken_2 18 rfl rfl)
theorem dX6_taken_67 : decode cX6_taken 67 = .ok (.iload_n 1, 1) := dk_27 (dk_at dksX6_taken_2 21 rfl rfl)
theorem dX6_taken_68 : decode cX6_taken 68 = .ok (.iaload, 1) := dk_46 (dk_at dksX6_taken_2 22 rfl rfl)
theorem dX6_taken_69 : decode cX6_taken 69 = .ok (.iaload, 1) := dk_46 (dk_at dksX6_taken_2 23 rfl rfl)
theorem dX6_taken_70 : decode cX6_taken 70 = .ok (.goto 5, 3) := dk_167 0 5 (dk_at dksX6_taken_3 0 rfl rfl)
theorem dX6_taken_73 : decode cX6_taken 73 = .ok (.bipush (-12), 2) := dk_16 244 (dk_at dksX6_taken_3 3 rfl rfl)
theorem dX6_taken_75 : decode cX6_taken 75 = .ok (.ireturn, 1) := dk_172 (dk_at dksX6_taken_3 5 rfl rfl)
theorem q104 : (Jvm.Cond.initialized "LeftAsFoundModel") ∈ lw_all := lw_g (lw_at lw_m1 10 rfl) rfl
theorem q1304 : (Jvm.Cond.instantiable "LeftAsFoundModel" (60 : Nat)) ∈ lw_all := lw_g (lw_at lw_m6 10 rfl) rfl
theorem q1306 : (Jvm.Cond.instanceMethod ({ cls := "LeftAsFoundModel", name := "<init>", desc := "()V" } : Jvm.MethodName)) ∈ lw_all := lw_g (lw_at lw_m6 12 rfl) rfl
theorem q1307 : (Jvm.Cond.code ({ cls := "LeftAsFoundModel", name := "<init>", desc := "()V" } : Jvm.MethodName) prog_25_method_1_code (1 : Nat) (Option.none : Option Jvm.ClassFile.FieldType)) ∈ lw_all := lw_g (lw_at lw_m6 13 rfl) rfl
theorem q1308 : (Jvm.Cond.methodLink "LeftAsFoundModel" (3 : Nat) ({ cls := "java/lang/Object", name := "<init>", desc := "()V" } : Jvm.MethodName)) ∈ lw_all := lw_g (lw_at lw_m6 14 rfl) rfl
theorem q1309 : (Jvm.Cond.fieldLink "LeftAsFoundModel" (9 : Nat) "LeftAsFoundModel" "ought" "[I") ∈ lw_all := lw_g (lw_at lw_m6 15 rfl) rfl
theorem q1310 : (Jvm.Cond.fieldLink "LeftAsFoundModel" (15 : Nat) "LeftAsFoundModel" "worth1" "[I") ∈ lw_all := lw_g (lw_at lw_m6 16 rfl) rfl
theorem q1311 : (Jvm.Cond.fieldLink "LeftAsFoundModel" (149 : Nat) "LeftAsFoundModel" "guests" "I") ∈ lw_all := lw_g (lw_at lw_m6 17 rfl) rfl
theorem q1312 : (Jvm.Cond.fieldLink "LeftAsFoundModel" (18 : Nat) "LeftAsFoundModel" "takes" "[I") ∈ lw_all := lw_g (lw_at lw_m6 18 rfl) rfl
theorem q1313 : (Jvm.Cond.fieldLink "LeftAsFoundModel" (21 : Nat) "LeftAsFoundModel" "brings" "[I") ∈ lw_all := lw_g (lw_at lw_m6 19 rfl) rfl
theorem q1314 : (Jvm.Cond.fieldLink "LeftAsFoundModel" (24 : Nat) "LeftAsFoundModel" "sees1" "[I") ∈ lw_all := lw_g (lw_at lw_m6 20 rfl) rfl
theorem q1315 : (Jvm.Cond.fieldLink "LeftAsFoundModel" (27 : Nat) "LeftAsFoundModel" "believes" "[I") ∈ lw_all := lw_g (lw_at lw_m6 21 rfl) rfl
theorem q1316 : (Jvm.Cond.fieldLink "LeftAsFoundModel" (30 : Nat) "LeftAsFoundModel" "rule" "I") ∈ lw_all := lw_g (lw_at lw_m6 22 rfl) rfl
theorem q1317 : (Jvm.Cond.fieldLink "LeftAsFoundModel" (34 : Nat) "LeftAsFoundModel" "price" "I") ∈ lw_all := lw_g (lw_at lw_m6 23 rfl) rfl
theorem q1318 : (Jvm.Cond.fieldLink "LeftAsFoundModel" (37 : Nat) "LeftAsFoundModel" "honest" "I") ∈ lw_all := lw_g (lw_at lw_m6 24 rfl) rfl
theorem q1319 : (Jvm.Cond.fieldLink "LeftAsFoundModel" (40 : Nat) "LeftAsFoundModel" "hut" "[I") ∈ lw_all := lw_g (lw_at lw_m6 25 rfl) rfl
theorem q1320 : (Jvm.Cond.fieldLink "LeftAsFoundModel" (179 : Nat) "LeftAsFoundModel" "doneMany" "I") ∈ lw_all := lw_g (lw_at lw_m6 26 rfl) rfl
theorem q1321 : (Jvm.Cond.fieldLink "LeftAsFoundModel" (176 : Nat) "LeftAsFoundModel" "undoneMany" "I") ∈ lw_all := lw_g (lw_at lw_m6 27 rfl) rfl
theorem q1322 : (Jvm.Cond.fieldLink "LeftAsFoundModel" (43 : Nat) "LeftAsFoundModel" "changeOf" "[I") ∈ lw_all := lw_g (lw_at lw_m6 28 rfl) rfl
theorem q1323 : (Jvm.Cond.fieldLink "LeftAsFoundModel" (46 : Nat) "LeftAsFoundModel" "changeAt" "[I") ∈ lw_all := lw_g (lw_at lw_m6 29 rfl) rfl
theorem q1324 : (Jvm.Cond.fieldLink "LeftAsFoundModel" (49 : Nat) "LeftAsFoundModel" "before" "[I") ∈ lw_all := lw_g (lw_at lw_m6 30 rfl) rfl
theorem q1325 : (Jvm.Cond.fieldLink "LeftAsFoundModel" (52 : Nat) "LeftAsFoundModel" "behind" "[I") ∈ lw_all := lw_g (lw_at lw_m6 31 rfl) rfl
theorem q1326 : (Jvm.Cond.fieldLink "LeftAsFoundModel" (55 : Nat) "LeftAsFoundModel" "tape" "[B") ∈ lw_all := lw_g (lw_at lw_m6 32 rfl) rfl
theorem q1327 : (Jvm.Cond.fieldLink "LeftAsFoundModel" (199 : Nat) "LeftAsFoundModel" "taped" "I") ∈ lw_all := lw_g (lw_at lw_m6 33 rfl) rfl
theorem q1328 : (Jvm.Cond.fieldLink "LeftAsFoundModel" (202 : Nat) "LeftAsFoundModel" "here" "I") ∈ lw_all := lw_g (lw_at lw_m6 34 rfl) rfl
theorem q1329 : (Jvm.Cond.fieldLink "LeftAsFoundModel" (205 : Nat) "LeftAsFoundModel" "fault" "I") ∈ lw_all := lw_g (lw_at lw_m6 35 rfl) rfl
theorem q1330 : (Jvm.Cond.fieldLink "LeftAsFoundModel" (211 : Nat) "LeftAsFoundModel" "open" "I") ∈ lw_all := lw_g (lw_at lw_m6 36 rfl) rfl
theorem q1331 : (Jvm.Cond.fieldLink "LeftAsFoundModel" (208 : Nat) "LeftAsFoundModel" "laid" "I") ∈ lw_all := lw_g (lw_at lw_m6 37 rfl) rfl
theorem q1332 : (Jvm.Cond.fieldLink "LeftAsFoundModel" (59 : Nat) "LeftAsFoundModel" "act" "[B") ∈ lw_all := lw_g (lw_at lw_m6 38 rfl) rfl
theorem q1333 : (Jvm.Cond.fieldLink "LeftAsFoundModel" (62 : Nat) "LeftAsFoundModel" "with" "[I") ∈ lw_all := lw_g (lw_at lw_m6 39 rfl) rfl
theorem q1334 : (Jvm.Cond.fieldLink "LeftAsFoundModel" (65 : Nat) "LeftAsFoundModel" "lineMany" "[I") ∈ lw_all := lw_g (lw_at lw_m6 40 rfl) rfl
theorem q1335 : (Jvm.Cond.fieldLink "LeftAsFoundModel" (68 : Nat) "LeftAsFoundModel" "testEnd" "[S") ∈ lw_all := lw_g (lw_at lw_m6 41 rfl) rfl
theorem q1336 : (Jvm.Cond.fieldLink "LeftAsFoundModel" (72 : Nat) "LeftAsFoundModel" "lineEnd" "[S") ∈ lw_all := lw_g (lw_at lw_m6 42 rfl) rfl
theorem q1337 : (Jvm.Cond.fieldLink "LeftAsFoundModel" (75 : Nat) "LeftAsFoundModel" "facts" "[I") ∈ lw_all := lw_g (lw_at lw_m6 43 rfl) rfl
theorem q1338 : (Jvm.Cond.fieldLink "LeftAsFoundModel" (78 : Nat) "LeftAsFoundModel" "pile" "[I") ∈ lw_all := lw_g (lw_at lw_m6 44 rfl) rfl
theorem q1339 : (Jvm.Cond.fieldLink "LeftAsFoundModel" (265 : Nat) "LeftAsFoundModel" "hasLaw" "Z") ∈ lw_all := lw_g (lw_at lw_m6 45 rfl) rfl
theorem q1340 : (Jvm.Cond.fieldLink "LeftAsFoundModel" (81 : Nat) "LeftAsFoundModel" "then1" "[I") ∈ lw_all := lw_g (lw_at lw_m6 46 rfl) rfl
theorem q1341 : (Jvm.Cond.fieldLink "LeftAsFoundModel" (84 : Nat) "LeftAsFoundModel" "oughts" "[I") ∈ lw_all := lw_g (lw_at lw_m6 47 rfl) rfl
theorem q1342 : (Jvm.Cond.fieldLink "LeftAsFoundModel" (87 : Nat) "LeftAsFoundModel" "keptHut" "[I") ∈ lw_all := lw_g (lw_at lw_m6 48 rfl) rfl
theorem q1343 : (Jvm.Cond.fieldLink "LeftAsFoundModel" (90 : Nat) "LeftAsFoundModel" "stay" "[I") ∈ lw_all := lw_g (lw_at lw_m6 49 rfl) rfl
theorem q1344 : (Jvm.Cond.fieldLink "LeftAsFoundModel" (285 : Nat) "LeftAsFoundModel" "stays" "I") ∈ lw_all := lw_g (lw_at lw_m6 50 rfl) rfl
theorem q1345 : (Jvm.Cond.fieldLink "LeftAsFoundModel" (93 : Nat) "LeftAsFoundModel" "hutsBehind" "[I") ∈ lw_all := lw_g (lw_at lw_m6 51 rfl) rfl
theorem q1346 : (Jvm.Cond.fieldLink "LeftAsFoundModel" (96 : Nat) "LeftAsFoundModel" "toldStay" "[I") ∈ lw_all := lw_g (lw_at lw_m6 52 rfl) rfl
theorem q1347 : (Jvm.Cond.fieldLink "LeftAsFoundModel" (99 : Nat) "LeftAsFoundModel" "places" "[I") ∈ lw_all := lw_g (lw_at lw_m6 53 rfl) rfl
theorem q1348 : (Jvm.Cond.fieldLink "LeftAsFoundModel" (102 : Nat) "LeftAsFoundModel" "bestPlaces" "[I") ∈ lw_all := lw_g (lw_at lw_m6 54 rfl) rfl
theorem q1349 : (Jvm.Cond.fieldLink "LeftAsFoundModel" (326 : Nat) "LeftAsFoundModel" "leastLoss" "I") ∈ lw_all := lw_g (lw_at lw_m6 55 rfl) rfl
theorem q1350 : (Jvm.Cond.fieldLink "LeftAsFoundModel" (105 : Nat) "LeftAsFoundModel" "lackedAhead" "[I") ∈ lw_all := lw_g (lw_at lw_m6 56 rfl) rfl
theorem q1351 : (Jvm.Cond.fieldLink "LeftAsFoundModel" (108 : Nat) "LeftAsFoundModel" "seen" "[I") ∈ lw_all := lw_g (lw_at lw_m6 57 rfl) rfl
theorem q1352 : (Jvm.Cond.fieldLink "LeftAsFoundModel" (340 : Nat) "LeftAsFoundModel" "seenMany" "I") ∈ lw_all := lw_g (lw_at lw_m6 58 rfl) rfl
theorem q1353 : (Jvm.Cond.fieldLink "LeftAsFoundModel" (111 : Nat) "LeftAsFoundModel" "hutAt" "[I") ∈ lw_all := lw_g (lw_at lw_m6 59 rfl) rfl
theorem q1354 : (Jvm.Cond.fieldLink "LeftAsFoundModel" (343 : Nat) "LeftAsFoundModel" "askedNight" "I") ∈ lw_all := lw_g (lw_at lw_m6 60 rfl) rfl
theorem q1355 : (Jvm.Cond.fieldLink "LeftAsFoundModel" (346 : Nat) "LeftAsFoundModel" "askedGuest" "I") ∈ lw_all := lw_g (lw_at lw_m6 61 rfl) rfl
theorem q1356 : (Jvm.Cond.fieldLink "LeftAsFoundModel" (114 : Nat) "LeftAsFoundModel" "deed" "[I") ∈ lw_all := lw_g (lw_at lw_m6 62 rfl) rfl
theorem q1357 : (Jvm.Cond.fieldLink "LeftAsFoundModel" (360 : Nat) "LeftAsFoundModel" "hasImage" "Z") ∈ lw_all := lw_g (lw_at lw_m6 63 rfl) rfl
theorem q1358 : (Jvm.Cond.fieldLink "LeftAsFoundModel" (117 : Nat) "LeftAsFoundModel" "imageHut" "[I") ∈ lw_all := lw_g (lw_at lw_m6 64 rfl) rfl
theorem q1359 : (Jvm.Cond.fieldLink "LeftAsFoundModel" (120 : Nat) "LeftAsFoundModel" "imageDeed" "[I") ∈ lw_all := lw_g (lw_at lw_m6 65 rfl) rfl
theorem q1360 : (Jvm.Cond.fieldLink "LeftAsFoundModel" (363 : Nat) "LeftAsFoundModel" "bodies" "I") ∈ lw_all := lw_g (lw_at lw_m6 66 rfl) rfl
theorem q1361 : (Jvm.Cond.fieldLink "LeftAsFoundModel" (123 : Nat) "LeftAsFoundModel" "kind" "[I") ∈ lw_all := lw_g (lw_at lw_m6 67 rfl) rfl
theorem q1362 : (Jvm.Cond.fieldLink "LeftAsFoundModel" (366 : Nat) "LeftAsFoundModel" "traces" "I") ∈ lw_all := lw_g (lw_at lw_m6 68 rfl) rfl
theorem q1363 : (Jvm.Cond.fieldLink "LeftAsFoundModel" (126 : Nat) "LeftAsFoundModel" "traced" "[I") ∈ lw_all := lw_g (lw_at lw_m6 69 rfl) rfl
theorem q1364 : (Jvm.Cond.fieldLink "LeftAsFoundModel" (129 : Nat) "LeftAsFoundModel" "holds" "[I") ∈ lw_all := lw_g (lw_at lw_m6 70 rfl) rfl
theorem q1365 : (Jvm.Cond.fieldLink "LeftAsFoundModel" (132 : Nat) "LeftAsFoundModel" "size" "[I") ∈ lw_all := lw_g (lw_at lw_m6 71 rfl) rfl
theorem q1366 : (Jvm.Cond.fieldLink "LeftAsFoundModel" (135 : Nat) "LeftAsFoundModel" "elements" "[J") ∈ lw_all := lw_g (lw_at lw_m6 72 rfl) rfl
theorem q1367 : (Jvm.Cond.fieldLink "LeftAsFoundModel" (139 : Nat) "LeftAsFoundModel" "shifted" "[J") ∈ lw_all := lw_g (lw_at lw_m6 73 rfl) rfl
theorem q1368 : (Jvm.Cond.lays "LeftAsFoundModel" "LeftAsFoundModel" "code" "I") ∈ lw_all := lw_g (lw_at lw_m6 74 rfl) rfl
theorem q1369 : (Jvm.Cond.soleField "LeftAsFoundModel" "code") ∈ lw_all := lw_g (lw_at lw_m6 75 rfl) rfl
theorem q1370 : (Jvm.Cond.laysFinal "LeftAsFoundModel" "LeftAsFoundModel" "ought" "[I") ∈ lw_all := lw_g (lw_at lw_m6 76 rfl) rfl
theorem q1371 : (Jvm.Cond.soleField "LeftAsFoundModel" "ought") ∈ lw_all := lw_g (lw_at lw_m6 77 rfl) rfl
theorem q1372 : (Jvm.Cond.laysFinal "LeftAsFoundModel" "LeftAsFoundModel" "worth1" "[I") ∈ lw_all := lw_g (lw_at lw_m6 78 rfl) rfl
theorem q1373 : (Jvm.Cond.soleField "LeftAsFoundModel" "worth1") ∈ lw_all := lw_g (lw_at lw_m6 79 rfl) rfl
theorem q1374 : (Jvm.Cond.lays "LeftAsFoundModel" "LeftAsFoundModel" "guests" "I") ∈ lw_all := lw_g (lw_at lw_m6 80 rfl) rfl
theorem q1375 : (Jvm.Cond.soleField "LeftAsFoundModel" "guests") ∈ lw_all := lw_g (lw_at lw_m6 81 rfl) rfl
theorem q1376 : (Jvm.Cond.laysFinal "LeftAsFoundModel" "LeftAsFoundModel" "takes" "[I") ∈ lw_all := lw_g (lw_at lw_m6 82 rfl) rfl
theorem q1377 : (Jvm.Cond.soleField "LeftAsFoundModel" "takes") ∈ lw_all := lw_g (lw_at lw_m6 83 rfl) rfl
theorem q1378 : (Jvm.Cond.laysFinal "LeftAsFoundModel" "LeftAsFoundModel" "brings" "[I") ∈ lw_all := lw_g (lw_at lw_m6 84 rfl) rfl
theorem q1379 : (Jvm.Cond.soleField "LeftAsFoundModel" "brings") ∈ lw_all := lw_g (lw_at lw_m6 85 rfl) rfl
theorem q1380 : (Jvm.Cond.laysFinal "LeftAsFoundModel" "LeftAsFoundModel" "sees1" "[I") ∈ lw_all := lw_g (lw_at lw_m6 86 rfl) rfl
theorem q1381 : (Jvm.Cond.soleField "LeftAsFoundModel" "sees1") ∈ lw_all := lw_g (lw_at lw_m6 87 rfl) rfl
theorem q1382 : (Jvm.Cond.laysFinal "LeftAsFoundModel" "LeftAsFoundModel" "believes" "[I") ∈ lw_all := lw_g (lw_at lw_m6 88 rfl) rfl
theorem q1383 : (Jvm.Cond.soleField "LeftAsFoundModel" "believes") ∈ lw_all := lw_g (lw_at lw_m6 89 rfl) rfl
theorem q1384 : (Jvm.Cond.lays "LeftAsFoundModel" "LeftAsFoundModel" "rule" "I") ∈ lw_all := lw_g (lw_at lw_m6 90 rfl) rfl
theorem q1385 : (Jvm.Cond.soleField "LeftAsFoundModel" "rule") ∈ lw_all := lw_g (lw_at lw_m6 91 rfl) rfl
theorem q1386 : (Jvm.Cond.lays "LeftAsFoundModel" "LeftAsFoundModel" "price" "I") ∈ lw_all := lw_g (lw_at lw_m6 92 rfl) rfl
theorem q1387 : (Jvm.Cond.soleField "LeftAsFoundModel" "price") ∈ lw_all := lw_g (lw_at lw_m6 93 rfl) rfl
theorem q1388 : (Jvm.Cond.lays "LeftAsFoundModel" "LeftAsFoundModel" "honest" "I") ∈ lw_all := lw_g (lw_at lw_m6 94 rfl) rfl
theorem q1389 : (Jvm.Cond.soleField "LeftAsFoundModel" "honest") ∈ lw_all := lw_g (lw_at lw_m6 95 rfl) rfl
theorem q1390 : (Jvm.Cond.laysFinal "LeftAsFoundModel" "LeftAsFoundModel" "hut" "[I") ∈ lw_all := lw_g (lw_at lw_m6 96 rfl) rfl
theorem q1391 : (Jvm.Cond.soleField "LeftAsFoundModel" "hut") ∈ lw_all := lw_g (lw_at lw_m6 97 rfl) rfl
theorem q1392 : (Jvm.Cond.lays "LeftAsFoundModel" "LeftAsFoundModel" "doneMany" "I") ∈ lw_all := lw_g (lw_at lw_m6 98 rfl) rfl
theorem q1393 : (Jvm.Cond.soleField "LeftAsFoundModel" "doneMany") ∈ lw_all := lw_g (lw_at lw_m6 99 rfl) rfl
theorem q1394 : (Jvm.Cond.lays "LeftAsFoundModel" "LeftAsFoundModel" "undoneMany" "I") ∈ lw_all := lw_g (lw_at lw_m6 100 rfl) rfl
theorem q1395 : (Jvm.Cond.soleField "LeftAsFoundModel" "undoneMany") ∈ lw_all := lw_g (lw_at lw_m6 101 rfl) rfl
theorem q1396 : (Jvm.Cond.laysFinal "LeftAsFoundModel" "LeftAsFoundModel" "changeOf" "[I") ∈ lw_all := lw_g (lw_at lw_m6 102 rfl) rfl
theorem q1397 : (Jvm.Cond.soleField "LeftAsFoundModel" "changeOf") ∈ lw_all := lw_g (lw_at lw_m6 103 rfl) rfl
theorem q1398 : (Jvm.Cond.laysFinal "LeftAsFoundModel" "LeftAsFoundModel" "changeAt" "[I") ∈ lw_all := lw_g (lw_at lw_m6 104 rfl) rfl
theorem q1399 : (Jvm.Cond.soleField "LeftAsFoundModel" "changeAt") ∈ lw_all := lw_g (lw_at lw_m6 105 rfl) rfl
theorem q1400 : (Jvm.Cond.laysFinal "LeftAsFoundModel" "LeftAsFoundModel" "before" "[I") ∈ lw_all := lw_g (lw_at lw_m6 106 rfl) rfl
theorem q1401 : (Jvm.Cond.soleField "LeftAsFoundModel" "before") ∈ lw_all := lw_g (lw_at lw_m6 107 rfl) rfl
theorem q1402 : (Jvm.Cond.laysFinal "LeftAsFoundModel" "LeftAsFoundModel" "behind" "[I") ∈ lw_all := lw_g (lw_at lw_m6 108 rfl) rfl
theorem q1403 : (Jvm.Cond.soleField "LeftAsFoundModel" "behind") ∈ lw_all := lw_g (lw_at lw_m6 109 rfl) rfl
theorem q1404 : (Jvm.Cond.laysFinal "LeftAsFoundModel" "LeftAsFoundModel" "tape" "[B") ∈ lw_all := lw_g (lw_at lw_m6 110 rfl) rfl
theorem q1405 : (Jvm.Cond.soleField "LeftAsFoundModel" "tape") ∈ lw_all := lw_g (lw_at lw_m6 111 rfl) rfl
theorem q1406 : (Jvm.Cond.lays "LeftAsFoundModel" "LeftAsFoundModel" "taped" "I") ∈ lw_all := lw_g (lw_at lw_m6 112 rfl) rfl
theorem q1407 : (Jvm.Cond.soleField "LeftAsFoundModel" "taped") ∈ lw_all := lw_g (lw_at lw_m6 113 rfl) rfl
theorem q1408 : (Jvm.Cond.lays "LeftAsFoundModel" "LeftAsFoundModel" "here" "I") ∈ lw_all := lw_g (lw_at lw_m6 114 rfl) rfl
theorem q1409 : (Jvm.Cond.soleField "LeftAsFoundModel" "here") ∈ lw_all := lw_g (lw_at lw_m6 115 rfl) rfl
theorem q1410 : (Jvm.Cond.lays "LeftAsFoundModel" "LeftAsFoundModel" "fault" "I") ∈ lw_all := lw_g (lw_at lw_m6 116 rfl) rfl
theorem q1411 : (Jvm.Cond.soleField "LeftAsFoundModel" "fault") ∈ lw_all := lw_g (lw_at lw_m6 117 rfl) rfl
theorem q1412 : (Jvm.Cond.lays "LeftAsFoundModel" "LeftAsFoundModel" "open" "I") ∈ lw_all := lw_g (lw_at lw_m6 118 rfl) rfl
theorem q1413 : (Jvm.Cond.soleField "LeftAsFoundModel" "open") ∈ lw_all := lw_g (lw_at lw_m6 119 rfl) rfl
theorem q1414 : (Jvm.Cond.lays "LeftAsFoundModel" "LeftAsFoundModel" "laid" "I") ∈ lw_all := lw_g (lw_at lw_m6 120 rfl) rfl
theorem q1415 : (Jvm.Cond.soleField "LeftAsFoundModel" "laid") ∈ lw_all := lw_g (lw_at lw_m6 121 rfl) rfl
theorem q1416 : (Jvm.Cond.laysFinal "LeftAsFoundModel" "LeftAsFoundModel" "act" "[B") ∈ lw_all := lw_g (lw_at lw_m6 122 rfl) rfl
theorem q1417 : (Jvm.Cond.soleField "LeftAsFoundModel" "act") ∈ lw_all := lw_g (lw_at lw_m6 123 rfl) rfl
theorem q1418 : (Jvm.Cond.laysFinal "LeftAsFoundModel" "LeftAsFoundModel" "with" "[I") ∈ lw_all := lw_g (lw_at lw_m6 124 rfl) rfl
theorem q1419 : (Jvm.Cond.soleField "LeftAsFoundModel" "with") ∈ lw_all := lw_g (lw_at lw_m6 125 rfl) rfl
theorem q1420 : (Jvm.Cond.laysFinal "LeftAsFoundModel" "LeftAsFoundModel" "lineMany" "[I") ∈ lw_all := lw_g (lw_at lw_m6 126 rfl) rfl
theorem q1421 : (Jvm.Cond.soleField "LeftAsFoundModel" "lineMany") ∈ lw_all := lw_g (lw_at lw_m6 127 rfl) rfl
theorem q1422 : (Jvm.Cond.laysFinal "LeftAsFoundModel" "LeftAsFoundModel" "testEnd" "[S") ∈ lw_all := lw_g (lw_at lw_m6 128 rfl) rfl
theorem q1423 : (Jvm.Cond.soleField "LeftAsFoundModel" "testEnd") ∈ lw_all := lw_g (lw_at lw_m6 129 rfl) rfl
theorem q1424 : (Jvm.Cond.laysFinal "LeftAsFoundModel" "LeftAsFoundModel" "lineEnd" "[S") ∈ lw_all := lw_g (lw_at lw_m6 130 rfl) rfl
theorem q1425 : (Jvm.Cond.soleField "LeftAsFoundModel" "lineEnd") ∈ lw_all := lw_g (lw_at lw_m6 131 rfl) rfl
theorem q1426 : (Jvm.Cond.laysFinal "LeftAsFoundModel" "LeftAsFoundModel" "facts" "[I") ∈ lw_all := lw_g (lw_at lw_m6 132 rfl) rfl
theorem q1427 : (Jvm.Cond.soleField "LeftAsFoundModel" "facts") ∈ lw_all := lw_g (lw_at lw_m6 133 rfl) rfl
theorem q1428 : (Jvm.Cond.laysFinal "LeftAsFoundModel" "LeftAsFoundModel" "pile" "[I") ∈ lw_all := lw_g (lw_at lw_m6 134 rfl) rfl
theorem q1429 : (Jvm.Cond.soleField "LeftAsFoundModel" "pile") ∈ lw_all := lw_g (lw_at lw_m6 135 rfl) rfl
theorem q1430 : (Jvm.Cond.lays "LeftAsFoundModel" "LeftAsFoundModel" "hasLaw" "Z") ∈ lw_all := lw_g (lw_at lw_m6 136 rfl) rfl
theorem q1431 : (Jvm.Cond.soleField "LeftAsFoundModel" "hasLaw") ∈ lw_all := lw_g (lw_at lw_m6 137 rfl) rfl
theorem q1432 : (Jvm.Cond.laysFinal "LeftAsFoundModel" "LeftAsFoundModel" "then1" "[I") ∈ lw_all := lw_g (lw_at lw_m6 138 rfl) rfl
theorem q1433 : (Jvm.Cond.soleField "LeftAsFoundModel" "then1") ∈ lw_all := lw_g (lw_at lw_m6 139 rfl) rfl
theorem q1434 : (Jvm.Cond.laysFinal "LeftAsFoundModel" "LeftAsFoundModel" "oughts" "[I") ∈ lw_all := lw_g (lw_at lw_m6 140 rfl) rfl
theorem q1435 : (Jvm.Cond.soleField "LeftAsFoundModel" "oughts") ∈ lw_all := lw_g (lw_at lw_m6 141 rfl) rfl
theorem q1436 : (Jvm.Cond.laysFinal "LeftAsFoundModel" "LeftAsFoundModel" "keptHut" "[I") ∈ lw_all := lw_g (lw_at lw_m6 142 rfl) rfl
theorem q1437 : (Jvm.Cond.soleField "LeftAsFoundModel" "keptHut") ∈ lw_all := lw_g (lw_at lw_m6 143 rfl) rfl
theorem q1438 : (Jvm.Cond.laysFinal "LeftAsFoundModel" "LeftAsFoundModel" "stay" "[I") ∈ lw_all := lw_g (lw_at lw_m6 144 rfl) rfl
theorem q1439 : (Jvm.Cond.soleField "LeftAsFoundModel" "stay") ∈ lw_all := lw_g (lw_at lw_m6 145 rfl) rfl
theorem q1440 : (Jvm.Cond.lays "LeftAsFoundModel" "LeftAsFoundModel" "stays" "I") ∈ lw_all := lw_g (lw_at lw_m6 146 rfl) rfl
theorem q1441 : (Jvm.Cond.soleField "LeftAsFoundModel" "stays") ∈ lw_all := lw_g (lw_at lw_m6 147 rfl) rfl
theorem q1442 : (Jvm.Cond.laysFinal "LeftAsFoundModel" "LeftAsFoundModel" "hutsBehind" "[I") ∈ lw_all := lw_g (lw_at lw_m6 148 rfl) rfl
theorem q1443 : (Jvm.Cond.soleField "LeftAsFoundModel" "hutsBehind") ∈ lw_all := lw_g (lw_at lw_m6 149 rfl) rfl
theorem q1444 : (Jvm.Cond.laysFinal "LeftAsFoundModel" "LeftAsFoundModel" "toldStay" "[I") ∈ lw_all := lw_g (lw_at lw_m6 150 rfl) rfl
theorem q1445 : (Jvm.Cond.soleField "LeftAsFoundModel" "toldStay") ∈ lw_all := lw_g (lw_at lw_m6 151 rfl) rfl
theorem q1446 : (Jvm.Cond.laysFinal "LeftAsFoundModel" "LeftAsFoundModel" "places" "[I") ∈ lw_all := lw_g (lw_at lw_m6 152 rfl) rfl
theorem q1447 : (Jvm.Cond.soleField "LeftAsFoundModel" "places") ∈ lw_all := lw_g (lw_at lw_m6 153 rfl) rfl
theorem q1448 : (Jvm.Cond.laysFinal "LeftAsFoundModel" "LeftAsFoundModel" "bestPlaces" "[I") ∈ lw_all := lw_g (lw_at lw_m6 154 rfl) rfl
theorem q1449 : (Jvm.Cond.soleField "LeftAsFoundModel" "bestPlaces") ∈ lw_all := lw_g (lw_at lw_m6 155 rfl) rfl
theorem q1450 : (Jvm.Cond.lays "LeftAsFoundModel" "LeftAsFoundModel" "leastLoss" "I") ∈ lw_all := lw_g (lw_at lw_m6 156 rfl) rfl
theorem q1451 : (Jvm.Cond.soleField "LeftAsFoundModel" "leastLoss") ∈ lw_all := lw_g (lw_at lw_m6 157 rfl) rfl
theorem q1452 : (Jvm.Cond.laysFinal "LeftAsFoundModel" "LeftAsFoundModel" "lackedAhead" "[I") ∈ lw_all := lw_g (lw_at lw_m6 158 rfl) rfl
theorem q1453 : (Jvm.Cond.soleField "LeftAsFoundModel" "lackedAhead") ∈ lw_all := lw_g (lw_at lw_m6 159 rfl) rfl
theorem q1454 : (Jvm.Cond.laysFinal "LeftAsFoundModel" "LeftAsFoundModel" "seen" "[I") ∈ lw_all := lw_g (lw_at lw_m6 160 rfl) rfl
theorem q1455 : (Jvm.Cond.soleField "LeftAsFoundModel" "seen") ∈ lw_all := lw_g (lw_at lw_m6 161 rfl) rfl
theorem q1456 : (Jvm.Cond.lays "LeftAsFoundModel" "LeftAsFoundModel" "seenMany" "I") ∈ lw_all := lw_g (lw_at lw_m6 162 rfl) rfl
theorem q1457 : (Jvm.Cond.soleField "LeftAsFoundModel" "seenMany") ∈ lw_all := lw_g (lw_at lw_m6 163 rfl) rfl
theorem q1458 : (Jvm.Cond.laysFinal "LeftAsFoundModel" "LeftAsFoundModel" "hutAt" "[I") ∈ lw_all := lw_g (lw_at lw_m6 164 rfl) rfl
theorem q1459 : (Jvm.Cond.soleField "LeftAsFoundModel" "hutAt") ∈ lw_all := lw_g (lw_at lw_m6 165 rfl) rfl
theorem q1460 : (Jvm.Cond.lays "LeftAsFoundModel" "LeftAsFoundModel" "askedNight" "I") ∈ lw_all := lw_g (lw_at lw_m6 166 rfl) rfl
theorem q1461 : (Jvm.Cond.soleField "LeftAsFoundModel" "askedNight") ∈ lw_all := lw_g (lw_at lw_m6 167 rfl) rfl
theorem q1462 : (Jvm.Cond.lays "LeftAsFoundModel" "LeftAsFoundModel" "askedGuest" "I") ∈ lw_all := lw_g (lw_at lw_m6 168 rfl) rfl
theorem q1463 : (Jvm.Cond.soleField "LeftAsFoundModel" "askedGuest") ∈ lw_all := lw_g (lw_at lw_m6 169 rfl) rfl
theorem q1464 : (Jvm.Cond.laysFinal "LeftAsFoundModel" "LeftAsFoundModel" "deed" "[I") ∈ lw_all := lw_g (lw_at lw_m6 170 rfl) rfl
theorem q1465 : (Jvm.Cond.soleField "LeftAsFoundModel" "deed") ∈ lw_all := lw_g (lw_at lw_m6 171 rfl) rfl
theorem q1466 : (Jvm.Cond.lays "LeftAsFoundModel" "LeftAsFoundModel" "hasImage" "Z") ∈ lw_all := lw_g (lw_at lw_m6 172 rfl) rfl
theorem q1467 : (Jvm.Cond.soleField "LeftAsFoundModel" "hasImage") ∈ lw_all := lw_g (lw_at lw_m6 173 rfl) rfl
theorem q1468 : (Jvm.Cond.laysFinal "LeftAsFoundModel" "LeftAsFoundModel" "imageHut" "[I") ∈ lw_all := lw_g (lw_at lw_m6 174 rfl) rfl
theorem q1469 : (Jvm.Cond.soleField "LeftAsFoundModel" "imageHut") ∈ lw_all := lw_g (lw_at lw_m6 175 rfl) rfl
theorem q1470 : (Jvm.Cond.laysFinal "LeftAsFoundModel" "LeftAsFoundModel" "imageDeed" "[I") ∈ lw_all := lw_g (lw_at lw_m6 176 rfl) rfl
theorem q1471 : (Jvm.Cond.soleField "LeftAsFoundModel" "imageDeed") ∈ lw_all := lw_g (lw_at lw_m6 177 rfl) rfl
theorem q1472 : (Jvm.Cond.lays "LeftAsFoundModel" "LeftAsFoundModel" "bodies" "I") ∈ lw_all := lw_g (lw_at lw_m6 178 rfl) rfl
theorem q1473 : (Jvm.Cond.soleField "LeftAsFoundModel" "bodies") ∈ lw_all := lw_g (lw_at lw_m6 179 rfl) rfl
theorem q1474 : (Jvm.Cond.laysFinal "LeftAsFoundModel" "LeftAsFoundModel" "kind" "[I") ∈ lw_all := lw_g (lw_at lw_m6 180 rfl) rfl
theorem q1475 : (Jvm.Cond.soleField "LeftAsFoundModel" "kind") ∈ lw_all := lw_g (lw_at lw_m6 181 rfl) rfl
theorem q1476 : (Jvm.Cond.lays "LeftAsFoundModel" "LeftAsFoundModel" "traces" "I") ∈ lw_all := lw_g (lw_at lw_m6 182 rfl) rfl
theorem q1477 : (Jvm.Cond.soleField "LeftAsFoundModel" "traces") ∈ lw_all := lw_g (lw_at lw_m6 183 rfl) rfl
theorem q1478 : (Jvm.Cond.laysFinal "LeftAsFoundModel" "LeftAsFoundModel" "traced" "[I") ∈ lw_all := lw_g (lw_at lw_m6 184 rfl) rfl
theorem q1479 : (Jvm.Cond.soleField "LeftAsFoundModel" "traced") ∈ lw_all := lw_g (lw_at lw_m6 185 rfl) rfl
theorem q1480 : (Jvm.Cond.laysFinal "LeftAsFoundModel" "LeftAsFoundModel" "holds" "[I") ∈ lw_all := lw_g (lw_at lw_m6 186 rfl) rfl
theorem q1481 : (Jvm.Cond.soleField "LeftAsFoundModel" "holds") ∈ lw_all := lw_g (lw_at lw_m6 187 rfl) rfl
theorem q1482 : (Jvm.Cond.laysFinal "LeftAsFoundModel" "LeftAsFoundModel" "size" "[I") ∈ lw_all := lw_g (lw_at lw_m6 188 rfl) rfl
theorem q1483 : (Jvm.Cond.soleField "LeftAsFoundModel" "size") ∈ lw_all := lw_g (lw_at lw_m6 189 rfl) rfl
theorem q1484 : (Jvm.Cond.laysFinal "LeftAsFoundModel" "LeftAsFoundModel" "elements" "[J") ∈ lw_all := lw_g (lw_at lw_m6 190 rfl) rfl
theorem q1485 : (Jvm.Cond.soleField "LeftAsFoundModel" "elements") ∈ lw_all := lw_g (lw_at lw_m6 191 rfl) rfl
theorem q1486 : (Jvm.Cond.laysFinal "LeftAsFoundModel" "LeftAsFoundModel" "shifted" "[J") ∈ lw_all := lw_g (lw_at lw_m6 192 rfl) rfl
theorem q1487 : (Jvm.Cond.soleField "LeftAsFoundModel" "shifted") ∈ lw_all := lw_g (lw_at lw_m6 193 rfl) rfl
theorem q1488 : (Jvm.Cond.superclass "LeftAsFoundModel" "java/lang/Object") ∈ lw_all := lw_g (lw_at lw_m6 194 rfl) rfl
theorem q1490 : (Jvm.Cond.instanceMethod ({ cls := "LeftAsFoundModel", name := "guest", desc := "(II)I" } : Jvm.MethodName)) ∈ lw_all := lw_g (lw_at lw_m6 196 rfl) rfl
theorem q1491 : (Jvm.Cond.selects "LeftAsFoundModel" ({ cls := "LeftAsFoundModel", name := "guest", desc := "(II)I" } : Jvm.MethodName) ({ cls := "LeftAsFoundModel", name := "guest", desc := "(II)I" } : Jvm.MethodName)) ∈ lw_all := lw_g (lw_at lw_m6 197 rfl) rfl
theorem q1492 : (Jvm.Cond.code ({ cls := "LeftAsFoundModel", name := "guest", desc := "(II)I" } : Jvm.MethodName) prog_25_method_8_code (3 : Nat) (Option.some Jvm.ClassFile.FieldType.int)) ∈ lw_all := lw_g (lw_at lw_m6 198 rfl) rfl
theorem q1493 : (Jvm.Cond.methodLink "LeftAsFoundModel" (145 : Nat) ({ cls := "LeftAsFoundModel", name := "in", desc := "(III)Z" } : Jvm.MethodName)) ∈ lw_all := lw_g (lw_at lw_m6 199 rfl) rfl
theorem q1494 : (Jvm.Cond.static ({ cls := "LeftAsFoundModel", name := "in", desc := "(III)Z" } : Jvm.MethodName)) ∈ lw_all := lw_g (lw_at lw_m6 200 rfl) rfl
theorem q1495 : (Jvm.Cond.code ({ cls := "LeftAsFoundModel", name := "in", desc := "(III)Z" } : Jvm.MethodName) prog_25_method_3_code (3 : Nat) (Option.some Jvm.ClassFile.FieldType.boolean)) ∈ lw_all := lw_g (lw_at lw_m6 201 rfl) rfl
theorem q1496 : (Jvm.Cond.methodLink "LeftAsFoundModel" (159 : Nat) ({ cls := "LeftAsFoundModel", name := "addGuest", desc := "(III)I" } : Jvm.MethodName)) ∈ lw_all := lw_g (lw_at lw_m6 202 rfl) rfl
theorem q1497 : (Jvm.Cond.privateMethod ({ cls := "LeftAsFoundModel", name := "addGuest", desc := "(III)I" } : Jvm.MethodName)) ∈ lw_tbl := lw_at lw_m6 203 rfl
theorem q1498 : (Jvm.Cond.instanceMethod ({ cls := "LeftAsFoundModel", name := "addGuest", desc := "(III)I" } : Jvm.MethodName)) ∈ lw_all := lw_g (lw_at lw_m6 204 rfl) rfl
theorem q1499 : (Jvm.Cond.code ({ cls := "LeftAsFoundModel", name := "addGuest", desc := "(III)I" } : Jvm.MethodName) prog_25_method_7_code (5 : Nat) (Option.some Jvm.ClassFile.FieldType.int)) ∈ lw_all := lw_g (lw_at lw_m6 205 rfl) rfl
theorem q1501 : (Jvm.Cond.instanceMethod ({ cls := "LeftAsFoundModel", name := "guests", desc := "(III)I" } : Jvm.MethodName)) ∈ lw_all := lw_g (lw_at lw_m6 207 rfl) rfl
theorem q1502 : (Jvm.Cond.selects "LeftAsFoundModel" ({ cls := "LeftAsFoundModel", name := "guests", desc := "(III)I" } : Jvm.MethodName) ({ cls := "LeftAsFoundModel", name := "guests", desc := "(III)I" } : Jvm.MethodName)) ∈ lw_all := lw_g (lw_at lw_m6 208 rfl) rfl
theorem q1503 : (Jvm.Cond.code ({ cls := "LeftAsFoundModel", name := "guests", desc := "(III)I" } : Jvm.MethodName) prog_25_method_9_code (8 : Nat) (Option.some Jvm.ClassFile.FieldType.int)) ∈ lw_all := lw_g (lw_at lw_m6 209 rfl) rfl
theorem q1504 : (Jvm.Cond.methodLink "LeftAsFoundModel" (163 : Nat) ({ cls := "LeftAsFoundModel", name := "isShelf", desc := "(I)Z" } : Jvm.MethodName)) ∈ lw_all := lw_g (lw_at lw_m6 210 rfl) rfl
theorem q1505 : (Jvm.Cond.static ({ cls := "LeftAsFoundModel", name := "isShelf", desc := "(I)Z" } : Jvm.MethodName)) ∈ lw_all := lw_g (lw_at lw_m6 211 rfl) rfl
theorem q1506 : (Jvm.Cond.code ({ cls := "LeftAsFoundModel", name := "isShelf", desc := "(I)Z" } : Jvm.MethodName) prog_25_method_100_code (1 : Nat) (Option.some Jvm.ClassFile.FieldType.boolean)) ∈ lw_all := lw_g (lw_at lw_m6 212 rfl) rfl
theorem q1507 : (Jvm.Cond.constantLong "LeftAsFoundModel" (166 : Nat) (2 : Int64)) ∈ lw_all := lw_g (lw_at lw_m6 213 rfl) rfl
theorem q1509 : (Jvm.Cond.instanceMethod ({ cls := "LeftAsFoundModel", name := "undo", desc := "()I" } : Jvm.MethodName)) ∈ lw_all := lw_g (lw_at lw_m6 215 rfl) rfl
theorem q1510 : (Jvm.Cond.selects "LeftAsFoundModel" ({ cls := "LeftAsFoundModel", name := "undo", desc := "()I" } : Jvm.MethodName) ({ cls := "LeftAsFoundModel", name := "undo", desc := "()I" } : Jvm.MethodName)) ∈ lw_all := lw_g (lw_at lw_m6 216 rfl) rfl
theorem q1511 : (Jvm.Cond.code ({ cls := "LeftAsFoundModel", name := "undo", desc := "()I" } : Jvm.MethodName) prog_25_method_14_code (1 : Nat) (Option.some Jvm.ClassFile.FieldType.int)) ∈ lw_all := lw_g (lw_at lw_m6 217 rfl) rfl
theorem q1512 : (Jvm.Cond.methodLink "LeftAsFoundModel" (182 : Nat) ({ cls := "LeftAsFoundModel", name := "lays", desc := "(III)V" } : Jvm.MethodName)) ∈ lw_all := lw_g (lw_at lw_m6 218 rfl) rfl
theorem q1513 : (Jvm.Cond.privateMethod ({ cls := "LeftAsFoundModel", name := "lays", desc := "(III)V" } : Jvm.MethodName)) ∈ lw_tbl := lw_at lw_m6 219 rfl
theorem q1514 : (Jvm.Cond.instanceMethod ({ cls := "LeftAsFoundModel", name := "lays", desc := "(III)V" } : Jvm.MethodName)) ∈ lw_all := lw_g (lw_at lw_m6 220 rfl) rfl
theorem q1515 : (Jvm.Cond.code ({ cls := "LeftAsFoundModel", name := "lays", desc := "(III)V" } : Jvm.MethodName) prog_25_method_12_code (4 : Nat) (Option.none : Option Jvm.ClassFile.FieldType)) ∈ lw_all := lw_g (lw_at lw_m6 221 rfl) rfl
theorem q1516 : (Jvm.Cond.methodLink "LeftAsFoundModel" (168 : Nat) ({ cls := "LeftAsFoundModel", name := "spotAt", desc := "(I)I" } : Jvm.MethodName)) ∈ lw_all := lw_g (lw_at lw_m6 222 rfl) rfl
theorem q1517 : (Jvm.Cond.static ({ cls := "LeftAsFoundModel", name := "spotAt", desc := "(I)I" } : Jvm.MethodName)) ∈ lw_all := lw_g (lw_at lw_m6 223 rfl) rfl
theorem q1518 : (Jvm.Cond.code ({ cls := "LeftAsFoundModel", name := "spotAt", desc := "(I)I" } : Jvm.MethodName) prog_25_method_10_code (1 : Nat) (Option.some Jvm.ClassFile.FieldType.int)) ∈ lw_all := lw_g (lw_at lw_m6 224 rfl) rfl
theorem q1520 : (Jvm.Cond.instanceMethod ({ cls := "LeftAsFoundModel", name := "redo", desc := "()I" } : Jvm.MethodName)) ∈ lw_all := lw_g (lw_at lw_m6 226 rfl) rfl
theorem q1521 : (Jvm.Cond.selects "LeftAsFoundModel" ({ cls := "LeftAsFoundModel", name := "redo", desc := "()I" } : Jvm.MethodName) ({ cls := "LeftAsFoundModel", name := "redo", desc := "()I" } : Jvm.MethodName)) ∈ lw_all := lw_g (lw_at lw_m6 227 rfl) rfl
theorem q1522 : (Jvm.Cond.code ({ cls := "LeftAsFoundModel", name := "redo", desc := "()I" } : Jvm.MethodName) prog_25_method_15_code (1 : Nat) (Option.some Jvm.ClassFile.FieldType.int)) ∈ lw_all := lw_g (lw_at lw_m6 228 rfl) rfl
theorem q1524 : (Jvm.Cond.instanceMethod ({ cls := "LeftAsFoundModel", name := "mend", desc := "(III)I" } : Jvm.MethodName)) ∈ lw_all := lw_g (lw_at lw_m6 230 rfl) rfl
theorem q1525 : (Jvm.Cond.selects "LeftAsFoundModel" ({ cls := "LeftAsFoundModel", name := "mend", desc := "(III)I" } : Jvm.MethodName) ({ cls := "LeftAsFoundModel", name := "mend", desc := "(III)I" } : Jvm.MethodName)) ∈ lw_all := lw_g (lw_at lw_m6 231 rfl) rfl
theorem q1526 : (Jvm.Cond.code ({ cls := "LeftAsFoundModel", name := "mend", desc := "(III)I" } : Jvm.MethodName) prog_25_method_18_code (4 : Nat) (Option.some Jvm.ClassFile.FieldType.int)) ∈ lw_all := lw_g (lw_at lw_m6 232 rfl) rfl
theorem q1527 : (Jvm.Cond.methodLink "LeftAsFoundModel" (189 : Nat) ({ cls := "LeftAsFoundModel", name := "isOne", desc := "(II)Z" } : Jvm.MethodName)) ∈ lw_all := lw_g (lw_at lw_m6 233 rfl) rfl
theorem q1528 : (Jvm.Cond.privateMethod ({ cls := "LeftAsFoundModel", name := "isOne", desc := "(II)Z" } : Jvm.MethodName)) ∈ lw_tbl := lw_at lw_m6 234 rfl
theorem q1529 : (Jvm.Cond.instanceMethod ({ cls := "LeftAsFoundModel", name := "isOne", desc := "(II)Z" } : Jvm.MethodName)) ∈ lw_all := lw_g (lw_at lw_m6 235 rfl) rfl
theorem q1530 : (Jvm.Cond.code ({ cls := "LeftAsFoundModel", name := "isOne", desc := "(II)Z" } : Jvm.MethodName) prog_25_method_16_code (3 : Nat) (Option.some Jvm.ClassFile.FieldType.boolean)) ∈ lw_all := lw_g (lw_at lw_m6 236 rfl) rfl
theorem q1531 : (Jvm.Cond.methodLink "LeftAsFoundModel" (156 : Nat) ({ cls := "LeftAsFoundModel", name := "isThing", desc := "(I)Z" } : Jvm.MethodName)) ∈ lw_all := lw_g (lw_at lw_m6 237 rfl) rfl
theorem q1532 : (Jvm.Cond.static ({ cls := "LeftAsFoundModel", name := "isThing", desc := "(I)Z" } : Jvm.MethodName)) ∈ lw_all := lw_g (lw_at lw_m6 238 rfl) rfl
theorem q1533 : (Jvm.Cond.code ({ cls := "LeftAsFoundModel", name := "isThing", desc := "(I)Z" } : Jvm.MethodName) prog_25_method_4_code (1 : Nat) (Option.some Jvm.ClassFile.FieldType.boolean)) ∈ lw_all := lw_g (lw_at lw_m6 239 rfl) rfl
theorem q1534 : (Jvm.Cond.methodLink "LeftAsFoundModel" (186 : Nat) ({ cls := "LeftAsFoundModel", name := "areTwo", desc := "(I)Z" } : Jvm.MethodName)) ∈ lw_all := lw_g (lw_at lw_m7 0 rfl) rfl
theorem q1535 : (Jvm.Cond.privateMethod ({ cls := "LeftAsFoundModel", name := "areTwo", desc := "(I)Z" } : Jvm.MethodName)) ∈ lw_tbl := lw_at lw_m7 1 rfl
theorem q1536 : (Jvm.Cond.instanceMethod ({ cls := "LeftAsFoundModel", name := "areTwo", desc := "(I)Z" } : Jvm.MethodName)) ∈ lw_all := lw_g (lw_at lw_m7 2 rfl) rfl
theorem q1537 : (Jvm.Cond.code ({ cls := "LeftAsFoundModel", name := "areTwo", desc := "(I)Z" } : Jvm.MethodName) prog_25_method_6_code (2 : Nat) (Option.some Jvm.ClassFile.FieldType.boolean)) ∈ lw_all := lw_g (lw_at lw_m7 3 rfl) rfl
theorem q1538 : (Jvm.Cond.methodLink "LeftAsFoundModel" (152 : Nat) ({ cls := "LeftAsFoundModel", name := "isGuest", desc := "(I)Z" } : Jvm.MethodName)) ∈ lw_all := lw_g (lw_at lw_m7 4 rfl) rfl
theorem q1539 : (Jvm.Cond.privateMethod ({ cls := "LeftAsFoundModel", name := "isGuest", desc := "(I)Z" } : Jvm.MethodName)) ∈ lw_tbl := lw_at lw_m7 5 rfl
theorem q1540 : (Jvm.Cond.instanceMethod ({ cls := "LeftAsFoundModel", name := "isGuest", desc := "(I)Z" } : Jvm.MethodName)) ∈ lw_all := lw_g (lw_at lw_m7 6 rfl) rfl
theorem q1541 : (Jvm.Cond.code ({ cls := "LeftAsFoundModel", name := "isGuest", desc := "(I)Z" } : Jvm.MethodName) prog_25_method_5_code (2 : Nat) (Option.some Jvm.ClassFile.FieldType.boolean)) ∈ lw_all := lw_g (lw_at lw_m7 7 rfl) rfl
theorem q1542 : (Jvm.Cond.methodLink "LeftAsFoundModel" (193 : Nat) ({ cls := "LeftAsFoundModel", name := "mayBe", desc := "(II)Z" } : Jvm.MethodName)) ∈ lw_all := lw_g (lw_at lw_m7 8 rfl) rfl
theorem q1543 : (Jvm.Cond.static ({ cls := "LeftAsFoundModel", name := "mayBe", desc := "(II)Z" } : Jvm.MethodName)) ∈ lw_all := lw_g (lw_at lw_m7 9 rfl) rfl
theorem q1544 : (Jvm.Cond.code ({ cls := "LeftAsFoundModel", name := "mayBe", desc := "(II)Z" } : Jvm.MethodName) prog_25_method_17_code (2 : Nat) (Option.some Jvm.ClassFile.FieldType.boolean)) ∈ lw_all := lw_g (lw_at lw_m7 10 rfl) rfl
theorem q1545 : (Jvm.Cond.methodLink "LeftAsFoundModel" (196 : Nat) ({ cls := "LeftAsFoundModel", name := "changes", desc := "(III)I" } : Jvm.MethodName)) ∈ lw_all := lw_g (lw_at lw_m7 11 rfl) rfl
theorem q1546 : (Jvm.Cond.privateMethod ({ cls := "LeftAsFoundModel", name := "changes", desc := "(III)I" } : Jvm.MethodName)) ∈ lw_tbl := lw_at lw_m7 12 rfl
theorem q1547 : (Jvm.Cond.instanceMethod ({ cls := "LeftAsFoundModel", name := "changes", desc := "(III)I" } : Jvm.MethodName)) ∈ lw_all := lw_g (lw_at lw_m7 13 rfl) rfl
theorem q1548 : (Jvm.Cond.code ({ cls := "LeftAsFoundModel", name := "changes", desc := "(III)I" } : Jvm.MethodName) prog_25_method_13_code (6 : Nat) (Option.some Jvm.ClassFile.FieldType.int)) ∈ lw_all := lw_g (lw_at lw_m7 14 rfl) rfl
theorem q1549 : (Jvm.Cond.methodLink "LeftAsFoundModel" (172 : Nat) ({ cls := "LeftAsFoundModel", name := "valueAt", desc := "(II)I" } : Jvm.MethodName)) ∈ lw_all := lw_g (lw_at lw_m7 15 rfl) rfl
theorem q1550 : (Jvm.Cond.privateMethod ({ cls := "LeftAsFoundModel", name := "valueAt", desc := "(II)I" } : Jvm.MethodName)) ∈ lw_tbl := lw_at lw_m7 16 rfl
theorem q1551 : (Jvm.Cond.instanceMethod ({ cls := "LeftAsFoundModel", name := "valueAt", desc := "(II)I" } : Jvm.MethodName)) ∈ lw_all := lw_g (lw_at lw_m7 17 rfl) rfl
theorem q1552 : (Jvm.Cond.code ({ cls := "LeftAsFoundModel", name := "valueAt", desc := "(II)I" } : Jvm.MethodName) prog_25_method_11_code (3 : Nat) (Option.some Jvm.ClassFile.FieldType.int)) ∈ lw_all := lw_g (lw_at lw_m7 18 rfl) rfl
theorem q1554 : (Jvm.Cond.instanceMethod ({ cls := "LeftAsFoundModel", name := "of", desc := "(II)I" } : Jvm.MethodName)) ∈ lw_all := lw_g (lw_at lw_m7 20 rfl) rfl
theorem q1555 : (Jvm.Cond.selects "LeftAsFoundModel" ({ cls := "LeftAsFoundModel", name := "of", desc := "(II)I" } : Jvm.MethodName) ({ cls := "LeftAsFoundModel", name := "of", desc := "(II)I" } : Jvm.MethodName)) ∈ lw_all := lw_g (lw_at lw_m7 21 rfl) rfl
theorem q1556 : (Jvm.Cond.code ({ cls := "LeftAsFoundModel", name := "of", desc := "(II)I" } : Jvm.MethodName) prog_25_method_19_code (3 : Nat) (Option.some Jvm.ClassFile.FieldType.int)) ∈ lw_all := lw_g (lw_at lw_m7 22 rfl) rfl
theorem q1558 : (Jvm.Cond.instanceMethod ({ cls := "LeftAsFoundModel", name := "feed", desc := "(I)I" } : Jvm.MethodName)) ∈ lw_all := lw_g (lw_at lw_m7 24 rfl) rfl
theorem q1559 : (Jvm.Cond.selects "LeftAsFoundModel" ({ cls := "LeftAsFoundModel", name := "feed", desc := "(I)I" } : Jvm.MethodName) ({ cls := "LeftAsFoundModel", name := "feed", desc := "(I)I" } : Jvm.MethodName)) ∈ lw_all := lw_g (lw_at lw_m7 25 rfl) rfl
theorem q1560 : (Jvm.Cond.code ({ cls := "LeftAsFoundModel", name := "feed", desc := "(I)I" } : Jvm.MethodName) prog_25_method_20_code (2 : Nat) (Option.some Jvm.ClassFile.FieldType.int)) ∈ lw_all := lw_g (lw_at lw_m7 26 rfl) rfl
theorem q1562 : (Jvm.Cond.instanceMethod ({ cls := "LeftAsFoundModel", name := "law", desc := "()I" } : Jvm.MethodName)) ∈ lw_all := lw_g (lw_at lw_m7 28 rfl) rfl
theorem q1563 : (Jvm.Cond.selects "LeftAsFoundModel" ({ cls := "LeftAsFoundModel", name := "law", desc := "()I" } : Jvm.MethodName) ({ cls := "LeftAsFoundModel", name := "law", desc := "()I" } : Jvm.MethodName)) ∈ lw_all := lw_g (lw_at lw_m7 29 rfl) rfl
theorem q1564 : (Jvm.Cond.code ({ cls := "LeftAsFoundModel", name := "law", desc := "()I" } : Jvm.MethodName) prog_25_method_38_code (2 : Nat) (Option.some Jvm.ClassFile.FieldType.int)) ∈ lw_all := lw_g (lw_at lw_m7 30 rfl) rfl
theorem q1565 : (Jvm.Cond.methodLink "LeftAsFoundModel" (262 : Nat) ({ cls := "LeftAsFoundModel", name := "readText", desc := "(I)I" } : Jvm.MethodName)) ∈ lw_all := lw_g (lw_at lw_m7 31 rfl) rfl
theorem q1566 : (Jvm.Cond.privateMethod ({ cls := "LeftAsFoundModel", name := "readText", desc := "(I)I" } : Jvm.MethodName)) ∈ lw_tbl := lw_at lw_m7 32 rfl
theorem q1567 : (Jvm.Cond.instanceMethod ({ cls := "LeftAsFoundModel", name := "readText", desc := "(I)I" } : Jvm.MethodName)) ∈ lw_all := lw_g (lw_at lw_m7 33 rfl) rfl
theorem q1568 : (Jvm.Cond.code ({ cls := "LeftAsFoundModel", name := "readText", desc := "(I)I" } : Jvm.MethodName) prog_25_method_34_code (3 : Nat) (Option.some Jvm.ClassFile.FieldType.int)) ∈ lw_all := lw_g (lw_at lw_m7 34 rfl) rfl
theorem q1569 : (Jvm.Cond.methodLink "LeftAsFoundModel" (253 : Nat) ({ cls := "LeftAsFoundModel", name := "line", desc := "()V" } : Jvm.MethodName)) ∈ lw_all := lw_g (lw_at lw_m7 35 rfl) rfl
theorem q1570 : (Jvm.Cond.privateMethod ({ cls := "LeftAsFoundModel", name := "line", desc := "()V" } : Jvm.MethodName)) ∈ lw_tbl := lw_at lw_m7 36 rfl
theorem q1571 : (Jvm.Cond.instanceMethod ({ cls := "LeftAsFoundModel", name := "line", desc := "()V" } : Jvm.MethodName)) ∈ lw_all := lw_g (lw_at lw_m7 37 rfl) rfl
theorem q1572 : (Jvm.Cond.code ({ cls := "LeftAsFoundModel", name := "line", desc := "()V" } : Jvm.MethodName) prog_25_method_33_code (2 : Nat) (Option.none : Option Jvm.ClassFile.FieldType)) ∈ lw_all := lw_g (lw_at lw_m7 38 rfl) rfl
theorem q1573 : (Jvm.Cond.methodLink "LeftAsFoundModel" (235 : Nat) ({ cls := "LeftAsFoundModel", name := "either", desc := "()V" } : Jvm.MethodName)) ∈ lw_all := lw_g (lw_at lw_m7 39 rfl) rfl
theorem q1574 : (Jvm.Cond.privateMethod ({ cls := "LeftAsFoundModel", name := "either", desc := "()V" } : Jvm.MethodName)) ∈ lw_tbl := lw_at lw_m7 40 rfl
theorem q1575 : (Jvm.Cond.instanceMethod ({ cls := "LeftAsFoundModel", name := "either", desc := "()V" } : Jvm.MethodName)) ∈ lw_all := lw_g (lw_at lw_m7 41 rfl) rfl
theorem q1576 : (Jvm.Cond.code ({ cls := "LeftAsFoundModel", name := "either", desc := "()V" } : Jvm.MethodName) prog_25_method_32_code (1 : Nat) (Option.none : Option Jvm.ClassFile.FieldType)) ∈ lw_all := lw_g (lw_at lw_m7 42 rfl) rfl
theorem q1577 : (Jvm.Cond.methodLink "LeftAsFoundModel" (250 : Nat) ({ cls := "LeftAsFoundModel", name := "both", desc := "()V" } : Jvm.MethodName)) ∈ lw_all := lw_g (lw_at lw_m7 43 rfl) rfl
theorem q1578 : (Jvm.Cond.privateMethod ({ cls := "LeftAsFoundModel", name := "both", desc := "()V" } : Jvm.MethodName)) ∈ lw_tbl := lw_at lw_m7 44 rfl
theorem q1579 : (Jvm.Cond.instanceMethod ({ cls := "LeftAsFoundModel", name := "both", desc := "()V" } : Jvm.MethodName)) ∈ lw_all := lw_g (lw_at lw_m7 45 rfl) rfl
theorem q1580 : (Jvm.Cond.code ({ cls := "LeftAsFoundModel", name := "both", desc := "()V" } : Jvm.MethodName) prog_25_method_31_code (1 : Nat) (Option.none : Option Jvm.ClassFile.FieldType)) ∈ lw_all := lw_g (lw_at lw_m7 46 rfl) rfl
theorem q1581 : (Jvm.Cond.methodLink "LeftAsFoundModel" (247 : Nat) ({ cls := "LeftAsFoundModel", name := "compared", desc := "()V" } : Jvm.MethodName)) ∈ lw_all := lw_g (lw_at lw_m7 47 rfl) rfl
theorem q1582 : (Jvm.Cond.privateMethod ({ cls := "LeftAsFoundModel", name := "compared", desc := "()V" } : Jvm.MethodName)) ∈ lw_tbl := lw_at lw_m7 48 rfl
theorem q1583 : (Jvm.Cond.instanceMethod ({ cls := "LeftAsFoundModel", name := "compared", desc := "()V" } : Jvm.MethodName)) ∈ lw_all := lw_g (lw_at lw_m7 49 rfl) rfl
theorem q1584 : (Jvm.Cond.code ({ cls := "LeftAsFoundModel", name := "compared", desc := "()V" } : Jvm.MethodName) prog_25_method_30_code (2 : Nat) (Option.none : Option Jvm.ClassFile.FieldType)) ∈ lw_all := lw_g (lw_at lw_m7 50 rfl) rfl
theorem q1585 : (Jvm.Cond.methodLink "LeftAsFoundModel" (244 : Nat) ({ cls := "LeftAsFoundModel", name := "sum", desc := "()V" } : Jvm.MethodName)) ∈ lw_all := lw_g (lw_at lw_m7 51 rfl) rfl
theorem q1586 : (Jvm.Cond.privateMethod ({ cls := "LeftAsFoundModel", name := "sum", desc := "()V" } : Jvm.MethodName)) ∈ lw_tbl := lw_at lw_m7 52 rfl
theorem q1587 : (Jvm.Cond.instanceMethod ({ cls := "LeftAsFoundModel", name := "sum", desc := "()V" } : Jvm.MethodName)) ∈ lw_all := lw_g (lw_at lw_m7 53 rfl) rfl
theorem q1588 : (Jvm.Cond.code ({ cls := "LeftAsFoundModel", name := "sum", desc := "()V" } : Jvm.MethodName) prog_25_method_29_code (2 : Nat) (Option.none : Option Jvm.ClassFile.FieldType)) ∈ lw_all := lw_g (lw_at lw_m7 54 rfl) rfl
theorem q1589 : (Jvm.Cond.methodLink "LeftAsFoundModel" (241 : Nat) ({ cls := "LeftAsFoundModel", name := "product", desc := "()V" } : Jvm.MethodName)) ∈ lw_all := lw_g (lw_at lw_m7 55 rfl) rfl
theorem q1590 : (Jvm.Cond.privateMethod ({ cls := "LeftAsFoundModel", name := "product", desc := "()V" } : Jvm.MethodName)) ∈ lw_tbl := lw_at lw_m7 56 rfl
theorem q1591 : (Jvm.Cond.instanceMethod ({ cls := "LeftAsFoundModel", name := "product", desc := "()V" } : Jvm.MethodName)) ∈ lw_all := lw_g (lw_at lw_m7 57 rfl) rfl
theorem q1592 : (Jvm.Cond.code ({ cls := "LeftAsFoundModel", name := "product", desc := "()V" } : Jvm.MethodName) prog_25_method_28_code (2 : Nat) (Option.none : Option Jvm.ClassFile.FieldType)) ∈ lw_all := lw_g (lw_at lw_m7 58 rfl) rfl
theorem q1593 : (Jvm.Cond.methodLink "LeftAsFoundModel" (232 : Nat) ({ cls := "LeftAsFoundModel", name := "operand", desc := "()V" } : Jvm.MethodName)) ∈ lw_all := lw_g (lw_at lw_m7 59 rfl) rfl
theorem q1594 : (Jvm.Cond.privateMethod ({ cls := "LeftAsFoundModel", name := "operand", desc := "()V" } : Jvm.MethodName)) ∈ lw_tbl := lw_at lw_m7 60 rfl
theorem q1595 : (Jvm.Cond.instanceMethod ({ cls := "LeftAsFoundModel", name := "operand", desc := "()V" } : Jvm.MethodName)) ∈ lw_all := lw_g (lw_at lw_m7 61 rfl) rfl
theorem q1596 : (Jvm.Cond.code ({ cls := "LeftAsFoundModel", name := "operand", desc := "()V" } : Jvm.MethodName) prog_25_method_27_code (2 : Nat) (Option.none : Option Jvm.ClassFile.FieldType)) ∈ lw_all := lw_g (lw_at lw_m7 62 rfl) rfl
theorem q1597 : (Jvm.Cond.methodLink "LeftAsFoundModel" (217 : Nat) ({ cls := "LeftAsFoundModel", name := "look", desc := "()I" } : Jvm.MethodName)) ∈ lw_all := lw_g (lw_at lw_m7 63 rfl) rfl
theorem q1598 : (Jvm.Cond.privateMethod ({ cls := "LeftAsFoundModel", name := "look", desc := "()I" } : Jvm.MethodName)) ∈ lw_tbl := lw_at lw_m7 64 rfl
theorem q1599 : (Jvm.Cond.instanceMethod ({ cls := "LeftAsFoundModel", name := "look", desc := "()I" } : Jvm.MethodName)) ∈ lw_all := lw_g (lw_at lw_m7 65 rfl) rfl
theorem q1600 : (Jvm.Cond.code ({ cls := "LeftAsFoundModel", name := "look", desc := "()I" } : Jvm.MethodName) prog_25_method_21_code (1 : Nat) (Option.some Jvm.ClassFile.FieldType.int)) ∈ lw_all := lw_g (lw_at lw_m7 66 rfl) rfl
theorem q1601 : (Jvm.Cond.methodLink "LeftAsFoundModel" (225 : Nat) ({ cls := "LeftAsFoundModel", name := "nameOf", desc := "(I)I" } : Jvm.MethodName)) ∈ lw_all := lw_g (lw_at lw_m7 67 rfl) rfl
theorem q1602 : (Jvm.Cond.static ({ cls := "LeftAsFoundModel", name := "nameOf", desc := "(I)I" } : Jvm.MethodName)) ∈ lw_all := lw_g (lw_at lw_m7 68 rfl) rfl
theorem q1603 : (Jvm.Cond.code ({ cls := "LeftAsFoundModel", name := "nameOf", desc := "(I)I" } : Jvm.MethodName) prog_25_method_24_code (1 : Nat) (Option.some Jvm.ClassFile.FieldType.int)) ∈ lw_all := lw_g (lw_at lw_m7 69 rfl) rfl
theorem q1604 : (Jvm.Cond.methodLink "LeftAsFoundModel" (221 : Nat) ({ cls := "LeftAsFoundModel", name := "addStep", desc := "(II)V" } : Jvm.MethodName)) ∈ lw_all := lw_g (lw_at lw_m7 70 rfl) rfl
theorem q1605 : (Jvm.Cond.privateMethod ({ cls := "LeftAsFoundModel", name := "addStep", desc := "(II)V" } : Jvm.MethodName)) ∈ lw_tbl := lw_at lw_m7 71 rfl
theorem q1606 : (Jvm.Cond.instanceMethod ({ cls := "LeftAsFoundModel", name := "addStep", desc := "(II)V" } : Jvm.MethodName)) ∈ lw_all := lw_g (lw_at lw_m7 72 rfl) rfl
theorem q1607 : (Jvm.Cond.code ({ cls := "LeftAsFoundModel", name := "addStep", desc := "(II)V" } : Jvm.MethodName) prog_25_method_23_code (3 : Nat) (Option.none : Option Jvm.ClassFile.FieldType)) ∈ lw_all := lw_g (lw_at lw_m7 73 rfl) rfl
theorem q1608 : (Jvm.Cond.methodLink "LeftAsFoundModel" (228 : Nat) ({ cls := "LeftAsFoundModel", name := "opens", desc := "()Z" } : Jvm.MethodName)) ∈ lw_all := lw_g (lw_at lw_m7 74 rfl) rfl
theorem q1609 : (Jvm.Cond.privateMethod ({ cls := "LeftAsFoundModel", name := "opens", desc := "()Z" } : Jvm.MethodName)) ∈ lw_tbl := lw_at lw_m7 75 rfl
theorem q1610 : (Jvm.Cond.instanceMethod ({ cls := "LeftAsFoundModel", name := "opens", desc := "()Z" } : Jvm.MethodName)) ∈ lw_all := lw_g (lw_at lw_m7 76 rfl) rfl
theorem q1611 : (Jvm.Cond.code ({ cls := "LeftAsFoundModel", name := "opens", desc := "()Z" } : Jvm.MethodName) prog_25_method_25_code (1 : Nat) (Option.some Jvm.ClassFile.FieldType.boolean)) ∈ lw_all := lw_g (lw_at lw_m7 77 rfl) rfl
theorem q1612 : (Jvm.Cond.methodLink "LeftAsFoundModel" (214 : Nat) ({ cls := "LeftAsFoundModel", name := "faulty", desc := "()V" } : Jvm.MethodName)) ∈ lw_all := lw_g (lw_at lw_m7 78 rfl) rfl
theorem q1613 : (Jvm.Cond.privateMethod ({ cls := "LeftAsFoundModel", name := "faulty", desc := "()V" } : Jvm.MethodName)) ∈ lw_tbl := lw_at lw_m7 79 rfl
theorem q1614 : (Jvm.Cond.instanceMethod ({ cls := "LeftAsFoundModel", name := "faulty", desc := "()V" } : Jvm.MethodName)) ∈ lw_all := lw_g (lw_at lw_m7 80 rfl) rfl
theorem q1615 : (Jvm.Cond.code ({ cls := "LeftAsFoundModel", name := "faulty", desc := "()V" } : Jvm.MethodName) prog_25_method_22_code (1 : Nat) (Option.none : Option Jvm.ClassFile.FieldType)) ∈ lw_all := lw_g (lw_at lw_m7 81 rfl) rfl
theorem q1616 : (Jvm.Cond.methodLink "LeftAsFoundModel" (238 : Nat) ({ cls := "LeftAsFoundModel", name := "figure", desc := "()V" } : Jvm.MethodName)) ∈ lw_all := lw_g (lw_at lw_m7 82 rfl) rfl
theorem q1617 : (Jvm.Cond.privateMethod ({ cls := "LeftAsFoundModel", name := "figure", desc := "()V" } : Jvm.MethodName)) ∈ lw_tbl := lw_at lw_m7 83 rfl
theorem q1618 : (Jvm.Cond.instanceMethod ({ cls := "LeftAsFoundModel", name := "figure", desc := "()V" } : Jvm.MethodName)) ∈ lw_all := lw_g (lw_at lw_m7 84 rfl) rfl
theorem q1619 : (Jvm.Cond.code ({ cls := "LeftAsFoundModel", name := "figure", desc := "()V" } : Jvm.MethodName) prog_25_method_26_code (3 : Nat) (Option.none : Option Jvm.ClassFile.FieldType)) ∈ lw_all := lw_g (lw_at lw_m7 85 rfl) rfl
theorem q1621 : (Jvm.Cond.instanceMethod ({ cls := "LeftAsFoundModel", name := "level", desc := "(III)I" } : Jvm.MethodName)) ∈ lw_all := lw_g (lw_at lw_m7 87 rfl) rfl
theorem q1622 : (Jvm.Cond.selects "LeftAsFoundModel" ({ cls := "LeftAsFoundModel", name := "level", desc := "(III)I" } : Jvm.MethodName) ({ cls := "LeftAsFoundModel", name := "level", desc := "(III)I" } : Jvm.MethodName)) ∈ lw_all := lw_g (lw_at lw_m7 88 rfl) rfl
theorem q1623 : (Jvm.Cond.code ({ cls := "LeftAsFoundModel", name := "level", desc := "(III)I" } : Jvm.MethodName) prog_25_method_49_code (5 : Nat) (Option.some Jvm.ClassFile.FieldType.int)) ∈ lw_all := lw_g (lw_at lw_m7 89 rfl) rfl
theorem q1624 : (Jvm.Cond.methodLink "LeftAsFoundModel" (288 : Nat) ({ cls := "LeftAsFoundModel", name := "rowFault", desc := "(I)I" } : Jvm.MethodName)) ∈ lw_all := lw_g (lw_at lw_m7 90 rfl) rfl
theorem q1625 : (Jvm.Cond.privateMethod ({ cls := "LeftAsFoundModel", name := "rowFault", desc := "(I)I" } : Jvm.MethodName)) ∈ lw_tbl := lw_at lw_m7 91 rfl
theorem q1626 : (Jvm.Cond.instanceMethod ({ cls := "LeftAsFoundModel", name := "rowFault", desc := "(I)I" } : Jvm.MethodName)) ∈ lw_all := lw_g (lw_at lw_m7 92 rfl) rfl
theorem q1627 : (Jvm.Cond.code ({ cls := "LeftAsFoundModel", name := "rowFault", desc := "(I)I" } : Jvm.MethodName) prog_25_method_47_code (2 : Nat) (Option.some Jvm.ClassFile.FieldType.int)) ∈ lw_all := lw_g (lw_at lw_m7 93 rfl) rfl
theorem q1628 : (Jvm.Cond.methodLink "LeftAsFoundModel" (291 : Nat) ({ cls := "LeftAsFoundModel", name := "layStays", desc := "(I)V" } : Jvm.MethodName)) ∈ lw_all := lw_g (lw_at lw_m7 94 rfl) rfl
theorem q1629 : (Jvm.Cond.privateMethod ({ cls := "LeftAsFoundModel", name := "layStays", desc := "(I)V" } : Jvm.MethodName)) ∈ lw_tbl := lw_at lw_m7 95 rfl
theorem q1630 : (Jvm.Cond.instanceMethod ({ cls := "LeftAsFoundModel", name := "layStays", desc := "(I)V" } : Jvm.MethodName)) ∈ lw_all := lw_g (lw_at lw_m7 96 rfl) rfl
theorem q1631 : (Jvm.Cond.code ({ cls := "LeftAsFoundModel", name := "layStays", desc := "(I)V" } : Jvm.MethodName) prog_25_method_48_code (3 : Nat) (Option.none : Option Jvm.ClassFile.FieldType)) ∈ lw_all := lw_g (lw_at lw_m7 97 rfl) rfl
theorem q1632 : (Jvm.Cond.methodLink "LeftAsFoundModel" (294 : Nat) ({ cls := "LeftAsFoundModel", name := "keepHut", desc := "()V" } : Jvm.MethodName)) ∈ lw_all := lw_g (lw_at lw_m7 98 rfl) rfl
theorem q1633 : (Jvm.Cond.privateMethod ({ cls := "LeftAsFoundModel", name := "keepHut", desc := "()V" } : Jvm.MethodName)) ∈ lw_tbl := lw_at lw_m7 99 rfl
theorem q1634 : (Jvm.Cond.instanceMethod ({ cls := "LeftAsFoundModel", name := "keepHut", desc := "()V" } : Jvm.MethodName)) ∈ lw_all := lw_g (lw_at lw_m7 100 rfl) rfl
theorem q1635 : (Jvm.Cond.code ({ cls := "LeftAsFoundModel", name := "keepHut", desc := "()V" } : Jvm.MethodName) prog_25_method_45_code (2 : Nat) (Option.none : Option Jvm.ClassFile.FieldType)) ∈ lw_all := lw_g (lw_at lw_m7 101 rfl) rfl
theorem q1636 : (Jvm.Cond.methodLink "LeftAsFoundModel" (297 : Nat) ({ cls := "LeftAsFoundModel", name := "goNight", desc := "(I)V" } : Jvm.MethodName)) ∈ lw_all := lw_g (lw_at lw_m7 102 rfl) rfl
theorem q1637 : (Jvm.Cond.privateMethod ({ cls := "LeftAsFoundModel", name := "goNight", desc := "(I)V" } : Jvm.MethodName)) ∈ lw_tbl := lw_at lw_m7 103 rfl
theorem q1638 : (Jvm.Cond.instanceMethod ({ cls := "LeftAsFoundModel", name := "goNight", desc := "(I)V" } : Jvm.MethodName)) ∈ lw_all := lw_g (lw_at lw_m7 104 rfl) rfl
theorem q1639 : (Jvm.Cond.code ({ cls := "LeftAsFoundModel", name := "goNight", desc := "(I)V" } : Jvm.MethodName) prog_25_method_42_code (2 : Nat) (Option.none : Option Jvm.ClassFile.FieldType)) ∈ lw_all := lw_g (lw_at lw_m7 105 rfl) rfl
theorem q1640 : (Jvm.Cond.methodLink "LeftAsFoundModel" (278 : Nat) ({ cls := "LeftAsFoundModel", name := "nightOf", desc := "(I)V" } : Jvm.MethodName)) ∈ lw_all := lw_g (lw_at lw_m7 106 rfl) rfl
theorem q1641 : (Jvm.Cond.privateMethod ({ cls := "LeftAsFoundModel", name := "nightOf", desc := "(I)V" } : Jvm.MethodName)) ∈ lw_tbl := lw_at lw_m7 107 rfl
theorem q1642 : (Jvm.Cond.instanceMethod ({ cls := "LeftAsFoundModel", name := "nightOf", desc := "(I)V" } : Jvm.MethodName)) ∈ lw_all := lw_g (lw_at lw_m7 108 rfl) rfl
theorem q1643 : (Jvm.Cond.code ({ cls := "LeftAsFoundModel", name := "nightOf", desc := "(I)V" } : Jvm.MethodName) prog_25_method_41_code (3 : Nat) (Option.none : Option Jvm.ClassFile.FieldType)) ∈ lw_all := lw_g (lw_at lw_m7 109 rfl) rfl
theorem q1644 : (Jvm.Cond.methodLink "LeftAsFoundModel" (272 : Nat) ({ cls := "LeftAsFoundModel", name := "oughtBy", desc := "(II)I" } : Jvm.MethodName)) ∈ lw_all := lw_g (lw_at lw_m7 110 rfl) rfl
theorem q1645 : (Jvm.Cond.privateMethod ({ cls := "LeftAsFoundModel", name := "oughtBy", desc := "(II)I" } : Jvm.MethodName)) ∈ lw_tbl := lw_at lw_m7 111 rfl
theorem q1646 : (Jvm.Cond.instanceMethod ({ cls := "LeftAsFoundModel", name := "oughtBy", desc := "(II)I" } : Jvm.MethodName)) ∈ lw_all := lw_g (lw_at lw_m7 112 rfl) rfl
theorem q1647 : (Jvm.Cond.code ({ cls := "LeftAsFoundModel", name := "oughtBy", desc := "(II)I" } : Jvm.MethodName) prog_25_method_39_code (3 : Nat) (Option.some Jvm.ClassFile.FieldType.int)) ∈ lw_all := lw_g (lw_at lw_m7 113 rfl) rfl
theorem q1648 : (Jvm.Cond.methodLink "LeftAsFoundModel" (275 : Nat) ({ cls := "LeftAsFoundModel", name := "levelBehind", desc := "(III)I" } : Jvm.MethodName)) ∈ lw_all := lw_g (lw_at lw_m7 114 rfl) rfl
theorem q1649 : (Jvm.Cond.privateMethod ({ cls := "LeftAsFoundModel", name := "levelBehind", desc := "(III)I" } : Jvm.MethodName)) ∈ lw_tbl := lw_at lw_m7 115 rfl
theorem q1650 : (Jvm.Cond.instanceMethod ({ cls := "LeftAsFoundModel", name := "levelBehind", desc := "(III)I" } : Jvm.MethodName)) ∈ lw_all := lw_g (lw_at lw_m7 116 rfl) rfl
theorem q1651 : (Jvm.Cond.code ({ cls := "LeftAsFoundModel", name := "levelBehind", desc := "(III)I" } : Jvm.MethodName) prog_25_method_40_code (9 : Nat) (Option.some Jvm.ClassFile.FieldType.int)) ∈ lw_all := lw_g (lw_at lw_m7 117 rfl) rfl
theorem q1652 : (Jvm.Cond.methodLink "LeftAsFoundModel" (269 : Nat) ({ cls := "LeftAsFoundModel", name := "gives", desc := "(I)I" } : Jvm.MethodName)) ∈ lw_all := lw_g (lw_at lw_m7 118 rfl) rfl
theorem q1653 : (Jvm.Cond.privateMethod ({ cls := "LeftAsFoundModel", name := "gives", desc := "(I)I" } : Jvm.MethodName)) ∈ lw_tbl := lw_at lw_m7 119 rfl
theorem q1654 : (Jvm.Cond.instanceMethod ({ cls := "LeftAsFoundModel", name := "gives", desc := "(I)I" } : Jvm.MethodName)) ∈ lw_all := lw_g (lw_at lw_m7 120 rfl) rfl
theorem q1655 : (Jvm.Cond.code ({ cls := "LeftAsFoundModel", name := "gives", desc := "(I)I" } : Jvm.MethodName) prog_25_method_37_code (4 : Nat) (Option.some Jvm.ClassFile.FieldType.int)) ∈ lw_all := lw_g (lw_at lw_m7 121 rfl) rfl
theorem q1656 : (Jvm.Cond.methodLink "LeftAsFoundModel" (259 : Nat) ({ cls := "LeftAsFoundModel", name := "worked", desc := "(III)I" } : Jvm.MethodName)) ∈ lw_all := lw_g (lw_at lw_m7 122 rfl) rfl
theorem q1657 : (Jvm.Cond.privateMethod ({ cls := "LeftAsFoundModel", name := "worked", desc := "(III)I" } : Jvm.MethodName)) ∈ lw_tbl := lw_at lw_m7 123 rfl
theorem q1658 : (Jvm.Cond.instanceMethod ({ cls := "LeftAsFoundModel", name := "worked", desc := "(III)I" } : Jvm.MethodName)) ∈ lw_all := lw_g (lw_at lw_m7 124 rfl) rfl
theorem q1659 : (Jvm.Cond.code ({ cls := "LeftAsFoundModel", name := "worked", desc := "(III)I" } : Jvm.MethodName) prog_25_method_36_code (7 : Nat) (Option.some Jvm.ClassFile.FieldType.int)) ∈ lw_all := lw_g (lw_at lw_m7 125 rfl) rfl
theorem q1660 : (Jvm.Cond.methodLink "LeftAsFoundModel" (256 : Nat) ({ cls := "LeftAsFoundModel", name := "twoOf", desc := "(III)I" } : Jvm.MethodName)) ∈ lw_all := lw_g (lw_at lw_m7 126 rfl) rfl
theorem q1661 : (Jvm.Cond.static ({ cls := "LeftAsFoundModel", name := "twoOf", desc := "(III)I" } : Jvm.MethodName)) ∈ lw_all := lw_g (lw_at lw_m7 127 rfl) rfl
theorem q1662 : (Jvm.Cond.code ({ cls := "LeftAsFoundModel", name := "twoOf", desc := "(III)I" } : Jvm.MethodName) prog_25_method_35_code (3 : Nat) (Option.some Jvm.ClassFile.FieldType.int)) ∈ lw_all := lw_g (lw_at lw_m7 128 rfl) rfl
theorem q1663 : (Jvm.Cond.methodLink "LeftAsFoundModel" (300 : Nat) ({ cls := "LeftAsFoundModel", name := "layHut", desc := "()V" } : Jvm.MethodName)) ∈ lw_all := lw_g (lw_at lw_m7 129 rfl) rfl
theorem q1664 : (Jvm.Cond.privateMethod ({ cls := "LeftAsFoundModel", name := "layHut", desc := "()V" } : Jvm.MethodName)) ∈ lw_tbl := lw_at lw_m7 130 rfl
theorem q1665 : (Jvm.Cond.instanceMethod ({ cls := "LeftAsFoundModel", name := "layHut", desc := "()V" } : Jvm.MethodName)) ∈ lw_all := lw_g (lw_at lw_m7 131 rfl) rfl
theorem q1666 : (Jvm.Cond.code ({ cls := "LeftAsFoundModel", name := "layHut", desc := "()V" } : Jvm.MethodName) prog_25_method_46_code (2 : Nat) (Option.none : Option Jvm.ClassFile.FieldType)) ∈ lw_all := lw_g (lw_at lw_m7 132 rfl) rfl
theorem q1668 : (Jvm.Cond.instanceMethod ({ cls := "LeftAsFoundModel", name := "lowest", desc := "(II)I" } : Jvm.MethodName)) ∈ lw_all := lw_g (lw_at lw_m7 134 rfl) rfl
theorem q1669 : (Jvm.Cond.selects "LeftAsFoundModel" ({ cls := "LeftAsFoundModel", name := "lowest", desc := "(II)I" } : Jvm.MethodName) ({ cls := "LeftAsFoundModel", name := "lowest", desc := "(II)I" } : Jvm.MethodName)) ∈ lw_all := lw_g (lw_at lw_m7 135 rfl) rfl
theorem q1670 : (Jvm.Cond.code ({ cls := "LeftAsFoundModel", name := "lowest", desc := "(II)I" } : Jvm.MethodName) prog_25_method_50_code (5 : Nat) (Option.some Jvm.ClassFile.FieldType.int)) ∈ lw_all := lw_g (lw_at lw_m7 136 rfl) rfl
theorem q1672 : (Jvm.Cond.instanceMethod ({ cls := "LeftAsFoundModel", name := "below", desc := "(III)I" } : Jvm.MethodName)) ∈ lw_all := lw_g (lw_at lw_m7 138 rfl) rfl
theorem q1673 : (Jvm.Cond.selects "LeftAsFoundModel" ({ cls := "LeftAsFoundModel", name := "below", desc := "(III)I" } : Jvm.MethodName) ({ cls := "LeftAsFoundModel", name := "below", desc := "(III)I" } : Jvm.MethodName)) ∈ lw_all := lw_g (lw_at lw_m7 139 rfl) rfl
theorem q1674 : (Jvm.Cond.code ({ cls := "LeftAsFoundModel", name := "below", desc := "(III)I" } : Jvm.MethodName) prog_25_method_51_code (6 : Nat) (Option.some Jvm.ClassFile.FieldType.int)) ∈ lw_all := lw_g (lw_at lw_m7 140 rfl) rfl
theorem q1676 : (Jvm.Cond.instanceMethod ({ cls := "LeftAsFoundModel", name := "loss", desc := "(I)I" } : Jvm.MethodName)) ∈ lw_all := lw_g (lw_at lw_m7 142 rfl) rfl
theorem q1677 : (Jvm.Cond.selects "LeftAsFoundModel" ({ cls := "LeftAsFoundModel", name := "loss", desc := "(I)I" } : Jvm.MethodName) ({ cls := "LeftAsFoundModel", name := "loss", desc := "(I)I" } : Jvm.MethodName)) ∈ lw_all := lw_g (lw_at lw_m7 143 rfl) rfl
theorem q1678 : (Jvm.Cond.code ({ cls := "LeftAsFoundModel", name := "loss", desc := "(I)I" } : Jvm.MethodName) prog_25_method_53_code (2 : Nat) (Option.some Jvm.ClassFile.FieldType.int)) ∈ lw_all := lw_g (lw_at lw_m7 144 rfl) rfl
theorem q1679 : (Jvm.Cond.methodLink "LeftAsFoundModel" (306 : Nat) ({ cls := "LeftAsFoundModel", name := "lossOf", desc := "()I" } : Jvm.MethodName)) ∈ lw_all := lw_g (lw_at lw_m7 145 rfl) rfl
theorem q1680 : (Jvm.Cond.privateMethod ({ cls := "LeftAsFoundModel", name := "lossOf", desc := "()I" } : Jvm.MethodName)) ∈ lw_tbl := lw_at lw_m7 146 rfl
theorem q1681 : (Jvm.Cond.instanceMethod ({ cls := "LeftAsFoundModel", name := "lossOf", desc := "()I" } : Jvm.MethodName)) ∈ lw_all := lw_g (lw_at lw_m7 147 rfl) rfl
theorem q1682 : (Jvm.Cond.code ({ cls := "LeftAsFoundModel", name := "lossOf", desc := "()I" } : Jvm.MethodName) prog_25_method_52_code (3 : Nat) (Option.some Jvm.ClassFile.FieldType.int)) ∈ lw_all := lw_g (lw_at lw_m7 148 rfl) rfl
theorem q1683 : (Jvm.Cond.methodLink "LeftAsFoundModel" (303 : Nat) ({ cls := "LeftAsFoundModel", name := "lossNow", desc := "()I" } : Jvm.MethodName)) ∈ lw_all := lw_g (lw_at lw_m7 149 rfl) rfl
theorem q1684 : (Jvm.Cond.privateMethod ({ cls := "LeftAsFoundModel", name := "lossNow", desc := "()I" } : Jvm.MethodName)) ∈ lw_tbl := lw_at lw_m7 150 rfl
theorem q1685 : (Jvm.Cond.instanceMethod ({ cls := "LeftAsFoundModel", name := "lossNow", desc := "()I" } : Jvm.MethodName)) ∈ lw_all := lw_g (lw_at lw_m7 151 rfl) rfl
theorem q1686 : (Jvm.Cond.code ({ cls := "LeftAsFoundModel", name := "lossNow", desc := "()I" } : Jvm.MethodName) prog_25_method_44_code (3 : Nat) (Option.some Jvm.ClassFile.FieldType.int)) ∈ lw_all := lw_g (lw_at lw_m7 152 rfl) rfl
theorem q1687 : (Jvm.Cond.methodLink "LeftAsFoundModel" (282 : Nat) ({ cls := "LeftAsFoundModel", name := "lacksOf", desc := "(I)I" } : Jvm.MethodName)) ∈ lw_all := lw_g (lw_at lw_m7 153 rfl) rfl
theorem q1688 : (Jvm.Cond.privateMethod ({ cls := "LeftAsFoundModel", name := "lacksOf", desc := "(I)I" } : Jvm.MethodName)) ∈ lw_tbl := lw_at lw_m7 154 rfl
theorem q1689 : (Jvm.Cond.instanceMethod ({ cls := "LeftAsFoundModel", name := "lacksOf", desc := "(I)I" } : Jvm.MethodName)) ∈ lw_all := lw_g (lw_at lw_m7 155 rfl) rfl
theorem q1690 : (Jvm.Cond.code ({ cls := "LeftAsFoundModel", name := "lacksOf", desc := "(I)I" } : Jvm.MethodName) prog_25_method_43_code (2 : Nat) (Option.some Jvm.ClassFile.FieldType.int)) ∈ lw_all := lw_g (lw_at lw_m7 156 rfl) rfl
theorem q1692 : (Jvm.Cond.instanceMethod ({ cls := "LeftAsFoundModel", name := "rest", desc := "(II)I" } : Jvm.MethodName)) ∈ lw_all := lw_g (lw_at lw_m7 158 rfl) rfl
theorem q1693 : (Jvm.Cond.selects "LeftAsFoundModel" ({ cls := "LeftAsFoundModel", name := "rest", desc := "(II)I" } : Jvm.MethodName) ({ cls := "LeftAsFoundModel", name := "rest", desc := "(II)I" } : Jvm.MethodName)) ∈ lw_all := lw_g (lw_at lw_m7 159 rfl) rfl
theorem q1694 : (Jvm.Cond.code ({ cls := "LeftAsFoundModel", name := "rest", desc := "(II)I" } : Jvm.MethodName) prog_25_method_55_code (7 : Nat) (Option.some Jvm.ClassFile.FieldType.int)) ∈ lw_all := lw_g (lw_at lw_m7 160 rfl) rfl
theorem q1695 : (Jvm.Cond.methodLink "LeftAsFoundModel" (309 : Nat) ({ cls := "LeftAsFoundModel", name := "isAs", desc := "(I)Z" } : Jvm.MethodName)) ∈ lw_all := lw_g (lw_at lw_m7 161 rfl) rfl
theorem q1696 : (Jvm.Cond.privateMethod ({ cls := "LeftAsFoundModel", name := "isAs", desc := "(I)Z" } : Jvm.MethodName)) ∈ lw_tbl := lw_at lw_m7 162 rfl
theorem q1697 : (Jvm.Cond.instanceMethod ({ cls := "LeftAsFoundModel", name := "isAs", desc := "(I)Z" } : Jvm.MethodName)) ∈ lw_all := lw_g (lw_at lw_m7 163 rfl) rfl
theorem q1698 : (Jvm.Cond.code ({ cls := "LeftAsFoundModel", name := "isAs", desc := "(I)Z" } : Jvm.MethodName) prog_25_method_54_code (3 : Nat) (Option.some Jvm.ClassFile.FieldType.boolean)) ∈ lw_all := lw_g (lw_at lw_m7 164 rfl) rfl
theorem q1700 : (Jvm.Cond.instanceMethod ({ cls := "LeftAsFoundModel", name := "often", desc := "(III)I" } : Jvm.MethodName)) ∈ lw_all := lw_g (lw_at lw_m7 166 rfl) rfl
theorem q1701 : (Jvm.Cond.selects "LeftAsFoundModel" ({ cls := "LeftAsFoundModel", name := "often", desc := "(III)I" } : Jvm.MethodName) ({ cls := "LeftAsFoundModel", name := "often", desc := "(III)I" } : Jvm.MethodName)) ∈ lw_all := lw_g (lw_at lw_m7 167 rfl) rfl
theorem q1702 : (Jvm.Cond.code ({ cls := "LeftAsFoundModel", name := "often", desc := "(III)I" } : Jvm.MethodName) prog_25_method_58_code (5 : Nat) (Option.some Jvm.ClassFile.FieldType.int)) ∈ lw_all := lw_g (lw_at lw_m7 168 rfl) rfl
theorem q1703 : (Jvm.Cond.methodLink "LeftAsFoundModel" (315 : Nat) ({ cls := "LeftAsFoundModel", name := "holds60", desc := "(IIII)Z" } : Jvm.MethodName)) ∈ lw_all := lw_g (lw_at lw_m7 169 rfl) rfl
theorem q1704 : (Jvm.Cond.privateMethod ({ cls := "LeftAsFoundModel", name := "holds60", desc := "(IIII)Z" } : Jvm.MethodName)) ∈ lw_tbl := lw_at lw_m7 170 rfl
theorem q1705 : (Jvm.Cond.instanceMethod ({ cls := "LeftAsFoundModel", name := "holds60", desc := "(IIII)Z" } : Jvm.MethodName)) ∈ lw_all := lw_g (lw_at lw_m7 171 rfl) rfl
theorem q1706 : (Jvm.Cond.code ({ cls := "LeftAsFoundModel", name := "holds60", desc := "(IIII)Z" } : Jvm.MethodName) prog_25_method_57_code (9 : Nat) (Option.some Jvm.ClassFile.FieldType.boolean)) ∈ lw_all := lw_g (lw_at lw_m7 172 rfl) rfl
theorem q1707 : (Jvm.Cond.methodLink "LeftAsFoundModel" (312 : Nat) ({ cls := "LeftAsFoundModel", name := "againAt", desc := "(I)I" } : Jvm.MethodName)) ∈ lw_all := lw_g (lw_at lw_m7 173 rfl) rfl
theorem q1708 : (Jvm.Cond.privateMethod ({ cls := "LeftAsFoundModel", name := "againAt", desc := "(I)I" } : Jvm.MethodName)) ∈ lw_tbl := lw_at lw_m7 174 rfl
theorem q1709 : (Jvm.Cond.instanceMethod ({ cls := "LeftAsFoundModel", name := "againAt", desc := "(I)I" } : Jvm.MethodName)) ∈ lw_all := lw_g (lw_at lw_m7 175 rfl) rfl
theorem q1710 : (Jvm.Cond.code ({ cls := "LeftAsFoundModel", name := "againAt", desc := "(I)I" } : Jvm.MethodName) prog_25_method_56_code (2 : Nat) (Option.some Jvm.ClassFile.FieldType.int)) ∈ lw_all := lw_g (lw_at lw_m7 176 rfl) rfl
theorem q1712 : (Jvm.Cond.instanceMethod ({ cls := "LeftAsFoundModel", name := "warden", desc := "(II)I" } : Jvm.MethodName)) ∈ lw_all := lw_g (lw_at lw_m7 178 rfl) rfl
theorem q1713 : (Jvm.Cond.selects "LeftAsFoundModel" ({ cls := "LeftAsFoundModel", name := "warden", desc := "(II)I" } : Jvm.MethodName) ({ cls := "LeftAsFoundModel", name := "warden", desc := "(II)I" } : Jvm.MethodName)) ∈ lw_all := lw_g (lw_at lw_m7 179 rfl) rfl
theorem q1714 : (Jvm.Cond.code ({ cls := "LeftAsFoundModel", name := "warden", desc := "(II)I" } : Jvm.MethodName) prog_25_method_60_code (7 : Nat) (Option.some Jvm.ClassFile.FieldType.int)) ∈ lw_all := lw_g (lw_at lw_m7 180 rfl) rfl
theorem q1715 : (Jvm.Cond.constant "LeftAsFoundModel" (319 : Nat) (-2000000000 : Int32)) ∈ lw_all := lw_g (lw_at lw_m7 181 rfl) rfl
theorem q1716 : (Jvm.Cond.methodLink "LeftAsFoundModel" (320 : Nat) ({ cls := "LeftAsFoundModel", name := "wardenCost", desc := "(I)I" } : Jvm.MethodName)) ∈ lw_all := lw_g (lw_at lw_m7 182 rfl) rfl
theorem q1717 : (Jvm.Cond.privateMethod ({ cls := "LeftAsFoundModel", name := "wardenCost", desc := "(I)I" } : Jvm.MethodName)) ∈ lw_tbl := lw_at lw_m7 183 rfl
theorem q1718 : (Jvm.Cond.instanceMethod ({ cls := "LeftAsFoundModel", name := "wardenCost", desc := "(I)I" } : Jvm.MethodName)) ∈ lw_all := lw_g (lw_at lw_m7 184 rfl) rfl
theorem q1719 : (Jvm.Cond.code ({ cls := "LeftAsFoundModel", name := "wardenCost", desc := "(I)I" } : Jvm.MethodName) prog_25_method_59_code (5 : Nat) (Option.some Jvm.ClassFile.FieldType.int)) ∈ lw_all := lw_g (lw_at lw_m7 185 rfl) rfl
theorem q1721 : (Jvm.Cond.instanceMethod ({ cls := "LeftAsFoundModel", name := "spoils", desc := "(II)I" } : Jvm.MethodName)) ∈ lw_all := lw_g (lw_at lw_m7 187 rfl) rfl
theorem q1722 : (Jvm.Cond.selects "LeftAsFoundModel" ({ cls := "LeftAsFoundModel", name := "spoils", desc := "(II)I" } : Jvm.MethodName) ({ cls := "LeftAsFoundModel", name := "spoils", desc := "(II)I" } : Jvm.MethodName)) ∈ lw_all := lw_g (lw_at lw_m7 188 rfl) rfl
theorem q1723 : (Jvm.Cond.code ({ cls := "LeftAsFoundModel", name := "spoils", desc := "(II)I" } : Jvm.MethodName) prog_25_method_62_code (8 : Nat) (Option.some Jvm.ClassFile.FieldType.int)) ∈ lw_all := lw_g (lw_at lw_m7 189 rfl) rfl
theorem q1724 : (Jvm.Cond.methodLink "LeftAsFoundModel" (323 : Nat) ({ cls := "LeftAsFoundModel", name := "keepStays", desc := "()V" } : Jvm.MethodName)) ∈ lw_all := lw_g (lw_at lw_m7 190 rfl) rfl
theorem q1725 : (Jvm.Cond.privateMethod ({ cls := "LeftAsFoundModel", name := "keepStays", desc := "()V" } : Jvm.MethodName)) ∈ lw_tbl := lw_at lw_m7 191 rfl
theorem q1726 : (Jvm.Cond.instanceMethod ({ cls := "LeftAsFoundModel", name := "keepStays", desc := "()V" } : Jvm.MethodName)) ∈ lw_all := lw_g (lw_at lw_m7 192 rfl) rfl
theorem q1727 : (Jvm.Cond.code ({ cls := "LeftAsFoundModel", name := "keepStays", desc := "()V" } : Jvm.MethodName) prog_25_method_61_code (2 : Nat) (Option.none : Option Jvm.ClassFile.FieldType)) ∈ lw_all := lw_g (lw_at lw_m7 193 rfl) rfl
theorem q1729 : (Jvm.Cond.instanceMethod ({ cls := "LeftAsFoundModel", name := "order", desc := "(II)I" } : Jvm.MethodName)) ∈ lw_all := lw_g (lw_at lw_m7 195 rfl) rfl
theorem q1730 : (Jvm.Cond.selects "LeftAsFoundModel" ({ cls := "LeftAsFoundModel", name := "order", desc := "(II)I" } : Jvm.MethodName) ({ cls := "LeftAsFoundModel", name := "order", desc := "(II)I" } : Jvm.MethodName)) ∈ lw_all := lw_g (lw_at lw_m7 196 rfl) rfl
theorem q1731 : (Jvm.Cond.code ({ cls := "LeftAsFoundModel", name := "order", desc := "(II)I" } : Jvm.MethodName) prog_25_method_64_code (4 : Nat) (Option.some Jvm.ClassFile.FieldType.int)) ∈ lw_all := lw_g (lw_at lw_m7 197 rfl) rfl
theorem q1732 : (Jvm.Cond.methodLink "LeftAsFoundModel" (329 : Nat) ({ cls := "LeftAsFoundModel", name := "goOrders", desc := "(III)V" } : Jvm.MethodName)) ∈ lw_all := lw_g (lw_at lw_m7 198 rfl) rfl
theorem q1733 : (Jvm.Cond.privateMethod ({ cls := "LeftAsFoundModel", name := "goOrders", desc := "(III)V" } : Jvm.MethodName)) ∈ lw_tbl := lw_at lw_m7 199 rfl
theorem q1734 : (Jvm.Cond.instanceMethod ({ cls := "LeftAsFoundModel", name := "goOrders", desc := "(III)V" } : Jvm.MethodName)) ∈ lw_all := lw_g (lw_at lw_m7 200 rfl) rfl
theorem q1735 : (Jvm.Cond.code ({ cls := "LeftAsFoundModel", name := "goOrders", desc := "(III)V" } : Jvm.MethodName) prog_25_method_63_code (6 : Nat) (Option.none : Option Jvm.ClassFile.FieldType)) ∈ lw_all := lw_g (lw_at lw_m7 201 rfl) rfl
theorem q1737 : (Jvm.Cond.instanceMethod ({ cls := "LeftAsFoundModel", name := "tin", desc := "(II)J" } : Jvm.MethodName)) ∈ lw_all := lw_g (lw_at lw_m7 203 rfl) rfl
theorem q1738 : (Jvm.Cond.selects "LeftAsFoundModel" ({ cls := "LeftAsFoundModel", name := "tin", desc := "(II)J" } : Jvm.MethodName) ({ cls := "LeftAsFoundModel", name := "tin", desc := "(II)J" } : Jvm.MethodName)) ∈ lw_all := lw_g (lw_at lw_m7 204 rfl) rfl
theorem q1739 : (Jvm.Cond.code ({ cls := "LeftAsFoundModel", name := "tin", desc := "(II)J" } : Jvm.MethodName) prog_25_method_66_code (6 : Nat) (Option.some Jvm.ClassFile.FieldType.long)) ∈ lw_all := lw_g (lw_at lw_m7 205 rfl) rfl
theorem q1740 : (Jvm.Cond.constantLong "LeftAsFoundModel" (332 : Nat) (-9223372036854775808 : Int64)) ∈ lw_all := lw_g (lw_at lw_m7 206 rfl) rfl
theorem q1741 : (Jvm.Cond.constantLong "LeftAsFoundModel" (334 : Nat) (12 : Int64)) ∈ lw_all := lw_g (lw_at lw_m7 207 rfl) rfl
theorem q1742 : (Jvm.Cond.methodLink "LeftAsFoundModel" (336 : Nat) ({ cls := "LeftAsFoundModel", name := "asPart", desc := "(JJI)J" } : Jvm.MethodName)) ∈ lw_all := lw_g (lw_at lw_m7 208 rfl) rfl
theorem q1743 : (Jvm.Cond.static ({ cls := "LeftAsFoundModel", name := "asPart", desc := "(JJI)J" } : Jvm.MethodName)) ∈ lw_all := lw_g (lw_at lw_m7 209 rfl) rfl
theorem q1744 : (Jvm.Cond.code ({ cls := "LeftAsFoundModel", name := "asPart", desc := "(JJI)J" } : Jvm.MethodName) prog_25_method_65_code (11 : Nat) (Option.some Jvm.ClassFile.FieldType.long)) ∈ lw_all := lw_g (lw_at lw_m7 210 rfl) rfl
theorem q1746 : (Jvm.Cond.instanceMethod ({ cls := "LeftAsFoundModel", name := "who", desc := "(III)I" } : Jvm.MethodName)) ∈ lw_all := lw_g (lw_at lw_m7 212 rfl) rfl
theorem q1747 : (Jvm.Cond.selects "LeftAsFoundModel" ({ cls := "LeftAsFoundModel", name := "who", desc := "(III)I" } : Jvm.MethodName) ({ cls := "LeftAsFoundModel", name := "who", desc := "(III)I" } : Jvm.MethodName)) ∈ lw_all := lw_g (lw_at lw_m7 213 rfl) rfl
theorem q1748 : (Jvm.Cond.code ({ cls := "LeftAsFoundModel", name := "who", desc := "(III)I" } : Jvm.MethodName) prog_25_method_70_code (7 : Nat) (Option.some Jvm.ClassFile.FieldType.int)) ∈ lw_all := lw_g (lw_at lw_m7 214 rfl) rfl
theorem q1749 : (Jvm.Cond.methodLink "LeftAsFoundModel" (352 : Nat) ({ cls := "LeftAsFoundModel", name := "laySeen", desc := "(I)V" } : Jvm.MethodName)) ∈ lw_all := lw_g (lw_at lw_m7 215 rfl) rfl
theorem q1750 : (Jvm.Cond.privateMethod ({ cls := "LeftAsFoundModel", name := "laySeen", desc := "(I)V" } : Jvm.MethodName)) ∈ lw_tbl := lw_at lw_m7 216 rfl
theorem q1751 : (Jvm.Cond.instanceMethod ({ cls := "LeftAsFoundModel", name := "laySeen", desc := "(I)V" } : Jvm.MethodName)) ∈ lw_all := lw_g (lw_at lw_m7 217 rfl) rfl
theorem q1752 : (Jvm.Cond.code ({ cls := "LeftAsFoundModel", name := "laySeen", desc := "(I)V" } : Jvm.MethodName) prog_25_method_67_code (3 : Nat) (Option.none : Option Jvm.ClassFile.FieldType)) ∈ lw_all := lw_g (lw_at lw_m7 218 rfl) rfl
theorem q1753 : (Jvm.Cond.methodLink "LeftAsFoundModel" (355 : Nat) ({ cls := "LeftAsFoundModel", name := "waysOf", desc := "(IIII)I" } : Jvm.MethodName)) ∈ lw_all := lw_g (lw_at lw_m7 219 rfl) rfl
theorem q1754 : (Jvm.Cond.privateMethod ({ cls := "LeftAsFoundModel", name := "waysOf", desc := "(IIII)I" } : Jvm.MethodName)) ∈ lw_tbl := lw_at lw_m7 220 rfl
theorem q1755 : (Jvm.Cond.instanceMethod ({ cls := "LeftAsFoundModel", name := "waysOf", desc := "(IIII)I" } : Jvm.MethodName)) ∈ lw_all := lw_g (lw_at lw_m7 221 rfl) rfl
theorem q1756 : (Jvm.Cond.code ({ cls := "LeftAsFoundModel", name := "waysOf", desc := "(IIII)I" } : Jvm.MethodName) prog_25_method_69_code (6 : Nat) (Option.some Jvm.ClassFile.FieldType.int)) ∈ lw_all := lw_g (lw_at lw_m7 222 rfl) rfl
theorem q1757 : (Jvm.Cond.methodLink "LeftAsFoundModel" (349 : Nat) ({ cls := "LeftAsFoundModel", name := "waysFrom", desc := "(III)I" } : Jvm.MethodName)) ∈ lw_all := lw_g (lw_at lw_m7 223 rfl) rfl
theorem q1758 : (Jvm.Cond.privateMethod ({ cls := "LeftAsFoundModel", name := "waysFrom", desc := "(III)I" } : Jvm.MethodName)) ∈ lw_tbl := lw_at lw_m7 224 rfl
theorem q1759 : (Jvm.Cond.instanceMethod ({ cls := "LeftAsFoundModel", name := "waysFrom", desc := "(III)I" } : Jvm.MethodName)) ∈ lw_all := lw_g (lw_at lw_m7 225 rfl) rfl
theorem q1760 : (Jvm.Cond.code ({ cls := "LeftAsFoundModel", name := "waysFrom", desc := "(III)I" } : Jvm.MethodName) prog_25_method_68_code (7 : Nat) (Option.some Jvm.ClassFile.FieldType.int)) ∈ lw_all := lw_g (lw_at lw_m7 226 rfl) rfl
theorem q1762 : (Jvm.Cond.instanceMethod ({ cls := "LeftAsFoundModel", name := "ways", desc := "(II)I" } : Jvm.MethodName)) ∈ lw_all := lw_g (lw_at lw_m7 228 rfl) rfl
theorem q1763 : (Jvm.Cond.selects "LeftAsFoundModel" ({ cls := "LeftAsFoundModel", name := "ways", desc := "(II)I" } : Jvm.MethodName) ({ cls := "LeftAsFoundModel", name := "ways", desc := "(II)I" } : Jvm.MethodName)) ∈ lw_all := lw_g (lw_at lw_m7 229 rfl) rfl
theorem q1764 : (Jvm.Cond.code ({ cls := "LeftAsFoundModel", name := "ways", desc := "(II)I" } : Jvm.MethodName) prog_25_method_71_code (3 : Nat) (Option.some Jvm.ClassFile.FieldType.int)) ∈ lw_all := lw_g (lw_at lw_m7 230 rfl) rfl
theorem q1766 : (Jvm.Cond.instanceMethod ({ cls := "LeftAsFoundModel", name := "judge", desc := "(II)I" } : Jvm.MethodName)) ∈ lw_all := lw_g (lw_at lw_m7 232 rfl) rfl
theorem q1767 : (Jvm.Cond.selects "LeftAsFoundModel" ({ cls := "LeftAsFoundModel", name := "judge", desc := "(II)I" } : Jvm.MethodName) ({ cls := "LeftAsFoundModel", name := "judge", desc := "(II)I" } : Jvm.MethodName)) ∈ lw_all := lw_g (lw_at lw_m7 233 rfl) rfl
theorem q1768 : (Jvm.Cond.code ({ cls := "LeftAsFoundModel", name := "judge", desc := "(II)I" } : Jvm.MethodName) prog_25_method_72_code (5 : Nat) (Option.some Jvm.ClassFile.FieldType.int)) ∈ lw_all := lw_g (lw_at lw_m7 234 rfl) rfl
theorem q1770 : (Jvm.Cond.instanceMethod ({ cls := "LeftAsFoundModel", name := "since", desc := "(III)I" } : Jvm.MethodName)) ∈ lw_all := lw_g (lw_at lw_m7 236 rfl) rfl
theorem q1771 : (Jvm.Cond.selects "LeftAsFoundModel" ({ cls := "LeftAsFoundModel", name := "since", desc := "(III)I" } : Jvm.MethodName) ({ cls := "LeftAsFoundModel", name := "since", desc := "(III)I" } : Jvm.MethodName)) ∈ lw_all := lw_g (lw_at lw_m7 237 rfl) rfl
theorem q1772 : (Jvm.Cond.code ({ cls := "LeftAsFoundModel", name := "since", desc := "(III)I" } : Jvm.MethodName) prog_25_method_73_code (6 : Nat) (Option.some Jvm.ClassFile.FieldType.int)) ∈ lw_all := lw_g (lw_at lw_m7 238 rfl) rfl
theorem q1774 : (Jvm.Cond.instanceMethod ({ cls := "LeftAsFoundModel", name := "drawn", desc := "(III)I" } : Jvm.MethodName)) ∈ lw_all := lw_g (lw_at lw_m8 0 rfl) rfl
theorem q1775 : (Jvm.Cond.selects "LeftAsFoundModel" ({ cls := "LeftAsFoundModel", name := "drawn", desc := "(III)I" } : Jvm.MethodName) ({ cls := "LeftAsFoundModel", name := "drawn", desc := "(III)I" } : Jvm.MethodName)) ∈ lw_all := lw_g (lw_at lw_m8 1 rfl) rfl
theorem q1776 : (Jvm.Cond.code ({ cls := "LeftAsFoundModel", name := "drawn", desc := "(III)I" } : Jvm.MethodName) prog_25_method_74_code (8 : Nat) (Option.some Jvm.ClassFile.FieldType.int)) ∈ lw_all := lw_g (lw_at lw_m8 2 rfl) rfl
theorem q1777 : (Jvm.Cond.constant "LeftAsFoundModel" (359 : Nat) (1103515245 : Int32)) ∈ lw_all := lw_g (lw_at lw_m8 3 rfl) rfl
theorem q1779 : (Jvm.Cond.instanceMethod ({ cls := "LeftAsFoundModel", name := "night", desc := "(I)I" } : Jvm.MethodName)) ∈ lw_all := lw_g (lw_at lw_m8 5 rfl) rfl
theorem q1780 : (Jvm.Cond.selects "LeftAsFoundModel" ({ cls := "LeftAsFoundModel", name := "night", desc := "(I)I" } : Jvm.MethodName) ({ cls := "LeftAsFoundModel", name := "night", desc := "(I)I" } : Jvm.MethodName)) ∈ lw_all := lw_g (lw_at lw_m8 6 rfl) rfl
theorem q1781 : (Jvm.Cond.code ({ cls := "LeftAsFoundModel", name := "night", desc := "(I)I" } : Jvm.MethodName) prog_25_method_75_code (3 : Nat) (Option.some Jvm.ClassFile.FieldType.int)) ∈ lw_all := lw_g (lw_at lw_m8 7 rfl) rfl
theorem q1783 : (Jvm.Cond.instanceMethod ({ cls := "LeftAsFoundModel", name := "set", desc := "(II)I" } : Jvm.MethodName)) ∈ lw_all := lw_g (lw_at lw_m8 9 rfl) rfl
theorem q1784 : (Jvm.Cond.selects "LeftAsFoundModel" ({ cls := "LeftAsFoundModel", name := "set", desc := "(II)I" } : Jvm.MethodName) ({ cls := "LeftAsFoundModel", name := "set", desc := "(II)I" } : Jvm.MethodName)) ∈ lw_all := lw_g (lw_at lw_m8 10 rfl) rfl
theorem q1785 : (Jvm.Cond.code ({ cls := "LeftAsFoundModel", name := "set", desc := "(II)I" } : Jvm.MethodName) prog_25_method_76_code (4 : Nat) (Option.some Jvm.ClassFile.FieldType.int)) ∈ lw_all := lw_g (lw_at lw_m8 11 rfl) rfl
theorem q1787 : (Jvm.Cond.instanceMethod ({ cls := "LeftAsFoundModel", name := "forget", desc := "(I)I" } : Jvm.MethodName)) ∈ lw_all := lw_g (lw_at lw_m8 13 rfl) rfl
theorem q1788 : (Jvm.Cond.selects "LeftAsFoundModel" ({ cls := "LeftAsFoundModel", name := "forget", desc := "(I)I" } : Jvm.MethodName) ({ cls := "LeftAsFoundModel", name := "forget", desc := "(I)I" } : Jvm.MethodName)) ∈ lw_all := lw_g (lw_at lw_m8 14 rfl) rfl
theorem q1789 : (Jvm.Cond.code ({ cls := "LeftAsFoundModel", name := "forget", desc := "(I)I" } : Jvm.MethodName) prog_25_method_77_code (4 : Nat) (Option.some Jvm.ClassFile.FieldType.int)) ∈ lw_all := lw_g (lw_at lw_m8 15 rfl) rfl
theorem q1791 : (Jvm.Cond.instanceMethod ({ cls := "LeftAsFoundModel", name := "led", desc := "(I)I" } : Jvm.MethodName)) ∈ lw_all := lw_g (lw_at lw_m8 17 rfl) rfl
theorem q1792 : (Jvm.Cond.selects "LeftAsFoundModel" ({ cls := "LeftAsFoundModel", name := "led", desc := "(I)I" } : Jvm.MethodName) ({ cls := "LeftAsFoundModel", name := "led", desc := "(I)I" } : Jvm.MethodName)) ∈ lw_all := lw_g (lw_at lw_m8 18 rfl) rfl
theorem q1793 : (Jvm.Cond.code ({ cls := "LeftAsFoundModel", name := "led", desc := "(I)I" } : Jvm.MethodName) prog_25_method_78_code (2 : Nat) (Option.some Jvm.ClassFile.FieldType.int)) ∈ lw_all := lw_g (lw_at lw_m8 19 rfl) rfl
theorem q1795 : (Jvm.Cond.instanceMethod ({ cls := "LeftAsFoundModel", name := "image", desc := "()I" } : Jvm.MethodName)) ∈ lw_all := lw_g (lw_at lw_m8 21 rfl) rfl
theorem q1796 : (Jvm.Cond.selects "LeftAsFoundModel" ({ cls := "LeftAsFoundModel", name := "image", desc := "()I" } : Jvm.MethodName) ({ cls := "LeftAsFoundModel", name := "image", desc := "()I" } : Jvm.MethodName)) ∈ lw_all := lw_g (lw_at lw_m8 22 rfl) rfl
theorem q1797 : (Jvm.Cond.code ({ cls := "LeftAsFoundModel", name := "image", desc := "()I" } : Jvm.MethodName) prog_25_method_79_code (2 : Nat) (Option.some Jvm.ClassFile.FieldType.int)) ∈ lw_all := lw_g (lw_at lw_m8 23 rfl) rfl
theorem q1799 : (Jvm.Cond.instanceMethod ({ cls := "LeftAsFoundModel", name := "back", desc := "()I" } : Jvm.MethodName)) ∈ lw_all := lw_g (lw_at lw_m8 25 rfl) rfl
theorem q1800 : (Jvm.Cond.selects "LeftAsFoundModel" ({ cls := "LeftAsFoundModel", name := "back", desc := "()I" } : Jvm.MethodName) ({ cls := "LeftAsFoundModel", name := "back", desc := "()I" } : Jvm.MethodName)) ∈ lw_all := lw_g (lw_at lw_m8 26 rfl) rfl
theorem q1801 : (Jvm.Cond.code ({ cls := "LeftAsFoundModel", name := "back", desc := "()I" } : Jvm.MethodName) prog_25_method_80_code (2 : Nat) (Option.some Jvm.ClassFile.FieldType.int)) ∈ lw_all := lw_g (lw_at lw_m8 27 rfl) rfl
theorem q1803 : (Jvm.Cond.instanceMethod ({ cls := "LeftAsFoundModel", name := "trace", desc := "(I)I" } : Jvm.MethodName)) ∈ lw_all := lw_g (lw_at lw_m8 29 rfl) rfl
theorem q1804 : (Jvm.Cond.selects "LeftAsFoundModel" ({ cls := "LeftAsFoundModel", name := "trace", desc := "(I)I" } : Jvm.MethodName) ({ cls := "LeftAsFoundModel", name := "trace", desc := "(I)I" } : Jvm.MethodName)) ∈ lw_all := lw_g (lw_at lw_m8 30 rfl) rfl
theorem q1805 : (Jvm.Cond.code ({ cls := "LeftAsFoundModel", name := "trace", desc := "(I)I" } : Jvm.MethodName) prog_25_method_84_code (2 : Nat) (Option.some Jvm.ClassFile.FieldType.int)) ∈ lw_all := lw_g (lw_at lw_m8 31 rfl) rfl
theorem q1807 : (Jvm.Cond.instanceMethod ({ cls := "LeftAsFoundModel", name := "body", desc := "(I)I" } : Jvm.MethodName)) ∈ lw_all := lw_g (lw_at lw_m8 33 rfl) rfl
theorem q1808 : (Jvm.Cond.selects "LeftAsFoundModel" ({ cls := "LeftAsFoundModel", name := "body", desc := "(I)I" } : Jvm.MethodName) ({ cls := "LeftAsFoundModel", name := "body", desc := "(I)I" } : Jvm.MethodName)) ∈ lw_all := lw_g (lw_at lw_m8 34 rfl) rfl
theorem q1809 : (Jvm.Cond.code ({ cls := "LeftAsFoundModel", name := "body", desc := "(I)I" } : Jvm.MethodName) prog_25_method_85_code (2 : Nat) (Option.some Jvm.ClassFile.FieldType.int)) ∈ lw_all := lw_g (lw_at lw_m8 35 rfl) rfl
theorem q1811 : (Jvm.Cond.instanceMethod ({ cls := "LeftAsFoundModel", name := "act", desc := "(III)I" } : Jvm.MethodName)) ∈ lw_all := lw_g (lw_at lw_m8 37 rfl) rfl
theorem q1812 : (Jvm.Cond.selects "LeftAsFoundModel" ({ cls := "LeftAsFoundModel", name := "act", desc := "(III)I" } : Jvm.MethodName) ({ cls := "LeftAsFoundModel", name := "act", desc := "(III)I" } : Jvm.MethodName)) ∈ lw_all := lw_g (lw_at lw_m8 38 rfl) rfl
theorem q1813 : (Jvm.Cond.code ({ cls := "LeftAsFoundModel", name := "act", desc := "(III)I" } : Jvm.MethodName) prog_25_method_98_code (4 : Nat) (Option.some Jvm.ClassFile.FieldType.int)) ∈ lw_all := lw_g (lw_at lw_m8 39 rfl) rfl
theorem q1814 : (Jvm.Cond.methodLink "LeftAsFoundModel" (405 : Nat) ({ cls := "LeftAsFoundModel", name := "isBody", desc := "(I)Z" } : Jvm.MethodName)) ∈ lw_all := lw_g (lw_at lw_m8 40 rfl) rfl
theorem q1815 : (Jvm.Cond.privateMethod ({ cls := "LeftAsFoundModel", name := "isBody", desc := "(I)Z" } : Jvm.MethodName)) ∈ lw_tbl := lw_at lw_m8 41 rfl
theorem q1816 : (Jvm.Cond.instanceMethod ({ cls := "LeftAsFoundModel", name := "isBody", desc := "(I)Z" } : Jvm.MethodName)) ∈ lw_all := lw_g (lw_at lw_m8 42 rfl) rfl
theorem q1817 : (Jvm.Cond.code ({ cls := "LeftAsFoundModel", name := "isBody", desc := "(I)Z" } : Jvm.MethodName) prog_25_method_82_code (2 : Nat) (Option.some Jvm.ClassFile.FieldType.boolean)) ∈ lw_all := lw_g (lw_at lw_m8 43 rfl) rfl
theorem q1818 : (Jvm.Cond.methodLink "LeftAsFoundModel" (381 : Nat) ({ cls := "LeftAsFoundModel", name := "coming", desc := "(II)I" } : Jvm.MethodName)) ∈ lw_all := lw_g (lw_at lw_m8 44 rfl) rfl
theorem q1819 : (Jvm.Cond.privateMethod ({ cls := "LeftAsFoundModel", name := "coming", desc := "(II)I" } : Jvm.MethodName)) ∈ lw_tbl := lw_at lw_m8 45 rfl
theorem q1820 : (Jvm.Cond.instanceMethod ({ cls := "LeftAsFoundModel", name := "coming", desc := "(II)I" } : Jvm.MethodName)) ∈ lw_all := lw_g (lw_at lw_m8 46 rfl) rfl
theorem q1821 : (Jvm.Cond.code ({ cls := "LeftAsFoundModel", name := "coming", desc := "(II)I" } : Jvm.MethodName) prog_25_method_89_code (3 : Nat) (Option.some Jvm.ClassFile.FieldType.int)) ∈ lw_all := lw_g (lw_at lw_m8 47 rfl) rfl
theorem q1822 : (Jvm.Cond.methodLink "LeftAsFoundModel" (375 : Nat) ({ cls := "LeftAsFoundModel", name := "isUnder", desc := "(II)Z" } : Jvm.MethodName)) ∈ lw_all := lw_g (lw_at lw_m8 48 rfl) rfl
theorem q1823 : (Jvm.Cond.static ({ cls := "LeftAsFoundModel", name := "isUnder", desc := "(II)Z" } : Jvm.MethodName)) ∈ lw_all := lw_g (lw_at lw_m8 49 rfl) rfl
theorem q1824 : (Jvm.Cond.code ({ cls := "LeftAsFoundModel", name := "isUnder", desc := "(II)Z" } : Jvm.MethodName) prog_25_method_86_code (2 : Nat) (Option.some Jvm.ClassFile.FieldType.boolean)) ∈ lw_all := lw_g (lw_at lw_m8 50 rfl) rfl
theorem q1825 : (Jvm.Cond.methodLink "LeftAsFoundModel" (369 : Nat) ({ cls := "LeftAsFoundModel", name := "ran", desc := "(I)V" } : Jvm.MethodName)) ∈ lw_all := lw_g (lw_at lw_m8 51 rfl) rfl
theorem q1826 : (Jvm.Cond.privateMethod ({ cls := "LeftAsFoundModel", name := "ran", desc := "(I)V" } : Jvm.MethodName)) ∈ lw_tbl := lw_at lw_m8 52 rfl
theorem q1827 : (Jvm.Cond.instanceMethod ({ cls := "LeftAsFoundModel", name := "ran", desc := "(I)V" } : Jvm.MethodName)) ∈ lw_all := lw_g (lw_at lw_m8 53 rfl) rfl
theorem q1828 : (Jvm.Cond.code ({ cls := "LeftAsFoundModel", name := "ran", desc := "(I)V" } : Jvm.MethodName) prog_25_method_83_code (2 : Nat) (Option.none : Option Jvm.ClassFile.FieldType)) ∈ lw_all := lw_g (lw_at lw_m8 54 rfl) rfl
theorem q1829 : (Jvm.Cond.methodLink "LeftAsFoundModel" (372 : Nat) ({ cls := "LeftAsFoundModel", name := "plainComes", desc := "(II)I" } : Jvm.MethodName)) ∈ lw_all := lw_g (lw_at lw_m8 55 rfl) rfl
theorem q1830 : (Jvm.Cond.privateMethod ({ cls := "LeftAsFoundModel", name := "plainComes", desc := "(II)I" } : Jvm.MethodName)) ∈ lw_tbl := lw_at lw_m8 56 rfl
theorem q1831 : (Jvm.Cond.instanceMethod ({ cls := "LeftAsFoundModel", name := "plainComes", desc := "(II)I" } : Jvm.MethodName)) ∈ lw_all := lw_g (lw_at lw_m8 57 rfl) rfl
theorem q1832 : (Jvm.Cond.code ({ cls := "LeftAsFoundModel", name := "plainComes", desc := "(II)I" } : Jvm.MethodName) prog_25_method_87_code (3 : Nat) (Option.some Jvm.ClassFile.FieldType.int)) ∈ lw_all := lw_g (lw_at lw_m8 58 rfl) rfl
theorem q1833 : (Jvm.Cond.methodLink "LeftAsFoundModel" (378 : Nat) ({ cls := "LeftAsFoundModel", name := "bareComes", desc := "(II)I" } : Jvm.MethodName)) ∈ lw_all := lw_g (lw_at lw_m8 59 rfl) rfl
theorem q1834 : (Jvm.Cond.privateMethod ({ cls := "LeftAsFoundModel", name := "bareComes", desc := "(II)I" } : Jvm.MethodName)) ∈ lw_tbl := lw_at lw_m8 60 rfl
theorem q1835 : (Jvm.Cond.instanceMethod ({ cls := "LeftAsFoundModel", name := "bareComes", desc := "(II)I" } : Jvm.MethodName)) ∈ lw_all := lw_g (lw_at lw_m8 61 rfl) rfl
theorem q1836 : (Jvm.Cond.code ({ cls := "LeftAsFoundModel", name := "bareComes", desc := "(II)I" } : Jvm.MethodName) prog_25_method_88_code (3 : Nat) (Option.some Jvm.ClassFile.FieldType.int)) ∈ lw_all := lw_g (lw_at lw_m8 62 rfl) rfl
theorem q1837 : (Jvm.Cond.methodLink "LeftAsFoundModel" (399 : Nat) ({ cls := "LeftAsFoundModel", name := "leaving", desc := "(II)I" } : Jvm.MethodName)) ∈ lw_all := lw_g (lw_at lw_m8 63 rfl) rfl
theorem q1838 : (Jvm.Cond.privateMethod ({ cls := "LeftAsFoundModel", name := "leaving", desc := "(II)I" } : Jvm.MethodName)) ∈ lw_tbl := lw_at lw_m8 64 rfl
theorem q1839 : (Jvm.Cond.instanceMethod ({ cls := "LeftAsFoundModel", name := "leaving", desc := "(II)I" } : Jvm.MethodName)) ∈ lw_all := lw_g (lw_at lw_m8 65 rfl) rfl
theorem q1840 : (Jvm.Cond.code ({ cls := "LeftAsFoundModel", name := "leaving", desc := "(II)I" } : Jvm.MethodName) prog_25_method_92_code (4 : Nat) (Option.some Jvm.ClassFile.FieldType.int)) ∈ lw_all := lw_g (lw_at lw_m8 66 rfl) rfl
theorem q1841 : (Jvm.Cond.methodLink "LeftAsFoundModel" (387 : Nat) ({ cls := "LeftAsFoundModel", name := "takenLeaves", desc := "(II)I" } : Jvm.MethodName)) ∈ lw_all := lw_g (lw_at lw_m8 67 rfl) rfl
theorem q1842 : (Jvm.Cond.privateMethod ({ cls := "LeftAsFoundModel", name := "takenLeaves", desc := "(II)I" } : Jvm.MethodName)) ∈ lw_tbl := lw_at lw_m8 68 rfl
theorem q1843 : (Jvm.Cond.instanceMethod ({ cls := "LeftAsFoundModel", name := "takenLeaves", desc := "(II)I" } : Jvm.MethodName)) ∈ lw_all := lw_g (lw_at lw_m8 69 rfl) rfl
theorem q1844 : (Jvm.Cond.code ({ cls := "LeftAsFoundModel", name := "takenLeaves", desc := "(II)I" } : Jvm.MethodName) prog_25_method_91_code (3 : Nat) (Option.some Jvm.ClassFile.FieldType.int)) ∈ lw_all := lw_g (lw_at lw_m8 70 rfl) rfl
theorem q1845 : (Jvm.Cond.methodLink "LeftAsFoundModel" (384 : Nat) ({ cls := "LeftAsFoundModel", name := "plainLeaves", desc := "(II)I" } : Jvm.MethodName)) ∈ lw_all := lw_g (lw_at lw_m8 71 rfl) rfl
theorem q1846 : (Jvm.Cond.privateMethod ({ cls := "LeftAsFoundModel", name := "plainLeaves", desc := "(II)I" } : Jvm.MethodName)) ∈ lw_tbl := lw_at lw_m8 72 rfl
theorem q1847 : (Jvm.Cond.instanceMethod ({ cls := "LeftAsFoundModel", name := "plainLeaves", desc := "(II)I" } : Jvm.MethodName)) ∈ lw_all := lw_g (lw_at lw_m8 73 rfl) rfl
theorem q1848 : (Jvm.Cond.code ({ cls := "LeftAsFoundModel", name := "plainLeaves", desc := "(II)I" } : Jvm.MethodName) prog_25_method_90_code (3 : Nat) (Option.some Jvm.ClassFile.FieldType.int)) ∈ lw_all := lw_g (lw_at lw_m8 74 rfl) rfl
theorem q1849 : (Jvm.Cond.methodLink "LeftAsFoundModel" (390 : Nat) ({ cls := "LeftAsFoundModel", name := "seeing", desc := "(II)I" } : Jvm.MethodName)) ∈ lw_all := lw_g (lw_at lw_m8 75 rfl) rfl
theorem q1850 : (Jvm.Cond.privateMethod ({ cls := "LeftAsFoundModel", name := "seeing", desc := "(II)I" } : Jvm.MethodName)) ∈ lw_tbl := lw_at lw_m8 76 rfl
theorem q1851 : (Jvm.Cond.instanceMethod ({ cls := "LeftAsFoundModel", name := "seeing", desc := "(II)I" } : Jvm.MethodName)) ∈ lw_all := lw_g (lw_at lw_m8 77 rfl) rfl
theorem q1852 : (Jvm.Cond.code ({ cls := "LeftAsFoundModel", name := "seeing", desc := "(II)I" } : Jvm.MethodName) prog_25_method_95_code (4 : Nat) (Option.some Jvm.ClassFile.FieldType.int)) ∈ lw_all := lw_g (lw_at lw_m8 78 rfl) rfl
theorem q1853 : (Jvm.Cond.methodLink "LeftAsFoundModel" (396 : Nat) ({ cls := "LeftAsFoundModel", name := "broughtSees", desc := "(II)I" } : Jvm.MethodName)) ∈ lw_all := lw_g (lw_at lw_m8 79 rfl) rfl
theorem q1854 : (Jvm.Cond.privateMethod ({ cls := "LeftAsFoundModel", name := "broughtSees", desc := "(II)I" } : Jvm.MethodName)) ∈ lw_tbl := lw_at lw_m8 80 rfl
theorem q1855 : (Jvm.Cond.instanceMethod ({ cls := "LeftAsFoundModel", name := "broughtSees", desc := "(II)I" } : Jvm.MethodName)) ∈ lw_all := lw_g (lw_at lw_m8 81 rfl) rfl
theorem q1856 : (Jvm.Cond.code ({ cls := "LeftAsFoundModel", name := "broughtSees", desc := "(II)I" } : Jvm.MethodName) prog_25_method_94_code (3 : Nat) (Option.some Jvm.ClassFile.FieldType.int)) ∈ lw_all := lw_g (lw_at lw_m8 82 rfl) rfl
theorem q1857 : (Jvm.Cond.methodLink "LeftAsFoundModel" (393 : Nat) ({ cls := "LeftAsFoundModel", name := "plainSees", desc := "(II)I" } : Jvm.MethodName)) ∈ lw_all := lw_g (lw_at lw_m8 83 rfl) rfl
theorem q1858 : (Jvm.Cond.privateMethod ({ cls := "LeftAsFoundModel", name := "plainSees", desc := "(II)I" } : Jvm.MethodName)) ∈ lw_tbl := lw_at lw_m8 84 rfl
theorem q1859 : (Jvm.Cond.instanceMethod ({ cls := "LeftAsFoundModel", name := "plainSees", desc := "(II)I" } : Jvm.MethodName)) ∈ lw_all := lw_g (lw_at lw_m8 85 rfl) rfl
theorem q1860 : (Jvm.Cond.code ({ cls := "LeftAsFoundModel", name := "plainSees", desc := "(II)I" } : Jvm.MethodName) prog_25_method_93_code (3 : Nat) (Option.some Jvm.ClassFile.FieldType.int)) ∈ lw_all := lw_g (lw_at lw_m8 86 rfl) rfl
theorem q1861 : (Jvm.Cond.methodLink "LeftAsFoundModel" (408 : Nat) ({ cls := "LeftAsFoundModel", name := "telling", desc := "(II)I" } : Jvm.MethodName)) ∈ lw_all := lw_g (lw_at lw_m8 87 rfl) rfl
theorem q1862 : (Jvm.Cond.privateMethod ({ cls := "LeftAsFoundModel", name := "telling", desc := "(II)I" } : Jvm.MethodName)) ∈ lw_tbl := lw_at lw_m8 88 rfl
theorem q1863 : (Jvm.Cond.instanceMethod ({ cls := "LeftAsFoundModel", name := "telling", desc := "(II)I" } : Jvm.MethodName)) ∈ lw_all := lw_g (lw_at lw_m8 89 rfl) rfl
theorem q1864 : (Jvm.Cond.code ({ cls := "LeftAsFoundModel", name := "telling", desc := "(II)I" } : Jvm.MethodName) prog_25_method_97_code (3 : Nat) (Option.some Jvm.ClassFile.FieldType.int)) ∈ lw_all := lw_g (lw_at lw_m8 90 rfl) rfl
theorem q1865 : (Jvm.Cond.methodLink "LeftAsFoundModel" (402 : Nat) ({ cls := "LeftAsFoundModel", name := "plainTells", desc := "(II)I" } : Jvm.MethodName)) ∈ lw_all := lw_g (lw_at lw_m8 91 rfl) rfl
theorem q1866 : (Jvm.Cond.privateMethod ({ cls := "LeftAsFoundModel", name := "plainTells", desc := "(II)I" } : Jvm.MethodName)) ∈ lw_tbl := lw_at lw_m8 92 rfl
theorem q1867 : (Jvm.Cond.instanceMethod ({ cls := "LeftAsFoundModel", name := "plainTells", desc := "(II)I" } : Jvm.MethodName)) ∈ lw_all := lw_g (lw_at lw_m8 93 rfl) rfl
theorem q1868 : (Jvm.Cond.code ({ cls := "LeftAsFoundModel", name := "plainTells", desc := "(II)I" } : Jvm.MethodName) prog_25_method_96_code (4 : Nat) (Option.some Jvm.ClassFile.FieldType.int)) ∈ lw_all := lw_g (lw_at lw_m8 94 rfl) rfl
theorem q1870 : (Jvm.Cond.instanceMethod ({ cls := "LeftAsFoundModel", name := "count", desc := "(I)I" } : Jvm.MethodName)) ∈ lw_all := lw_g (lw_at lw_m8 96 rfl) rfl
theorem q1871 : (Jvm.Cond.selects "LeftAsFoundModel" ({ cls := "LeftAsFoundModel", name := "count", desc := "(I)I" } : Jvm.MethodName) ({ cls := "LeftAsFoundModel", name := "count", desc := "(I)I" } : Jvm.MethodName)) ∈ lw_all := lw_g (lw_at lw_m8 97 rfl) rfl
theorem q1872 : (Jvm.Cond.code ({ cls := "LeftAsFoundModel", name := "count", desc := "(I)I" } : Jvm.MethodName) prog_25_method_99_code (2 : Nat) (Option.some Jvm.ClassFile.FieldType.int)) ∈ lw_all := lw_g (lw_at lw_m8 98 rfl) rfl
theorem q1873 : (Jvm.Cond.methodLink "LeftAsFoundModel" (411 : Nat) ({ cls := "LeftAsFoundModel", name := "beenMany", desc := "()I" } : Jvm.MethodName)) ∈ lw_all := lw_g (lw_at lw_m8 99 rfl) rfl
theorem q1874 : (Jvm.Cond.privateMethod ({ cls := "LeftAsFoundModel", name := "beenMany", desc := "()I" } : Jvm.MethodName)) ∈ lw_tbl := lw_at lw_m8 100 rfl
theorem q1875 : (Jvm.Cond.instanceMethod ({ cls := "LeftAsFoundModel", name := "beenMany", desc := "()I" } : Jvm.MethodName)) ∈ lw_all := lw_g (lw_at lw_m8 101 rfl) rfl
theorem q1876 : (Jvm.Cond.code ({ cls := "LeftAsFoundModel", name := "beenMany", desc := "()I" } : Jvm.MethodName) prog_25_method_81_code (3 : Nat) (Option.some Jvm.ClassFile.FieldType.int)) ∈ lw_all := lw_g (lw_at lw_m8 102 rfl) rfl
theorem q1878 : (Jvm.Cond.instanceMethod ({ cls := "LeftAsFoundModel", name := "keep", desc := "(II)I" } : Jvm.MethodName)) ∈ lw_all := lw_g (lw_at lw_m8 104 rfl) rfl
theorem q1879 : (Jvm.Cond.selects "LeftAsFoundModel" ({ cls := "LeftAsFoundModel", name := "keep", desc := "(II)I" } : Jvm.MethodName) ({ cls := "LeftAsFoundModel", name := "keep", desc := "(II)I" } : Jvm.MethodName)) ∈ lw_all := lw_g (lw_at lw_m8 105 rfl) rfl
theorem q1880 : (Jvm.Cond.code ({ cls := "LeftAsFoundModel", name := "keep", desc := "(II)I" } : Jvm.MethodName) prog_25_method_101_code (3 : Nat) (Option.some Jvm.ClassFile.FieldType.int)) ∈ lw_all := lw_g (lw_at lw_m8 106 rfl) rfl
theorem q1882 : (Jvm.Cond.instanceMethod ({ cls := "LeftAsFoundModel", name := "row", desc := "(III)I" } : Jvm.MethodName)) ∈ lw_all := lw_g (lw_at lw_m8 108 rfl) rfl
theorem q1883 : (Jvm.Cond.selects "LeftAsFoundModel" ({ cls := "LeftAsFoundModel", name := "row", desc := "(III)I" } : Jvm.MethodName) ({ cls := "LeftAsFoundModel", name := "row", desc := "(III)I" } : Jvm.MethodName)) ∈ lw_all := lw_g (lw_at lw_m8 109 rfl) rfl
theorem q1884 : (Jvm.Cond.code ({ cls := "LeftAsFoundModel", name := "row", desc := "(III)I" } : Jvm.MethodName) prog_25_method_102_code (5 : Nat) (Option.some Jvm.ClassFile.FieldType.int)) ∈ lw_all := lw_g (lw_at lw_m8 110 rfl) rfl
theorem q1886 : (Jvm.Cond.instanceMethod ({ cls := "LeftAsFoundModel", name := "put", desc := "(IIJ)I" } : Jvm.MethodName)) ∈ lw_all := lw_g (lw_at lw_m8 112 rfl) rfl
theorem q1887 : (Jvm.Cond.selects "LeftAsFoundModel" ({ cls := "LeftAsFoundModel", name := "put", desc := "(IIJ)I" } : Jvm.MethodName) ({ cls := "LeftAsFoundModel", name := "put", desc := "(IIJ)I" } : Jvm.MethodName)) ∈ lw_all := lw_g (lw_at lw_m8 113 rfl) rfl
theorem q1888 : (Jvm.Cond.code ({ cls := "LeftAsFoundModel", name := "put", desc := "(IIJ)I" } : Jvm.MethodName) prog_25_method_104_code (7 : Nat) (Option.some Jvm.ClassFile.FieldType.int)) ∈ lw_all := lw_g (lw_at lw_m8 114 rfl) rfl
theorem q1889 : (Jvm.Cond.methodLink "LeftAsFoundModel" (414 : Nat) ({ cls := "LeftAsFoundModel", name := "whyNoPlace", desc := "(II)I" } : Jvm.MethodName)) ∈ lw_all := lw_g (lw_at lw_m8 115 rfl) rfl
theorem q1890 : (Jvm.Cond.privateMethod ({ cls := "LeftAsFoundModel", name := "whyNoPlace", desc := "(II)I" } : Jvm.MethodName)) ∈ lw_tbl := lw_at lw_m8 116 rfl
theorem q1891 : (Jvm.Cond.instanceMethod ({ cls := "LeftAsFoundModel", name := "whyNoPlace", desc := "(II)I" } : Jvm.MethodName)) ∈ lw_all := lw_g (lw_at lw_m8 117 rfl) rfl
theorem q1892 : (Jvm.Cond.code ({ cls := "LeftAsFoundModel", name := "whyNoPlace", desc := "(II)I" } : Jvm.MethodName) prog_25_method_103_code (3 : Nat) (Option.some Jvm.ClassFile.FieldType.int)) ∈ lw_all := lw_g (lw_at lw_m8 118 rfl) rfl
theorem q1894 : (Jvm.Cond.instanceMethod ({ cls := "LeftAsFoundModel", name := "element", desc := "(II)J" } : Jvm.MethodName)) ∈ lw_all := lw_g (lw_at lw_m8 120 rfl) rfl
theorem q1895 : (Jvm.Cond.selects "LeftAsFoundModel" ({ cls := "LeftAsFoundModel", name := "element", desc := "(II)J" } : Jvm.MethodName) ({ cls := "LeftAsFoundModel", name := "element", desc := "(II)J" } : Jvm.MethodName)) ∈ lw_all := lw_g (lw_at lw_m8 121 rfl) rfl
theorem q1896 : (Jvm.Cond.code ({ cls := "LeftAsFoundModel", name := "element", desc := "(II)J" } : Jvm.MethodName) prog_25_method_105_code (3 : Nat) (Option.some Jvm.ClassFile.FieldType.long)) ∈ lw_all := lw_g (lw_at lw_m8 122 rfl) rfl
theorem q1898 : (Jvm.Cond.instanceMethod ({ cls := "LeftAsFoundModel", name := "shift", desc := "(IIIII)I" } : Jvm.MethodName)) ∈ lw_all := lw_g (lw_at lw_m8 124 rfl) rfl
theorem q1899 : (Jvm.Cond.selects "LeftAsFoundModel" ({ cls := "LeftAsFoundModel", name := "shift", desc := "(IIIII)I" } : Jvm.MethodName) ({ cls := "LeftAsFoundModel", name := "shift", desc := "(IIIII)I" } : Jvm.MethodName)) ∈ lw_all := lw_g (lw_at lw_m8 125 rfl) rfl
theorem q1900 : (Jvm.Cond.code ({ cls := "LeftAsFoundModel", name := "shift", desc := "(IIIII)I" } : Jvm.MethodName) prog_25_method_106_code (7 : Nat) (Option.some Jvm.ClassFile.FieldType.int)) ∈ lw_all := lw_g (lw_at lw_m8 126 rfl) rfl
theorem q1902 : (Jvm.Cond.instanceMethod ({ cls := "LeftAsFoundModel", name := "taken", desc := "(II)I" } : Jvm.MethodName)) ∈ lw_all := lw_g (lw_at lw_m8 128 rfl) rfl
theorem q1903 : (Jvm.Cond.selects "LeftAsFoundModel" ({ cls := "LeftAsFoundModel", name := "taken", desc := "(II)I" } : Jvm.MethodName) ({ cls := "LeftAsFoundModel", name := "taken", desc := "(II)I" } : Jvm.MethodName)) ∈ lw_all := lw_g (lw_at lw_m8 129 rfl) rfl
theorem q1904 : (Jvm.Cond.code ({ cls := "LeftAsFoundModel", name := "taken", desc := "(II)I" } : Jvm.MethodName) prog_25_method_107_code (3 : Nat) (Option.some Jvm.ClassFile.FieldType.int)) ∈ lw_all := lw_g (lw_at lw_m8 130 rfl) rfl
theorem q1945 : (Jvm.Cond.castable "LeftAsFoundModel" "java/lang/Object") ∈ lw_tbl := lw_at lw_m8 171 rfl
theorem in_X6 : ∀ w ∈ wsX60, w ∈ lw_all := lw_in wsX60 [1368, 1370, 1372, 1374, 1376, 1378, 1380, 1382, 1384, 1386, 1388, 1390, 1392, 1394, 1396, 1398, 1400, 1402, 1404, 1406, 1408, 1410, 1412, 1414, 1416, 1418, 1420, 1422, 1424, 1426, 1428, 1430, 1432, 1434, 1436, 1438, 1440, 1442, 1444, 1446, 1448, 1450, 1452, 1454, 1456, 1458, 1460, 1462, 1464, 1466, 1468, 1470, 1472, 1474, 1476, 1478, 1480, 1482, 1484, 1486] (by decide +kernel) (by decide +kernel)
